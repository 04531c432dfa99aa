-- PART 78.gamepic
/-! ===== the class's games: what is laid ===== -/
/-- the class holds game G: how many (field mi), its moles (array ma), first and last ticks (arrays fi, la) -/
def GM (mi ma fi la : Nat) (C : SC) (X : AH) (G : GA) : Prop := C.1 mi = nI G.1 ∧ G.1 ≤ 60 ∧ ∀ i, i < G.1 → (∃ m, C.2.2.2.2.1 ma i = some m ∧ dyn m ∧ X[m]? = some (.inr (14, [.int (gH G.2 i), .int (gO G.2 i), .int (gR G.2 i)]))) ∧ C.2.1 fi i = gF G.2 i ∧ C.2.1 la i = gE G.2 i
/-- all but these int fields, int arrays, long arrays, references, arrays of references is as it was -/
def CK (f a l r m : List Nat) (C C' : SC) : Prop := (∀ k, k ∉ f → C'.1 k = C.1 k) ∧ (∀ j, j ∉ a → C'.2.1 j = C.2.1 j) ∧ (∀ j, j ∉ l → C'.2.2.1 j = C.2.2.1 j) ∧ (∀ k, k ∉ r → C'.2.2.2.1 k = C.2.2.2.1 k) ∧ ∀ j, j ∉ m → C'.2.2.2.2.1 j = C.2.2.2.2.1 j
theorem CK.rf (f a l r m : List Nat) (C : SC) : CK f a l r m C C := ⟨fun _ _ => rfl, fun _ _ => rfl, fun _ _ => rfl, fun _ _ => rfl, fun _ _ => rfl⟩
theorem CK.tr {f a l r m : List Nat} {C C' C'' : SC} (h : CK f a l r m C C') (h' : CK f a l r m C' C'') : CK f a l r m C C'' := ⟨fun k q => (h'.1 k q).trans (h.1 k q), fun k q => (h'.2.1 k q).trans (h.2.1 k q), fun k q => (h'.2.2.1 k q).trans (h.2.2.1 k q), fun k q => (h'.2.2.2.1 k q).trans (h.2.2.2.1 k q), fun k q => (h'.2.2.2.2 k q).trans (h.2.2.2.2 k q)⟩
theorem CK.sub {f a l r m f' a' l' r' m' : List Nat} {C C' : SC} (h : CK f a l r m C C') (hf : ∀ k ∈ f, k ∈ f') (ha : ∀ k ∈ a, k ∈ a') (hl : ∀ k ∈ l, k ∈ l') (hr : ∀ k ∈ r, k ∈ r') (hm : ∀ k ∈ m, k ∈ m') : CK f' a' l' r' m' C C' := ⟨fun k q => h.1 k (fun z => q (hf k z)), fun k q => h.2.1 k (fun z => q (ha k z)), fun k q => h.2.2.1 k (fun z => q (hl k z)), fun k q => h.2.2.2.1 k (fun z => q (hr k z)), fun k q => h.2.2.2.2 k (fun z => q (hm k z))⟩
theorem CK.F {f a l r m : List Nat} {C C' : SC} (h : CK f a l r m C C') {k : Nat} (v : Int32) (hk : k ∈ f) : CK f a l r m C (cF k v C') := ⟨fun q z => (pk_un (fun e => z (by rw [e]; exact hk))).trans (h.1 q z), h.2⟩
theorem CK.A {f a l r m : List Nat} {C C' : SC} (h : CK f a l r m C C') {j : Nat} (i : Nat) (v : Int32) (hj : j ∈ a) : CK f a l r m C (cA j i v C') := ⟨h.1, fun q z => (va_up_ne _ _ (fun e => z (by rw [e]; exact hj))).trans (h.2.1 q z), h.2.2⟩
theorem CK.As {f a l r m : List Nat} {C C' : SC} (h : CK f a l r m C C') {j : Nat} (v : Nat → Int32) (hj : j ∈ a) : CK f a l r m C (cAs j v C') := ⟨h.1, fun q z => (va_up_ne _ _ (fun e => z (by rw [e]; exact hj))).trans (h.2.1 q z), h.2.2⟩
theorem CK.L {f a l r m : List Nat} {C C' : SC} (h : CK f a l r m C C') {j : Nat} (i : Nat) (v : Int64) (hj : j ∈ l) : CK f a l r m C (cL j i v C') := ⟨h.1, h.2.1, fun q z => (va_up_ne _ _ (fun e => z (by rw [e]; exact hj))).trans (h.2.2.1 q z), h.2.2.2⟩
theorem CK.Ls {f a l r m : List Nat} {C C' : SC} (h : CK f a l r m C C') {j : Nat} (v : Nat → Int64) (hj : j ∈ l) : CK f a l r m C (cLs j v C') := ⟨h.1, h.2.1, fun q z => (va_up_ne _ _ (fun e => z (by rw [e]; exact hj))).trans (h.2.2.1 q z), h.2.2.2⟩
theorem CK.R {f a l r m : List Nat} {C C' : SC} (h : CK f a l r m C C') {k : Nat} (v : Option Nat) (hk : k ∈ r) : CK f a l r m C (cR k v C') := ⟨h.1, h.2.1, h.2.2.1, fun q z => (va_up_ne _ _ (fun e => z (by rw [e]; exact hk))).trans (h.2.2.2.1 q z), h.2.2.2.2⟩
theorem CK.M {f a l r m : List Nat} {C C' : SC} (h : CK f a l r m C C') {j : Nat} (i : Nat) (v : Option Nat) (hj : j ∈ m) : CK f a l r m C (cM j i v C') := ⟨h.1, h.2.1, h.2.2.1, h.2.2.2.1, fun q z => (va_up_ne _ _ (fun e => z (by rw [e]; exact hj))).trans (h.2.2.2.2 q z)⟩
theorem CK.X {f a l r m : List Nat} {C C' : SC} (h : CK f a l r m C C') (v : Int64) : CK f a l r m C (cX v C') := h
theorem CK.ev {f a l r m : List Nat} {C C' : SC} {X : AH} {lo hi b : Nat} {A : BA} {W : Nat → Int32} (h : CK f a l r m C C') (hr : 0 ∉ r) (hE : EV C X lo hi b A W) : EV C' X lo hi b A W := hE.to (h.2.2.2.1 0 hr)
/-- what lasts is as it was: tape, faults, board now, what is held, images -/
def KC (C C' : SC) : Prop := (C'.1 0 = C.1 0 ∧ C'.1 1 = C.1 1 ∧ C'.1 2 = C.1 2) ∧ C'.2.1 14 = C.2.1 14 ∧ (∀ k, k < 6 → C'.2.2.2.1 k = C.2.2.2.1 k) ∧ C'.2.2.2.2.1 13 = C.2.2.2.2.1 13
theorem KC.rf (C : SC) : KC C C := ⟨⟨rfl, rfl, rfl⟩, rfl, fun _ _ => rfl, rfl⟩
theorem KC.tr {C C' C'' : SC} (h : KC C C') (h' : KC C' C'') : KC C C'' := ⟨⟨h'.1.1.trans h.1.1, h'.1.2.1.trans h.1.2.1, h'.1.2.2.trans h.1.2.2⟩, h'.2.1.trans h.2.1, fun k q => (h'.2.2.1 k q).trans (h.2.2.1 k q), h'.2.2.2.trans h.2.2.2⟩
theorem CK.kc {f a l r m : List Nat} {C C' : SC} (h : CK f a l r m C C') (hf : 0 ∉ f ∧ 1 ∉ f ∧ 2 ∉ f) (ha : 14 ∉ a) (hr : ∀ k ∈ r, 6 ≤ k) (hm : 13 ∉ m) : KC C C' := ⟨⟨h.1 _ hf.1, h.1 _ hf.2.1, h.1 _ hf.2.2⟩, h.2.1 _ ha, fun k q => h.2.2.2.1 k (fun z => absurd (hr k z) (by omega)), h.2.2.2.2 _ hm⟩
theorem GM.up {mi ma fi la : Nat} {C : SC} {X : AH} {m : Nat} {G : GF} (h : GM mi ma fi la C X (m, G)) (hfl : fi ≠ la) (hm : m < 60) {r : Nat} {t e : Int32} (hr : dyn r ∧ X[r]? = some (.inr (14, [.int (gH G m), .int (gO G m), .int (gR G m)]))) (ht : t = gF G m) (he : e = gE G m) : GM mi ma fi la (cF mi (nI m + 1) (cA la m e (cA fi m t (cM ma m (some r) C)))) X (m + 1, G) := by
  obtain ⟨h1, h2, h3⟩ := h
  refine ⟨?_, hm, fun i hi => ?_⟩
  · show upd C.1 mi (nI m + 1) mi = _
    rw [pk_us]
    exact nI_1 m
  · have hi : i < m + 1 := hi
    have e1 : (cF mi (nI m + 1) (cA la m e (cA fi m t (cM ma m (some r) C)))).2.2.2.2.1 ma i = if i = m then some r else C.2.2.2.2.1 ma i := by
      show va_up C.2.2.2.2.1 ma (va_up (C.2.2.2.2.1 ma) m (some r)) ma i = _
      rw [va_up_self]; rfl
    have e2 : (cF mi (nI m + 1) (cA la m e (cA fi m t (cM ma m (some r) C)))).2.1 fi i = if i = m then t else C.2.1 fi i := by
      show va_up (va_up C.2.1 fi (upd (C.2.1 fi) m t)) la _ fi i = _
      rw [va_up_ne _ _ hfl, va_up_self]; rfl
    have e3 : (cF mi (nI m + 1) (cA la m e (cA fi m t (cM ma m (some r) C)))).2.1 la i = if i = m then e else C.2.1 la i := by
      show va_up (va_up C.2.1 fi (upd (C.2.1 fi) m t)) la (upd (va_up C.2.1 fi (upd (C.2.1 fi) m t) la) m e) la i = _
      rw [va_up_self, va_up_ne _ _ (Ne.symm hfl)]; rfl
    rw [e1, e2, e3]
    by_cases q : i = m
    · subst q
      rw [if_pos rfl, if_pos rfl, if_pos rfl]
      exact ⟨⟨r, rfl, hr⟩, ht, he⟩
    · rw [if_neg q, if_neg q, if_neg q]
      exact h3 i (by show i < m; omega)
theorem GM.to {mi ma fi la : Nat} {C C' : SC} {X : AH} {G : GA} (h : GM mi ma fi la C X G) (h1 : C'.1 mi = C.1 mi) (h2 : C'.2.2.2.2.1 ma = C.2.2.2.2.1 ma) (h3 : C'.2.1 fi = C.2.1 fi) (h4 : C'.2.1 la = C.2.1 la) : GM mi ma fi la C' X G := by
  unfold GM at h ⊢
  rw [h1, h2, h3, h4]
  exact h
theorem GM.app {mi ma fi la : Nat} {C : SC} {X Z : AH} {G : GA} (h : GM mi ma fi la C X G) : GM mi ma fi la C (X ++ Z) G := ⟨h.1, h.2.1, fun i hi => by
  obtain ⟨⟨m, h1, h2, h3⟩, h4⟩ := h.2.2 i hi
  exact ⟨⟨m, h1, h2, (List.getElem?_append_left (List.getElem?_eq_some_iff.mp h3).1).trans h3⟩, h4⟩⟩
theorem GM.n {mi ma fi la : Nat} {C : SC} {X : AH} {G : GA} (h : GM mi ma fi la C X G) : C.1 mi = nI G.1 := h.1
theorem GM.f {mi ma fi la : Nat} {C : SC} {X : AH} {G : GA} (h : GM mi ma fi la C X G) {i : Nat} (hi : i < G.1) : C.2.1 fi i = gF G.2 i := (h.2.2 i hi).2.1
theorem GM.e {mi ma fi la : Nat} {C : SC} {X : AH} {G : GA} (h : GM mi ma fi la C X G) {i : Nat} (hi : i < G.1) : C.2.1 la i = gE G.2 i := (h.2.2 i hi).2.2
theorem GM.m {mi ma fi la : Nat} {C : SC} {S : SM} {X : AH} {G : GA} (h : GM mi ma fi la C X G) {i : Nat} (hi : i < G.1) : ∃ m, C.2.2.2.2.1 ma i = some m ∧ (cH C S X)[m]? = some (.inr (14, [.int (gH G.2 i), .int (gO G.2 i), .int (gR G.2 i)])) := by
  obtain ⟨⟨m, h1, h2, h3⟩, -⟩ := h.2.2 i hi
  exact ⟨m, h1, (cH_dyn h2).trans h3⟩
theorem GM.in {mi ma fi la : Nat} {C : SC} {X : AH} {G : GA} (h : GM mi ma fi la C X G) {x : Int32} (hx : inI x 0 (C.1 mi - 1) = true) : ∃ j : Nat, j < G.1 ∧ x = nI j := in_of (n := G.1) (by have := h.2.1; omega) (by rw [← h.1]; exact hx)
/-- a stay is at least a tick, at most 40 -/
theorem stay_n {W : Nat → Int32} (ht : WFt W) (t : Int32) : ∃ s, stayW W t = nI s ∧ 1 ≤ s ∧ s ≤ 40 := by
  have := itr_le (fun a : Int32 × Int32 => ∃ s, a.2 = nI s ∧ 1 ≤ s ∧ s ≤ 40) (siF W t) (nW W 4) (fun i a hi ha => by
    obtain ⟨t0, m0, -, -, h3, h4, h5⟩ := (ht i hi).1
    unfold siF
    split
    · exact ha
    · exact ⟨m0, h3, h4, h5⟩) (nW W 4) 0 (-1, 7) (by omega) ⟨7, rfl, by omega, by omega⟩
  exact this
/-- ticks of comings that may come, as numbers -/
theorem gT_n {W : Nat → Int32} (hs : WFs W) (ht : WFt W) : ∀ k, (∀ j, j < k → mayK W j = true) → ∃ t, gT W k = nI t ∧ t ≤ 209 := by
  intro k
  cases k with
  | zero => intro _; exact ⟨0, rfl, by omega⟩
  | succ k =>
    intro h
    have h1 := h k (Nat.lt_succ_self k)
    induction k with
    | zero =>
      obtain ⟨s, e, s1, s2⟩ := stay_n ht (gT W 0)
      refine ⟨0 + s - 1 + nW W 3 + 1, ?_, by have := hs.pz.2; omega⟩
      show gT W 0 + stayW W (gT W 0) - 1 + W 3 + 1 = _
      rw [e, hs.pz.1, show gT W 0 = nI 0 from rfl, nI_add, show (1 : Int32) = nI 1 from rfl, pk_sub (by omega), nI_add, nI_add]
    | succ k ih =>
      obtain ⟨t, e1, h2⟩ := ih (fun j hj => h j (by omega)) (h k (by omega))
      obtain ⟨s, e, s1, s2⟩ := stay_n ht (gT W (k + 1))
      have e2 : gTe W (k + 1) = nI (t + s - 1) := by
        unfold gTe
        rw [e, e1, nI_add, show (1 : Int32) = nI 1 from rfl, pk_sub (by omega)]
      have h3 : t + s - 1 ≤ 199 := by
        unfold mayK at h1
        rw [Bool.and_eq_true, decide_eq_true_eq, decide_eq_true_eq, e2, hs.tk.1] at h1
        have h12 := hs.tk.2
        have h4 := h1.2
        rcases Nat.eq_zero_or_pos (nW W 2) with q | q
        · rw [q, Int32.le_iff_toInt_le, nI_toInt (by omega)] at h4
          have h5 : ((t + s - 1 : Nat) : Int) ≤ -1 := h4
          omega
        · rw [show (1 : Int32) = nI 1 from rfl, pk_sub (by omega)] at h4
          have := (nI_leI (by omega) (by omega)).mp h4
          omega
      refine ⟨t + s - 1 + nW W 3 + 1, ?_, by have := hs.pz.2; omega⟩
      show gTe W (k + 1) + W 3 + 1 = _
      rw [e2, hs.pz.1, nI_add, show (1 : Int32) = nI 1 from rfl, nI_add]
/-- whether one more may come, by numbers -/
theorem mayK_n {W : Nat → Int32} (hs : WFs W) {k t s : Nat} (e1 : gT W k = nI t) (h1 : t ≤ 209) (e2 : stayW W (nI t) = nI s) (s1 : 1 ≤ s) (s2 : s ≤ 40) : mayK W k = (decide (k < 60) && decide (t + s ≤ nW W 2)) := by
  unfold mayK gTe
  rw [e1, e2, hs.tk.1, nI_add, show (1 : Int32) = nI 1 from rfl, pk_sub (by omega)]
  congr 1
  rw [decide_eq_decide]
  have h12 := hs.tk.2
  rcases Nat.eq_zero_or_pos (nW W 2) with q | q
  · rw [q, Int32.le_iff_toInt_le, nI_toInt (by omega)]
    show ((t + s - 1 : Nat) : Int) ≤ -1 ↔ _
    omega
  · rw [pk_sub (by omega), nI_leI (by omega) (by omega)]
    omega
/-- a question: answered, and what lasts is as it was -/
def QC0 (C : SC) (S : SM) (X : AH) : AH → Prop := fun h1 => ∃ C' Z, h1 = cH C' S (X ++ Z) ∧ KC C C'
def QC (C : SC) (S : SM) (X : AH) (v : Value) : Option Value → AH → Prop := fun v' h1 => v' = some v ∧ QC0 C S X h1
theorem QC0.mk {C C' : SC} {S : SM} {X : AH} (h : KC C C') : QC0 C S X (cH C' S X) := ⟨C', [], by rw [List.append_nil], h⟩
theorem QC0.mkz {C C' : SC} {S : SM} {X Z : AH} (h : KC C C') : QC0 C S X (cH C' S (X ++ Z)) := ⟨C', Z, rfl, h⟩
theorem QC0.rf {C : SC} {S : SM} {X : AH} : QC0 C S X (cH C S X) := QC0.mk (KC.rf C)
/-- the drum's game was laid -/
def LD (C : SC) (S : SM) (X : AH) (W : Nat → Int32) : AH → Prop := fun h1 => ∃ C', h1 = cH C' S X ∧ GM 3 16 17 18 C' X (dgW W) ∧ CK [3] [17, 18] [] [] [16] C C'
theorem LD.kc {C C' : SC} (h : CK [3] [17, 18] [] [] [16] C C') : KC C C' := h.kc (by decide) (by decide) (by decide) (by decide)
