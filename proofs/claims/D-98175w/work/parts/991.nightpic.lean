-- PART 991.nightpic
/-! ===== the class's nights: plain functions, how they lie ===== -/
def cN (p : Nat → Bool) : Nat → Nat → Nat
  | 0, _ => 0
  | k + 1, i => (if p i = true then 1 else 0) + cN p k (i + 1)
theorem cN_le (p : Nat → Bool) : ∀ k i, cN p k i ≤ k := by
  intro k
  induction k with
  | zero => intro i; exact Nat.le_refl 0
  | succ k ih =>
    intro i
    have := ih (i + 1)
    unfold cN
    split <;> omega
theorem ct_n (p : Nat → Bool) : ∀ k i a, itr (ctF p) k i (nI a) = nI (a + cN p k i) := by
  intro k
  induction k with
  | zero => intro i a; rfl
  | succ k ih =>
    intro i a
    show itr (ctF p) k (i + 1) (ctF p i (nI a)) = _
    unfold ctF cN
    by_cases h : p i = true
    · rw [if_pos h, if_pos h, nI_1]
      have := ih (i + 1) (a + 1)
      rw [show a + (1 + cN p k (i + 1)) = a + 1 + cN p k (i + 1) by omega]
      exact this
    · rw [if_neg h, if_neg h, Int32.add_zero, Nat.zero_add]
      exact ih (i + 1) a
theorem pk_some {p : Nat → Bool} : ∀ k i l, l < cN p k i → i + k ≤ 1000 → ∃ j, i ≤ j ∧ j < i + k ∧ p j = true ∧ pkK p k i (nI l) = nI j := by
  intro k
  induction k with
  | zero => intro i l h; exact absurd h (Nat.not_lt_zero l)
  | succ k ih =>
    intro i l h hi
    unfold cN at h
    unfold pkK
    have hc := cN_le p k (i + 1)
    by_cases hp : p i = true
    · rw [if_pos hp] at h ⊢
      by_cases hl : l = 0
      · subst hl
        exact ⟨i, Nat.le_refl i, by omega, hp, if_pos rfl⟩
      · rw [if_neg (nI_ne0 (by omega) (by omega))]
        obtain ⟨j, h1, h2, h3, h4⟩ := ih (i + 1) (l - 1) (by omega) (by omega)
        refine ⟨j, by omega, by omega, h3, ?_⟩
        rw [← h4, show nI l - 1 = nI (l - 1) from pk_sub (b := 1) (by omega)]
    · rw [if_neg hp] at h ⊢
      obtain ⟨j, h1, h2, h3, h4⟩ := ih (i + 1) l (by omega) (by omega)
      exact ⟨j, by omega, by omega, h3, h4⟩
/-- the seed behind a draw -/
def dU (u : Nat) : Nat := (1103515245 * u + 12345) % 2147483648
theorem dU_lt (u : Nat) : dU u < 2147483648 := Nat.mod_lt _ (by omega)
theorem drD_n {u : Nat} (hu : u < 2147483648) : drD (lN u) = lN (dU u) := by
  unfold drD rm64 dU
  have e1 : (1103515245 : Int64) = lN 1103515245 := rfl
  have e2 : (12345 : Int64) = lN 12345 := rfl
  have e3 : (2147483648 : Int64) = lN 2147483648 := rfl
  rw [e1, e2, e3, lN_mul, lN_add]
  exact pk_lRem (by omega) (by omega) (by omega)
theorem drN_n {u c : Nat} (hu : u < 2147483648) (h0 : 0 < c) (hc : c < 1000) : drN (lN u) (nI c) = nI (dU u / 65536 % c) := by
  have hd := dU_lt u
  unfold drN rm64
  rw [drD_n hu]
  have e1 : (65536 : Int64) = lN 65536 := rfl
  rw [e1, pk_lDiv (by omega) (by omega) (by omega), nI_l (by omega), pk_lRem (by have := Nat.div_le_self (dU u) 65536; omega) h0 (by omega), lN_i]
theorem hb_n {W : Nat → Int32} {law one two : Int32} {u : Nat} (hs : WFs W) (hu : u < 2147483648) (hc : 0 < cN (leP W law one two) (hoN W) 0) : ∃ j, j < hoN W ∧ hbV W law one two (lN u) = nI j ∧ hbD W law one two (lN u) = lN (dU u) := by
  have h12 := hs.ho12
  have hle := cN_le (leP W law one two) (hoN W) 0
  have e1 : leC W law one two = nI (cN (leP W law one two) (hoN W) 0) := by
    have := ct_n (leP W law one two) (hoN W) 0 0
    rw [Nat.zero_add] at this
    exact this
  have n0 : ¬ leC W law one two = 0 := by rw [e1]; exact nI_ne0 hc (by omega)
  obtain ⟨j, h1, h2, h3, h4⟩ := pk_some (p := leP W law one two) (hoN W) 0 (dU u / 65536 % cN (leP W law one two) (hoN W) 0) (Nat.mod_lt _ hc) (by omega)
  refine ⟨j, by omega, ?_, ?_⟩
  · rw [hbV, if_neg n0, e1, drN_n hu hc (by omega), h4]
  · rw [hbD, if_neg n0, drD_n hu]
theorem hb_0 {W : Nat → Int32} {law one two : Int32} {v : Int64} (hc : cN (leP W law one two) (hoN W) 0 = 0) : hbV W law one two v = -1 := by
  have e1 : leC W law one two = nI (cN (leP W law one two) (hoN W) 0) := by
    have := ct_n (leP W law one two) (hoN W) 0 0
    rw [Nat.zero_add] at this
    exact this
  rw [hbV, if_pos (by rw [e1, hc]; rfl)]
theorem le0_n {m : Nat} (hm : m ≤ 60) : nI m ≤ 0 ↔ m = 0 := by
  have := nI_leI (a := m) (b := 0) (by omega) (by omega)
  exact this.trans (by omega)
theorem le1_n {m : Nat} (hm : m ≤ 60) : nI m ≤ 1 ↔ m ≤ 1 := nI_leI (a := m) (b := 1) (by omega) (by omega)
/-- a night under way: m of its holes f, the seed now v -/
def NL (W : Nat → Int32) (law : Int32) (C : SC) (X : AH) (m : Nat) (f : Nat → Int32) (v : Int64) : Prop := GM 4 20 21 22 C X (m, niF W f) ∧ C.1 5 = law ∧ C.2.2.2.2.2 = v ∧ (∀ j, j < m → C.2.1 23 j = f j) ∧ ∀ j, j < m → ¬ f j = -1
theorem GM.cgf {mi ma fi la : Nat} {C : SC} {X : AH} {W f f2 : Nat → Int32} {m : Nat} (h : GM mi ma fi la C X (m, niF W f)) (e : ∀ i, i < m → f2 i = f i) : GM mi ma fi la C X (m, niF W f2) := ⟨h.1, h.2.1, fun i hi => by
  have hi : i < m := hi
  obtain ⟨⟨r, h1, h2, h3⟩, h4⟩ := h.2.2 i hi
  refine ⟨⟨r, h1, h2, ?_⟩, h4⟩
  show X[r]? = some (.inr (14, [.int (f2 i), .int (-1), .int 0]))
  rw [e i hi]
  exact h3⟩
def nxC (m j : Nat) (v : Int64) (C : SC) : SC := cA 23 m (nI j) (cX v C)
def upC (m r : Nat) (t e : Int32) (C : SC) : SC := cF 4 (nI m + 1) (cA 22 m e (cA 21 m t (cM 20 m (some r) C)))
theorem NL.up {W : Nat → Int32} {law : Int32} {C : SC} {X : AH} {m j : Nat} {f : Nat → Int32} {v v2 : Int64} (h : NL W law C X m f v) (hm : m < 60) (hj : j < 1000) (hX : 108 ≤ X.length) {t e : Int32} (ht : t = gT W m) (he : e = gTe W m) : NL W law (upC m X.length t e (nxC m j v2 C)) (X ++ [.inr (14, [.int (nI j), .int (-1), .int 0])]) (m + 1) (upd f m (nI j)) v2 := by
  obtain ⟨h1, h2, h3, h4, h5⟩ := h
  refine ⟨?_, h2, rfl, fun q hq => ?_, fun q hq => ?_⟩
  · have g1 : GM 4 20 21 22 (nxC m j v2 C) (X ++ [.inr (14, [.int (nI j), .int (-1), .int 0])]) (m, niF W (upd f m (nI j))) := (h1.app.cgf (fun i hi => pk_un (by omega))).to rfl rfl rfl rfl
    refine g1.up (by decide) hm ⟨Or.inr (by omega), ?_⟩ ht he
    rw [List.getElem?_append_right (Nat.le_refl _), Nat.sub_self]
    show some _ = some ((.inr (14, [.int (upd f m (nI j) m), .int (-1), .int 0])) : AE)
    rw [pk_us]
  · have e1 : (upC m X.length t e (nxC m j v2 C)).2.1 23 q = upd (C.2.1 23) m (nI j) q := rfl
    rw [e1]
    by_cases e2 : q = m
    · rw [e2, pk_us, pk_us]
    · rw [pk_un e2, pk_un e2]
      exact h4 q (by omega)
  · by_cases e2 : q = m
    · rw [e2, pk_us]
      exact nI_m1 (by omega)
    · rw [pk_un e2]
      exact h5 q (by omega)
/-- what a night changes -/
def CNt (C C' : SC) : Prop := CK [4, 5] [21, 22, 23] [] [] [20] C C'
theorem CNt.rf (C : SC) : CNt C C := CK.rf _ _ _ _ _ _
theorem CNt.tr {C C' C'' : SC} (h : CNt C C') (h' : CNt C' C'') : CNt C C'' := CK.tr h h'
theorem CNt.ev {C C' : SC} {X : AH} {lo hi b : Nat} {A : BA} {W : Nat → Int32} (h : CNt C C') (hE : EV C X lo hi b A W) : EV C' X lo hi b A W := CK.ev h (by decide) hE
theorem CNt.kc {C C' : SC} (h : CNt C C') : KC C C' := CK.kc h (by decide) (by decide) (by decide) (by decide)
theorem CNt.pc {C C' : SC} {A : BA} {P : RP} (h : CNt C C') (hp : PC C A P) : PC C' A P := by
  obtain ⟨h1, h2, h3, h4, h5⟩ := h
  unfold PC at hp ⊢
  rw [h4 24 (by decide), h1 6 (by decide), h1 7 (by decide), h1 8 (by decide), h1 9 (by decide), h1 16 (by decide)]
  exact hp
theorem nxC_k (m j : Nat) (v : Int64) (C : SC) : CNt C (nxC m j v C) := ((CK.rf [4, 5] [21, 22, 23] [] [] [20] C).X v).A _ _ (by decide)
theorem upC_k (m r : Nat) (t e : Int32) (C : SC) : CNt C (upC m r t e C) := ((((CK.rf [4, 5] [21, 22, 23] [] [] [20] C).M _ _ (by decide)).A _ _ (by decide)).A _ _ (by decide)).F _ (by decide)
/-- a night was laid; cells were made -/
def LN (C : SC) (S : SM) (X : AH) (W : Nat → Int32) (law : Int32) (v : Int64) : AH → Prop := fun h1 => ∃ C' Z, h1 = cH C' S (X ++ Z) ∧ GM 4 20 21 22 C' (X ++ Z) (niW W law v) ∧ WG2 (niW W law v) ∧ CNt C C'
theorem NL.wg {W : Nat → Int32} {law : Int32} {C : SC} {X : AH} {m : Nat} {f : Nat → Int32} {v : Int64} (h : NL W law C X m f v) : WG2 (m, niF W f) := ⟨fun _ _ => Or.inl rfl, fun i hi => ⟨h.2.2.2.2 i hi, fun q => h.2.2.2.2 i hi q.symm⟩⟩
theorem CP.nt {C C' : SC} {X : AH} {W : Nat → Int32} (h : CNt C C') : True := trivial
