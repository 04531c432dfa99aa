-- PART 70.readlaw
/-! ===== what is read is a board: the laws of the plain functions ===== -/
set_option maxRecDepth 100000
section RL
variable {T : Nat → Int32} {n : Nat}
/-- L' is a token that begins no sooner than where L ends -/
def Adv (T : Nat → Int32) (n : Nat) (L L' : LX) : Prop := ∃ i, lAt L ≤ i ∧ i ≤ n ∧ L' = lx T n i
theorem Adv.one {L : LX} (h : lAt L ≤ n) : Adv T n L (lx T n (lAt L)) := ⟨_, Nat.le_refl _, h, rfl⟩
theorem Adv.more {L L' : LX} (h : Adv T n L L') : Adv T n L (lx T n (lAt L')) := by
  obtain ⟨i, h1, h2, rfl⟩ := h
  have := lx_ok (T := T) h2
  refine ⟨lAt (lx T n i), ?_, this.2.1, rfl⟩
  have h3 : i ≤ lFr (lx T n i) := by
    have h4 := (cntK_le (p := wsB T n) (n := n) (fun k q => ws_out q) n i h2).1
    have h5 : lFr (lx T n i) = cntK (wsB T n) n i := by
      show lFr (lxF T n _) = _
      unfold lxF
      split
      · rfl
      · split
        · rfl
        · split <;> rfl
    omega
  omega
theorem lx_fr {i : Nat} (h2 : i ≤ n) : i ≤ lFr (lx T n i) := by
  have h4 := (cntK_le (p := wsB T n) (n := n) (fun k q => ws_out q) n i h2).1
  have h5 : lFr (lx T n i) = cntK (wsB T n) n i := by
    show lFr (lxF T n _) = _
    unfold lxF
    split
    · rfl
    · split
      · rfl
      · split <;> rfl
  omega
/-- a sign is one byte long -/
theorem lx_sg {i : Nat} (h : lTk (lx T n i) = 3) : lAt (lx T n i) = lFr (lx T n i) + 1 := by
  unfold lx lxF at h ⊢
  split at h
  · cases h
  · rename_i h1
    rw [if_neg h1]
    split at h
    · cases h
    · rename_i h2
      rw [if_neg h2]
      split at h
      · cases h
      · rename_i h3
        rw [if_neg h3]
        rfl
theorem pNu_c {lo hi v : Int32} {s : PX} {y : LX × (Nat → Int32)} (h : pNu T n lo hi s = (v, .inr y)) : ∃ x, s = .inr x ∧ inI v lo hi = true ∧ y.2 = x.2 ∧ y.1 = lx T n (lAt x.1) := by
  cases s with
  | inl f => cases h
  | inr x =>
    unfold pNu at h
    dsimp only at h
    split at h
    · split at h
      · rename_i h1 h2
        cases h
        exact ⟨x, rfl, h2, rfl, rfl⟩
      · cases h
    · cases h
theorem pNe_c {w : Nat} {s : PX} {y : LX × (Nat → Int32)} (h : pNe T n w s = .inr y) : ∃ x, s = .inr x ∧ y.2 = x.2 ∧ y.1 = lx T n (lAt x.1) := by
  cases s with
  | inl f => cases h
  | inr x =>
    unfold pNe at h
    dsimp only at h
    split at h
    · cases h
      exact ⟨x, rfl, rfl, rfl⟩
    · cases h
theorem pSt_c {k : Nat} {v : Int32} {s : PX} {y : LX × (Nat → Int32)} (h : pSt k v s = .inr y) : ∃ x, s = .inr x ∧ y.2 = upd x.2 k v ∧ y.1 = x.1 := by
  cases s with
  | inl f => cases h
  | inr x => cases h; exact ⟨x, rfl, rfl, rfl⟩
theorem pTo_c {w : Nat} {lo hi v : Int32} {s : PX} {y : LX × (Nat → Int32)} (h : pTo T n w lo hi s = (v, .inr y)) : ∃ x, s = .inr x ∧ inI v lo hi = true ∧ y.2 = x.2 ∧ y.1 = lx T n (lAt (lx T n (lAt x.1))) := by
  obtain ⟨z, h1, h2, h3, h4⟩ := pNu_c h
  obtain ⟨x, h5, h6, h7⟩ := pNe_c h1
  exact ⟨x, h5, h2, h3.trans h6, by rw [h4, h7]⟩
/-- told and laid: a number in its bounds, and the token goes on -/
theorem pTs_c {w k : Nat} {lo hi : Int32} {s : PX} {y : LX × (Nat → Int32)} (h : pTs T n w lo hi k s = .inr y) : ∃ x v, s = .inr x ∧ inI v lo hi = true ∧ y.2 = upd x.2 k v ∧ ∀ L, Adv T n L x.1 → Adv T n L y.1 := by
  obtain ⟨z, h1, h2, h3⟩ := pSt_c h
  obtain ⟨x, h4, h5, h6, h7⟩ := pTo_c (v := (pTo T n w lo hi s).1) (y := z) (by rw [← h1])
  exact ⟨x, _, h4, h5, by rw [h2, h6], fun L hL => by rw [h3, h7]; exact hL.more.more⟩
theorem in_n {v : Int32} {a b : Nat} (hb : b < 2147483648) (ha : a ≤ b) (h : inI v (nI a) (nI b) = true) : ∃ j, a ≤ j ∧ j ≤ b ∧ v = nI j := by
  unfold inI at h
  rw [Bool.and_eq_true, decide_eq_true_eq, decide_eq_true_eq] at h
  obtain ⟨j, hj, rfl⟩ := nI_of (Int32.not_lt.mpr (Int32.le_trans (nI_pos' (by omega)) h.1))
  exact ⟨j, (nI_leI (by omega) hj).mp h.1, (nI_leI hj hb).mp h.2, rfl⟩
/-- the first line -/
def Fi (W W' : Nat → Int32) : Prop := ∃ a b c d : Nat, (1 ≤ a ∧ a ≤ 4) ∧ (1 ≤ b ∧ b ≤ 3) ∧ (1 ≤ c ∧ c ≤ 200) ∧ d ≤ 9 ∧ W' = upd (upd (upd (upd (upd (upd W 0 (nI a)) 1 (nI b)) 2 (nI c)) 3 (nI d)) 10 1) 11 100
theorem pFi_c {x y : LX × (Nat → Int32)} (hL : lAt x.1 ≤ n) (h : pFi T n (.inr x) = .inr y) : Fi x.2 y.2 ∧ Adv T n x.1 y.1 := by
  obtain ⟨s1, h1, e1, l1⟩ := pSt_c h
  obtain ⟨s2, h2, e2, l2⟩ := pSt_c h1
  obtain ⟨s3, v3, h3, i3, e3, l3⟩ := pTs_c h2
  obtain ⟨s4, v4, h4, i4, e4, l4⟩ := pTs_c h3
  obtain ⟨s5, v5, h5, i5, e5, l5⟩ := pTs_c h4
  obtain ⟨s6, v6, h6, i6, e6, l6⟩ := pTs_c h5
  obtain ⟨s7, h7, e7, l7⟩ := pNe_c h6
  cases h7
  obtain ⟨d, -, hd, rfl⟩ := in_n (a := 0) (b := 9) (by omega) (by omega) i3
  obtain ⟨c, c1, c2, rfl⟩ := in_n (a := 1) (b := 200) (by omega) (by omega) i4
  obtain ⟨b, b1, b2, rfl⟩ := in_n (a := 1) (b := 3) (by omega) (by omega) i5
  obtain ⟨a, a1, a2, rfl⟩ := in_n (a := 1) (b := 4) (by omega) (by omega) i6
  refine ⟨⟨a, b, c, d, ⟨a1, a2⟩, ⟨b1, b2⟩, ⟨c1, c2⟩, hd, by rw [e1, e2, e3, e4, e5, e6, e7]⟩, ?_⟩
  rw [l1, l2]
  exact l3 _ (l4 _ (l5 _ (l6 _ (by rw [l7]; exact Adv.one hL))))
theorem pHo_c {bad : LX → (Nat → Int32) → Bool} {s : PX} {v : Int32} {y : LX × (Nat → Int32)} (hs : ∀ x, s = .inr x → WFs x.2) (h : pHo T n bad s = (v, .inr y)) : ∃ x, s = .inr x ∧ (∃ j, j < hoN x.2 ∧ v = nI j ∧ v = lVa x.1 ∧ bad x.1 x.2 = false) ∧ y.2 = x.2 ∧ y.1 = lx T n (lAt x.1) := by
  obtain ⟨x, h1, h2, h3, h4⟩ := pNu_c h
  have h5 := pHoF_W h1
  have hw := hs x h5
  rw [h1] at h2
  have h2 : inI v 0 (hoW x.2 - 1) = true := h2
  obtain ⟨j, hj, rfl⟩ := in_of (n := hoN x.2) (by have := hw.ho12; omega) (by rw [← hw.ho]; exact h2)
  refine ⟨x, h5, ⟨j, hj, rfl, ?_⟩, h3, h4⟩
  subst h5
  unfold pHo at h
  rw [h1] at h
  unfold pNu at h
  dsimp only at h
  split at h
  · rename_i ht
    split at h
    · rename_i hb
      have e1 : lVa x.1 = nI j := (Prod.mk.inj h).1
      refine ⟨e1.symm, ?_⟩
      by_cases hc : hoL x.1 x.2 = true ∧ bad x.1 x.2 = true
      · rw [show pHoF bad (.inr x) = .inl (2, nI (lFr x.1)) from if_pos hc] at h1
        cases h1
      · cases hb9 : bad x.1 x.2 with
        | false => rfl
        | true =>
          refine absurd ⟨?_, hb9⟩ hc
          rw [hoL, decide_eq_true ht, Bool.true_and, decide_eq_true_eq, e1, hw.ho]
          exact nI_lt hj (by have := hw.ho12; omega)
    · cases (Prod.mk.inj h).2
  · cases (Prod.mk.inj h).2
/-! the lines behind the first -/
def Li1 (W W' : Nat → Int32) : Prop := ∃ t m : Nat, t < nW W 2 ∧ (1 ≤ m ∧ m ≤ 40) ∧ (W 4 = 6 → ¬ frS W (nI t) = none) ∧ W' = stU W (nI t) (nI m)
def Li2 (W W' : Nat → Int32) : Prop := ∃ h : Nat, h < hoN W ∧ shW W (nI h) = false ∧ isCo W (nI h) = false ∧ W' = upd W 7 (W 7 ||| ((1 : Int32) <<< (nI h &&& 31)))
/-- one more coming: its hole, the other one -/
def Li3 (W W' : Nat → Int32) : Prop := ∃ (a : Nat) (o : Option Nat) (r : Bool), a < hoN W ∧ shW W (nI a) = false ∧ (∀ b, o = some b → b < hoN W ∧ shW W (nI b) = false ∧ b ≠ a) ∧ nW W 5 < 24 ∧ W' = coU W (nI a) (onI o) (b2i r)
def Li4 (W W' : Nat → Int32) : Prop := ∃ a b c d e : Nat, (1 ≤ a ∧ a ≤ 9) ∧ b ≤ 20 ∧ c ≤ 99 ∧ d ≤ 9 ∧ e < hoN W ∧ nW W 6 < 4 ∧ W' = upd (upd (upd (upd (upd (upd W (96 + 5 * nW W 6) (nI a)) (96 + 5 * nW W 6 + 1) (nI b)) (96 + 5 * nW W 6 + 2) (nI c)) (96 + 5 * nW W 6 + 3) (nI d)) (96 + 5 * nW W 6 + 4) (nI e)) 6 (W 6 + 1)
def Li5 (W W' : Nat → Int32) : Prop := ∃ a b : Nat, (1 ≤ a ∧ a ≤ 99) ∧ (1 ≤ b ∧ b ≤ 500) ∧ W' = upd (upd W 10 (nI a)) 11 (nI b)
theorem pStay_c {x y : LX × (Nat → Int32)} (hs : WFs x.2) (h : pStay T n (.inr x) = .inr y) : Li1 x.2 y.2 ∧ ∀ L, Adv T n L x.1 → Adv T n L y.1 := by
  have h0 : pStE (pNu T n 0 (pOf (fun W => W 2 - 1) (pStF (pNe T n 2 (pNu T n 1 40 (.inr x)).2))) (pStF (pNe T n 2 (pNu T n 1 40 (.inr x)).2))).1 (pNu T n 1 40 (.inr x)).1 (pNu T n 0 (pOf (fun W => W 2 - 1) (pStF (pNe T n 2 (pNu T n 1 40 (.inr x)).2))) (pStF (pNe T n 2 (pNu T n 1 40 (.inr x)).2))).2 = .inr y := h
  cases h1 : pNe T n 2 (pNu T n 1 40 (.inr x)).2 with
  | inl f => rw [h1] at h0; cases h0
  | inr z =>
    rw [h1] at h0
    obtain ⟨z1, g1, g2, g3⟩ := pNe_c h1
    obtain ⟨z0, k1, k2, k3, k4⟩ := pNu_c (v := (pNu T n 1 40 (.inr x)).1) (y := z1) (by rw [← g1])
    cases k1
    have hz : WFs z.2 := by rw [g2, k3]; exact hs
    cases h2 : (pNu T n 0 (pOf (fun W => W 2 - 1) (pStF (.inr z))) (pStF (.inr z))).2 with
    | inl f => rw [h2] at h0; cases h0
    | inr u =>
      rw [h2] at h0
      have hW := pStF_W hz h2
      obtain ⟨u0, m1, m2, m3, m4⟩ := pNu_c (v := (pNu T n 0 (pOf (fun W => W 2 - 1) (pStF (.inr z))) (pStF (.inr z))).1) (y := u) (by rw [← h2])
      have e0 : u0 = z := by
        unfold pStF at m1
        dsimp only at m1
        split at m1
        · cases m1
        · cases m1; rfl
      subst e0
      have e9 : pOf (fun W => W 2 - 1) (pStF (.inr u0)) = u0.2 2 - 1 := by rw [m1]; rfl
      generalize (pNu T n 0 (pOf (fun W => W 2 - 1) (pStF (.inr u0))) (pStF (.inr u0))).1 = t9 at *
      generalize (pNu T n 1 40 (.inr x)).1 = n9 at *
      rw [e9] at m2
      obtain ⟨t, ht, rfl⟩ := in_of (n := nW u0.2 2) (by have := hz.tk.2; omega) (by rw [← hz.tk.1]; exact m2)
      obtain ⟨m, ma, mb, rfl⟩ := in_n (a := 1) (b := 40) (by omega) (by omega) k2
      have ew : u0.2 = x.2 := g2.trans k3
      cases h0
      refine ⟨⟨t, m, by rw [← ew]; exact ht, ⟨ma, mb⟩, fun q => ?_, ?_⟩, fun L hL => ?_⟩
      · have := hW.2 (by rw [ew]; exact q)
        rw [hW.1, ew] at this
        exact this
      · show stU u.2 _ _ = _
        rw [m3, ew]
      · show Adv T n L u.1
        rw [m4, g3, k4]
        exact hL.more.more.more
theorem pShut_c {x y : LX × (Nat → Int32)} (hs : WFs x.2) (h : pShut T n (.inr x) = .inr y) : Li2 x.2 y.2 ∧ ∀ L, Adv T n L x.1 → Adv T n L y.1 := by
  have h0 : pShE (pHo T n badS (.inr x)).1 (pHo T n badS (.inr x)).2 = .inr y := h
  cases h1 : (pHo T n badS (.inr x)).2 with
  | inl f => rw [h1] at h0; cases h0
  | inr z =>
    rw [h1] at h0
    obtain ⟨x0, k1, ⟨j, k2, k3, k4, k5⟩, k6, k7⟩ := pHo_c (bad := badS) (s := .inr x) (v := (pHo T n badS (.inr x)).1) (y := z) (fun q hq => by cases hq; exact hs) (by rw [← h1])
    cases k1
    cases h0
    rw [badS, Bool.or_eq_false_iff, ← k4, k3] at k5
    refine ⟨⟨j, k2, k5.1, k5.2, ?_⟩, fun L hL => ?_⟩
    · show upd z.2 7 (z.2 7 ||| _) = _
      rw [k6, k3]
    · show Adv T n L z.1
      rw [k7]
      exact hL.more
theorem pCom_c {x y : LX × (Nat → Int32)} {red tw : Bool} (hs : WFs x.2) (hlt : nW x.2 5 < 24) (h : pCom T n red tw (.inr x) = .inr y) : Li3 x.2 y.2 ∧ ∀ L, Adv T n L x.1 → Adv T n L y.1 := by
  have h0 : pCoE (pHo T n (badO (-1)) (.inr x)).1 (pSec T n tw (pHo T n (badO (-1)) (.inr x)).1 (pHo T n (badO (-1)) (.inr x)).2).1 (b2i red) (pSec T n tw (pHo T n (badO (-1)) (.inr x)).1 (pHo T n (badO (-1)) (.inr x)).2).2 = .inr y := h
  cases h1 : (pHo T n (badO (-1)) (.inr x)).2 with
  | inl f =>
    rw [h1] at h0
    cases tw <;> cases h0
  | inr z =>
    rw [h1] at h0
    obtain ⟨x0, k1, ⟨a, k2, k3, k4, k5⟩, k6, k7⟩ := pHo_c (bad := badO (-1)) (s := .inr x) (v := (pHo T n (badO (-1)) (.inr x)).1) (y := z) (fun q hq => by cases hq; exact hs) (by rw [← h1])
    cases k1
    have ka : shW x.2 (nI a) = false := by
      rw [badO, Bool.or_eq_false_iff, ← k4, k3] at k5
      exact k5.1
    rw [k3] at h0
    cases tw with
    | false =>
      cases h0
      exact ⟨⟨a, none, red, k2, ka, (fun b hb => by cases hb), hlt, by show coU z.2 _ _ _ = _; rw [k6]; rfl⟩, fun L hL => by show Adv T n L z.1; rw [k7]; exact hL.more⟩
    | true =>
      have h0 : pCoE (nI a) (pHo T n (badO (nI a)) (.inr z)).1 (b2i red) (pHo T n (badO (nI a)) (.inr z)).2 = .inr y := h0
      cases h2 : (pHo T n (badO (nI a)) (.inr z)).2 with
      | inl f => rw [h2] at h0; cases h0
      | inr u =>
        rw [h2] at h0
        obtain ⟨z0, j1, ⟨b, j2, j3, j4, j5⟩, j6, j7⟩ := pHo_c (bad := badO (nI a)) (s := .inr z) (v := (pHo T n (badO (nI a)) (.inr z)).1) (y := u) (fun q hq => by cases hq; rw [k6]; exact hs) (by rw [← h2])
        cases j1
        rw [badO, Bool.or_eq_false_iff, ← j4, j3, decide_eq_false_iff_not, k6] at j5
        rw [j3] at h0
        cases h0
        refine ⟨⟨a, some b, red, k2, ka, fun c hc => ?_, hlt, ?_⟩, fun L hL => ?_⟩
        · cases hc
          exact ⟨by rw [← k6]; exact j2, decide_eq_false j5.1, fun q => of_decide_eq_false j5.2 (by rw [q])⟩
        · show coU u.2 _ _ _ = _
          rw [j6, k6]
          rfl
        · show Adv T n L u.1
          rw [j7, k7]
          exact hL.more.more
theorem pIn_c {k : Nat} {s : PX} {y : LX × (Nat → Int32)} (h : pIn k s = .inr y) : ∃ x, s = .inr x ∧ y.2 = upd x.2 k (x.2 k + 1) ∧ y.1 = x.1 := by
  cases s with
  | inl f => cases h
  | inr x => cases h; exact ⟨x, rfl, rfl, rfl⟩
theorem pPla_c {x y : LX × (Nat → Int32)} (hs : WFs x.2) (hlt : nW x.2 6 < 4) (h : pPla T n (nW x.2 6) (.inr x) = .inr y) : Li4 x.2 y.2 ∧ ∀ L, Adv T n L x.1 → Adv T n L y.1 := by
  obtain ⟨s0, h0, e0, l0⟩ := pIn_c h
  obtain ⟨s1, v1, h1, i1, e1, l1⟩ := pTs_c h0
  obtain ⟨s2, v2, h2, i2, e2, l2⟩ := pTs_c h1
  obtain ⟨s3, v3, h3, i3, e3, l3⟩ := pTs_c h2
  obtain ⟨s4, v4, h4, i4, e4, l4⟩ := pTs_c h3
  obtain ⟨s5, v5, h5, i5, e5, l5⟩ := pTs_c h4
  cases h5
  have eo : ∀ j, j < 96 → s1.2 j = x.2 j := fun j hj => by
    rw [e2, e3, e4, e5, pk_un (by omega), pk_un (by omega), pk_un (by omega), pk_un (by omega)]
  rw [h1] at i1
  have i1 : inI v1 0 (s1.2 0 * s1.2 1 - 1) = true := i1
  rw [eo 0 (by omega), eo 1 (by omega)] at i1
  obtain ⟨e, he, rfl⟩ := in_of (n := hoN x.2) (by have := hs.ho12; omega) (by rw [← hs.ho]; exact i1)
  obtain ⟨d, -, hd, rfl⟩ := in_n (a := 0) (b := 9) (by omega) (by omega) i2
  obtain ⟨c, -, hc, rfl⟩ := in_n (a := 0) (b := 99) (by omega) (by omega) i3
  obtain ⟨b, -, hb, rfl⟩ := in_n (a := 0) (b := 20) (by omega) (by omega) i4
  obtain ⟨a, a1, a2, rfl⟩ := in_n (a := 1) (b := 9) (by omega) (by omega) i5
  have e6 : s0.2 6 = x.2 6 := by
    rw [e1, pk_un (by omega)]
    exact eo 6 (by omega)
  refine ⟨⟨a, b, c, d, e, ⟨a1, a2⟩, hb, hc, hd, he, hlt, ?_⟩, fun L hL => ?_⟩
  · rw [e0, e6, e1, e2, e3, e4, e5]
  · rw [l0]
    exact l1 _ (l2 _ (l3 _ (l4 _ (l5 _ hL))))
theorem pTic_c {x y : LX × (Nat → Int32)} (h : pTic T n (.inr x) = .inr y) : Li5 x.2 y.2 ∧ ∀ L, Adv T n L x.1 → Adv T n L y.1 := by
  obtain ⟨s1, v1, h1, i1, e1, l1⟩ := pTs_c h
  obtain ⟨s2, h2, e2, l2⟩ := pSt_c h1
  obtain ⟨x0, k1, k2, k3, k4⟩ := pNu_c (v := (pNu T n 1 99 (.inr x)).1) (y := s2) (by rw [← h2])
  cases k1
  obtain ⟨b, b1, b2, rfl⟩ := in_n (a := 1) (b := 500) (by omega) (by omega) i1
  generalize (pNu T n 1 99 (.inr x)).1 = v9 at *
  obtain ⟨a, a1, a2, rfl⟩ := in_n (a := 1) (b := 99) (by omega) (by omega) k2
  refine ⟨⟨a, b, ⟨a1, a2⟩, ⟨b1, b2⟩, by rw [e1, e2, k3]⟩, fun L hL => l1 _ (by rw [l2, k4]; exact hL.more)⟩
end RL
