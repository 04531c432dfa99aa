-- PART 9981.readstay
/-! ===== the reader's board: a stay written ===== -/
set_option maxRecDepth 100000
def BA.at (A : BA) (k : Nat) (t m : Int32) : BA := (A.1, A.2.1, A.2.2.1, A.2.2.2.1, A.2.2.2.2.1, upd A.ff k t, upd A.sf k m)
theorem BD.stays {X : AH} {lo hi b : Nat} {A : BA} {W W' : Nat → Int32} (h : BD X lo hi b A W) {k : Nat} {t m v4 : Int32} (hk : k < 6) (h4 : W' 4 = v4) (hn : W' 4 = nI (nW W' 4) ∧ nW W' 4 ≤ 6) (hc : ∀ i, i < nW W' 4 → i ≠ k → i < nW W 4) (e : ∀ j, j ≠ 4 → j ≠ 12 + 2 * k → j ≠ 12 + 2 * k + 1 → W' j = W j) (et : W' (12 + 2 * k) = t) (em : W' (12 + 2 * k + 1) = m) : BD (((X.set b (.inr (2, (bfl A W).set 8 (.int v4)))).set A.f (.inl (0, 6, .inl (upd A.ff k t)))).set A.s (.inl (0, 6, .inl (upd A.sf k m)))) lo hi b (A.at k t m) W' := by
  have e5 : nW W' 5 = nW W 5 := nW_c (e 5 (by omega) (by omega) (by omega))
  have e6 : nW W' 6 = nW W 6 := nW_c (e 6 (by omega) (by omega) (by omega))
  have h24 := h.n5.2
  have h64 := h.n6.2
  have ob : bfl (A.at k t m) W' = (bfl A W).set 8 (.int v4) := by
    unfold bfl
    rw [e 0 (by omega) (by omega) (by omega), e 1 (by omega) (by omega) (by omega), e 2 (by omega) (by omega) (by omega), e 3 (by omega) (by omega) (by omega), h4, e 7 (by omega) (by omega) (by omega), e 8 (by omega) (by omega) (by omega), e 9 (by omega) (by omega) (by omega)]
    rfl
  have hb := h.ob.1
  have fb := (h.of.other (e' := .inr (2, (bfl A W).set 8 (.int v4))) hb (by simp))
  have sb := ((h.os.other (e' := .inr (2, (bfl A W).set 8 (.int v4))) hb (by simp)).set (e' := .inl (0, 6, .inl (upd A.ff k t))) h.fs)
  have two : ∀ {a : Nat} {x : AE}, DX X lo hi a x → x ≠ .inr (2, bfl A W) → x ≠ .inl (0, 6, .inl A.ff) → x ≠ .inl (0, 6, .inl A.sf) → DX (((X.set b (.inr (2, (bfl A W).set 8 (.int v4)))).set A.f (.inl (0, 6, .inl (upd A.ff k t)))).set A.s (.inl (0, 6, .inl (upd A.sf k m)))) lo hi a x := fun d h1 h2 h3 => ((d.other hb h1).other fb.1 h2).other sb.1 h3
  refine ⟨h.dy, ?_, ?_, two h.oq (by simp) (by simp) (by simp), ?_, two h.orr (by simp) (by simp) (by simp), ?_, sb.set_s, h.fs, fun q => ?_, ?_, ?_, hn, fun j hj => ?_, fun i j hi hj q => h.mi i j (by omega) (by omega) q, fun j hj => ?_, fun i j hi hj q => h.pj i j (by omega) (by omega) q, fun j hj => ?_⟩
  · rw [ob]
    exact (h.ob.set_s.other fb.1 (by simp)).other sb.1 (by simp)
  · rw [e5]; exact two h.od (by simp) (by simp) (by simp)
  · rw [e6]; exact two h.op (by simp) (by simp) (by simp)
  · exact fb.set_s.set (fun q => h.fs q.symm)
  · rw [e 0 (by omega) (by omega) (by omega)] at q
    rw [e 10 (by omega) (by omega) (by omega), e 11 (by omega) (by omega) (by omega)]
    exact h.te q
  · rw [e5, e 5 (by omega) (by omega) (by omega)]; exact h.n5
  · rw [e6, e 6 (by omega) (by omega) (by omega)]; exact h.n6
  · rw [e5] at hj
    obtain ⟨h1, h2⟩ := h.mo j hj
    unfold mofl at h2 ⊢
    rw [e (24 + 3 * j) (by omega) (by omega) (by omega), e (24 + 3 * j + 1) (by omega) (by omega) (by omega), e (24 + 3 * j + 2) (by omega) (by omega) (by omega)]
    exact ⟨h1, two h2 (by simp) (by simp) (by simp)⟩
  · rw [e6] at hj
    obtain ⟨h1, h2, h3, h4⟩ := h.pl j hj
    exact ⟨h1, two h2 (by simp) (by simp) (by simp), two h3 (by simp) (by simp) (by simp), fun i hi => (h4 i hi).trans (e _ (by omega) (by omega) (by omega)).symm⟩
  · by_cases z : j = k
    · subst z
      exact ⟨(show upd A.ff j t j = _ by rw [upd, if_pos rfl, et]), (show upd A.sf j m j = _ by rw [upd, if_pos rfl, em])⟩
    · have q := h.st j (hc j hj z)
      exact ⟨(show upd A.ff k t j = _ by rw [upd, if_neg z, q.1, e _ (by omega) (by omega) (by omega)]), (show upd A.sf k m j = _ by rw [upd, if_neg z, q.2, e _ (by omega) (by omega) (by omega)])⟩
theorem RDS.stays {X0 X : AH} {r b n : Nat} {L : LX} {W W' : Nat → Int32} {A : BA} (h : RDS X0 r b n X (L, W) A) {k : Nat} {t m v4 : Int32} (hk : k < 6) (h4 : W' 4 = v4) (hn : W' 4 = nI (nW W' 4) ∧ nW W' 4 ≤ 6) (hc : ∀ i, i < nW W' 4 → i ≠ k → i < nW W 4) (e : ∀ j, j ≠ 4 → j ≠ 12 + 2 * k → j ≠ 12 + 2 * k + 1 → W' j = W j) (et : W' (12 + 2 * k) = t) (em : W' (12 + 2 * k + 1) = m) : RDS X0 r b n (((X.set b (.inr (2, (bfl A W).set 8 (.int v4)))).set A.f (.inl (0, 6, .inl (upd A.ff k t)))).set A.s (.inl (0, 6, .inl (upd A.sf k m)))) (L, W') (A.at k t m) := by
  refine h.up (by rw [List.length_set, List.length_set, List.length_set]) (((h.xe.set h.bd.ob.2.1).set h.bd.of.2.1).set h.bd.os.2.1) ?_ (h.bd.stays hk h4 hn hc e et em)
  rw [List.getElem?_set_ne (h.nb h.bd.os.1 (by simp [lxo, ro])), List.getElem?_set_ne (h.nb h.bd.of.1 (by simp [lxo, ro])), List.getElem?_set_ne h.br]
theorem stU_s9 {W : Nat → Int32} {t m : Int32} {k : Nat} (h : frS W t = some k) : stU W t m = upd (upd W (12 + 2 * k) t) (12 + 2 * k + 1) m := by unfold stU; rw [h]
theorem stU_n9 {W : Nat → Int32} {t m : Int32} (h : frS W t = none) : stU W t m = upd (upd (upd W 4 (W 4 + 1)) (12 + 2 * nW W 4) t) (12 + 2 * nW W 4 + 1) m := by unfold stU; rw [h]
/-- a stay that is there -/
theorem RDS.stay1 {X0 X : AH} {r b n : Nat} {L : LX} {W : Nat → Int32} {A : BA} (h : RDS X0 r b n X (L, W) A) {k : Nat} {t m : Int32} (hk : frS W t = some k) : RDS X0 r b n ((X.set A.f (.inl (0, 6, .inl (upd A.ff k t)))).set A.s (.inl (0, 6, .inl (upd A.sf k m)))) (L, stU W t m) (A.at k t m) := by
  have h6 : k < 6 := by have := frS_lt hk; have := h.bd.n4.2; dsimp only at this; omega
  rw [stU_s9 hk]
  have e4 : (upd (upd W (12 + 2 * k) t) (12 + 2 * k + 1) m) 4 = W 4 := by rw [upd, if_neg (by omega), upd, if_neg (by omega)]
  have n4 : nW (upd (upd W (12 + 2 * k) t) (12 + 2 * k + 1) m) 4 = nW W 4 := nW_c e4
  have q := h.stays (W' := upd (upd W (12 + 2 * k) t) (12 + 2 * k + 1) m) (k := k) (t := t) (m := m) h6 e4 (by rw [n4, e4]; exact h.bd.n4) (fun i hi _ => by rw [n4] at hi; exact hi) (fun j h1 h2 h3 => by rw [upd, if_neg h3, upd, if_neg h2]) (by rw [upd, if_neg (by omega), upd, if_pos rfl]) (by rw [upd, if_pos rfl])
  rw [show (bfl A W).set 8 (.int (W 4)) = bfl A W from rfl, x_set h.bd.ob.1] at q
  exact q
/-- a new one -/
theorem RDS.stay2 {X0 X : AH} {r b n : Nat} {L : LX} {W : Nat → Int32} {A : BA} (h : RDS X0 r b n X (L, W) A) {t m : Int32} (hk : frS W t = none) (h6 : nW W 4 < 6) : RDS X0 r b n (((X.set b (.inr (2, (bfl A W).set 8 (.int (W 4 + 1))))).set A.f (.inl (0, 6, .inl (upd A.ff (nW W 4) t)))).set A.s (.inl (0, 6, .inl (upd A.sf (nW W 4) m)))) (L, stU W t m) (A.at (nW W 4) t m) := by
  rw [stU_n9 hk]
  have e4 : (upd (upd (upd W 4 (W 4 + 1)) (12 + 2 * nW W 4) t) (12 + 2 * nW W 4 + 1) m) 4 = W 4 + 1 := by rw [upd, if_neg (by omega), upd, if_neg (by omega), upd, if_pos rfl]
  have en : W 4 + 1 = nI (nW W 4 + 1) := by
    have := h.bd.n4.1
    dsimp only at this
    rw [← nI_1, ← this]
  have n4 : nW (upd (upd (upd W 4 (W 4 + 1)) (12 + 2 * nW W 4) t) (12 + 2 * nW W 4 + 1) m) 4 = nW W 4 + 1 := nW_n (e4.trans en) (by omega)
  exact h.stays h6 e4 (by rw [n4, e4]; exact ⟨en, by omega⟩) (fun i hi q => by rw [n4] at hi; omega) (fun j h1 h2 h3 => by rw [upd, if_neg h3, upd, if_neg h2, upd, if_neg h1]) (by rw [upd, if_neg (by omega), upd, if_pos rfl]) (by rw [upd, if_pos rfl])
section ST
variable {T : Nat → Int32} {n : Nat} {L : LX} {W : Nat → Int32}
theorem stay_eq {s : PX} : pStay T n s = pStE (pNu T n 0 (pOf (fun W => W 2 - 1) (pStF (pNe T n 2 (pNu T n 1 40 s).2))) (pStF (pNe T n 2 (pNu T n 1 40 s).2))).1 (pNu T n 1 40 s).1 (pNu T n 0 (pOf (fun W => W 2 - 1) (pStF (pNe T n 2 (pNu T n 1 40 s).2))) (pStF (pNe T n 2 (pNu T n 1 40 s).2))).2 := rfl
theorem stF_b (h1 : lTk L = 2) (h2 : lVa L < W 2) (h3 : W 4 = 6) (h4 : frS W (lVa L) = none) : pStF (.inr (L, W)) = .inl (3, nI (lFr L)) := if_pos ⟨h1, h2, h3, h4⟩
theorem stF_g (h : ¬ (lTk L = 2 ∧ lVa L < W 2 ∧ W 4 = 6 ∧ frS W (lVa L) = none)) : pStF (.inr (L, W)) = .inr (L, W) := if_neg h
theorem onI_n9 {W : Nat → Int32} {t : Int32} (hn : nW W 4 ≤ 6) (h : onI (frS W t) = -1) : frS W t = none := by
  cases q : frS W t with
  | none => rfl
  | some k =>
    rw [q] at h
    have h3 := frS_lt q
    have h2 := congrArg Int32.toInt (show nI k = -1 from h)
    rw [nI_toInt (by omega)] at h2
    exact absurd h2 (by rw [show (-1 : Int32).toInt = -1 from rfl]; omega)
theorem onI_so {o : Option Nat} (h : ¬ onI o = -1) : ∃ k, o = some k := by
  cases o with
  | none => exact absurd rfl h
  | some k => exact ⟨k, rfl⟩
theorem in_lt (hs : WFs W) {v : Int32} (h : inI v 0 (W 2 - 1) = true) : v < W 2 := by
  rw [hs.tk.1] at h ⊢
  obtain ⟨j, hj, rfl⟩ := in_of (by have := hs.tk.2; omega) h
  exact nI_lt hj (by have := hs.tk.2; omega)
theorem in_ge (hs : WFs W) {j : Nat} (hj : j ≤ 99999) (h : inI (nI j) 0 (W 2 - 1) = false) : ¬ nI j < W 2 := fun q => by
  rw [hs.tk.1] at h q
  have h2 : j < nW W 2 := by
    rw [Int32.lt_iff_toInt_lt, nI_toInt (by omega), nI_toInt (by have := hs.tk.2; omega)] at q
    omega
  rw [in_is (by have := hs.tk.2; omega) h2] at h
  cases h
end ST
