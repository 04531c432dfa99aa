-- PART 996.samepic
/-! ===== a board copied ===== -/
def pW (W : Nat → Int32) (i q : Nat) : Nat → Int32 := fun x => if x = 5 then nI i else if x = 6 then nI q else if 24 ≤ x ∧ x < 24 + 3 * i then W x else if 96 ≤ x ∧ x < 96 + 5 * q then W x else 0
theorem pW_0 (W : Nat → Int32) : ∀ k, pW W 0 0 k = 0 := fun k => by
  unfold pW
  split
  · rfl
  · split
    · rfl
    · rw [if_neg (by omega), if_neg (by omega)]
theorem pW_5 (W : Nat → Int32) (i q : Nat) : pW W i q 5 = nI i := rfl
theorem pW_6 (W : Nat → Int32) (i q : Nat) : pW W i q 6 = nI q := rfl
theorem pW_n5 (W : Nat → Int32) {i : Nat} (q : Nat) (h : i < 1000) : nW (pW W i q) 5 = i := nW_n (pW_5 W i q) (by omega)
theorem pW_n6 (W : Nat → Int32) (i : Nat) {q : Nat} (h : q < 1000) : nW (pW W i q) 6 = q := nW_n (pW_6 W i q) (by omega)
theorem pW_m {W : Nat → Int32} {i q k : Nat} (h : k < i) : mofl (pW W i q) k = mofl W k := by
  have e : ∀ w, w < 3 → pW W i q (24 + 3 * k + w) = W (24 + 3 * k + w) := fun w hw => by
    unfold pW
    rw [if_neg (by omega), if_neg (by omega), if_pos (by omega)]
  have e0 := e 0 (by omega)
  rw [Nat.add_zero] at e0
  unfold mofl
  rw [e0, e 1 (by omega), e 2 (by omega)]
theorem pW_am (W : Nat → Int32) (i q : Nat) (hi : i < 24) : ∀ j, j ≠ 5 → (j < 24 + 3 * i ∨ 24 + 3 * i + 3 ≤ j) → pW W (i + 1) q j = pW W i q j := fun j h5 h => by
  unfold pW
  rw [if_neg h5, if_neg h5]
  split
  · rfl
  · by_cases z : 24 ≤ j ∧ j < 24 + 3 * i
    · rw [if_pos z, if_pos (by omega)]
    · rw [if_neg z, if_neg (by omega)]
theorem pW_ap (W : Nat → Int32) (i q : Nat) (hi : i ≤ 24) : ∀ j, j ≠ 6 → (j < 96 + 5 * q ∨ 96 + 5 * q + 5 ≤ j) → pW W i (q + 1) j = pW W i q j := fun j h6 h => by
  unfold pW
  split
  · rfl
  · try rw [if_neg h6]
    try rw [if_neg h6]
    split
    · rfl
    · by_cases z : 96 ≤ j ∧ j < 96 + 5 * q
      · rw [if_pos z, if_pos (by omega)]
      · rw [if_neg z, if_neg (by omega)]
theorem pW_p {W : Nat → Int32} {i q k w : Nat} (h : k < q) (hw : w < 5) (hi : i ≤ 24) : pW W i q (96 + 5 * k + w) = W (96 + 5 * k + w) := by
  unfold pW
  rw [if_neg (by omega), if_neg (by omega), if_neg (by omega), if_pos (by omega)]
theorem XE.split {X X' : AH} (h : XE X X') : X' = X ++ X'.drop X.length := by
  apply List.ext_getElem?
  intro i
  by_cases q : i < X.length
  · rw [List.getElem?_append_left q, List.getElem?_eq_getElem q]
    exact h i _ (List.getElem?_eq_getElem q)
  · rw [List.getElem?_append_right (by omega), List.getElem?_drop]
    congr 1
    omega
theorem XE.len {X X' : AH} (h : XE X X') : X.length ≤ X'.length := by
  have := congrArg List.length h.split
  rw [List.length_append] at this
  omega
def BA.fi (A : BA) (F1 F2 : Nat → Int32) (tk ec : Int32) : BA := (A.1, A.2.1, (fun i => if i = 0 then A.dm else if i = 1 then A.pm else if i = 2 then tk else ec), A.2.2.2.1, A.2.2.2.2.1, F1, F2)
theorem BD.fin {X : AH} {lo hi b : Nat} {A : BA} {Wp W : Nat → Int32} (h : BD X lo hi b A Wp) {F1 F2 : Nat → Int32} {tk ec : Int32} (h5 : W 5 = Wp 5) (h6 : W 6 = Wp 6) (hm : ∀ k, k < nW W 5 → mofl Wp k = mofl W k) (hp : ∀ k i, k < nW W 6 → i < 5 → Wp (96 + 5 * k + i) = W (96 + 5 * k + i)) (h4 : W 4 = nI (nW W 4) ∧ nW W 4 ≤ 6) (hst : ∀ k, k < nW W 4 → F1 k = W (12 + 2 * k) ∧ F2 k = W (12 + 2 * k + 1)) (hte : W 0 ≠ 0 → tk = W 10 ∧ ec = W 11) : BD (((X.set A.f (.inl (0, 6, .inl F1))).set A.s (.inl (0, 6, .inl F2))).set b (.inr (2, bfl (A.fi F1 F2 tk ec) W))) lo hi b (A.fi F1 F2 tk ec) W := by
  have n5 : nW W 5 = nW Wp 5 := nW_c h5
  have n6 : nW W 6 = nW Wp 6 := nW_c h6
  have hf := h.of.1
  have hs := h.os.1
  have hb := h.ob.1
  have hfb : A.f ≠ b := fun z => by rw [z, hb] at hf; cases hf
  have hsb : A.s ≠ b := fun z => by rw [z, hb] at hs; cases hs
  have hs1 : (X.set A.f (.inl (0, 6, .inl F1)))[A.s]? = some (.inl (0, 6, .inl A.sf)) := (List.getElem?_set_ne h.fs).trans hs
  have hb1 : ((X.set A.f (.inl (0, 6, .inl F1))).set A.s (.inl (0, 6, .inl F2)))[b]? = some (.inr (2, bfl A Wp)) := ((List.getElem?_set_ne hsb).trans (List.getElem?_set_ne hfb)).trans hb
  have thr : ∀ {a : Nat} {x : AE}, DX X lo hi a x → (∀ f, x ≠ .inl (0, 6, .inl f)) → (∀ f, x ≠ .inr (2, f)) → DX (((X.set A.f (.inl (0, 6, .inl F1))).set A.s (.inl (0, 6, .inl F2))).set b (.inr (2, bfl (A.fi F1 F2 tk ec) W))) lo hi a x := fun d z1 z2 => ((d.other hf (z1 _)).other hs1 (z1 _)).other hb1 (z2 _)
  refine ⟨h.dy, ⟨List.getElem?_set_self (by rw [List.length_set, List.length_set]; exact (List.getElem?_eq_some_iff.mp hb).1), h.ob.2⟩, ?_, thr h.oq (by simp) (by simp), ?_, thr h.orr (by simp) (by simp), ?_, ?_, h.fs, hte, ?_, ?_, h4, fun k hk => ?_, fun i j hi hj q => h.mi i j (by omega) (by omega) q, fun k hk => ?_, fun i j hi hj q => h.pj i j (by omega) (by omega) q, hst⟩
  · rw [n5]; exact thr h.od (by simp) (by simp)
  · rw [n6]; exact thr h.op (by simp) (by simp)
  · refine ⟨?_, h.of.2⟩
    show (((X.set A.f _).set A.s _).set b _)[A.f]? = _
    rw [List.getElem?_set_ne (Ne.symm hfb), List.getElem?_set_ne (Ne.symm h.fs), List.getElem?_set_self (List.getElem?_eq_some_iff.mp hf).1]
    rfl
  · refine ⟨?_, h.os.2⟩
    show (((X.set A.f _).set A.s _).set b _)[A.s]? = _
    rw [List.getElem?_set_ne (Ne.symm hsb), List.getElem?_set_self (by rw [List.length_set]; exact (List.getElem?_eq_some_iff.mp hs).1)]
    rfl
  · rw [n5, h5]; exact h.n5
  · rw [n6, h6]; exact h.n6
  · rw [← hm k hk]
    rw [n5] at hk
    exact ⟨(h.mo k hk).1, thr (h.mo k hk).2 (by simp) (by simp)⟩
  · have hk2 := hk
    rw [n6] at hk
    obtain ⟨p1, p2, p3, p4⟩ := h.pl k hk
    exact ⟨p1, thr p2 (by simp) (by simp), thr p3 (by simp) (by simp), fun i hi => by rw [← hp k i hk2 hi]; exact p4 i hi⟩
theorem set2_it {X : AH} {t q d : Nat} {fs f2 : List Value} {x e1 e2 : AE} (ht : X[t]? = some (.inr (13, fs))) (hq : X[q]? = some x) (hx : ∀ z, x ≠ .inr (13, z)) (hd : X[d]? = some (.inr (3, f2))) : ((X.set q e1).set d e2)[t]? = some (.inr (13, fs)) := by
  have n1 : q ≠ t := fun z => by rw [z, ht] at hq; exact hx _ (Option.some.inj hq).symm
  have n2 : d ≠ t := fun z => by rw [z, ht] at hd; cases hd
  rw [List.getElem?_set_ne n2, List.getElem?_set_ne n1]
  exact ht
