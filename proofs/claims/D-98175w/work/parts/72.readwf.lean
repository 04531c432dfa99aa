-- PART 72.readwf
/-! ===== boards that are boards; what is read is one ===== -/
set_option maxRecDepth 100000
theorem nx_or2 (a b : Nat) : nI a ||| nI b = nI (a ||| b) := by
  apply Int32.toBitVec_inj.1
  show BitVec.ofNat 32 a ||| BitVec.ofNat 32 b = BitVec.ofNat 32 (a ||| b)
  apply BitVec.eq_of_getLsbD_eq
  intro i hi
  simp [hi]
theorem bit_n {h : Nat} (hh : h < 12) : ((1 : Int32) <<< (nI h &&& 31)) = nI (2 ^ h) := by
  have D : ∀ h, h < 12 → ((1 : Int32) <<< (nI h &&& 31)) = nI (2 ^ h) := by decide +kernel
  exact D h hh
theorem sm_n {h : Nat} (hh : h < 12) : ((nI h &&& 31).toBitVec.smod 32).toNat = h := by
  have D : ∀ h, h < 12 → ((nI h &&& 31).toBitVec.smod 32).toNat = h := by decide +kernel
  exact D h hh
theorem shW_n {W : Nat → Int32} {s h : Nat} (hW : W 7 = nI s) (hs : s < 4096) (hh : h < 12) : shW W (nI h) = s.testBit h := by
  unfold shW
  rw [hW, pk_shrN (by omega) _ h (sm_n hh), pk_andN (by have := Nat.div_le_self s (2 ^ h); omega) 1 rfl, Nat.testBit_eq_decide_div_mod_eq, decide_eq_decide]
  exact nI_eq (b := 1) (by omega) (by omega)
def WFt (W : Nat → Int32) : Prop := ∀ k, k < nW W 4 → (∃ t m, W (12 + 2 * k) = nI t ∧ t < nW W 2 ∧ W (12 + 2 * k + 1) = nI m ∧ 1 ≤ m ∧ m ≤ 40) ∧ ∀ j, j < nW W 4 → W (12 + 2 * j) = W (12 + 2 * k) → j = k
/-- the k-th coming: its hole, the other one, red or not -/
def CoK (W : Nat → Int32) (k a : Nat) (o : Option Nat) (r : Bool) : Prop := W (24 + 3 * k) = nI a ∧ W (24 + 3 * k + 1) = onI o ∧ W (24 + 3 * k + 2) = b2i r ∧ a < hoN W ∧ shW W (nI a) = false ∧ ∀ b, o = some b → b < hoN W ∧ shW W (nI b) = false ∧ b ≠ a
def WFc (W : Nat → Int32) : Prop := ∀ k, k < nW W 5 → ∃ a o r, CoK W k a o r
def WFz (W : Nat → Int32) : Prop := ∀ k, 116 ≤ k → W k = 0
/-- a board, but for how many lines it has and what the tickets are -/
def WFb (W : Nat → Int32) : Prop := WFs W ∧ WFt W ∧ WFc W ∧ WFp W ∧ WFz W ∧ (nW W 8 < nW W 5 ∨ W 8 = 0)
/-- lines, tickets -/
def WFl (W : Nat → Int32) (L : Nat) : Prop := ∃ m, W 9 = nI m ∧ m ≤ L ∧ (m = 0 → ∀ k, W k = 0) ∧ (0 < m → 1 ≤ nW W 0 ∧ 1 ≤ nW W 1 ∧ 1 ≤ nW W 2 ∧ ∃ a b, W 10 = nI a ∧ W 11 = nI b ∧ 1 ≤ a ∧ a ≤ 99 ∧ 1 ≤ b ∧ b ≤ 500)
def WFa (W : Nat → Int32) : Prop := WFb W ∧ WFl W 1200
section CG
variable {W W' : Nat → Int32}
theorem nW_c {j : Nat} (h : W' j = W j) : nW W' j = nW W j := by unfold nW; rw [h]
/-- sizes of a board that is changed elsewhere -/
theorem WFs.cg (h : WFs W) (e : ∀ j, j < 9 → W' j = W j) : WFs W' := by
  unfold WFs at h ⊢
  simp only [nW, e 0 (by omega), e 1 (by omega), e 2 (by omega), e 3 (by omega), e 4 (by omega), e 5 (by omega), e 6 (by omega), e 7 (by omega), e 8 (by omega)] at h ⊢
  exact h
theorem hoN_c (e0 : W' 0 = W 0) (e1 : W' 1 = W 1) : hoN W' = hoN W := by unfold hoN; rw [nW_c e0, nW_c e1]
theorem shW_c (e7 : W' 7 = W 7) (x : Int32) : shW W' x = shW W x := by unfold shW; rw [e7]
theorem WFt.cg (h : WFt W) (e : ∀ j, j = 2 ∨ j = 4 ∨ (12 ≤ j ∧ j < 12 + 2 * nW W 4) → W' j = W j) : WFt W' := by
  unfold WFt
  rw [nW_c (e 4 (by omega)), nW_c (e 2 (by omega))]
  intro k hk
  rw [e (12 + 2 * k) (by omega), e (12 + 2 * k + 1) (by omega)]
  refine ⟨(h k hk).1, fun j hj q => (h k hk).2 j hj ?_⟩
  rw [e (12 + 2 * j) (by omega)] at q
  exact q
theorem CoK.cg {k a : Nat} {o : Option Nat} {r : Bool} (h : CoK W k a o r) (e : ∀ j, j = 0 ∨ j = 1 ∨ j = 7 ∨ (24 + 3 * k ≤ j ∧ j < 24 + 3 * k + 3) → W' j = W j) : CoK W' k a o r := by
  unfold CoK
  rw [hoN_c (e 0 (by omega)) (e 1 (by omega)), e (24 + 3 * k) (by omega), e (24 + 3 * k + 1) (by omega), e (24 + 3 * k + 2) (by omega), shW_c (e 7 (by omega))]
  refine ⟨h.1, h.2.1, h.2.2.1, h.2.2.2.1, h.2.2.2.2.1, fun b hb => ?_⟩
  rw [shW_c (e 7 (by omega))]
  exact h.2.2.2.2.2 b hb
theorem WFc.cg (h : WFc W) (e : ∀ j, j = 0 ∨ j = 1 ∨ j = 7 ∨ j = 5 ∨ (24 ≤ j ∧ j < 96) → W' j = W j) (h24 : nW W 5 ≤ 24) : WFc W' := by
  unfold WFc
  rw [nW_c (e 5 (by omega))]
  intro k hk
  obtain ⟨a, o, r, q⟩ := h k hk
  exact ⟨a, o, r, q.cg (fun j hj => e j (by omega))⟩
theorem WFp.cg (h : WFp W) (e : ∀ j, j = 0 ∨ j = 1 ∨ j = 6 ∨ (96 ≤ j ∧ j < 116) → W' j = W j) (h4 : nW W 6 ≤ 4) : WFp W' := by
  unfold WFp
  rw [nW_c (e 6 (by omega)), hoN_c (e 0 (by omega)) (e 1 (by omega))]
  intro p hp
  have q := h p hp
  simp only [nW, e (96 + 5 * p) (by omega), e (96 + 5 * p + 1) (by omega), e (96 + 5 * p + 2) (by omega), e (96 + 5 * p + 3) (by omega), e (96 + 5 * p + 4) (by omega)] at q ⊢
  exact q
end CG
theorem nW_n {W : Nat → Int32} {j k : Nat} (h : W j = nI k) (hk : k < 2147483648) : nW W j = k := by unfold nW; rw [h, nI_clamp hk]
/-- no board at all -/
theorem WFb.zero {W : Nat → Int32} (h : ∀ k, W k = 0) : WFb W := by
  have n0 : ∀ j, nW W j = 0 := fun j => by unfold nW; rw [h]; rfl
  have z : ∀ j, W j = nI 0 := h
  refine ⟨?_, fun k hk => absurd hk (by rw [n0]; omega), fun k hk => absurd hk (by rw [n0]; omega), fun p hp => absurd hp (by rw [n0]; omega), fun k _ => h k, Or.inr (h 8)⟩
  unfold WFs
  simp only [n0, z, Nat.zero_le, and_self, true_and]
  decide
/-- behind the first line -/
theorem WFb.fi {W W' : Nat → Int32} (h : ∀ k, W k = 0) (hf : Fi W W') : WFb W' ∧ 1 ≤ nW W' 0 ∧ 1 ≤ nW W' 1 ∧ 1 ≤ nW W' 2 ∧ W' 9 = 0 ∧ W' 10 = 1 ∧ W' 11 = 100 := by
  obtain ⟨a, b, c, d, ha, hb, hc, hd, rfl⟩ := hf
  generalize hV : upd (upd (upd (upd (upd (upd W 0 (nI a)) 1 (nI b)) 2 (nI c)) 3 (nI d)) 10 1) 11 100 = V
  have e0 : V 0 = nI a := by rw [← hV]; simp [upd]
  have e1 : V 1 = nI b := by rw [← hV]; simp [upd]
  have e2 : V 2 = nI c := by rw [← hV]; simp [upd]
  have e3 : V 3 = nI d := by rw [← hV]; simp [upd]
  have e10 : V 10 = 1 := by rw [← hV]; simp [upd]
  have e11 : V 11 = 100 := by rw [← hV]; simp [upd]
  have eo : ∀ j, 4 ≤ j → j ≠ 10 → j ≠ 11 → V j = nI 0 := fun j q1 q2 q3 => by
    rw [← hV, pk_un q3, pk_un q2, pk_un (by omega), pk_un (by omega), pk_un (by omega), pk_un (by omega)]
    exact h j
  have n0 := nW_n e0 (by omega)
  have n1 := nW_n e1 (by omega)
  have n2 := nW_n e2 (by omega)
  have n3 := nW_n e3 (by omega)
  have no : ∀ j, 4 ≤ j → j ≠ 10 → j ≠ 11 → nW V j = 0 := fun j q1 q2 q3 => nW_n (eo j q1 q2 q3) (by omega)
  refine ⟨⟨?_, fun k hk => absurd hk (by rw [no 4 (by omega) (by omega) (by omega)]; omega), fun k hk => absurd hk (by rw [no 5 (by omega) (by omega) (by omega)]; omega), fun p hp => absurd hp (by rw [no 6 (by omega) (by omega) (by omega)]; omega), fun k hk => eo k (by omega) (by omega) (by omega), Or.inr (eo 8 (by omega) (by omega) (by omega))⟩, by omega, by omega, by omega, eo 9 (by omega) (by omega) (by omega), e10, e11⟩
  unfold WFs
  rw [n0, n1, n2, n3, no 4 (by omega) (by omega) (by omega), no 5 (by omega) (by omega) (by omega), no 6 (by omega) (by omega) (by omega), no 7 (by omega) (by omega) (by omega), no 8 (by omega) (by omega) (by omega)]
  refine ⟨⟨e0, by omega⟩, ⟨e1, by omega⟩, ⟨e2, by omega⟩, ⟨e3, by omega⟩, ⟨eo 4 (by omega) (by omega) (by omega), by omega⟩, ⟨eo 5 (by omega) (by omega) (by omega), by omega⟩, ⟨eo 6 (by omega) (by omega) (by omega), by omega⟩, ⟨eo 7 (by omega) (by omega) (by omega), by omega⟩, ⟨eo 8 (by omega) (by omega) (by omega), by omega⟩⟩
theorem frI_no {W : Nat → Int32} {t : Int32} : ∀ (k i : Nat), frI W t k i = none → ∀ j, i ≤ j → j < i + k → W (12 + 2 * j) ≠ t := by
  intro k
  induction k with
  | zero => intro i _ j h1 h2; omega
  | succ k ih =>
    intro i h j h1 h2
    unfold frI at h
    split at h
    · cases h
    · rename_i hn
      by_cases q : j = i
      · rw [q]; exact hn
      · exact ih (i + 1) h j (by omega) (by omega)
theorem frI_is {W : Nat → Int32} {t : Int32} : ∀ (k i j : Nat), frI W t k i = some j → W (12 + 2 * j) = t := by
  intro k
  induction k with
  | zero => intro i j h; cases h
  | succ k ih =>
    intro i j h
    unfold frI at h
    split at h
    · rename_i hy
      cases h
      exact hy
    · exact ih (i + 1) j h
/-- the lines behind the first keep a board one -/
theorem WFb.l1 {W W' : Nat → Int32} (h : WFb W) (hl : Li1 W W') : WFb W' := by
  obtain ⟨hs, ht, hc, hp, hz, h8⟩ := h
  obtain ⟨t, m, ht2, hm, h6, rfl⟩ := hl
  have h24 := hs.nc.2
  have h4 := hs.ns.2
  have h46 := hs.np.2
  cases hf : frS W (nI t) with
  | some k =>
    have hk := frS_lt hf
    have hkt : W (12 + 2 * k) = nI t := frI_is _ _ _ hf
    rw [stU_s hf]
    generalize hV : upd (upd W (12 + 2 * k) (nI t)) (12 + 2 * k + 1) (nI m) = V
    have eo : ∀ j, j ≠ 12 + 2 * k → j ≠ 12 + 2 * k + 1 → V j = W j := fun j q1 q2 => by rw [← hV, pk_un q2, pk_un q1]
    have e1 : V (12 + 2 * k + 1) = nI m := by rw [← hV, pk_us]
    have e2 : V (12 + 2 * k) = nI t := by rw [← hV, pk_un (by omega), pk_us]
    have ev : ∀ j, V (12 + 2 * j) = W (12 + 2 * j) := fun j => by
      by_cases q : j = k
      · rw [q, e2, hkt]
      · exact eo _ (by omega) (by omega)
    refine ⟨hs.cg (fun j hj => eo j (by omega) (by omega)), ?_, hc.cg (fun j hj => eo j (by omega) (by omega)) h24, hp.cg (fun j hj => eo j (by omega) (by omega)) h46, fun j hj => (eo j (by omega) (by omega)).trans (hz j hj), ?_⟩
    · unfold WFt
      rw [nW_c (eo 4 (by omega) (by omega)), nW_c (eo 2 (by omega) (by omega))]
      intro j hj
      refine ⟨?_, fun i hi q => (ht j hj).2 i hi (by rw [ev, ev] at q; exact q)⟩
      rw [ev]
      obtain ⟨t1, m1, a1, a2, a3, a4⟩ := (ht j hj).1
      by_cases q : j = k
      · subst q
        exact ⟨t1, m, a1, a2, e1, hm⟩
      · exact ⟨t1, m1, a1, a2, by rw [eo _ (by omega) (by omega)]; exact a3, a4⟩
    · rw [nW_c (eo 8 (by omega) (by omega)), nW_c (eo 5 (by omega) (by omega)), eo 8 (by omega) (by omega)]
      exact h8
  | none =>
    have h4l : nW W 4 < 6 := Nat.lt_of_le_of_ne h4 (fun q => h6 (by rw [hs.ns.1, q]; rfl) hf)
    rw [stU_n hf]
    generalize hk : nW W 4 = k at *
    generalize hV : upd (upd (upd W 4 (W 4 + 1)) (12 + 2 * k) (nI t)) (12 + 2 * k + 1) (nI m) = V
    have eo : ∀ j, j ≠ 4 → j ≠ 12 + 2 * k → j ≠ 12 + 2 * k + 1 → V j = W j := fun j q0 q1 q2 => by rw [← hV, pk_un q2, pk_un q1, pk_un q0]
    have e1 : V (12 + 2 * k + 1) = nI m := by rw [← hV, pk_us]
    have e2 : V (12 + 2 * k) = nI t := by rw [← hV, pk_un (by omega), pk_us]
    have e4 : V 4 = nI (k + 1) := by
      rw [← hV, pk_un (by omega), pk_un (by omega), pk_us, hs.ns.1, hk]
      exact nI_1 k
    have n4 : nW V 4 = k + 1 := nW_n e4 (by omega)
    refine ⟨?_, ?_, hc.cg (fun j hj => eo j (by omega) (by omega) (by omega)) h24, hp.cg (fun j hj => eo j (by omega) (by omega) (by omega)) h46, fun j hj => (eo j (by omega) (by omega) (by omega)).trans (hz j hj), ?_⟩
    · obtain ⟨a0, a1, a2, a3, a4, a5, a6, a7, a8⟩ := hs
      unfold WFs
      simp only [nW, eo 0 (by omega) (by omega) (by omega), eo 1 (by omega) (by omega) (by omega), eo 2 (by omega) (by omega) (by omega), eo 3 (by omega) (by omega) (by omega), eo 5 (by omega) (by omega) (by omega), eo 6 (by omega) (by omega) (by omega), eo 7 (by omega) (by omega) (by omega), eo 8 (by omega) (by omega) (by omega)] at *
      exact ⟨a0, a1, a2, a3, ⟨by rw [n4]; exact e4, by rw [n4]; omega⟩, a5, a6, a7, a8⟩
    · unfold WFt
      rw [n4, nW_c (eo 2 (by omega) (by omega) (by omega))]
      have ev : ∀ j, j < k → V (12 + 2 * j) = W (12 + 2 * j) := fun j hj => eo _ (by omega) (by omega) (by omega)
      have hno : ∀ j, j < k → W (12 + 2 * j) ≠ nI t := fun j hj => frI_no _ _ (show frI W (nI t) (nW W 4) 0 = none from hf) j (Nat.zero_le _) (by omega)
      intro j hj
      by_cases q : j = k
      · subst q
        refine ⟨⟨t, m, e2, ht2, e1, hm⟩, fun i hi qq => ?_⟩
        by_cases qi : i = j
        · exact qi
        · rw [ev i (by omega), e2] at qq
          exact absurd qq (hno i (by omega))
      · obtain ⟨t1, m1, a1, a2, a3, a4⟩ := (ht j (by omega)).1
        refine ⟨⟨t1, m1, by rw [ev j (by omega)]; exact a1, a2, by rw [eo _ (by omega) (by omega) (by omega)]; exact a3, a4⟩, fun i hi qq => ?_⟩
        rw [ev j (by omega)] at qq
        by_cases qi : i = k
        · subst qi
          rw [e2] at qq
          exact absurd qq.symm (hno j (by omega))
        · rw [ev i (by omega)] at qq
          exact (ht j (by omega)).2 i (by omega) qq
    · rw [nW_c (eo 8 (by omega) (by omega) (by omega)), nW_c (eo 5 (by omega) (by omega) (by omega)), eo 8 (by omega) (by omega) (by omega)]
      exact h8
theorem isCo_no {W : Nat → Int32} {h : Int32} (q : isCo W h = false) {k : Nat} (hk : k < nW W 5) : W (24 + 3 * k) ≠ h ∧ W (24 + 3 * k + 1) ≠ h := by
  unfold isCo at q
  rw [Bool.not_eq_false'] at q
  have := eqK_all _ _ q k (Nat.zero_le _) (by omega)
  simpa using this
theorem WFb.l2 {W W' : Nat → Int32} (h : WFb W) (hl : Li2 W W') : WFb W' := by
  obtain ⟨hs, ht, hc, hp, hz, h8⟩ := h
  obtain ⟨x, hx, hsx, hco, rfl⟩ := hl
  have h12 := hs.ho12
  have h24 := hs.nc.2
  have h4 := hs.ns.2
  have h46 := hs.np.2
  have e7 : W 7 ||| ((1 : Int32) <<< (nI x &&& 31)) = nI (nW W 7 ||| 2 ^ x) := by
    rw [bit_n (by omega), hs.sh.1, nx_or2]
  have hlt : nW W 7 ||| 2 ^ x < 4096 := Nat.or_lt_two_pow (n := 12) hs.sh.2 (Nat.pow_lt_pow_right (by omega) (by omega))
  rw [e7]
  generalize hV : upd W 7 (nI (nW W 7 ||| 2 ^ x)) = V
  have eo : ∀ j, j ≠ 7 → V j = W j := fun j q => by rw [← hV, pk_un q]
  have e7 : V 7 = nI (nW W 7 ||| 2 ^ x) := by rw [← hV, pk_us]
  have n7 : nW V 7 = nW W 7 ||| 2 ^ x := nW_n e7 (by omega)
  have hsh : ∀ a, a < 12 → a ≠ x → shW V (nI a) = shW W (nI a) := fun a ha q => by
    rw [shW_n e7 hlt ha, shW_n hs.sh.1 hs.sh.2 ha, Nat.testBit_or, Nat.testBit_two_pow_of_ne (Ne.symm q), Bool.or_false]
  refine ⟨?_, ht.cg (fun j hj => eo j (by omega)), ?_, hp.cg (fun j hj => eo j (by omega)) h46, fun j hj => (eo j (by omega)).trans (hz j hj), ?_⟩
  · obtain ⟨a0, a1, a2, a3, a4, a5, a6, a7, a8⟩ := hs
    unfold WFs
    rw [n7]
    simp only [nW, eo 0 (by omega), eo 1 (by omega), eo 2 (by omega), eo 3 (by omega), eo 4 (by omega), eo 5 (by omega), eo 6 (by omega), eo 8 (by omega)] at *
    exact ⟨a0, a1, a2, a3, a4, a5, a6, ⟨e7, hlt⟩, a8⟩
  · intro k hk
    rw [nW_c (eo 5 (by omega))] at hk
    obtain ⟨a, o, r, q1, q2, q3, q4, q5, q6⟩ := hc k hk
    obtain ⟨n1, n2⟩ := isCo_no hco hk
    refine ⟨a, o, r, by rw [eo _ (by omega)]; exact q1, by rw [eo _ (by omega)]; exact q2, by rw [eo _ (by omega)]; exact q3, by rw [hoN_c (eo 0 (by omega)) (eo 1 (by omega))]; exact q4, ?_, fun b hb => ?_⟩
    · rw [hsh a (by omega) (fun q => n1 (by rw [q1, q]))]
      exact q5
    · obtain ⟨b1, b2, b3⟩ := q6 b hb
      refine ⟨by rw [hoN_c (eo 0 (by omega)) (eo 1 (by omega))]; exact b1, ?_, b3⟩
      rw [hsh b (by omega) (fun q => n2 (by rw [q2, hb, q]; rfl))]
      exact b2
  · rw [nW_c (eo 8 (by omega)), nW_c (eo 5 (by omega)), eo 8 (by omega)]
    exact h8
theorem WFb.l3 {W W' : Nat → Int32} (h : WFb W) (hl : Li3 W W') : WFb W' := by
  obtain ⟨hs, ht, hc, hp, hz, h8⟩ := h
  obtain ⟨a, o, r, ha, hsa, ho, hlt, rfl⟩ := hl
  have h24 := hs.nc.2
  have h4 := hs.ns.2
  have h46 := hs.np.2
  unfold coU
  generalize hk : nW W 5 = k at *
  generalize hV : upd (upd (upd (upd W (24 + 3 * k) (nI a)) (24 + 3 * k + 1) (onI o)) (24 + 3 * k + 2) (b2i r)) 5 (W 5 + 1) = V
  have eo : ∀ j, j ≠ 5 → j ≠ 24 + 3 * k → j ≠ 24 + 3 * k + 1 → j ≠ 24 + 3 * k + 2 → V j = W j := fun j q0 q1 q2 q3 => by rw [← hV, pk_un q0, pk_un q3, pk_un q2, pk_un q1]
  have e0 : V (24 + 3 * k) = nI a := by rw [← hV, pk_un (by omega), pk_un (by omega), pk_un (by omega), pk_us]
  have e1 : V (24 + 3 * k + 1) = onI o := by rw [← hV, pk_un (by omega), pk_un (by omega), pk_us]
  have e2 : V (24 + 3 * k + 2) = b2i r := by rw [← hV, pk_un (by omega), pk_us]
  have e5 : V 5 = nI (k + 1) := by
    rw [← hV, pk_us, hs.nc.1, hk]
    exact nI_1 k
  have n5 : nW V 5 = k + 1 := nW_n e5 (by omega)
  refine ⟨?_, ht.cg (fun j hj => eo j (by omega) (by omega) (by omega) (by omega)), ?_, hp.cg (fun j hj => eo j (by omega) (by omega) (by omega) (by omega)) h46, fun j hj => (eo j (by omega) (by omega) (by omega) (by omega)).trans (hz j hj), ?_⟩
  · obtain ⟨a0, a1, a2, a3, a4, a5, a6, a7, a8⟩ := hs
    unfold WFs
    simp only [nW, eo 0 (by omega) (by omega) (by omega) (by omega), eo 1 (by omega) (by omega) (by omega) (by omega), eo 2 (by omega) (by omega) (by omega) (by omega), eo 3 (by omega) (by omega) (by omega) (by omega), eo 4 (by omega) (by omega) (by omega) (by omega), eo 6 (by omega) (by omega) (by omega) (by omega), eo 7 (by omega) (by omega) (by omega) (by omega), eo 8 (by omega) (by omega) (by omega) (by omega)] at *
    exact ⟨a0, a1, a2, a3, a4, ⟨by rw [n5]; exact e5, by rw [n5]; omega⟩, a6, a7, a8⟩
  · intro j hj
    rw [n5] at hj
    by_cases q : j = k
    · subst q
      refine ⟨a, o, r, e0, e1, e2, by rw [hoN_c (eo 0 (by omega) (by omega) (by omega) (by omega)) (eo 1 (by omega) (by omega) (by omega) (by omega))]; exact ha, by rw [shW_c (eo 7 (by omega) (by omega) (by omega) (by omega))]; exact hsa, fun b hb => ?_⟩
      rw [hoN_c (eo 0 (by omega) (by omega) (by omega) (by omega)) (eo 1 (by omega) (by omega) (by omega) (by omega)), shW_c (eo 7 (by omega) (by omega) (by omega) (by omega))]
      exact ho b hb
    · obtain ⟨a1, o1, r1, q1⟩ := hc j (by omega)
      exact ⟨a1, o1, r1, q1.cg (fun i hi => eo i (by omega) (by omega) (by omega) (by omega))⟩
  · rw [nW_c (eo 8 (by omega) (by omega) (by omega) (by omega)), n5, eo 8 (by omega) (by omega) (by omega) (by omega)]
    exact h8.imp (fun q => by omega) id
theorem WFb.l4 {W W' : Nat → Int32} (h : WFb W) (hl : Li4 W W') : WFb W' := by
  obtain ⟨hs, ht, hc, hp, hz, h8⟩ := h
  obtain ⟨a, b, c, d, e, ha, hb, hcc, hd, he, hlt, rfl⟩ := hl
  have h24 := hs.nc.2
  have h4 := hs.ns.2
  have h46 := hs.np.2
  have h12 := hs.ho12
  generalize hk : nW W 6 = k at *
  generalize hV : upd (upd (upd (upd (upd (upd W (96 + 5 * k) (nI a)) (96 + 5 * k + 1) (nI b)) (96 + 5 * k + 2) (nI c)) (96 + 5 * k + 3) (nI d)) (96 + 5 * k + 4) (nI e)) 6 (W 6 + 1) = V
  have eo : ∀ j, j ≠ 6 → ¬ (96 + 5 * k ≤ j ∧ j < 96 + 5 * k + 5) → V j = W j := fun j q0 q1 => by rw [← hV, pk_un q0, pk_un (by omega), pk_un (by omega), pk_un (by omega), pk_un (by omega), pk_un (by omega)]
  have e0 : V (96 + 5 * k) = nI a := by rw [← hV, pk_un (by omega), pk_un (by omega), pk_un (by omega), pk_un (by omega), pk_un (by omega), pk_us]
  have e1 : V (96 + 5 * k + 1) = nI b := by rw [← hV, pk_un (by omega), pk_un (by omega), pk_un (by omega), pk_un (by omega), pk_us]
  have e2 : V (96 + 5 * k + 2) = nI c := by rw [← hV, pk_un (by omega), pk_un (by omega), pk_un (by omega), pk_us]
  have e3 : V (96 + 5 * k + 3) = nI d := by rw [← hV, pk_un (by omega), pk_un (by omega), pk_us]
  have e4 : V (96 + 5 * k + 4) = nI e := by rw [← hV, pk_un (by omega), pk_us]
  have e6 : V 6 = nI (k + 1) := by
    rw [← hV, pk_us, hs.np.1, hk]
    exact nI_1 k
  have n6 : nW V 6 = k + 1 := nW_n e6 (by omega)
  refine ⟨?_, ht.cg (fun j hj => eo j (by omega) (by omega)), hc.cg (fun j hj => eo j (by omega) (by omega)) h24, ?_, fun j hj => (eo j (by omega) (by omega)).trans (hz j hj), ?_⟩
  · obtain ⟨a0, a1, a2, a3, a4, a5, a6, a7, a8⟩ := hs
    unfold WFs
    simp only [nW, eo 0 (by omega) (by omega), eo 1 (by omega) (by omega), eo 2 (by omega) (by omega), eo 3 (by omega) (by omega), eo 4 (by omega) (by omega), eo 5 (by omega) (by omega), eo 7 (by omega) (by omega), eo 8 (by omega) (by omega)] at *
    exact ⟨a0, a1, a2, a3, a4, a5, ⟨by rw [n6]; exact e6, by rw [n6]; omega⟩, a7, a8⟩
  · unfold WFp
    rw [n6, hoN_c (eo 0 (by omega) (by omega)) (eo 1 (by omega) (by omega))]
    intro p hpp
    by_cases q : p = k
    · subst q
      rw [nW_n e0 (by omega), nW_n e1 (by omega), nW_n e2 (by omega), nW_n e3 (by omega), nW_n e4 (by omega)]
      exact ⟨⟨e0, ha⟩, ⟨e1, hb⟩, ⟨e2, hcc⟩, ⟨e3, hd⟩, e4, he⟩
    · have q1 := hp p (by omega)
      simp only [nW, eo (96 + 5 * p) (by omega) (by omega), eo (96 + 5 * p + 1) (by omega) (by omega), eo (96 + 5 * p + 2) (by omega) (by omega), eo (96 + 5 * p + 3) (by omega) (by omega), eo (96 + 5 * p + 4) (by omega) (by omega)] at q1 ⊢
      exact q1
  · rw [nW_c (eo 8 (by omega) (by omega)), nW_c (eo 5 (by omega) (by omega)), eo 8 (by omega) (by omega)]
    exact h8
/-- numbers of lines and tickets are apart from the rest -/
theorem WFb.far {W W' : Nat → Int32} (h : WFb W) (e : ∀ j, j ≠ 9 → j ≠ 10 → j ≠ 11 → W' j = W j) : WFb W' := by
  obtain ⟨hs, ht, hc, hp, hz, h8⟩ := h
  have h24 := hs.nc.2
  have h4 := hs.ns.2
  have h46 := hs.np.2
  refine ⟨hs.cg (fun j hj => e j (by omega) (by omega) (by omega)), ht.cg (fun j hj => e j (by omega) (by omega) (by omega)), hc.cg (fun j hj => e j (by omega) (by omega) (by omega)) h24, hp.cg (fun j hj => e j (by omega) (by omega) (by omega)) h46, fun j hj => (e j (by omega) (by omega) (by omega)).trans (hz j hj), ?_⟩
  rw [nW_c (e 8 (by omega) (by omega) (by omega)), nW_c (e 5 (by omega) (by omega) (by omega)), e 8 (by omega) (by omega) (by omega)]
  exact h8
section RW2
variable {T : Nat → Int32} {n : Nat}
theorem pLin_c {x y : LX × (Nat → Int32)} (hL : lAt x.1 ≤ n) (hs : WFs x.2) (h : pLin T n (.inr x) = .inr y) : (Li1 x.2 y.2 ∨ Li2 x.2 y.2 ∨ Li3 x.2 y.2 ∨ Li4 x.2 y.2 ∨ Li5 x.2 y.2) ∧ Adv T n x.1 y.1 := by
  have hA : Adv T n x.1 (lx T n (lAt x.1)) := Adv.one hL
  unfold pLin at h
  dsimp only at h
  split at h
  · obtain ⟨a, b⟩ := pStay_c (x := (lx T n (lAt x.1), x.2)) hs h
    exact ⟨Or.inl a, b _ hA⟩
  · split at h
    · obtain ⟨a, b⟩ := pShut_c (x := (lx T n (lAt x.1), x.2)) hs h
      exact ⟨Or.inr (Or.inl a), b _ hA⟩
    · split at h
      · split at h
        · cases h
        · rename_i h5
          obtain ⟨a, b⟩ := pCom_c (x := (lx T n (lAt x.1), x.2)) hs (Nat.lt_of_le_of_ne hs.nc.2 (fun q => h5 (by rw [hs.nc.1, q]; rfl))) h
          exact ⟨Or.inr (Or.inr (Or.inl a)), b _ hA⟩
      · split at h
        · split at h
          · cases h
          · rename_i h6
            obtain ⟨a, b⟩ := pPla_c (x := (lx T n (lAt x.1), x.2)) hs (Nat.lt_of_le_of_ne hs.np.2 (fun q => h6 (by rw [hs.np.1, q]; rfl))) h
            exact ⟨Or.inr (Or.inr (Or.inr (Or.inl a))), b _ hA⟩
        · split at h
          · obtain ⟨a, b⟩ := pTic_c (x := (lx T n (lAt x.1), x.2)) h
            exact ⟨Or.inr (Or.inr (Or.inr (Or.inr a))), b _ hA⟩
          · cases h
/-- one line keeps a board one, and the text gets shorter -/
theorem pOne_c {x y : LX × (Nat → Int32)} (hL : lAt x.1 ≤ n) (hn : n ≤ 1200) (hb : WFb x.2) (hl : WFl x.2 (lAt x.1)) (h : pOne T n (.inr x) = .inr y) : lAt x.1 + 1 ≤ lAt y.1 ∧ lAt y.1 ≤ n ∧ WFb y.2 ∧ WFl y.2 (lAt y.1) := by
  obtain ⟨m, m1, m2, m3, m4⟩ := hl
  obtain ⟨z, h1, e1, l1⟩ := pIn_c h
  cases h2 : pSem (if x.2 9 = 0 then pFi T n (.inr x) else pLin T n (.inr x)) with
  | inl f => rw [h2] at h1; cases h1
  | inr u =>
    rw [h2] at h1
    have h1 : pGo T n u.1 u.2 = .inr z := h1
    cases h1
    have hu : (if x.2 9 = 0 then pFi T n (.inr x) else pLin T n (.inr x)) = .inr u ∧ lTk u.1 = 3 := by
      generalize (if x.2 9 = 0 then pFi T n (.inr x) else pLin T n (.inr x)) = s9 at *
      cases s9 with
      | inl f => cases h2
      | inr w =>
        unfold pSem at h2
        dsimp only at h2
        split at h2
        · cases h2; exact ⟨rfl, by assumption⟩
        · cases h2
    obtain ⟨hu, h3⟩ := hu
    have key : Adv T n x.1 u.1 ∧ WFb u.2 ∧ u.2 9 = x.2 9 ∧ 1 ≤ nW u.2 0 ∧ 1 ≤ nW u.2 1 ∧ 1 ≤ nW u.2 2 ∧ ∃ a b, u.2 10 = nI a ∧ u.2 11 = nI b ∧ 1 ≤ a ∧ a ≤ 99 ∧ 1 ≤ b ∧ b ≤ 500 := by
      split at hu
      · rename_i h9
        have hm : m = 0 := (nI_eq (a := m) (b := 0) (by omega) (by omega)).mp (by rw [← m1]; exact h9)
        obtain ⟨hf, ha⟩ := pFi_c hL hu
        obtain ⟨q1, q2, q3, q4, q5, q6, q7⟩ := WFb.fi (m3 hm) hf
        exact ⟨ha, q1, q5.trans h9.symm, q2, q3, q4, 1, 100, q6, q7, by omega, by omega, by omega, by omega⟩
      · rename_i h9
        have hm : 0 < m := Nat.pos_of_ne_zero (fun q => h9 (by rw [m1, q]; rfl))
        obtain ⟨hf, ha⟩ := pLin_c hL hb.1 hu
        obtain ⟨k0, k1, k2, a, b, k3⟩ := m4 hm
        refine ⟨ha, ?_⟩
        have same : ∀ j : Nat, (∀ i, i ≤ 2 ∨ i = 9 ∨ i = 10 ∨ i = 11 → u.2 i = x.2 i) → u.2 9 = x.2 9 ∧ 1 ≤ nW u.2 0 ∧ 1 ≤ nW u.2 1 ∧ 1 ≤ nW u.2 2 ∧ ∃ a b, u.2 10 = nI a ∧ u.2 11 = nI b ∧ 1 ≤ a ∧ a ≤ 99 ∧ 1 ≤ b ∧ b ≤ 500 := fun _ e => by
          rw [e 9 (by omega), nW_c (e 0 (by omega)), nW_c (e 1 (by omega)), nW_c (e 2 (by omega)), e 10 (by omega), e 11 (by omega)]
          exact ⟨rfl, k0, k1, k2, a, b, k3⟩
        have q4 := hb.1.ns.2
        have q5 := hb.1.nc.2
        have q6 := hb.1.np.2
        rcases hf with q | q | q | q | q
        · refine ⟨hb.l1 q, same 0 (fun i hi => ?_)⟩
          obtain ⟨t, m, -, -, -, e⟩ := q
          rw [e]
          cases hfr : frS x.2 (nI t) with
          | some k => rw [stU_s hfr, pk_un (by omega), pk_un (by omega)]
          | none => rw [stU_n hfr, pk_un (by omega), pk_un (by omega), pk_un (by omega)]
        · refine ⟨hb.l2 q, same 0 (fun i hi => ?_)⟩
          obtain ⟨h, -, -, -, e⟩ := q
          rw [e, pk_un (by omega)]
        · refine ⟨hb.l3 q, same 0 (fun i hi => ?_)⟩
          obtain ⟨a, o, r, -, -, -, -, e⟩ := q
          rw [e, coU, pk_un (by omega), pk_un (by omega), pk_un (by omega), pk_un (by omega)]
        · refine ⟨hb.l4 q, same 0 (fun i hi => ?_)⟩
          obtain ⟨a, b, c, d, e', -, -, -, -, -, -, e⟩ := q
          rw [e, pk_un (by omega), pk_un (by omega), pk_un (by omega), pk_un (by omega), pk_un (by omega), pk_un (by omega)]
        · obtain ⟨a1, b1, ⟨a2, a3⟩, ⟨b2, b3⟩, e⟩ := q
          have eo : ∀ j, j ≠ 10 → j ≠ 11 → u.2 j = x.2 j := fun j j1 j2 => by rw [e, pk_un j2, pk_un j1]
          refine ⟨hb.far (fun j _ j1 j2 => eo j j1 j2), eo 9 (by omega) (by omega), by rw [nW_c (eo 0 (by omega) (by omega))]; exact k0, by rw [nW_c (eo 1 (by omega) (by omega))]; exact k1, by rw [nW_c (eo 2 (by omega) (by omega))]; exact k2, a1, b1, by rw [e, pk_un (by omega), pk_us], by rw [e, pk_us], a2, a3, b2, b3⟩
    obtain ⟨⟨i, i1, i2, i3⟩, kb, k9, k0, k1, k2, a, b, k3⟩ := key
    have s1 : lAt u.1 = lFr u.1 + 1 := by rw [i3] at h3 ⊢; exact lx_sg h3
    have s2 : i ≤ lFr u.1 := by rw [i3]; exact lx_fr i2
    have s3 : lAt u.1 ≤ n := by rw [i3]; exact (lx_ok i2).2.1
    have t1 : lAt y.1 = lAt (lx T n (lAt u.1)) := by rw [l1]
    have t2 := lx_ok (T := T) s3
    have t3 := lx_fr (T := T) s3
    have eo : ∀ j, j ≠ 9 → y.2 j = u.2 j := fun j hj => by rw [e1, pk_un hj]
    refine ⟨by omega, by omega, kb.far (fun j hj _ _ => eo j hj), m + 1, ?_, by omega, fun q => by omega, fun _ => ⟨by rw [nW_c (eo 0 (by omega))]; exact k0, by rw [nW_c (eo 1 (by omega))]; exact k1, by rw [nW_c (eo 2 (by omega))]; exact k2, a, b, by rw [eo 10 (by omega), eo 11 (by omega)]; exact k3⟩⟩
    rw [e1, pk_us]
    show u.2 9 + 1 = _
    rw [k9, m1]
    exact nI_1 m
end RW2
