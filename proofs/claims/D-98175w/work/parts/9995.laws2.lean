-- PART 9995.laws2
/-! ===== plain laws: two ===== -/
set_option maxRecDepth 100000
theorem bit_l (x : Int32) {k : Nat} (hk : k < 12) : decide ((x >>> (nI k &&& 31)) &&& 1 = 1) = x.toBitVec.getLsbD k := by
  have e : ((x >>> (nI k &&& 31)) &&& 1).toBitVec = (x.toBitVec.sshiftRight k) &&& 1#32 := by
    show (x.toBitVec.sshiftRight' ((nI k &&& 31).toBitVec.smod 32)) &&& 1#32 = _
    unfold BitVec.sshiftRight'
    rw [sm_n hk]
  have e2 : ((x >>> (nI k &&& 31)) &&& 1 = 1) ↔ (x.toBitVec.sshiftRight k) &&& 1#32 = 1#32 := by
    rw [← Int32.toBitVec_inj, e]
    exact Iff.rfl
  have e3 : (x.toBitVec.sshiftRight k).getLsbD 0 = x.toBitVec.getLsbD k := by
    rw [BitVec.getLsbD_sshiftRight]
    simp
    omega
  have e4 : x.toBitVec.sshiftRight k &&& 1#32 = BitVec.setWidth 32 (BitVec.ofBool (x.toBitVec.getLsbD k)) := by
    rw [BitVec.and_one_eq_setWidth_ofBool_getLsbD, e3]
  have e5 : (x.toBitVec.sshiftRight k &&& 1#32 = 1#32) ↔ (x.toBitVec.getLsbD k = true) := by
    rw [e4]
    cases x.toBitVec.getLsbD k <;> decide
  cases hB : x.toBitVec.getLsbD k with
  | true => exact decide_eq_true (e2.mpr (e5.mpr hB))
  | false => exact decide_eq_false (fun q => by have z := e5.mp (e2.mp q); rw [hB] at z; cases z)
theorem nI_bit (i : Nat) {a : Nat} (ha : a < 12) : (nI i).toBitVec.getLsbD a = i.testBit a := by
  show (BitVec.ofNat 32 i).getLsbD a = _
  rw [BitVec.getLsbD_ofNat, decide_eq_true (by omega), Bool.true_and]
theorem nx_and9 (a b : Nat) : nI a &&& nI b = nI (a &&& b) := by
  apply Int32.toBitVec_inj.1
  show BitVec.ofNat 32 a &&& BitVec.ofNat 32 b = BitVec.ofNat 32 (a &&& b)
  apply BitVec.eq_of_getLsbD_eq
  intro i hi
  simp [hi]
/-- the holes of a coming: not shut -/
theorem dgHO_n {W : Nat → Int32} (hs : WFs W) (hc : WFc W) {i : Nat} (h : i < dgM W) : ∃ (a : Nat) (o : Option Nat), a < 12 ∧ gH (dgF W) i = nI a ∧ gO (dgF W) i = onI o ∧ (nW W 7).testBit a = false ∧ ∀ b, o = some b → b < 12 ∧ (nW W 7).testBit b = false := by
  have h5 : 0 < nW W 5 := by
    unfold dgM at h
    split at h
    · rename_i q
      rw [hs.nc.1] at q
      rcases Nat.eq_zero_or_pos (nW W 5) with z | z
      · rw [z] at q; exact absurd q (by decide)
      · exact z
    · exact absurd h (Nat.not_lt_zero i)
  obtain ⟨a, o, r, h1, h2, -, h4, h6, h7⟩ := hc (dgI W i) (Nat.mod_lt _ h5)
  have h12 := hs.ho12
  have hsh := hs.2.2.2.2.2.2.2.1
  exact ⟨a, o, by omega, h1, h2, by rw [← shW_n hsh.1 hsh.2 (by omega)]; exact h6, fun b hb => ⟨by have := (h7 b hb).1; omega, by rw [← shW_n hsh.1 hsh.2 (by have := (h7 b hb).1; omega)]; exact (h7 b hb).2.1⟩⟩
theorem and_cg {b x y : Bool} (h : x = y) : (b && x) = (b && y) := by rw [h]
theorem his_m (P : RP) : hisR P (-1) = false := by
  unfold hisR
  rw [decide_eq_true (show (-1 : Int32) = -1 from rfl), Bool.not_true, Bool.false_and]
theorem his_g {P P' : RP} {o : Int32} (h : decide ((P.2.2.2.1 >>> (o &&& 31)) &&& 1 = 1) = decide ((P'.2.2.2.1 >>> (o &&& 31)) &&& 1 = 1)) : hisR P o = hisR P' o := and_cg h
/-- sets that differ in shut holes alone go alike -/
theorem stG_cg {W : Nat → Int32} (hs : WFs W) (hc : WFc W) {p : Nat} {x x' : Int32} (hx : ∀ a, a < 12 → (nW W 7).testBit a = false → x.toBitVec.getLsbD a = x'.toBitVec.getLsbD a) : stG W (hoP W p x) = stG W (hoP W p x') := by
  unfold stG
  rw [ruW_cg (P := hoP W p x) (P' := hoP W p x') rfl rfl rfl rfl (fun i hi => ?_)]
  obtain ⟨a, o, h1, h2, h3, h4, h5⟩ := dgHO_n hs hc hi
  show hisR _ (gH (dgF W) i) = hisR _ (gH (dgF W) i) ∧ hisR _ (gO (dgF W) i) = hisR _ (gO (dgF W) i)
  rw [h2, h3]
  refine ⟨?_, ?_⟩
  · exact his_g ((bit_l _ h1).trans ((hx a h1 h4).trans (bit_l _ h1).symm))
  · cases o with
    | none => exact (his_m _).trans (his_m _).symm
    | some b =>
      obtain ⟨h6, h7⟩ := h5 b rfl
      show hisR _ (nI b) = hisR _ (nI b)
      exact his_g ((bit_l _ h6).trans ((hx b h6 h7).trans (bit_l _ h6).symm))
theorem two_lo {W : Nat → Int32} (hs : WFs W) (hc : WFc W) {i : Nat} (hi : i < 4096) (h : ¬ nI i &&& W 7 = 0) : ∃ i', i' < i ∧ ∀ p o, twV W p o i' = twV W p o i := by
  have hsh := hs.2.2.2.2.2.2.2.1
  have hb : ∀ a, a < 12 → (nW W 7).testBit a = false → (i &&& (4095 ^^^ nW W 7)).testBit a = i.testBit a := fun a ha hn => by
    have h4 : (4095 : Nat).testBit a = true := (by decide : ∀ a, a < 12 → (4095 : Nat).testBit a = true) a ha
    rw [Nat.testBit_and, Nat.testBit_xor, hn, h4]
    simp
  refine ⟨i &&& (4095 ^^^ nW W 7), ?_, fun p o => ?_⟩
  · refine Nat.lt_of_le_of_ne Nat.and_le_left (fun q => h ?_)
    rw [hsh.1, nx_and9]
    have z : i &&& nW W 7 = 0 := by
      apply Nat.eq_of_testBit_eq
      intro k
      rw [Nat.zero_testBit, Nat.testBit_and]
      have q2 := congrArg (fun z => z.testBit k) q
      simp only [Nat.testBit_and, Nat.testBit_xor] at q2
      by_cases hk : k < 12
      · have h4 : (4095 : Nat).testBit k = true := (by decide : ∀ a, a < 12 → (4095 : Nat).testBit a = true) k hk
        rw [h4] at q2
        cases hik : i.testBit k <;> cases hsk : (nW W 7).testBit k <;> simp_all
      · have h5 : i.testBit k = false := Nat.testBit_lt_two_pow (Nat.lt_of_lt_of_le hi (show 4096 ≤ 2 ^ k from Nat.le_trans (show 4096 ≤ 2 ^ 12 by decide) (Nat.pow_le_pow_right (by omega) (by omega))))
        rw [h5, Bool.false_and]
    rw [z]
    rfl
  · unfold twV
    rw [stG_cg hs hc (x := nI (i &&& (4095 ^^^ nW W 7))) (x' := nI i) (fun a ha hn => by rw [nI_bit _ ha, nI_bit _ ha, hb a ha hn])]
    rw [stG_cg hs hc (x := allW W &&& (nI (i &&& (4095 ^^^ nW W 7)) ^^^ (-1))) (x' := allW W &&& (nI i ^^^ (-1))) (fun a ha hn => by rw [Int32.toBitVec_and, Int32.toBitVec_and, BitVec.getLsbD_and, BitVec.getLsbD_and, Int32.toBitVec_xor, Int32.toBitVec_xor, BitVec.getLsbD_xor, BitVec.getLsbD_xor, nI_bit _ ha, nI_bit _ ha, hb a ha hn])]
theorem itr_eqP {α : Type} {f g : Nat → α → α} (P : Nat → α → Prop) (N : Nat) (h : ∀ i a, i < N → P i a → f i a = g i a ∧ P (i + 1) (g i a)) : ∀ (k i : Nat) (a : α), i + k = N → P i a → itr f k i a = itr g k i a := by
  intro k
  induction k with
  | zero => intro i a _ _; rfl
  | succ k ih =>
    intro i a hi hp
    obtain ⟨h1, h2⟩ := h i a (by omega) hp
    show itr f k (i + 1) (f i a) = itr g k (i + 1) (g i a)
    rw [h1]
    exact ih _ _ (by omega) h2
theorem two_it {W : Nat → Int32} (hs : WFs W) (hc : WFc W) (p o : Nat) : itr (twC W p o) (2 ^ hoN W) 0 (0, -1) = itr (twF W p o) (2 ^ hoN W) 0 (0, -1) := by
  have h12 := hs.ho12
  have h4 : 2 ^ hoN W ≤ 4096 := Nat.le_trans (Nat.pow_le_pow_right (by omega) h12) (show 2 ^ 12 ≤ 4096 by decide)
  refine itr_eqP (fun i a => ∀ j, j < i → twV W p o j ≤ a.2) (2 ^ hoN W) (fun i a hi hp => ?_) _ 0 _ (Nat.zero_add _) (fun j hj => absurd hj (Nat.not_lt_zero j))
  refine ⟨?_, fun j hj => ?_⟩
  · unfold twC
    split
    · rfl
    · rename_i q
      obtain ⟨i', h1, h2⟩ := two_lo hs hc (by omega) q
      unfold twF
      rw [← h2 p o, if_pos (hp i' h1)]
  · unfold twF
    split
    · rename_i q
      rcases Nat.eq_or_lt_of_le (Nat.le_of_lt_succ hj) with z | z
      · rw [z]; exact q
      · exact hp j z
    · rename_i q
      rcases Nat.eq_or_lt_of_le (Nat.le_of_lt_succ hj) with z | z
      · rw [z]; exact Int32.le_refl _
      · exact Int32.le_trans (hp j z) (Int32.le_of_lt (Int32.not_le.mp q))
theorem tw0_eq {W : Nat → Int32} (hs : WFs W) (hc : WFc W) (p o w : Int32) : tw0 W p o w = qtwo W p o w := by
  unfold tw0 qtwo
  rw [two_it hs hc]
