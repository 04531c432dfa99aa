-- PART 9996.laws3
/-! ===== plain laws: blows ===== -/
set_option maxRecDepth 100000
def Rl (a : Nat) (o : Option Nat) (b b' : Int32) : Prop := ∃ k : Nat, k < 4 ∧ b' = nI k ∧ b.toBitVec.getLsbD a = k.testBit 0 ∧ ∀ q, o = some q → b.toBitVec.getLsbD q = k.testBit 1
theorem onB_l (b : Int32) {h : Nat} (hh : h < 12) : onB b (nI h) = b.toBitVec.getLsbD h := bit_l b hh
theorem or_l (b : Int32) {h q : Nat} (hh : h < 12) (hq : q < 12) : (b ||| ((1 : Int32) <<< (nI h &&& 31))).toBitVec.getLsbD q = (b.toBitVec.getLsbD q || decide (h = q)) := by
  rw [Int32.toBitVec_or, BitVec.getLsbD_or, bit_n hh, nI_bit _ hq, Nat.testBit_two_pow]
theorem onI_eq {o : Option Nat} {h : Nat} (hh : h < 12) (ho : ∀ q, o = some q → q < 12) : onI o = nI h ↔ o = some h := by
  cases o with
  | none =>
    refine Iff.intro (fun q => ?_) (fun q => by cases q)
    have h2 := congrArg Int32.toInt (show (-1 : Int32) = nI h from q)
    rw [nI_toInt (by omega), show (-1 : Int32).toInt = -1 from rfl] at h2
    omega
  | some k =>
    have hk := ho k rfl
    refine Iff.intro (fun q => ?_) (fun q => by cases q; rfl)
    rw [nI_ij (a := k) (b := h) (by omega) (by omega) q]
theorem k4_1 {k : Nat} (hk : k < 4) : (!decide (nI k &&& 1 = 0)) = k.testBit 0 := (by decide : ∀ k, k < 4 → (!decide (nI k &&& 1 = 0)) = k.testBit 0) k hk
theorem k4_2 {k : Nat} (hk : k < 4) : (!decide (nI k &&& 2 = 0)) = k.testBit 1 := (by decide : ∀ k, k < 4 → (!decide (nI k &&& 2 = 0)) = k.testBit 1) k hk
theorem nI_ijb {a b : Nat} (ha : a < 12) (hb : b < 12) : (nI a = nI b) ↔ a = b := Iff.intro (fun q => nI_ij (by omega) (by omega) q) (fun q => by rw [q])
section BL
variable {G : GF} {i a h : Nat} {o : Option Nat} {z : Int32} {t t' : BT}
theorem side_1 (hH : gH G i = nI a) (e : h = a) : sideB G i (nI h) = 1 := by unfold sideB; rw [hH, e, if_pos rfl]
theorem side_2 (ha : a < 12) (hh : h < 12) (ho : ∀ q, o = some q → q < 12) (hH : gH G i = nI a) (hO : gO G i = onI o) (e : ¬ h = a) (e2 : o = some h) : sideB G i (nI h) = 2 := by
  unfold sideB
  rw [hH, if_neg (fun q => e ((nI_ijb ha hh).mp q).symm), hO, if_pos ((onI_eq hh ho).mpr e2)]
theorem side_0 (ha : a < 12) (hh : h < 12) (ho : ∀ q, o = some q → q < 12) (hH : gH G i = nI a) (hO : gO G i = onI o) (e : ¬ h = a) (e2 : ¬ o = some h) : sideB G i (nI h) = 0 := by
  unfold sideB
  rw [hH, if_neg (fun q => e ((nI_ijb ha hh).mp q).symm), hO, if_neg (fun q => e2 ((onI_eq hh ho).mp q))]
theorem mis_eq (ha : a < 12) (hh : h < 12) (ho : ∀ q, o = some q → q < 12) (hH : gH G i = nI a) (hO : gO G i = onI o) (hr : Rl a o (t.2 i) (t'.2 i)) : misC G (nI h) z i t = misB G (nI h) z i t' := by
  obtain ⟨k, hk, h1, h2, h3⟩ := hr
  unfold misC misB
  rw [onB_l _ hh, hH, hO, h1]
  by_cases e : h = a
  · rw [side_1 hH e, k4_1 hk, e, h2, decide_eq_true (rfl : nI a = nI a)]
    simp
  · by_cases e2 : o = some h
    · rw [side_2 ha hh ho hH hO e e2, k4_2 hk, h3 h e2, e2, show decide (nI h = onI (some h)) = true from decide_eq_true rfl]
      simp
    · rw [side_0 ha hh ho hH hO e e2, decide_eq_false (fun q => e ((nI_ijb hh ha).mp q)), decide_eq_false (fun q => e2 ((onI_eq hh ho).mp q.symm))]
      simp
theorem rl_hit (ha : a < 12) (hh : h < 12) (ho : ∀ q, o = some q → q < 12 ∧ q ≠ a) (hH : gH G i = nI a) (hO : gO G i = onI o) (hm : misB G (nI h) z i t' = false) (hr : Rl a o (t.2 i) (t'.2 i)) : Rl a o (t.2 i ||| ((1 : Int32) <<< (nI h &&& 31))) (t'.2 i ||| sideB G i (nI h)) := by
  obtain ⟨k, hk, h1, h2, h3⟩ := hr
  by_cases e : h = a
  · rw [side_1 hH e]
    refine ⟨k ||| 1, (by decide : ∀ k, k < 4 → k ||| 1 < 4) k hk, by rw [h1]; exact (by decide : ∀ k, k < 4 → nI k ||| 1 = nI (k ||| 1)) k hk, ?_, fun q hq => ?_⟩
    · rw [or_l _ hh ha, decide_eq_true e, Bool.or_true]
      exact ((by decide : ∀ k, k < 4 → (k ||| 1).testBit 0 = true) k hk).symm
    · rw [or_l _ hh (ho q hq).1, h3 q hq, decide_eq_false (fun (w : h = q) => (ho q hq).2 (w.symm.trans e)), Bool.or_false]
      exact ((by decide : ∀ k, k < 4 → (k ||| 1).testBit 1 = k.testBit 1) k hk).symm
  · by_cases e2 : o = some h
    · rw [side_2 ha hh (fun q hq => (ho q hq).1) hH hO e e2]
      refine ⟨k ||| 2, (by decide : ∀ k, k < 4 → k ||| 2 < 4) k hk, by rw [h1]; exact (by decide : ∀ k, k < 4 → nI k ||| 2 = nI (k ||| 2)) k hk, ?_, fun q hq => ?_⟩
      · rw [or_l _ hh ha, decide_eq_false e, Bool.or_false, h2]
        exact ((by decide : ∀ k, k < 4 → (k ||| 2).testBit 0 = k.testBit 0) k hk).symm
      · rw [hq] at e2
        cases e2
        rw [or_l _ hh hh, decide_eq_true rfl, Bool.or_true]
        exact ((by decide : ∀ k, k < 4 → (k ||| 2).testBit 1 = true) k hk).symm
    · unfold misB at hm
      rw [side_0 ha hh (fun q hq => (ho q hq).1) hH hO e e2] at hm
      cases hm
end BL
theorem dgHP_n {W : Nat → Int32} (hs : WFs W) (hc : WFc W) {i : Nat} (h : i < dgM W) : ∃ (a : Nat) (o : Option Nat), a < 12 ∧ gH (dgF W) i = nI a ∧ gO (dgF W) i = onI o ∧ ∀ b, o = some b → b < 12 ∧ b ≠ a := by
  have h5 : 0 < nW W 5 := by
    unfold dgM at h
    split at h
    · rename_i q
      rw [hs.nc.1] at q
      rcases Nat.eq_zero_or_pos (nW W 5) with z | z
      · rw [z] at q; exact absurd q (by decide)
      · exact z
    · exact absurd h (Nat.not_lt_zero i)
  obtain ⟨a, o, r, h1, h2, -, h4, h6, h7⟩ := hc (dgI W i) (Nat.mod_lt _ h5)
  have h12 := hs.ho12
  exact ⟨a, o, by omega, h1, h2, fun b hb => ⟨by have := (h7 b hb).1; omega, (h7 b hb).2.2⟩⟩
/-- the class's blows and the reference's go alike-/
def RBl (W : Nat → Int32) (t t' : BT) : Prop := t.1 = t'.1 ∧ ∀ i, i < dgM W → ∃ (a : Nat) (o : Option Nat), a < 12 ∧ gH (dgF W) i = nI a ∧ gO (dgF W) i = onI o ∧ (∀ b, o = some b → b < 12 ∧ b ≠ a) ∧ Rl a o (t.2 i) (t'.2 i)
theorem RBl.zero {W : Nat → Int32} (hs : WFs W) (hc : WFc W) : RBl W bl0 bl0 := ⟨rfl, fun i hi => by
  obtain ⟨a, o, h1, h2, h3, h4⟩ := dgHP_n hs hc hi
  refine ⟨a, o, h1, h2, h3, h4, 0, by omega, rfl, ?_, fun q hq => ?_⟩
  · show (nI 0).toBitVec.getLsbD a = _
    rw [nI_bit _ h1, Nat.zero_testBit, Nat.zero_testBit]
  · show (nI 0).toBitVec.getLsbD q = _
    rw [nI_bit _ (h4 q hq).1, Nat.zero_testBit, Nat.zero_testBit]⟩
theorem sk_id {G : GF} {x z lag : Int32} : ∀ (k i : Nat) (t : BT), (∀ j, i ≤ j → j < i + k → inL z.toInt64 (gF G j).toInt64 (gE G j).toInt64 = false) → itr (skF G x z lag) k i t = t := by
  intro k
  induction k with
  | zero => intro i t _; rfl
  | succ k ih =>
    intro i t h
    show itr (skF G x z lag) k (i + 1) (skF G x z lag i t) = t
    have e : skF G x z lag i t = t := by
      unfold skF misC
      rw [h i (Nat.le_refl i) (by omega)]
      rfl
    rw [e]
    exact ih _ _ (fun j h1 h2 => h j (by omega) (by omega))
theorem sk_eq {W : Nat → Int32} (hs : WFs W) (ht : WFt W) {h : Nat} (hh : h < 12) {z lag : Int32} : ∀ (k i : Nat) (t t' : BT), i + k = dgM W → RBl W t t' → RBl W (itr (skF (dgF W) (nI h) z lag) k i t) (skK (dgF W) (nI h) z lag k i t') := by
  intro k
  induction k with
  | zero => intro i t t' _ hr; exact hr
  | succ k ih =>
    intro i t t' hi hr
    obtain ⟨a, o, h1, h2, h3, h4, h5⟩ := hr.2 i (by omega)
    have hm := mis_eq (z := z) h1 hh (fun q hq => (h4 q hq).1) h2 h3 h5
    show RBl W (itr (skF (dgF W) (nI h) z lag) k (i + 1) (skF (dgF W) (nI h) z lag i t)) _
    cases hb : misB (dgF W) (nI h) z i t' with
    | true =>
      rw [hb] at hm
      rw [sk_m hb, show skF (dgF W) (nI h) z lag i t = t from if_pos hm]
      exact ih _ _ _ (by omega) hr
    | false =>
      rw [hb] at hm
      rw [sk_h hb, show skF (dgF W) (nI h) z lag i t = hitC (dgF W) (nI h) z lag i t from if_neg (by rw [hm]; decide)]
      have hin : inL z.toInt64 (gF (dgF W) i).toInt64 (gE (dgF W) i).toInt64 = true := by
        unfold misC at hm
        cases q : inL z.toInt64 (gF (dgF W) i).toInt64 (gE (dgF W) i).toInt64 with
        | true => rfl
        | false => rw [q] at hm; cases hm
      have d1 := dg_n hs ht (show i < dgM W by omega)
      have htk := hs.tk.2
      rw [sk_id k (i + 1) _ (fun j q1 q2 => ?_)]
      · refine ⟨?_, fun j hj => ?_⟩
        · show (_, _, _) = (_, _, _)
          rw [hr.1]
        · by_cases e : j = i
          · subst e
            refine ⟨a, o, h1, h2, h3, h4, ?_⟩
            show Rl a o (upd t.2 j _ j) (upd t'.2 j _ j)
            rw [pk_us, pk_us]
            exact rl_hit h1 hh h4 h2 h3 hb h5
          · obtain ⟨a', o', g1, g2, g3, g4, g5⟩ := hr.2 j hj
            refine ⟨a', o', g1, g2, g3, g4, ?_⟩
            show Rl a' o' (upd t.2 i _ j) (upd t'.2 i _ j)
            rw [pk_un e, pk_un e]
            exact g5
      · have d2 := dg_n hs ht (show j < dgM W by omega)
        have d3 := dgx_lt hs ht (i := i) j (by omega) (by omega)
        change inL z.toInt64 (gT W i).toInt64 (gTe W i).toInt64 = true at hin
        rw [d1.1, d1.2.1, inL_i] at hin
        obtain ⟨y, y1, y2, rfl⟩ := in_n (a := fN W i) (b := eN W i) (by omega) d1.2.2.1 hin
        show inL (nI y).toInt64 (gT W j).toInt64 (gTe W j).toInt64 = false
        rw [d2.1, d2.2.1, in_nn (by omega) (by omega) (by omega), decide_eq_false (by omega), Bool.false_and]
/-- a hole told as a long-/
theorem hl_n {W : Nat → Int32} (hs : WFs W) {v : Int64} (h : hlL W v = true) : ∃ j : Nat, j < hoN W ∧ v.toInt32 = nI j := by
  have h12 := hs.ho12
  unfold hlL inL at h
  rw [Bool.and_eq_true, decide_eq_true_eq, decide_eq_true_eq, hs.ho] at h
  obtain ⟨h1, h2⟩ := h
  rw [Int64.le_iff_toInt_le] at h1 h2
  have e0 : (0 : Int64).toInt = 0 := rfl
  rw [Int32.toInt_toInt64] at h2
  rcases Nat.eq_zero_or_pos (hoN W) with z | z
  · rw [z] at h2
    have e1 : (nI 0 - 1).toInt = -1 := by decide
    omega
  · rw [show (1 : Int32) = nI 1 from rfl, pk_sub (by omega), nI_toInt (by omega)] at h2
    refine ⟨v.toInt.toNat, by omega, ?_⟩
    apply Int32.toInt_inj.mp
    rw [nI_toInt (by omega), Int64.toInt_toInt32]
    rw [Int.bmod_eq_of_le (by omega) (by omega)]
    omega
theorem bl_eq {W : Nat → Int32} (hs : WFs W) (ht : WFt W) (hc : WFc W) {nu : LT} {s m : Nat} {lag : Int32} (hx : ∀ j, j < m / 2 → hlL W (nu (60 * s + 2 * j)) = true) : RBl W (blV (dgW W) nu s m lag) (blW (dgW W) nu s m lag) := by
  unfold blV blW
  have key : ∀ (k i : Nat) (t t' : BT), i + k = m / 2 → RBl W t t' → RBl W (itr (blC (dgW W) nu s lag) k i t) (itr (blF (dgW W) nu s lag) k i t') := by
    intro k
    induction k with
    | zero => intro i t t' _ hr; exact hr
    | succ k ih =>
      intro i t t' hi hr
      refine ih _ _ _ (by omega) ?_
      have h1 := hx i (by omega)
      have h12 := hs.ho12
      obtain ⟨h, h2, e⟩ := hl_n hs h1
      unfold blC blF skC
      rw [e]
      exact sk_eq hs ht (by omega) (dgM W) 0 _ _ (Nat.zero_add _) hr
  exact key _ 0 _ _ (Nat.zero_add _) (RBl.zero hs hc)
theorem al_all {p : Nat → Bool} : ∀ (k i : Nat), alK p k i = true → ∀ j, i ≤ j → j < i + k → p j = true := by
  intro k
  induction k with
  | zero => intro i _ j h1 h2; omega
  | succ k ih =>
    intro i h j h1 h2
    cases hp : p i with
    | false => rw [al_f hp] at h; cases h
    | true =>
      rw [al_t hp] at h
      rcases Nat.eq_or_lt_of_le h1 with q | q
      · rw [← q]; exact hp
      · exact ih (i + 1) h j q (by omega)
theorem ab_ok {W my : Nat → Int32} {nu : LT} {slot : Int32} (h : ¬ abV W my nu slot < 0) : ∀ j, j < mN my slot.toNatClampNeg / 2 → hlL W (nu (60 * slot.toNatClampNeg + 2 * j)) = true := by
  intro j hj
  unfold abV at h
  split at h
  · split at h
    · exact absurd (by decide) h
    · split at h
      · split at h
        · rename_i q
          have := al_all _ _ q j (Nat.zero_le j) (by omega)
          unfold abP at this
          rw [Bool.and_eq_true] at this
          exact this.1
        · exact absurd (by decide) h
      · exact absurd (by decide) h
  · exact absurd (by decide) h
section BF
variable {W my : Nat → Int32} {nu : LT} {slot lag : Int32}
theorem cou0_eq (hs : WFs W) (ht : WFt W) (hc : WFc W) : cou0 W my nu slot = qcounted W my nu slot := by
  unfold cou0 qcounted
  by_cases h : abV W my nu slot < 0
  · rw [hrb_n h, hrb_n h]
  · rw [hrb_p h, hrb_p h, (bl_eq hs ht hc (ab_ok h)).1]
theorem sco0_eq (hs : WFs W) (ht : WFt W) (hc : WFc W) : sco0 W my nu slot = qscored W my nu slot := by
  unfold sco0 qscored
  by_cases h : abV W my nu slot < 0
  · rw [if_pos h, if_pos h]
  · rw [if_neg h, if_neg h, hrb_p h, hrb_p h, (bl_eq hs ht hc (ab_ok h)).1]
theorem ear0_eq (hs : WFs W) (ht : WFt W) (hc : WFc W) : ear0 W my nu slot lag = qearly W my nu slot lag := by
  unfold ear0 qearly
  split
  · by_cases h : abV W my nu slot < 0
    · rw [hrb_n h, hrb_n h]
    · rw [hrb_p h, hrb_p h, (bl_eq hs ht hc (ab_ok h)).1]
  · rfl
end BF
