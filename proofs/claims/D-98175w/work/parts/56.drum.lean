/-! ===== the reference: the drum ===== -/
set_option maxRecDepth 100000
theorem swW_s {W : Nat → Int32} (hs : WFs W) {k l : Nat} (hk : k < nW W 5) (hl : l < nW W 5) : WFs (swW k l W) ∧ swW k l W 0 = W 0 := by
  have e : ∀ j, j < 24 → swW k l W j = W j := fun j hj => by
    simp only [swW]
    rw [if_neg (by omega), if_neg (by omega)]
  refine ⟨?_, e 0 (by omega)⟩
  unfold WFs nW
  rw [e 0 (by omega), e 1 (by omega), e 2 (by omega), e 3 (by omega), e 4 (by omega), e 5 (by omega), e 6 (by omega), e 7 (by omega), e 8 (by omega)]
  exact hs
theorem mL_oftenOf {g : GW} {M : Nat} {pre post : AH} {S : SM} (hm : pre.length = M) (hs : WFs (wd S)) {x : Int32} {c n : Nat} {Q : Option Value → AH → Prop} : ∀ (k : Nat) (i : Nat) (a : Int32), i + k = nW (wd S) 5 → Q (some (.int (itr (ofF (wd S) x) k i a))) (mH M pre S post) → WP g 2 yX10_oftenOf cX10_oftenOf 4 (some .int) 4 [some (.ref M), some (.int x), some (.int a), some (.int (nI i))] [] (mH M pre S post) c n Q := by
  intro k
  induction k with
  | zero =>
    intro i a hi hq
    have b24 := hs.nc.2
    have e5 : S.2.1 1 5 = nI (nW (wd S) 5) := hs.nc.1
    refine wp_iload_3 dX10_oftenOf_4 rfl ?_
    refine wp_aload_0 dX10_oftenOf_5 rfl ?_
    refine wp_getf dX10_oftenOf_6 rfl q1832 fk10_1 (mg_0 hm) rfl ?_
    refine wp_iconst 5 dX10_oftenOf_9 rfl rfl ?_
    refine wp_ialoadn 5 dX10_oftenOf_10 rfl (mg_1 hm) rfl (by decide) (by decide) ?_
    refine wp_icmp_ge 48 dX10_oftenOf_11 rfl rfl (fun c11 => ?_) (fun c11 => ?_)
    · refine wp_iload_2 dX10_oftenOf_48 rfl ?_
      exact wp_ireturn dX10_oftenOf_49 rfl hq
    · exact absurd (show S.2.1 1 5 ≤ nI i by rw [e5]; exact nI_le (by omega) (by omega)) c11
  | succ k ih =>
    intro i a hi hq
    have b24 := hs.nc.2
    have e5 : S.2.1 1 5 = nI (nW (wd S) 5) := hs.nc.1
    refine wp_iload_3 dX10_oftenOf_4 rfl ?_
    refine wp_aload_0 dX10_oftenOf_5 rfl ?_
    refine wp_getf dX10_oftenOf_6 rfl q1832 fk10_1 (mg_0 hm) rfl ?_
    refine wp_iconst 5 dX10_oftenOf_9 rfl rfl ?_
    refine wp_ialoadn 5 dX10_oftenOf_10 rfl (mg_1 hm) rfl (by decide) (by decide) ?_
    refine wp_icmp_ge 48 dX10_oftenOf_11 rfl rfl (fun c11 => ?_) (fun c11 => ?_)
    · exact absurd c11 (show ¬ (S.2.1 1 5 ≤ nI i) by rw [e5]; exact nI_ge (by omega) (by omega))
    · refine wp_iload_2 dX10_oftenOf_14 rfl ?_
      refine wp_aload_0 dX10_oftenOf_15 rfl ?_
      refine wp_iload_3 dX10_oftenOf_16 rfl ?_
      refine wp_iconst 0 dX10_oftenOf_17 rfl rfl ?_
      refine wp_cvR dX10_oftenOf_18 rfl q2121 mv_X10_ofComing (mg_0 hm) rfl rfl (m_ofComing (w := 0) hm (by omega) (by omega)) rfl rfl (Nat.le_of_ble_eq_true rfl) (Nat.le_of_ble_eq_true rfl) ?_
      refine wp_iload_1 dX10_oftenOf_21 rfl ?_
      refine wp_icmp_eq 35 dX10_oftenOf_22 rfl rfl (fun c22 => ?_) (fun c22 => ?_)
      · refine wp_iconst 1 dX10_oftenOf_35 rfl rfl ?_
        refine wp_goto 40 dX10_oftenOf_36 rfl rfl ?_
        refine wp_iadd dX10_oftenOf_40 rfl ?_
        refine wp_istore_2 dX10_oftenOf_41 rfl (by decide) rfl ?_
        refine wp_iinc_3 1 dX10_oftenOf_42 rfl rfl (by decide) rfl ?_
        refine wp_goto 4 dX10_oftenOf_45 rfl rfl ?_
        exact WP.cast (by simp only [ofF, nI_1]; first | rw [if_pos (Or.inl c22)] | rw [if_pos (Or.inr c32)] | rw [if_neg (fun q => q.elim c22 c32)]) (ih (i + 1) (ofF (wd S) x i a) (by omega) hq)
      · refine wp_aload_0 dX10_oftenOf_25 rfl ?_
        refine wp_iload_3 dX10_oftenOf_26 rfl ?_
        refine wp_iconst 1 dX10_oftenOf_27 rfl rfl ?_
        refine wp_cvR dX10_oftenOf_28 rfl q2121 mv_X10_ofComing (mg_0 hm) rfl rfl (m_ofComing (w := 1) hm (by omega) (by omega)) rfl rfl (Nat.le_of_ble_eq_true rfl) (Nat.le_of_ble_eq_true rfl) ?_
        refine wp_iload_1 dX10_oftenOf_31 rfl ?_
        refine wp_icmp_ne 39 dX10_oftenOf_32 rfl rfl (fun c32 => ?_) (fun c32 => ?_)
        · refine wp_iconst 0 dX10_oftenOf_39 rfl rfl ?_
          refine wp_iadd dX10_oftenOf_40 rfl ?_
          refine wp_istore_2 dX10_oftenOf_41 rfl (by decide) rfl ?_
          refine wp_iinc_3 1 dX10_oftenOf_42 rfl rfl (by decide) rfl ?_
          refine wp_goto 4 dX10_oftenOf_45 rfl rfl ?_
          exact WP.cast (by simp only [ofF, nI_1]; first | rw [if_pos (Or.inl c22)] | rw [if_pos (Or.inr c32)] | rw [if_neg (fun q => q.elim c22 c32)]) (ih (i + 1) (ofF (wd S) x i a) (by omega) hq)
        · refine wp_iconst 1 dX10_oftenOf_35 rfl rfl ?_
          refine wp_goto 40 dX10_oftenOf_36 rfl rfl ?_
          refine wp_iadd dX10_oftenOf_40 rfl ?_
          refine wp_istore_2 dX10_oftenOf_41 rfl (by decide) rfl ?_
          refine wp_iinc_3 1 dX10_oftenOf_42 rfl rfl (by decide) rfl ?_
          refine wp_goto 4 dX10_oftenOf_45 rfl rfl ?_
          exact WP.cast (by simp only [ofF, nI_1]; first | rw [if_pos (Or.inl c22)] | rw [if_pos (Or.inr c32)] | rw [if_neg (fun q => q.elim c22 c32)]) (ih (i + 1) (ofF (wd S) x i a) (by omega) hq)
theorem m_oftenOf {g : GW} {M : Nat} {pre post : AH} {S : SM} (hm : pre.length = M) {x : Int32} (hs : WFs (wd S)) : SPx g 2 0 0 yX10_oftenOf cX10_oftenOf 4 (some .int) [.ref M, .int x] (mH M pre S post) (some (.int (ofW (wd S) x))) (mH M pre S post) := by
  refine SPx.intro [some (.ref M), some (.int x), none, none] (pfn (by decide)) rfl (Nat.le_of_ble_eq_true rfl) ?_
  refine wp_iconst 0 dX10_oftenOf_0 rfl rfl ?_
  refine wp_istore_2 dX10_oftenOf_1 rfl (by decide) rfl ?_
  refine wp_iconst 0 dX10_oftenOf_2 rfl rfl ?_
  refine wp_istore_3 dX10_oftenOf_3 rfl (by decide) rfl ?_
  exact mL_oftenOf hm hs (nW (wd S) 5) 0 0 (Nat.zero_add _) ⟨rfl, rfl⟩
theorem q_m_often {g : GW} {M : Nat} {pre post : AH} {S : SM} (hm : pre.length = M) {x : Int32} (hs : WFs (wd S)) : SP g 3 0 0 yX10_often cX10_often 2 (some .int) [.ref M, .int x] (mH M pre S post) (QM M pre post S (.int (qoften (wd S) x))) := by
  refine SP.intro [some (.ref M), some (.int x)] (pfn (by decide)) rfl (Nat.le_of_ble_eq_true rfl) ?_
  refine wp_aload_0 dX10_often_0 rfl ?_
  refine wp_iload_1 dX10_often_1 rfl ?_
  refine wp_i2l dX10_often_2 rfl ?_
  refine wp_cvR dX10_often_3 rfl q2202 mv_X10_isHole (mg_0 hm) rfl rfl (m_isHole hm) rfl rfl (Nat.le_of_ble_eq_true rfl) (Nat.le_of_ble_eq_true rfl) ?_
  refine wp_ifeq_b 17 dX10_often_6 rfl rfl (fun c6 => ?_) (fun c6 => ?_)
  · refine wp_bipush (-2) dX10_often_17 rfl rfl ?_
    exact wp_ireturn dX10_often_19 rfl ⟨by rw [qoften, if_neg (by simp [*])], S, rfl, KP.rf S⟩
  · refine wp_aload_0 dX10_often_9 rfl ?_
    refine wp_iload_1 dX10_often_10 rfl ?_
    refine wp_cvR dX10_often_11 rfl q2548 mv_X10_oftenOf (mg_0 hm) rfl rfl (m_oftenOf hm hs) rfl rfl (Nat.le_of_ble_eq_true rfl) (Nat.le_of_ble_eq_true rfl) ?_
    refine wp_goto 19 dX10_often_14 rfl rfl ?_
    exact wp_ireturn dX10_often_19 rfl ⟨by rw [qoften, if_pos c6], S, rfl, KP.rf S⟩
theorem mL_balance {g : GW} {M : Nat} {pre post : AH} {S : SM} (hm : pre.length = M) (hs : WFs (wd S)) {c n : Nat} {Q : Option Value → AH → Prop} : ∀ (k : Nat) (i : Nat) (a : Int32 × Int32), i + k = hoN (wd S) → (∀ r, (if (itr (baF (wd S)) k i a).2 = -1 then -1 else (itr (baF (wd S)) k i a).2 - (itr (baF (wd S)) k i a).1) = r → Q (some (.int r)) (mH M pre S post)) → WP g 4 yX10_balance cX10_balance 4 (some .int) 18 [some (.ref M), some (.int a.1), some (.int a.2), some (.int (nI i))] [] (mH M pre S post) c n Q := by
  intro k
  induction k with
  | zero =>
    intro i a hi hq
    have b12 := hs.ho12
    have e0 : hoW (wd S) = nI (hoN (wd S)) := hs.ho
    refine wp_iload_3 dX10_balance_18 rfl ?_
    refine wp_aload_0 dX10_balance_19 rfl ?_
    refine wp_cvR dX10_balance_20 rfl q2206 mv_X10_holes (mg_0 hm) rfl rfl (m_holes hm) rfl rfl (Nat.le_of_ble_eq_true rfl) (Nat.le_of_ble_eq_true rfl) ?_
    refine wp_icmp_ge 63 dX10_balance_23 rfl rfl (fun c23 => ?_) (fun c23 => ?_)
    · refine wp_iload_2 dX10_balance_63 rfl ?_
      refine wp_iconst (-1) dX10_balance_64 rfl rfl ?_
      refine wp_icmp_ne 72 dX10_balance_65 rfl rfl (fun c65 => ?_) (fun c65 => ?_)
      · refine wp_iload_2 dX10_balance_72 rfl ?_
        refine wp_iload_1 dX10_balance_73 rfl ?_
        refine wp_isub dX10_balance_74 rfl ?_
        exact wp_ireturn dX10_balance_75 rfl (hq _ (if_neg c65))
      · refine wp_iconst (-1) dX10_balance_68 rfl rfl ?_
        refine wp_goto 75 dX10_balance_69 rfl rfl ?_
        exact wp_ireturn dX10_balance_75 rfl (hq _ (if_pos c65))
    · exact absurd (show hoW (wd S) ≤ nI i by rw [e0]; exact nI_le (by omega) (by omega)) c23
  | succ k ih =>
    intro i a hi hq
    have b12 := hs.ho12
    have e0 : hoW (wd S) = nI (hoN (wd S)) := hs.ho
    refine wp_iload_3 dX10_balance_18 rfl ?_
    refine wp_aload_0 dX10_balance_19 rfl ?_
    refine wp_cvR dX10_balance_20 rfl q2206 mv_X10_holes (mg_0 hm) rfl rfl (m_holes hm) rfl rfl (Nat.le_of_ble_eq_true rfl) (Nat.le_of_ble_eq_true rfl) ?_
    refine wp_icmp_ge 63 dX10_balance_23 rfl rfl (fun c23 => ?_) (fun c23 => ?_)
    · exact absurd c23 (show ¬ (hoW (wd S) ≤ nI i) by rw [e0]; exact nI_ge (by omega) (by omega))
    · refine wp_aload_0 dX10_balance_26 rfl ?_
      refine wp_iload_3 dX10_balance_27 rfl ?_
      refine wp_cvR dX10_balance_28 rfl q2338 mv_X10_isShut (mg_0 hm) rfl rfl (m_isShut hm) rfl rfl (Nat.le_of_ble_eq_true rfl) (Nat.le_of_ble_eq_true rfl) ?_
      refine wp_ifeq_b 37 dX10_balance_31 rfl rfl (fun c31 => ?_) (fun c31 => ?_)
      · refine wp_iload_1 dX10_balance_37 rfl ?_
        refine wp_aload_0 dX10_balance_38 rfl ?_
        refine wp_iload_3 dX10_balance_39 rfl ?_
        refine wp_cvR dX10_balance_40 rfl q2548 mv_X10_oftenOf (mg_0 hm) rfl rfl (m_oftenOf hm hs) rfl rfl (Nat.le_of_ble_eq_true rfl) (Nat.le_of_ble_eq_true rfl) ?_
        refine wp_csR dX10_balance_43 rfl q2015 ms_J3_min j_min rfl rfl (Nat.le_of_ble_eq_true rfl) (Nat.le_of_ble_eq_true rfl) ?_
        refine wp_istore_1 dX10_balance_46 rfl (by decide) rfl ?_
        refine wp_iload_2 dX10_balance_47 rfl ?_
        refine wp_aload_0 dX10_balance_48 rfl ?_
        refine wp_iload_3 dX10_balance_49 rfl ?_
        refine wp_cvR dX10_balance_50 rfl q2548 mv_X10_oftenOf (mg_0 hm) rfl rfl (m_oftenOf hm hs) rfl rfl (Nat.le_of_ble_eq_true rfl) (Nat.le_of_ble_eq_true rfl) ?_
        refine wp_csR dX10_balance_53 rfl q2259 ms_J3_max j_max rfl rfl (Nat.le_of_ble_eq_true rfl) (Nat.le_of_ble_eq_true rfl) ?_
        refine wp_istore_2 dX10_balance_56 rfl (by decide) rfl ?_
        refine wp_iinc_3 1 dX10_balance_57 rfl rfl (by decide) rfl ?_
        refine wp_goto 18 dX10_balance_60 rfl rfl ?_
        exact WP.cast (by simp [baF, nI_1, c31]) (ih (i + 1) (baF (wd S) i a) (by omega) hq)
      · refine wp_goto 57 dX10_balance_34 rfl rfl ?_
        refine wp_iinc_3 1 dX10_balance_57 rfl rfl (by decide) rfl ?_
        refine wp_goto 18 dX10_balance_60 rfl rfl ?_
        exact WP.cast (by simp [baF, nI_1, c31]) (ih (i + 1) (baF (wd S) i a) (by omega) hq)
theorem q_m_balance {g : GW} {M : Nat} {pre post : AH} {S : SM} (hm : pre.length = M) (hs : WFs (wd S)) : SP g 4 0 0 yX10_balance cX10_balance 4 (some .int) [.ref M] (mH M pre S post) (QM M pre post S (.int (qbalance (wd S)))) := by
  refine SP.intro [some (.ref M), none, none, none] (pfn (by decide)) rfl (Nat.le_of_ble_eq_true rfl) ?_
  refine wp_aload_0 dX10_balance_0 rfl ?_
  refine wp_cvR dX10_balance_1 rfl q2154 mv_X10_isBoard (mg_0 hm) rfl rfl (m_isBoard hm) rfl rfl (Nat.le_of_ble_eq_true rfl) (Nat.le_of_ble_eq_true rfl) ?_
  refine wp_ifne_b 10 dX10_balance_4 rfl rfl (fun c4 => ?_) (fun c4 => ?_)
  · refine wp_ldc_w dX10_balance_10 rfl q2288 ?_
    refine wp_istore_1 dX10_balance_13 rfl (by decide) rfl ?_
    refine wp_iconst (-1) dX10_balance_14 rfl rfl ?_
    refine wp_istore_2 dX10_balance_15 rfl (by decide) rfl ?_
    refine wp_iconst 0 dX10_balance_16 rfl rfl ?_
    refine wp_istore_3 dX10_balance_17 rfl (by decide) rfl ?_
    refine mL_balance hm hs _ 0 (1000000, -1) (Nat.zero_add _) (fun r e => ?_)
    exact ⟨by rw [qbalance, if_pos c4, e], S, rfl, KP.rf S⟩
  · refine wp_bipush (-2) dX10_balance_7 rfl rfl ?_
    exact wp_ireturn dX10_balance_9 rfl ⟨by rw [qbalance, if_neg (by simp [*])], S, rfl, KP.rf S⟩
theorem mL_pathOf {g : GW} {M : Nat} {pre post : AH} {S : SM} (hm : pre.length = M) (hs : WFs (wd S)) (h0 : ¬ wd S 0 = 0) {c n : Nat} {Q : Option Value → AH → Prop} : ∀ (k : Nat) (i : Nat) (a : Int32), i + k = nW (wd S) 5 → Q (some (.int (itr (paF (wd S)) k i a))) (mH M pre S post) → WP g 3 yX10_pathOf cX10_pathOf 3 (some .int) 4 [some (.ref M), some (.int a), some (.int (nI i))] [] (mH M pre S post) c n Q := by
  intro k
  induction k with
  | zero =>
    intro i a hi hq
    have b24 := hs.nc.2
    have e5 : S.2.1 1 5 = nI (nW (wd S) 5) := hs.nc.1
    refine wp_iload_2 dX10_pathOf_4 rfl ?_
    refine wp_aload_0 dX10_pathOf_5 rfl ?_
    refine wp_getf dX10_pathOf_6 rfl q1832 fk10_1 (mg_0 hm) rfl ?_
    refine wp_iconst 5 dX10_pathOf_9 rfl rfl ?_
    refine wp_ialoadn 5 dX10_pathOf_10 rfl (mg_1 hm) rfl (by decide) (by decide) ?_
    refine wp_icmp_ge 39 dX10_pathOf_11 rfl rfl (fun c11 => ?_) (fun c11 => ?_)
    · refine wp_iload_1 dX10_pathOf_39 rfl ?_
      exact wp_ireturn dX10_pathOf_40 rfl hq
    · exact absurd (show S.2.1 1 5 ≤ nI i by rw [e5]; exact nI_le (by omega) (by omega)) c11
  | succ k ih =>
    intro i a hi hq
    have b24 := hs.nc.2
    have e5 : S.2.1 1 5 = nI (nW (wd S) 5) := hs.nc.1
    refine wp_iload_2 dX10_pathOf_4 rfl ?_
    refine wp_aload_0 dX10_pathOf_5 rfl ?_
    refine wp_getf dX10_pathOf_6 rfl q1832 fk10_1 (mg_0 hm) rfl ?_
    refine wp_iconst 5 dX10_pathOf_9 rfl rfl ?_
    refine wp_ialoadn 5 dX10_pathOf_10 rfl (mg_1 hm) rfl (by decide) (by decide) ?_
    refine wp_icmp_ge 39 dX10_pathOf_11 rfl rfl (fun c11 => ?_) (fun c11 => ?_)
    · exact absurd c11 (show ¬ (S.2.1 1 5 ≤ nI i) by rw [e5]; exact nI_ge (by omega) (by omega))
    · have h5 : 0 < nW (wd S) 5 := by omega
      refine wp_iload_1 dX10_pathOf_14 rfl ?_
      refine wp_aload_0 dX10_pathOf_15 rfl ?_
      refine wp_aload_0 dX10_pathOf_16 rfl ?_
      refine wp_iload_2 dX10_pathOf_17 rfl ?_
      refine wp_cvR dX10_pathOf_18 rfl q2410 mv_X10_holeAt (mg_0 hm) rfl rfl (m_holeAt hm h5 hs) rfl rfl (Nat.le_of_ble_eq_true rfl) (Nat.le_of_ble_eq_true rfl) ?_
      refine wp_aload_0 dX10_pathOf_21 rfl ?_
      refine wp_iload_2 dX10_pathOf_22 rfl ?_
      refine wp_iconst 1 dX10_pathOf_23 rfl rfl ?_
      refine wp_iadd dX10_pathOf_24 rfl ?_
      refine wp_cvR dX10_pathOf_25 rfl q2410 mv_X10_holeAt (mg_0 hm) rfl rfl (m_holeAt hm h5 hs) rfl rfl (Nat.le_of_ble_eq_true rfl) (Nat.le_of_ble_eq_true rfl) ?_
      refine wp_cvR dX10_pathOf_28 rfl q2210 mv_X10_stepsOf (mg_0 hm) rfl rfl (m_stepsOf hm h0) rfl rfl (Nat.le_of_ble_eq_true rfl) (Nat.le_of_ble_eq_true rfl) ?_
      refine wp_iadd dX10_pathOf_31 rfl ?_
      refine wp_istore_1 dX10_pathOf_32 rfl (by decide) rfl ?_
      refine wp_iinc_2 1 dX10_pathOf_33 rfl rfl (by decide) rfl ?_
      refine wp_goto 4 dX10_pathOf_36 rfl rfl ?_
      exact WP.cast (by rw [← nI_1 i]; rfl) (ih (i + 1) (paF (wd S) i a) (by omega) hq)
theorem m_pathOf {g : GW} {M : Nat} {pre post : AH} {S : SM} (hm : pre.length = M) (hs : WFs (wd S)) (h0 : ¬ wd S 0 = 0) : SPx g 3 0 0 yX10_pathOf cX10_pathOf 3 (some .int) [.ref M] (mH M pre S post) (some (.int (paW (wd S)))) (mH M pre S post) := by
  refine SPx.intro [some (.ref M), none, none] (pfn (by decide)) rfl (Nat.le_of_ble_eq_true rfl) ?_
  refine wp_iconst 0 dX10_pathOf_0 rfl rfl ?_
  refine wp_istore_1 dX10_pathOf_1 rfl (by decide) rfl ?_
  refine wp_iconst 0 dX10_pathOf_2 rfl rfl ?_
  refine wp_istore_2 dX10_pathOf_3 rfl (by decide) rfl ?_
  exact mL_pathOf hm hs h0 (nW (wd S) 5) 0 0 (Nat.zero_add _) ⟨rfl, rfl⟩
theorem q_m_path {g : GW} {M : Nat} {pre post : AH} {S : SM} (hm : pre.length = M) (hs : WFs (wd S)) : SP g 4 0 0 yX10_path cX10_path 1 (some .int) [.ref M] (mH M pre S post) (QM M pre post S (.int (qpath (wd S)))) := by
  refine SP.intro [some (.ref M)] (pfn (by decide)) rfl (Nat.le_of_ble_eq_true rfl) ?_
  refine wp_aload_0 dX10_path_0 rfl ?_
  refine wp_cvR dX10_path_1 rfl q2154 mv_X10_isBoard (mg_0 hm) rfl rfl (m_isBoard hm) rfl rfl (Nat.le_of_ble_eq_true rfl) (Nat.le_of_ble_eq_true rfl) ?_
  refine wp_ifeq_b 14 dX10_path_4 rfl rfl (fun c4 => ?_) (fun c4 => ?_)
  · refine wp_bipush (-2) dX10_path_14 rfl rfl ?_
    exact wp_ireturn dX10_path_16 rfl ⟨by rw [qpath, if_neg (by simp [*])], S, rfl, KP.rf S⟩
  · have h0 := bd_0 c4
    refine wp_aload_0 dX10_path_7 rfl ?_
    refine wp_cvR dX10_path_8 rfl q2560 mv_X10_pathOf (mg_0 hm) rfl rfl (m_pathOf hm hs h0) rfl rfl (Nat.le_of_ble_eq_true rfl) (Nat.le_of_ble_eq_true rfl) ?_
    refine wp_goto 16 dX10_path_11 rfl rfl ?_
    exact wp_ireturn dX10_path_16 rfl ⟨by rw [qpath, if_pos c4], S, rfl, KP.rf S⟩
theorem mL_trade {g : GW} {M : Nat} {pre post : AH} (hm : pre.length = M) {p q2 : Nat} (hp : p < 24) (hq2 : q2 < 24) {c n : Nat} {Q : Option Value → AH → Prop} : ∀ (k : Nat) (S : SM) (w : Nat) (v4 : Option Value), w + k = 3 → Q none (mH M pre (itr (trF p q2) k w S) post) → WP g 2 yX10_trade cX10_trade 5 none 2 [some (.ref M), some (.int (nI p)), some (.int (nI q2)), some (.int (nI w)), v4] [] (mH M pre S post) c n Q := by
  intro k
  induction k with
  | zero =>
    intro S w v4 hi hq
    refine wp_iload_3 dX10_trade_2 rfl ?_
    refine wp_iconst 3 dX10_trade_3 rfl rfl ?_
    refine wp_icmp_ge 55 dX10_trade_4 rfl rfl (fun c4 => ?_) (fun c4 => ?_)
    · exact wp_return dX10_trade_55 rfl hq
    · exact absurd (show (3 : Int32) ≤ nI w by rw [show w = 3 by omega]; decide) c4
  | succ k ih =>
    intro S w v4 hi hq
    refine wp_iload_3 dX10_trade_2 rfl ?_
    refine wp_iconst 3 dX10_trade_3 rfl rfl ?_
    refine wp_icmp_ge 55 dX10_trade_4 rfl rfl (fun c4 => ?_) (fun c4 => ?_)
    · exact absurd c4 (show ¬ ((3 : Int32) ≤ nI w) from nI_ge (a := w) (b := 3) (by omega) (by omega))
    · refine wp_aload_0 dX10_trade_7 rfl ?_
      refine wp_iload_1 dX10_trade_8 rfl ?_
      refine wp_iload_3 dX10_trade_9 rfl ?_
      refine wp_cvR dX10_trade_10 rfl q2121 mv_X10_ofComing (mg_0 hm) rfl rfl (m_ofComing hm hp (by omega)) rfl rfl (Nat.le_of_ble_eq_true rfl) (Nat.le_of_ble_eq_true rfl) ?_
      refine wp_istore_4 dX10_trade_13 rfl (by decide) rfl ?_
      refine wp_aload_0 dX10_trade_15 rfl ?_
      refine wp_getf dX10_trade_16 rfl q1832 fk10_1 (mg_0 hm) rfl ?_
      refine wp_bipush 24 dX10_trade_19 rfl rfl ?_
      refine wp_iconst 3 dX10_trade_21 rfl rfl ?_
      refine wp_iload_1 dX10_trade_22 rfl ?_
      refine wp_imul dX10_trade_23 rfl ?_
      refine wp_iadd dX10_trade_24 rfl ?_
      refine wp_iload_3 dX10_trade_25 rfl ?_
      refine wp_iadd dX10_trade_26 rfl ?_
      refine wp_aload_0 dX10_trade_27 rfl ?_
      refine wp_iload_2 dX10_trade_28 rfl ?_
      refine wp_iload_3 dX10_trade_29 rfl ?_
      refine wp_cvR dX10_trade_30 rfl q2121 mv_X10_ofComing (mg_0 hm) rfl rfl (m_ofComing hm hq2 (by omega)) rfl rfl (Nat.le_of_ble_eq_true rfl) (Nat.le_of_ble_eq_true rfl) ?_
      refine wp_iastoren (24 + 3 * p + w) dX10_trade_33 rfl (mg_1 hm) (by simp only [nI_lit, pk_mul, nI_add]) (by omega) (by decide) (ms_A1 hm) ?_
      refine wp_aload_0 dX10_trade_34 rfl ?_
      refine wp_getf dX10_trade_35 rfl q1832 fk10_1 (mg_0 hm) rfl ?_
      refine wp_bipush 24 dX10_trade_38 rfl rfl ?_
      refine wp_iconst 3 dX10_trade_40 rfl rfl ?_
      refine wp_iload_2 dX10_trade_41 rfl ?_
      refine wp_imul dX10_trade_42 rfl ?_
      refine wp_iadd dX10_trade_43 rfl ?_
      refine wp_iload_3 dX10_trade_44 rfl ?_
      refine wp_iadd dX10_trade_45 rfl ?_
      refine wp_iload_4 dX10_trade_46 rfl ?_
      refine wp_iastoren (24 + 3 * q2 + w) dX10_trade_48 rfl (mg_1 hm) (by simp only [nI_lit, pk_mul, nI_add]) (by omega) (by decide) (ms_A1 hm) ?_
      refine wp_iinc_3 1 dX10_trade_49 rfl rfl (by decide) rfl ?_
      refine wp_goto 2 dX10_trade_52 rfl rfl ?_
      exact WP.cast (by rw [nI_1]) (ih (trF p q2 w S) (w + 1) (some (.int (wd S (24 + 3 * p + w)))) (by omega) hq)
theorem m_trade {g : GW} {M : Nat} {pre post : AH} {S : SM} (hm : pre.length = M) {p q2 : Nat} (hp : p < 24) (hq2 : q2 < 24) : SPx g 2 0 0 yX10_trade cX10_trade 5 none [.ref M, .int (nI p), .int (nI q2)] (mH M pre S post) none (mH M pre (trS p q2 S) post) := by
  refine SPx.intro [some (.ref M), some (.int (nI p)), some (.int (nI q2)), none, none] (pfn (by decide)) rfl (Nat.le_of_ble_eq_true rfl) ?_
  refine wp_iconst 0 dX10_trade_0 rfl rfl ?_
  refine wp_istore_3 dX10_trade_1 rfl (by decide) rfl ?_
  exact mL_trade hm hp hq2 3 S 0 none rfl ⟨rfl, rfl⟩
theorem mL_better2 {g : GW} {M : Nat} {pre post : AH} (hm : pre.length = M) {S0 : SM} (hs : WFs (wd S0)) (h0 : ¬ wd S0 0 = 0) {z : Int32} {i : Nat} (hi4 : i < nW (wd S0) 5) {c n : Nat} {Q : Option Value → AH → Prop} : ∀ (k : Nat) (S : SM) (j : Nat) (a : Int32 × Int32) (v6 : Option Value), j + k = nW (wd S0) 5 → KP S0 S → (∀ S' j' v6', KP S0 S' → WP g 5 yX10_better cX10_better 7 (some .int) 120 [some (.ref M), some (.int z), some (.int (itr (beT (wd S0) z i) k j a).1), some (.int (itr (beT (wd S0) z i) k j a).2), some (.int (nI i)), some (.int (nI j')), v6'] [] (mH M pre S' post) c n Q) → WP g 5 yX10_better cX10_better 7 (some .int) 47 [some (.ref M), some (.int z), some (.int a.1), some (.int a.2), some (.int (nI i)), some (.int (nI j)), v6] [] (mH M pre S post) c n Q := by
  intro k
  induction k with
  | zero =>
    intro S j a v6 hi kp hq
    have ew : wd S = wd S0 := kp.wd
    have b24 := hs.nc.2
    have e5 : S.2.1 1 5 = nI (nW (wd S0) 5) := by rw [← hs.nc.1]; exact congrFun ew 5
    refine wp_iload_5 dX10_better_47 rfl ?_
    refine wp_aload_0 dX10_better_49 rfl ?_
    refine wp_getf dX10_better_50 rfl q1832 fk10_1 (mg_0 hm) rfl ?_
    refine wp_iconst 5 dX10_better_53 rfl rfl ?_
    refine wp_ialoadn 5 dX10_better_54 rfl (mg_1 hm) rfl (by decide) (by decide) ?_
    refine wp_icmp_ge 120 dX10_better_55 rfl rfl (fun c55 => ?_) (fun c55 => ?_)
    · exact hq S j v6 kp
    · exact absurd (show S.2.1 1 5 ≤ nI j by rw [e5]; exact nI_le (by omega) (by omega)) c55
  | succ k ih =>
    intro S j a v6 hi kp hq
    have ew : wd S = wd S0 := kp.wd
    have b24 := hs.nc.2
    have e5 : S.2.1 1 5 = nI (nW (wd S0) 5) := by rw [← hs.nc.1]; exact congrFun ew 5
    refine wp_iload_5 dX10_better_47 rfl ?_
    refine wp_aload_0 dX10_better_49 rfl ?_
    refine wp_getf dX10_better_50 rfl q1832 fk10_1 (mg_0 hm) rfl ?_
    refine wp_iconst 5 dX10_better_53 rfl rfl ?_
    refine wp_ialoadn 5 dX10_better_54 rfl (mg_1 hm) rfl (by decide) (by decide) ?_
    refine wp_icmp_ge 120 dX10_better_55 rfl rfl (fun c55 => ?_) (fun c55 => ?_)
    · exact absurd c55 (show ¬ (S.2.1 1 5 ≤ nI j) by rw [e5]; exact nI_ge (by omega) (by omega))
    · have et : wd (trS i j S) = swW i j (wd S0) := by rw [wd_trS, ew]
      have st := swW_s hs (show i < nW (wd S0) 5 by omega) (show j < nW (wd S0) 5 by omega)
      refine wp_aload_0 dX10_better_58 rfl ?_
      refine wp_iload_4 dX10_better_59 rfl ?_
      refine wp_iload_5 dX10_better_61 rfl ?_
      refine wp_cv0 dX10_better_63 rfl q2568 mv_X10_trade (mg_0 hm) rfl rfl (m_trade (p := i) (q2 := j) hm (by omega) (by omega)) rfl rfl (Nat.le_of_ble_eq_true rfl) (Nat.le_of_ble_eq_true rfl) ?_
      refine wp_aload_0 dX10_better_66 rfl ?_
      refine wp_cvR dX10_better_67 rfl q2560 mv_X10_pathOf (mg_0 hm) rfl rfl (m_pathOf hm (et ▸ st.1) (by rw [et, st.2]; exact h0)) rfl rfl (Nat.le_of_ble_eq_true rfl) (Nat.le_of_ble_eq_true rfl) ?_
      rw [et]
      refine wp_istore_6 dX10_better_70 rfl (by decide) rfl ?_
      refine wp_aload_0 dX10_better_72 rfl ?_
      refine wp_iload_4 dX10_better_73 rfl ?_
      refine wp_iload_5 dX10_better_75 rfl ?_
      refine wp_cv0 dX10_better_77 rfl q2568 mv_X10_trade (mg_0 hm) rfl rfl (m_trade (p := i) (q2 := j) hm (by omega) (by omega)) rfl rfl (Nat.le_of_ble_eq_true rfl) (Nat.le_of_ble_eq_true rfl) ?_
      refine wp_iload_1 dX10_better_80 rfl ?_
      refine wp_if_ne 93 dX10_better_81 rfl rfl (fun c81 => ?_) (fun c81 => ?_)
      · refine wp_iload_6 dX10_better_93 rfl ?_
        refine wp_iload_3 dX10_better_95 rfl ?_
        refine wp_icmp_lt 102 dX10_better_96 rfl rfl (fun c96 => ?_) (fun c96 => ?_)
        · refine wp_iload_6 dX10_better_102 rfl ?_
          refine wp_istore_3 dX10_better_104 rfl (by decide) rfl ?_
          refine wp_bipush 100 dX10_better_105 rfl rfl ?_
          refine wp_iload_4 dX10_better_107 rfl ?_
          refine wp_imul dX10_better_109 rfl ?_
          refine wp_iload_5 dX10_better_110 rfl ?_
          refine wp_iadd dX10_better_112 rfl ?_
          refine wp_istore_2 dX10_better_113 rfl (by decide) rfl ?_
          refine wp_iinc_5 1 dX10_better_114 rfl rfl (by decide) rfl ?_
          refine wp_goto 47 dX10_better_117 rfl rfl ?_
          first
          | (have e : nI (j + 1) = nI j + 1 := (nI_1 j).symm
             refine WP.cast ?_ (ih (trS i j (trS i j S)) (j + 1) (beT (wd S0) z i j a) (some (.int (paW (swW i j (wd S0))))) (by omega) (kp.tr (KP_tr2 i j S)) hq)
             have c : beB z (paW (swW i j (wd S0))) a.2 = true := by (rw [beB, if_pos c81]; exact decide_eq_true (Int32.not_lt.mp c87))
             rw [beT, if_pos c]
             first | rfl | rw [e])
          | (have e : nI (j + 1) = nI j + 1 := (nI_1 j).symm
             refine WP.cast ?_ (ih (trS i j (trS i j S)) (j + 1) (beT (wd S0) z i j a) (some (.int (paW (swW i j (wd S0))))) (by omega) (kp.tr (KP_tr2 i j S)) hq)
             have c : beB z (paW (swW i j (wd S0))) a.2 = false := by (rw [beB, if_pos c81]; exact decide_eq_false (Int32.not_le.mpr c87))
             rw [beT, if_neg (by rw [c]; decide)]
             first | rfl | rw [e])
          | (have e : nI (j + 1) = nI j + 1 := (nI_1 j).symm
             refine WP.cast ?_ (ih (trS i j (trS i j S)) (j + 1) (beT (wd S0) z i j a) (some (.int (paW (swW i j (wd S0))))) (by omega) (kp.tr (KP_tr2 i j S)) hq)
             have c : beB z (paW (swW i j (wd S0))) a.2 = true := by (rw [beB, if_neg c81]; exact decide_eq_true (Int32.not_lt.mp c96))
             rw [beT, if_pos c]
             first | rfl | rw [e])
          | (have e : nI (j + 1) = nI j + 1 := (nI_1 j).symm
             refine WP.cast ?_ (ih (trS i j (trS i j S)) (j + 1) (beT (wd S0) z i j a) (some (.int (paW (swW i j (wd S0))))) (by omega) (kp.tr (KP_tr2 i j S)) hq)
             have c : beB z (paW (swW i j (wd S0))) a.2 = false := by (rw [beB, if_neg c81]; exact decide_eq_false (Int32.not_le.mpr c96))
             rw [beT, if_neg (by rw [c]; decide)]
             first | rfl | rw [e])
        · refine wp_goto 114 dX10_better_99 rfl rfl ?_
          refine wp_iinc_5 1 dX10_better_114 rfl rfl (by decide) rfl ?_
          refine wp_goto 47 dX10_better_117 rfl rfl ?_
          first
          | (have e : nI (j + 1) = nI j + 1 := (nI_1 j).symm
             refine WP.cast ?_ (ih (trS i j (trS i j S)) (j + 1) (beT (wd S0) z i j a) (some (.int (paW (swW i j (wd S0))))) (by omega) (kp.tr (KP_tr2 i j S)) hq)
             have c : beB z (paW (swW i j (wd S0))) a.2 = true := by (rw [beB, if_pos c81]; exact decide_eq_true (Int32.not_lt.mp c87))
             rw [beT, if_pos c]
             first | rfl | rw [e])
          | (have e : nI (j + 1) = nI j + 1 := (nI_1 j).symm
             refine WP.cast ?_ (ih (trS i j (trS i j S)) (j + 1) (beT (wd S0) z i j a) (some (.int (paW (swW i j (wd S0))))) (by omega) (kp.tr (KP_tr2 i j S)) hq)
             have c : beB z (paW (swW i j (wd S0))) a.2 = false := by (rw [beB, if_pos c81]; exact decide_eq_false (Int32.not_le.mpr c87))
             rw [beT, if_neg (by rw [c]; decide)]
             first | rfl | rw [e])
          | (have e : nI (j + 1) = nI j + 1 := (nI_1 j).symm
             refine WP.cast ?_ (ih (trS i j (trS i j S)) (j + 1) (beT (wd S0) z i j a) (some (.int (paW (swW i j (wd S0))))) (by omega) (kp.tr (KP_tr2 i j S)) hq)
             have c : beB z (paW (swW i j (wd S0))) a.2 = true := by (rw [beB, if_neg c81]; exact decide_eq_true (Int32.not_lt.mp c96))
             rw [beT, if_pos c]
             first | rfl | rw [e])
          | (have e : nI (j + 1) = nI j + 1 := (nI_1 j).symm
             refine WP.cast ?_ (ih (trS i j (trS i j S)) (j + 1) (beT (wd S0) z i j a) (some (.int (paW (swW i j (wd S0))))) (by omega) (kp.tr (KP_tr2 i j S)) hq)
             have c : beB z (paW (swW i j (wd S0))) a.2 = false := by (rw [beB, if_neg c81]; exact decide_eq_false (Int32.not_le.mpr c96))
             rw [beT, if_neg (by rw [c]; decide)]
             first | rfl | rw [e])
      · refine wp_iload_6 dX10_better_84 rfl ?_
        refine wp_iload_3 dX10_better_86 rfl ?_
        refine wp_icmp_gt 102 dX10_better_87 rfl rfl (fun c87 => ?_) (fun c87 => ?_)
        · refine wp_iload_6 dX10_better_102 rfl ?_
          refine wp_istore_3 dX10_better_104 rfl (by decide) rfl ?_
          refine wp_bipush 100 dX10_better_105 rfl rfl ?_
          refine wp_iload_4 dX10_better_107 rfl ?_
          refine wp_imul dX10_better_109 rfl ?_
          refine wp_iload_5 dX10_better_110 rfl ?_
          refine wp_iadd dX10_better_112 rfl ?_
          refine wp_istore_2 dX10_better_113 rfl (by decide) rfl ?_
          refine wp_iinc_5 1 dX10_better_114 rfl rfl (by decide) rfl ?_
          refine wp_goto 47 dX10_better_117 rfl rfl ?_
          first
          | (have e : nI (j + 1) = nI j + 1 := (nI_1 j).symm
             refine WP.cast ?_ (ih (trS i j (trS i j S)) (j + 1) (beT (wd S0) z i j a) (some (.int (paW (swW i j (wd S0))))) (by omega) (kp.tr (KP_tr2 i j S)) hq)
             have c : beB z (paW (swW i j (wd S0))) a.2 = true := by (rw [beB, if_pos c81]; exact decide_eq_true (Int32.not_lt.mp c87))
             rw [beT, if_pos c]
             first | rfl | rw [e])
          | (have e : nI (j + 1) = nI j + 1 := (nI_1 j).symm
             refine WP.cast ?_ (ih (trS i j (trS i j S)) (j + 1) (beT (wd S0) z i j a) (some (.int (paW (swW i j (wd S0))))) (by omega) (kp.tr (KP_tr2 i j S)) hq)
             have c : beB z (paW (swW i j (wd S0))) a.2 = false := by (rw [beB, if_pos c81]; exact decide_eq_false (Int32.not_le.mpr c87))
             rw [beT, if_neg (by rw [c]; decide)]
             first | rfl | rw [e])
          | (have e : nI (j + 1) = nI j + 1 := (nI_1 j).symm
             refine WP.cast ?_ (ih (trS i j (trS i j S)) (j + 1) (beT (wd S0) z i j a) (some (.int (paW (swW i j (wd S0))))) (by omega) (kp.tr (KP_tr2 i j S)) hq)
             have c : beB z (paW (swW i j (wd S0))) a.2 = true := by (rw [beB, if_neg c81]; exact decide_eq_true (Int32.not_lt.mp c96))
             rw [beT, if_pos c]
             first | rfl | rw [e])
          | (have e : nI (j + 1) = nI j + 1 := (nI_1 j).symm
             refine WP.cast ?_ (ih (trS i j (trS i j S)) (j + 1) (beT (wd S0) z i j a) (some (.int (paW (swW i j (wd S0))))) (by omega) (kp.tr (KP_tr2 i j S)) hq)
             have c : beB z (paW (swW i j (wd S0))) a.2 = false := by (rw [beB, if_neg c81]; exact decide_eq_false (Int32.not_le.mpr c96))
             rw [beT, if_neg (by rw [c]; decide)]
             first | rfl | rw [e])
        · refine wp_goto 114 dX10_better_90 rfl rfl ?_
          refine wp_iinc_5 1 dX10_better_114 rfl rfl (by decide) rfl ?_
          refine wp_goto 47 dX10_better_117 rfl rfl ?_
          first
          | (have e : nI (j + 1) = nI j + 1 := (nI_1 j).symm
             refine WP.cast ?_ (ih (trS i j (trS i j S)) (j + 1) (beT (wd S0) z i j a) (some (.int (paW (swW i j (wd S0))))) (by omega) (kp.tr (KP_tr2 i j S)) hq)
             have c : beB z (paW (swW i j (wd S0))) a.2 = true := by (rw [beB, if_pos c81]; exact decide_eq_true (Int32.not_lt.mp c87))
             rw [beT, if_pos c]
             first | rfl | rw [e])
          | (have e : nI (j + 1) = nI j + 1 := (nI_1 j).symm
             refine WP.cast ?_ (ih (trS i j (trS i j S)) (j + 1) (beT (wd S0) z i j a) (some (.int (paW (swW i j (wd S0))))) (by omega) (kp.tr (KP_tr2 i j S)) hq)
             have c : beB z (paW (swW i j (wd S0))) a.2 = false := by (rw [beB, if_pos c81]; exact decide_eq_false (Int32.not_le.mpr c87))
             rw [beT, if_neg (by rw [c]; decide)]
             first | rfl | rw [e])
          | (have e : nI (j + 1) = nI j + 1 := (nI_1 j).symm
             refine WP.cast ?_ (ih (trS i j (trS i j S)) (j + 1) (beT (wd S0) z i j a) (some (.int (paW (swW i j (wd S0))))) (by omega) (kp.tr (KP_tr2 i j S)) hq)
             have c : beB z (paW (swW i j (wd S0))) a.2 = true := by (rw [beB, if_neg c81]; exact decide_eq_true (Int32.not_lt.mp c96))
             rw [beT, if_pos c]
             first | rfl | rw [e])
          | (have e : nI (j + 1) = nI j + 1 := (nI_1 j).symm
             refine WP.cast ?_ (ih (trS i j (trS i j S)) (j + 1) (beT (wd S0) z i j a) (some (.int (paW (swW i j (wd S0))))) (by omega) (kp.tr (KP_tr2 i j S)) hq)
             have c : beB z (paW (swW i j (wd S0))) a.2 = false := by (rw [beB, if_neg c81]; exact decide_eq_false (Int32.not_le.mpr c96))
             rw [beT, if_neg (by rw [c]; decide)]
             first | rfl | rw [e])
theorem mL_better {g : GW} {M : Nat} {pre post : AH} (hm : pre.length = M) {S0 : SM} (hs : WFs (wd S0)) (h0 : ¬ wd S0 0 = 0) {z : Int32} {c n : Nat} {Q : Option Value → AH → Prop} : ∀ (k : Nat) (S : SM) (i : Nat) (a : Int32 × Int32) (v5 v6 : Option Value), i + k = nW (wd S0) 5 → KP S0 S → (∀ S', KP S0 S' → Q (some (.int ((itr (beK (wd S0) z) k i a).1))) (mH M pre S' post)) → WP g 5 yX10_better cX10_better 7 (some .int) 30 [some (.ref M), some (.int z), some (.int a.1), some (.int a.2), some (.int (nI i)), v5, v6] [] (mH M pre S post) c n Q := by
  intro k
  induction k with
  | zero =>
    intro S i a v5 v6 hi kp hq
    have ew : wd S = wd S0 := kp.wd
    have b24 := hs.nc.2
    have e5 : S.2.1 1 5 = nI (nW (wd S0) 5) := by rw [← hs.nc.1]; exact congrFun ew 5
    refine wp_iload_4 dX10_better_30 rfl ?_
    refine wp_aload_0 dX10_better_32 rfl ?_
    refine wp_getf dX10_better_33 rfl q1832 fk10_1 (mg_0 hm) rfl ?_
    refine wp_iconst 5 dX10_better_36 rfl rfl ?_
    refine wp_ialoadn 5 dX10_better_37 rfl (mg_1 hm) rfl (by decide) (by decide) ?_
    refine wp_icmp_ge 126 dX10_better_38 rfl rfl (fun c38 => ?_) (fun c38 => ?_)
    · refine wp_iload_2 dX10_better_126 rfl ?_
      exact wp_ireturn dX10_better_127 rfl (hq S kp)
    · exact absurd (show S.2.1 1 5 ≤ nI i by rw [e5]; exact nI_le (by omega) (by omega)) c38
  | succ k ih =>
    intro S i a v5 v6 hi kp hq
    have ew : wd S = wd S0 := kp.wd
    have b24 := hs.nc.2
    have e5 : S.2.1 1 5 = nI (nW (wd S0) 5) := by rw [← hs.nc.1]; exact congrFun ew 5
    refine wp_iload_4 dX10_better_30 rfl ?_
    refine wp_aload_0 dX10_better_32 rfl ?_
    refine wp_getf dX10_better_33 rfl q1832 fk10_1 (mg_0 hm) rfl ?_
    refine wp_iconst 5 dX10_better_36 rfl rfl ?_
    refine wp_ialoadn 5 dX10_better_37 rfl (mg_1 hm) rfl (by decide) (by decide) ?_
    refine wp_icmp_ge 126 dX10_better_38 rfl rfl (fun c38 => ?_) (fun c38 => ?_)
    · exact absurd c38 (show ¬ (S.2.1 1 5 ≤ nI i) by rw [e5]; exact nI_ge (by omega) (by omega))
    · refine wp_iload_4 dX10_better_41 rfl ?_
      refine wp_iconst 1 dX10_better_43 rfl rfl ?_
      refine wp_iadd dX10_better_44 rfl ?_
      refine wp_istore_5 dX10_better_45 rfl (by decide) rfl ?_
      refine WP.cast (by rw [← nI_1]) (mL_better2 hm hs h0 (i := i) (by omega) (nW (wd S0) 5 - (i + 1)) S (i + 1) a v6 (by omega) kp (fun S1 j' v6' kp1 => ?_))
      refine wp_iinc_4 1 dX10_better_120 rfl rfl (by decide) rfl ?_
      refine wp_goto 30 dX10_better_123 rfl rfl ?_
      exact WP.cast (by rw [nI_1]; rfl) (ih S1 (i + 1) (beK (wd S0) z i a) (some (.int (nI j'))) v6' (by omega) kp1 hq)
theorem q_m_better {g : GW} {M : Nat} {pre post : AH} {S : SM} (hm : pre.length = M) {z : Int32} (hs : WFs (wd S)) : SP g 5 0 0 yX10_better cX10_better 7 (some .int) [.ref M, .int z] (mH M pre S post) (QM M pre post S (.int (qbetter (wd S) z))) := by
  refine SP.intro [some (.ref M), some (.int z), none, none, none, none, none] (pfn (by decide)) rfl (Nat.le_of_ble_eq_true rfl) ?_
  refine wp_aload_0 dX10_better_0 rfl ?_
  refine wp_cvR dX10_better_1 rfl q2154 mv_X10_isBoard (mg_0 hm) rfl rfl (m_isBoard hm) rfl rfl (Nat.le_of_ble_eq_true rfl) (Nat.le_of_ble_eq_true rfl) ?_
  refine wp_ifeq_b 17 dX10_better_4 rfl rfl (fun c4 => ?_) (fun c4 => ?_)
  · refine wp_bipush (-2) dX10_better_17 rfl rfl ?_
    exact wp_ireturn dX10_better_19 rfl ⟨by rw [qbetter, if_neg (by simp [*])], S, rfl, KP.rf S⟩
  · refine wp_iload_1 dX10_better_7 rfl ?_
    refine wp_i2l dX10_better_8 rfl ?_
    refine wp_lconst 0 dX10_better_9 rfl rfl ?_
    refine wp_lconst 1 dX10_better_10 rfl rfl ?_
    refine wp_csR dX10_better_11 rfl q1979 ms_X10_in m_in rfl rfl (Nat.le_of_ble_eq_true rfl) (Nat.le_of_ble_eq_true rfl) ?_
    refine wp_ifne_b 20 dX10_better_14 rfl rfl (fun c14 => ?_) (fun c14 => ?_)
    · refine wp_iconst (-1) dX10_better_20 rfl rfl ?_
      refine wp_istore_2 dX10_better_21 rfl (by decide) rfl ?_
      have h0 := bd_0 c4
      refine wp_aload_0 dX10_better_22 rfl ?_
      refine wp_cvR dX10_better_23 rfl q2560 mv_X10_pathOf (mg_0 hm) rfl rfl (m_pathOf hm hs h0) rfl rfl (Nat.le_of_ble_eq_true rfl) (Nat.le_of_ble_eq_true rfl) ?_
      refine wp_istore_3 dX10_better_26 rfl (by decide) rfl ?_
      refine wp_iconst 0 dX10_better_27 rfl rfl ?_
      refine wp_istore_4 dX10_better_28 rfl (by decide) rfl ?_
      exact mL_better hm hs h0 (nW (wd S) 5) S 0 (-1, paW (wd S)) none none (Nat.zero_add _) (KP.rf S) (fun S2 k2 => ⟨by rw [qbetter, if_pos ⟨c4, c14⟩], S2, rfl, k2⟩)
    · refine wp_bipush (-2) dX10_better_17 rfl rfl ?_
      exact wp_ireturn dX10_better_19 rfl ⟨by rw [qbetter, if_neg (by simp [*])], S, rfl, KP.rf S⟩
theorem q_m_swap {g : GW} {M : Nat} {pre post : AH} {S : SM} (hm : pre.length = M) {x z : Int32} (hs : WFs (wd S)) : SP g 4 0 0 yX10_swap cX10_swap 3 (some .int) [.ref M, .int x, .int z] (mH M pre S post) (QW M pre post S (.int (qswap (wd S) x z)) (wswap (wd S) x z)) := by
  refine SP.intro [some (.ref M), some (.int x), some (.int z)] (pfn (by decide)) rfl (Nat.le_of_ble_eq_true rfl) ?_
  refine wp_aload_0 dX10_swap_0 rfl ?_
  refine wp_iload_1 dX10_swap_1 rfl ?_
  refine wp_cvR dX10_swap_2 rfl q2117 mv_X10_isComing (mg_0 hm) rfl rfl (m_isComing hm) rfl rfl (Nat.le_of_ble_eq_true rfl) (Nat.le_of_ble_eq_true rfl) ?_
  refine wp_ifeq_b 16 dX10_swap_5 rfl rfl (fun c5 => ?_) (fun c5 => ?_)
  · refine wp_bipush (-2) dX10_swap_16 rfl rfl ?_
    exact wp_ireturn dX10_swap_18 rfl ⟨by rw [qswap, if_neg (by simp [*])], S, rfl, KW.rf S, by rw [wswap, if_neg (by simp [*])]⟩
  · refine wp_aload_0 dX10_swap_8 rfl ?_
    refine wp_iload_2 dX10_swap_9 rfl ?_
    refine wp_cvR dX10_swap_10 rfl q2117 mv_X10_isComing (mg_0 hm) rfl rfl (m_isComing hm) rfl rfl (Nat.le_of_ble_eq_true rfl) (Nat.le_of_ble_eq_true rfl) ?_
    refine wp_ifne_b 19 dX10_swap_13 rfl rfl (fun c13 => ?_) (fun c13 => ?_)
    · obtain ⟨p, hp, rfl⟩ := cmW_of hs c5
      have hp4 : p < 24 := by have := hs.nc.2; omega
      obtain ⟨l, hl, rfl⟩ := cmW_of hs c13
      have hl4 : l < 24 := by have := hs.nc.2; omega
      refine wp_aload_0 dX10_swap_19 rfl ?_
      refine wp_iload_1 dX10_swap_20 rfl ?_
      refine wp_iload_2 dX10_swap_21 rfl ?_
      refine wp_cv0 dX10_swap_22 rfl q2568 mv_X10_trade (mg_0 hm) rfl rfl (m_trade hm (by omega) (by omega)) rfl rfl (Nat.le_of_ble_eq_true rfl) (Nat.le_of_ble_eq_true rfl) ?_
      refine wp_iconst 0 dX10_swap_25 rfl rfl ?_
      exact wp_ireturn dX10_swap_26 rfl ⟨by rw [qswap, if_pos ⟨c5, c13⟩], trS p l S, rfl, KW.trS p l S, by rw [wd_trS, wswap, if_pos ⟨c5, c13⟩, nI_clamp (by omega), nI_clamp (by omega)]⟩
    · refine wp_bipush (-2) dX10_swap_16 rfl rfl ?_
      exact wp_ireturn dX10_swap_18 rfl ⟨by rw [qswap, if_neg (by simp [*])], S, rfl, KW.rf S, by rw [wswap, if_neg (by simp [*])]⟩
theorem q_m_turn {g : GW} {M : Nat} {pre post : AH} {S : SM} (hm : pre.length = M) {x : Int32} (hs : WFs (wd S)) : SP g 4 0 0 yX10_turn cX10_turn 3 (some .int) [.ref M, .int x] (mH M pre S post) (QW M pre post S (.int (qturn (wd S) x)) (wturn (wd S) x)) := by
  refine SP.intro [some (.ref M), some (.int x), none] (pfn (by decide)) rfl (Nat.le_of_ble_eq_true rfl) ?_
  refine wp_aload_0 dX10_turn_0 rfl ?_
  refine wp_iload_1 dX10_turn_1 rfl ?_
  refine wp_cvR dX10_turn_2 rfl q2117 mv_X10_isComing (mg_0 hm) rfl rfl (m_isComing hm) rfl rfl (Nat.le_of_ble_eq_true rfl) (Nat.le_of_ble_eq_true rfl) ?_
  refine wp_ifne_b 11 dX10_turn_5 rfl rfl (fun c5 => ?_) (fun c5 => ?_)
  · refine wp_aload_0 dX10_turn_11 rfl ?_
    refine wp_getf dX10_turn_12 rfl q1832 fk10_1 (mg_0 hm) rfl ?_
    refine wp_bipush 8 dX10_turn_15 rfl rfl ?_
    refine wp_ialoadn 8 dX10_turn_17 rfl (mg_1 hm) rfl (by decide) (by decide) ?_
    refine wp_istore_2 dX10_turn_18 rfl (by decide) rfl ?_
    refine wp_aload_0 dX10_turn_19 rfl ?_
    refine wp_getf dX10_turn_20 rfl q1832 fk10_1 (mg_0 hm) rfl ?_
    refine wp_bipush 8 dX10_turn_23 rfl rfl ?_
    refine wp_iload_1 dX10_turn_25 rfl ?_
    refine wp_iastoren 8 dX10_turn_26 rfl (mg_1 hm) rfl (by decide) (by decide) (ms_A1 hm) ?_
    refine wp_iload_2 dX10_turn_27 rfl ?_
    exact wp_ireturn dX10_turn_28 rfl ⟨by rw [qturn, if_pos c5]; rfl, sA 1 8 x S, rfl, KW.set _ _ S, by rw [wd_sA, wturn, if_pos c5]⟩
  · refine wp_bipush (-2) dX10_turn_8 rfl rfl ?_
    exact wp_ireturn dX10_turn_10 rfl ⟨by rw [qturn, if_neg (by simp [*])], S, rfl, KW.rf S, by rw [wturn, if_neg (by simp [*])]⟩
theorem q_m_paint {g : GW} {M : Nat} {pre post : AH} {S : SM} (hm : pre.length = M) {x z : Int32} (hs : WFs (wd S)) : SP g 4 0 0 yX10_paint cX10_paint 4 (some .int) [.ref M, .int x, .int z] (mH M pre S post) (QW M pre post S (.int (qpaint (wd S) x z)) (wpaint (wd S) x z)) := by
  refine SP.intro [some (.ref M), some (.int x), some (.int z), none] (pfn (by decide)) rfl (Nat.le_of_ble_eq_true rfl) ?_
  refine wp_aload_0 dX10_paint_0 rfl ?_
  refine wp_iload_1 dX10_paint_1 rfl ?_
  refine wp_cvR dX10_paint_2 rfl q2117 mv_X10_isComing (mg_0 hm) rfl rfl (m_isComing hm) rfl rfl (Nat.le_of_ble_eq_true rfl) (Nat.le_of_ble_eq_true rfl) ?_
  refine wp_ifeq_b 28 dX10_paint_5 rfl rfl (fun c5 => ?_) (fun c5 => ?_)
  · refine wp_bipush (-2) dX10_paint_28 rfl rfl ?_
    exact wp_ireturn dX10_paint_30 rfl ⟨by rw [qpaint, if_neg (by unfold okP; first | (rw [c5]; simp; done) | (rw [c15]; simp; done) | (rw [nI_clamp (by omega), decide_eq_false c25]; simp; done))], S, rfl, KW.rf S, by rw [wpaint, if_neg (by unfold okP; first | (rw [c5]; simp; done) | (rw [c15]; simp; done) | (rw [nI_clamp (by omega), decide_eq_false c25]; simp; done))]⟩
  · obtain ⟨p, hp, rfl⟩ := cmW_of hs c5
    have hp4 : p < 24 := by have := hs.nc.2; omega
    refine wp_iload_2 dX10_paint_8 rfl ?_
    refine wp_i2l dX10_paint_9 rfl ?_
    refine wp_lconst 0 dX10_paint_10 rfl rfl ?_
    refine wp_lconst 1 dX10_paint_11 rfl rfl ?_
    refine wp_csR dX10_paint_12 rfl q1979 ms_X10_in m_in rfl rfl (Nat.le_of_ble_eq_true rfl) (Nat.le_of_ble_eq_true rfl) ?_
    refine wp_ifeq_b 28 dX10_paint_15 rfl rfl (fun c15 => ?_) (fun c15 => ?_)
    · refine wp_bipush (-2) dX10_paint_28 rfl rfl ?_
      exact wp_ireturn dX10_paint_30 rfl ⟨by rw [qpaint, if_neg (by unfold okP; first | (rw [c5]; simp; done) | (rw [c15]; simp; done) | (rw [nI_clamp (by omega), decide_eq_false c25]; simp; done))], S, rfl, KW.rf S, by rw [wpaint, if_neg (by unfold okP; first | (rw [c5]; simp; done) | (rw [c15]; simp; done) | (rw [nI_clamp (by omega), decide_eq_false c25]; simp; done))]⟩
    · refine wp_aload_0 dX10_paint_18 rfl ?_
      refine wp_iload_1 dX10_paint_19 rfl ?_
      refine wp_iconst 1 dX10_paint_20 rfl rfl ?_
      refine wp_cvR dX10_paint_21 rfl q2121 mv_X10_ofComing (mg_0 hm) rfl rfl (m_ofComing (w := 1) hm hp4 (by omega)) rfl rfl (Nat.le_of_ble_eq_true rfl) (Nat.le_of_ble_eq_true rfl) ?_
      refine wp_iconst (-1) dX10_paint_24 rfl rfl ?_
      refine wp_icmp_eq 31 dX10_paint_25 rfl rfl (fun c25 => ?_) (fun c25 => ?_)
      · have ok : okP (wd S) (nI p) z = true := by unfold okP; rw [c5, c15, nI_clamp (by omega), decide_eq_true c25]; rfl
        refine wp_aload_0 dX10_paint_31 rfl ?_
        refine wp_iload_1 dX10_paint_32 rfl ?_
        refine wp_iconst 2 dX10_paint_33 rfl rfl ?_
        refine wp_cvR dX10_paint_34 rfl q2121 mv_X10_ofComing (mg_0 hm) rfl rfl (m_ofComing (w := 2) hm hp4 (by omega)) rfl rfl (Nat.le_of_ble_eq_true rfl) (Nat.le_of_ble_eq_true rfl) ?_
        refine wp_istore_3 dX10_paint_37 rfl (by decide) rfl ?_
        refine wp_aload_0 dX10_paint_38 rfl ?_
        refine wp_getf dX10_paint_39 rfl q1832 fk10_1 (mg_0 hm) rfl ?_
        refine wp_bipush 24 dX10_paint_42 rfl rfl ?_
        refine wp_iconst 3 dX10_paint_44 rfl rfl ?_
        refine wp_iload_1 dX10_paint_45 rfl ?_
        refine wp_imul dX10_paint_46 rfl ?_
        refine wp_iadd dX10_paint_47 rfl ?_
        refine wp_iconst 2 dX10_paint_48 rfl rfl ?_
        refine wp_iadd dX10_paint_49 rfl ?_
        refine wp_iload_2 dX10_paint_50 rfl ?_
        refine wp_iastoren (24 + 3 * p + 2) dX10_paint_51 rfl (mg_1 hm) (by simp only [nI_lit, pk_mul, nI_add]) (by omega) (by decide) (ms_A1 hm) ?_
        refine wp_iload_3 dX10_paint_52 rfl ?_
        exact wp_ireturn dX10_paint_53 rfl ⟨by rw [qpaint, if_pos ok, nI_clamp (show p < 2147483648 by omega)], sA 1 (24 + 3 * p + 2) z S, rfl, KW.set _ _ S, by rw [wd_sA, wpaint, if_pos ok, nI_clamp (show p < 2147483648 by omega)]⟩
      · refine wp_bipush (-2) dX10_paint_28 rfl rfl ?_
        exact wp_ireturn dX10_paint_30 rfl ⟨by rw [qpaint, if_neg (by unfold okP; first | (rw [c5]; simp; done) | (rw [c15]; simp; done) | (rw [nI_clamp (by omega), decide_eq_false c25]; simp; done))], S, rfl, KW.rf S, by rw [wpaint, if_neg (by unfold okP; first | (rw [c5]; simp; done) | (rw [c15]; simp; done) | (rw [nI_clamp (by omega), decide_eq_false c25]; simp; done))]⟩
theorem q_m_shut {g : GW} {M : Nat} {pre post : AH} {S : SM} (hm : pre.length = M) {x z : Int32} (hs : WFs (wd S)) : SP g 4 0 0 yX10_shut cX10_shut 4 (some .int) [.ref M, .int x, .int z] (mH M pre S post) (QW M pre post S (.int (qshut (wd S) x z)) (wshut (wd S) x z)) := by
  refine SP.intro [some (.ref M), some (.int x), some (.int z), none] (pfn (by decide)) rfl (Nat.le_of_ble_eq_true rfl) ?_
  refine wp_aload_0 dX10_shut_0 rfl ?_
  refine wp_iload_1 dX10_shut_1 rfl ?_
  refine wp_i2l dX10_shut_2 rfl ?_
  refine wp_cvR dX10_shut_3 rfl q2202 mv_X10_isHole (mg_0 hm) rfl rfl (m_isHole hm) rfl rfl (Nat.le_of_ble_eq_true rfl) (Nat.le_of_ble_eq_true rfl) ?_
  refine wp_ifeq_b 27 dX10_shut_6 rfl rfl (fun c6 => ?_) (fun c6 => ?_)
  · refine wp_bipush (-2) dX10_shut_27 rfl rfl ?_
    exact wp_ireturn dX10_shut_29 rfl ⟨by rw [qshut, if_neg (by unfold okH; first | (rw [c6]; simp; done) | (rw [c16]; simp; done) | (rw [decide_eq_false (Int32.not_le.mpr (Int32.not_le.mp c24))]; simp; done))], S, rfl, KW.rf S, by rw [wshut, if_neg (by unfold okH; first | (rw [c6]; simp; done) | (rw [c16]; simp; done) | (rw [decide_eq_false (Int32.not_le.mpr (Int32.not_le.mp c24))]; simp; done))]⟩
  · refine wp_iload_2 dX10_shut_9 rfl ?_
    refine wp_i2l dX10_shut_10 rfl ?_
    refine wp_lconst 0 dX10_shut_11 rfl rfl ?_
    refine wp_lconst 1 dX10_shut_12 rfl rfl ?_
    refine wp_csR dX10_shut_13 rfl q1979 ms_X10_in m_in rfl rfl (Nat.le_of_ble_eq_true rfl) (Nat.le_of_ble_eq_true rfl) ?_
    refine wp_ifeq_b 27 dX10_shut_16 rfl rfl (fun c16 => ?_) (fun c16 => ?_)
    · refine wp_bipush (-2) dX10_shut_27 rfl rfl ?_
      exact wp_ireturn dX10_shut_29 rfl ⟨by rw [qshut, if_neg (by unfold okH; first | (rw [c6]; simp; done) | (rw [c16]; simp; done) | (rw [decide_eq_false (Int32.not_le.mpr (Int32.not_le.mp c24))]; simp; done))], S, rfl, KW.rf S, by rw [wshut, if_neg (by unfold okH; first | (rw [c6]; simp; done) | (rw [c16]; simp; done) | (rw [decide_eq_false (Int32.not_le.mpr (Int32.not_le.mp c24))]; simp; done))]⟩
    · refine wp_aload_0 dX10_shut_19 rfl ?_
      refine wp_iload_1 dX10_shut_20 rfl ?_
      refine wp_cvR dX10_shut_21 rfl q2548 mv_X10_oftenOf (mg_0 hm) rfl rfl (m_oftenOf hm hs) rfl rfl (Nat.le_of_ble_eq_true rfl) (Nat.le_of_ble_eq_true rfl) ?_
      refine wp_if_le 30 dX10_shut_24 rfl rfl (fun c24 => ?_) (fun c24 => ?_)
      · have ok : okH (wd S) x z = true := by unfold okH; rw [c6, c16, decide_eq_true c24]; rfl
        refine wp_aload_0 dX10_shut_30 rfl ?_
        refine wp_iload_1 dX10_shut_31 rfl ?_
        refine wp_cvR dX10_shut_32 rfl q2338 mv_X10_isShut (mg_0 hm) rfl rfl (m_isShut hm) rfl rfl (Nat.le_of_ble_eq_true rfl) (Nat.le_of_ble_eq_true rfl) ?_
        refine wp_ifeq_b 42 dX10_shut_35 rfl rfl (fun c35 => ?_) (fun c35 => ?_)
        · refine wp_iconst 0 dX10_shut_42 rfl rfl ?_
          refine wp_istore_3 dX10_shut_43 rfl (by decide) rfl ?_
          refine wp_aload_0 dX10_shut_44 rfl ?_
          refine wp_getf dX10_shut_45 rfl q1832 fk10_1 (mg_0 hm) rfl ?_
          refine wp_bipush 7 dX10_shut_48 rfl rfl ?_
          refine wp_aload_0 dX10_shut_50 rfl ?_
          refine wp_getf dX10_shut_51 rfl q1832 fk10_1 (mg_0 hm) rfl ?_
          refine wp_bipush 7 dX10_shut_54 rfl rfl ?_
          refine wp_ialoadn 7 dX10_shut_56 rfl (mg_1 hm) rfl (by decide) (by decide) ?_
          refine wp_iconst 1 dX10_shut_57 rfl rfl ?_
          refine wp_iload_1 dX10_shut_58 rfl ?_
          refine wp_ishl dX10_shut_59 rfl ?_
          refine wp_iconst (-1) dX10_shut_60 rfl rfl ?_
          refine wp_ixor dX10_shut_61 rfl ?_
          refine wp_iand dX10_shut_62 rfl ?_
          refine wp_iload_2 dX10_shut_63 rfl ?_
          refine wp_iload_1 dX10_shut_64 rfl ?_
          refine wp_ishl dX10_shut_65 rfl ?_
          refine wp_ior dX10_shut_66 rfl ?_
          refine wp_iastoren 7 dX10_shut_67 rfl (mg_1 hm) rfl (by decide) (by decide) (ms_A1 hm) ?_
          refine wp_iload_3 dX10_shut_68 rfl ?_
          exact wp_ireturn dX10_shut_69 rfl ⟨by rw [qshut, if_pos ok]; simp [*], sA 1 7 (wd S 7 &&& (((1 : Int32) <<< (x &&& 31)) ^^^ (-1)) ||| (z <<< (x &&& 31))) S, rfl, KW.set _ _ S, by rw [wd_sA, wshut, if_pos ok]⟩
        · refine wp_iconst 1 dX10_shut_38 rfl rfl ?_
          refine wp_goto 43 dX10_shut_39 rfl rfl ?_
          refine wp_istore_3 dX10_shut_43 rfl (by decide) rfl ?_
          refine wp_aload_0 dX10_shut_44 rfl ?_
          refine wp_getf dX10_shut_45 rfl q1832 fk10_1 (mg_0 hm) rfl ?_
          refine wp_bipush 7 dX10_shut_48 rfl rfl ?_
          refine wp_aload_0 dX10_shut_50 rfl ?_
          refine wp_getf dX10_shut_51 rfl q1832 fk10_1 (mg_0 hm) rfl ?_
          refine wp_bipush 7 dX10_shut_54 rfl rfl ?_
          refine wp_ialoadn 7 dX10_shut_56 rfl (mg_1 hm) rfl (by decide) (by decide) ?_
          refine wp_iconst 1 dX10_shut_57 rfl rfl ?_
          refine wp_iload_1 dX10_shut_58 rfl ?_
          refine wp_ishl dX10_shut_59 rfl ?_
          refine wp_iconst (-1) dX10_shut_60 rfl rfl ?_
          refine wp_ixor dX10_shut_61 rfl ?_
          refine wp_iand dX10_shut_62 rfl ?_
          refine wp_iload_2 dX10_shut_63 rfl ?_
          refine wp_iload_1 dX10_shut_64 rfl ?_
          refine wp_ishl dX10_shut_65 rfl ?_
          refine wp_ior dX10_shut_66 rfl ?_
          refine wp_iastoren 7 dX10_shut_67 rfl (mg_1 hm) rfl (by decide) (by decide) (ms_A1 hm) ?_
          refine wp_iload_3 dX10_shut_68 rfl ?_
          exact wp_ireturn dX10_shut_69 rfl ⟨by rw [qshut, if_pos ok]; simp [*], sA 1 7 (wd S 7 &&& (((1 : Int32) <<< (x &&& 31)) ^^^ (-1)) ||| (z <<< (x &&& 31))) S, rfl, KW.set _ _ S, by rw [wd_sA, wshut, if_pos ok]⟩
      · refine wp_bipush (-2) dX10_shut_27 rfl rfl ?_
        exact wp_ireturn dX10_shut_29 rfl ⟨by rw [qshut, if_neg (by unfold okH; first | (rw [c6]; simp; done) | (rw [c16]; simp; done) | (rw [decide_eq_false (Int32.not_le.mpr (Int32.not_le.mp c24))]; simp; done))], S, rfl, KW.rf S, by rw [wshut, if_neg (by unfold okH; first | (rw [c6]; simp; done) | (rw [c16]; simp; done) | (rw [decide_eq_false (Int32.not_le.mpr (Int32.not_le.mp c24))]; simp; done))]⟩
theorem q_m_train {g : GW} {M : Nat} {pre post : AH} {S : SM} (hm : pre.length = M) {y x z : Int32} (hs : WFs (wd S)) : SP g 4 0 0 yX10_train cX10_train 6 (some .int) [.ref M, .int y, .int x, .int z] (mH M pre S post) (QW M pre post S (.int (qtrain (wd S) y x z)) (wtrain (wd S) y x z)) := by
  refine SP.intro [some (.ref M), some (.int y), some (.int x), some (.int z), none, none] (pfn (by decide)) rfl (Nat.le_of_ble_eq_true rfl) ?_
  refine wp_aload_0 dX10_train_0 rfl ?_
  refine wp_iload_1 dX10_train_1 rfl ?_
  refine wp_cvR dX10_train_2 rfl q2129 mv_X10_isPlayer (mg_0 hm) rfl rfl (m_isPlayer hm) rfl rfl (Nat.le_of_ble_eq_true rfl) (Nat.le_of_ble_eq_true rfl) ?_
  refine wp_ifne_b 11 dX10_train_5 rfl rfl (fun c5 => ?_) (fun c5 => ?_)
  · obtain ⟨p, hp, rfl⟩ := plW_of hs c5
    have hp4 : p < 4 := by have := hs.np.2; omega
    refine wp_iload_2 dX10_train_11 rfl ?_
    refine wp_if_ne 27 dX10_train_12 rfl rfl (fun c12 => ?_) (fun c12 => ?_)
    · refine wp_iload_2 dX10_train_27 rfl ?_
      refine wp_iconst 1 dX10_train_28 rfl rfl ?_
      refine wp_icmp_ne 44 dX10_train_29 rfl rfl (fun c29 => ?_) (fun c29 => ?_)
      · refine wp_iload_2 dX10_train_44 rfl ?_
        refine wp_iconst 2 dX10_train_45 rfl rfl ?_
        refine wp_icmp_ne 61 dX10_train_46 rfl rfl (fun c46 => ?_) (fun c46 => ?_)
        · refine wp_iload_2 dX10_train_61 rfl ?_
          refine wp_iconst 3 dX10_train_62 rfl rfl ?_
          refine wp_icmp_ne 78 dX10_train_63 rfl rfl (fun c63 => ?_) (fun c63 => ?_)
          · refine wp_iload_2 dX10_train_78 rfl ?_
            refine wp_iconst 4 dX10_train_79 rfl rfl ?_
            refine wp_icmp_ne 96 dX10_train_80 rfl rfl (fun c80 => ?_) (fun c80 => ?_)
            · refine wp_iconst 0 dX10_train_96 rfl rfl ?_
              refine wp_istore_4 dX10_train_97 rfl (by decide) rfl ?_
              refine wp_iload_4 dX10_train_99 rfl ?_
              refine wp_if_ne 107 dX10_train_101 rfl rfl (fun c101 => ?_) (fun c101 => ?_)
              · exact absurd (by decide) c101
              · refine wp_bipush (-2) dX10_train_104 rfl rfl ?_
                exact wp_ireturn dX10_train_106 rfl ⟨by rw [qtrain, if_neg (by intro q; have q1 := q.1; have q2 := q.2; unfold inT at q2; simp_all)], S, rfl, KW.rf S, by rw [wtrain, if_neg (by intro q; have q1 := q.1; have q2 := q.2; unfold inT at q2; simp_all)]⟩
            · refine wp_aload_0 dX10_train_83 rfl ?_
              refine wp_iload_3 dX10_train_84 rfl ?_
              refine wp_i2l dX10_train_85 rfl ?_
              refine wp_cvR dX10_train_86 rfl q2202 mv_X10_isHole (mg_0 hm) rfl rfl (m_isHole hm) rfl rfl (Nat.le_of_ble_eq_true rfl) (Nat.le_of_ble_eq_true rfl) ?_
              refine wp_ifeq_b 96 dX10_train_89 rfl rfl (fun c89 => ?_) (fun c89 => ?_)
              · refine wp_iconst 0 dX10_train_96 rfl rfl ?_
                refine wp_istore_4 dX10_train_97 rfl (by decide) rfl ?_
                refine wp_iload_4 dX10_train_99 rfl ?_
                refine wp_if_ne 107 dX10_train_101 rfl rfl (fun c101 => ?_) (fun c101 => ?_)
                · exact absurd (by decide) c101
                · refine wp_bipush (-2) dX10_train_104 rfl rfl ?_
                  exact wp_ireturn dX10_train_106 rfl ⟨by rw [qtrain, if_neg (by intro q; have q1 := q.1; have q2 := q.2; unfold inT at q2; simp_all)], S, rfl, KW.rf S, by rw [wtrain, if_neg (by intro q; have q1 := q.1; have q2 := q.2; unfold inT at q2; simp_all)]⟩
              · refine wp_iconst 1 dX10_train_92 rfl rfl ?_
                refine wp_goto 97 dX10_train_93 rfl rfl ?_
                refine wp_istore_4 dX10_train_97 rfl (by decide) rfl ?_
                refine wp_iload_4 dX10_train_99 rfl ?_
                refine wp_if_ne 107 dX10_train_101 rfl rfl (fun c101 => ?_) (fun c101 => ?_)
                · obtain ⟨w, hw, rfl, ok⟩ : ∃ w, w < 5 ∧ x = nI w ∧ inT (wd S) x z = true := by
                    first
                    | exact ⟨0, by omega, c12, by unfold inT; simp [*]⟩
                    | exact ⟨1, by omega, c29, by unfold inT; simp [*]⟩
                    | exact ⟨2, by omega, c46, by unfold inT; simp [*]⟩
                    | exact ⟨3, by omega, c63, by unfold inT; simp [*]⟩
                    | exact ⟨4, by omega, c80, by unfold inT; simp [*]⟩
                  refine wp_aload_0 dX10_train_107 rfl ?_
                  refine wp_iload_1 dX10_train_108 rfl ?_
                  refine wp_iload_2 dX10_train_109 rfl ?_
                  refine wp_cvR dX10_train_110 rfl q2134 mv_X10_of (mg_0 hm) rfl rfl (m_of hm hp4 hw) rfl rfl (Nat.le_of_ble_eq_true rfl) (Nat.le_of_ble_eq_true rfl) ?_
                  refine wp_istore_5 dX10_train_113 rfl (by decide) rfl ?_
                  refine wp_aload_0 dX10_train_115 rfl ?_
                  refine wp_getf dX10_train_116 rfl q1832 fk10_1 (mg_0 hm) rfl ?_
                  refine wp_bipush 96 dX10_train_119 rfl rfl ?_
                  refine wp_iconst 5 dX10_train_121 rfl rfl ?_
                  refine wp_iload_1 dX10_train_122 rfl ?_
                  refine wp_imul dX10_train_123 rfl ?_
                  refine wp_iadd dX10_train_124 rfl ?_
                  refine wp_iload_2 dX10_train_125 rfl ?_
                  refine wp_iadd dX10_train_126 rfl ?_
                  refine wp_iload_3 dX10_train_127 rfl ?_
                  refine wp_iastoren (96 + 5 * p + w) dX10_train_128 rfl (mg_1 hm) (by simp only [nI_lit, pk_mul, nI_add]) (by omega) (by decide) (ms_A1 hm) ?_
                  refine wp_iload_5 dX10_train_129 rfl ?_
                  exact wp_ireturn dX10_train_131 rfl ⟨by rw [qtrain, if_pos (show plW (wd S) (nI p) = true ∧ inT (wd S) (nI w) z = true from ⟨c5, ok⟩), nI_clamp (show p < 2147483648 by omega), nI_clamp (show w < 2147483648 by omega)], sA 1 (96 + 5 * p + w) z S, rfl, KW.set _ _ S, by rw [wd_sA, wtrain, if_pos (show plW (wd S) (nI p) = true ∧ inT (wd S) (nI w) z = true from ⟨c5, ok⟩), nI_clamp (show p < 2147483648 by omega), nI_clamp (show w < 2147483648 by omega)]⟩
                · exact absurd c101 (by decide)
          · refine wp_iload_3 dX10_train_66 rfl ?_
            refine wp_i2l dX10_train_67 rfl ?_
            refine wp_lconst 0 dX10_train_68 rfl rfl ?_
            refine wp_ldc2_w dX10_train_69 rfl q2313 ?_
            refine wp_csR dX10_train_72 rfl q1979 ms_X10_in m_in rfl rfl (Nat.le_of_ble_eq_true rfl) (Nat.le_of_ble_eq_true rfl) ?_
            refine wp_goto 97 dX10_train_75 rfl rfl ?_
            refine wp_istore_4 dX10_train_97 rfl (by decide) rfl ?_
            refine wp_iload_4 dX10_train_99 rfl ?_
            refine wp_ifne_b 107 dX10_train_101 rfl rfl (fun c101 => ?_) (fun c101 => ?_)
            · obtain ⟨w, hw, rfl, ok⟩ : ∃ w, w < 5 ∧ x = nI w ∧ inT (wd S) x z = true := by
                first
                | exact ⟨0, by omega, c12, by unfold inT; simp [*]⟩
                | exact ⟨1, by omega, c29, by unfold inT; simp [*]⟩
                | exact ⟨2, by omega, c46, by unfold inT; simp [*]⟩
                | exact ⟨3, by omega, c63, by unfold inT; simp [*]⟩
                | exact ⟨4, by omega, c80, by unfold inT; simp [*]⟩
              refine wp_aload_0 dX10_train_107 rfl ?_
              refine wp_iload_1 dX10_train_108 rfl ?_
              refine wp_iload_2 dX10_train_109 rfl ?_
              refine wp_cvR dX10_train_110 rfl q2134 mv_X10_of (mg_0 hm) rfl rfl (m_of hm hp4 hw) rfl rfl (Nat.le_of_ble_eq_true rfl) (Nat.le_of_ble_eq_true rfl) ?_
              refine wp_istore_5 dX10_train_113 rfl (by decide) rfl ?_
              refine wp_aload_0 dX10_train_115 rfl ?_
              refine wp_getf dX10_train_116 rfl q1832 fk10_1 (mg_0 hm) rfl ?_
              refine wp_bipush 96 dX10_train_119 rfl rfl ?_
              refine wp_iconst 5 dX10_train_121 rfl rfl ?_
              refine wp_iload_1 dX10_train_122 rfl ?_
              refine wp_imul dX10_train_123 rfl ?_
              refine wp_iadd dX10_train_124 rfl ?_
              refine wp_iload_2 dX10_train_125 rfl ?_
              refine wp_iadd dX10_train_126 rfl ?_
              refine wp_iload_3 dX10_train_127 rfl ?_
              refine wp_iastoren (96 + 5 * p + w) dX10_train_128 rfl (mg_1 hm) (by simp only [nI_lit, pk_mul, nI_add]) (by omega) (by decide) (ms_A1 hm) ?_
              refine wp_iload_5 dX10_train_129 rfl ?_
              exact wp_ireturn dX10_train_131 rfl ⟨by rw [qtrain, if_pos (show plW (wd S) (nI p) = true ∧ inT (wd S) (nI w) z = true from ⟨c5, ok⟩), nI_clamp (show p < 2147483648 by omega), nI_clamp (show w < 2147483648 by omega)], sA 1 (96 + 5 * p + w) z S, rfl, KW.set _ _ S, by rw [wd_sA, wtrain, if_pos (show plW (wd S) (nI p) = true ∧ inT (wd S) (nI w) z = true from ⟨c5, ok⟩), nI_clamp (show p < 2147483648 by omega), nI_clamp (show w < 2147483648 by omega)]⟩
            · refine wp_bipush (-2) dX10_train_104 rfl rfl ?_
              exact wp_ireturn dX10_train_106 rfl ⟨by rw [qtrain, if_neg (by intro q; have q1 := q.1; have q2 := q.2; unfold inT at q2; simp_all)], S, rfl, KW.rf S, by rw [wtrain, if_neg (by intro q; have q1 := q.1; have q2 := q.2; unfold inT at q2; simp_all)]⟩
        · refine wp_iload_3 dX10_train_49 rfl ?_
          refine wp_i2l dX10_train_50 rfl ?_
          refine wp_lconst 0 dX10_train_51 rfl rfl ?_
          refine wp_ldc2_w dX10_train_52 rfl q2596 ?_
          refine wp_csR dX10_train_55 rfl q1979 ms_X10_in m_in rfl rfl (Nat.le_of_ble_eq_true rfl) (Nat.le_of_ble_eq_true rfl) ?_
          refine wp_goto 97 dX10_train_58 rfl rfl ?_
          refine wp_istore_4 dX10_train_97 rfl (by decide) rfl ?_
          refine wp_iload_4 dX10_train_99 rfl ?_
          refine wp_ifne_b 107 dX10_train_101 rfl rfl (fun c101 => ?_) (fun c101 => ?_)
          · obtain ⟨w, hw, rfl, ok⟩ : ∃ w, w < 5 ∧ x = nI w ∧ inT (wd S) x z = true := by
              first
              | exact ⟨0, by omega, c12, by unfold inT; simp [*]⟩
              | exact ⟨1, by omega, c29, by unfold inT; simp [*]⟩
              | exact ⟨2, by omega, c46, by unfold inT; simp [*]⟩
              | exact ⟨3, by omega, c63, by unfold inT; simp [*]⟩
              | exact ⟨4, by omega, c80, by unfold inT; simp [*]⟩
            refine wp_aload_0 dX10_train_107 rfl ?_
            refine wp_iload_1 dX10_train_108 rfl ?_
            refine wp_iload_2 dX10_train_109 rfl ?_
            refine wp_cvR dX10_train_110 rfl q2134 mv_X10_of (mg_0 hm) rfl rfl (m_of hm hp4 hw) rfl rfl (Nat.le_of_ble_eq_true rfl) (Nat.le_of_ble_eq_true rfl) ?_
            refine wp_istore_5 dX10_train_113 rfl (by decide) rfl ?_
            refine wp_aload_0 dX10_train_115 rfl ?_
            refine wp_getf dX10_train_116 rfl q1832 fk10_1 (mg_0 hm) rfl ?_
            refine wp_bipush 96 dX10_train_119 rfl rfl ?_
            refine wp_iconst 5 dX10_train_121 rfl rfl ?_
            refine wp_iload_1 dX10_train_122 rfl ?_
            refine wp_imul dX10_train_123 rfl ?_
            refine wp_iadd dX10_train_124 rfl ?_
            refine wp_iload_2 dX10_train_125 rfl ?_
            refine wp_iadd dX10_train_126 rfl ?_
            refine wp_iload_3 dX10_train_127 rfl ?_
            refine wp_iastoren (96 + 5 * p + w) dX10_train_128 rfl (mg_1 hm) (by simp only [nI_lit, pk_mul, nI_add]) (by omega) (by decide) (ms_A1 hm) ?_
            refine wp_iload_5 dX10_train_129 rfl ?_
            exact wp_ireturn dX10_train_131 rfl ⟨by rw [qtrain, if_pos (show plW (wd S) (nI p) = true ∧ inT (wd S) (nI w) z = true from ⟨c5, ok⟩), nI_clamp (show p < 2147483648 by omega), nI_clamp (show w < 2147483648 by omega)], sA 1 (96 + 5 * p + w) z S, rfl, KW.set _ _ S, by rw [wd_sA, wtrain, if_pos (show plW (wd S) (nI p) = true ∧ inT (wd S) (nI w) z = true from ⟨c5, ok⟩), nI_clamp (show p < 2147483648 by omega), nI_clamp (show w < 2147483648 by omega)]⟩
          · refine wp_bipush (-2) dX10_train_104 rfl rfl ?_
            exact wp_ireturn dX10_train_106 rfl ⟨by rw [qtrain, if_neg (by intro q; have q1 := q.1; have q2 := q.2; unfold inT at q2; simp_all)], S, rfl, KW.rf S, by rw [wtrain, if_neg (by intro q; have q1 := q.1; have q2 := q.2; unfold inT at q2; simp_all)]⟩
      · refine wp_iload_3 dX10_train_32 rfl ?_
        refine wp_i2l dX10_train_33 rfl ?_
        refine wp_lconst 0 dX10_train_34 rfl rfl ?_
        refine wp_ldc2_w dX10_train_35 rfl q2491 ?_
        refine wp_csR dX10_train_38 rfl q1979 ms_X10_in m_in rfl rfl (Nat.le_of_ble_eq_true rfl) (Nat.le_of_ble_eq_true rfl) ?_
        refine wp_goto 97 dX10_train_41 rfl rfl ?_
        refine wp_istore_4 dX10_train_97 rfl (by decide) rfl ?_
        refine wp_iload_4 dX10_train_99 rfl ?_
        refine wp_ifne_b 107 dX10_train_101 rfl rfl (fun c101 => ?_) (fun c101 => ?_)
        · obtain ⟨w, hw, rfl, ok⟩ : ∃ w, w < 5 ∧ x = nI w ∧ inT (wd S) x z = true := by
            first
            | exact ⟨0, by omega, c12, by unfold inT; simp [*]⟩
            | exact ⟨1, by omega, c29, by unfold inT; simp [*]⟩
            | exact ⟨2, by omega, c46, by unfold inT; simp [*]⟩
            | exact ⟨3, by omega, c63, by unfold inT; simp [*]⟩
            | exact ⟨4, by omega, c80, by unfold inT; simp [*]⟩
          refine wp_aload_0 dX10_train_107 rfl ?_
          refine wp_iload_1 dX10_train_108 rfl ?_
          refine wp_iload_2 dX10_train_109 rfl ?_
          refine wp_cvR dX10_train_110 rfl q2134 mv_X10_of (mg_0 hm) rfl rfl (m_of hm hp4 hw) rfl rfl (Nat.le_of_ble_eq_true rfl) (Nat.le_of_ble_eq_true rfl) ?_
          refine wp_istore_5 dX10_train_113 rfl (by decide) rfl ?_
          refine wp_aload_0 dX10_train_115 rfl ?_
          refine wp_getf dX10_train_116 rfl q1832 fk10_1 (mg_0 hm) rfl ?_
          refine wp_bipush 96 dX10_train_119 rfl rfl ?_
          refine wp_iconst 5 dX10_train_121 rfl rfl ?_
          refine wp_iload_1 dX10_train_122 rfl ?_
          refine wp_imul dX10_train_123 rfl ?_
          refine wp_iadd dX10_train_124 rfl ?_
          refine wp_iload_2 dX10_train_125 rfl ?_
          refine wp_iadd dX10_train_126 rfl ?_
          refine wp_iload_3 dX10_train_127 rfl ?_
          refine wp_iastoren (96 + 5 * p + w) dX10_train_128 rfl (mg_1 hm) (by simp only [nI_lit, pk_mul, nI_add]) (by omega) (by decide) (ms_A1 hm) ?_
          refine wp_iload_5 dX10_train_129 rfl ?_
          exact wp_ireturn dX10_train_131 rfl ⟨by rw [qtrain, if_pos (show plW (wd S) (nI p) = true ∧ inT (wd S) (nI w) z = true from ⟨c5, ok⟩), nI_clamp (show p < 2147483648 by omega), nI_clamp (show w < 2147483648 by omega)], sA 1 (96 + 5 * p + w) z S, rfl, KW.set _ _ S, by rw [wd_sA, wtrain, if_pos (show plW (wd S) (nI p) = true ∧ inT (wd S) (nI w) z = true from ⟨c5, ok⟩), nI_clamp (show p < 2147483648 by omega), nI_clamp (show w < 2147483648 by omega)]⟩
        · refine wp_bipush (-2) dX10_train_104 rfl rfl ?_
          exact wp_ireturn dX10_train_106 rfl ⟨by rw [qtrain, if_neg (by intro q; have q1 := q.1; have q2 := q.2; unfold inT at q2; simp_all)], S, rfl, KW.rf S, by rw [wtrain, if_neg (by intro q; have q1 := q.1; have q2 := q.2; unfold inT at q2; simp_all)]⟩
    · refine wp_iload_3 dX10_train_15 rfl ?_
      refine wp_i2l dX10_train_16 rfl ?_
      refine wp_lconst 1 dX10_train_17 rfl rfl ?_
      refine wp_ldc2_w dX10_train_18 rfl q2313 ?_
      refine wp_csR dX10_train_21 rfl q1979 ms_X10_in m_in rfl rfl (Nat.le_of_ble_eq_true rfl) (Nat.le_of_ble_eq_true rfl) ?_
      refine wp_goto 97 dX10_train_24 rfl rfl ?_
      refine wp_istore_4 dX10_train_97 rfl (by decide) rfl ?_
      refine wp_iload_4 dX10_train_99 rfl ?_
      refine wp_ifne_b 107 dX10_train_101 rfl rfl (fun c101 => ?_) (fun c101 => ?_)
      · obtain ⟨w, hw, rfl, ok⟩ : ∃ w, w < 5 ∧ x = nI w ∧ inT (wd S) x z = true := by
          first
          | exact ⟨0, by omega, c12, by unfold inT; simp [*]⟩
          | exact ⟨1, by omega, c29, by unfold inT; simp [*]⟩
          | exact ⟨2, by omega, c46, by unfold inT; simp [*]⟩
          | exact ⟨3, by omega, c63, by unfold inT; simp [*]⟩
          | exact ⟨4, by omega, c80, by unfold inT; simp [*]⟩
        refine wp_aload_0 dX10_train_107 rfl ?_
        refine wp_iload_1 dX10_train_108 rfl ?_
        refine wp_iload_2 dX10_train_109 rfl ?_
        refine wp_cvR dX10_train_110 rfl q2134 mv_X10_of (mg_0 hm) rfl rfl (m_of hm hp4 hw) rfl rfl (Nat.le_of_ble_eq_true rfl) (Nat.le_of_ble_eq_true rfl) ?_
        refine wp_istore_5 dX10_train_113 rfl (by decide) rfl ?_
        refine wp_aload_0 dX10_train_115 rfl ?_
        refine wp_getf dX10_train_116 rfl q1832 fk10_1 (mg_0 hm) rfl ?_
        refine wp_bipush 96 dX10_train_119 rfl rfl ?_
        refine wp_iconst 5 dX10_train_121 rfl rfl ?_
        refine wp_iload_1 dX10_train_122 rfl ?_
        refine wp_imul dX10_train_123 rfl ?_
        refine wp_iadd dX10_train_124 rfl ?_
        refine wp_iload_2 dX10_train_125 rfl ?_
        refine wp_iadd dX10_train_126 rfl ?_
        refine wp_iload_3 dX10_train_127 rfl ?_
        refine wp_iastoren (96 + 5 * p + w) dX10_train_128 rfl (mg_1 hm) (by simp only [nI_lit, pk_mul, nI_add]) (by omega) (by decide) (ms_A1 hm) ?_
        refine wp_iload_5 dX10_train_129 rfl ?_
        exact wp_ireturn dX10_train_131 rfl ⟨by rw [qtrain, if_pos (show plW (wd S) (nI p) = true ∧ inT (wd S) (nI w) z = true from ⟨c5, ok⟩), nI_clamp (show p < 2147483648 by omega), nI_clamp (show w < 2147483648 by omega)], sA 1 (96 + 5 * p + w) z S, rfl, KW.set _ _ S, by rw [wd_sA, wtrain, if_pos (show plW (wd S) (nI p) = true ∧ inT (wd S) (nI w) z = true from ⟨c5, ok⟩), nI_clamp (show p < 2147483648 by omega), nI_clamp (show w < 2147483648 by omega)]⟩
      · refine wp_bipush (-2) dX10_train_104 rfl rfl ?_
        exact wp_ireturn dX10_train_106 rfl ⟨by rw [qtrain, if_neg (by intro q; have q1 := q.1; have q2 := q.2; unfold inT at q2; simp_all)], S, rfl, KW.rf S, by rw [wtrain, if_neg (by intro q; have q1 := q.1; have q2 := q.2; unfold inT at q2; simp_all)]⟩
  · refine wp_bipush (-2) dX10_train_8 rfl rfl ?_
    exact wp_ireturn dX10_train_10 rfl ⟨by rw [qtrain, if_neg (by simp [*])], S, rfl, KW.rf S, by rw [wtrain, if_neg (by simp [*])]⟩
