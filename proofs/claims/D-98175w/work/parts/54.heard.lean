/-! ===== the reference: what was heard ===== -/
set_option maxRecDepth 100000
theorem m_isSlot {g : GW} {h : AH} {x : Int32} : SPx g 2 0 0 yX10_isSlot cX10_isSlot 1 (some .boolean) [.int x] h (some (.int (b2i (laL x)))) h := by
  refine SPx.intro [some (.int x)] (pfn (by decide)) rfl (Nat.le_of_ble_eq_true rfl) ?_
  refine wp_iload_0 dX10_isSlot_0 rfl ?_
  refine wp_i2l dX10_isSlot_1 rfl ?_
  refine wp_lconst 0 dX10_isSlot_2 rfl rfl ?_
  refine wp_ldc2_w dX10_isSlot_3 rfl q2383 ?_
  refine wp_csR dX10_isSlot_6 rfl q1979 ms_X10_in m_in rfl rfl (Nat.le_of_ble_eq_true rfl) (Nat.le_of_ble_eq_true rfl) ?_
  exact wp_zreturn dX10_isSlot_9 rfl (nz_b2i _) ⟨by rw [show inL x.toInt64 0 3 = laL x from inL_i x 0 3], rfl⟩
theorem m_numberAt {g : GW} {M : Nat} {pre post : AH} {S : SM} (hm : pre.length = M) {s i : Nat} (h4 : s < 4) (hi : i < 60) : SPx g 1 0 0 yX10_numberAt cX10_numberAt 3 (some .long) [.ref M, .int (nI s), .int (nI i)] (mH M pre S post) (some (.long (S.2.2.1 21 (60 * s + i)))) (mH M pre S post) := by
  refine SPx.intro [some (.ref M), some (.int (nI s)), some (.int (nI i))] (pfn (by decide)) rfl (Nat.le_of_ble_eq_true rfl) ?_
  refine wp_aload_0 dX10_numberAt_0 rfl ?_
  refine wp_getf dX10_numberAt_1 rfl q1876 fk10_45 (mg_0 hm) rfl ?_
  refine wp_bipush 60 dX10_numberAt_4 rfl rfl ?_
  refine wp_iload_1 dX10_numberAt_6 rfl ?_
  refine wp_imul dX10_numberAt_7 rfl ?_
  refine wp_iload_2 dX10_numberAt_8 rfl ?_
  refine wp_iadd dX10_numberAt_9 rfl ?_
  refine wp_laloadn ((60 * s) + i) dX10_numberAt_10 rfl (mg_21 hm) (by simp only [nI_lit, pk_mul, nI_add]; try rfl) (by omega) (by decide) ?_
  exact wp_lreturn dX10_numberAt_11 rfl ⟨rfl, rfl⟩
theorem mL_asksHeard {g : GW} {M : Nat} {pre post : AH} {S : SM} (hm : pre.length = M) {s m : Nat} (h4 : s < 4) (hmy : S.2.1 19 s = nI m) (m60 : m ≤ 60) {c n : Nat} {Q : Option Value → AH → Prop} : ∀ (k : Nat) (i : Nat), i + k = m → Q (some (.int (if alK (fun i => hlL (wd S) (S.2.2.1 21 (60 * s + i))) k i = true then 0 else -2))) (mH M pre S post) → WP g 3 yX10_asksHeard cX10_asksHeard 3 (some .int) 32 [some (.ref M), some (.int (nI s)), some (.int (nI i))] [] (mH M pre S post) c n Q := by
  intro k
  induction k with
  | zero =>
    intro i hi hq
    refine wp_iload_2 dX10_asksHeard_32 rfl ?_
    refine wp_aload_0 dX10_asksHeard_33 rfl ?_
    refine wp_getf dX10_asksHeard_34 rfl q1874 fk10_43 (mg_0 hm) rfl ?_
    refine wp_iload_1 dX10_asksHeard_37 rfl ?_
    refine wp_ialoadn s dX10_asksHeard_38 rfl (mg_19 hm) rfl (by omega) (by decide) ?_
    refine wp_icmp_ge 64 dX10_asksHeard_39 rfl rfl (fun c39 => ?_) (fun c39 => ?_)
    · refine wp_iconst 0 dX10_asksHeard_64 rfl rfl ?_
      exact wp_ireturn dX10_asksHeard_65 rfl hq
    · exact absurd (show S.2.1 19 s ≤ nI i by rw [hmy]; exact nI_le (by omega) (by omega)) c39
  | succ k ih =>
    intro i hi hq
    refine wp_iload_2 dX10_asksHeard_32 rfl ?_
    refine wp_aload_0 dX10_asksHeard_33 rfl ?_
    refine wp_getf dX10_asksHeard_34 rfl q1874 fk10_43 (mg_0 hm) rfl ?_
    refine wp_iload_1 dX10_asksHeard_37 rfl ?_
    refine wp_ialoadn s dX10_asksHeard_38 rfl (mg_19 hm) rfl (by omega) (by decide) ?_
    refine wp_icmp_ge 64 dX10_asksHeard_39 rfl rfl (fun c39 => ?_) (fun c39 => ?_)
    · exact absurd c39 (show ¬ (S.2.1 19 s ≤ nI i) by rw [hmy]; exact nI_ge (by omega) (by omega))
    · refine wp_aload_0 dX10_asksHeard_42 rfl ?_
      refine wp_aload_0 dX10_asksHeard_43 rfl ?_
      refine wp_iload_1 dX10_asksHeard_44 rfl ?_
      refine wp_iload_2 dX10_asksHeard_45 rfl ?_
      refine wp_cvR dX10_asksHeard_46 rfl q2426 mv_X10_numberAt (mg_0 hm) rfl rfl (m_numberAt hm h4 (by omega)) rfl rfl (Nat.le_of_ble_eq_true rfl) (Nat.le_of_ble_eq_true rfl) ?_
      refine wp_cvR dX10_asksHeard_49 rfl q2202 mv_X10_isHole (mg_0 hm) rfl rfl (m_isHole hm) rfl rfl (Nat.le_of_ble_eq_true rfl) (Nat.le_of_ble_eq_true rfl) ?_
      refine wp_ifne_b 58 dX10_asksHeard_52 rfl rfl (fun c52 => ?_) (fun c52 => ?_)
      · refine wp_iinc_2 1 dX10_asksHeard_58 rfl rfl (by decide) rfl ?_
        refine wp_goto 32 dX10_asksHeard_61 rfl rfl ?_
        exact WP.cast (by rw [nI_1]) (ih (i + 1) (by omega) (by rw [al_t c52] at hq; exact hq))
      · refine wp_bipush (-2) dX10_asksHeard_55 rfl rfl ?_
        exact wp_ireturn dX10_asksHeard_57 rfl (by rw [al_f c52] at hq; exact hq)
theorem m_asksHeard {g : GW} {M : Nat} {pre post : AH} {S : SM} (hm : pre.length = M) {x : Int32} (hwm : WFm (S.2.1 19)) : SPx g 3 0 0 yX10_asksHeard cX10_asksHeard 3 (some .int) [.ref M, .int x] (mH M pre S post) (some (.int (ahV (wd S) (S.2.1 19) (S.2.2.1 21) x))) (mH M pre S post) := by
  refine SPx.intro [some (.ref M), some (.int x), none] (pfn (by decide)) rfl (Nat.le_of_ble_eq_true rfl) ?_
  refine wp_iload_1 dX10_asksHeard_0 rfl ?_
  refine wp_csR dX10_asksHeard_1 rfl q2423 ms_X10_isSlot m_isSlot rfl rfl (Nat.le_of_ble_eq_true rfl) (Nat.le_of_ble_eq_true rfl) ?_
  refine wp_ifeq_b 14 dX10_asksHeard_4 rfl rfl (fun c4 => ?_) (fun c4 => ?_)
  · refine wp_bipush (-2) dX10_asksHeard_14 rfl rfl ?_
    exact wp_ireturn dX10_asksHeard_16 rfl ⟨by rw [ahV, if_neg (by simp [*])], rfl⟩
  · refine wp_aload_0 dX10_asksHeard_7 rfl ?_
    refine wp_cvR dX10_asksHeard_8 rfl q2154 mv_X10_isBoard (mg_0 hm) rfl rfl (m_isBoard hm) rfl rfl (Nat.le_of_ble_eq_true rfl) (Nat.le_of_ble_eq_true rfl) ?_
    refine wp_ifne_b 17 dX10_asksHeard_11 rfl rfl (fun c11 => ?_) (fun c11 => ?_)
    · obtain ⟨s, h4, rfl⟩ := la_of c4
      refine wp_aload_0 dX10_asksHeard_17 rfl ?_
      refine wp_getf dX10_asksHeard_18 rfl q1874 fk10_43 (mg_0 hm) rfl ?_
      refine wp_iload_1 dX10_asksHeard_21 rfl ?_
      refine wp_ialoadn s dX10_asksHeard_22 rfl (mg_19 hm) rfl h4 (by decide) ?_
      refine wp_iconst (-1) dX10_asksHeard_23 rfl rfl ?_
      refine wp_icmp_ne 30 dX10_asksHeard_24 rfl rfl (fun c24 => ?_) (fun c24 => ?_)
      · have hmy : S.2.1 19 s = nI (mN (S.2.1 19) s) ∧ mN (S.2.1 19) s ≤ 60 := (hwm s h4).resolve_left c24
        refine wp_iconst 0 dX10_asksHeard_30 rfl rfl ?_
        refine wp_istore_2 dX10_asksHeard_31 rfl (by decide) rfl ?_
        refine mL_asksHeard hm h4 hmy.1 hmy.2 _ 0 (Nat.zero_add _) ⟨?_, rfl⟩
        rw [ahV, if_pos (show laL (nI s) = true ∧ bdW (wd S) = true from ⟨c4, c11⟩), nI_clamp (by omega), if_neg c24]
      · refine wp_bipush (-6) dX10_asksHeard_27 rfl rfl ?_
        exact wp_ireturn dX10_asksHeard_29 rfl ⟨by rw [ahV, if_pos (show laL (nI s) = true ∧ bdW (wd S) = true from ⟨c4, c11⟩), nI_clamp (by omega), if_pos c24], rfl⟩
    · refine wp_bipush (-2) dX10_asksHeard_14 rfl rfl ?_
      exact wp_ireturn dX10_asksHeard_16 rfl ⟨by rw [ahV, if_neg (by simp [*])], rfl⟩
theorem mL_isPeriod {g : GW} {M : Nat} {pre post : AH} {S : SM} (hm : pre.length = M) {s m : Nat} (h4 : s < 4) (hmy : S.2.1 19 s = nI m) (m60 : m ≤ 60) {p : Nat} {c n : Nat} {Q : Option Value → AH → Prop} : ∀ (k : Nat) (i : Nat), ((m ≤ i ∧ k = 0) ∨ i + k = m) ∧ p ≤ i ∧ i < 1000 → Q (some (.int (b2i (alK (peP (S.2.2.1 21) s p) k i)))) (mH M pre S post) → WP g 2 yX10_isPeriod cX10_isPeriod 4 (some .boolean) 2 [some (.ref M), some (.int (nI s)), some (.int (nI p)), some (.int (nI i))] [] (mH M pre S post) c n Q := by
  intro k
  induction k with
  | zero =>
    intro i hi hq
    refine wp_iload_3 dX10_isPeriod_2 rfl ?_
    refine wp_aload_0 dX10_isPeriod_3 rfl ?_
    refine wp_getf dX10_isPeriod_4 rfl q1874 fk10_43 (mg_0 hm) rfl ?_
    refine wp_iload_1 dX10_isPeriod_7 rfl ?_
    refine wp_ialoadn s dX10_isPeriod_8 rfl (mg_19 hm) rfl (by omega) (by decide) ?_
    refine wp_icmp_ge 38 dX10_isPeriod_9 rfl rfl (fun c9 => ?_) (fun c9 => ?_)
    · refine wp_iconst 1 dX10_isPeriod_38 rfl rfl ?_
      exact wp_zreturn dX10_isPeriod_39 rfl rfl hq
    · exact absurd (show S.2.1 19 s ≤ nI i by rw [hmy]; exact nI_le (by omega) (by omega)) c9
  | succ k ih =>
    intro i hi hq
    refine wp_iload_3 dX10_isPeriod_2 rfl ?_
    refine wp_aload_0 dX10_isPeriod_3 rfl ?_
    refine wp_getf dX10_isPeriod_4 rfl q1874 fk10_43 (mg_0 hm) rfl ?_
    refine wp_iload_1 dX10_isPeriod_7 rfl ?_
    refine wp_ialoadn s dX10_isPeriod_8 rfl (mg_19 hm) rfl (by omega) (by decide) ?_
    refine wp_icmp_ge 38 dX10_isPeriod_9 rfl rfl (fun c9 => ?_) (fun c9 => ?_)
    · exact absurd c9 (show ¬ (S.2.1 19 s ≤ nI i) by rw [hmy]; exact nI_ge (by omega) (by omega))
    · refine wp_aload_0 dX10_isPeriod_12 rfl ?_
      refine wp_iload_1 dX10_isPeriod_13 rfl ?_
      refine wp_iload_3 dX10_isPeriod_14 rfl ?_
      refine wp_cvR dX10_isPeriod_15 rfl q2426 mv_X10_numberAt (mg_0 hm) rfl rfl (m_numberAt hm h4 (by omega)) rfl rfl (Nat.le_of_ble_eq_true rfl) (Nat.le_of_ble_eq_true rfl) ?_
      refine wp_aload_0 dX10_isPeriod_18 rfl ?_
      refine wp_iload_1 dX10_isPeriod_19 rfl ?_
      refine wp_iload_3 dX10_isPeriod_20 rfl ?_
      refine wp_iload_2 dX10_isPeriod_21 rfl ?_
      refine wp_isub dX10_isPeriod_22 rfl ?_
      rw [pk_sub (show p ≤ i from hi.2.1)]
      refine wp_cvR dX10_isPeriod_23 rfl q2426 mv_X10_numberAt (mg_0 hm) rfl rfl (m_numberAt hm h4 (by omega)) rfl rfl (Nat.le_of_ble_eq_true rfl) (Nat.le_of_ble_eq_true rfl) ?_
      refine wp_lcmp dX10_isPeriod_26 rfl ?_
      refine wp_if_eq 32 dX10_isPeriod_27 rfl rfl (fun c27 => ?_) (fun c27 => ?_)
      · have hE := (lg_cmp_eq _ _).mp c27
        refine wp_iinc_3 1 dX10_isPeriod_32 rfl rfl (by decide) rfl ?_
        refine wp_goto 2 dX10_isPeriod_35 rfl rfl ?_
        exact WP.cast (by rw [nI_1]) (ih (i + 1) (by omega) (by rw [al_t (decide_eq_true hE)] at hq; exact hq))
      · have hE := fun q => c27 ((lg_cmp_eq _ _).mpr q)
        refine wp_iconst 0 dX10_isPeriod_30 rfl rfl ?_
        exact wp_zreturn dX10_isPeriod_31 rfl rfl (by rw [al_f (decide_eq_false hE)] at hq; exact hq)
theorem m_isPeriod {g : GW} {M : Nat} {pre post : AH} {S : SM} (hm : pre.length = M) {s m : Nat} (h4 : s < 4) (hmy : S.2.1 19 s = nI m) (m60 : m ≤ 60) {p : Nat} (hp : p < 900) : SPx g 2 0 0 yX10_isPeriod cX10_isPeriod 4 (some .boolean) [.ref M, .int (nI s), .int (nI p)] (mH M pre S post) (some (.int (b2i (ipV (S.2.2.1 21) s m p)))) (mH M pre S post) := by
  refine SPx.intro [some (.ref M), some (.int (nI s)), some (.int (nI p)), none] (pfn (by decide)) rfl (Nat.le_of_ble_eq_true rfl) ?_
  refine wp_iload_2 dX10_isPeriod_0 rfl ?_
  refine wp_istore_3 dX10_isPeriod_1 rfl (by decide) rfl ?_
  exact mL_isPeriod hm h4 hmy m60 (m - p) p (by omega) ⟨rfl, rfl⟩
theorem mL_leastPeriod {g : GW} {M : Nat} {pre post : AH} {S : SM} (hm : pre.length = M) {s m : Nat} (h4 : s < 4) (hmy : S.2.1 19 s = nI m) (m60 : m ≤ 60) {c n : Nat} {Q : Option Value → AH → Prop} : ∀ (k : Nat) (i : Nat), ((m ≤ i ∧ k = 0) ∨ i + k = m) ∧ i < 800 → Q (some (.int (onI (fstK (ipV (S.2.2.1 21) s m) k i)))) (mH M pre S post) → WP g 3 yX10_leastPeriod cX10_leastPeriod 3 (some .int) 2 [some (.ref M), some (.int (nI s)), some (.int (nI i))] [] (mH M pre S post) c n Q := by
  intro k
  induction k with
  | zero =>
    intro i hi hq
    refine wp_iload_2 dX10_leastPeriod_2 rfl ?_
    refine wp_aload_0 dX10_leastPeriod_3 rfl ?_
    refine wp_getf dX10_leastPeriod_4 rfl q1874 fk10_43 (mg_0 hm) rfl ?_
    refine wp_iload_1 dX10_leastPeriod_7 rfl ?_
    refine wp_ialoadn s dX10_leastPeriod_8 rfl (mg_19 hm) rfl (by omega) (by decide) ?_
    refine wp_icmp_ge 29 dX10_leastPeriod_9 rfl rfl (fun c9 => ?_) (fun c9 => ?_)
    · refine wp_iconst (-1) dX10_leastPeriod_29 rfl rfl ?_
      exact wp_ireturn dX10_leastPeriod_30 rfl hq
    · exact absurd (show S.2.1 19 s ≤ nI i by rw [hmy]; exact nI_le (by omega) (by omega)) c9
  | succ k ih =>
    intro i hi hq
    refine wp_iload_2 dX10_leastPeriod_2 rfl ?_
    refine wp_aload_0 dX10_leastPeriod_3 rfl ?_
    refine wp_getf dX10_leastPeriod_4 rfl q1874 fk10_43 (mg_0 hm) rfl ?_
    refine wp_iload_1 dX10_leastPeriod_7 rfl ?_
    refine wp_ialoadn s dX10_leastPeriod_8 rfl (mg_19 hm) rfl (by omega) (by decide) ?_
    refine wp_icmp_ge 29 dX10_leastPeriod_9 rfl rfl (fun c9 => ?_) (fun c9 => ?_)
    · exact absurd c9 (show ¬ (S.2.1 19 s ≤ nI i) by rw [hmy]; exact nI_ge (by omega) (by omega))
    · refine wp_aload_0 dX10_leastPeriod_12 rfl ?_
      refine wp_iload_1 dX10_leastPeriod_13 rfl ?_
      refine wp_iload_2 dX10_leastPeriod_14 rfl ?_
      refine wp_cvR dX10_leastPeriod_15 rfl q2434 mv_X10_isPeriod (mg_0 hm) rfl rfl (m_isPeriod hm h4 hmy m60 (by omega)) rfl rfl (Nat.le_of_ble_eq_true rfl) (Nat.le_of_ble_eq_true rfl) ?_
      refine wp_ifeq_b 23 dX10_leastPeriod_18 rfl rfl (fun c18 => ?_) (fun c18 => ?_)
      · refine wp_iinc_2 1 dX10_leastPeriod_23 rfl rfl (by decide) rfl ?_
        refine wp_goto 2 dX10_leastPeriod_26 rfl rfl ?_
        exact WP.cast (by rw [nI_1]) (ih (i + 1) (by omega) (by rw [fst_f c18] at hq; exact hq))
      · refine wp_iload_2 dX10_leastPeriod_21 rfl ?_
        exact wp_ireturn dX10_leastPeriod_22 rfl (by rw [fst_t c18] at hq; exact hq)
theorem m_leastPeriod {g : GW} {M : Nat} {pre post : AH} {S : SM} (hm : pre.length = M) {s m : Nat} (h4 : s < 4) (hmy : S.2.1 19 s = nI m) (m60 : m ≤ 60) : SPx g 3 0 0 yX10_leastPeriod cX10_leastPeriod 3 (some .int) [.ref M, .int (nI s)] (mH M pre S post) (some (.int (onI (lpV (S.2.2.1 21) s m)))) (mH M pre S post) := by
  refine SPx.intro [some (.ref M), some (.int (nI s)), none] (pfn (by decide)) rfl (Nat.le_of_ble_eq_true rfl) ?_
  refine wp_iconst 1 dX10_leastPeriod_0 rfl rfl ?_
  refine wp_istore_2 dX10_leastPeriod_1 rfl (by decide) rfl ?_
  exact mL_leastPeriod hm h4 hmy m60 (m - 1) 1 (by omega) ⟨rfl, rfl⟩
theorem q_m_period {g : GW} {M : Nat} {pre post : AH} {S : SM} (hm : pre.length = M) {x : Int32} (hwm : WFm (S.2.1 19)) (hs : WFs (wd S)) : SP g 5 0 0 yX10_period cX10_period 3 (some .int) [.ref M, .int x] (mH M pre S post) (QM M pre post S (.int (qperiod (wd S) (S.2.1 19) (S.2.2.1 21) x))) := by
  refine SP.intro [some (.ref M), some (.int x), none] (pfn (by decide)) rfl (Nat.le_of_ble_eq_true rfl) ?_
  refine wp_aload_0 dX10_period_0 rfl ?_
  refine wp_iload_1 dX10_period_1 rfl ?_
  refine wp_cvR dX10_period_2 rfl q2419 mv_X10_asksHeard (mg_0 hm) rfl rfl (m_asksHeard hm hwm) rfl rfl (Nat.le_of_ble_eq_true rfl) (Nat.le_of_ble_eq_true rfl) ?_
  refine wp_istore_2 dX10_period_5 rfl (by decide) rfl ?_
  refine wp_iload_2 dX10_period_6 rfl ?_
  refine wp_if_ge 14 dX10_period_7 rfl rfl (fun c7 => ?_) (fun c7 => ?_)
  · obtain ⟨s, h4, rfl, hmy, m60, hbd⟩ := ah_of hwm (Int32.not_lt.mpr c7)
    have h0 := bd_0 hbd
    have hcl : (nI s).toNatClampNeg = s := nI_clamp (by omega)
    refine wp_aload_0 dX10_period_14 rfl ?_
    refine wp_iload_1 dX10_period_15 rfl ?_
    refine wp_cvR dX10_period_16 rfl q2430 mv_X10_leastPeriod (mg_0 hm) rfl rfl (m_leastPeriod hm h4 hmy m60) rfl rfl (Nat.le_of_ble_eq_true rfl) (Nat.le_of_ble_eq_true rfl) ?_
    exact wp_ireturn dX10_period_19 rfl ⟨by rw [qperiod, hrd_p (Int32.not_lt.mpr c7), hcl], S, rfl, KP.rf S⟩
  · refine wp_iload_2 dX10_period_10 rfl ?_
    refine wp_goto 19 dX10_period_11 rfl rfl ?_
    exact wp_ireturn dX10_period_19 rfl ⟨by rw [qperiod, hrd_n (Int32.not_le.mp c7)], S, rfl, KP.rf S⟩
theorem mL_periods {g : GW} {M : Nat} {pre post : AH} {S : SM} (hm : pre.length = M) {s m : Nat} (h4 : s < 4) (hmy : S.2.1 19 s = nI m) (m60 : m ≤ 60) {v : Int32} {c n : Nat} {Q : Option Value → AH → Prop} : ∀ (k : Nat) (i : Nat) (a : Int32), ((m ≤ i ∧ k = 0) ∨ i + k = m) ∧ i < 800 → Q (some (.int (itr (ctF (ipV (S.2.2.1 21) s m)) k i a))) (mH M pre S post) → WP g 5 yX10_periods cX10_periods 5 (some .int) 17 [some (.ref M), some (.int (nI s)), some (.int v), some (.int a), some (.int (nI i))] [] (mH M pre S post) c n Q := by
  intro k
  induction k with
  | zero =>
    intro i a hi hq
    refine wp_iload_4 dX10_periods_17 rfl ?_
    refine wp_aload_0 dX10_periods_19 rfl ?_
    refine wp_getf dX10_periods_20 rfl q1874 fk10_43 (mg_0 hm) rfl ?_
    refine wp_iload_1 dX10_periods_23 rfl ?_
    refine wp_ialoadn s dX10_periods_24 rfl (mg_19 hm) rfl (by omega) (by decide) ?_
    refine wp_icmp_ge 52 dX10_periods_25 rfl rfl (fun c25 => ?_) (fun c25 => ?_)
    · refine wp_iload_3 dX10_periods_52 rfl ?_
      exact wp_ireturn dX10_periods_53 rfl hq
    · exact absurd (show S.2.1 19 s ≤ nI i by rw [hmy]; exact nI_le (by omega) (by omega)) c25
  | succ k ih =>
    intro i a hi hq
    refine wp_iload_4 dX10_periods_17 rfl ?_
    refine wp_aload_0 dX10_periods_19 rfl ?_
    refine wp_getf dX10_periods_20 rfl q1874 fk10_43 (mg_0 hm) rfl ?_
    refine wp_iload_1 dX10_periods_23 rfl ?_
    refine wp_ialoadn s dX10_periods_24 rfl (mg_19 hm) rfl (by omega) (by decide) ?_
    refine wp_icmp_ge 52 dX10_periods_25 rfl rfl (fun c25 => ?_) (fun c25 => ?_)
    · exact absurd c25 (show ¬ (S.2.1 19 s ≤ nI i) by rw [hmy]; exact nI_ge (by omega) (by omega))
    · refine wp_iload_3 dX10_periods_28 rfl ?_
      refine wp_aload_0 dX10_periods_29 rfl ?_
      refine wp_iload_1 dX10_periods_30 rfl ?_
      refine wp_iload_4 dX10_periods_31 rfl ?_
      refine wp_cvR dX10_periods_33 rfl q2434 mv_X10_isPeriod (mg_0 hm) rfl rfl (m_isPeriod hm h4 hmy m60 (by omega)) rfl rfl (Nat.le_of_ble_eq_true rfl) (Nat.le_of_ble_eq_true rfl) ?_
      refine wp_ifeq_b 43 dX10_periods_36 rfl rfl (fun c36 => ?_) (fun c36 => ?_)
      · refine wp_iconst 0 dX10_periods_43 rfl rfl ?_
        refine wp_iadd dX10_periods_44 rfl ?_
        refine wp_istore_3 dX10_periods_45 rfl (by decide) rfl ?_
        refine wp_iinc_4 1 dX10_periods_46 rfl rfl (by decide) rfl ?_
        refine wp_goto 17 dX10_periods_49 rfl rfl ?_
        exact WP.cast (by simp [ctF, nI_1, c36]) (ih (i + 1) (ctF (ipV (S.2.2.1 21) s m) i a) (by omega) hq)
      · refine wp_iconst 1 dX10_periods_39 rfl rfl ?_
        refine wp_goto 44 dX10_periods_40 rfl rfl ?_
        refine wp_iadd dX10_periods_44 rfl ?_
        refine wp_istore_3 dX10_periods_45 rfl (by decide) rfl ?_
        refine wp_iinc_4 1 dX10_periods_46 rfl rfl (by decide) rfl ?_
        refine wp_goto 17 dX10_periods_49 rfl rfl ?_
        exact WP.cast (by simp [ctF, nI_1, c36]) (ih (i + 1) (ctF (ipV (S.2.2.1 21) s m) i a) (by omega) hq)
theorem q_m_periods {g : GW} {M : Nat} {pre post : AH} {S : SM} (hm : pre.length = M) {x : Int32} (hwm : WFm (S.2.1 19)) (hs : WFs (wd S)) : SP g 5 0 0 yX10_periods cX10_periods 5 (some .int) [.ref M, .int x] (mH M pre S post) (QM M pre post S (.int (qperiods (wd S) (S.2.1 19) (S.2.2.1 21) x))) := by
  refine SP.intro [some (.ref M), some (.int x), none, none, none] (pfn (by decide)) rfl (Nat.le_of_ble_eq_true rfl) ?_
  refine wp_aload_0 dX10_periods_0 rfl ?_
  refine wp_iload_1 dX10_periods_1 rfl ?_
  refine wp_cvR dX10_periods_2 rfl q2419 mv_X10_asksHeard (mg_0 hm) rfl rfl (m_asksHeard hm hwm) rfl rfl (Nat.le_of_ble_eq_true rfl) (Nat.le_of_ble_eq_true rfl) ?_
  refine wp_istore_2 dX10_periods_5 rfl (by decide) rfl ?_
  refine wp_iload_2 dX10_periods_6 rfl ?_
  refine wp_if_ge 12 dX10_periods_7 rfl rfl (fun c7 => ?_) (fun c7 => ?_)
  · obtain ⟨s, h4, rfl, hmy, m60, hbd⟩ := ah_of hwm (Int32.not_lt.mpr c7)
    have h0 := bd_0 hbd
    have hcl : (nI s).toNatClampNeg = s := nI_clamp (by omega)
    refine wp_iconst 0 dX10_periods_12 rfl rfl ?_
    refine wp_istore_3 dX10_periods_13 rfl (by decide) rfl ?_
    refine wp_iconst 1 dX10_periods_14 rfl rfl ?_
    refine wp_istore_4 dX10_periods_15 rfl (by decide) rfl ?_
    refine mL_periods hm h4 hmy m60 (mN (S.2.1 19) s - 1) 1 0 (by omega) ?_
    exact ⟨by rw [qperiods, hrd_p (Int32.not_lt.mpr c7), hcl], S, rfl, KP.rf S⟩
  · refine wp_iload_2 dX10_periods_10 rfl ?_
    exact wp_ireturn dX10_periods_11 rfl ⟨by rw [qperiods, hrd_n (Int32.not_le.mp c7)], S, rfl, KP.rf S⟩
theorem mL_luck {g : GW} {M : Nat} {pre post : AH} {S : SM} (hm : pre.length = M) {s m : Nat} (h4 : s < 4) (hmy : S.2.1 19 s = nI m) (m60 : m ≤ 60) {v2 v3 : Int32} (hs : WFs (wd S)) {c n : Nat} {Q : Option Value → AH → Prop} : ∀ (k : Nat) (i : Nat) (v : Int64), ((m ≤ i ∧ k = 0) ∨ i + k = m) ∧ i < 800 → Q (some (.int (luK (nI (opN (wd S))).toInt64 k v))) (mH M pre S post) → WP g 5 yX10_luck cX10_luck 7 (some .int) 31 [some (.ref M), some (.int (nI s)), some (.int v2), some (.int v3), some (.long v), none, some (.int (nI i))] [] (mH M pre S post) c n Q := by
  intro k
  induction k with
  | zero =>
    intro i v hi hq
    refine wp_iload_6 dX10_luck_31 rfl ?_
    refine wp_aload_0 dX10_luck_33 rfl ?_
    refine wp_getf dX10_luck_34 rfl q1874 fk10_43 (mg_0 hm) rfl ?_
    refine wp_iload_1 dX10_luck_37 rfl ?_
    refine wp_ialoadn s dX10_luck_38 rfl (mg_19 hm) rfl (by omega) (by decide) ?_
    refine wp_icmp_ge 69 dX10_luck_39 rfl rfl (fun c39 => ?_) (fun c39 => ?_)
    · refine wp_lload_4 dX10_luck_69 rfl ?_
      refine wp_l2i dX10_luck_71 rfl ?_
      exact wp_ireturn dX10_luck_72 rfl hq
    · exact absurd (show S.2.1 19 s ≤ nI i by rw [hmy]; exact nI_le (by omega) (by omega)) c39
  | succ k ih =>
    intro i v hi hq
    refine wp_iload_6 dX10_luck_31 rfl ?_
    refine wp_aload_0 dX10_luck_33 rfl ?_
    refine wp_getf dX10_luck_34 rfl q1874 fk10_43 (mg_0 hm) rfl ?_
    refine wp_iload_1 dX10_luck_37 rfl ?_
    refine wp_ialoadn s dX10_luck_38 rfl (mg_19 hm) rfl (by omega) (by decide) ?_
    refine wp_icmp_ge 69 dX10_luck_39 rfl rfl (fun c39 => ?_) (fun c39 => ?_)
    · exact absurd c39 (show ¬ (S.2.1 19 s ≤ nI i) by rw [hmy]; exact nI_ge (by omega) (by omega))
    · refine wp_lload_4 dX10_luck_42 rfl ?_
      refine wp_aload_0 dX10_luck_44 rfl ?_
      refine wp_cvR dX10_luck_45 rfl q2334 mv_X10_openHoles (mg_0 hm) rfl rfl (m_openHoles hm hs) rfl rfl (Nat.le_of_ble_eq_true rfl) (Nat.le_of_ble_eq_true rfl) ?_
      refine wp_i2l dX10_luck_48 rfl ?_
      refine wp_lmul dX10_luck_49 rfl ?_
      refine wp_lstore_4 dX10_luck_50 rfl (by decide) rfl ?_
      refine wp_lload_4 dX10_luck_52 rfl ?_
      refine wp_ldc2_w dX10_luck_54 rfl q2446 ?_
      refine wp_lcmp dX10_luck_57 rfl ?_
      refine wp_if_le 63 dX10_luck_58 rfl rfl (fun c58 => ?_) (fun c58 => ?_)
      · have hE : ¬ (1000000000 : Int64) < v * (nI (opN (wd S))).toInt64 := fun q => Int32.not_le.mpr ((lg_cmp_gt _ _).mpr q) c58
        refine wp_iinc_6 1 dX10_luck_63 rfl rfl (by decide) rfl ?_
        refine wp_goto 31 dX10_luck_66 rfl rfl ?_
        exact WP.cast (by rw [nI_1]) (ih (i + 1) (v * (nI (opN (wd S))).toInt64) (by omega) (by rw [luK, if_neg hE] at hq; exact hq))
      · have hE : (1000000000 : Int64) < v * (nI (opN (wd S))).toInt64 := (lg_cmp_gt _ _).mp (Int32.not_le.mp c58)
        refine wp_iconst (-1) dX10_luck_61 rfl rfl ?_
        exact wp_ireturn dX10_luck_62 rfl (by rw [luK, if_pos hE] at hq; exact hq)
theorem fst_in {p : Nat → Bool} : ∀ (k i : Nat), fstK p k i = none ∨ ∃ j, i ≤ j ∧ j < i + k ∧ fstK p k i = some j
  | 0, _ => Or.inl rfl
  | k + 1, i => by
    by_cases h : p i = true
    · exact Or.inr ⟨i, Nat.le_refl i, by omega, fst_t h⟩
    · rw [fst_f (by simpa using h)]
      rcases fst_in k (i + 1) with q | ⟨j, h1, h2, h3⟩
      · exact Or.inl q
      · exact Or.inr ⟨j, by omega, by omega, h3⟩
theorem lp_20 {nu : LT} {s m : Nat} (m60 : m ≤ 60) (h : ¬ onI (lpV nu s m) = -1) : ∃ j, j ≤ 60 ∧ lpV nu s m = some j := by
  unfold lpV at h ⊢
  rcases fst_in (p := ipV nu s m) (m - 1) 1 with q | ⟨j, h1, h2, q⟩
  · rw [q] at h; exact absurd rfl h
  · exact ⟨j, by omega, q⟩
theorem lp_n {nu : LT} {s m : Nat} (m60 : m ≤ 60) (h : onI (lpV nu s m) = -1) : lpV nu s m = none := by
  unfold lpV at h ⊢
  rcases fst_in (p := ipV nu s m) (m - 1) 1 with q | ⟨j, h1, h2, q⟩
  · exact q
  · rw [q] at h; exact absurd h (nI_n1 (by omega))
theorem luV_n {W : Nat → Int32} {nu : LT} {s m : Nat} (h : lpV nu s m = none) : luV W nu s m = -1 := by unfold luV; rw [h]
theorem luV_s {W : Nat → Int32} {nu : LT} {s m p : Nat} (h : lpV nu s m = some p) : luV W nu s m = luK (nI (opN W)).toInt64 (m - p) 1 := by unfold luV; rw [h]
theorem q_m_luck {g : GW} {M : Nat} {pre post : AH} {S : SM} (hm : pre.length = M) {x : Int32} (hwm : WFm (S.2.1 19)) (hs : WFs (wd S)) : SP g 5 0 0 yX10_luck cX10_luck 7 (some .int) [.ref M, .int x] (mH M pre S post) (QM M pre post S (.int (qluck (wd S) (S.2.1 19) (S.2.2.1 21) x))) := by
  refine SP.intro [some (.ref M), some (.int x), none, none, none, none, none] (pfn (by decide)) rfl (Nat.le_of_ble_eq_true rfl) ?_
  refine wp_aload_0 dX10_luck_0 rfl ?_
  refine wp_iload_1 dX10_luck_1 rfl ?_
  refine wp_cvR dX10_luck_2 rfl q2419 mv_X10_asksHeard (mg_0 hm) rfl rfl (m_asksHeard hm hwm) rfl rfl (Nat.le_of_ble_eq_true rfl) (Nat.le_of_ble_eq_true rfl) ?_
  refine wp_istore_2 dX10_luck_5 rfl (by decide) rfl ?_
  refine wp_iload_2 dX10_luck_6 rfl ?_
  refine wp_if_ge 12 dX10_luck_7 rfl rfl (fun c7 => ?_) (fun c7 => ?_)
  · obtain ⟨s, h4, rfl, hmy, m60, hbd⟩ := ah_of hwm (Int32.not_lt.mpr c7)
    have h0 := bd_0 hbd
    have hcl : (nI s).toNatClampNeg = s := nI_clamp (by omega)
    refine wp_aload_0 dX10_luck_12 rfl ?_
    refine wp_iload_1 dX10_luck_13 rfl ?_
    refine wp_cvR dX10_luck_14 rfl q2430 mv_X10_leastPeriod (mg_0 hm) rfl rfl (m_leastPeriod hm h4 hmy m60) rfl rfl (Nat.le_of_ble_eq_true rfl) (Nat.le_of_ble_eq_true rfl) ?_
    refine wp_istore_3 dX10_luck_17 rfl (by decide) rfl ?_
    refine wp_iload_3 dX10_luck_18 rfl ?_
    refine wp_iconst (-1) dX10_luck_19 rfl rfl ?_
    refine wp_icmp_ne 25 dX10_luck_20 rfl rfl (fun c20 => ?_) (fun c20 => ?_)
    · obtain ⟨j, hj, ej⟩ := lp_20 m60 c20
      refine wp_lconst 1 dX10_luck_25 rfl rfl ?_
      refine wp_lstore_4 dX10_luck_26 rfl (by decide) rfl ?_
      refine wp_iload_3 dX10_luck_28 rfl ?_
      refine wp_istore_6 dX10_luck_29 rfl (by decide) rfl ?_
      refine WP.cast (by rw [ej]; rfl) (mL_luck hm h4 hmy m60 hs (mN (S.2.1 19) s - j) j 1 (by omega) ?_)
      exact ⟨by rw [qluck, hrd_p (Int32.not_lt.mpr c7), hcl, luV_s ej], S, rfl, KP.rf S⟩
    · refine wp_iconst (-1) dX10_luck_23 rfl rfl ?_
      exact wp_ireturn dX10_luck_24 rfl ⟨by rw [qluck, hrd_p (Int32.not_lt.mpr c7), hcl, luV_n (lp_n m60 c20)], S, rfl, KP.rf S⟩
  · refine wp_iload_2 dX10_luck_10 rfl ?_
    exact wp_ireturn dX10_luck_11 rfl ⟨by rw [qluck, hrd_n (Int32.not_le.mp c7)], S, rfl, KP.rf S⟩
theorem mL_fitsFrom {g : GW} {M : Nat} {pre post : AH} {S : SM} (hm : pre.length = M) {s m : Nat} (h4 : s < 4) (hmy : S.2.1 19 s = nI m) (m60 : m ≤ 60) {p : Nat} (h5 : 0 < nW (wd S) 5) (hs : WFs (wd S)) {c n : Nat} {Q : Option Value → AH → Prop} : ∀ (k : Nat) (i : Nat), i + k = m → Q (some (.int (b2i (alK (fiP (wd S) (S.2.2.1 21) s p) k i)))) (mH M pre S post) → WP g 3 yX10_fitsFrom cX10_fitsFrom 4 (some .boolean) 2 [some (.ref M), some (.int (nI s)), some (.int (nI p)), some (.int (nI i))] [] (mH M pre S post) c n Q := by
  intro k
  induction k with
  | zero =>
    intro i hi hq
    refine wp_iload_3 dX10_fitsFrom_2 rfl ?_
    refine wp_aload_0 dX10_fitsFrom_3 rfl ?_
    refine wp_getf dX10_fitsFrom_4 rfl q1874 fk10_43 (mg_0 hm) rfl ?_
    refine wp_iload_1 dX10_fitsFrom_7 rfl ?_
    refine wp_ialoadn s dX10_fitsFrom_8 rfl (mg_19 hm) rfl (by omega) (by decide) ?_
    refine wp_icmp_ge 38 dX10_fitsFrom_9 rfl rfl (fun c9 => ?_) (fun c9 => ?_)
    · refine wp_iconst 1 dX10_fitsFrom_38 rfl rfl ?_
      exact wp_zreturn dX10_fitsFrom_39 rfl rfl hq
    · exact absurd (show S.2.1 19 s ≤ nI i by rw [hmy]; exact nI_le (by omega) (by omega)) c9
  | succ k ih =>
    intro i hi hq
    refine wp_iload_3 dX10_fitsFrom_2 rfl ?_
    refine wp_aload_0 dX10_fitsFrom_3 rfl ?_
    refine wp_getf dX10_fitsFrom_4 rfl q1874 fk10_43 (mg_0 hm) rfl ?_
    refine wp_iload_1 dX10_fitsFrom_7 rfl ?_
    refine wp_ialoadn s dX10_fitsFrom_8 rfl (mg_19 hm) rfl (by omega) (by decide) ?_
    refine wp_icmp_ge 38 dX10_fitsFrom_9 rfl rfl (fun c9 => ?_) (fun c9 => ?_)
    · exact absurd c9 (show ¬ (S.2.1 19 s ≤ nI i) by rw [hmy]; exact nI_ge (by omega) (by omega))
    · refine wp_aload_0 dX10_fitsFrom_12 rfl ?_
      refine wp_iload_2 dX10_fitsFrom_13 rfl ?_
      refine wp_iload_3 dX10_fitsFrom_14 rfl ?_
      refine wp_iadd dX10_fitsFrom_15 rfl ?_
      rw [nI_add]
      refine wp_cvR dX10_fitsFrom_16 rfl q2410 mv_X10_holeAt (mg_0 hm) rfl rfl (m_holeAt hm h5 hs) rfl rfl (Nat.le_of_ble_eq_true rfl) (Nat.le_of_ble_eq_true rfl) ?_
      refine wp_i2l dX10_fitsFrom_19 rfl ?_
      refine wp_aload_0 dX10_fitsFrom_20 rfl ?_
      refine wp_iload_1 dX10_fitsFrom_21 rfl ?_
      refine wp_iload_3 dX10_fitsFrom_22 rfl ?_
      refine wp_cvR dX10_fitsFrom_23 rfl q2426 mv_X10_numberAt (mg_0 hm) rfl rfl (m_numberAt hm h4 (by omega)) rfl rfl (Nat.le_of_ble_eq_true rfl) (Nat.le_of_ble_eq_true rfl) ?_
      refine wp_lcmp dX10_fitsFrom_26 rfl ?_
      refine wp_if_eq 32 dX10_fitsFrom_27 rfl rfl (fun c27 => ?_) (fun c27 => ?_)
      · have hE := (lg_cmp_eq _ _).mp c27
        refine wp_iinc_3 1 dX10_fitsFrom_32 rfl rfl (by decide) rfl ?_
        refine wp_goto 2 dX10_fitsFrom_35 rfl rfl ?_
        exact WP.cast (by rw [nI_1]) (ih (i + 1) (by omega) (by rw [al_t (decide_eq_true hE)] at hq; exact hq))
      · have hE := fun q => c27 ((lg_cmp_eq _ _).mpr q)
        refine wp_iconst 0 dX10_fitsFrom_30 rfl rfl ?_
        exact wp_zreturn dX10_fitsFrom_31 rfl rfl (by rw [al_f (decide_eq_false hE)] at hq; exact hq)
theorem m_fitsFrom {g : GW} {M : Nat} {pre post : AH} {S : SM} (hm : pre.length = M) {s m : Nat} (h4 : s < 4) (hmy : S.2.1 19 s = nI m) (m60 : m ≤ 60) {p : Nat} (h5 : 0 < nW (wd S) 5) (hs : WFs (wd S)) : SPx g 3 0 0 yX10_fitsFrom cX10_fitsFrom 4 (some .boolean) [.ref M, .int (nI s), .int (nI p)] (mH M pre S post) (some (.int (b2i (fiV (wd S) (S.2.2.1 21) s m p)))) (mH M pre S post) := by
  refine SPx.intro [some (.ref M), some (.int (nI s)), some (.int (nI p)), none] (pfn (by decide)) rfl (Nat.le_of_ble_eq_true rfl) ?_
  refine wp_iconst 0 dX10_fitsFrom_0 rfl rfl ?_
  refine wp_istore_3 dX10_fitsFrom_1 rfl (by decide) rfl ?_
  refine mL_fitsFrom hm h4 hmy m60 h5 hs m 0 (Nat.zero_add _) ⟨rfl, rfl⟩
theorem mL_fits {g : GW} {M : Nat} {pre post : AH} {S : SM} (hm : pre.length = M) {s m : Nat} (h4 : s < 4) (hmy : S.2.1 19 s = nI m) (m60 : m ≤ 60) {v : Int32} (hs : WFs (wd S)) {c n : Nat} {Q : Option Value → AH → Prop} : ∀ (k : Nat) (i : Nat) (a : Int32), i + k = nW (wd S) 5 → Q (some (.int (itr (ctF (fiV (wd S) (S.2.2.1 21) s m)) k i a))) (mH M pre S post) → WP g 5 yX10_fits cX10_fits 5 (some .int) 17 [some (.ref M), some (.int (nI s)), some (.int v), some (.int a), some (.int (nI i))] [] (mH M pre S post) c n Q := by
  intro k
  induction k with
  | zero =>
    intro i a hi hq
    have b24 := hs.nc.2
    have e5 : S.2.1 1 5 = nI (nW (wd S) 5) := hs.nc.1
    refine wp_iload_4 dX10_fits_17 rfl ?_
    refine wp_aload_0 dX10_fits_19 rfl ?_
    refine wp_getf dX10_fits_20 rfl q1832 fk10_1 (mg_0 hm) rfl ?_
    refine wp_iconst 5 dX10_fits_23 rfl rfl ?_
    refine wp_ialoadn 5 dX10_fits_24 rfl (mg_1 hm) rfl (by decide) (by decide) ?_
    refine wp_icmp_ge 52 dX10_fits_25 rfl rfl (fun c25 => ?_) (fun c25 => ?_)
    · refine wp_iload_3 dX10_fits_52 rfl ?_
      exact wp_ireturn dX10_fits_53 rfl hq
    · exact absurd (show S.2.1 1 5 ≤ nI i by rw [e5]; exact nI_le (by omega) (by omega)) c25
  | succ k ih =>
    intro i a hi hq
    have b24 := hs.nc.2
    have e5 : S.2.1 1 5 = nI (nW (wd S) 5) := hs.nc.1
    refine wp_iload_4 dX10_fits_17 rfl ?_
    refine wp_aload_0 dX10_fits_19 rfl ?_
    refine wp_getf dX10_fits_20 rfl q1832 fk10_1 (mg_0 hm) rfl ?_
    refine wp_iconst 5 dX10_fits_23 rfl rfl ?_
    refine wp_ialoadn 5 dX10_fits_24 rfl (mg_1 hm) rfl (by decide) (by decide) ?_
    refine wp_icmp_ge 52 dX10_fits_25 rfl rfl (fun c25 => ?_) (fun c25 => ?_)
    · exact absurd c25 (show ¬ (S.2.1 1 5 ≤ nI i) by rw [e5]; exact nI_ge (by omega) (by omega))
    · have h5 : 0 < nW (wd S) 5 := by omega
      refine wp_iload_3 dX10_fits_28 rfl ?_
      refine wp_aload_0 dX10_fits_29 rfl ?_
      refine wp_iload_1 dX10_fits_30 rfl ?_
      refine wp_iload_4 dX10_fits_31 rfl ?_
      refine wp_cvR dX10_fits_33 rfl q2451 mv_X10_fitsFrom (mg_0 hm) rfl rfl (m_fitsFrom hm h4 hmy m60 h5 hs) rfl rfl (Nat.le_of_ble_eq_true rfl) (Nat.le_of_ble_eq_true rfl) ?_
      refine wp_ifeq_b 43 dX10_fits_36 rfl rfl (fun c36 => ?_) (fun c36 => ?_)
      · refine wp_iconst 0 dX10_fits_43 rfl rfl ?_
        refine wp_iadd dX10_fits_44 rfl ?_
        refine wp_istore_3 dX10_fits_45 rfl (by decide) rfl ?_
        refine wp_iinc_4 1 dX10_fits_46 rfl rfl (by decide) rfl ?_
        refine wp_goto 17 dX10_fits_49 rfl rfl ?_
        exact WP.cast (by simp [ctF, nI_1, c36]) (ih (i + 1) (ctF (fiV (wd S) (S.2.2.1 21) s m) i a) (by omega) hq)
      · refine wp_iconst 1 dX10_fits_39 rfl rfl ?_
        refine wp_goto 44 dX10_fits_40 rfl rfl ?_
        refine wp_iadd dX10_fits_44 rfl ?_
        refine wp_istore_3 dX10_fits_45 rfl (by decide) rfl ?_
        refine wp_iinc_4 1 dX10_fits_46 rfl rfl (by decide) rfl ?_
        refine wp_goto 17 dX10_fits_49 rfl rfl ?_
        exact WP.cast (by simp [ctF, nI_1, c36]) (ih (i + 1) (ctF (fiV (wd S) (S.2.2.1 21) s m) i a) (by omega) hq)
theorem q_m_fits {g : GW} {M : Nat} {pre post : AH} {S : SM} (hm : pre.length = M) {x : Int32} (hwm : WFm (S.2.1 19)) (hs : WFs (wd S)) : SP g 5 0 0 yX10_fits cX10_fits 5 (some .int) [.ref M, .int x] (mH M pre S post) (QM M pre post S (.int (qfits (wd S) (S.2.1 19) (S.2.2.1 21) x))) := by
  refine SP.intro [some (.ref M), some (.int x), none, none, none] (pfn (by decide)) rfl (Nat.le_of_ble_eq_true rfl) ?_
  refine wp_aload_0 dX10_fits_0 rfl ?_
  refine wp_iload_1 dX10_fits_1 rfl ?_
  refine wp_cvR dX10_fits_2 rfl q2419 mv_X10_asksHeard (mg_0 hm) rfl rfl (m_asksHeard hm hwm) rfl rfl (Nat.le_of_ble_eq_true rfl) (Nat.le_of_ble_eq_true rfl) ?_
  refine wp_istore_2 dX10_fits_5 rfl (by decide) rfl ?_
  refine wp_iload_2 dX10_fits_6 rfl ?_
  refine wp_if_ge 12 dX10_fits_7 rfl rfl (fun c7 => ?_) (fun c7 => ?_)
  · obtain ⟨s, h4, rfl, hmy, m60, hbd⟩ := ah_of hwm (Int32.not_lt.mpr c7)
    have h0 := bd_0 hbd
    have hcl : (nI s).toNatClampNeg = s := nI_clamp (by omega)
    refine wp_iconst 0 dX10_fits_12 rfl rfl ?_
    refine wp_istore_3 dX10_fits_13 rfl (by decide) rfl ?_
    refine wp_iconst 0 dX10_fits_14 rfl rfl ?_
    refine wp_istore_4 dX10_fits_15 rfl (by decide) rfl ?_
    refine mL_fits hm h4 hmy m60 hs _ 0 0 (Nat.zero_add _) ?_
    exact ⟨by rw [qfits, hrd_p (Int32.not_lt.mpr c7), hcl], S, rfl, KP.rf S⟩
  · refine wp_iload_2 dX10_fits_10 rfl ?_
    exact wp_ireturn dX10_fits_11 rfl ⟨by rw [qfits, hrd_n (Int32.not_le.mp c7)], S, rfl, KP.rf S⟩
theorem mL_place {g : GW} {M : Nat} {pre post : AH} {S : SM} (hm : pre.length = M) {s m : Nat} (h4 : s < 4) (hmy : S.2.1 19 s = nI m) (m60 : m ≤ 60) {x v : Int32} (hs : WFs (wd S)) {c n : Nat} {Q : Option Value → AH → Prop} : ∀ (k : Nat) (i : Nat) (a : Int32), i + k = nW (wd S) 5 → Q (some (.int (plK (fiV (wd S) (S.2.2.1 21) s m) k i a))) (mH M pre S post) → WP g 5 yX10_place cX10_place 6 (some .int) 18 [some (.ref M), some (.int (nI s)), some (.int x), some (.int v), some (.int a), some (.int (nI i))] [] (mH M pre S post) c n Q := by
  intro k
  induction k with
  | zero =>
    intro i a hi hq
    have b24 := hs.nc.2
    have e5 : S.2.1 1 5 = nI (nW (wd S) 5) := hs.nc.1
    refine wp_iload_5 dX10_place_18 rfl ?_
    refine wp_aload_0 dX10_place_20 rfl ?_
    refine wp_getf dX10_place_21 rfl q1832 fk10_1 (mg_0 hm) rfl ?_
    refine wp_iconst 5 dX10_place_24 rfl rfl ?_
    refine wp_ialoadn 5 dX10_place_25 rfl (mg_1 hm) rfl (by decide) (by decide) ?_
    refine wp_icmp_ge 64 dX10_place_26 rfl rfl (fun c26 => ?_) (fun c26 => ?_)
    · refine wp_iconst (-1) dX10_place_64 rfl rfl ?_
      exact wp_ireturn dX10_place_65 rfl (by first | (rw [plK, if_pos c31] at hq; exact hq) | exact hq)
    · exact absurd (show S.2.1 1 5 ≤ nI i by rw [e5]; exact nI_le (by omega) (by omega)) c26
  | succ k ih =>
    intro i a hi hq
    have b24 := hs.nc.2
    have e5 : S.2.1 1 5 = nI (nW (wd S) 5) := hs.nc.1
    refine wp_iload_5 dX10_place_18 rfl ?_
    refine wp_aload_0 dX10_place_20 rfl ?_
    refine wp_getf dX10_place_21 rfl q1832 fk10_1 (mg_0 hm) rfl ?_
    refine wp_iconst 5 dX10_place_24 rfl rfl ?_
    refine wp_ialoadn 5 dX10_place_25 rfl (mg_1 hm) rfl (by decide) (by decide) ?_
    refine wp_icmp_ge 64 dX10_place_26 rfl rfl (fun c26 => ?_) (fun c26 => ?_)
    · exact absurd c26 (show ¬ (S.2.1 1 5 ≤ nI i) by rw [e5]; exact nI_ge (by omega) (by omega))
    · refine wp_iload_4 dX10_place_29 rfl ?_
      refine wp_if_lt 64 dX10_place_31 rfl rfl (fun c31 => ?_) (fun c31 => ?_)
      · refine wp_iconst (-1) dX10_place_64 rfl rfl ?_
        exact wp_ireturn dX10_place_65 rfl (by first | (rw [plK, if_pos c31] at hq; exact hq) | exact hq)
      · have h5 : 0 < nW (wd S) 5 := by omega
        refine wp_aload_0 dX10_place_34 rfl ?_
        refine wp_iload_1 dX10_place_35 rfl ?_
        refine wp_iload_5 dX10_place_36 rfl ?_
        refine wp_cvR dX10_place_38 rfl q2451 mv_X10_fitsFrom (mg_0 hm) rfl rfl (m_fitsFrom hm h4 hmy m60 h5 hs) rfl rfl (Nat.le_of_ble_eq_true rfl) (Nat.le_of_ble_eq_true rfl) ?_
        refine wp_ifne_b 47 dX10_place_41 rfl rfl (fun c41 => ?_) (fun c41 => ?_)
        · refine wp_iload_4 dX10_place_47 rfl ?_
          refine wp_if_ne 55 dX10_place_49 rfl rfl (fun c49 => ?_) (fun c49 => ?_)
          · refine wp_iinc_4 (-1) dX10_place_55 rfl rfl (by decide) rfl ?_
            refine wp_iinc_5 1 dX10_place_58 rfl rfl (by decide) rfl ?_
            refine wp_goto 18 dX10_place_61 rfl rfl ?_
            first
            | exact WP.cast (by rw [nI_1, Int32.sub_eq_add_neg]) (ih (i + 1) (a - 1) (by omega) (by rw [plK, if_neg c31, if_pos c41, if_neg c49] at hq; exact hq))
            | exact WP.cast (by rw [nI_1]) (ih (i + 1) a (by omega) (by rw [plK, if_neg c31, if_neg (by rw [c41]; decide)] at hq; exact hq))
          · refine wp_iload_5 dX10_place_52 rfl ?_
            exact wp_ireturn dX10_place_54 rfl (by rw [plK, if_neg c31, if_pos c41, if_pos c49] at hq; exact hq)
        · refine wp_goto 58 dX10_place_44 rfl rfl ?_
          refine wp_iinc_5 1 dX10_place_58 rfl rfl (by decide) rfl ?_
          refine wp_goto 18 dX10_place_61 rfl rfl ?_
          first
          | exact WP.cast (by rw [nI_1, Int32.sub_eq_add_neg]) (ih (i + 1) (a - 1) (by omega) (by rw [plK, if_neg c31, if_pos c41, if_neg c49] at hq; exact hq))
          | exact WP.cast (by rw [nI_1]) (ih (i + 1) a (by omega) (by rw [plK, if_neg c31, if_neg (by rw [c41]; decide)] at hq; exact hq))
theorem q_m_place {g : GW} {M : Nat} {pre post : AH} {S : SM} (hm : pre.length = M) {x z : Int32} (hwm : WFm (S.2.1 19)) (hs : WFs (wd S)) : SP g 5 0 0 yX10_place cX10_place 6 (some .int) [.ref M, .int x, .int z] (mH M pre S post) (QM M pre post S (.int (qplace (wd S) (S.2.1 19) (S.2.2.1 21) x z))) := by
  refine SP.intro [some (.ref M), some (.int x), some (.int z), none, none, none] (pfn (by decide)) rfl (Nat.le_of_ble_eq_true rfl) ?_
  refine wp_aload_0 dX10_place_0 rfl ?_
  refine wp_iload_1 dX10_place_1 rfl ?_
  refine wp_cvR dX10_place_2 rfl q2419 mv_X10_asksHeard (mg_0 hm) rfl rfl (m_asksHeard hm hwm) rfl rfl (Nat.le_of_ble_eq_true rfl) (Nat.le_of_ble_eq_true rfl) ?_
  refine wp_istore_3 dX10_place_5 rfl (by decide) rfl ?_
  refine wp_iload_3 dX10_place_6 rfl ?_
  refine wp_if_ge 12 dX10_place_7 rfl rfl (fun c7 => ?_) (fun c7 => ?_)
  · obtain ⟨s, h4, rfl, hmy, m60, hbd⟩ := ah_of hwm (Int32.not_lt.mpr c7)
    have h0 := bd_0 hbd
    have hcl : (nI s).toNatClampNeg = s := nI_clamp (by omega)
    refine wp_iload_2 dX10_place_12 rfl ?_
    refine wp_istore_4 dX10_place_13 rfl (by decide) rfl ?_
    refine wp_iconst 0 dX10_place_15 rfl rfl ?_
    refine wp_istore_5 dX10_place_16 rfl (by decide) rfl ?_
    refine mL_place hm h4 hmy m60 hs _ 0 _ (Nat.zero_add _) ?_
    exact ⟨by rw [qplace, hrd_p (Int32.not_lt.mpr c7), hcl], S, rfl, KP.rf S⟩
  · refine wp_iload_3 dX10_place_10 rfl ?_
    exact wp_ireturn dX10_place_11 rfl ⟨by rw [qplace, hrd_n (Int32.not_le.mp c7)], S, rfl, KP.rf S⟩
theorem mL_next {g : GW} {M : Nat} {pre post : AH} {S : SM} (hm : pre.length = M) {s m : Nat} (h4 : s < 4) (hmy : S.2.1 19 s = nI m) (m60 : m ≤ 60) {v : Int32} (hs : WFs (wd S)) {c n : Nat} {Q : Option Value → AH → Prop} : ∀ (k : Nat) (i : Nat) (a : Int32) (v5 : Option Value), i + k = nW (wd S) 5 → Q (some (.int (nxK (fiV (wd S) (S.2.2.1 21) s m) (fun d => hA (wd S) (d + m)) k i a))) (mH M pre S post) → WP g 5 yX10_next cX10_next 6 (some .int) 17 [some (.ref M), some (.int (nI s)), some (.int v), some (.int a), some (.int (nI i)), v5] [] (mH M pre S post) c n Q := by
  intro k
  induction k with
  | zero =>
    intro i a v5 hi hq
    have b24 := hs.nc.2
    have e5 : S.2.1 1 5 = nI (nW (wd S) 5) := hs.nc.1
    refine wp_iload_4 dX10_next_17 rfl ?_
    refine wp_aload_0 dX10_next_19 rfl ?_
    refine wp_getf dX10_next_20 rfl q1832 fk10_1 (mg_0 hm) rfl ?_
    refine wp_iconst 5 dX10_next_23 rfl rfl ?_
    refine wp_ialoadn 5 dX10_next_24 rfl (mg_1 hm) rfl (by decide) (by decide) ?_
    refine wp_icmp_ge 78 dX10_next_25 rfl rfl (fun c25 => ?_) (fun c25 => ?_)
    · refine wp_iload_3 dX10_next_78 rfl ?_
      exact wp_ireturn dX10_next_79 rfl hq
    · exact absurd (show S.2.1 1 5 ≤ nI i by rw [e5]; exact nI_le (by omega) (by omega)) c25
  | succ k ih =>
    intro i a v5 hi hq
    have b24 := hs.nc.2
    have e5 : S.2.1 1 5 = nI (nW (wd S) 5) := hs.nc.1
    refine wp_iload_4 dX10_next_17 rfl ?_
    refine wp_aload_0 dX10_next_19 rfl ?_
    refine wp_getf dX10_next_20 rfl q1832 fk10_1 (mg_0 hm) rfl ?_
    refine wp_iconst 5 dX10_next_23 rfl rfl ?_
    refine wp_ialoadn 5 dX10_next_24 rfl (mg_1 hm) rfl (by decide) (by decide) ?_
    refine wp_icmp_ge 78 dX10_next_25 rfl rfl (fun c25 => ?_) (fun c25 => ?_)
    · exact absurd c25 (show ¬ (S.2.1 1 5 ≤ nI i) by rw [e5]; exact nI_ge (by omega) (by omega))
    · have h5 : 0 < nW (wd S) 5 := by omega
      refine wp_aload_0 dX10_next_28 rfl ?_
      refine wp_iload_1 dX10_next_29 rfl ?_
      refine wp_iload_4 dX10_next_30 rfl ?_
      refine wp_cvR dX10_next_32 rfl q2451 mv_X10_fitsFrom (mg_0 hm) rfl rfl (m_fitsFrom hm h4 hmy m60 h5 hs) rfl rfl (Nat.le_of_ble_eq_true rfl) (Nat.le_of_ble_eq_true rfl) ?_
      refine wp_ifne_b 41 dX10_next_35 rfl rfl (fun c35 => ?_) (fun c35 => ?_)
      · refine wp_aload_0 dX10_next_41 rfl ?_
        refine wp_iload_4 dX10_next_42 rfl ?_
        refine wp_aload_0 dX10_next_44 rfl ?_
        refine wp_getf dX10_next_45 rfl q1874 fk10_43 (mg_0 hm) rfl ?_
        refine wp_iload_1 dX10_next_48 rfl ?_
        refine wp_ialoadn s dX10_next_49 rfl (mg_19 hm) rfl (by omega) (by decide) ?_
        refine wp_iadd dX10_next_50 rfl ?_
        rw [hmy, nI_add]
        refine wp_cvR dX10_next_51 rfl q2410 mv_X10_holeAt (mg_0 hm) rfl rfl (m_holeAt hm h5 hs) rfl rfl (Nat.le_of_ble_eq_true rfl) (Nat.le_of_ble_eq_true rfl) ?_
        refine wp_istore_5 dX10_next_54 rfl (by decide) rfl ?_
        refine wp_iload_3 dX10_next_56 rfl ?_
        refine wp_iconst (-1) dX10_next_57 rfl rfl ?_
        refine wp_icmp_eq 69 dX10_next_58 rfl rfl (fun c58 => ?_) (fun c58 => ?_)
        · refine wp_iload_5 dX10_next_69 rfl ?_
          refine wp_istore_3 dX10_next_71 rfl (by decide) rfl ?_
          refine wp_iinc_4 1 dX10_next_72 rfl rfl (by decide) rfl ?_
          refine wp_goto 17 dX10_next_75 rfl rfl ?_
          first
          | exact WP.cast (by simp only [nI_1, hA]) (ih (i + 1) (hA (wd S) (i + m)) (some (.int (hA (wd S) (i + m)))) (by omega) (by rw [nxK, if_pos c35, if_neg (show ¬ (¬ a = -1 ∧ ¬ hA (wd S) (i + m) = a) from fun q => q.1 c58)] at hq; exact hq))
          | exact WP.cast (by simp only [nI_1, hA]) (ih (i + 1) (hA (wd S) (i + m)) (some (.int (hA (wd S) (i + m)))) (by omega) (by rw [nxK, if_pos c35, if_neg (show ¬ (¬ a = -1 ∧ ¬ hA (wd S) (i + m) = a) from fun q => q.2 c64)] at hq; exact hq))
          | exact WP.cast (by rw [nI_1]) (ih (i + 1) a v5 (by omega) (by rw [nxK, if_neg (by rw [c35]; decide)] at hq; exact hq))
        · refine wp_iload_5 dX10_next_61 rfl ?_
          refine wp_iload_3 dX10_next_63 rfl ?_
          refine wp_icmp_eq 69 dX10_next_64 rfl rfl (fun c64 => ?_) (fun c64 => ?_)
          · refine wp_iload_5 dX10_next_69 rfl ?_
            refine wp_istore_3 dX10_next_71 rfl (by decide) rfl ?_
            refine wp_iinc_4 1 dX10_next_72 rfl rfl (by decide) rfl ?_
            refine wp_goto 17 dX10_next_75 rfl rfl ?_
            first
            | exact WP.cast (by simp only [nI_1, hA]) (ih (i + 1) (hA (wd S) (i + m)) (some (.int (hA (wd S) (i + m)))) (by omega) (by rw [nxK, if_pos c35, if_neg (show ¬ (¬ a = -1 ∧ ¬ hA (wd S) (i + m) = a) from fun q => q.1 c58)] at hq; exact hq))
            | exact WP.cast (by simp only [nI_1, hA]) (ih (i + 1) (hA (wd S) (i + m)) (some (.int (hA (wd S) (i + m)))) (by omega) (by rw [nxK, if_pos c35, if_neg (show ¬ (¬ a = -1 ∧ ¬ hA (wd S) (i + m) = a) from fun q => q.2 c64)] at hq; exact hq))
            | exact WP.cast (by rw [nI_1]) (ih (i + 1) a v5 (by omega) (by rw [nxK, if_neg (by rw [c35]; decide)] at hq; exact hq))
          · refine wp_iconst (-1) dX10_next_67 rfl rfl ?_
            exact wp_ireturn dX10_next_68 rfl (by rw [nxK, if_pos c35, if_pos ⟨c58, c64⟩] at hq; exact hq)
      · refine wp_goto 72 dX10_next_38 rfl rfl ?_
        refine wp_iinc_4 1 dX10_next_72 rfl rfl (by decide) rfl ?_
        refine wp_goto 17 dX10_next_75 rfl rfl ?_
        first
        | exact WP.cast (by simp only [nI_1, hA]) (ih (i + 1) (hA (wd S) (i + m)) (some (.int (hA (wd S) (i + m)))) (by omega) (by rw [nxK, if_pos c35, if_neg (show ¬ (¬ a = -1 ∧ ¬ hA (wd S) (i + m) = a) from fun q => q.1 c58)] at hq; exact hq))
        | exact WP.cast (by simp only [nI_1, hA]) (ih (i + 1) (hA (wd S) (i + m)) (some (.int (hA (wd S) (i + m)))) (by omega) (by rw [nxK, if_pos c35, if_neg (show ¬ (¬ a = -1 ∧ ¬ hA (wd S) (i + m) = a) from fun q => q.2 c64)] at hq; exact hq))
        | exact WP.cast (by rw [nI_1]) (ih (i + 1) a v5 (by omega) (by rw [nxK, if_neg (by rw [c35]; decide)] at hq; exact hq))
theorem q_m_next {g : GW} {M : Nat} {pre post : AH} {S : SM} (hm : pre.length = M) {x : Int32} (hwm : WFm (S.2.1 19)) (hs : WFs (wd S)) : SP g 5 0 0 yX10_next cX10_next 6 (some .int) [.ref M, .int x] (mH M pre S post) (QM M pre post S (.int (qnext (wd S) (S.2.1 19) (S.2.2.1 21) x))) := by
  refine SP.intro [some (.ref M), some (.int x), none, none, none, none] (pfn (by decide)) rfl (Nat.le_of_ble_eq_true rfl) ?_
  refine wp_aload_0 dX10_next_0 rfl ?_
  refine wp_iload_1 dX10_next_1 rfl ?_
  refine wp_cvR dX10_next_2 rfl q2419 mv_X10_asksHeard (mg_0 hm) rfl rfl (m_asksHeard hm hwm) rfl rfl (Nat.le_of_ble_eq_true rfl) (Nat.le_of_ble_eq_true rfl) ?_
  refine wp_istore_2 dX10_next_5 rfl (by decide) rfl ?_
  refine wp_iload_2 dX10_next_6 rfl ?_
  refine wp_if_ge 12 dX10_next_7 rfl rfl (fun c7 => ?_) (fun c7 => ?_)
  · obtain ⟨s, h4, rfl, hmy, m60, hbd⟩ := ah_of hwm (Int32.not_lt.mpr c7)
    have h0 := bd_0 hbd
    have hcl : (nI s).toNatClampNeg = s := nI_clamp (by omega)
    refine wp_iconst (-1) dX10_next_12 rfl rfl ?_
    refine wp_istore_3 dX10_next_13 rfl (by decide) rfl ?_
    refine wp_iconst 0 dX10_next_14 rfl rfl ?_
    refine wp_istore_4 dX10_next_15 rfl (by decide) rfl ?_
    refine mL_next hm h4 hmy m60 hs _ 0 _ none (Nat.zero_add _) ?_
    exact ⟨by rw [qnext, hrd_p (Int32.not_lt.mpr c7), hcl], S, rfl, KP.rf S⟩
  · refine wp_iload_2 dX10_next_10 rfl ?_
    exact wp_ireturn dX10_next_11 rfl ⟨by rw [qnext, hrd_n (Int32.not_le.mp c7)], S, rfl, KP.rf S⟩
theorem mL_goesAlike {g : GW} {M : Nat} {pre post : AH} {S : SM} (hm : pre.length = M) {p q2 m : Nat} (m60 : m ≤ 60) (h5 : 0 < nW (wd S) 5) (hs : WFs (wd S)) {c n : Nat} {Q : Option Value → AH → Prop} : ∀ (k : Nat) (i : Nat), i + k = m → Q (some (.int (b2i (alK (gaP (wd S) p q2) k i)))) (mH M pre S post) → WP g 3 yX10_goesAlike cX10_goesAlike 5 (some .boolean) 3 [some (.ref M), some (.int (nI p)), some (.int (nI q2)), some (.int (nI m)), some (.int (nI i))] [] (mH M pre S post) c n Q := by
  intro k
  induction k with
  | zero =>
    intro i hi hq
    refine wp_iload_4 dX10_goesAlike_3 rfl ?_
    refine wp_iload_3 dX10_goesAlike_5 rfl ?_
    refine wp_icmp_ge 36 dX10_goesAlike_6 rfl rfl (fun c6 => ?_) (fun c6 => ?_)
    · refine wp_iconst 1 dX10_goesAlike_36 rfl rfl ?_
      exact wp_zreturn dX10_goesAlike_37 rfl rfl hq
    · exact absurd (nI_le (show m ≤ i by omega) (by omega)) c6
  | succ k ih =>
    intro i hi hq
    refine wp_iload_4 dX10_goesAlike_3 rfl ?_
    refine wp_iload_3 dX10_goesAlike_5 rfl ?_
    refine wp_icmp_ge 36 dX10_goesAlike_6 rfl rfl (fun c6 => ?_) (fun c6 => ?_)
    · exact absurd c6 (nI_ge (by omega) (by omega))
    · refine wp_aload_0 dX10_goesAlike_9 rfl ?_
      refine wp_iload_1 dX10_goesAlike_10 rfl ?_
      refine wp_iload_4 dX10_goesAlike_11 rfl ?_
      refine wp_iadd dX10_goesAlike_13 rfl ?_
      rw [nI_add]
      refine wp_cvR dX10_goesAlike_14 rfl q2410 mv_X10_holeAt (mg_0 hm) rfl rfl (m_holeAt hm h5 hs) rfl rfl (Nat.le_of_ble_eq_true rfl) (Nat.le_of_ble_eq_true rfl) ?_
      refine wp_aload_0 dX10_goesAlike_17 rfl ?_
      refine wp_iload_2 dX10_goesAlike_18 rfl ?_
      refine wp_iload_4 dX10_goesAlike_19 rfl ?_
      refine wp_iadd dX10_goesAlike_21 rfl ?_
      rw [nI_add]
      refine wp_cvR dX10_goesAlike_22 rfl q2410 mv_X10_holeAt (mg_0 hm) rfl rfl (m_holeAt hm h5 hs) rfl rfl (Nat.le_of_ble_eq_true rfl) (Nat.le_of_ble_eq_true rfl) ?_
      refine wp_icmp_eq 30 dX10_goesAlike_25 rfl rfl (fun c25 => ?_) (fun c25 => ?_)
      · refine wp_iinc_4 1 dX10_goesAlike_30 rfl rfl (by decide) rfl ?_
        refine wp_goto 3 dX10_goesAlike_33 rfl rfl ?_
        exact WP.cast (by rw [nI_1]) (ih (i + 1) (by omega) (by rw [al_t (decide_eq_true c25)] at hq; exact hq))
      · refine wp_iconst 0 dX10_goesAlike_28 rfl rfl ?_
        exact wp_zreturn dX10_goesAlike_29 rfl rfl (by rw [al_f (decide_eq_false c25)] at hq; exact hq)
theorem m_goesAlike {g : GW} {M : Nat} {pre post : AH} {S : SM} (hm : pre.length = M) {p q2 m : Nat} (m60 : m ≤ 60) (h5 : 0 < nW (wd S) 5) (hs : WFs (wd S)) : SPx g 3 0 0 yX10_goesAlike cX10_goesAlike 5 (some .boolean) [.ref M, .int (nI p), .int (nI q2), .int (nI m)] (mH M pre S post) (some (.int (b2i (gaV (wd S) p q2 m)))) (mH M pre S post) := by
  refine SPx.intro [some (.ref M), some (.int (nI p)), some (.int (nI q2)), some (.int (nI m)), none] (pfn (by decide)) rfl (Nat.le_of_ble_eq_true rfl) ?_
  refine wp_iconst 0 dX10_goesAlike_0 rfl rfl ?_
  refine wp_istore_4 dX10_goesAlike_1 rfl (by decide) rfl ?_
  exact mL_goesAlike hm m60 h5 hs m 0 (Nat.zero_add _) ⟨rfl, rfl⟩
theorem mL_needed2 {g : GW} {M : Nat} {pre post : AH} (hm : pre.length = M) {S : SM} (h5 : 0 < nW (wd S) 5) (hs : WFs (wd S)) {p n2 : Nat} (hn : n2 ≤ 24) {c n : Nat} {Q : Option Value → AH → Prop} : ∀ (k : Nat)  (i : Nat) (a : Int32), i + k = nW (wd S) 5 → (∀ i', WP g 5 yX10_neededFrom cX10_neededFrom 5 (some .int) 53 [some (.ref M), some (.int (nI p)), some (.int (nI n2)), some (.int (itr (ctF (fun o => gaV (wd S) p o n2)) k i a)), i'] [] (mH M pre S post) c n Q) → WP g 5 yX10_neededFrom cX10_neededFrom 5 (some .int) 17 [some (.ref M), some (.int (nI p)), some (.int (nI n2)), some (.int a), some (.int (nI i))] [] (mH M pre S post) c n Q := by
  intro k
  induction k with
  | zero =>
    intro  i a hi hq
    have b24 := hs.nc.2
    have e5 : S.2.1 1 5 = nI (nW (wd S) 5) := hs.nc.1
    refine wp_iload_4 dX10_neededFrom_17 rfl ?_
    refine wp_aload_0 dX10_neededFrom_19 rfl ?_
    refine wp_getf dX10_neededFrom_20 rfl q1832 fk10_1 (mg_0 hm) rfl ?_
    refine wp_iconst 5 dX10_neededFrom_23 rfl rfl ?_
    refine wp_ialoadn 5 dX10_neededFrom_24 rfl (mg_1 hm) rfl (by decide) (by decide) ?_
    refine wp_icmp_ge 53 dX10_neededFrom_25 rfl rfl (fun c25 => ?_) (fun c25 => ?_)
    · exact hq _
    · exact absurd (show S.2.1 1 5 ≤ nI i by rw [e5]; exact nI_le (by omega) (by omega)) c25
  | succ k ih =>
    intro  i a hi hq
    have b24 := hs.nc.2
    have e5 : S.2.1 1 5 = nI (nW (wd S) 5) := hs.nc.1
    refine wp_iload_4 dX10_neededFrom_17 rfl ?_
    refine wp_aload_0 dX10_neededFrom_19 rfl ?_
    refine wp_getf dX10_neededFrom_20 rfl q1832 fk10_1 (mg_0 hm) rfl ?_
    refine wp_iconst 5 dX10_neededFrom_23 rfl rfl ?_
    refine wp_ialoadn 5 dX10_neededFrom_24 rfl (mg_1 hm) rfl (by decide) (by decide) ?_
    refine wp_icmp_ge 53 dX10_neededFrom_25 rfl rfl (fun c25 => ?_) (fun c25 => ?_)
    · exact absurd c25 (show ¬ (S.2.1 1 5 ≤ nI i) by rw [e5]; exact nI_ge (by omega) (by omega))
    · refine wp_iload_3 dX10_neededFrom_28 rfl ?_
      refine wp_aload_0 dX10_neededFrom_29 rfl ?_
      refine wp_iload_1 dX10_neededFrom_30 rfl ?_
      refine wp_iload_4 dX10_neededFrom_31 rfl ?_
      refine wp_iload_2 dX10_neededFrom_33 rfl ?_
      refine wp_cvR dX10_neededFrom_34 rfl q2471 mv_X10_goesAlike (mg_0 hm) rfl rfl (m_goesAlike hm (by omega) h5 hs) rfl rfl (Nat.le_of_ble_eq_true rfl) (Nat.le_of_ble_eq_true rfl) ?_
      refine wp_ifeq_b 44 dX10_neededFrom_37 rfl rfl (fun c37 => ?_) (fun c37 => ?_)
      · refine wp_iconst 0 dX10_neededFrom_44 rfl rfl ?_
        refine wp_iadd dX10_neededFrom_45 rfl ?_
        refine wp_istore_3 dX10_neededFrom_46 rfl (by decide) rfl ?_
        refine wp_iinc_4 1 dX10_neededFrom_47 rfl rfl (by decide) rfl ?_
        refine wp_goto 17 dX10_neededFrom_50 rfl rfl ?_
        exact WP.cast (by simp [ctF, nI_1, c37]) (ih (i + 1) ((ctF (fun o => gaV (wd S) p o n2)) i a) (by omega) hq)
      · refine wp_iconst 1 dX10_neededFrom_40 rfl rfl ?_
        refine wp_goto 45 dX10_neededFrom_41 rfl rfl ?_
        refine wp_iadd dX10_neededFrom_45 rfl ?_
        refine wp_istore_3 dX10_neededFrom_46 rfl (by decide) rfl ?_
        refine wp_iinc_4 1 dX10_neededFrom_47 rfl rfl (by decide) rfl ?_
        refine wp_goto 17 dX10_neededFrom_50 rfl rfl ?_
        exact WP.cast (by simp [ctF, nI_1, c37]) (ih (i + 1) ((ctF (fun o => gaV (wd S) p o n2)) i a) (by omega) hq)
theorem mL_needed {g : GW} {M : Nat} {pre post : AH} (hm : pre.length = M) {S : SM} (h5 : 0 < nW (wd S) 5) (hs : WFs (wd S)) {p : Nat} {c n : Nat} {Q : Option Value → AH → Prop} : ∀ (k : Nat)  (n2 : Nat) (w3 w4 : Option Value), n2 + k = nW (wd S) 5 + 1 → Q (some (.int (onI (fstK (fun n => decide (ncV (wd S) p n = 1)) k n2)))) (mH M pre S post) → WP g 5 yX10_neededFrom cX10_neededFrom 5 (some .int) 2 [some (.ref M), some (.int (nI p)), some (.int (nI n2)), w3, w4] [] (mH M pre S post) c n Q := by
  intro k
  induction k with
  | zero =>
    intro  n2 w3 w4 hi hq
    have b24 := hs.nc.2
    have e5 : S.2.1 1 5 = nI (nW (wd S) 5) := hs.nc.1
    refine wp_iload_2 dX10_neededFrom_2 rfl ?_
    refine wp_aload_0 dX10_neededFrom_3 rfl ?_
    refine wp_getf dX10_neededFrom_4 rfl q1832 fk10_1 (mg_0 hm) rfl ?_
    refine wp_iconst 5 dX10_neededFrom_7 rfl rfl ?_
    refine wp_ialoadn 5 dX10_neededFrom_8 rfl (mg_1 hm) rfl (by decide) (by decide) ?_
    refine wp_icmp_gt 66 dX10_neededFrom_9 rfl rfl (fun c9 => ?_) (fun c9 => ?_)
    · refine wp_iconst (-1) dX10_neededFrom_66 rfl rfl ?_
      exact wp_ireturn dX10_neededFrom_67 rfl hq
    · exact absurd (show S.2.1 1 5 < nI n2 by rw [e5]; exact (nI_ltI (by omega) (by omega)).mpr (by omega)) c9
  | succ k ih =>
    intro  n2 w3 w4 hi hq
    have b24 := hs.nc.2
    have e5 : S.2.1 1 5 = nI (nW (wd S) 5) := hs.nc.1
    refine wp_iload_2 dX10_neededFrom_2 rfl ?_
    refine wp_aload_0 dX10_neededFrom_3 rfl ?_
    refine wp_getf dX10_neededFrom_4 rfl q1832 fk10_1 (mg_0 hm) rfl ?_
    refine wp_iconst 5 dX10_neededFrom_7 rfl rfl ?_
    refine wp_ialoadn 5 dX10_neededFrom_8 rfl (mg_1 hm) rfl (by decide) (by decide) ?_
    refine wp_icmp_gt 66 dX10_neededFrom_9 rfl rfl (fun c9 => ?_) (fun c9 => ?_)
    · exact absurd c9 (Int32.not_lt.mpr (show nI n2 ≤ S.2.1 1 5 by rw [e5]; exact nI_le (by omega) (by omega)))
    · refine wp_iconst 0 dX10_neededFrom_12 rfl rfl ?_
      refine wp_istore_3 dX10_neededFrom_13 rfl (by decide) rfl ?_
      refine wp_iconst 0 dX10_neededFrom_14 rfl rfl ?_
      refine wp_istore_4 dX10_neededFrom_15 rfl (by decide) rfl ?_
      refine mL_needed2 hm h5 hs (by omega) (nW (wd S) 5) 0 0 (Nat.zero_add _) (fun i4 => ?_)
      refine wp_iload_3 dX10_neededFrom_53 rfl ?_
      refine wp_iconst 1 dX10_neededFrom_54 rfl rfl ?_
      refine wp_icmp_ne 60 dX10_neededFrom_55 rfl rfl (fun c55 => ?_) (fun c55 => ?_)
      · refine wp_iinc_2 1 dX10_neededFrom_60 rfl rfl (by decide) rfl ?_
        refine wp_goto 2 dX10_neededFrom_63 rfl rfl ?_
        exact WP.cast (by rw [nI_1]; rfl) (ih (n2 + 1) (some (.int (ncV (wd S) p n2))) i4 (by omega) (by rw [fst_f (decide_eq_false c55)] at hq; exact hq))
      · refine wp_iload_2 dX10_neededFrom_58 rfl ?_
        exact wp_ireturn dX10_neededFrom_59 rfl (by rw [fst_t (decide_eq_true c55)] at hq; exact hq)
theorem m_neededFrom {g : GW} {M : Nat} {pre post : AH} {S : SM} (hm : pre.length = M) {p : Nat} (h5 : 0 < nW (wd S) 5) (hs : WFs (wd S)) : SPx g 5 0 0 yX10_neededFrom cX10_neededFrom 5 (some .int) [.ref M, .int (nI p)] (mH M pre S post) (some (.int (neV (wd S) p))) (mH M pre S post) := by
  refine SPx.intro [some (.ref M), some (.int (nI p)), none, none, none] (pfn (by decide)) rfl (Nat.le_of_ble_eq_true rfl) ?_
  refine wp_iconst 0 dX10_neededFrom_0 rfl rfl ?_
  refine wp_istore_2 dX10_neededFrom_1 rfl (by decide) rfl ?_
  exact mL_needed hm h5 hs (nW (wd S) 5 + 1) 0 none none (Nat.zero_add _) ⟨rfl, rfl⟩
theorem q_m_needed {g : GW} {M : Nat} {pre post : AH} {S : SM} (hm : pre.length = M) {x : Int32} (hs : WFs (wd S)) : SP g 6 0 0 yX10_needed cX10_needed 2 (some .int) [.ref M, .int x] (mH M pre S post) (QM M pre post S (.int (qneeded (wd S) x))) := by
  refine SP.intro [some (.ref M), some (.int x)] (pfn (by decide)) rfl (Nat.le_of_ble_eq_true rfl) ?_
  refine wp_aload_0 dX10_needed_0 rfl ?_
  refine wp_iload_1 dX10_needed_1 rfl ?_
  refine wp_cvR dX10_needed_2 rfl q2117 mv_X10_isComing (mg_0 hm) rfl rfl (m_isComing hm) rfl rfl (Nat.le_of_ble_eq_true rfl) (Nat.le_of_ble_eq_true rfl) ?_
  refine wp_ifeq_b 16 dX10_needed_5 rfl rfl (fun c5 => ?_) (fun c5 => ?_)
  · refine wp_bipush (-2) dX10_needed_16 rfl rfl ?_
    exact wp_ireturn dX10_needed_18 rfl ⟨by rw [qneeded, if_neg (by simp [*])], S, rfl, KP.rf S⟩
  · obtain ⟨p, hp, rfl⟩ := cmW_of hs c5
    have h5 : 0 < nW (wd S) 5 := by omega
    refine wp_aload_0 dX10_needed_8 rfl ?_
    refine wp_iload_1 dX10_needed_9 rfl ?_
    refine wp_cvR dX10_needed_10 rfl q2467 mv_X10_neededFrom (mg_0 hm) rfl rfl (m_neededFrom hm h5 hs) rfl rfl (Nat.le_of_ble_eq_true rfl) (Nat.le_of_ble_eq_true rfl) ?_
    refine wp_goto 18 dX10_needed_13 rfl rfl ?_
    exact wp_ireturn dX10_needed_18 rfl ⟨by rw [qneeded, if_pos c5, nI_clamp (by have := hs.nc.2; omega)], S, rfl, KP.rf S⟩
theorem mL_known {g : GW} {M : Nat} {pre post : AH} {S : SM} (hm : pre.length = M) (hs : WFs (wd S)) {c n : Nat} {Q : Option Value → AH → Prop} : ∀ (k : Nat) (i : Nat) (a : Int32) (v3 : Option Value), i + k = nW (wd S) 5 → Q (some (.int (kwK (neV (wd S)) k i a))) (mH M pre S post) → WP g 6 yX10_known cX10_known 4 (some .int) 14 [some (.ref M), some (.int a), some (.int (nI i)), v3] [] (mH M pre S post) c n Q := by
  intro k
  induction k with
  | zero =>
    intro i a v3 hi hq
    have b24 := hs.nc.2
    have e5 : S.2.1 1 5 = nI (nW (wd S) 5) := hs.nc.1
    refine wp_iload_2 dX10_known_14 rfl ?_
    refine wp_aload_0 dX10_known_15 rfl ?_
    refine wp_getf dX10_known_16 rfl q1832 fk10_1 (mg_0 hm) rfl ?_
    refine wp_iconst 5 dX10_known_19 rfl rfl ?_
    refine wp_ialoadn 5 dX10_known_20 rfl (mg_1 hm) rfl (by decide) (by decide) ?_
    refine wp_icmp_ge 49 dX10_known_21 rfl rfl (fun c21 => ?_) (fun c21 => ?_)
    · refine wp_iload_1 dX10_known_49 rfl ?_
      exact wp_ireturn dX10_known_50 rfl hq
    · exact absurd (show S.2.1 1 5 ≤ nI i by rw [e5]; exact nI_le (by omega) (by omega)) c21
  | succ k ih =>
    intro i a v3 hi hq
    have b24 := hs.nc.2
    have e5 : S.2.1 1 5 = nI (nW (wd S) 5) := hs.nc.1
    refine wp_iload_2 dX10_known_14 rfl ?_
    refine wp_aload_0 dX10_known_15 rfl ?_
    refine wp_getf dX10_known_16 rfl q1832 fk10_1 (mg_0 hm) rfl ?_
    refine wp_iconst 5 dX10_known_19 rfl rfl ?_
    refine wp_ialoadn 5 dX10_known_20 rfl (mg_1 hm) rfl (by decide) (by decide) ?_
    refine wp_icmp_ge 49 dX10_known_21 rfl rfl (fun c21 => ?_) (fun c21 => ?_)
    · exact absurd c21 (show ¬ (S.2.1 1 5 ≤ nI i) by rw [e5]; exact nI_ge (by omega) (by omega))
    · have h5 : 0 < nW (wd S) 5 := by omega
      refine wp_aload_0 dX10_known_24 rfl ?_
      refine wp_iload_2 dX10_known_25 rfl ?_
      refine wp_cvR dX10_known_26 rfl q2467 mv_X10_neededFrom (mg_0 hm) rfl rfl (m_neededFrom hm h5 hs) rfl rfl (Nat.le_of_ble_eq_true rfl) (Nat.le_of_ble_eq_true rfl) ?_
      refine wp_istore_3 dX10_known_29 rfl (by decide) rfl ?_
      refine wp_iload_3 dX10_known_30 rfl ?_
      refine wp_iconst (-1) dX10_known_31 rfl rfl ?_
      refine wp_icmp_ne 37 dX10_known_32 rfl rfl (fun c32 => ?_) (fun c32 => ?_)
      · refine wp_iload_1 dX10_known_37 rfl ?_
        refine wp_iload_3 dX10_known_38 rfl ?_
        refine wp_csR dX10_known_39 rfl q2259 ms_J3_max j_max rfl rfl (Nat.le_of_ble_eq_true rfl) (Nat.le_of_ble_eq_true rfl) ?_
        refine wp_istore_1 dX10_known_42 rfl (by decide) rfl ?_
        refine wp_iinc_2 1 dX10_known_43 rfl rfl (by decide) rfl ?_
        refine wp_goto 14 dX10_known_46 rfl rfl ?_
        exact WP.cast (by rw [nI_1]) (ih (i + 1) (mx32 a (neV (wd S) i)) (some (.int (neV (wd S) i))) (by omega) (by rw [kwK, if_neg c32] at hq; exact hq))
      · refine wp_iconst (-1) dX10_known_35 rfl rfl ?_
        exact wp_ireturn dX10_known_36 rfl (by rw [kwK, if_pos c32] at hq; exact hq)
theorem q_m_known {g : GW} {M : Nat} {pre post : AH} {S : SM} (hm : pre.length = M) (hs : WFs (wd S)) : SP g 6 0 0 yX10_known cX10_known 4 (some .int) [.ref M] (mH M pre S post) (QM M pre post S (.int (qknown (wd S)))) := by
  refine SP.intro [some (.ref M), none, none, none] (pfn (by decide)) rfl (Nat.le_of_ble_eq_true rfl) ?_
  refine wp_aload_0 dX10_known_0 rfl ?_
  refine wp_cvR dX10_known_1 rfl q2154 mv_X10_isBoard (mg_0 hm) rfl rfl (m_isBoard hm) rfl rfl (Nat.le_of_ble_eq_true rfl) (Nat.le_of_ble_eq_true rfl) ?_
  refine wp_ifne_b 10 dX10_known_4 rfl rfl (fun c4 => ?_) (fun c4 => ?_)
  · refine wp_iconst (-1) dX10_known_10 rfl rfl ?_
    refine wp_istore_1 dX10_known_11 rfl (by decide) rfl ?_
    refine wp_iconst 0 dX10_known_12 rfl rfl ?_
    refine wp_istore_2 dX10_known_13 rfl (by decide) rfl ?_
    refine mL_known hm hs _ 0 _ none (Nat.zero_add _) ?_
    exact ⟨by rw [qknown, if_pos c4], S, rfl, KP.rf S⟩
  · refine wp_bipush (-2) dX10_known_7 rfl rfl ?_
    exact wp_ireturn dX10_known_9 rfl ⟨by rw [qknown, if_neg (by simp [*])], S, rfl, KP.rf S⟩
