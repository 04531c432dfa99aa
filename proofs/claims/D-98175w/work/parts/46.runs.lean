/-! ===== the reference: runs ===== -/
set_option maxRecDepth 100000
theorem mL_calm {g : GW} {M : Nat} {pre post : AH} {S : SM} (hm : pre.length = M) {G : GA} (hg : GS S G) (hs : WFs (wd S)) {c n : Nat} {Q : Option Value → AH → Prop} : ∀ (k : Nat) (i : Nat) (a : Int32), i + k = nW (wd S) 2 → Q (some (.int (itr (clF G) k i a))) (mH M pre S post) → WP g 4 yX10_calm cX10_calm 3 (some .int) 18 [some (.ref M), some (.int a), some (.int (nI i))] [] (mH M pre S post) c n Q := by
  intro k
  induction k with
  | zero =>
    intro i a hi hq
    refine wp_iload_2 dX10_calm_18 rfl ?_
    refine wp_aload_0 dX10_calm_19 rfl ?_
    refine wp_getf dX10_calm_20 rfl q1832 fk10_1 (mg_0 hm) rfl ?_
    refine wp_iconst 2 dX10_calm_23 rfl rfl ?_
    refine wp_ialoadn 2 dX10_calm_24 rfl (mg_1 hm) rfl (by decide) (by decide) ?_
    refine wp_icmp_ge 50 dX10_calm_25 rfl rfl (fun c25 => ?_) (fun c25 => ?_)
    · refine wp_iload_1 dX10_calm_50 rfl ?_
      exact wp_ireturn dX10_calm_51 rfl hq
    · exact absurd (show wd S 2 ≤ nI i by rw [hs.tk.1]; exact nI_le (by omega) (by have := hs.tk.2; omega)) c25
  | succ k ih =>
    intro i a hi hq
    refine wp_iload_2 dX10_calm_18 rfl ?_
    refine wp_aload_0 dX10_calm_19 rfl ?_
    refine wp_getf dX10_calm_20 rfl q1832 fk10_1 (mg_0 hm) rfl ?_
    refine wp_iconst 2 dX10_calm_23 rfl rfl ?_
    refine wp_ialoadn 2 dX10_calm_24 rfl (mg_1 hm) rfl (by decide) (by decide) ?_
    refine wp_icmp_ge 50 dX10_calm_25 rfl rfl (fun c25 => ?_) (fun c25 => ?_)
    · exact absurd c25 (show ¬ (wd S 2 ≤ nI i) by rw [hs.tk.1]; exact nI_ge (by omega) (by have := hs.tk.2; omega))
    · refine wp_iload_1 dX10_calm_28 rfl ?_
      refine wp_aload_0 dX10_calm_29 rfl ?_
      refine wp_iload_2 dX10_calm_30 rfl ?_
      refine wp_cvR dX10_calm_31 rfl q2190 mv_X10_upIn (mg_0 hm) rfl rfl (m_upIn hm hg) rfl rfl (Nat.le_of_ble_eq_true rfl) (Nat.le_of_ble_eq_true rfl) ?_
      refine wp_if_ne 41 dX10_calm_34 rfl rfl (fun c34 => ?_) (fun c34 => ?_)
      · refine wp_iconst 0 dX10_calm_41 rfl rfl ?_
        refine wp_iadd dX10_calm_42 rfl ?_
        refine wp_istore_1 dX10_calm_43 rfl (by decide) rfl ?_
        refine wp_iinc_2 1 dX10_calm_44 rfl rfl (by decide) rfl ?_
        refine wp_goto 18 dX10_calm_47 rfl rfl ?_
        exact WP.cast (by simp [clF, nI_1, *]) (ih (i + 1) (clF G i a) (by omega) hq)
      · refine wp_iconst 1 dX10_calm_37 rfl rfl ?_
        refine wp_goto 42 dX10_calm_38 rfl rfl ?_
        refine wp_iadd dX10_calm_42 rfl ?_
        refine wp_istore_1 dX10_calm_43 rfl (by decide) rfl ?_
        refine wp_iinc_2 1 dX10_calm_44 rfl rfl (by decide) rfl ?_
        refine wp_goto 18 dX10_calm_47 rfl rfl ?_
        exact WP.cast (by simp [clF, nI_1, *]) (ih (i + 1) (clF G i a) (by omega) hq)
theorem q_m_calm {g : GW} {M : Nat} {pre post : AH} {S : SM} (hm : pre.length = M) (hs : WFs (wd S)) : SP g 4 0 0 yX10_calm cX10_calm 3 (some .int) [.ref M] (mH M pre S post) (QM M pre post S (.int (qcalm (wd S)))) := by
  refine SP.intro [some (.ref M), none, none] (pfn (by decide)) rfl (Nat.le_of_ble_eq_true rfl) ?_
  refine wp_aload_0 dX10_calm_0 rfl ?_
  refine wp_cvR dX10_calm_1 rfl q2154 mv_X10_isBoard (mg_0 hm) rfl rfl (m_isBoard hm) rfl rfl (Nat.le_of_ble_eq_true rfl) (Nat.le_of_ble_eq_true rfl) ?_
  refine wp_ifne_b 10 dX10_calm_4 rfl rfl (fun c4 => ?_) (fun c4 => ?_)
  · refine wp_aload_0 dX10_calm_10 rfl ?_
    refine wp_cvE dX10_calm_11 rfl q2158 mv_X10_lay (mg_0 hm) rfl rfl (m_lay hm hs) rfl rfl (Nat.le_of_ble_eq_true rfl) (Nat.le_of_ble_eq_true rfl) (fun h1 hq => ?_)
    obtain ⟨S1, rfl, hk1, hg1⟩ := hq
    refine wp_iconst 0 dX10_calm_14 rfl rfl ?_
    refine wp_istore_1 dX10_calm_15 rfl (by decide) rfl ?_
    refine wp_iconst 0 dX10_calm_16 rfl rfl ?_
    refine wp_istore_2 dX10_calm_17 rfl (by decide) rfl ?_
    have hs1 : WFs (wd S1) := hk1.wd ▸ hs
    exact mL_calm hm hg1 hs1 _ 0 0 (Nat.zero_add _) ⟨by rw [hk1.wd, qcalm, if_pos c4], S1, rfl, hk1.KP⟩
  · refine wp_bipush (-2) dX10_calm_7 rfl rfl ?_
    exact wp_ireturn dX10_calm_9 rfl ⟨by simp [qcalm, *], S, rfl, KP.rf S⟩
def atS (p : Nat) (S : SM) : SM := (sF 24 0 (sF 23 4095 (sF 22 (wd S (96 + 5 * p + 4)) (sF 21 (wd S (96 + 5 * p + 3)) (sF 20 (wd S (96 + 5 * p + 1)) (sF 19 (nI p) S))))))
theorem atS_KX (p : Nat) (S : SM) : KX [19, 20, 21, 22, 23, 24] [] S (atS p S) := by
  refine ⟨fun q h => ?_, fun j h => rfl, rfl⟩
  simp only [List.mem_cons, List.not_mem_nil, or_false, not_or] at h
  simp [atS, sF, upd, h]
theorem atS_PS {p : Nat} {S : SM} (h : wd S (96 + 5 * p + 3) = nI (nW (wd S) (96 + 5 * p + 3))) : PS (atS p S) (tpW (wd S) p) := ⟨rfl, rfl, h, rfl, rfl, rfl⟩
theorem m_asTold {g : GW} {M : Nat} {pre post : AH} {S : SM} (hm : pre.length = M) {p : Nat} (hp : p < 4) : SPx g 2 0 0 yX10_asTold cX10_asTold 2 none [.ref M, .int (nI p)] (mH M pre S post) none (mH M pre (atS p S) post) := by
  refine SPx.intro [some (.ref M), some (.int (nI p))] (pfn (by decide)) rfl (Nat.le_of_ble_eq_true rfl) ?_
  refine wp_aload_0 dX10_asTold_0 rfl ?_
  refine wp_iload_1 dX10_asTold_1 rfl ?_
  refine wp_putf dX10_asTold_2 rfl q1850 fp10_19 (mg_0 hm) rfl rfl (Nat.le_of_ble_eq_true rfl) (ms_F19 hm) ?_
  refine wp_aload_0 dX10_asTold_5 rfl ?_
  refine wp_aload_0 dX10_asTold_6 rfl ?_
  refine wp_iload_1 dX10_asTold_7 rfl ?_
  refine wp_iconst 1 dX10_asTold_8 rfl rfl ?_
  refine wp_cvR dX10_asTold_9 rfl q2134 mv_X10_of (mg_0 hm) rfl rfl (m_of (w := 1) hm hp (by omega)) rfl rfl (Nat.le_of_ble_eq_true rfl) (Nat.le_of_ble_eq_true rfl) ?_
  refine wp_putf dX10_asTold_12 rfl q1851 fp10_20 (mg_0 hm) rfl rfl (Nat.le_of_ble_eq_true rfl) (ms_F20 hm) ?_
  refine wp_aload_0 dX10_asTold_15 rfl ?_
  refine wp_aload_0 dX10_asTold_16 rfl ?_
  refine wp_iload_1 dX10_asTold_17 rfl ?_
  refine wp_iconst 3 dX10_asTold_18 rfl rfl ?_
  refine wp_cvR dX10_asTold_19 rfl q2134 mv_X10_of (mg_0 hm) rfl rfl (m_of (w := 3) hm hp (by omega)) rfl rfl (Nat.le_of_ble_eq_true rfl) (Nat.le_of_ble_eq_true rfl) ?_
  refine wp_putf dX10_asTold_22 rfl q1852 fp10_21 (mg_0 hm) rfl rfl (Nat.le_of_ble_eq_true rfl) (ms_F21 hm) ?_
  refine wp_aload_0 dX10_asTold_25 rfl ?_
  refine wp_aload_0 dX10_asTold_26 rfl ?_
  refine wp_iload_1 dX10_asTold_27 rfl ?_
  refine wp_iconst 4 dX10_asTold_28 rfl rfl ?_
  refine wp_cvR dX10_asTold_29 rfl q2134 mv_X10_of (mg_0 hm) rfl rfl (m_of (w := 4) hm hp (by omega)) rfl rfl (Nat.le_of_ble_eq_true rfl) (Nat.le_of_ble_eq_true rfl) ?_
  refine wp_putf dX10_asTold_32 rfl q1853 fp10_22 (mg_0 hm) rfl rfl (Nat.le_of_ble_eq_true rfl) (ms_F22 hm) ?_
  refine wp_aload_0 dX10_asTold_35 rfl ?_
  refine wp_sipush 4095 dX10_asTold_36 rfl rfl ?_
  refine wp_putf dX10_asTold_39 rfl q1854 fp10_23 (mg_0 hm) rfl rfl (Nat.le_of_ble_eq_true rfl) (ms_F23 hm) ?_
  refine wp_aload_0 dX10_asTold_42 rfl ?_
  refine wp_iconst 0 dX10_asTold_43 rfl rfl ?_
  refine wp_putf dX10_asTold_44 rfl q1855 fp10_24 (mg_0 hm) rfl rfl (Nat.le_of_ble_eq_true rfl) (ms_F24 hm) ?_
  exact wp_return dX10_asTold_47 rfl ⟨rfl, rfl⟩
theorem m_awareOf {g : GW} {M : Nat} {pre post : AH} {S : SM} (hm : pre.length = M) {i : Nat} {G : GA} {P : RP} (hg : GS S G) (hp : PS S P) (hi : i < G.1) (hkn : P.1.2 ≤ 9) : SPx g 2 0 0 yX10_awareOf cX10_awareOf 3 (some .int) [.ref M, .int (nI i)] (mH M pre S post) (some (.int (awR G.2 P i))) (mH M pre S post) := by
  refine SPx.intro [some (.ref M), some (.int (nI i)), none] (pfn (by decide)) rfl (Nat.le_of_ble_eq_true rfl) ?_
  refine wp_aload_0 dX10_awareOf_0 rfl ?_
  refine wp_getf dX10_awareOf_1 rfl q1847 fk10_16 (mg_0 hm) rfl ?_
  refine wp_iload_1 dX10_awareOf_4 rfl ?_
  refine wp_ialoadn i dX10_awareOf_5 rfl (mg_8 hm) rfl (by have := hg.2.1; omega) (by decide) ?_
  refine wp_aload_0 dX10_awareOf_6 rfl ?_
  refine wp_getf dX10_awareOf_7 rfl q1851 fk10_20 (mg_0 hm) rfl ?_
  refine wp_iadd dX10_awareOf_10 rfl ?_
  refine wp_istore_2 dX10_awareOf_11 rfl (by decide) rfl ?_
  refine wp_aload_0 dX10_awareOf_12 rfl ?_
  refine wp_getf dX10_awareOf_13 rfl q1852 fk10_21 (mg_0 hm) rfl ?_
  refine wp_if_ne 21 dX10_awareOf_16 rfl rfl (fun c16 => ?_) (fun c16 => ?_)
  · have hk0 : ¬ P.1.2 = 0 := fun q => c16 (by rw [hp.2.2.1, q]; rfl)
    refine wp_iload_2 dX10_awareOf_21 rfl ?_
    refine wp_iload_1 dX10_awareOf_22 rfl ?_
    refine wp_aload_0 dX10_awareOf_23 rfl ?_
    refine wp_getf dX10_awareOf_24 rfl q1852 fk10_21 (mg_0 hm) rfl ?_
    refine wp_icmp_ge 34 dX10_awareOf_27 rfl rfl (fun c27 => ?_) (fun c27 => ?_)
    · have hik : ¬ i < P.1.2 := by
        rw [hp.2.2.1] at c27
        have := hg.2.1
        exact Nat.not_lt.mpr ((nI_leI (by omega) (by omega)).mp c27)
      refine wp_aload_0 dX10_awareOf_34 rfl ?_
      refine wp_getf dX10_awareOf_35 rfl q1847 fk10_16 (mg_0 hm) rfl ?_
      refine wp_iload_1 dX10_awareOf_38 rfl ?_
      refine wp_aload_0 dX10_awareOf_39 rfl ?_
      refine wp_getf dX10_awareOf_40 rfl q1852 fk10_21 (mg_0 hm) rfl ?_
      refine wp_isub dX10_awareOf_43 rfl ?_
      refine wp_ialoadn (i - P.1.2) dX10_awareOf_44 rfl (mg_8 hm) (by rw [hp.2.2.1]; exact pk_sub (by omega)) (by have := hg.2.1; omega) (by decide) ?_
      refine wp_csR dX10_awareOf_45 rfl q2015 ms_J3_min j_min rfl rfl (Nat.le_of_ble_eq_true rfl) (Nat.le_of_ble_eq_true rfl) ?_
      exact wp_ireturn dX10_awareOf_48 rfl ⟨by simp only [awR, hk0, hik, if_true, if_false, hp.2.1, hg.f hi, hg.f (show i - P.1.2 < G.1 by omega)], rfl⟩
    · have hik : i < P.1.2 := by
        rw [hp.2.2.1] at c27
        have := hg.2.1
        exact Nat.not_le.mp (fun q => c27 (nI_le q (by omega)))
      refine wp_iconst 0 dX10_awareOf_30 rfl rfl ?_
      refine wp_goto 45 dX10_awareOf_31 rfl rfl ?_
      refine wp_csR dX10_awareOf_45 rfl q2015 ms_J3_min j_min rfl rfl (Nat.le_of_ble_eq_true rfl) (Nat.le_of_ble_eq_true rfl) ?_
      exact wp_ireturn dX10_awareOf_48 rfl ⟨by simp only [awR, hk0, hik, if_true, if_false, hp.2.1, hg.f hi, hg.f (show i - P.1.2 < G.1 by omega)], rfl⟩
  · have hk0 : P.1.2 = 0 := (nI_eq (a := P.1.2) (b := 0) (by omega) (by omega)).mp (by rw [← hp.2.2.1]; exact c16)
    refine wp_iload_2 dX10_awareOf_19 rfl ?_
    exact wp_ireturn dX10_awareOf_20 rfl ⟨by simp only [awR, hk0, if_true, if_false, hp.2.1, hg.f hi, hg.f (show i - P.1.2 < G.1 by omega)], rfl⟩
theorem m_isHis {g : GW} {M : Nat} {pre post : AH} {S : SM} (hm : pre.length = M) {x : Int32} {P : RP} (hp : PS S P) : SPx g 1 0 0 yX10_isHis cX10_isHis 2 (some .boolean) [.ref M, .int x] (mH M pre S post) (some (.int (b2i (hisR P x)))) (mH M pre S post) := by
  refine SPx.intro [some (.ref M), some (.int x)] (pfn (by decide)) rfl (Nat.le_of_ble_eq_true rfl) ?_
  refine wp_iload_1 dX10_isHis_0 rfl ?_
  refine wp_iconst (-1) dX10_isHis_1 rfl rfl ?_
  refine wp_icmp_eq 21 dX10_isHis_2 rfl rfl (fun c2 => ?_) (fun c2 => ?_)
  · refine wp_iconst 0 dX10_isHis_21 rfl rfl ?_
    exact wp_zreturn dX10_isHis_22 rfl rfl ⟨by have e := hp.2.2.2.2.1; simp only [e] at *; simp [hisR, b2i, *], rfl⟩
  · refine wp_aload_0 dX10_isHis_5 rfl ?_
    refine wp_getf dX10_isHis_6 rfl q1854 fk10_23 (mg_0 hm) rfl ?_
    refine wp_iload_1 dX10_isHis_9 rfl ?_
    refine wp_ishr dX10_isHis_10 rfl ?_
    refine wp_iconst 1 dX10_isHis_11 rfl rfl ?_
    refine wp_iand dX10_isHis_12 rfl ?_
    refine wp_iconst 1 dX10_isHis_13 rfl rfl ?_
    refine wp_icmp_ne 21 dX10_isHis_14 rfl rfl (fun c14 => ?_) (fun c14 => ?_)
    · refine wp_iconst 0 dX10_isHis_21 rfl rfl ?_
      exact wp_zreturn dX10_isHis_22 rfl rfl ⟨by have e := hp.2.2.2.2.1; simp only [e] at *; simp [hisR, b2i, *], rfl⟩
    · refine wp_iconst 1 dX10_isHis_17 rfl rfl ?_
      refine wp_goto 22 dX10_isHis_18 rfl rfl ?_
      exact wp_zreturn dX10_isHis_22 rfl rfl ⟨by have e := hp.2.2.2.2.1; simp only [e] at *; simp [hisR, b2i, *], rfl⟩
theorem m_goes {g : GW} {M : Nat} {pre post : AH} {S : SM} (hm : pre.length = M) {G : GA} {P : RP} {t : RT} {Wd : Nat → Int32} (hg : GS S G) (hp : PS S P) (hkn : P.1.2 ≤ 9) (hpp : P.1.1 < 4) (hw : wd S = Wd) (h0 : ¬ Wd 0 = 0) {i : Nat} {o : Int32} (hr : RS S t (i + 1)) (hi : i < G.1) (hk : tSt t < 120) : SP g 3 0 0 yX10_goes cX10_goes 6 (some .boolean) [.ref M, .int (nI i), .int o] (mH M pre S post) (fun v h1 => v = some (.int (b2i (okR Wd G.2 P i o t))) ∧ ∃ S', h1 = mH M pre S' post ∧ KX [29, 30, 31, 32, 33] [10, 11, 12, 13] S S' ∧ RS S' (goR Wd G.2 P i o t) (i + 1)) := by
  refine SP.intro [some (.ref M), some (.int (nI i)), some (.int o), none, none, none] (pfn (by decide)) rfl (Nat.le_of_ble_eq_true rfl) ?_
  subst hw
  have hi60 : i < 60 := Nat.lt_of_lt_of_le hi hg.2.1
  refine wp_aload_0 dX10_goes_0 rfl ?_
  refine wp_getf dX10_goes_1 rfl q1863 fk10_32 (mg_0 hm) rfl ?_
  rw [show S.1 32 = tFr t from hr.2.1]
  refine wp_aload_0 dX10_goes_4 rfl ?_
  refine wp_iload_1 dX10_goes_5 rfl ?_
  refine wp_cvR dX10_goes_6 rfl q2231 mv_X10_awareOf (mg_0 hm) rfl rfl (m_awareOf hm hg hp hi hkn) rfl rfl (Nat.le_of_ble_eq_true rfl) (Nat.le_of_ble_eq_true rfl) ?_
  refine wp_csR dX10_goes_9 rfl q2259 ms_J3_max j_max rfl rfl (Nat.le_of_ble_eq_true rfl) (Nat.le_of_ble_eq_true rfl) ?_
  refine wp_istore_3 dX10_goes_12 rfl (by decide) rfl ?_
  refine wp_iload_3 dX10_goes_13 rfl ?_
  refine wp_aload_0 dX10_goes_14 rfl ?_
  refine wp_aload_0 dX10_goes_15 rfl ?_
  refine wp_getf dX10_goes_16 rfl q1862 fk10_31 (mg_0 hm) rfl ?_
  rw [show S.1 31 = tPl t from hr.1]
  refine wp_iload_2 dX10_goes_19 rfl ?_
  refine wp_cvR dX10_goes_20 rfl q2210 mv_X10_stepsOf (mg_0 hm) rfl rfl (m_stepsOf hm h0) rfl rfl (Nat.le_of_ble_eq_true rfl) (Nat.le_of_ble_eq_true rfl) ?_
  refine wp_aload_0 dX10_goes_23 rfl ?_
  refine wp_aload_0 dX10_goes_24 rfl ?_
  refine wp_getf dX10_goes_25 rfl q1850 fk10_19 (mg_0 hm) rfl ?_
  rw [show S.1 19 = nI P.1.1 from hp.1]
  refine wp_iload_3 dX10_goes_28 rfl ?_
  refine wp_cvR dX10_goes_29 rfl q2219 mv_X10_paceIn (mg_0 hm) rfl rfl (m_paceIn hm hpp) rfl rfl (Nat.le_of_ble_eq_true rfl) (Nat.le_of_ble_eq_true rfl) ?_
  refine wp_imul dX10_goes_32 rfl ?_
  refine wp_iadd dX10_goes_33 rfl ?_
  refine wp_istore_4 dX10_goes_34 rfl (by decide) rfl ?_
  refine wp_iload_4 dX10_goes_36 rfl ?_
  refine wp_aload_0 dX10_goes_38 rfl ?_
  refine wp_getf dX10_goes_39 rfl q1847 fk10_16 (mg_0 hm) rfl ?_
  refine wp_iload_1 dX10_goes_42 rfl ?_
  refine wp_ialoadn i dX10_goes_43 rfl (mg_8 hm) rfl hi60 (by decide) ?_
  rw [show S.2.1 8 i = gF G.2 i from hg.f hi]
  refine wp_csR dX10_goes_44 rfl q2259 ms_J3_max j_max rfl rfl (Nat.le_of_ble_eq_true rfl) (Nat.le_of_ble_eq_true rfl) ?_
  refine wp_istore_5 dX10_goes_47 rfl (by decide) rfl ?_
  refine wp_iload_5 dX10_goes_49 rfl ?_
  refine wp_aload_0 dX10_goes_51 rfl ?_
  refine wp_getf dX10_goes_52 rfl q1848 fk10_17 (mg_0 hm) rfl ?_
  refine wp_iload_1 dX10_goes_55 rfl ?_
  refine wp_ialoadn i dX10_goes_56 rfl (mg_9 hm) rfl hi60 (by decide) ?_
  rw [show S.2.1 9 i = gE G.2 i from hg.e hi]
  refine wp_icmp_le 62 dX10_goes_57 rfl rfl (fun c57 => ?_) (fun c57 => ?_)
  · have hok : okR (wd S) G.2 P i o t = true := decide_eq_true c57
    refine wp_aload_0 dX10_goes_62 rfl ?_
    refine wp_dup dX10_goes_63 rfl rfl ?_
    refine wp_getf dX10_goes_64 rfl q1864 fk10_33 (mg_0 hm) rfl ?_
    refine wp_aload_0 dX10_goes_67 rfl ?_
    refine wp_aload_0 dX10_goes_68 rfl ?_
    refine wp_getf dX10_goes_69 rfl q1862 fk10_31 (mg_0 hm) rfl ?_
    rw [show S.1 31 = tPl t from hr.1]
    refine wp_iload_2 dX10_goes_72 rfl ?_
    refine wp_cvR dX10_goes_73 rfl q2210 mv_X10_stepsOf (mg_0 hm) rfl rfl (m_stepsOf hm h0) rfl rfl (Nat.le_of_ble_eq_true rfl) (Nat.le_of_ble_eq_true rfl) ?_
    refine wp_iadd dX10_goes_76 rfl ?_
    refine wp_putf dX10_goes_77 rfl q1864 fp10_33 (mg_0 hm) rfl rfl (Nat.le_of_ble_eq_true rfl) (ms_F33 hm) ?_
    refine wp_aload_0 dX10_goes_80 rfl ?_
    refine wp_iload_2 dX10_goes_81 rfl ?_
    refine wp_putf dX10_goes_82 rfl q1862 fp10_31 (mg_0 hm) rfl rfl (Nat.le_of_ble_eq_true rfl) (ms_F31 hm) ?_
    refine wp_aload_0 dX10_goes_85 rfl ?_
    refine wp_iload_5 dX10_goes_86 rfl ?_
    refine wp_iconst 1 dX10_goes_88 rfl rfl ?_
    refine wp_iadd dX10_goes_89 rfl ?_
    refine wp_putf dX10_goes_90 rfl q1863 fp10_32 (mg_0 hm) rfl rfl (Nat.le_of_ble_eq_true rfl) (ms_F32 hm) ?_
    refine wp_aload_0 dX10_goes_93 rfl ?_
    refine wp_getf dX10_goes_94 rfl q1856 fk10_25 (mg_0 hm) rfl ?_
    refine wp_iload_1 dX10_goes_97 rfl ?_
    refine wp_dup2 dX10_goes_98 rfl rfl rfl ?_
    refine wp_ialoadn i dX10_goes_99 rfl (mg_10 hm) rfl hi60 (by decide) ?_
    refine wp_iconst 1 dX10_goes_100 rfl rfl ?_
    refine wp_iadd dX10_goes_101 rfl ?_
    refine wp_iastoren i dX10_goes_102 rfl (mg_10 hm) rfl hi60 (by decide) (ms_A10 hm) ?_
    refine wp_aload_0 dX10_goes_103 rfl ?_
    refine wp_getf dX10_goes_104 rfl q1857 fk10_26 (mg_0 hm) rfl ?_
    refine wp_iload_1 dX10_goes_107 rfl ?_
    refine wp_iload_5 dX10_goes_108 rfl ?_
    refine wp_iastoren i dX10_goes_110 rfl (mg_11 hm) rfl hi60 (by decide) (ms_A11 hm) ?_
    refine wp_aload_0 dX10_goes_111 rfl ?_
    refine wp_getf dX10_goes_112 rfl q1858 fk10_27 (mg_0 hm) rfl ?_
    refine wp_aload_0 dX10_goes_115 rfl ?_
    refine wp_getf dX10_goes_116 rfl q1860 fk10_29 (mg_0 hm) rfl ?_
    refine wp_iload_5 dX10_goes_119 rfl ?_
    refine wp_iastoren (tSt t) dX10_goes_121 rfl (mg_12 hm) (show _ = _ from hr.2.2.1) hk (by decide) (ms_A12 hm) ?_
    refine wp_aload_0 dX10_goes_122 rfl ?_
    refine wp_getf dX10_goes_123 rfl q1859 fk10_28 (mg_0 hm) rfl ?_
    refine wp_aload_0 dX10_goes_126 rfl ?_
    refine wp_getf dX10_goes_127 rfl q1860 fk10_29 (mg_0 hm) rfl ?_
    refine wp_iload_2 dX10_goes_130 rfl ?_
    refine wp_iastoren (tSt t) dX10_goes_131 rfl (mg_13 hm) (show _ = _ from hr.2.2.1) hk (by decide) (ms_A13 hm) ?_
    refine wp_aload_0 dX10_goes_132 rfl ?_
    refine wp_dup dX10_goes_133 rfl rfl ?_
    refine wp_getf dX10_goes_134 rfl q1860 fk10_29 (mg_0 hm) rfl ?_
    refine wp_iconst 1 dX10_goes_137 rfl rfl ?_
    refine wp_iadd dX10_goes_138 rfl ?_
    refine wp_putf dX10_goes_139 rfl q1860 fp10_29 (mg_0 hm) rfl rfl (Nat.le_of_ble_eq_true rfl) (ms_F29 hm) ?_
    refine wp_aload_0 dX10_goes_142 rfl ?_
    refine wp_dup dX10_goes_143 rfl rfl ?_
    refine wp_getf dX10_goes_144 rfl q1861 fk10_30 (mg_0 hm) rfl ?_
    refine wp_aload_0 dX10_goes_147 rfl ?_
    refine wp_iload_1 dX10_goes_148 rfl ?_
    refine wp_iconst 2 dX10_goes_149 rfl rfl ?_
    refine wp_cvR dX10_goes_150 rfl q2182 mv_X10_inGame (mg_0 hm) rfl rfl (m_inGame (w := 2) hm hi60 (by omega)) rfl rfl (Nat.le_of_ble_eq_true rfl) (Nat.le_of_ble_eq_true rfl) ?_
    refine wp_iadd dX10_goes_153 rfl ?_
    refine wp_putf dX10_goes_154 rfl q1861 fp10_30 (mg_0 hm) rfl rfl (Nat.le_of_ble_eq_true rfl) (ms_F30 hm) ?_
    refine wp_iconst 1 dX10_goes_157 rfl rfl ?_
    exact wp_zreturn dX10_goes_158 rfl rfl ⟨bt hok, goS i (tSt t) o (thR (wd S) G.2 P i o t) (stW (wd S) (tPl t) o) S, rfl, goS_KX _ _ _ _ _ S, goS_RS hg hi hr rfl hok⟩
  · have hok : ¬ okR (wd S) G.2 P i o t = true := fun q => c57 (of_decide_eq_true q)
    refine wp_iconst 0 dX10_goes_60 rfl rfl ?_
    exact wp_zreturn dX10_goes_61 rfl rfl ⟨bf (by simpa using hok), S, rfl, KX.rf _ _ S, by rw [goR, if_neg hok]; exact hr⟩
theorem m_goesFor {g : GW} {M : Nat} {pre post : AH} {S : SM} (hm : pre.length = M) {G : GA} {P : RP} {t : RT} {Wd : Nat → Int32} (hg : GS S G) (hp : PS S P) (hkn : P.1.2 ≤ 9) (hpp : P.1.1 < 4) (hw : wd S = Wd) (h0 : ¬ Wd 0 = 0) {i : Nat} (hr : RS S t (i + 1)) (hi : i < G.1) (hk : tSt t + 2 ≤ 120) : SP g 4 0 0 yX10_goesFor cX10_goesFor 5 none [.ref M, .int (nI i)] (mH M pre S post) (fun v h1 => v = none ∧ ∃ S', h1 = mH M pre S' post ∧ KX [29, 30, 31, 32, 33] [10, 11, 12, 13] S S' ∧ RS S' (gfR Wd G.2 P i t) (i + 1)) := by
  refine SP.intro [some (.ref M), some (.int (nI i)), none, none, none] (pfn (by decide)) rfl (Nat.le_of_ble_eq_true rfl) ?_
  have hi60 : i < 60 := Nat.lt_of_lt_of_le hi hg.2.1
  refine wp_aload_0 dX10_goesFor_0 rfl ?_
  refine wp_iload_1 dX10_goesFor_1 rfl ?_
  refine wp_iconst 0 dX10_goesFor_2 rfl rfl ?_
  refine wp_cvR dX10_goesFor_3 rfl q2182 mv_X10_inGame (mg_0 hm) rfl rfl (m_inGame (w := 0) hm hi60 (by omega)) rfl rfl (Nat.le_of_ble_eq_true rfl) (Nat.le_of_ble_eq_true rfl) ?_
  rw [show S.2.1 7 (3 * i + 0) = gH G.2 i from hg.at (w := 0) hi (by omega)]
  refine wp_istore_2 dX10_goesFor_6 rfl (by decide) rfl ?_
  refine wp_aload_0 dX10_goesFor_7 rfl ?_
  refine wp_iload_1 dX10_goesFor_8 rfl ?_
  refine wp_iconst 1 dX10_goesFor_9 rfl rfl ?_
  refine wp_cvR dX10_goesFor_10 rfl q2182 mv_X10_inGame (mg_0 hm) rfl rfl (m_inGame (w := 1) hm hi60 (by omega)) rfl rfl (Nat.le_of_ble_eq_true rfl) (Nat.le_of_ble_eq_true rfl) ?_
  rw [show S.2.1 7 (3 * i + 1) = gO G.2 i from hg.at (w := 1) hi (by omega)]
  refine wp_istore_3 dX10_goesFor_13 rfl (by decide) rfl ?_
  refine wp_aload_0 dX10_goesFor_14 rfl ?_
  refine wp_iload_2 dX10_goesFor_15 rfl ?_
  refine wp_cvR dX10_goesFor_16 rfl q2251 mv_X10_isHis (mg_0 hm) rfl rfl (m_isHis hm hp) rfl rfl (Nat.le_of_ble_eq_true rfl) (Nat.le_of_ble_eq_true rfl) ?_
  refine wp_ifeq_b 30 dX10_goesFor_19 rfl rfl (fun c19 => ?_) (fun c19 => ?_)
  · refine wp_aload_0 dX10_goesFor_30 rfl ?_
    refine wp_iload_2 dX10_goesFor_31 rfl ?_
    refine wp_cvR dX10_goesFor_32 rfl q2251 mv_X10_isHis (mg_0 hm) rfl rfl (m_isHis hm hp) rfl rfl (Nat.le_of_ble_eq_true rfl) (Nat.le_of_ble_eq_true rfl) ?_
    refine wp_ifeq_b 48 dX10_goesFor_35 rfl rfl (fun c35 => ?_) (fun c35 => ?_)
    · refine wp_aload_0 dX10_goesFor_48 rfl ?_
      refine wp_iload_3 dX10_goesFor_49 rfl ?_
      refine wp_cvR dX10_goesFor_50 rfl q2251 mv_X10_isHis (mg_0 hm) rfl rfl (m_isHis hm hp) rfl rfl (Nat.le_of_ble_eq_true rfl) (Nat.le_of_ble_eq_true rfl) ?_
      refine wp_ifeq_b 63 dX10_goesFor_53 rfl rfl (fun c53 => ?_) (fun c53 => ?_)
      · exact wp_return dX10_goesFor_63 rfl ⟨rfl, S, rfl, KX.rf _ _ S, (by first | (exfalso; rw [c19] at c35; exact absurd c35 (by decide)) | (exfalso; rw [c27] at c53; exact absurd c53 (by decide)) | (simpa [gfR, *] using hr))⟩
      · refine wp_aload_0 dX10_goesFor_56 rfl ?_
        refine wp_iload_1 dX10_goesFor_57 rfl ?_
        refine wp_iload_3 dX10_goesFor_58 rfl ?_
        refine wp_cvEi dX10_goesFor_59 rfl q2255 mv_X10_goes (mg_0 hm) rfl rfl (m_goes hm hg hp hkn hpp hw h0 hr hi (by omega)) rfl rfl (Nat.le_of_ble_eq_true rfl) (Nat.le_of_ble_eq_true rfl) (fun h1 hq => ?_)
        obtain ⟨S1, rfl, hk1, hr1⟩ := hq
        refine wp_pop dX10_goesFor_62 rfl rfl ?_
        exact wp_return dX10_goesFor_63 rfl ⟨rfl, S1, rfl, hk1, (by first | (exfalso; rw [c19] at c35; exact absurd c35 (by decide)) | (simpa [gfR, *] using hr1) | (rw [goR, if_neg (by simp [*])] at hr1; simpa [gfR, *] using hr1))⟩
    · refine wp_aload_0 dX10_goesFor_38 rfl ?_
      refine wp_iload_1 dX10_goesFor_39 rfl ?_
      refine wp_iload_2 dX10_goesFor_40 rfl ?_
      refine wp_cvEi dX10_goesFor_41 rfl q2255 mv_X10_goes (mg_0 hm) rfl rfl (m_goes hm hg hp hkn hpp hw h0 hr hi (by omega)) rfl rfl (Nat.le_of_ble_eq_true rfl) (Nat.le_of_ble_eq_true rfl) (fun h1 hq => ?_)
      obtain ⟨S1, rfl, hk1, hr1⟩ := hq
      refine wp_pop dX10_goesFor_44 rfl rfl ?_
      refine wp_goto 63 dX10_goesFor_45 rfl rfl ?_
      exact wp_return dX10_goesFor_63 rfl ⟨rfl, S1, rfl, hk1, (by first | (exfalso; rw [c19] at c35; exact absurd c35 (by decide)) | (simpa [gfR, *] using hr1) | (rw [goR, if_neg (by simp [*])] at hr1; simpa [gfR, *] using hr1))⟩
  · refine wp_aload_0 dX10_goesFor_22 rfl ?_
    refine wp_iload_3 dX10_goesFor_23 rfl ?_
    refine wp_cvR dX10_goesFor_24 rfl q2251 mv_X10_isHis (mg_0 hm) rfl rfl (m_isHis hm hp) rfl rfl (Nat.le_of_ble_eq_true rfl) (Nat.le_of_ble_eq_true rfl) ?_
    refine wp_ifne_b 64 dX10_goesFor_27 rfl rfl (fun c27 => ?_) (fun c27 => ?_)
    · refine wp_aload_0 dX10_goesFor_64 rfl ?_
      refine wp_aload_0 dX10_goesFor_65 rfl ?_
      refine wp_getf dX10_goesFor_66 rfl q1862 fk10_31 (mg_0 hm) rfl ?_
      rw [show S.1 31 = tPl t from hr.1]
      refine wp_iload_2 dX10_goesFor_69 rfl ?_
      refine wp_cvR dX10_goesFor_70 rfl q2210 mv_X10_stepsOf (mg_0 hm) rfl rfl (m_stepsOf hm (by rw [hw]; exact h0)) rfl rfl (Nat.le_of_ble_eq_true rfl) (Nat.le_of_ble_eq_true rfl) ?_
      refine wp_aload_0 dX10_goesFor_73 rfl ?_
      refine wp_aload_0 dX10_goesFor_74 rfl ?_
      refine wp_getf dX10_goesFor_75 rfl q1862 fk10_31 (mg_0 hm) rfl ?_
      rw [show S.1 31 = tPl t from hr.1]
      refine wp_iload_3 dX10_goesFor_78 rfl ?_
      refine wp_cvR dX10_goesFor_79 rfl q2210 mv_X10_stepsOf (mg_0 hm) rfl rfl (m_stepsOf hm (by rw [hw]; exact h0)) rfl rfl (Nat.le_of_ble_eq_true rfl) (Nat.le_of_ble_eq_true rfl) ?_
      refine wp_icmp_gt 89 dX10_goesFor_82 rfl rfl (fun c82 => ?_) (fun c82 => ?_)
      · rw [hw] at c82
        have hst : ¬ stW Wd (tPl t) (gH G.2 i) ≤ stW Wd (tPl t) (gO G.2 i) := Int32.not_le.mpr c82
        refine wp_iconst 0 dX10_goesFor_89 rfl rfl ?_
        refine wp_istore_4 dX10_goesFor_90 rfl (by decide) rfl ?_
        refine wp_aload_0 dX10_goesFor_92 rfl ?_
        refine wp_iload_1 dX10_goesFor_93 rfl ?_
        refine wp_iload_4 dX10_goesFor_94 rfl ?_
        refine wp_if_eq 103 dX10_goesFor_96 rfl rfl (fun c96 => ?_) (fun c96 => ?_)
        · refine wp_iload_3 dX10_goesFor_103 rfl ?_
          refine wp_cvEi dX10_goesFor_104 rfl q2255 mv_X10_goes (mg_0 hm) rfl rfl (m_goes hm hg hp hkn hpp hw h0 hr hi (by omega)) rfl rfl (Nat.le_of_ble_eq_true rfl) (Nat.le_of_ble_eq_true rfl) (fun h1 hq => ?_)
          obtain ⟨S1, rfl, hk1, hr1⟩ := hq
          have hg1 := hk1.gs (by decide) (by decide) hg
          have hp1 := hk1.ps (by decide) hp
          have hw1 := (hk1.wd (by decide)).trans hw
          refine wp_ifeq_b 126 dX10_goesFor_107 rfl rfl (fun c107 => ?_) (fun c107 => ?_)
          · exact wp_return dX10_goesFor_126 rfl ⟨rfl, S1, rfl, hk1, (by first | (exfalso; rw [c19] at c35; exact absurd c35 (by decide)) | (simpa [gfR, *] using hr1) | (rw [goR, if_neg (by simp [*])] at hr1; simpa [gfR, *] using hr1))⟩
          · refine wp_aload_0 dX10_goesFor_110 rfl ?_
            refine wp_iload_1 dX10_goesFor_111 rfl ?_
            refine wp_iload_4 dX10_goesFor_112 rfl ?_
            refine wp_if_eq 121 dX10_goesFor_114 rfl rfl (fun c114 => ?_) (fun c114 => ?_)
            · refine wp_iload_2 dX10_goesFor_121 rfl ?_
              refine wp_cvEi dX10_goesFor_122 rfl q2255 mv_X10_goes (mg_0 hm) rfl rfl (m_goes hm hg1 hp1 hkn hpp hw1 h0 hr1 hi (by first | (have := goR_st Wd G.2 P i (gH G.2 i) t; omega) | (have := goR_st Wd G.2 P i (gO G.2 i) t; omega))) rfl rfl (Nat.le_of_ble_eq_true rfl) (Nat.le_of_ble_eq_true rfl) (fun h1 hq => ?_)
              obtain ⟨S2, rfl, hk2, hr2⟩ := hq
              refine wp_pop dX10_goesFor_125 rfl rfl ?_
              exact wp_return dX10_goesFor_126 rfl ⟨rfl, S2, rfl, (hk1.tr hk2).sub (by decide) (by decide), (by first | (exfalso; rw [c19] at c35; exact absurd c35 (by decide)) | (exfalso; rw [c27] at c53; exact absurd c53 (by decide)) | (simpa [gfR, *] using hr2))⟩
            · exact absurd (by decide) c114
        · exact absurd (by decide) c96
      · rw [hw] at c82
        have hst : stW Wd (tPl t) (gH G.2 i) ≤ stW Wd (tPl t) (gO G.2 i) := Int32.not_lt.mp c82
        refine wp_iconst 1 dX10_goesFor_85 rfl rfl ?_
        refine wp_goto 90 dX10_goesFor_86 rfl rfl ?_
        refine wp_istore_4 dX10_goesFor_90 rfl (by decide) rfl ?_
        refine wp_aload_0 dX10_goesFor_92 rfl ?_
        refine wp_iload_1 dX10_goesFor_93 rfl ?_
        refine wp_iload_4 dX10_goesFor_94 rfl ?_
        refine wp_if_eq 103 dX10_goesFor_96 rfl rfl (fun c96 => ?_) (fun c96 => ?_)
        · exact absurd c96 (by decide)
        · refine wp_iload_2 dX10_goesFor_99 rfl ?_
          refine wp_goto 104 dX10_goesFor_100 rfl rfl ?_
          refine wp_cvEi dX10_goesFor_104 rfl q2255 mv_X10_goes (mg_0 hm) rfl rfl (m_goes hm hg hp hkn hpp hw h0 hr hi (by omega)) rfl rfl (Nat.le_of_ble_eq_true rfl) (Nat.le_of_ble_eq_true rfl) (fun h1 hq => ?_)
          obtain ⟨S1, rfl, hk1, hr1⟩ := hq
          have hg1 := hk1.gs (by decide) (by decide) hg
          have hp1 := hk1.ps (by decide) hp
          have hw1 := (hk1.wd (by decide)).trans hw
          refine wp_ifeq_b 126 dX10_goesFor_107 rfl rfl (fun c107 => ?_) (fun c107 => ?_)
          · exact wp_return dX10_goesFor_126 rfl ⟨rfl, S1, rfl, hk1, (by first | (exfalso; rw [c19] at c35; exact absurd c35 (by decide)) | (simpa [gfR, *] using hr1) | (rw [goR, if_neg (by simp [*])] at hr1; simpa [gfR, *] using hr1))⟩
          · refine wp_aload_0 dX10_goesFor_110 rfl ?_
            refine wp_iload_1 dX10_goesFor_111 rfl ?_
            refine wp_iload_4 dX10_goesFor_112 rfl ?_
            refine wp_if_eq 121 dX10_goesFor_114 rfl rfl (fun c114 => ?_) (fun c114 => ?_)
            · exact absurd c114 (by decide)
            · refine wp_iload_3 dX10_goesFor_117 rfl ?_
              refine wp_goto 122 dX10_goesFor_118 rfl rfl ?_
              refine wp_cvEi dX10_goesFor_122 rfl q2255 mv_X10_goes (mg_0 hm) rfl rfl (m_goes hm hg1 hp1 hkn hpp hw1 h0 hr1 hi (by first | (have := goR_st Wd G.2 P i (gH G.2 i) t; omega) | (have := goR_st Wd G.2 P i (gO G.2 i) t; omega))) rfl rfl (Nat.le_of_ble_eq_true rfl) (Nat.le_of_ble_eq_true rfl) (fun h1 hq => ?_)
              obtain ⟨S2, rfl, hk2, hr2⟩ := hq
              refine wp_pop dX10_goesFor_125 rfl rfl ?_
              exact wp_return dX10_goesFor_126 rfl ⟨rfl, S2, rfl, (hk1.tr hk2).sub (by decide) (by decide), (by first | (exfalso; rw [c19] at c35; exact absurd c35 (by decide)) | (exfalso; rw [c27] at c53; exact absurd c53 (by decide)) | (simpa [gfR, *] using hr2))⟩
    · refine wp_aload_0 dX10_goesFor_30 rfl ?_
      refine wp_iload_2 dX10_goesFor_31 rfl ?_
      refine wp_cvR dX10_goesFor_32 rfl q2251 mv_X10_isHis (mg_0 hm) rfl rfl (m_isHis hm hp) rfl rfl (Nat.le_of_ble_eq_true rfl) (Nat.le_of_ble_eq_true rfl) ?_
      refine wp_ifeq_b 48 dX10_goesFor_35 rfl rfl (fun c35 => ?_) (fun c35 => ?_)
      · refine wp_aload_0 dX10_goesFor_48 rfl ?_
        refine wp_iload_3 dX10_goesFor_49 rfl ?_
        refine wp_cvR dX10_goesFor_50 rfl q2251 mv_X10_isHis (mg_0 hm) rfl rfl (m_isHis hm hp) rfl rfl (Nat.le_of_ble_eq_true rfl) (Nat.le_of_ble_eq_true rfl) ?_
        refine wp_ifeq_b 63 dX10_goesFor_53 rfl rfl (fun c53 => ?_) (fun c53 => ?_)
        · exact wp_return dX10_goesFor_63 rfl ⟨rfl, S, rfl, KX.rf _ _ S, (by first | (exfalso; rw [c19] at c35; exact absurd c35 (by decide)) | (exfalso; rw [c27] at c53; exact absurd c53 (by decide)) | (simpa [gfR, *] using hr))⟩
        · refine wp_aload_0 dX10_goesFor_56 rfl ?_
          refine wp_iload_1 dX10_goesFor_57 rfl ?_
          refine wp_iload_3 dX10_goesFor_58 rfl ?_
          refine wp_cvEi dX10_goesFor_59 rfl q2255 mv_X10_goes (mg_0 hm) rfl rfl (m_goes hm hg hp hkn hpp hw h0 hr hi (by omega)) rfl rfl (Nat.le_of_ble_eq_true rfl) (Nat.le_of_ble_eq_true rfl) (fun h1 hq => ?_)
          obtain ⟨S1, rfl, hk1, hr1⟩ := hq
          refine wp_pop dX10_goesFor_62 rfl rfl ?_
          exact wp_return dX10_goesFor_63 rfl ⟨rfl, S1, rfl, hk1, (by first | (exfalso; rw [c19] at c35; exact absurd c35 (by decide)) | (simpa [gfR, *] using hr1) | (rw [goR, if_neg (by simp [*])] at hr1; simpa [gfR, *] using hr1))⟩
      · refine wp_aload_0 dX10_goesFor_38 rfl ?_
        refine wp_iload_1 dX10_goesFor_39 rfl ?_
        refine wp_iload_2 dX10_goesFor_40 rfl ?_
        refine wp_cvEi dX10_goesFor_41 rfl q2255 mv_X10_goes (mg_0 hm) rfl rfl (m_goes hm hg hp hkn hpp hw h0 hr hi (by omega)) rfl rfl (Nat.le_of_ble_eq_true rfl) (Nat.le_of_ble_eq_true rfl) (fun h1 hq => ?_)
        obtain ⟨S1, rfl, hk1, hr1⟩ := hq
        refine wp_pop dX10_goesFor_44 rfl rfl ?_
        refine wp_goto 63 dX10_goesFor_45 rfl rfl ?_
        exact wp_return dX10_goesFor_63 rfl ⟨rfl, S1, rfl, hk1, (by first | (exfalso; rw [c19] at c35; exact absurd c35 (by decide)) | (simpa [gfR, *] using hr1) | (rw [goR, if_neg (by simp [*])] at hr1; simpa [gfR, *] using hr1))⟩
theorem mL_run {g : GW} {M : Nat} {pre post : AH} (hm : pre.length = M) {G : GA} {P : RP} {Wd : Nat → Int32} (hkn : P.1.2 ≤ 9) (hpp : P.1.1 < 4) (h0 : ¬ Wd 0 = 0) {c n : Nat} {Q : Option Value → AH → Prop} : ∀ (k i : Nat) (S : SM) (t : RT), i + k = G.1 → GS S G → PS S P → wd S = Wd → RS S t i → tSt t ≤ 2 * i → (∀ S' t', KX [29, 30, 31, 32, 33] [10, 11, 12, 13] S S' → RS S' t' G.1 → t' = itr (ruF Wd G.2 P) k i t → Q none (mH M pre S' post)) → WP g 5 yX10_run cX10_run 2 none 30 [some (.ref M), some (.int (nI i))] [] (mH M pre S post) c n Q := by
  intro k
  induction k with
  | zero =>
    intro i S t hi0 hg hp hw hr h2 hq
    refine wp_iload_1 dX10_run_30 rfl ?_
    refine wp_aload_0 dX10_run_31 rfl ?_
    refine wp_getf dX10_run_32 rfl q1849 fk10_18 (mg_0 hm) rfl ?_
    refine wp_icmp_ge 79 dX10_run_35 rfl rfl (fun c35 => ?_) (fun c35 => ?_)
    · exact wp_return dX10_run_79 rfl (hq S t (KX.rf _ _ S) (by rw [show i = G.1 by omega] at hr; exact hr) rfl)
    · exact absurd (show S.1 18 ≤ nI i by rw [hg.1]; exact nI_le (by omega) (by have := hg.2.1; omega)) c35
  | succ k ih =>
    intro i S t hi0 hg hp hw hr h2 hq
    refine wp_iload_1 dX10_run_30 rfl ?_
    refine wp_aload_0 dX10_run_31 rfl ?_
    refine wp_getf dX10_run_32 rfl q1849 fk10_18 (mg_0 hm) rfl ?_
    refine wp_icmp_ge 79 dX10_run_35 rfl rfl (fun c35 => ?_) (fun c35 => ?_)
    · exact absurd c35 (show ¬ (S.1 18 ≤ nI i) by rw [hg.1]; exact nI_ge (by omega) (by have := hg.2.1; omega))
    · have hi : i < G.1 := by omega
      have hi60 : i < 60 := Nat.lt_of_lt_of_le hi hg.2.1
      have hk0 := rsS_KX i S
      have hg1 : GS (rsS i S) G := hk0.gs (by decide) (by decide) hg
      have hp1 : PS (rsS i S) P := hk0.ps (by decide) hp
      refine wp_aload_0 dX10_run_38 rfl ?_
      refine wp_getf dX10_run_39 rfl q1856 fk10_25 (mg_0 hm) rfl ?_
      refine wp_iload_1 dX10_run_42 rfl ?_
      refine wp_iconst 0 dX10_run_43 rfl rfl ?_
      refine wp_iastoren i dX10_run_44 rfl (mg_10 hm) rfl hi60 (by decide) (ms_A10 hm) ?_
      refine wp_aload_0 dX10_run_45 rfl ?_
      refine wp_getf dX10_run_46 rfl q1857 fk10_26 (mg_0 hm) rfl ?_
      refine wp_iload_1 dX10_run_49 rfl ?_
      refine wp_iconst (-1) dX10_run_50 rfl rfl ?_
      refine wp_iastoren i dX10_run_51 rfl (mg_11 hm) rfl hi60 (by decide) (ms_A11 hm) ?_
      refine wp_aload_0 dX10_run_52 rfl ?_
      refine wp_iload_1 dX10_run_53 rfl ?_
      refine wp_iconst 2 dX10_run_54 rfl rfl ?_
      refine wp_cvR dX10_run_55 rfl q2182 mv_X10_inGame (mg_0 hm) rfl rfl (m_inGame (w := 2) hm hi60 (by omega)) rfl rfl (Nat.le_of_ble_eq_true rfl) (Nat.le_of_ble_eq_true rfl) ?_
      refine WP.casts [.int (gR G.2 i)] (congrArg (fun x => [Value.int x]) (hg1.at (w := 2) hi (by omega)).symm) ?_
      refine wp_if_eq 68 dX10_run_58 rfl rfl (fun c58 => ?_) (fun c58 => ?_)
      · refine wp_aload_0 dX10_run_68 rfl ?_
        refine wp_iload_1 dX10_run_69 rfl ?_
        refine wp_cvE dX10_run_70 rfl q2247 mv_X10_goesFor (mg_0 hm) rfl rfl (m_goesFor hm hg1 hp1 hkn hpp hw h0 (rsS_RS hr) hi (by show tSt t + 2 ≤ 120; omega)) rfl rfl (Nat.le_of_ble_eq_true rfl) (Nat.le_of_ble_eq_true rfl) (fun h1 hq => ?_)
        obtain ⟨S1, rfl, hk1, hr1⟩ := hq
        refine wp_iinc_1 1 dX10_run_73 rfl rfl (by decide) rfl ?_
        refine wp_goto 30 dX10_run_76 rfl rfl ?_
        exact WP.cast (by rw [nI_1]) (ih (i + 1) S1 (ruF Wd G.2 P i t) (by omega) (hk1.gs (by decide) (by decide) hg1) (hk1.ps (by decide) hp1) ((hk1.wd (by decide)).trans hw) (by rw [ruF, if_pos (by first | exact Or.inl c58 | exact Or.inr c65)]; exact hr1) (ruF_st Wd G.2 P i t h2) (fun S2 t2 k2 r2 e2 => hq S2 t2 (((hk0.tr hk1).tr k2).sub (by decide) (by decide)) r2 e2))
      · refine wp_aload_0 dX10_run_61 rfl ?_
        refine wp_getf dX10_run_62 rfl q1855 fk10_24 (mg_0 hm) rfl ?_
        refine WP.casts [.int P.2.2.2.2] (congrArg (fun x => [Value.int x]) hp.2.2.2.2.2.symm) ?_
        refine wp_if_eq 73 dX10_run_65 rfl rfl (fun c65 => ?_) (fun c65 => ?_)
        · refine wp_iinc_1 1 dX10_run_73 rfl rfl (by decide) rfl ?_
          refine wp_goto 30 dX10_run_76 rfl rfl ?_
          exact WP.cast (by rw [nI_1]) (ih (i + 1) (rsS i S) (ruF Wd G.2 P i t) (by omega) hg1 hp1 hw (by rw [ruF, if_neg (by simp [c58, c65])]; exact rsS_RS hr) (ruF_st Wd G.2 P i t h2) (fun S2 t2 k2 r2 e2 => hq S2 t2 ((hk0.tr k2).sub (by decide) (by decide)) r2 e2))
        · refine wp_aload_0 dX10_run_68 rfl ?_
          refine wp_iload_1 dX10_run_69 rfl ?_
          refine wp_cvE dX10_run_70 rfl q2247 mv_X10_goesFor (mg_0 hm) rfl rfl (m_goesFor hm hg1 hp1 hkn hpp hw h0 (rsS_RS hr) hi (by show tSt t + 2 ≤ 120; omega)) rfl rfl (Nat.le_of_ble_eq_true rfl) (Nat.le_of_ble_eq_true rfl) (fun h1 hq => ?_)
          obtain ⟨S1, rfl, hk1, hr1⟩ := hq
          refine wp_iinc_1 1 dX10_run_73 rfl rfl (by decide) rfl ?_
          refine wp_goto 30 dX10_run_76 rfl rfl ?_
          exact WP.cast (by rw [nI_1]) (ih (i + 1) S1 (ruF Wd G.2 P i t) (by omega) (hk1.gs (by decide) (by decide) hg1) (hk1.ps (by decide) hp1) ((hk1.wd (by decide)).trans hw) (by rw [ruF, if_pos (by first | exact Or.inl c58 | exact Or.inr c65)]; exact hr1) (ruF_st Wd G.2 P i t h2) (fun S2 t2 k2 r2 e2 => hq S2 t2 (((hk0.tr hk1).tr k2).sub (by decide) (by decide)) r2 e2))
theorem m_run {g : GW} {M : Nat} {pre post : AH} {S : SM} (hm : pre.length = M) {G : GA} {P : RP} {Wd : Nat → Int32} (hg : GS S G) (hp : PS S P) (hkn : P.1.2 ≤ 9) (hpp : P.1.1 < 4) (hw : wd S = Wd) (h0 : ¬ Wd 0 = 0) : SP g 5 0 0 yX10_run cX10_run 2 none [.ref M] (mH M pre S post) (fun v h1 => v = none ∧ ∃ S', h1 = mH M pre S' post ∧ KX [29, 30, 31, 32, 33] [10, 11, 12, 13] S S' ∧ RS S' (ruW Wd G P) G.1) := by
  refine SP.intro [some (.ref M), none] (pfn (by decide)) rfl (Nat.le_of_ble_eq_true rfl) ?_
  refine wp_aload_0 dX10_run_0 rfl ?_
  refine wp_iconst 0 dX10_run_1 rfl rfl ?_
  refine wp_putf dX10_run_2 rfl q1860 fp10_29 (mg_0 hm) rfl rfl (Nat.le_of_ble_eq_true rfl) (ms_F29 hm) ?_
  refine wp_aload_0 dX10_run_5 rfl ?_
  refine wp_iconst 0 dX10_run_6 rfl rfl ?_
  refine wp_putf dX10_run_7 rfl q1861 fp10_30 (mg_0 hm) rfl rfl (Nat.le_of_ble_eq_true rfl) (ms_F30 hm) ?_
  refine wp_aload_0 dX10_run_10 rfl ?_
  refine wp_iconst 0 dX10_run_11 rfl rfl ?_
  refine wp_putf dX10_run_12 rfl q1864 fp10_33 (mg_0 hm) rfl rfl (Nat.le_of_ble_eq_true rfl) (ms_F33 hm) ?_
  refine wp_aload_0 dX10_run_15 rfl ?_
  refine wp_iconst 0 dX10_run_16 rfl rfl ?_
  refine wp_putf dX10_run_17 rfl q1863 fp10_32 (mg_0 hm) rfl rfl (Nat.le_of_ble_eq_true rfl) (ms_F32 hm) ?_
  refine wp_aload_0 dX10_run_20 rfl ?_
  refine wp_aload_0 dX10_run_21 rfl ?_
  refine wp_getf dX10_run_22 rfl q1853 fk10_22 (mg_0 hm) rfl ?_
  refine WP.casts [.int P.2.2.1, .ref M] (congrArg (fun x => [Value.int x, .ref M]) hp.2.2.2.1.symm) ?_
  refine wp_putf dX10_run_25 rfl q1862 fp10_31 (mg_0 hm) rfl rfl (Nat.le_of_ble_eq_true rfl) (ms_F31 hm) ?_
  refine wp_iconst 0 dX10_run_28 rfl rfl ?_
  refine wp_istore_1 dX10_run_29 rfl (by decide) rfl ?_
  have hk0 := ruS_KX P.2.2.1 S
  exact mL_run hm hkn hpp h0 G.1 0 (ruS P.2.2.1 S) (ru0 P) (Nat.zero_add _) (hk0.gs (by decide) (by decide) hg) (hk0.ps (by decide) hp) hw (ruS_RS P S) (Nat.zero_le _) (fun S2 t2 k2 r2 e2 => ⟨rfl, S2, rfl, (hk0.tr k2).sub (by decide) (by decide), by rw [e2] at r2; exact r2⟩)
