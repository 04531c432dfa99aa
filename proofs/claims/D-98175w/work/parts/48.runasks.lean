/-! ===== the reference: questions about runs ===== -/
set_option maxRecDepth 100000
theorem m_runAsTold {g : GW} {M : Nat} {pre post : AH} {S : SM} (hm : pre.length = M) {p : Nat} (hp : p < nW (wd S) 6) (hs : WFs (wd S)) (hpl : WFp (wd S)) : SP g 6 0 0 yX10_runAsTold cX10_runAsTold 2 none [.ref M, .int (nI p)] (mH M pre S post) (fun v h1 => v = none ∧ ∃ S', h1 = mH M pre S' post ∧ KX [18, 19, 20, 21, 22, 23, 24, 29, 30, 31, 32, 33] [7, 8, 9, 10, 11, 12, 13] S S' ∧ GS S' (dgW (wd S)) ∧ PS S' (tpW (wd S) p) ∧ RS S' (ruD (wd S) p) (dgM (wd S))) := by
  refine SP.intro [some (.ref M), some (.int (nI p))] (pfn (by decide)) rfl (Nat.le_of_ble_eq_true rfl) ?_
  have hp4 : p < 4 := Nat.lt_of_lt_of_le hp hs.np.2
  have h0 : ¬ wd S 0 = 0 := hpl.w0 hs hp
  have hkn : nW (wd S) (96 + 5 * p + 3) ≤ 9 := (hpl p hp).2.2.2.1.2
  have hps := atS_PS (hpl p hp).2.2.2.1.1
  refine wp_aload_0 dX10_runAsTold_0 rfl ?_
  refine wp_cvE dX10_runAsTold_1 rfl q2158 mv_X10_lay (mg_0 hm) rfl rfl (m_lay hm hs) rfl rfl (Nat.le_of_ble_eq_true rfl) (Nat.le_of_ble_eq_true rfl) (fun h1 hq => ?_)
  obtain ⟨S1, rfl, hk1, hg1⟩ := hq
  have hkx : KX [18] [7, 8, 9] S S1 := ⟨fun k q => hk1.1 k (by simpa using q), fun j q => by simp only [List.mem_cons, List.not_mem_nil, or_false, not_or] at q; exact hk1.2.1 j q.1 q.2.1 q.2.2, hk1.2.2⟩
  have hw1 := hk1.wd
  refine wp_aload_0 dX10_runAsTold_4 rfl ?_
  refine wp_iload_1 dX10_runAsTold_5 rfl ?_
  refine wp_cv0 dX10_runAsTold_6 rfl q2227 mv_X10_asTold (mg_0 hm) rfl rfl (m_asTold hm hp4) rfl rfl (Nat.le_of_ble_eq_true rfl) (Nat.le_of_ble_eq_true rfl) ?_
  refine wp_aload_0 dX10_runAsTold_9 rfl ?_
  refine wp_cvE dX10_runAsTold_10 rfl q2243 mv_X10_run (mg_0 hm) rfl rfl (m_run hm ((atS_KX p S1).gs (by decide) (by decide) hg1) (P := tpW (wd S1) p) (atS_PS (by rw [hw1]; exact (hpl p hp).2.2.2.1.1)) (by rw [hw1]; exact hkn) hp4 rfl (by show ¬ wd S1 0 = 0; rw [hw1]; exact h0)) rfl rfl (Nat.le_of_ble_eq_true rfl) (Nat.le_of_ble_eq_true rfl) (fun h1 hq => ?_)
  obtain ⟨S2, rfl, hk2, hr2⟩ := hq
  exact wp_return dX10_runAsTold_13 rfl ⟨rfl, S2, rfl, ((hkx.tr (atS_KX p S1)).tr hk2).sub (by decide) (by decide), hk2.gs (by decide) (by decide) ((atS_KX p S1).gs (by decide) (by decide) hg1), hk2.ps (by decide) (hw1 ▸ atS_PS (by rw [hw1]; exact (hpl p hp).2.2.2.1.1)), by have e : wd (atS p S1) = wd S := hw1; rw [e, hw1] at hr2; exact hr2⟩
theorem q_m_hits {g : GW} {M : Nat} {pre post : AH} {S : SM} (hm : pre.length = M) {x : Int32} (hs : WFs (wd S)) (hpl : WFp (wd S)) : SP g 7 0 0 yX10_hits cX10_hits 2 (some .int) [.ref M, .int x] (mH M pre S post) (QM M pre post S (.int (qhits (wd S) x))) := by
  refine SP.intro [some (.ref M), some (.int x)] (pfn (by decide)) rfl (Nat.le_of_ble_eq_true rfl) ?_
  refine wp_aload_0 dX10_hits_0 rfl ?_
  refine wp_iload_1 dX10_hits_1 rfl ?_
  refine wp_cvR dX10_hits_2 rfl q2129 mv_X10_isPlayer (mg_0 hm) rfl rfl (m_isPlayer hm) rfl rfl (Nat.le_of_ble_eq_true rfl) (Nat.le_of_ble_eq_true rfl) ?_
  refine wp_ifne_b 11 dX10_hits_5 rfl rfl (fun c5 => ?_) (fun c5 => ?_)
  · obtain ⟨p, hp, rfl⟩ := plW_of hs c5
    refine wp_aload_0 dX10_hits_11 rfl ?_
    refine wp_iload_1 dX10_hits_12 rfl ?_
    refine wp_cvE dX10_hits_13 rfl q2239 mv_X10_runAsTold (mg_0 hm) rfl rfl (m_runAsTold hm hp hs hpl) rfl rfl (Nat.le_of_ble_eq_true rfl) (Nat.le_of_ble_eq_true rfl) (fun h1 hq => ?_)
    obtain ⟨S1, rfl, hk1, hg1, hp1, hr1⟩ := hq
    refine wp_aload_0 dX10_hits_16 rfl ?_
    refine wp_getf dX10_hits_17 rfl q1860 fk10_29 (mg_0 hm) rfl ?_
    exact wp_ireturn dX10_hits_20 rfl ⟨by rw [qhits, if_pos c5, nI_clamp (show p < 2147483648 by have := hs.np.2; omega), hr1.2.2.1], S1, rfl, (hk1.KP (by decide) (by decide))⟩
  · refine wp_bipush (-2) dX10_hits_8 rfl rfl ?_
    exact wp_ireturn dX10_hits_10 rfl ⟨by simp [qhits, *], S, rfl, KP.rf S⟩
theorem q_m_walked {g : GW} {M : Nat} {pre post : AH} {S : SM} (hm : pre.length = M) {x : Int32} (hs : WFs (wd S)) (hpl : WFp (wd S)) : SP g 7 0 0 yX10_walked cX10_walked 2 (some .int) [.ref M, .int x] (mH M pre S post) (QM M pre post S (.int (qwalked (wd S) x))) := by
  refine SP.intro [some (.ref M), some (.int x)] (pfn (by decide)) rfl (Nat.le_of_ble_eq_true rfl) ?_
  refine wp_aload_0 dX10_walked_0 rfl ?_
  refine wp_iload_1 dX10_walked_1 rfl ?_
  refine wp_cvR dX10_walked_2 rfl q2129 mv_X10_isPlayer (mg_0 hm) rfl rfl (m_isPlayer hm) rfl rfl (Nat.le_of_ble_eq_true rfl) (Nat.le_of_ble_eq_true rfl) ?_
  refine wp_ifne_b 11 dX10_walked_5 rfl rfl (fun c5 => ?_) (fun c5 => ?_)
  · obtain ⟨p, hp, rfl⟩ := plW_of hs c5
    refine wp_aload_0 dX10_walked_11 rfl ?_
    refine wp_iload_1 dX10_walked_12 rfl ?_
    refine wp_cvE dX10_walked_13 rfl q2239 mv_X10_runAsTold (mg_0 hm) rfl rfl (m_runAsTold hm hp hs hpl) rfl rfl (Nat.le_of_ble_eq_true rfl) (Nat.le_of_ble_eq_true rfl) (fun h1 hq => ?_)
    obtain ⟨S1, rfl, hk1, hg1, hp1, hr1⟩ := hq
    refine wp_aload_0 dX10_walked_16 rfl ?_
    refine wp_getf dX10_walked_17 rfl q1864 fk10_33 (mg_0 hm) rfl ?_
    exact wp_ireturn dX10_walked_20 rfl ⟨by rw [qwalked, if_pos c5, nI_clamp (show p < 2147483648 by have := hs.np.2; omega), hr1.2.2.2.2.1], S1, rfl, (hk1.KP (by decide) (by decide))⟩
  · refine wp_bipush (-2) dX10_walked_8 rfl rfl ?_
    exact wp_ireturn dX10_walked_10 rfl ⟨by simp [qwalked, *], S, rfl, KP.rf S⟩
theorem q_m_hit {g : GW} {M : Nat} {pre post : AH} {S : SM} (hm : pre.length = M) {x z : Int32} (hs : WFs (wd S)) (hpl : WFp (wd S)) : SP g 7 0 0 yX10_hit cX10_hit 3 (some .int) [.ref M, .int x, .int z] (mH M pre S post) (QM M pre post S (.int (qhit (wd S) x z))) := by
  refine SP.intro [some (.ref M), some (.int x), some (.int z)] (pfn (by decide)) rfl (Nat.le_of_ble_eq_true rfl) ?_
  refine wp_aload_0 dX10_hit_0 rfl ?_
  refine wp_iload_1 dX10_hit_1 rfl ?_
  refine wp_cvR dX10_hit_2 rfl q2129 mv_X10_isPlayer (mg_0 hm) rfl rfl (m_isPlayer hm) rfl rfl (Nat.le_of_ble_eq_true rfl) (Nat.le_of_ble_eq_true rfl) ?_
  refine wp_ifne_b 11 dX10_hit_5 rfl rfl (fun c5 => ?_) (fun c5 => ?_)
  · obtain ⟨p, hp, rfl⟩ := plW_of hs c5
    refine wp_aload_0 dX10_hit_11 rfl ?_
    refine wp_iload_1 dX10_hit_12 rfl ?_
    refine wp_cvE dX10_hit_13 rfl q2239 mv_X10_runAsTold (mg_0 hm) rfl rfl (m_runAsTold hm hp hs hpl) rfl rfl (Nat.le_of_ble_eq_true rfl) (Nat.le_of_ble_eq_true rfl) (fun h1 hq => ?_)
    obtain ⟨S1, rfl, hk1, hg1, hp1, hr1⟩ := hq
    refine wp_aload_0 dX10_hit_16 rfl ?_
    refine wp_iload_2 dX10_hit_17 rfl ?_
    refine wp_cvR dX10_hit_18 rfl q2178 mv_X10_isInGame (mg_0 hm) rfl rfl (m_isInGame hm) rfl rfl (Nat.le_of_ble_eq_true rfl) (Nat.le_of_ble_eq_true rfl) ?_
    refine wp_ifeq_b 33 dX10_hit_21 rfl rfl (fun c21 => ?_) (fun c21 => ?_)
    · have c21 : inI z 0 (nI (dgM (wd S)) - 1) = false := by rw [← show S1.1 18 = nI (dgM (wd S)) from hg1.1]; exact c21
      refine wp_iconst (-1) dX10_hit_33 rfl rfl ?_
      exact wp_ireturn dX10_hit_34 rfl ⟨by rw [qhit, if_pos c5, if_neg (by rw [c21]; decide)], S1, rfl, (hk1.KP (by decide) (by decide))⟩
    · obtain ⟨i, hi, rfl⟩ := hg1.in c21
      have hi60 : i < 60 := Nat.lt_of_lt_of_le hi hg1.2.1
      have c21 : inI (nI i) 0 (nI (dgM (wd S)) - 1) = true := by rw [← show S1.1 18 = nI (dgM (wd S)) from hg1.1]; exact c21
      refine wp_aload_0 dX10_hit_24 rfl ?_
      refine wp_getf dX10_hit_25 rfl q1857 fk10_26 (mg_0 hm) rfl ?_
      refine wp_iload_2 dX10_hit_28 rfl ?_
      refine wp_ialoadn i dX10_hit_29 rfl (mg_11 hm) rfl hi60 (by decide) ?_
      refine wp_goto 34 dX10_hit_30 rfl rfl ?_
      exact wp_ireturn dX10_hit_34 rfl ⟨by rw [qhit, if_pos c5, if_pos c21, nI_clamp (show p < 2147483648 by have := hs.np.2; omega), nI_clamp (by omega), (hr1.2.2.2.2.2.1 i hi).2], S1, rfl, (hk1.KP (by decide) (by decide))⟩
  · refine wp_bipush (-2) dX10_hit_8 rfl rfl ?_
    exact wp_ireturn dX10_hit_10 rfl ⟨by simp [qhit, *], S, rfl, KP.rf S⟩
theorem q_m_twice {g : GW} {M : Nat} {pre post : AH} {S : SM} (hm : pre.length = M) {x z : Int32} (hs : WFs (wd S)) (hpl : WFp (wd S)) : SP g 7 0 0 yX10_twice cX10_twice 3 (some .int) [.ref M, .int x, .int z] (mH M pre S post) (QM M pre post S (.int (qtwice (wd S) x z))) := by
  refine SP.intro [some (.ref M), some (.int x), some (.int z)] (pfn (by decide)) rfl (Nat.le_of_ble_eq_true rfl) ?_
  refine wp_aload_0 dX10_twice_0 rfl ?_
  refine wp_iload_1 dX10_twice_1 rfl ?_
  refine wp_cvR dX10_twice_2 rfl q2129 mv_X10_isPlayer (mg_0 hm) rfl rfl (m_isPlayer hm) rfl rfl (Nat.le_of_ble_eq_true rfl) (Nat.le_of_ble_eq_true rfl) ?_
  refine wp_ifne_b 11 dX10_twice_5 rfl rfl (fun c5 => ?_) (fun c5 => ?_)
  · obtain ⟨p, hp, rfl⟩ := plW_of hs c5
    refine wp_aload_0 dX10_twice_11 rfl ?_
    refine wp_iload_1 dX10_twice_12 rfl ?_
    refine wp_cvE dX10_twice_13 rfl q2239 mv_X10_runAsTold (mg_0 hm) rfl rfl (m_runAsTold hm hp hs hpl) rfl rfl (Nat.le_of_ble_eq_true rfl) (Nat.le_of_ble_eq_true rfl) (fun h1 hq => ?_)
    obtain ⟨S1, rfl, hk1, hg1, hp1, hr1⟩ := hq
    refine wp_aload_0 dX10_twice_16 rfl ?_
    refine wp_iload_2 dX10_twice_17 rfl ?_
    refine wp_cvR dX10_twice_18 rfl q2178 mv_X10_isInGame (mg_0 hm) rfl rfl (m_isInGame hm) rfl rfl (Nat.le_of_ble_eq_true rfl) (Nat.le_of_ble_eq_true rfl) ?_
    refine wp_ifeq_b 33 dX10_twice_21 rfl rfl (fun c21 => ?_) (fun c21 => ?_)
    · have c21 : inI z 0 (nI (dgM (wd S)) - 1) = false := by rw [← show S1.1 18 = nI (dgM (wd S)) from hg1.1]; exact c21
      refine wp_iconst (-1) dX10_twice_33 rfl rfl ?_
      exact wp_ireturn dX10_twice_34 rfl ⟨by rw [qtwice, if_pos c5, if_neg (by rw [c21]; decide)], S1, rfl, (hk1.KP (by decide) (by decide))⟩
    · obtain ⟨i, hi, rfl⟩ := hg1.in c21
      have hi60 : i < 60 := Nat.lt_of_lt_of_le hi hg1.2.1
      have c21 : inI (nI i) 0 (nI (dgM (wd S)) - 1) = true := by rw [← show S1.1 18 = nI (dgM (wd S)) from hg1.1]; exact c21
      refine wp_aload_0 dX10_twice_24 rfl ?_
      refine wp_getf dX10_twice_25 rfl q1856 fk10_25 (mg_0 hm) rfl ?_
      refine wp_iload_2 dX10_twice_28 rfl ?_
      refine wp_ialoadn i dX10_twice_29 rfl (mg_10 hm) rfl hi60 (by decide) ?_
      refine wp_goto 34 dX10_twice_30 rfl rfl ?_
      exact wp_ireturn dX10_twice_34 rfl ⟨by rw [qtwice, if_pos c5, if_pos c21, nI_clamp (show p < 2147483648 by have := hs.np.2; omega), nI_clamp (by omega), (hr1.2.2.2.2.2.1 i hi).1], S1, rfl, (hk1.KP (by decide) (by decide))⟩
  · refine wp_bipush (-2) dX10_twice_8 rfl rfl ?_
    exact wp_ireturn dX10_twice_10 rfl ⟨by simp [qtwice, *], S, rfl, KP.rf S⟩
theorem mL_where {g : GW} {M : Nat} {pre post : AH} {S : SM} (hm : pre.length = M) {p z : Int32} {t : RT} {m : Nat} (hr : RS S t m) (h120 : tSt t ≤ 120) {c n : Nat} {Q : Option Value → AH → Prop} : ∀ (k : Nat) (i : Nat) (a : Int32), i + k = tSt t → Q (some (.int (itr (whF t z) k i a))) (mH M pre S post) → WP g 7 yX10_where cX10_where 5 (some .int) 33 [some (.ref M), some (.int p), some (.int z), some (.int a), some (.int (nI i))] [] (mH M pre S post) c n Q := by
  intro k
  induction k with
  | zero =>
    intro i a hi hq
    refine wp_iload_4 dX10_where_33 rfl ?_
    refine wp_aload_0 dX10_where_35 rfl ?_
    refine wp_getf dX10_where_36 rfl q1860 fk10_29 (mg_0 hm) rfl ?_
    refine wp_icmp_ge 71 dX10_where_39 rfl rfl (fun c39 => ?_) (fun c39 => ?_)
    · refine wp_iload_3 dX10_where_71 rfl ?_
      exact wp_ireturn dX10_where_72 rfl hq
    · exact absurd (show S.1 29 ≤ nI i by rw [hr.2.2.1]; exact nI_le (by omega) (by omega)) c39
  | succ k ih =>
    intro i a hi hq
    refine wp_iload_4 dX10_where_33 rfl ?_
    refine wp_aload_0 dX10_where_35 rfl ?_
    refine wp_getf dX10_where_36 rfl q1860 fk10_29 (mg_0 hm) rfl ?_
    refine wp_icmp_ge 71 dX10_where_39 rfl rfl (fun c39 => ?_) (fun c39 => ?_)
    · exact absurd c39 (show ¬ (S.1 29 ≤ nI i) by rw [hr.2.2.1]; exact nI_ge (by omega) (by omega))
    · obtain ⟨e1, e2⟩ := hr.2.2.2.2.2.2 i (by omega)
      refine wp_aload_0 dX10_where_42 rfl ?_
      refine wp_getf dX10_where_43 rfl q1858 fk10_27 (mg_0 hm) rfl ?_
      refine wp_iload_4 dX10_where_46 rfl ?_
      refine wp_ialoadn i dX10_where_48 rfl (mg_12 hm) rfl (by omega) (by decide) ?_
      refine wp_iload_2 dX10_where_49 rfl ?_
      refine wp_icmp_gt 63 dX10_where_50 rfl rfl (fun c50 => ?_) (fun c50 => ?_)
      · refine wp_iload_3 dX10_where_63 rfl ?_
        refine wp_istore_3 dX10_where_64 rfl (by decide) rfl ?_
        refine wp_iinc_4 1 dX10_where_65 rfl rfl (by decide) rfl ?_
        refine wp_goto 33 dX10_where_68 rfl rfl ?_
        rw [e1] at c50
        exact WP.cast (by simp [whF, e2, nI_1, c50]) (ih (i + 1) (whF t z i a) (by omega) hq)
      · refine wp_aload_0 dX10_where_53 rfl ?_
        refine wp_getf dX10_where_54 rfl q1859 fk10_28 (mg_0 hm) rfl ?_
        refine wp_iload_4 dX10_where_57 rfl ?_
        refine wp_ialoadn i dX10_where_59 rfl (mg_13 hm) rfl (by omega) (by decide) ?_
        refine wp_goto 64 dX10_where_60 rfl rfl ?_
        refine wp_istore_3 dX10_where_64 rfl (by decide) rfl ?_
        refine wp_iinc_4 1 dX10_where_65 rfl rfl (by decide) rfl ?_
        refine wp_goto 33 dX10_where_68 rfl rfl ?_
        rw [e1] at c50
        exact WP.cast (by simp [whF, e2, nI_1, c50]) (ih (i + 1) (whF t z i a) (by omega) hq)
theorem q_m_where {g : GW} {M : Nat} {pre post : AH} {S : SM} (hm : pre.length = M) {x z : Int32} (hs : WFs (wd S)) (hpl : WFp (wd S)) : SP g 7 0 0 yX10_where cX10_where 5 (some .int) [.ref M, .int x, .int z] (mH M pre S post) (QM M pre post S (.int (qwhere (wd S) x z))) := by
  refine SP.intro [some (.ref M), some (.int x), some (.int z), none, none] (pfn (by decide)) rfl (Nat.le_of_ble_eq_true rfl) ?_
  refine wp_aload_0 dX10_where_0 rfl ?_
  refine wp_iload_1 dX10_where_1 rfl ?_
  refine wp_cvR dX10_where_2 rfl q2129 mv_X10_isPlayer (mg_0 hm) rfl rfl (m_isPlayer hm) rfl rfl (Nat.le_of_ble_eq_true rfl) (Nat.le_of_ble_eq_true rfl) ?_
  refine wp_ifeq_b 17 dX10_where_5 rfl rfl (fun c5 => ?_) (fun c5 => ?_)
  · refine wp_bipush (-2) dX10_where_17 rfl rfl ?_
    exact wp_ireturn dX10_where_19 rfl ⟨by simp [qwhere, *], S, rfl, KP.rf S⟩
  · obtain ⟨p, hp, rfl⟩ := plW_of hs c5
    refine wp_aload_0 dX10_where_8 rfl ?_
    refine wp_iload_2 dX10_where_9 rfl ?_
    refine wp_i2l dX10_where_10 rfl ?_
    refine wp_cvR dX10_where_11 rfl q2142 mv_X10_isTick (mg_0 hm) rfl rfl (m_isTick hm) rfl rfl (Nat.le_of_ble_eq_true rfl) (Nat.le_of_ble_eq_true rfl) ?_
    refine wp_ifne_b 20 dX10_where_14 rfl rfl (fun c14 => ?_) (fun c14 => ?_)
    · refine wp_aload_0 dX10_where_20 rfl ?_
      refine wp_iload_1 dX10_where_21 rfl ?_
      refine wp_cvE dX10_where_22 rfl q2239 mv_X10_runAsTold (mg_0 hm) rfl rfl (m_runAsTold hm hp hs hpl) rfl rfl (Nat.le_of_ble_eq_true rfl) (Nat.le_of_ble_eq_true rfl) (fun h1 hq => ?_)
      obtain ⟨S1, rfl, hk1, hg1, hp1, hr1⟩ := hq
      refine wp_aload_0 dX10_where_25 rfl ?_
      refine wp_getf dX10_where_26 rfl q1853 fk10_22 (mg_0 hm) rfl ?_
      refine wp_istore_3 dX10_where_29 rfl (by decide) rfl ?_
      refine wp_iconst 0 dX10_where_30 rfl rfl ?_
      refine wp_istore_4 dX10_where_31 rfl (by decide) rfl ?_
      exact WP.cast (by rw [hp1.2.2.2.1]; rfl) (mL_where hm (p := nI p) (z := z) hr1 (stG_le (wd S) (tpW (wd S) p)) _ 0 (tpW (wd S) p).2.2.1 (Nat.zero_add _) ⟨by rw [qwhere, if_pos ⟨c5, c14⟩, nI_clamp (show p < 2147483648 by have := hs.np.2; omega)]; rfl, S1, rfl, (hk1.KP (by decide) (by decide))⟩)
    · refine wp_bipush (-2) dX10_where_17 rfl rfl ?_
      exact wp_ireturn dX10_where_19 rfl ⟨by simp [qwhere, *], S, rfl, KP.rf S⟩
theorem mL_missed {g : GW} {M : Nat} {pre post : AH} {S : SM} (hm : pre.length = M) {p : Int32} {G : GA} {t : RT} (hg : GS S G) (hr : RS S t G.1) {c n : Nat} {Q : Option Value → AH → Prop} : ∀ (k : Nat) (i : Nat), i + k = G.1 → Q (some (.int (onI (fstK (miP G.2 t) k i)))) (mH M pre S post) → WP g 7 yX10_missed cX10_missed 3 (some .int) 18 [some (.ref M), some (.int p), some (.int (nI i))] [] (mH M pre S post) c n Q := by
  intro k
  induction k with
  | zero =>
    intro i hi hq
    refine wp_iload_2 dX10_missed_18 rfl ?_
    refine wp_aload_0 dX10_missed_19 rfl ?_
    refine wp_getf dX10_missed_20 rfl q1849 fk10_18 (mg_0 hm) rfl ?_
    refine wp_icmp_ge 67 dX10_missed_23 rfl rfl (fun c23 => ?_) (fun c23 => ?_)
    · refine wp_iconst (-1) dX10_missed_67 rfl rfl ?_
      exact wp_ireturn dX10_missed_68 rfl hq
    · exact absurd (show S.1 18 ≤ nI i by rw [hg.1]; exact nI_le (by omega) (by have := hg.2.1; omega)) c23
  | succ k ih =>
    intro i hi hq
    refine wp_iload_2 dX10_missed_18 rfl ?_
    refine wp_aload_0 dX10_missed_19 rfl ?_
    refine wp_getf dX10_missed_20 rfl q1849 fk10_18 (mg_0 hm) rfl ?_
    refine wp_icmp_ge 67 dX10_missed_23 rfl rfl (fun c23 => ?_) (fun c23 => ?_)
    · exact absurd c23 (show ¬ (S.1 18 ≤ nI i) by rw [hg.1]; exact nI_ge (by omega) (by have := hg.2.1; omega))
    · have hi : i < G.1 := by omega
      have hi60 : i < 60 := Nat.lt_of_lt_of_le hi hg.2.1
      have er := hg.at (w := 2) hi (by omega)
      have eo := hg.at (w := 1) hi (by omega)
      have eh := (hr.2.2.2.2.2.1 i hi).1
      refine wp_aload_0 dX10_missed_26 rfl ?_
      refine wp_iload_2 dX10_missed_27 rfl ?_
      refine wp_iconst 2 dX10_missed_28 rfl rfl ?_
      refine wp_cvR dX10_missed_29 rfl q2182 mv_X10_inGame (mg_0 hm) rfl rfl (m_inGame (w := 2) hm hi60 (by omega)) rfl rfl (Nat.le_of_ble_eq_true rfl) (Nat.le_of_ble_eq_true rfl) ?_
      rw [er]
      refine wp_if_ne 61 dX10_missed_32 rfl rfl (fun c32 => ?_) (fun c32 => ?_)
      · refine wp_iinc_2 1 dX10_missed_61 rfl rfl (by decide) rfl ?_
        refine wp_goto 18 dX10_missed_64 rfl rfl ?_
        exact WP.cast (by rw [nI_1]) (ih (i + 1) (by omega) (by rw [fst_f (by simp only [gC] at *; simp [miP, ← Int32.not_le, *])] at hq; exact hq))
      · refine wp_aload_0 dX10_missed_35 rfl ?_
        refine wp_getf dX10_missed_36 rfl q1856 fk10_25 (mg_0 hm) rfl ?_
        refine wp_iload_2 dX10_missed_39 rfl ?_
        refine wp_ialoadn i dX10_missed_40 rfl (mg_10 hm) rfl hi60 (by decide) ?_
        rw [eh]
        refine wp_aload_0 dX10_missed_41 rfl ?_
        refine wp_iload_2 dX10_missed_42 rfl ?_
        refine wp_iconst 1 dX10_missed_43 rfl rfl ?_
        refine wp_cvR dX10_missed_44 rfl q2182 mv_X10_inGame (mg_0 hm) rfl rfl (m_inGame (w := 1) hm hi60 (by omega)) rfl rfl (Nat.le_of_ble_eq_true rfl) (Nat.le_of_ble_eq_true rfl) ?_
        rw [eo]
        refine wp_iconst (-1) dX10_missed_47 rfl rfl ?_
        refine wp_icmp_ne 55 dX10_missed_48 rfl rfl (fun c48 => ?_) (fun c48 => ?_)
        · refine wp_iconst 2 dX10_missed_55 rfl rfl ?_
          refine wp_icmp_ge 61 dX10_missed_56 rfl rfl (fun c56 => ?_) (fun c56 => ?_)
          · refine wp_iinc_2 1 dX10_missed_61 rfl rfl (by decide) rfl ?_
            refine wp_goto 18 dX10_missed_64 rfl rfl ?_
            exact WP.cast (by rw [nI_1]) (ih (i + 1) (by omega) (by rw [fst_f (by simp only [gC] at *; simp [miP, ← Int32.not_le, *])] at hq; exact hq))
          · refine wp_iload_2 dX10_missed_59 rfl ?_
            exact wp_ireturn dX10_missed_60 rfl (by rw [fst_t (by simp only [gC] at *; simp [miP, ← Int32.not_le, *])] at hq; exact hq)
        · refine wp_iconst 1 dX10_missed_51 rfl rfl ?_
          refine wp_goto 56 dX10_missed_52 rfl rfl ?_
          refine wp_icmp_ge 61 dX10_missed_56 rfl rfl (fun c56 => ?_) (fun c56 => ?_)
          · refine wp_iinc_2 1 dX10_missed_61 rfl rfl (by decide) rfl ?_
            refine wp_goto 18 dX10_missed_64 rfl rfl ?_
            exact WP.cast (by rw [nI_1]) (ih (i + 1) (by omega) (by rw [fst_f (by simp only [gC] at *; simp [miP, ← Int32.not_le, *])] at hq; exact hq))
          · refine wp_iload_2 dX10_missed_59 rfl ?_
            exact wp_ireturn dX10_missed_60 rfl (by rw [fst_t (by simp only [gC] at *; simp [miP, ← Int32.not_le, *])] at hq; exact hq)
theorem q_m_missed {g : GW} {M : Nat} {pre post : AH} {S : SM} (hm : pre.length = M) {x : Int32} (hs : WFs (wd S)) (hpl : WFp (wd S)) : SP g 7 0 0 yX10_missed cX10_missed 3 (some .int) [.ref M, .int x] (mH M pre S post) (QM M pre post S (.int (qmissed (wd S) x))) := by
  refine SP.intro [some (.ref M), some (.int x), none] (pfn (by decide)) rfl (Nat.le_of_ble_eq_true rfl) ?_
  refine wp_aload_0 dX10_missed_0 rfl ?_
  refine wp_iload_1 dX10_missed_1 rfl ?_
  refine wp_cvR dX10_missed_2 rfl q2129 mv_X10_isPlayer (mg_0 hm) rfl rfl (m_isPlayer hm) rfl rfl (Nat.le_of_ble_eq_true rfl) (Nat.le_of_ble_eq_true rfl) ?_
  refine wp_ifne_b 11 dX10_missed_5 rfl rfl (fun c5 => ?_) (fun c5 => ?_)
  · obtain ⟨p, hp, rfl⟩ := plW_of hs c5
    refine wp_aload_0 dX10_missed_11 rfl ?_
    refine wp_iload_1 dX10_missed_12 rfl ?_
    refine wp_cvE dX10_missed_13 rfl q2239 mv_X10_runAsTold (mg_0 hm) rfl rfl (m_runAsTold hm hp hs hpl) rfl rfl (Nat.le_of_ble_eq_true rfl) (Nat.le_of_ble_eq_true rfl) (fun h1 hq => ?_)
    obtain ⟨S1, rfl, hk1, hg1, hp1, hr1⟩ := hq
    refine wp_iconst 0 dX10_missed_16 rfl rfl ?_
    refine wp_istore_2 dX10_missed_17 rfl (by decide) rfl ?_
    exact mL_missed hm hg1 hr1 _ 0 (Nat.zero_add _) ⟨by rw [qmissed, if_pos c5, nI_clamp (show p < 2147483648 by have := hs.np.2; omega)]; rfl, S1, rfl, (hk1.KP (by decide) (by decide))⟩
  · refine wp_bipush (-2) dX10_missed_8 rfl rfl ?_
    exact wp_ireturn dX10_missed_10 rfl ⟨by simp [qmissed, *], S, rfl, KP.rf S⟩
theorem m_learnsBy {g : GW} {M : Nat} {pre post : AH} {S : SM} (hm : pre.length = M) {G : GA} {Wd : Nat → Int32} (hg : GS S G) (hw : wd S = Wd) {p : Nat} (hp : p < nW Wd 6) (hs : WFs Wd) (hpl : WFp Wd) {q : Nat} (hq : q ≤ 9) : SP g 6 0 0 yX10_learnsBy cX10_learnsBy 3 (some .int) [.ref M, .int (nI p), .int (nI q)] (mH M pre S post) (fun v h1 => v = some (.int (nI (tSt (ruW Wd G (lnP Wd p q))))) ∧ ∃ S', h1 = mH M pre S' post ∧ KX [19, 20, 21, 22, 23, 24, 29, 30, 31, 32, 33] [10, 11, 12, 13] S S') := by
  refine SP.intro [some (.ref M), some (.int (nI p)), some (.int (nI q))] (pfn (by decide)) rfl (Nat.le_of_ble_eq_true rfl) ?_
  subst hw
  have hp4 : p < 4 := Nat.lt_of_lt_of_le hp hs.np.2
  have h0 : ¬ wd S 0 = 0 := hpl.w0 hs hp
  have hkn : nW (wd S) (96 + 5 * p + 3) ≤ 9 := (hpl p hp).2.2.2.1.2
  have hps := atS_PS (hpl p hp).2.2.2.1.1
  refine wp_aload_0 dX10_learnsBy_0 rfl ?_
  refine wp_iload_1 dX10_learnsBy_1 rfl ?_
  refine wp_cv0 dX10_learnsBy_2 rfl q2227 mv_X10_asTold (mg_0 hm) rfl rfl (m_asTold hm hp4) rfl rfl (Nat.le_of_ble_eq_true rfl) (Nat.le_of_ble_eq_true rfl) ?_
  refine wp_aload_0 dX10_learnsBy_5 rfl ?_
  refine wp_iload_2 dX10_learnsBy_6 rfl ?_
  refine wp_putf dX10_learnsBy_7 rfl q1852 fp10_21 (mg_0 hm) rfl rfl (Nat.le_of_ble_eq_true rfl) (ms_F21 hm) ?_
  refine wp_aload_0 dX10_learnsBy_10 rfl ?_
  have KO : KX [19, 20, 21, 22, 23, 24] [] S (sF 21 (nI q) (atS p S)) := by
    refine ⟨fun q h => ?_, fun j h => rfl, rfl⟩
    simp only [List.mem_cons, List.not_mem_nil, or_false, not_or] at h
    simp [atS, sF, upd, h]
  have PO : PS (sF 21 (nI q) (atS p S)) (lnP (wd S) p q) := by
    obtain ⟨a1, a2, a3, a4, a5, a6⟩ := hps
    exact ⟨rfl, rfl, rfl, rfl, rfl, rfl⟩
  refine wp_cvE dX10_learnsBy_11 rfl q2243 mv_X10_run (mg_0 hm) rfl rfl (m_run hm (KO.gs (by decide) (by decide) hg) (P := (lnP (wd S) p q)) PO hq hp4 rfl h0) rfl rfl (Nat.le_of_ble_eq_true rfl) (Nat.le_of_ble_eq_true rfl) (fun h1 hq => ?_)
  obtain ⟨S2, rfl, hk2, hr2⟩ := hq
  refine wp_aload_0 dX10_learnsBy_14 rfl ?_
  refine wp_getf dX10_learnsBy_15 rfl q1860 fk10_29 (mg_0 hm) rfl ?_
  exact wp_ireturn dX10_learnsBy_18 rfl ⟨by rw [hr2.2.2.1]; rfl, S2, rfl, (KO.tr hk2).sub (by decide) (by decide)⟩
theorem m_waitingAt {g : GW} {M : Nat} {pre post : AH} {S : SM} (hm : pre.length = M) {G : GA} {Wd : Nat → Int32} (hg : GS S G) (hw : wd S = Wd) {p : Nat} (hp : p < nW Wd 6) (hs : WFs Wd) (hpl : WFp Wd) {x : Int32} : SP g 6 0 0 yX10_waitingAt cX10_waitingAt 3 (some .int) [.ref M, .int (nI p), .int x] (mH M pre S post) (fun v h1 => v = some (.int (nI (tSt (ruW Wd G (wtP Wd p x))))) ∧ ∃ S', h1 = mH M pre S' post ∧ KX [19, 20, 21, 22, 23, 24, 29, 30, 31, 32, 33] [10, 11, 12, 13] S S') := by
  refine SP.intro [some (.ref M), some (.int (nI p)), some (.int x)] (pfn (by decide)) rfl (Nat.le_of_ble_eq_true rfl) ?_
  subst hw
  have hp4 : p < 4 := Nat.lt_of_lt_of_le hp hs.np.2
  have h0 : ¬ wd S 0 = 0 := hpl.w0 hs hp
  have hkn : nW (wd S) (96 + 5 * p + 3) ≤ 9 := (hpl p hp).2.2.2.1.2
  have hps := atS_PS (hpl p hp).2.2.2.1.1
  refine wp_aload_0 dX10_waitingAt_0 rfl ?_
  refine wp_iload_1 dX10_waitingAt_1 rfl ?_
  refine wp_cv0 dX10_waitingAt_2 rfl q2227 mv_X10_asTold (mg_0 hm) rfl rfl (m_asTold hm hp4) rfl rfl (Nat.le_of_ble_eq_true rfl) (Nat.le_of_ble_eq_true rfl) ?_
  refine wp_aload_0 dX10_waitingAt_5 rfl ?_
  refine wp_iload_2 dX10_waitingAt_6 rfl ?_
  refine wp_putf dX10_waitingAt_7 rfl q1853 fp10_22 (mg_0 hm) rfl rfl (Nat.le_of_ble_eq_true rfl) (ms_F22 hm) ?_
  refine wp_aload_0 dX10_waitingAt_10 rfl ?_
  have KO : KX [19, 20, 21, 22, 23, 24] [] S (sF 22 x (atS p S)) := by
    refine ⟨fun q h => ?_, fun j h => rfl, rfl⟩
    simp only [List.mem_cons, List.not_mem_nil, or_false, not_or] at h
    simp [atS, sF, upd, h]
  have PO : PS (sF 22 x (atS p S)) (wtP (wd S) p x) := by
    obtain ⟨a1, a2, a3, a4, a5, a6⟩ := hps
    exact ⟨rfl, rfl, a3, rfl, rfl, rfl⟩
  refine wp_cvE dX10_waitingAt_11 rfl q2243 mv_X10_run (mg_0 hm) rfl rfl (m_run hm (KO.gs (by decide) (by decide) hg) (P := (wtP (wd S) p x)) PO hkn hp4 rfl h0) rfl rfl (Nat.le_of_ble_eq_true rfl) (Nat.le_of_ble_eq_true rfl) (fun h1 hq => ?_)
  obtain ⟨S2, rfl, hk2, hr2⟩ := hq
  refine wp_aload_0 dX10_waitingAt_14 rfl ?_
  refine wp_getf dX10_waitingAt_15 rfl q1860 fk10_29 (mg_0 hm) rfl ?_
  exact wp_ireturn dX10_waitingAt_18 rfl ⟨by rw [hr2.2.2.1]; rfl, S2, rfl, (KO.tr hk2).sub (by decide) (by decide)⟩
theorem m_lagging {g : GW} {M : Nat} {pre post : AH} {S : SM} (hm : pre.length = M) {G : GA} {Wd : Nat → Int32} (hg : GS S G) (hw : wd S = Wd) {p : Nat} (hp : p < nW Wd 6) (hs : WFs Wd) (hpl : WFp Wd) {x : Int32} : SP g 6 0 0 yX10_lagging cX10_lagging 3 (some .int) [.ref M, .int (nI p), .int x] (mH M pre S post) (fun v h1 => v = some (.int (nI (tSt (ruW Wd G (lgP Wd p x))))) ∧ ∃ S', h1 = mH M pre S' post ∧ KX [19, 20, 21, 22, 23, 24, 29, 30, 31, 32, 33] [10, 11, 12, 13] S S') := by
  refine SP.intro [some (.ref M), some (.int (nI p)), some (.int x)] (pfn (by decide)) rfl (Nat.le_of_ble_eq_true rfl) ?_
  subst hw
  have hp4 : p < 4 := Nat.lt_of_lt_of_le hp hs.np.2
  have h0 : ¬ wd S 0 = 0 := hpl.w0 hs hp
  have hkn : nW (wd S) (96 + 5 * p + 3) ≤ 9 := (hpl p hp).2.2.2.1.2
  have hps := atS_PS (hpl p hp).2.2.2.1.1
  refine wp_aload_0 dX10_lagging_0 rfl ?_
  refine wp_iload_1 dX10_lagging_1 rfl ?_
  refine wp_cv0 dX10_lagging_2 rfl q2227 mv_X10_asTold (mg_0 hm) rfl rfl (m_asTold hm hp4) rfl rfl (Nat.le_of_ble_eq_true rfl) (Nat.le_of_ble_eq_true rfl) ?_
  refine wp_aload_0 dX10_lagging_5 rfl ?_
  refine wp_iload_2 dX10_lagging_6 rfl ?_
  refine wp_putf dX10_lagging_7 rfl q1851 fp10_20 (mg_0 hm) rfl rfl (Nat.le_of_ble_eq_true rfl) (ms_F20 hm) ?_
  refine wp_aload_0 dX10_lagging_10 rfl ?_
  have KO : KX [19, 20, 21, 22, 23, 24] [] S (sF 20 x (atS p S)) := by
    refine ⟨fun q h => ?_, fun j h => rfl, rfl⟩
    simp only [List.mem_cons, List.not_mem_nil, or_false, not_or] at h
    simp [atS, sF, upd, h]
  have PO : PS (sF 20 x (atS p S)) (lgP (wd S) p x) := by
    obtain ⟨a1, a2, a3, a4, a5, a6⟩ := hps
    exact ⟨rfl, rfl, a3, rfl, rfl, rfl⟩
  refine wp_cvE dX10_lagging_11 rfl q2243 mv_X10_run (mg_0 hm) rfl rfl (m_run hm (KO.gs (by decide) (by decide) hg) (P := (lgP (wd S) p x)) PO hkn hp4 rfl h0) rfl rfl (Nat.le_of_ble_eq_true rfl) (Nat.le_of_ble_eq_true rfl) (fun h1 hq => ?_)
  obtain ⟨S2, rfl, hk2, hr2⟩ := hq
  refine wp_aload_0 dX10_lagging_14 rfl ?_
  refine wp_getf dX10_lagging_15 rfl q1860 fk10_29 (mg_0 hm) rfl ?_
  exact wp_ireturn dX10_lagging_18 rfl ⟨by rw [hr2.2.2.1]; rfl, S2, rfl, (KO.tr hk2).sub (by decide) (by decide)⟩
theorem m_hitsOn {g : GW} {M : Nat} {pre post : AH} {S : SM} (hm : pre.length = M) {G : GA} {Wd : Nat → Int32} (hg : GS S G) (hw : wd S = Wd) {p : Nat} (hp : p < nW Wd 6) (hs : WFs Wd) (hpl : WFp Wd) {x : Int32} : SP g 6 0 0 yX10_hitsOn cX10_hitsOn 3 (some .int) [.ref M, .int (nI p), .int x] (mH M pre S post) (fun v h1 => v = some (.int (nI (tSt (ruW Wd G (hoP Wd p x))))) ∧ ∃ S', h1 = mH M pre S' post ∧ KX [19, 20, 21, 22, 23, 24, 29, 30, 31, 32, 33] [10, 11, 12, 13] S S') := by
  refine SP.intro [some (.ref M), some (.int (nI p)), some (.int x)] (pfn (by decide)) rfl (Nat.le_of_ble_eq_true rfl) ?_
  subst hw
  have hp4 : p < 4 := Nat.lt_of_lt_of_le hp hs.np.2
  have h0 : ¬ wd S 0 = 0 := hpl.w0 hs hp
  have hkn : nW (wd S) (96 + 5 * p + 3) ≤ 9 := (hpl p hp).2.2.2.1.2
  have hps := atS_PS (hpl p hp).2.2.2.1.1
  refine wp_aload_0 dX10_hitsOn_0 rfl ?_
  refine wp_iload_1 dX10_hitsOn_1 rfl ?_
  refine wp_cv0 dX10_hitsOn_2 rfl q2227 mv_X10_asTold (mg_0 hm) rfl rfl (m_asTold hm hp4) rfl rfl (Nat.le_of_ble_eq_true rfl) (Nat.le_of_ble_eq_true rfl) ?_
  refine wp_aload_0 dX10_hitsOn_5 rfl ?_
  refine wp_iload_2 dX10_hitsOn_6 rfl ?_
  refine wp_putf dX10_hitsOn_7 rfl q1854 fp10_23 (mg_0 hm) rfl rfl (Nat.le_of_ble_eq_true rfl) (ms_F23 hm) ?_
  refine wp_aload_0 dX10_hitsOn_10 rfl ?_
  have KO : KX [19, 20, 21, 22, 23, 24] [] S (sF 23 x (atS p S)) := by
    refine ⟨fun q h => ?_, fun j h => rfl, rfl⟩
    simp only [List.mem_cons, List.not_mem_nil, or_false, not_or] at h
    simp [atS, sF, upd, h]
  have PO : PS (sF 23 x (atS p S)) (hoP (wd S) p x) := by
    obtain ⟨a1, a2, a3, a4, a5, a6⟩ := hps
    exact ⟨rfl, rfl, a3, rfl, rfl, rfl⟩
  refine wp_cvE dX10_hitsOn_11 rfl q2243 mv_X10_run (mg_0 hm) rfl rfl (m_run hm (KO.gs (by decide) (by decide) hg) (P := (hoP (wd S) p x)) PO hkn hp4 rfl h0) rfl rfl (Nat.le_of_ble_eq_true rfl) (Nat.le_of_ble_eq_true rfl) (fun h1 hq => ?_)
  obtain ⟨S2, rfl, hk2, hr2⟩ := hq
  refine wp_aload_0 dX10_hitsOn_14 rfl ?_
  refine wp_getf dX10_hitsOn_15 rfl q1860 fk10_29 (mg_0 hm) rfl ?_
  exact wp_ireturn dX10_hitsOn_18 rfl ⟨by rw [hr2.2.2.1]; rfl, S2, rfl, (KO.tr hk2).sub (by decide) (by decide)⟩
theorem m_rashOf {g : GW} {M : Nat} {pre post : AH} {S : SM} (hm : pre.length = M) {G : GA} {Wd : Nat → Int32} (hg : GS S G) (hw : wd S = Wd) {p : Nat} (hp : p < nW Wd 6) (hs : WFs Wd) (hpl : WFp Wd)  : SP g 6 0 0 yX10_rashOf cX10_rashOf 2 (some .int) [.ref M, .int (nI p)] (mH M pre S post) (fun v h1 => v = some (.int (10 * (nI (tSt (ruW Wd G (raP Wd p))) - tRd (ruW Wd G (raP Wd p))) - 20 * tRd (ruW Wd G (raP Wd p)))) ∧ ∃ S', h1 = mH M pre S' post ∧ KX [19, 20, 21, 22, 23, 24, 29, 30, 31, 32, 33] [10, 11, 12, 13] S S') := by
  refine SP.intro [some (.ref M), some (.int (nI p))] (pfn (by decide)) rfl (Nat.le_of_ble_eq_true rfl) ?_
  subst hw
  have hp4 : p < 4 := Nat.lt_of_lt_of_le hp hs.np.2
  have h0 : ¬ wd S 0 = 0 := hpl.w0 hs hp
  have hkn : nW (wd S) (96 + 5 * p + 3) ≤ 9 := (hpl p hp).2.2.2.1.2
  have hps := atS_PS (hpl p hp).2.2.2.1.1
  refine wp_aload_0 dX10_rashOf_0 rfl ?_
  refine wp_iload_1 dX10_rashOf_1 rfl ?_
  refine wp_cv0 dX10_rashOf_2 rfl q2227 mv_X10_asTold (mg_0 hm) rfl rfl (m_asTold hm hp4) rfl rfl (Nat.le_of_ble_eq_true rfl) (Nat.le_of_ble_eq_true rfl) ?_
  refine wp_aload_0 dX10_rashOf_5 rfl ?_
  refine wp_iconst 1 dX10_rashOf_6 rfl rfl ?_
  refine wp_putf dX10_rashOf_7 rfl q1855 fp10_24 (mg_0 hm) rfl rfl (Nat.le_of_ble_eq_true rfl) (ms_F24 hm) ?_
  refine wp_aload_0 dX10_rashOf_10 rfl ?_
  have KO : KX [19, 20, 21, 22, 23, 24] [] S (sF 24 1 (atS p S)) := by
    refine ⟨fun q h => ?_, fun j h => rfl, rfl⟩
    simp only [List.mem_cons, List.not_mem_nil, or_false, not_or] at h
    simp [atS, sF, upd, h]
  have PO : PS (sF 24 1 (atS p S)) (raP (wd S) p) := by
    obtain ⟨a1, a2, a3, a4, a5, a6⟩ := hps
    exact ⟨rfl, rfl, a3, rfl, rfl, rfl⟩
  refine wp_cvE dX10_rashOf_11 rfl q2243 mv_X10_run (mg_0 hm) rfl rfl (m_run hm (KO.gs (by decide) (by decide) hg) (P := (raP (wd S) p)) PO hkn hp4 rfl h0) rfl rfl (Nat.le_of_ble_eq_true rfl) (Nat.le_of_ble_eq_true rfl) (fun h1 hq => ?_)
  obtain ⟨S2, rfl, hk2, hr2⟩ := hq
  refine wp_bipush 10 dX10_rashOf_14 rfl rfl ?_
  refine wp_aload_0 dX10_rashOf_16 rfl ?_
  refine wp_getf dX10_rashOf_17 rfl q1860 fk10_29 (mg_0 hm) rfl ?_
  refine wp_aload_0 dX10_rashOf_20 rfl ?_
  refine wp_getf dX10_rashOf_21 rfl q1861 fk10_30 (mg_0 hm) rfl ?_
  refine wp_isub dX10_rashOf_24 rfl ?_
  refine wp_imul dX10_rashOf_25 rfl ?_
  refine wp_bipush 20 dX10_rashOf_26 rfl rfl ?_
  refine wp_aload_0 dX10_rashOf_28 rfl ?_
  refine wp_getf dX10_rashOf_29 rfl q1861 fk10_30 (mg_0 hm) rfl ?_
  refine wp_imul dX10_rashOf_32 rfl ?_
  refine wp_isub dX10_rashOf_33 rfl ?_
  exact wp_ireturn dX10_rashOf_34 rfl ⟨by rw [hr2.2.2.1, hr2.2.2.2.1]; rfl, S2, rfl, (KO.tr hk2).sub (by decide) (by decide)⟩
theorem m_lookOf {g : GW} {M : Nat} {pre post : AH} {S : SM} (hm : pre.length = M) {G : GA} {Wd : Nat → Int32} (hg : GS S G) (hw : wd S = Wd) {p : Nat} (hp : p < nW Wd 6) (hs : WFs Wd) (hpl : WFp Wd) {x : Int32} : SP g 6 0 0 yX10_lookOf cX10_lookOf 3 (some .int) [.ref M, .int (nI p), .int x] (mH M pre S post) (fun v h1 => v = some (.int (10 * nI (tSt (ruW Wd G (lkP Wd p x))))) ∧ ∃ S', h1 = mH M pre S' post ∧ KX [19, 20, 21, 22, 23, 24, 29, 30, 31, 32, 33] [10, 11, 12, 13] S S') := by
  refine SP.intro [some (.ref M), some (.int (nI p)), some (.int x)] (pfn (by decide)) rfl (Nat.le_of_ble_eq_true rfl) ?_
  subst hw
  have hp4 : p < 4 := Nat.lt_of_lt_of_le hp hs.np.2
  have h0 : ¬ wd S 0 = 0 := hpl.w0 hs hp
  have hkn : nW (wd S) (96 + 5 * p + 3) ≤ 9 := (hpl p hp).2.2.2.1.2
  have hps := atS_PS (hpl p hp).2.2.2.1.1
  refine wp_aload_0 dX10_lookOf_0 rfl ?_
  refine wp_iload_1 dX10_lookOf_1 rfl ?_
  refine wp_cv0 dX10_lookOf_2 rfl q2227 mv_X10_asTold (mg_0 hm) rfl rfl (m_asTold hm hp4) rfl rfl (Nat.le_of_ble_eq_true rfl) (Nat.le_of_ble_eq_true rfl) ?_
  refine wp_aload_0 dX10_lookOf_5 rfl ?_
  refine wp_dup dX10_lookOf_6 rfl rfl ?_
  refine wp_getf dX10_lookOf_7 rfl q1851 fk10_20 (mg_0 hm) rfl ?_
  refine wp_iload_2 dX10_lookOf_10 rfl ?_
  refine wp_iadd dX10_lookOf_11 rfl ?_
  refine wp_putf dX10_lookOf_12 rfl q1851 fp10_20 (mg_0 hm) rfl rfl (Nat.le_of_ble_eq_true rfl) (ms_F20 hm) ?_
  refine wp_aload_0 dX10_lookOf_15 rfl ?_
  refine wp_iconst 0 dX10_lookOf_16 rfl rfl ?_
  refine wp_putf dX10_lookOf_17 rfl q1852 fp10_21 (mg_0 hm) rfl rfl (Nat.le_of_ble_eq_true rfl) (ms_F21 hm) ?_
  refine wp_aload_0 dX10_lookOf_20 rfl ?_
  have KO : KX [19, 20, 21, 22, 23, 24] [] S (sF 21 0 (sF 20 (wd S (96 + 5 * p + 1) + x) (atS p S))) := by
    refine ⟨fun q h => ?_, fun j h => rfl, rfl⟩
    simp only [List.mem_cons, List.not_mem_nil, or_false, not_or] at h
    simp [atS, sF, upd, h]
  have PO : PS (sF 21 0 (sF 20 (wd S (96 + 5 * p + 1) + x) (atS p S))) (lkP (wd S) p x) := by
    obtain ⟨a1, a2, a3, a4, a5, a6⟩ := hps
    exact ⟨rfl, rfl, rfl, rfl, rfl, rfl⟩
  refine wp_cvE dX10_lookOf_21 rfl q2243 mv_X10_run (mg_0 hm) rfl rfl (m_run hm (KO.gs (by decide) (by decide) hg) (P := (lkP (wd S) p x)) PO (Nat.zero_le _) hp4 rfl h0) rfl rfl (Nat.le_of_ble_eq_true rfl) (Nat.le_of_ble_eq_true rfl) (fun h1 hq => ?_)
  obtain ⟨S2, rfl, hk2, hr2⟩ := hq
  refine wp_bipush 10 dX10_lookOf_24 rfl rfl ?_
  refine wp_aload_0 dX10_lookOf_26 rfl ?_
  refine wp_getf dX10_lookOf_27 rfl q1860 fk10_29 (mg_0 hm) rfl ?_
  refine wp_imul dX10_lookOf_30 rfl ?_
  exact wp_ireturn dX10_lookOf_31 rfl ⟨by rw [hr2.2.2.1]; rfl, S2, rfl, (KO.tr hk2).sub (by decide) (by decide)⟩
theorem q_m_learns {g : GW} {M : Nat} {pre post : AH} {S : SM} (hm : pre.length = M) {x z : Int32} (hs : WFs (wd S)) (hpl : WFp (wd S)) : SP g 7 0 0 yX10_learns cX10_learns 3 (some .int) [.ref M, .int x, .int z] (mH M pre S post) (QM M pre post S (.int (qlearns (wd S) x z))) := by
  refine SP.intro [some (.ref M), some (.int x), some (.int z)] (pfn (by decide)) rfl (Nat.le_of_ble_eq_true rfl) ?_
  refine wp_aload_0 dX10_learns_0 rfl ?_
  refine wp_iload_1 dX10_learns_1 rfl ?_
  refine wp_cvR dX10_learns_2 rfl q2129 mv_X10_isPlayer (mg_0 hm) rfl rfl (m_isPlayer hm) rfl rfl (Nat.le_of_ble_eq_true rfl) (Nat.le_of_ble_eq_true rfl) ?_
  refine wp_ifeq_b 20 dX10_learns_5 rfl rfl (fun c5 => ?_) (fun c5 => ?_)
  · refine wp_bipush (-2) dX10_learns_20 rfl rfl ?_
    exact wp_ireturn dX10_learns_22 rfl ⟨by simp [qlearns, *], S, rfl, KP.rf S⟩
  · obtain ⟨p, hp, rfl⟩ := plW_of hs c5
    refine wp_iload_2 dX10_learns_8 rfl ?_
    refine wp_i2l dX10_learns_9 rfl ?_
    refine wp_lconst 0 dX10_learns_10 rfl rfl ?_
    refine wp_ldc2_w dX10_learns_11 rfl q2313 ?_
    refine wp_csR dX10_learns_14 rfl q1979 ms_X10_in m_in rfl rfl (Nat.le_of_ble_eq_true rfl) (Nat.le_of_ble_eq_true rfl) ?_
    refine wp_ifne_b 23 dX10_learns_17 rfl rfl (fun c17 => ?_) (fun c17 => ?_)
    · obtain ⟨w, hw, rfl⟩ := in_ofk (n := 9) (by omega) c17
      refine wp_aload_0 dX10_learns_23 rfl ?_
      refine wp_cvE dX10_learns_24 rfl q2158 mv_X10_lay (mg_0 hm) rfl rfl (m_lay hm hs) rfl rfl (Nat.le_of_ble_eq_true rfl) (Nat.le_of_ble_eq_true rfl) (fun h1 hq => ?_)
      obtain ⟨S0, rfl, hk0, hg0⟩ := hq
      have l : LSt S S0 (dgW (wd S)) (wd S) := ⟨hg0, hk0.wd, hk0.KP⟩
      refine wp_aload_0 dX10_learns_27 rfl ?_
      refine wp_iload_1 dX10_learns_28 rfl ?_
      refine wp_iload_2 dX10_learns_29 rfl ?_
      refine wp_cvEi dX10_learns_30 rfl q2314 mv_X10_learnsBy (mg_0 hm) rfl rfl (m_learnsBy hm l.1 l.2.1 hp hs hpl hw) rfl rfl (Nat.le_of_ble_eq_true rfl) (Nat.le_of_ble_eq_true rfl) (fun h1 hq => ?_)
      obtain ⟨S1, rfl, hk1⟩ := hq
      exact wp_ireturn dX10_learns_33 rfl ⟨by rw [qlearns, if_pos ⟨c5, c17⟩, nI_clamp (show p < 2147483648 by have := hs.np.2; omega), nI_clamp (by omega)]; rfl, S1, rfl, (l.2.2.tr (hk1.KP (by decide) (by decide)))⟩
    · refine wp_bipush (-2) dX10_learns_20 rfl rfl ?_
      exact wp_ireturn dX10_learns_22 rfl ⟨by simp [qlearns, *], S, rfl, KP.rf S⟩
theorem q_m_look {g : GW} {M : Nat} {pre post : AH} {S : SM} (hm : pre.length = M) {x z : Int32} (hs : WFs (wd S)) (hpl : WFp (wd S)) : SP g 7 0 0 yX10_look cX10_look 3 (some .int) [.ref M, .int x, .int z] (mH M pre S post) (QM M pre post S (.int (qlook (wd S) x z))) := by
  refine SP.intro [some (.ref M), some (.int x), some (.int z)] (pfn (by decide)) rfl (Nat.le_of_ble_eq_true rfl) ?_
  refine wp_aload_0 dX10_look_0 rfl ?_
  refine wp_iload_1 dX10_look_1 rfl ?_
  refine wp_cvR dX10_look_2 rfl q2129 mv_X10_isPlayer (mg_0 hm) rfl rfl (m_isPlayer hm) rfl rfl (Nat.le_of_ble_eq_true rfl) (Nat.le_of_ble_eq_true rfl) ?_
  refine wp_ifeq_b 20 dX10_look_5 rfl rfl (fun c5 => ?_) (fun c5 => ?_)
  · refine wp_sipush (-2000) dX10_look_20 rfl rfl ?_
    exact wp_ireturn dX10_look_23 rfl ⟨by simp [qlook, *], S, rfl, KP.rf S⟩
  · obtain ⟨p, hp, rfl⟩ := plW_of hs c5
    refine wp_iload_2 dX10_look_8 rfl ?_
    refine wp_i2l dX10_look_9 rfl ?_
    refine wp_lconst 0 dX10_look_10 rfl rfl ?_
    refine wp_ldc2_w dX10_look_11 rfl q2491 ?_
    refine wp_csR dX10_look_14 rfl q1979 ms_X10_in m_in rfl rfl (Nat.le_of_ble_eq_true rfl) (Nat.le_of_ble_eq_true rfl) ?_
    refine wp_ifne_b 24 dX10_look_17 rfl rfl (fun c17 => ?_) (fun c17 => ?_)
    · refine wp_aload_0 dX10_look_24 rfl ?_
      refine wp_cvE dX10_look_25 rfl q2158 mv_X10_lay (mg_0 hm) rfl rfl (m_lay hm hs) rfl rfl (Nat.le_of_ble_eq_true rfl) (Nat.le_of_ble_eq_true rfl) (fun h1 hq => ?_)
      obtain ⟨S0, rfl, hk0, hg0⟩ := hq
      have l : LSt S S0 (dgW (wd S)) (wd S) := ⟨hg0, hk0.wd, hk0.KP⟩
      refine wp_aload_0 dX10_look_28 rfl ?_
      refine wp_iload_1 dX10_look_29 rfl ?_
      refine wp_iload_2 dX10_look_30 rfl ?_
      refine wp_cvEi dX10_look_31 rfl q2492 mv_X10_lookOf (mg_0 hm) rfl rfl (m_lookOf hm l.1 l.2.1 hp hs hpl) rfl rfl (Nat.le_of_ble_eq_true rfl) (Nat.le_of_ble_eq_true rfl) (fun h1 hq => ?_)
      obtain ⟨S1, rfl, hk1⟩ := hq
      exact wp_ireturn dX10_look_34 rfl ⟨by rw [qlook, if_pos ⟨c5, c17⟩, nI_clamp (show p < 2147483648 by have := hs.np.2; omega)]; rfl, S1, rfl, (l.2.2.tr (hk1.KP (by decide) (by decide)))⟩
    · refine wp_sipush (-2000) dX10_look_20 rfl rfl ?_
      exact wp_ireturn dX10_look_23 rfl ⟨by simp [qlook, *], S, rfl, KP.rf S⟩
theorem q_m_rash {g : GW} {M : Nat} {pre post : AH} {S : SM} (hm : pre.length = M) {x : Int32} (hs : WFs (wd S)) (hpl : WFp (wd S)) : SP g 7 0 0 yX10_rash cX10_rash 2 (some .int) [.ref M, .int x] (mH M pre S post) (QM M pre post S (.int (qrash (wd S) x))) := by
  refine SP.intro [some (.ref M), some (.int x)] (pfn (by decide)) rfl (Nat.le_of_ble_eq_true rfl) ?_
  refine wp_aload_0 dX10_rash_0 rfl ?_
  refine wp_iload_1 dX10_rash_1 rfl ?_
  refine wp_cvR dX10_rash_2 rfl q2129 mv_X10_isPlayer (mg_0 hm) rfl rfl (m_isPlayer hm) rfl rfl (Nat.le_of_ble_eq_true rfl) (Nat.le_of_ble_eq_true rfl) ?_
  refine wp_ifne_b 12 dX10_rash_5 rfl rfl (fun c5 => ?_) (fun c5 => ?_)
  · obtain ⟨p, hp, rfl⟩ := plW_of hs c5
    refine wp_aload_0 dX10_rash_12 rfl ?_
    refine wp_cvE dX10_rash_13 rfl q2158 mv_X10_lay (mg_0 hm) rfl rfl (m_lay hm hs) rfl rfl (Nat.le_of_ble_eq_true rfl) (Nat.le_of_ble_eq_true rfl) (fun h1 hq => ?_)
    obtain ⟨S0, rfl, hk0, hg0⟩ := hq
    have l : LSt S S0 (dgW (wd S)) (wd S) := ⟨hg0, hk0.wd, hk0.KP⟩
    refine wp_aload_0 dX10_rash_16 rfl ?_
    refine wp_iload_1 dX10_rash_17 rfl ?_
    refine wp_cvEi dX10_rash_18 rfl q2483 mv_X10_rashOf (mg_0 hm) rfl rfl (m_rashOf hm l.1 l.2.1 hp hs hpl) rfl rfl (Nat.le_of_ble_eq_true rfl) (Nat.le_of_ble_eq_true rfl) (fun h1 hq => ?_)
    obtain ⟨S1, rfl, hk1⟩ := hq
    exact wp_ireturn dX10_rash_21 rfl ⟨by rw [qrash, if_pos c5, nI_clamp (show p < 2147483648 by have := hs.np.2; omega)]; rfl, S1, rfl, (l.2.2.tr (hk1.KP (by decide) (by decide)))⟩
  · refine wp_sipush (-2000) dX10_rash_8 rfl rfl ?_
    exact wp_ireturn dX10_rash_11 rfl ⟨by simp [qrash, *], S, rfl, KP.rf S⟩
theorem q_m_aware {g : GW} {M : Nat} {pre post : AH} {S : SM} (hm : pre.length = M) {x z : Int32} (hs : WFs (wd S)) (hpl : WFp (wd S)) : SP g 7 0 0 yX10_aware cX10_aware 3 (some .int) [.ref M, .int x, .int z] (mH M pre S post) (QM M pre post S (.int (qaware (wd S) x z))) := by
  refine SP.intro [some (.ref M), some (.int x), some (.int z)] (pfn (by decide)) rfl (Nat.le_of_ble_eq_true rfl) ?_
  refine wp_aload_0 dX10_aware_0 rfl ?_
  refine wp_iload_1 dX10_aware_1 rfl ?_
  refine wp_cvR dX10_aware_2 rfl q2129 mv_X10_isPlayer (mg_0 hm) rfl rfl (m_isPlayer hm) rfl rfl (Nat.le_of_ble_eq_true rfl) (Nat.le_of_ble_eq_true rfl) ?_
  refine wp_ifne_b 11 dX10_aware_5 rfl rfl (fun c5 => ?_) (fun c5 => ?_)
  · obtain ⟨p, hp, rfl⟩ := plW_of hs c5
    have hp4 : p < 4 := Nat.lt_of_lt_of_le hp hs.np.2
    refine wp_aload_0 dX10_aware_11 rfl ?_
    refine wp_cvE dX10_aware_12 rfl q2158 mv_X10_lay (mg_0 hm) rfl rfl (m_lay hm hs) rfl rfl (Nat.le_of_ble_eq_true rfl) (Nat.le_of_ble_eq_true rfl) (fun h1 hq => ?_)
    obtain ⟨S0, rfl, hk0, hg0⟩ := hq
    have l : LSt S S0 (dgW (wd S)) (wd S) := ⟨hg0, hk0.wd, hk0.KP⟩
    refine wp_aload_0 dX10_aware_15 rfl ?_
    refine wp_iload_1 dX10_aware_16 rfl ?_
    refine wp_cv0 dX10_aware_17 rfl q2227 mv_X10_asTold (mg_0 hm) rfl rfl (m_asTold hm hp4) rfl rfl (Nat.le_of_ble_eq_true rfl) (Nat.le_of_ble_eq_true rfl) ?_
    have hk2 := atS_KX p S0
    have hg2 := hk2.gs (by decide) (by decide) hg0
    have hps2 : PS (atS p S0) (tpW (wd S) p) := hk0.wd ▸ atS_PS (by rw [hk0.wd]; exact (hpl p hp).2.2.2.1.1)
    refine wp_aload_0 dX10_aware_20 rfl ?_
    refine wp_iload_2 dX10_aware_21 rfl ?_
    refine wp_cvR dX10_aware_22 rfl q2178 mv_X10_isInGame (mg_0 hm) rfl rfl (m_isInGame hm) rfl rfl (Nat.le_of_ble_eq_true rfl) (Nat.le_of_ble_eq_true rfl) ?_
    refine wp_ifeq_b 36 dX10_aware_25 rfl rfl (fun c25 => ?_) (fun c25 => ?_)
    · have c25 : inI z 0 (nI (dgM (wd S)) - 1) = false := by rw [← show (atS p S0).1 18 = nI (dgM (wd S)) from hg2.1]; exact c25
      refine wp_iconst (-1) dX10_aware_36 rfl rfl ?_
      exact wp_ireturn dX10_aware_37 rfl ⟨by rw [qaware, if_pos c5, if_neg (by rw [c25]; decide)], atS p S0, rfl, l.2.2.tr (hk2.KP (by decide) (by decide))⟩
    · obtain ⟨i, hi, rfl⟩ := hg2.in c25
      have c25 : inI (nI i) 0 (nI (dgM (wd S)) - 1) = true := by rw [← show (atS p S0).1 18 = nI (dgM (wd S)) from hg2.1]; exact c25
      refine wp_aload_0 dX10_aware_28 rfl ?_
      refine wp_iload_2 dX10_aware_29 rfl ?_
      refine wp_cvR dX10_aware_30 rfl q2231 mv_X10_awareOf (mg_0 hm) rfl rfl (m_awareOf hm hg2 hps2 hi (hpl p hp).2.2.2.1.2) rfl rfl (Nat.le_of_ble_eq_true rfl) (Nat.le_of_ble_eq_true rfl) ?_
      refine wp_goto 37 dX10_aware_33 rfl rfl ?_
      exact wp_ireturn dX10_aware_37 rfl ⟨by rw [qaware, if_pos c5, if_pos c25, nI_clamp (show p < 2147483648 by have := hs.np.2; omega), nI_clamp (by have := hg2.2.1; omega)]; rfl, atS p S0, rfl, l.2.2.tr (hk2.KP (by decide) (by decide))⟩
  · refine wp_bipush (-2) dX10_aware_8 rfl rfl ?_
    exact wp_ireturn dX10_aware_10 rfl ⟨by simp [qaware, *], S, rfl, KP.rf S⟩
theorem mL_enough {g : GW} {M : Nat} {pre post : AH} (hm : pre.length = M) {S0 : SM} {Wd : Nat → Int32} (hs : WFs Wd) (hpl : WFp Wd) {p : Nat} (hp : p < nW Wd 6) {c n : Nat} {Q : Option Value → AH → Prop} : ∀ (k : Nat) (S : SM) (i b : Nat), LSt S0 S (dgW Wd) Wd → i + k = 10 → b ≤ 9 → (∀ S', KP S0 S' → Q (some (.int (nI (itr (beF (lnB Wd p)) k i b)))) (mH M pre S' post)) → WP g 7 yX10_enough cX10_enough 4 (some .int) 19 [some (.ref M), some (.int (nI p)), some (.int (nI b)), some (.int (nI i))] [] (mH M pre S post) c n Q := by
  intro k
  induction k with
  | zero =>
    intro S i b l hi hb hq
    refine wp_iload_3 dX10_enough_19 rfl ?_
    refine wp_bipush 10 dX10_enough_20 rfl rfl ?_
    refine wp_icmp_ge 52 dX10_enough_22 rfl rfl (fun c22 => ?_) (fun c22 => ?_)
    · refine wp_iload_2 dX10_enough_52 rfl ?_
      exact wp_ireturn dX10_enough_53 rfl (hq S l.2.2)
    · exact absurd (show (10 : Int32) ≤ nI i by rw [show i = 10 by omega]; decide) c22
  | succ k ih =>
    intro S i b l hi hb hq
    refine wp_iload_3 dX10_enough_19 rfl ?_
    refine wp_bipush 10 dX10_enough_20 rfl rfl ?_
    refine wp_icmp_ge 52 dX10_enough_22 rfl rfl (fun c22 => ?_) (fun c22 => ?_)
    · exact absurd c22 (show ¬ ((10 : Int32) ≤ nI i) from nI_ge (a := i) (b := 10) (by omega) (by omega))
    · refine wp_aload_0 dX10_enough_25 rfl ?_
      refine wp_iload_1 dX10_enough_26 rfl ?_
      refine wp_iload_3 dX10_enough_27 rfl ?_
      refine wp_cvEi dX10_enough_28 rfl q2314 mv_X10_learnsBy (mg_0 hm) rfl rfl (m_learnsBy hm l.1 l.2.1 hp hs hpl (by omega)) rfl rfl (Nat.le_of_ble_eq_true rfl) (Nat.le_of_ble_eq_true rfl) (fun h1 hq => ?_)
      obtain ⟨S1, rfl, hk1⟩ := hq
      have l1 := l.on hk1 (by decide) (by decide) (by decide) (by decide)
      refine wp_aload_0 dX10_enough_31 rfl ?_
      refine wp_iload_1 dX10_enough_32 rfl ?_
      refine wp_iload_2 dX10_enough_33 rfl ?_
      refine wp_cvEi dX10_enough_34 rfl q2314 mv_X10_learnsBy (mg_0 hm) rfl rfl (m_learnsBy hm l1.1 l1.2.1 hp hs hpl hb) rfl rfl (Nat.le_of_ble_eq_true rfl) (Nat.le_of_ble_eq_true rfl) (fun h1 hq => ?_)
      obtain ⟨S2, rfl, hk2⟩ := hq
      have l2 := l1.on hk2 (by decide) (by decide) (by decide) (by decide)
      refine wp_icmp_le_k 44 dX10_enough_37 rfl rfl (by have := stG_le Wd (lnP Wd p i); show stG _ _ < _; omega) (by have := stG_le Wd (lnP Wd p b); show stG _ _ < _; omega) (fun c37 => ?_) (fun c37 => ?_)
      · refine wp_iload_2 dX10_enough_44 rfl ?_
        refine wp_istore_2 dX10_enough_45 rfl (by decide) rfl ?_
        refine wp_iinc_3 1 dX10_enough_46 rfl rfl (by decide) rfl ?_
        refine wp_goto 19 dX10_enough_49 rfl rfl ?_
        exact WP.cast (by simp only [beF, lnB, nI_1, decide_eq_true_eq]; (try split) <;> first | rfl | (exfalso; simp only [stG] at *; omega)) (ih S2 (i + 1) (beF (lnB Wd p) i b) l2 (by omega) (by unfold beF; split <;> omega) hq)
      · refine wp_iload_3 dX10_enough_40 rfl ?_
        refine wp_goto 45 dX10_enough_41 rfl rfl ?_
        refine wp_istore_2 dX10_enough_45 rfl (by decide) rfl ?_
        refine wp_iinc_3 1 dX10_enough_46 rfl rfl (by decide) rfl ?_
        refine wp_goto 19 dX10_enough_49 rfl rfl ?_
        exact WP.cast (by simp only [beF, lnB, nI_1, decide_eq_true_eq]; (try split) <;> first | rfl | (exfalso; simp only [stG] at *; omega)) (ih S2 (i + 1) (beF (lnB Wd p) i b) l2 (by omega) (by unfold beF; split <;> omega) hq)
theorem q_m_enough {g : GW} {M : Nat} {pre post : AH} {S : SM} (hm : pre.length = M) {x : Int32} (hs : WFs (wd S)) (hpl : WFp (wd S)) : SP g 7 0 0 yX10_enough cX10_enough 4 (some .int) [.ref M, .int x] (mH M pre S post) (QM M pre post S (.int (qenough (wd S) x))) := by
  refine SP.intro [some (.ref M), some (.int x), none, none] (pfn (by decide)) rfl (Nat.le_of_ble_eq_true rfl) ?_
  refine wp_aload_0 dX10_enough_0 rfl ?_
  refine wp_iload_1 dX10_enough_1 rfl ?_
  refine wp_cvR dX10_enough_2 rfl q2129 mv_X10_isPlayer (mg_0 hm) rfl rfl (m_isPlayer hm) rfl rfl (Nat.le_of_ble_eq_true rfl) (Nat.le_of_ble_eq_true rfl) ?_
  refine wp_ifne_b 11 dX10_enough_5 rfl rfl (fun c5 => ?_) (fun c5 => ?_)
  · obtain ⟨p, hp, rfl⟩ := plW_of hs c5
    refine wp_aload_0 dX10_enough_11 rfl ?_
    refine wp_cvE dX10_enough_12 rfl q2158 mv_X10_lay (mg_0 hm) rfl rfl (m_lay hm hs) rfl rfl (Nat.le_of_ble_eq_true rfl) (Nat.le_of_ble_eq_true rfl) (fun h1 hq => ?_)
    obtain ⟨S0, rfl, hk0, hg0⟩ := hq
    have l : LSt S S0 (dgW (wd S)) (wd S) := ⟨hg0, hk0.wd, hk0.KP⟩
    refine wp_iconst 0 dX10_enough_15 rfl rfl ?_
    refine wp_istore_2 dX10_enough_16 rfl (by decide) rfl ?_
    refine wp_iconst 1 dX10_enough_17 rfl rfl ?_
    refine wp_istore_3 dX10_enough_18 rfl (by decide) rfl ?_
    exact mL_enough hm hs hpl hp 9 S0 1 0 l (by omega) (by omega) (fun S2 k2 => ⟨by rw [qenough, if_pos c5, nI_clamp (show p < 2147483648 by have := hs.np.2; omega)], S2, rfl, k2⟩)
  · refine wp_bipush (-2) dX10_enough_8 rfl rfl ?_
    exact wp_ireturn dX10_enough_10 rfl ⟨by simp [qenough, *], S, rfl, KP.rf S⟩
theorem mL_waits {g : GW} {M : Nat} {pre post : AH} (hm : pre.length = M) {S0 : SM} {Wd : Nat → Int32} (hs : WFs Wd) (hpl : WFp Wd) {p : Nat} (hp : p < nW Wd 6) {z : Int32} {c n : Nat} {Q : Option Value → AH → Prop} : ∀ (k : Nat) (S : SM) (i b : Nat), LSt S0 S (dgW Wd) Wd → ((hoN Wd ≤ i ∧ k = 0) ∨ i + k = hoN Wd) ∧ i < 1000 → (∀ S', KP S0 S' → Q (some (.int (if z = 0 then nI (itr (beF (wtB Wd p)) k i b) else nI (stG Wd (wtP Wd p (nI (itr (beF (wtB Wd p)) k i b))))))) (mH M pre S' post)) → WP g 7 yX10_waits cX10_waits 5 (some .int) 30 [some (.ref M), some (.int (nI p)), some (.int z), some (.int (nI b)), some (.int (nI i))] [] (mH M pre S post) c n Q := by
  intro k
  induction k with
  | zero =>
    intro S i b l hi hq
    refine wp_iload_4 dX10_waits_30 rfl ?_
    refine wp_aload_0 dX10_waits_32 rfl ?_
    refine wp_cvR dX10_waits_33 rfl q2206 mv_X10_holes (mg_0 hm) rfl rfl (m_holes hm) rfl rfl (Nat.le_of_ble_eq_true rfl) (Nat.le_of_ble_eq_true rfl) ?_
    refine wp_icmp_ge 68 dX10_waits_36 rfl rfl (fun c36 => ?_) (fun c36 => ?_)
    · refine wp_iload_2 dX10_waits_68 rfl ?_
      refine wp_if_ne 76 dX10_waits_69 rfl rfl (fun c69 => ?_) (fun c69 => ?_)
      · refine wp_aload_0 dX10_waits_76 rfl ?_
        refine wp_iload_1 dX10_waits_77 rfl ?_
        refine wp_iload_3 dX10_waits_78 rfl ?_
        refine wp_cvEi dX10_waits_79 rfl q2326 mv_X10_waitingAt (mg_0 hm) rfl rfl (m_waitingAt hm l.1 l.2.1 hp hs hpl) rfl rfl (Nat.le_of_ble_eq_true rfl) (Nat.le_of_ble_eq_true rfl) (fun h1 hq => ?_)
        obtain ⟨S1, rfl, hk1⟩ := hq
        exact wp_ireturn dX10_waits_82 rfl (by have := hq S1 (l.2.2.tr (hk1.KP (by decide) (by decide))); rw [if_neg c69] at this; exact this)
      · refine wp_iload_3 dX10_waits_72 rfl ?_
        refine wp_goto 82 dX10_waits_73 rfl rfl ?_
        exact wp_ireturn dX10_waits_82 rfl (by have := hq S l.2.2; rw [if_pos c69] at this; exact this)
    · exact absurd (show hoW (wd S) ≤ nI i by rw [l.2.1, hs.ho]; exact nI_le (by omega) (by have := hs.ho12; omega)) c36
  | succ k ih =>
    intro S i b l hi hq
    refine wp_iload_4 dX10_waits_30 rfl ?_
    refine wp_aload_0 dX10_waits_32 rfl ?_
    refine wp_cvR dX10_waits_33 rfl q2206 mv_X10_holes (mg_0 hm) rfl rfl (m_holes hm) rfl rfl (Nat.le_of_ble_eq_true rfl) (Nat.le_of_ble_eq_true rfl) ?_
    refine wp_icmp_ge 68 dX10_waits_36 rfl rfl (fun c36 => ?_) (fun c36 => ?_)
    · exact absurd c36 (show ¬ (hoW (wd S) ≤ nI i) by rw [l.2.1, hs.ho]; exact nI_ge (by omega) (by have := hs.ho12; omega))
    · refine wp_aload_0 dX10_waits_39 rfl ?_
      refine wp_iload_1 dX10_waits_40 rfl ?_
      refine wp_iload_4 dX10_waits_41 rfl ?_
      refine wp_cvEi dX10_waits_43 rfl q2326 mv_X10_waitingAt (mg_0 hm) rfl rfl (m_waitingAt hm l.1 l.2.1 hp hs hpl) rfl rfl (Nat.le_of_ble_eq_true rfl) (Nat.le_of_ble_eq_true rfl) (fun h1 hq => ?_)
      obtain ⟨S1, rfl, hk1⟩ := hq
      have l1 := l.on hk1 (by decide) (by decide) (by decide) (by decide)
      refine wp_aload_0 dX10_waits_46 rfl ?_
      refine wp_iload_1 dX10_waits_47 rfl ?_
      refine wp_iload_3 dX10_waits_48 rfl ?_
      refine wp_cvEi dX10_waits_49 rfl q2326 mv_X10_waitingAt (mg_0 hm) rfl rfl (m_waitingAt hm l1.1 l1.2.1 hp hs hpl) rfl rfl (Nat.le_of_ble_eq_true rfl) (Nat.le_of_ble_eq_true rfl) (fun h1 hq => ?_)
      obtain ⟨S2, rfl, hk2⟩ := hq
      have l2 := l1.on hk2 (by decide) (by decide) (by decide) (by decide)
      refine wp_icmp_le_k 60 dX10_waits_52 rfl rfl (by have := stG_le Wd (wtP Wd p (nI i)); show stG _ _ < _; omega) (by have := stG_le Wd (wtP Wd p (nI b)); show stG _ _ < _; omega) (fun c52 => ?_) (fun c52 => ?_)
      · refine wp_iload_3 dX10_waits_60 rfl ?_
        refine wp_istore_3 dX10_waits_61 rfl (by decide) rfl ?_
        refine wp_iinc_4 1 dX10_waits_62 rfl rfl (by decide) rfl ?_
        refine wp_goto 30 dX10_waits_65 rfl rfl ?_
        exact WP.cast (by simp only [beF, wtB, nI_1, decide_eq_true_eq]; (try split) <;> first | rfl | (exfalso; simp only [stG] at *; omega)) (ih S2 (i + 1) (beF (wtB Wd p) i b) l2 (by have := hs.ho12; omega) hq)
      · refine wp_iload_4 dX10_waits_55 rfl ?_
        refine wp_goto 61 dX10_waits_57 rfl rfl ?_
        refine wp_istore_3 dX10_waits_61 rfl (by decide) rfl ?_
        refine wp_iinc_4 1 dX10_waits_62 rfl rfl (by decide) rfl ?_
        refine wp_goto 30 dX10_waits_65 rfl rfl ?_
        exact WP.cast (by simp only [beF, wtB, nI_1, decide_eq_true_eq]; (try split) <;> first | rfl | (exfalso; simp only [stG] at *; omega)) (ih S2 (i + 1) (beF (wtB Wd p) i b) l2 (by have := hs.ho12; omega) hq)
theorem q_m_waits {g : GW} {M : Nat} {pre post : AH} {S : SM} (hm : pre.length = M) {x z : Int32} (hs : WFs (wd S)) (hpl : WFp (wd S)) : SP g 7 0 0 yX10_waits cX10_waits 5 (some .int) [.ref M, .int x, .int z] (mH M pre S post) (QM M pre post S (.int (qwaits (wd S) x z))) := by
  refine SP.intro [some (.ref M), some (.int x), some (.int z), none, none] (pfn (by decide)) rfl (Nat.le_of_ble_eq_true rfl) ?_
  refine wp_aload_0 dX10_waits_0 rfl ?_
  refine wp_iload_1 dX10_waits_1 rfl ?_
  refine wp_cvR dX10_waits_2 rfl q2129 mv_X10_isPlayer (mg_0 hm) rfl rfl (m_isPlayer hm) rfl rfl (Nat.le_of_ble_eq_true rfl) (Nat.le_of_ble_eq_true rfl) ?_
  refine wp_ifeq_b 18 dX10_waits_5 rfl rfl (fun c5 => ?_) (fun c5 => ?_)
  · refine wp_bipush (-2) dX10_waits_18 rfl rfl ?_
    exact wp_ireturn dX10_waits_20 rfl ⟨by simp [qwaits, *], S, rfl, KP.rf S⟩
  · obtain ⟨p, hp, rfl⟩ := plW_of hs c5
    refine wp_iload_2 dX10_waits_8 rfl ?_
    refine wp_i2l dX10_waits_9 rfl ?_
    refine wp_lconst 0 dX10_waits_10 rfl rfl ?_
    refine wp_lconst 1 dX10_waits_11 rfl rfl ?_
    refine wp_csR dX10_waits_12 rfl q1979 ms_X10_in m_in rfl rfl (Nat.le_of_ble_eq_true rfl) (Nat.le_of_ble_eq_true rfl) ?_
    refine wp_ifne_b 21 dX10_waits_15 rfl rfl (fun c15 => ?_) (fun c15 => ?_)
    · refine wp_aload_0 dX10_waits_21 rfl ?_
      refine wp_cvE dX10_waits_22 rfl q2158 mv_X10_lay (mg_0 hm) rfl rfl (m_lay hm hs) rfl rfl (Nat.le_of_ble_eq_true rfl) (Nat.le_of_ble_eq_true rfl) (fun h1 hq => ?_)
      obtain ⟨S0, rfl, hk0, hg0⟩ := hq
      have l : LSt S S0 (dgW (wd S)) (wd S) := ⟨hg0, hk0.wd, hk0.KP⟩
      refine wp_iconst 0 dX10_waits_25 rfl rfl ?_
      refine wp_istore_3 dX10_waits_26 rfl (by decide) rfl ?_
      refine wp_iconst 1 dX10_waits_27 rfl rfl ?_
      refine wp_istore_4 dX10_waits_28 rfl (by decide) rfl ?_
      exact mL_waits hm hs hpl hp (hoN (wd S) - 1) S0 1 0 l (by omega) (fun S2 k2 => ⟨by rw [qwaits, if_pos (show plW (wd S) (nI p) = true ∧ inL z.toInt64 0 1 = true from ⟨c5, c15⟩), nI_clamp (show p < 2147483648 by have := hs.np.2; omega)]; rfl, S2, rfl, k2⟩)
    · refine wp_bipush (-2) dX10_waits_18 rfl rfl ?_
      exact wp_ireturn dX10_waits_20 rfl ⟨by simp [qwaits, *], S, rfl, KP.rf S⟩
