/-! ===== the reference: what it asks of the board ===== -/
set_option maxRecDepth 100000
theorem mL_stayIn {g : GW} {M : Nat} {pre post : AH} {S : SM} (hm : pre.length = M) {t : Int32} {N : Nat} (hN : wd S 4 = nI N) (hb : N ≤ 6) {c n : Nat} {Q : Option Value → AH → Prop} : ∀ (k : Nat) (i : Nat) (a : Int32 × Int32) (v5 : Option Value), i + k = N → Q (some (.int (itr (siF (wd S) t) k i a).2)) (mH M pre S post) → WP g 1 yX10_stayIn cX10_stayIn 6 (some .int) 8 [some (.ref M), some (.int t), some (.int a.1), some (.int a.2), some (.int (nI i)), v5] [] (mH M pre S post) c n Q := by
  intro k
  induction k with
  | zero =>
    intro i a v5 hi hq
    refine wp_iload_4 dX10_stayIn_8 rfl ?_
    refine wp_aload_0 dX10_stayIn_10 rfl ?_
    refine wp_getf dX10_stayIn_11 rfl q1832 fk10_1 (mg_0 hm) rfl ?_
    refine wp_iconst 4 dX10_stayIn_14 rfl rfl ?_
    refine wp_ialoadn 4 dX10_stayIn_15 rfl (mg_1 hm) rfl (by decide) (by decide) ?_
    refine wp_icmp_ge 72 dX10_stayIn_16 rfl rfl (fun c16 => ?_) (fun c16 => ?_)
    · refine wp_iload_3 dX10_stayIn_72 rfl ?_
      exact wp_ireturn dX10_stayIn_73 rfl hq
    · exact absurd (show wd S 4 ≤ nI i by rw [hN]; exact nI_le (by omega) (by omega)) c16
  | succ k ih =>
    intro i a v5 hi hq
    refine wp_iload_4 dX10_stayIn_8 rfl ?_
    refine wp_aload_0 dX10_stayIn_10 rfl ?_
    refine wp_getf dX10_stayIn_11 rfl q1832 fk10_1 (mg_0 hm) rfl ?_
    refine wp_iconst 4 dX10_stayIn_14 rfl rfl ?_
    refine wp_ialoadn 4 dX10_stayIn_15 rfl (mg_1 hm) rfl (by decide) (by decide) ?_
    refine wp_icmp_ge 72 dX10_stayIn_16 rfl rfl (fun c16 => ?_) (fun c16 => ?_)
    · exact absurd c16 (show ¬ (wd S 4 ≤ nI i) by rw [hN]; exact nI_ge (by omega) (by omega))
    · refine wp_aload_0 dX10_stayIn_19 rfl ?_
      refine wp_getf dX10_stayIn_20 rfl q1832 fk10_1 (mg_0 hm) rfl ?_
      refine wp_bipush 12 dX10_stayIn_23 rfl rfl ?_
      refine wp_iconst 2 dX10_stayIn_25 rfl rfl ?_
      refine wp_iload_4 dX10_stayIn_26 rfl ?_
      refine wp_imul dX10_stayIn_28 rfl ?_
      refine wp_iadd dX10_stayIn_29 rfl ?_
      refine wp_ialoadn (12 + (2 * i)) dX10_stayIn_30 rfl (mg_1 hm) (by simp only [nI_lit, pk_mul, nI_add]; try rfl) (by omega) (by decide) ?_
      refine wp_istore_5 dX10_stayIn_31 rfl (by decide) rfl ?_
      refine wp_iload_5 dX10_stayIn_33 rfl ?_
      refine wp_iload_1 dX10_stayIn_35 rfl ?_
      refine wp_icmp_gt 66 dX10_stayIn_36 rfl rfl (fun c36 => ?_) (fun c36 => ?_)
      · refine wp_iinc_4 1 dX10_stayIn_66 rfl rfl (by decide) rfl ?_
        refine wp_goto 8 dX10_stayIn_69 rfl rfl ?_
        exact WP.cast (by simp [siF, wd, nI_1, ← Int32.not_le, *]) (ih (i + 1) (siF (wd S) t i a) (some (.int (wd S (12 + 2 * i)))) (by omega) hq)
      · refine wp_iload_5 dX10_stayIn_39 rfl ?_
        refine wp_iload_2 dX10_stayIn_41 rfl ?_
        refine wp_icmp_ge 48 dX10_stayIn_42 rfl rfl (fun c42 => ?_) (fun c42 => ?_)
        · refine wp_iload_5 dX10_stayIn_48 rfl ?_
          refine wp_istore_2 dX10_stayIn_50 rfl (by decide) rfl ?_
          refine wp_aload_0 dX10_stayIn_51 rfl ?_
          refine wp_getf dX10_stayIn_52 rfl q1832 fk10_1 (mg_0 hm) rfl ?_
          refine wp_bipush 12 dX10_stayIn_55 rfl rfl ?_
          refine wp_iconst 2 dX10_stayIn_57 rfl rfl ?_
          refine wp_iload_4 dX10_stayIn_58 rfl ?_
          refine wp_imul dX10_stayIn_60 rfl ?_
          refine wp_iadd dX10_stayIn_61 rfl ?_
          refine wp_iconst 1 dX10_stayIn_62 rfl rfl ?_
          refine wp_iadd dX10_stayIn_63 rfl ?_
          refine wp_ialoadn ((12 + (2 * i)) + 1) dX10_stayIn_64 rfl (mg_1 hm) (by simp only [nI_lit, pk_mul, nI_add]; try rfl) (by omega) (by decide) ?_
          refine wp_istore_3 dX10_stayIn_65 rfl (by decide) rfl ?_
          refine wp_iinc_4 1 dX10_stayIn_66 rfl rfl (by decide) rfl ?_
          refine wp_goto 8 dX10_stayIn_69 rfl rfl ?_
          exact WP.cast (by simp [siF, wd, nI_1, ← Int32.not_le, *]) (ih (i + 1) (siF (wd S) t i a) (some (.int (wd S (12 + 2 * i)))) (by omega) hq)
        · refine wp_goto 66 dX10_stayIn_45 rfl rfl ?_
          refine wp_iinc_4 1 dX10_stayIn_66 rfl rfl (by decide) rfl ?_
          refine wp_goto 8 dX10_stayIn_69 rfl rfl ?_
          exact WP.cast (by simp [siF, wd, nI_1, ← Int32.not_le, *]) (ih (i + 1) (siF (wd S) t i a) (some (.int (wd S (12 + 2 * i)))) (by omega) hq)
theorem m_stayIn {g : GW} {M : Nat} {pre post : AH} {S : SM} (hm : pre.length = M) {t : Int32} (hs : WFs (wd S)) : SPx g 1 0 0 yX10_stayIn cX10_stayIn 6 (some .int) [.ref M, .int t] (mH M pre S post) (some (.int (stayW (wd S) t))) (mH M pre S post) := by
  refine SPx.intro [some (.ref M), some (.int t), none, none, none, none] (pfn (by decide)) rfl (Nat.le_of_ble_eq_true rfl) ?_
  refine wp_iconst (-1) dX10_stayIn_0 rfl rfl ?_
  refine wp_istore_2 dX10_stayIn_1 rfl (by decide) rfl ?_
  refine wp_bipush 7 dX10_stayIn_2 rfl rfl ?_
  refine wp_istore_3 dX10_stayIn_4 rfl (by decide) rfl ?_
  refine wp_iconst 0 dX10_stayIn_5 rfl rfl ?_
  refine wp_istore_4 dX10_stayIn_6 rfl (by decide) rfl ?_
  exact mL_stayIn hm hs.ns.1 hs.ns.2 _ 0 (-1, 7) none (Nat.zero_add _) ⟨rfl, rfl⟩
theorem m_paceIn {g : GW} {M : Nat} {pre post : AH} {S : SM} (hm : pre.length = M) {p : Nat} {t : Int32} (hp : p < 4) : SPx g 2 0 0 yX10_paceIn cX10_paceIn 3 (some .int) [.ref M, .int (nI p), .int t] (mH M pre S post) (some (.int (pcW (wd S) p t))) (mH M pre S post) := by
  refine SPx.intro [some (.ref M), some (.int (nI p)), some (.int t)] (pfn (by decide)) rfl (Nat.le_of_ble_eq_true rfl) ?_
  refine wp_aload_0 dX10_paceIn_0 rfl ?_
  refine wp_iload_1 dX10_paceIn_1 rfl ?_
  refine wp_iconst 0 dX10_paceIn_2 rfl rfl ?_
  refine wp_cvR dX10_paceIn_3 rfl q2134 mv_X10_of (mg_0 hm) rfl rfl (m_of (w := 0) hm hp (by omega)) rfl rfl (Nat.le_of_ble_eq_true rfl) (Nat.le_of_ble_eq_true rfl) ?_
  refine wp_aload_0 dX10_paceIn_6 rfl ?_
  refine wp_iload_1 dX10_paceIn_7 rfl ?_
  refine wp_iconst 2 dX10_paceIn_8 rfl rfl ?_
  refine wp_cvR dX10_paceIn_9 rfl q2134 mv_X10_of (mg_0 hm) rfl rfl (m_of (w := 2) hm hp (by omega)) rfl rfl (Nat.le_of_ble_eq_true rfl) (Nat.le_of_ble_eq_true rfl) ?_
  refine wp_if_ne 19 dX10_paceIn_12 rfl rfl (fun c12 => ?_) (fun c12 => ?_)
  · refine wp_iload_2 dX10_paceIn_19 rfl ?_
    refine wp_aload_0 dX10_paceIn_20 rfl ?_
    refine wp_iload_1 dX10_paceIn_21 rfl ?_
    refine wp_iconst 2 dX10_paceIn_22 rfl rfl ?_
    refine wp_cvR dX10_paceIn_23 rfl q2134 mv_X10_of (mg_0 hm) rfl rfl (m_of (w := 2) hm hp (by omega)) rfl rfl (Nat.le_of_ble_eq_true rfl) (Nat.le_of_ble_eq_true rfl) ?_
    refine wp_idiv dX10_paceIn_26 rfl c12 ?_
    refine wp_iadd dX10_paceIn_27 rfl ?_
    exact wp_ireturn dX10_paceIn_28 rfl ⟨by simp [pcW, *], rfl⟩
  · refine wp_iconst 0 dX10_paceIn_15 rfl rfl ?_
    refine wp_goto 27 dX10_paceIn_16 rfl rfl ?_
    refine wp_iadd dX10_paceIn_27 rfl ?_
    exact wp_ireturn dX10_paceIn_28 rfl ⟨by simp [pcW, *], rfl⟩
theorem mL_openHoles {g : GW} {M : Nat} {pre post : AH} {S : SM} (hm : pre.length = M)  (hs : WFs (wd S)) {c n : Nat} {Q : Option Value → AH → Prop} : ∀ (k : Nat) (i a : Nat), i + k = hoN (wd S) → Q (some (.int (nI (itr (fun i n => n + (if shW (wd S) (nI i) = true then 0 else 1)) k i a)))) (mH M pre S post) → WP g 2 yX10_openHoles cX10_openHoles 3 (some .int) 4 [some (.ref M), some (.int (nI a)), some (.int (nI i))] [] (mH M pre S post) c n Q := by
  intro k
  induction k with
  | zero =>
    intro i a hi hq
    refine wp_iload_2 dX10_openHoles_4 rfl ?_
    refine wp_aload_0 dX10_openHoles_5 rfl ?_
    refine wp_cvR dX10_openHoles_6 rfl q2206 mv_X10_holes (mg_0 hm) rfl rfl (m_holes hm) rfl rfl (Nat.le_of_ble_eq_true rfl) (Nat.le_of_ble_eq_true rfl) ?_
    refine wp_icmp_ge 34 dX10_openHoles_9 rfl rfl (fun c9 => ?_) (fun c9 => ?_)
    · refine wp_iload_1 dX10_openHoles_34 rfl ?_
      exact wp_ireturn dX10_openHoles_35 rfl hq
    · exact absurd (show hoW (wd S) ≤ nI i by rw [hs.ho]; exact nI_le (by omega) (by have := hs.ho12; omega)) c9
  | succ k ih =>
    intro i a hi hq
    refine wp_iload_2 dX10_openHoles_4 rfl ?_
    refine wp_aload_0 dX10_openHoles_5 rfl ?_
    refine wp_cvR dX10_openHoles_6 rfl q2206 mv_X10_holes (mg_0 hm) rfl rfl (m_holes hm) rfl rfl (Nat.le_of_ble_eq_true rfl) (Nat.le_of_ble_eq_true rfl) ?_
    refine wp_icmp_ge 34 dX10_openHoles_9 rfl rfl (fun c9 => ?_) (fun c9 => ?_)
    · exact absurd c9 (show ¬ (hoW (wd S) ≤ nI i) by rw [hs.ho]; exact nI_ge (by omega) (by have := hs.ho12; omega))
    · refine wp_iload_1 dX10_openHoles_12 rfl ?_
      refine wp_aload_0 dX10_openHoles_13 rfl ?_
      refine wp_iload_2 dX10_openHoles_14 rfl ?_
      refine wp_cvR dX10_openHoles_15 rfl q2338 mv_X10_isShut (mg_0 hm) rfl rfl (m_isShut hm) rfl rfl (Nat.le_of_ble_eq_true rfl) (Nat.le_of_ble_eq_true rfl) ?_
      refine wp_ifeq_b 25 dX10_openHoles_18 rfl rfl (fun c18 => ?_) (fun c18 => ?_)
      · refine wp_iconst 1 dX10_openHoles_25 rfl rfl ?_
        refine wp_iadd dX10_openHoles_26 rfl ?_
        refine wp_istore_1 dX10_openHoles_27 rfl (by decide) rfl ?_
        refine wp_iinc_2 1 dX10_openHoles_28 rfl rfl (by decide) rfl ?_
        refine wp_goto 4 dX10_openHoles_31 rfl rfl ?_
        exact WP.cast (by simp [nI_1, *]) (ih (i + 1) (a + (if shW (wd S) (nI i) = true then 0 else 1)) (by omega) hq)
      · refine wp_iconst 0 dX10_openHoles_21 rfl rfl ?_
        refine wp_goto 26 dX10_openHoles_22 rfl rfl ?_
        refine wp_iadd dX10_openHoles_26 rfl ?_
        refine wp_istore_1 dX10_openHoles_27 rfl (by decide) rfl ?_
        refine wp_iinc_2 1 dX10_openHoles_28 rfl rfl (by decide) rfl ?_
        refine wp_goto 4 dX10_openHoles_31 rfl rfl ?_
        exact WP.cast (by simp [nI_1, *]) (ih (i + 1) (a + (if shW (wd S) (nI i) = true then 0 else 1)) (by omega) hq)
theorem m_openHoles {g : GW} {M : Nat} {pre post : AH} {S : SM} (hm : pre.length = M) (hs : WFs (wd S)) : SPx g 2 0 0 yX10_openHoles cX10_openHoles 3 (some .int) [.ref M] (mH M pre S post) (some (.int (nI (opN (wd S))))) (mH M pre S post) := by
  refine SPx.intro [some (.ref M), none, none] (pfn (by decide)) rfl (Nat.le_of_ble_eq_true rfl) ?_
  refine wp_iconst 0 dX10_openHoles_0 rfl rfl ?_
  refine wp_istore_1 dX10_openHoles_1 rfl (by decide) rfl ?_
  refine wp_iconst 0 dX10_openHoles_2 rfl rfl ?_
  refine wp_istore_2 dX10_openHoles_3 rfl (by decide) rfl ?_
  exact mL_openHoles hm hs _ 0 0 (Nat.zero_add _) ⟨rfl, rfl⟩
theorem mL_stepsToAll {g : GW} {M : Nat} {pre post : AH} {S : SM} (hm : pre.length = M) {h : Nat} (hh : h < 12) (hs : WFs (wd S)) {c n : Nat} {Q : Option Value → AH → Prop} : ∀ (k : Nat) (i a : Nat), i + k = hoN (wd S) → Q (some (.int (nI (itr (fun i n => n + (if shW (wd S) (nI i) = true then 0 else stN (nW (wd S) 0) h i)) k i a)))) (mH M pre S post) → WP g 3 yX10_stepsToAll cX10_stepsToAll 4 (some .int) 4 [some (.ref M), some (.int (nI h)), some (.int (nI a)), some (.int (nI i))] [] (mH M pre S post) c n Q := by
  intro k
  induction k with
  | zero =>
    intro i a hi hq
    refine wp_iload_3 dX10_stepsToAll_4 rfl ?_
    refine wp_aload_0 dX10_stepsToAll_5 rfl ?_
    refine wp_cvR dX10_stepsToAll_6 rfl q2206 mv_X10_holes (mg_0 hm) rfl rfl (m_holes hm) rfl rfl (Nat.le_of_ble_eq_true rfl) (Nat.le_of_ble_eq_true rfl) ?_
    refine wp_icmp_ge 39 dX10_stepsToAll_9 rfl rfl (fun c9 => ?_) (fun c9 => ?_)
    · refine wp_iload_2 dX10_stepsToAll_39 rfl ?_
      exact wp_ireturn dX10_stepsToAll_40 rfl hq
    · exact absurd (show hoW (wd S) ≤ nI i by rw [hs.ho]; exact nI_le (by omega) (by have := hs.ho12; omega)) c9
  | succ k ih =>
    intro i a hi hq
    refine wp_iload_3 dX10_stepsToAll_4 rfl ?_
    refine wp_aload_0 dX10_stepsToAll_5 rfl ?_
    refine wp_cvR dX10_stepsToAll_6 rfl q2206 mv_X10_holes (mg_0 hm) rfl rfl (m_holes hm) rfl rfl (Nat.le_of_ble_eq_true rfl) (Nat.le_of_ble_eq_true rfl) ?_
    refine wp_icmp_ge 39 dX10_stepsToAll_9 rfl rfl (fun c9 => ?_) (fun c9 => ?_)
    · exact absurd c9 (show ¬ (hoW (wd S) ≤ nI i) by rw [hs.ho]; exact nI_ge (by omega) (by have := hs.ho12; omega))
    · refine wp_iload_2 dX10_stepsToAll_12 rfl ?_
      refine wp_aload_0 dX10_stepsToAll_13 rfl ?_
      refine wp_iload_3 dX10_stepsToAll_14 rfl ?_
      refine wp_cvR dX10_stepsToAll_15 rfl q2338 mv_X10_isShut (mg_0 hm) rfl rfl (m_isShut hm) rfl rfl (Nat.le_of_ble_eq_true rfl) (Nat.le_of_ble_eq_true rfl) ?_
      refine wp_ifeq_b 25 dX10_stepsToAll_18 rfl rfl (fun c18 => ?_) (fun c18 => ?_)
      · refine wp_aload_0 dX10_stepsToAll_25 rfl ?_
        refine wp_iload_1 dX10_stepsToAll_26 rfl ?_
        refine wp_iload_3 dX10_stepsToAll_27 rfl ?_
        refine wp_cvR dX10_stepsToAll_28 rfl q2210 mv_X10_stepsOf (mg_0 hm) rfl rfl (m_stepsOf hm (hs.w0ne (i := i) (by omega))) rfl rfl (Nat.le_of_ble_eq_true rfl) (Nat.le_of_ble_eq_true rfl) ?_
        refine wp_iadd dX10_stepsToAll_31 rfl ?_
        refine wp_istore_2 dX10_stepsToAll_32 rfl (by decide) rfl ?_
        refine wp_iinc_3 1 dX10_stepsToAll_33 rfl rfl (by decide) rfl ?_
        refine wp_goto 4 dX10_stepsToAll_36 rfl rfl ?_
        exact WP.cast (by simp [nI_1, ← nI_add, stW_n hs (hs.w0 (i := i) (by omega)) (show h < 1000000000 by omega) (show i < 1000000000 by have := hs.ho12; omega), *]) (ih (i + 1) (a + (if shW (wd S) (nI i) = true then 0 else stN (nW (wd S) 0) h i)) (by omega) hq)
      · refine wp_iconst 0 dX10_stepsToAll_21 rfl rfl ?_
        refine wp_goto 31 dX10_stepsToAll_22 rfl rfl ?_
        refine wp_iadd dX10_stepsToAll_31 rfl ?_
        refine wp_istore_2 dX10_stepsToAll_32 rfl (by decide) rfl ?_
        refine wp_iinc_3 1 dX10_stepsToAll_33 rfl rfl (by decide) rfl ?_
        refine wp_goto 4 dX10_stepsToAll_36 rfl rfl ?_
        exact WP.cast (by simp [nI_1, ← nI_add, stW_n hs (hs.w0 (i := i) (by omega)) (show h < 1000000000 by omega) (show i < 1000000000 by have := hs.ho12; omega), *]) (ih (i + 1) (a + (if shW (wd S) (nI i) = true then 0 else stN (nW (wd S) 0) h i)) (by omega) hq)
theorem m_stepsToAll {g : GW} {M : Nat} {pre post : AH} {S : SM} (hm : pre.length = M) {h : Nat} (hs : WFs (wd S)) (hh : h < 12) : SPx g 3 0 0 yX10_stepsToAll cX10_stepsToAll 4 (some .int) [.ref M, .int (nI h)] (mH M pre S post) (some (.int (nI (saN (wd S) h)))) (mH M pre S post) := by
  refine SPx.intro [some (.ref M), some (.int (nI h)), none, none] (pfn (by decide)) rfl (Nat.le_of_ble_eq_true rfl) ?_
  refine wp_iconst 0 dX10_stepsToAll_0 rfl rfl ?_
  refine wp_istore_2 dX10_stepsToAll_1 rfl (by decide) rfl ?_
  refine wp_iconst 0 dX10_stepsToAll_2 rfl rfl ?_
  refine wp_istore_3 dX10_stepsToAll_3 rfl (by decide) rfl ?_
  exact mL_stepsToAll hm hh hs _ 0 0 (Nat.zero_add _) ⟨rfl, rfl⟩
theorem q_m_steps {g : GW} {M : Nat} {pre post : AH} {S : SM} (hm : pre.length = M) {x z : Int32} (hs : WFs (wd S)) : SPx g 3 0 0 yX10_steps cX10_steps 3 (some .int) [.ref M, .int x, .int z] (mH M pre S post) (some (.int (qsteps (wd S) x z))) (mH M pre S post) := by
  refine SPx.intro [some (.ref M), some (.int x), some (.int z)] (pfn (by decide)) rfl (Nat.le_of_ble_eq_true rfl) ?_
  refine wp_aload_0 dX10_steps_0 rfl ?_
  refine wp_iload_1 dX10_steps_1 rfl ?_
  refine wp_i2l dX10_steps_2 rfl ?_
  refine wp_cvR dX10_steps_3 rfl q2202 mv_X10_isHole (mg_0 hm) rfl rfl (m_isHole hm) rfl rfl (Nat.le_of_ble_eq_true rfl) (Nat.le_of_ble_eq_true rfl) ?_
  refine wp_ifeq_b 27 dX10_steps_6 rfl rfl (fun c6 => ?_) (fun c6 => ?_)
  · refine wp_bipush (-2) dX10_steps_27 rfl rfl ?_
    exact wp_ireturn dX10_steps_29 rfl ⟨by simp [qsteps, *], rfl⟩
  · obtain ⟨x, hx, rfl⟩ := hlL_of hs c6
    refine wp_aload_0 dX10_steps_9 rfl ?_
    refine wp_iload_2 dX10_steps_10 rfl ?_
    refine wp_i2l dX10_steps_11 rfl ?_
    refine wp_cvR dX10_steps_12 rfl q2202 mv_X10_isHole (mg_0 hm) rfl rfl (m_isHole hm) rfl rfl (Nat.le_of_ble_eq_true rfl) (Nat.le_of_ble_eq_true rfl) ?_
    refine wp_ifeq_b 27 dX10_steps_15 rfl rfl (fun c15 => ?_) (fun c15 => ?_)
    · refine wp_bipush (-2) dX10_steps_27 rfl rfl ?_
      exact wp_ireturn dX10_steps_29 rfl ⟨by simp [qsteps, *], rfl⟩
    · refine wp_aload_0 dX10_steps_18 rfl ?_
      refine wp_iload_1 dX10_steps_19 rfl ?_
      refine wp_iload_2 dX10_steps_20 rfl ?_
      refine wp_cvR dX10_steps_21 rfl q2210 mv_X10_stepsOf (mg_0 hm) rfl rfl (m_stepsOf hm (hs.w0ne hx)) rfl rfl (Nat.le_of_ble_eq_true rfl) (Nat.le_of_ble_eq_true rfl) ?_
      refine wp_goto 29 dX10_steps_24 rfl rfl ?_
      exact wp_ireturn dX10_steps_29 rfl ⟨by simp [qsteps, *], rfl⟩
theorem q_m_pace {g : GW} {M : Nat} {pre post : AH} {S : SM} (hm : pre.length = M) {x t : Int32} (hs : WFs (wd S)) : SPx g 3 0 0 yX10_pace cX10_pace 3 (some .int) [.ref M, .int x, .int t] (mH M pre S post) (some (.int (qpace (wd S) x t))) (mH M pre S post) := by
  refine SPx.intro [some (.ref M), some (.int x), some (.int t)] (pfn (by decide)) rfl (Nat.le_of_ble_eq_true rfl) ?_
  refine wp_aload_0 dX10_pace_0 rfl ?_
  refine wp_iload_1 dX10_pace_1 rfl ?_
  refine wp_cvR dX10_pace_2 rfl q2129 mv_X10_isPlayer (mg_0 hm) rfl rfl (m_isPlayer hm) rfl rfl (Nat.le_of_ble_eq_true rfl) (Nat.le_of_ble_eq_true rfl) ?_
  refine wp_ifeq_b 26 dX10_pace_5 rfl rfl (fun c5 => ?_) (fun c5 => ?_)
  · refine wp_bipush (-2) dX10_pace_26 rfl rfl ?_
    exact wp_ireturn dX10_pace_28 rfl ⟨by simp (disch := omega) [qpace, nI_clamp, *], rfl⟩
  · obtain ⟨p, hp, rfl⟩ := plW_of hs c5
    have hp4 : p < 4 := by have := hs.np.2; omega
    refine wp_aload_0 dX10_pace_8 rfl ?_
    refine wp_iload_2 dX10_pace_9 rfl ?_
    refine wp_i2l dX10_pace_10 rfl ?_
    refine wp_cvR dX10_pace_11 rfl q2142 mv_X10_isTick (mg_0 hm) rfl rfl (m_isTick hm) rfl rfl (Nat.le_of_ble_eq_true rfl) (Nat.le_of_ble_eq_true rfl) ?_
    refine wp_ifeq_b 26 dX10_pace_14 rfl rfl (fun c14 => ?_) (fun c14 => ?_)
    · refine wp_bipush (-2) dX10_pace_26 rfl rfl ?_
      exact wp_ireturn dX10_pace_28 rfl ⟨by simp (disch := omega) [qpace, nI_clamp, *], rfl⟩
    · refine wp_aload_0 dX10_pace_17 rfl ?_
      refine wp_iload_1 dX10_pace_18 rfl ?_
      refine wp_iload_2 dX10_pace_19 rfl ?_
      refine wp_cvR dX10_pace_20 rfl q2219 mv_X10_paceIn (mg_0 hm) rfl rfl (m_paceIn hm hp4) rfl rfl (Nat.le_of_ble_eq_true rfl) (Nat.le_of_ble_eq_true rfl) ?_
      refine wp_goto 28 dX10_pace_23 rfl rfl ?_
      exact wp_ireturn dX10_pace_28 rfl ⟨by simp (disch := omega) [qpace, nI_clamp, *], rfl⟩
theorem q_m_stay {g : GW} {M : Nat} {pre post : AH} {S : SM} (hm : pre.length = M) {t : Int32} (hs : WFs (wd S)) : SPx g 3 0 0 yX10_stay cX10_stay 2 (some .int) [.ref M, .int t] (mH M pre S post) (some (.int (qstay (wd S) t))) (mH M pre S post) := by
  refine SPx.intro [some (.ref M), some (.int t)] (pfn (by decide)) rfl (Nat.le_of_ble_eq_true rfl) ?_
  refine wp_aload_0 dX10_stay_0 rfl ?_
  refine wp_iload_1 dX10_stay_1 rfl ?_
  refine wp_i2l dX10_stay_2 rfl ?_
  refine wp_cvR dX10_stay_3 rfl q2142 mv_X10_isTick (mg_0 hm) rfl rfl (m_isTick hm) rfl rfl (Nat.le_of_ble_eq_true rfl) (Nat.le_of_ble_eq_true rfl) ?_
  refine wp_ifeq_b 17 dX10_stay_6 rfl rfl (fun c6 => ?_) (fun c6 => ?_)
  · refine wp_bipush (-2) dX10_stay_17 rfl rfl ?_
    exact wp_ireturn dX10_stay_19 rfl ⟨by simp [qstay, *], rfl⟩
  · refine wp_aload_0 dX10_stay_9 rfl ?_
    refine wp_iload_1 dX10_stay_10 rfl ?_
    refine wp_cvR dX10_stay_11 rfl q2146 mv_X10_stayIn (mg_0 hm) rfl rfl (m_stayIn hm hs) rfl rfl (Nat.le_of_ble_eq_true rfl) (Nat.le_of_ble_eq_true rfl) ?_
    refine wp_goto 19 dX10_stay_14 rfl rfl ?_
    exact wp_ireturn dX10_stay_19 rfl ⟨by simp [qstay, *], rfl⟩
theorem q_m_drum {g : GW} {M : Nat} {pre post : AH} {S : SM} (hm : pre.length = M) {x z : Int32} (hs : WFs (wd S)) : SPx g 3 0 0 yX10_drum cX10_drum 3 (some .int) [.ref M, .int x, .int z] (mH M pre S post) (some (.int (qdrum (wd S) x z))) (mH M pre S post) := by
  refine SPx.intro [some (.ref M), some (.int x), some (.int z)] (pfn (by decide)) rfl (Nat.le_of_ble_eq_true rfl) ?_
  refine wp_aload_0 dX10_drum_0 rfl ?_
  refine wp_iload_1 dX10_drum_1 rfl ?_
  refine wp_cvR dX10_drum_2 rfl q2117 mv_X10_isComing (mg_0 hm) rfl rfl (m_isComing hm) rfl rfl (Nat.le_of_ble_eq_true rfl) (Nat.le_of_ble_eq_true rfl) ?_
  refine wp_ifeq_b 29 dX10_drum_5 rfl rfl (fun c5 => ?_) (fun c5 => ?_)
  · refine wp_bipush (-2) dX10_drum_29 rfl rfl ?_
    exact wp_ireturn dX10_drum_31 rfl ⟨by simp (disch := omega) [qdrum, nI_clamp, *], rfl⟩
  · obtain ⟨k, hk, rfl⟩ := cmW_of hs c5
    have hk4 : k < 24 := by have := hs.nc.2; omega
    refine wp_iload_2 dX10_drum_8 rfl ?_
    refine wp_i2l dX10_drum_9 rfl ?_
    refine wp_lconst 0 dX10_drum_10 rfl rfl ?_
    refine wp_ldc2_w dX10_drum_11 rfl q1978 ?_
    refine wp_csR dX10_drum_14 rfl q1979 ms_X10_in m_in rfl rfl (Nat.le_of_ble_eq_true rfl) (Nat.le_of_ble_eq_true rfl) ?_
    refine wp_ifeq_b 29 dX10_drum_17 rfl rfl (fun c17 => ?_) (fun c17 => ?_)
    · refine wp_bipush (-2) dX10_drum_29 rfl rfl ?_
      exact wp_ireturn dX10_drum_31 rfl ⟨by simp (disch := omega) [qdrum, nI_clamp, *], rfl⟩
    · obtain ⟨w, hw, rfl⟩ := in2_of c17
      refine wp_aload_0 dX10_drum_20 rfl ?_
      refine wp_iload_1 dX10_drum_21 rfl ?_
      refine wp_iload_2 dX10_drum_22 rfl ?_
      refine wp_cvR dX10_drum_23 rfl q2121 mv_X10_ofComing (mg_0 hm) rfl rfl (m_ofComing hm hk4 (by omega)) rfl rfl (Nat.le_of_ble_eq_true rfl) (Nat.le_of_ble_eq_true rfl) ?_
      refine wp_goto 31 dX10_drum_26 rfl rfl ?_
      exact wp_ireturn dX10_drum_31 rfl ⟨by simp (disch := omega) [qdrum, nI_clamp, *], rfl⟩
theorem q_m_player {g : GW} {M : Nat} {pre post : AH} {S : SM} (hm : pre.length = M) {x z : Int32} (hs : WFs (wd S)) : SPx g 3 0 0 yX10_player cX10_player 3 (some .int) [.ref M, .int x, .int z] (mH M pre S post) (some (.int (qplayer (wd S) x z))) (mH M pre S post) := by
  refine SPx.intro [some (.ref M), some (.int x), some (.int z)] (pfn (by decide)) rfl (Nat.le_of_ble_eq_true rfl) ?_
  refine wp_aload_0 dX10_player_0 rfl ?_
  refine wp_iload_1 dX10_player_1 rfl ?_
  refine wp_cvR dX10_player_2 rfl q2129 mv_X10_isPlayer (mg_0 hm) rfl rfl (m_isPlayer hm) rfl rfl (Nat.le_of_ble_eq_true rfl) (Nat.le_of_ble_eq_true rfl) ?_
  refine wp_ifeq_b 29 dX10_player_5 rfl rfl (fun c5 => ?_) (fun c5 => ?_)
  · refine wp_bipush (-2) dX10_player_29 rfl rfl ?_
    exact wp_ireturn dX10_player_31 rfl ⟨by simp (disch := omega) [qplayer, nI_clamp, *], rfl⟩
  · obtain ⟨p, hp, rfl⟩ := plW_of hs c5
    have hp4 : p < 4 := by have := hs.np.2; omega
    refine wp_iload_2 dX10_player_8 rfl ?_
    refine wp_i2l dX10_player_9 rfl ?_
    refine wp_lconst 0 dX10_player_10 rfl rfl ?_
    refine wp_ldc2_w dX10_player_11 rfl q2133 ?_
    refine wp_csR dX10_player_14 rfl q1979 ms_X10_in m_in rfl rfl (Nat.le_of_ble_eq_true rfl) (Nat.le_of_ble_eq_true rfl) ?_
    refine wp_ifeq_b 29 dX10_player_17 rfl rfl (fun c17 => ?_) (fun c17 => ?_)
    · refine wp_bipush (-2) dX10_player_29 rfl rfl ?_
      exact wp_ireturn dX10_player_31 rfl ⟨by simp (disch := omega) [qplayer, nI_clamp, *], rfl⟩
    · obtain ⟨w, hw, rfl⟩ := in4_of c17
      refine wp_aload_0 dX10_player_20 rfl ?_
      refine wp_iload_1 dX10_player_21 rfl ?_
      refine wp_iload_2 dX10_player_22 rfl ?_
      refine wp_cvR dX10_player_23 rfl q2134 mv_X10_of (mg_0 hm) rfl rfl (m_of hm hp4 (by omega)) rfl rfl (Nat.le_of_ble_eq_true rfl) (Nat.le_of_ble_eq_true rfl) ?_
      refine wp_goto 31 dX10_player_26 rfl rfl ?_
      exact wp_ireturn dX10_player_31 rfl ⟨by simp (disch := omega) [qplayer, nI_clamp, *], rfl⟩
theorem mL_divisor {g : GW} {h : AH} {a b : Int32} {c n : Nat} {Q : Option Value → AH → Prop} : ∀ (f x y : Nat) (v4 : Option Value), y ≤ f → x < 1000000000 → y < 1000000000 → Q (some (.int (nI (Nat.gcd x y)))) h → WP g 1 yX10_divisor cX10_divisor 5 (some .int) 4 [some (.int a), some (.int b), some (.int (nI x)), some (.int (nI y)), v4] [] h c n Q := by
  intro f
  induction f with
  | zero =>
    intro x y v4 h1 hx hy hq
    refine wp_iload_3 dX10_divisor_4 rfl ?_
    refine wp_if_eq 21 dX10_divisor_5 rfl rfl (fun c5 => ?_) (fun c5 => ?_)
    · refine wp_iload_2 dX10_divisor_21 rfl ?_
      exact wp_ireturn dX10_divisor_22 rfl (by rw [show y = 0 by omega, Nat.gcd_zero_right] at hq; exact hq)
    · exact absurd (show nI y = 0 by rw [show y = 0 by omega]; rfl) c5
  | succ f ih =>
    intro x y v4 h1 hx hy hq
    refine wp_iload_3 dX10_divisor_4 rfl ?_
    refine wp_if_eq 21 dX10_divisor_5 rfl rfl (fun c5 => ?_) (fun c5 => ?_)
    · refine wp_iload_2 dX10_divisor_21 rfl ?_
      exact wp_ireturn dX10_divisor_22 rfl (by rw [show y = 0 from (nI_eq (a := y) (b := 0) (by omega) (by omega)).mp c5, Nat.gcd_zero_right] at hq; exact hq)
    · have hy0 : 0 < y := by
        rcases Nat.eq_zero_or_pos y with q | q
        · exact absurd (show nI y = 0 by rw [q]; rfl) c5
        · exact q
      refine wp_iload_2 dX10_divisor_8 rfl ?_
      refine wp_iload_3 dX10_divisor_9 rfl ?_
      refine wp_irem dX10_divisor_10 rfl c5 ?_
      refine wp_istore_4 dX10_divisor_11 rfl (by decide) rfl ?_
      refine wp_iload_3 dX10_divisor_13 rfl ?_
      refine wp_istore_2 dX10_divisor_14 rfl (by decide) rfl ?_
      refine wp_iload_4 dX10_divisor_15 rfl ?_
      refine wp_istore_3 dX10_divisor_17 rfl (by decide) rfl ?_
      refine wp_goto 4 dX10_divisor_18 rfl rfl ?_
      exact WP.cast (by rw [pk_rem (by omega) hy0 (by omega)]) (ih y (x % y) (some (.int (nI (x % y)))) (by have := Nat.mod_lt x hy0; omega) hy (by have := Nat.mod_lt x hy0; omega) (by rw [Nat.gcd_comm x y, Nat.gcd_rec y x, Nat.gcd_comm] at hq; exact hq))
theorem m_divisor {g : GW} {h : AH} {x z : Nat} (hx : x < 1000000000) (hz : z < 1000000000) : SPx g 1 0 0 yX10_divisor cX10_divisor 5 (some .int) [.int (nI x), .int (nI z)] h (some (.int (nI (Nat.gcd x z)))) h := by
  refine SPx.intro [some (.int (nI x)), some (.int (nI z)), none, none, none] (pfn (by decide)) rfl (Nat.le_of_ble_eq_true rfl) ?_
  refine wp_iload_0 dX10_divisor_0 rfl ?_
  refine wp_istore_2 dX10_divisor_1 rfl (by decide) rfl ?_
  refine wp_iload_1 dX10_divisor_2 rfl ?_
  refine wp_istore_3 dX10_divisor_3 rfl (by decide) rfl ?_
  exact mL_divisor z x z none (Nat.le_refl z) hx hz ⟨rfl, rfl⟩
theorem q_m_mean {g : GW} {M : Nat} {pre post : AH} {S : SM} (hm : pre.length = M) {x z : Int32} (hs : WFs (wd S)) : SPx g 4 0 0 yX10_mean cX10_mean 5 (some .int) [.ref M, .int x, .int z] (mH M pre S post) (some (.int (qmean (wd S) x z))) (mH M pre S post) := by
  refine SPx.intro [some (.ref M), some (.int x), some (.int z), none, none] (pfn (by decide)) rfl (Nat.le_of_ble_eq_true rfl) ?_
  refine wp_aload_0 dX10_mean_0 rfl ?_
  refine wp_iload_1 dX10_mean_1 rfl ?_
  refine wp_i2l dX10_mean_2 rfl ?_
  refine wp_cvR dX10_mean_3 rfl q2202 mv_X10_isHole (mg_0 hm) rfl rfl (m_isHole hm) rfl rfl (Nat.le_of_ble_eq_true rfl) (Nat.le_of_ble_eq_true rfl) ?_
  refine wp_ifeq_b 19 dX10_mean_6 rfl rfl (fun c6 => ?_) (fun c6 => ?_)
  · refine wp_bipush (-2) dX10_mean_19 rfl rfl ?_
    exact wp_ireturn dX10_mean_21 rfl ⟨by first | (simp (disch := omega) [qmean, nI_clamp, *]; done) | (subst c41; simp (disch := omega) [qmean, nI_clamp, *]), rfl⟩
  · obtain ⟨x, hx, rfl⟩ := hlL_of hs c6
    have hx12 : x < 12 := by have := hs.ho12; omega
    have hop := opN_le (wd S)
    have hsa := saN_le hs hx12
    refine wp_iload_2 dX10_mean_9 rfl ?_
    refine wp_i2l dX10_mean_10 rfl ?_
    refine wp_lconst 0 dX10_mean_11 rfl rfl ?_
    refine wp_lconst 1 dX10_mean_12 rfl rfl ?_
    refine wp_csR dX10_mean_13 rfl q1979 ms_X10_in m_in rfl rfl (Nat.le_of_ble_eq_true rfl) (Nat.le_of_ble_eq_true rfl) ?_
    refine wp_ifne_b 22 dX10_mean_16 rfl rfl (fun c16 => ?_) (fun c16 => ?_)
    · refine wp_aload_0 dX10_mean_22 rfl ?_
      refine wp_cvR dX10_mean_23 rfl q2334 mv_X10_openHoles (mg_0 hm) rfl rfl (m_openHoles hm hs) rfl rfl (Nat.le_of_ble_eq_true rfl) (Nat.le_of_ble_eq_true rfl) ?_
      refine wp_istore_3 dX10_mean_26 rfl (by decide) rfl ?_
      refine wp_iload_3 dX10_mean_27 rfl ?_
      refine wp_if_ne_k 33 dX10_mean_28 rfl rfl (by have := hs.ho12; omega) (fun c28 => ?_) (fun c28 => ?_)
      · refine wp_aload_0 dX10_mean_33 rfl ?_
        refine wp_iload_1 dX10_mean_34 rfl ?_
        refine wp_cvR dX10_mean_35 rfl q2342 mv_X10_stepsToAll (mg_0 hm) rfl rfl (m_stepsToAll hm hs hx12) rfl rfl (Nat.le_of_ble_eq_true rfl) (Nat.le_of_ble_eq_true rfl) ?_
        refine wp_istore_4 dX10_mean_38 rfl (by decide) rfl ?_
        refine wp_iload_2 dX10_mean_40 rfl ?_
        refine wp_if_ne 49 dX10_mean_41 rfl rfl (fun c41 => ?_) (fun c41 => ?_)
        · refine wp_iload_3 dX10_mean_49 rfl ?_
          refine wp_iload_4 dX10_mean_50 rfl ?_
          refine wp_iload_3 dX10_mean_52 rfl ?_
          refine wp_csR dX10_mean_53 rfl q2346 ms_X10_divisor (m_divisor (by omega) (by have := hs.ho12; omega)) rfl rfl (Nat.le_of_ble_eq_true rfl) (Nat.le_of_ble_eq_true rfl) ?_
          refine wp_idiv dX10_mean_56 rfl (nI_ne0 (Nat.gcd_pos_of_pos_right _ (by omega)) (by have := Nat.gcd_le_right (saN (wd S) x) (show 0 < opN (wd S) by omega); have := hs.ho12; omega)) ?_
          exact wp_ireturn dX10_mean_57 rfl ⟨by first | (simp (disch := omega) [qmean, nI_clamp, *]; done) | (subst c41; simp (disch := omega) [qmean, nI_clamp, *]), rfl⟩
        · refine wp_iload_4 dX10_mean_44 rfl ?_
          refine wp_goto 50 dX10_mean_46 rfl rfl ?_
          refine wp_iload_4 dX10_mean_50 rfl ?_
          refine wp_iload_3 dX10_mean_52 rfl ?_
          refine wp_csR dX10_mean_53 rfl q2346 ms_X10_divisor (m_divisor (by omega) (by have := hs.ho12; omega)) rfl rfl (Nat.le_of_ble_eq_true rfl) (Nat.le_of_ble_eq_true rfl) ?_
          refine wp_idiv dX10_mean_56 rfl (nI_ne0 (Nat.gcd_pos_of_pos_right _ (by omega)) (by have := Nat.gcd_le_right (saN (wd S) x) (show 0 < opN (wd S) by omega); have := hs.ho12; omega)) ?_
          exact wp_ireturn dX10_mean_57 rfl ⟨by first | (simp (disch := omega) [qmean, nI_clamp, *]; done) | (subst c41; simp (disch := omega) [qmean, nI_clamp, *]), rfl⟩
      · refine wp_iconst (-1) dX10_mean_31 rfl rfl ?_
        exact wp_ireturn dX10_mean_32 rfl ⟨by first | (simp (disch := omega) [qmean, nI_clamp, *]; done) | (subst c41; simp (disch := omega) [qmean, nI_clamp, *]), rfl⟩
    · refine wp_bipush (-2) dX10_mean_19 rfl rfl ?_
      exact wp_ireturn dX10_mean_21 rfl ⟨by first | (simp (disch := omega) [qmean, nI_clamp, *]; done) | (subst c41; simp (disch := omega) [qmean, nI_clamp, *]), rfl⟩
theorem mL_middle {g : GW} {M : Nat} {pre post : AH} {S : SM} (hm : pre.length = M) {z : Int32} (hs : WFs (wd S)) {c n : Nat} {Q : Option Value → AH → Prop} : ∀ (k : Nat) (i b : Nat), ((hoN (wd S) ≤ i ∧ k = 0) ∨ i + k = hoN (wd S)) ∧ i < 1000 → b < 12 → Q (some (.int (nI (itr (beF (fun i b => if z = 0 then decide (saN (wd S) i < saN (wd S) b) else decide (saN (wd S) b < saN (wd S) i))) k i b)))) (mH M pre S post) → WP g 4 yX10_middle cX10_middle 4 (some .int) 33 [some (.ref M), some (.int z), some (.int (nI b)), some (.int (nI i))] [] (mH M pre S post) c n Q := by
  intro k
  induction k with
  | zero =>
    intro i b hi hb hq
    refine wp_iload_3 dX10_middle_33 rfl ?_
    refine wp_aload_0 dX10_middle_34 rfl ?_
    refine wp_cvR dX10_middle_35 rfl q2206 mv_X10_holes (mg_0 hm) rfl rfl (m_holes hm) rfl rfl (Nat.le_of_ble_eq_true rfl) (Nat.le_of_ble_eq_true rfl) ?_
    refine wp_icmp_ge 82 dX10_middle_38 rfl rfl (fun c38 => ?_) (fun c38 => ?_)
    · refine wp_iload_2 dX10_middle_82 rfl ?_
      exact wp_ireturn dX10_middle_83 rfl hq
    · exact absurd (show hoW (wd S) ≤ nI i by rw [hs.ho]; exact nI_le (by omega) (by have := hs.ho12; omega)) c38
  | succ k ih =>
    intro i b hi hb hq
    refine wp_iload_3 dX10_middle_33 rfl ?_
    refine wp_aload_0 dX10_middle_34 rfl ?_
    refine wp_cvR dX10_middle_35 rfl q2206 mv_X10_holes (mg_0 hm) rfl rfl (m_holes hm) rfl rfl (Nat.le_of_ble_eq_true rfl) (Nat.le_of_ble_eq_true rfl) ?_
    refine wp_icmp_ge 82 dX10_middle_38 rfl rfl (fun c38 => ?_) (fun c38 => ?_)
    · exact absurd c38 (show ¬ (hoW (wd S) ≤ nI i) by rw [hs.ho]; exact nI_ge (by omega) (by have := hs.ho12; omega))
    · refine wp_iload_1 dX10_middle_41 rfl ?_
      refine wp_if_ne 61 dX10_middle_42 rfl rfl (fun c42 => ?_) (fun c42 => ?_)
      · refine wp_aload_0 dX10_middle_61 rfl ?_
        refine wp_iload_3 dX10_middle_62 rfl ?_
        refine wp_cvR dX10_middle_63 rfl q2342 mv_X10_stepsToAll (mg_0 hm) rfl rfl (m_stepsToAll hm hs (by have := hs.ho12; omega)) rfl rfl (Nat.le_of_ble_eq_true rfl) (Nat.le_of_ble_eq_true rfl) ?_
        refine wp_aload_0 dX10_middle_66 rfl ?_
        refine wp_iload_2 dX10_middle_67 rfl ?_
        refine wp_cvR dX10_middle_68 rfl q2342 mv_X10_stepsToAll (mg_0 hm) rfl rfl (m_stepsToAll hm hs hb) rfl rfl (Nat.le_of_ble_eq_true rfl) (Nat.le_of_ble_eq_true rfl) ?_
        refine wp_icmp_le_k 76 dX10_middle_71 rfl rfl (by have := saN_le hs (h := i) (by have := hs.ho12; omega); omega) (by have := saN_le hs hb; omega) (fun c71 => ?_) (fun c71 => ?_)
        · refine wp_iinc_3 1 dX10_middle_76 rfl rfl (by decide) rfl ?_
          refine wp_goto 33 dX10_middle_79 rfl rfl ?_
          exact WP.cast (by simp [beF, nI_1]; (try simp only [*, if_true, if_false]); (try split) <;> first | rfl | omega) (ih (i + 1) (beF (fun i b => if z = 0 then decide (saN (wd S) i < saN (wd S) b) else decide (saN (wd S) b < saN (wd S) i)) i b) (by have := hs.ho12; omega) (beF_lt (by have := hs.ho12; omega) hb) hq)
        · refine wp_iload_3 dX10_middle_74 rfl ?_
          refine wp_istore_2 dX10_middle_75 rfl (by decide) rfl ?_
          refine wp_iinc_3 1 dX10_middle_76 rfl rfl (by decide) rfl ?_
          refine wp_goto 33 dX10_middle_79 rfl rfl ?_
          exact WP.cast (by simp [beF, nI_1]; (try simp only [*, if_true, if_false]); (try split) <;> first | rfl | omega) (ih (i + 1) (beF (fun i b => if z = 0 then decide (saN (wd S) i < saN (wd S) b) else decide (saN (wd S) b < saN (wd S) i)) i b) (by have := hs.ho12; omega) (beF_lt (by have := hs.ho12; omega) hb) hq)
      · refine wp_aload_0 dX10_middle_45 rfl ?_
        refine wp_iload_3 dX10_middle_46 rfl ?_
        refine wp_cvR dX10_middle_47 rfl q2342 mv_X10_stepsToAll (mg_0 hm) rfl rfl (m_stepsToAll hm hs (by have := hs.ho12; omega)) rfl rfl (Nat.le_of_ble_eq_true rfl) (Nat.le_of_ble_eq_true rfl) ?_
        refine wp_aload_0 dX10_middle_50 rfl ?_
        refine wp_iload_2 dX10_middle_51 rfl ?_
        refine wp_cvR dX10_middle_52 rfl q2342 mv_X10_stepsToAll (mg_0 hm) rfl rfl (m_stepsToAll hm hs hb) rfl rfl (Nat.le_of_ble_eq_true rfl) (Nat.le_of_ble_eq_true rfl) ?_
        refine wp_icmp_ge_k 76 dX10_middle_55 rfl rfl (by have := saN_le hs (h := i) (by have := hs.ho12; omega); omega) (by have := saN_le hs hb; omega) (fun c55 => ?_) (fun c55 => ?_)
        · refine wp_iinc_3 1 dX10_middle_76 rfl rfl (by decide) rfl ?_
          refine wp_goto 33 dX10_middle_79 rfl rfl ?_
          exact WP.cast (by simp [beF, nI_1]; (try simp only [*, if_true, if_false]); (try split) <;> first | rfl | omega) (ih (i + 1) (beF (fun i b => if z = 0 then decide (saN (wd S) i < saN (wd S) b) else decide (saN (wd S) b < saN (wd S) i)) i b) (by have := hs.ho12; omega) (beF_lt (by have := hs.ho12; omega) hb) hq)
        · refine wp_goto 74 dX10_middle_58 rfl rfl ?_
          refine wp_iload_3 dX10_middle_74 rfl ?_
          refine wp_istore_2 dX10_middle_75 rfl (by decide) rfl ?_
          refine wp_iinc_3 1 dX10_middle_76 rfl rfl (by decide) rfl ?_
          refine wp_goto 33 dX10_middle_79 rfl rfl ?_
          exact WP.cast (by simp [beF, nI_1]; (try simp only [*, if_true, if_false]); (try split) <;> first | rfl | omega) (ih (i + 1) (beF (fun i b => if z = 0 then decide (saN (wd S) i < saN (wd S) b) else decide (saN (wd S) b < saN (wd S) i)) i b) (by have := hs.ho12; omega) (beF_lt (by have := hs.ho12; omega) hb) hq)
theorem q_m_middle {g : GW} {M : Nat} {pre post : AH} {S : SM} (hm : pre.length = M) {z : Int32} (hs : WFs (wd S)) : SPx g 4 0 0 yX10_middle cX10_middle 4 (some .int) [.ref M, .int z] (mH M pre S post) (some (.int (qmiddle (wd S) z))) (mH M pre S post) := by
  refine SPx.intro [some (.ref M), some (.int z), none, none] (pfn (by decide)) rfl (Nat.le_of_ble_eq_true rfl) ?_
  refine wp_aload_0 dX10_middle_0 rfl ?_
  refine wp_cvR dX10_middle_1 rfl q2154 mv_X10_isBoard (mg_0 hm) rfl rfl (m_isBoard hm) rfl rfl (Nat.le_of_ble_eq_true rfl) (Nat.le_of_ble_eq_true rfl) ?_
  refine wp_ifeq_b 17 dX10_middle_4 rfl rfl (fun c4 => ?_) (fun c4 => ?_)
  · refine wp_bipush (-2) dX10_middle_17 rfl rfl ?_
    exact wp_ireturn dX10_middle_19 rfl ⟨by simp (disch := omega) [qmiddle, *], rfl⟩
  · refine wp_iload_1 dX10_middle_7 rfl ?_
    refine wp_i2l dX10_middle_8 rfl ?_
    refine wp_lconst 0 dX10_middle_9 rfl rfl ?_
    refine wp_lconst 1 dX10_middle_10 rfl rfl ?_
    refine wp_csR dX10_middle_11 rfl q1979 ms_X10_in m_in rfl rfl (Nat.le_of_ble_eq_true rfl) (Nat.le_of_ble_eq_true rfl) ?_
    refine wp_ifne_b 20 dX10_middle_14 rfl rfl (fun c14 => ?_) (fun c14 => ?_)
    · refine wp_aload_0 dX10_middle_20 rfl ?_
      refine wp_cvR dX10_middle_21 rfl q2334 mv_X10_openHoles (mg_0 hm) rfl rfl (m_openHoles hm hs) rfl rfl (Nat.le_of_ble_eq_true rfl) (Nat.le_of_ble_eq_true rfl) ?_
      refine wp_if_ne_k 29 dX10_middle_24 rfl rfl (by have := opN_le (wd S); have := hs.ho12; omega) (fun c24 => ?_) (fun c24 => ?_)
      · refine wp_iconst 0 dX10_middle_29 rfl rfl ?_
        refine wp_istore_2 dX10_middle_30 rfl (by decide) rfl ?_
        refine wp_iconst 1 dX10_middle_31 rfl rfl ?_
        refine wp_istore_3 dX10_middle_32 rfl (by decide) rfl ?_
        exact mL_middle hm hs (hoN (wd S) - 1) 1 0 (by omega) (by omega) ⟨by simp (disch := omega) [qmiddle, beN, *], rfl⟩
      · refine wp_iconst (-1) dX10_middle_27 rfl rfl ?_
        exact wp_ireturn dX10_middle_28 rfl ⟨by simp (disch := omega) [qmiddle, *], rfl⟩
    · refine wp_bipush (-2) dX10_middle_17 rfl rfl ?_
      exact wp_ireturn dX10_middle_19 rfl ⟨by simp (disch := omega) [qmiddle, *], rfl⟩
theorem mL_bits {g : GW} {h : AH} {x : Int32} {c n : Nat} {Q : Option Value → AH → Prop} : ∀ (k : Nat) (i : Nat) (a : Int32), i + k = 12 → Q (some (.int (itr (bitF x) k i a))) h → WP g 1 yX10_bits cX10_bits 3 (some .int) 4 [some (.int x), some (.int a), some (.int (nI i))] [] h c n Q := by
  intro k
  induction k with
  | zero =>
    intro i a hi hq
    refine wp_iload_2 dX10_bits_4 rfl ?_
    refine wp_bipush 12 dX10_bits_5 rfl rfl ?_
    refine wp_icmp_ge 24 dX10_bits_7 rfl rfl (fun c7 => ?_) (fun c7 => ?_)
    · refine wp_iload_1 dX10_bits_24 rfl ?_
      exact wp_ireturn dX10_bits_25 rfl hq
    · exact absurd (show (12 : Int32) ≤ nI i by rw [show i = 12 by omega]; decide) c7
  | succ k ih =>
    intro i a hi hq
    refine wp_iload_2 dX10_bits_4 rfl ?_
    refine wp_bipush 12 dX10_bits_5 rfl rfl ?_
    refine wp_icmp_ge 24 dX10_bits_7 rfl rfl (fun c7 => ?_) (fun c7 => ?_)
    · exact absurd c7 (show ¬ ((12 : Int32) ≤ nI i) from nI_ge (a := i) (b := 12) (by omega) (by omega))
    · refine wp_iload_1 dX10_bits_10 rfl ?_
      refine wp_iload_0 dX10_bits_11 rfl ?_
      refine wp_iload_2 dX10_bits_12 rfl ?_
      refine wp_ishr dX10_bits_13 rfl ?_
      refine wp_iconst 1 dX10_bits_14 rfl rfl ?_
      refine wp_iand dX10_bits_15 rfl ?_
      refine wp_iadd dX10_bits_16 rfl ?_
      refine wp_istore_1 dX10_bits_17 rfl (by decide) rfl ?_
      refine wp_iinc_2 1 dX10_bits_18 rfl rfl (by decide) rfl ?_
      refine wp_goto 4 dX10_bits_21 rfl rfl ?_
      exact WP.cast (by simp [bitF, nI_1, *]) (ih (i + 1) (bitF x i a) (by omega) hq)
theorem m_bits {g : GW} {h : AH} {x : Int32} : SPx g 1 0 0 yX10_bits cX10_bits 3 (some .int) [.int x] h (some (.int (bitW x))) h := by
  refine SPx.intro [some (.int x), none, none] (pfn (by decide)) rfl (Nat.le_of_ble_eq_true rfl) ?_
  refine wp_iconst 0 dX10_bits_0 rfl rfl ?_
  refine wp_istore_1 dX10_bits_1 rfl (by decide) rfl ?_
  refine wp_iconst 0 dX10_bits_2 rfl rfl ?_
  refine wp_istore_2 dX10_bits_3 rfl (by decide) rfl ?_
  exact mL_bits 12 0 0 rfl ⟨rfl, rfl⟩
theorem mL_reachOf {g : GW} {M : Nat} {pre post : AH} {S : SM} (hm : pre.length = M) {p : Nat} {h : Int32} (hp : p < 4) (hs : WFs (wd S)) {c n : Nat} {Q : Option Value → AH → Prop} : ∀ (k : Nat) (i : Nat) (b : Int32), i + k = hoN (wd S) → Q (some (.int (itr (reF (wd S) p h) k i b))) (mH M pre S post) → WP g 3 yX10_reachOf cX10_reachOf 6 (some .int) 14 [some (.ref M), some (.int (nI p)), some (.int h), some (.int b), some (.int (stayW (wd S) 0 - 1)), some (.int (nI i))] [] (mH M pre S post) c n Q := by
  intro k
  induction k with
  | zero =>
    intro i b hi hq
    refine wp_iload_5 dX10_reachOf_14 rfl ?_
    refine wp_aload_0 dX10_reachOf_16 rfl ?_
    refine wp_cvR dX10_reachOf_17 rfl q2206 mv_X10_holes (mg_0 hm) rfl rfl (m_holes hm) rfl rfl (Nat.le_of_ble_eq_true rfl) (Nat.le_of_ble_eq_true rfl) ?_
    refine wp_icmp_ge 76 dX10_reachOf_20 rfl rfl (fun c20 => ?_) (fun c20 => ?_)
    · refine wp_iload_3 dX10_reachOf_76 rfl ?_
      exact wp_ireturn dX10_reachOf_77 rfl hq
    · exact absurd (show hoW (wd S) ≤ nI i by rw [hs.ho]; exact nI_le (by omega) (by have := hs.ho12; omega)) c20
  | succ k ih =>
    intro i b hi hq
    refine wp_iload_5 dX10_reachOf_14 rfl ?_
    refine wp_aload_0 dX10_reachOf_16 rfl ?_
    refine wp_cvR dX10_reachOf_17 rfl q2206 mv_X10_holes (mg_0 hm) rfl rfl (m_holes hm) rfl rfl (Nat.le_of_ble_eq_true rfl) (Nat.le_of_ble_eq_true rfl) ?_
    refine wp_icmp_ge 76 dX10_reachOf_20 rfl rfl (fun c20 => ?_) (fun c20 => ?_)
    · exact absurd c20 (show ¬ (hoW (wd S) ≤ nI i) by rw [hs.ho]; exact nI_ge (by omega) (by have := hs.ho12; omega))
    · refine wp_aload_0 dX10_reachOf_23 rfl ?_
      refine wp_iload_5 dX10_reachOf_24 rfl ?_
      refine wp_cvR dX10_reachOf_26 rfl q2338 mv_X10_isShut (mg_0 hm) rfl rfl (m_isShut hm) rfl rfl (Nat.le_of_ble_eq_true rfl) (Nat.le_of_ble_eq_true rfl) ?_
      refine wp_ifne_b 70 dX10_reachOf_29 rfl rfl (fun c29 => ?_) (fun c29 => ?_)
      · refine wp_iinc_5 1 dX10_reachOf_70 rfl rfl (by decide) rfl ?_
        refine wp_goto 14 dX10_reachOf_73 rfl rfl ?_
        exact WP.cast (by simp [reF, nI_1, ← Int32.not_lt, *]) (ih (i + 1) (reF (wd S) p h i b) (by omega) hq)
      · refine wp_aload_0 dX10_reachOf_32 rfl ?_
        refine wp_iload_1 dX10_reachOf_33 rfl ?_
        refine wp_iconst 1 dX10_reachOf_34 rfl rfl ?_
        refine wp_cvR dX10_reachOf_35 rfl q2134 mv_X10_of (mg_0 hm) rfl rfl (m_of (w := 1) hm hp (by omega)) rfl rfl (Nat.le_of_ble_eq_true rfl) (Nat.le_of_ble_eq_true rfl) ?_
        refine wp_aload_0 dX10_reachOf_38 rfl ?_
        refine wp_iload_2 dX10_reachOf_39 rfl ?_
        refine wp_iload_5 dX10_reachOf_40 rfl ?_
        refine wp_cvR dX10_reachOf_42 rfl q2210 mv_X10_stepsOf (mg_0 hm) rfl rfl (m_stepsOf hm (hs.w0ne (i := i) (by omega))) rfl rfl (Nat.le_of_ble_eq_true rfl) (Nat.le_of_ble_eq_true rfl) ?_
        refine wp_aload_0 dX10_reachOf_45 rfl ?_
        refine wp_iload_1 dX10_reachOf_46 rfl ?_
        refine wp_aload_0 dX10_reachOf_47 rfl ?_
        refine wp_iload_1 dX10_reachOf_48 rfl ?_
        refine wp_iconst 1 dX10_reachOf_49 rfl rfl ?_
        refine wp_cvR dX10_reachOf_50 rfl q2134 mv_X10_of (mg_0 hm) rfl rfl (m_of (w := 1) hm hp (by omega)) rfl rfl (Nat.le_of_ble_eq_true rfl) (Nat.le_of_ble_eq_true rfl) ?_
        refine wp_cvR dX10_reachOf_53 rfl q2219 mv_X10_paceIn (mg_0 hm) rfl rfl (m_paceIn hm hp) rfl rfl (Nat.le_of_ble_eq_true rfl) (Nat.le_of_ble_eq_true rfl) ?_
        refine wp_imul dX10_reachOf_56 rfl ?_
        refine wp_iadd dX10_reachOf_57 rfl ?_
        refine wp_iload_4 dX10_reachOf_58 rfl ?_
        refine wp_icmp_gt 70 dX10_reachOf_60 rfl rfl (fun c60 => ?_) (fun c60 => ?_)
        · refine wp_iinc_5 1 dX10_reachOf_70 rfl rfl (by decide) rfl ?_
          refine wp_goto 14 dX10_reachOf_73 rfl rfl ?_
          exact WP.cast (by simp [reF, nI_1, ← Int32.not_lt, *]) (ih (i + 1) (reF (wd S) p h i b) (by omega) hq)
        · refine wp_iload_3 dX10_reachOf_63 rfl ?_
          refine wp_iconst 1 dX10_reachOf_64 rfl rfl ?_
          refine wp_iload_5 dX10_reachOf_65 rfl ?_
          refine wp_ishl dX10_reachOf_67 rfl ?_
          refine wp_ior dX10_reachOf_68 rfl ?_
          refine wp_istore_3 dX10_reachOf_69 rfl (by decide) rfl ?_
          refine wp_iinc_5 1 dX10_reachOf_70 rfl rfl (by decide) rfl ?_
          refine wp_goto 14 dX10_reachOf_73 rfl rfl ?_
          exact WP.cast (by simp [reF, nI_1, ← Int32.not_lt, *]) (ih (i + 1) (reF (wd S) p h i b) (by omega) hq)
theorem m_reachOf {g : GW} {M : Nat} {pre post : AH} {S : SM} (hm : pre.length = M) {p : Nat} {h : Int32} (hp : p < 4) (hs : WFs (wd S)) : SPx g 3 0 0 yX10_reachOf cX10_reachOf 6 (some .int) [.ref M, .int (nI p), .int h] (mH M pre S post) (some (.int (reW (wd S) p h))) (mH M pre S post) := by
  refine SPx.intro [some (.ref M), some (.int (nI p)), some (.int h), none, none, none] (pfn (by decide)) rfl (Nat.le_of_ble_eq_true rfl) ?_
  refine wp_iconst 0 dX10_reachOf_0 rfl rfl ?_
  refine wp_istore_3 dX10_reachOf_1 rfl (by decide) rfl ?_
  refine wp_aload_0 dX10_reachOf_2 rfl ?_
  refine wp_iconst 0 dX10_reachOf_3 rfl rfl ?_
  refine wp_cvR dX10_reachOf_4 rfl q2146 mv_X10_stayIn (mg_0 hm) rfl rfl (m_stayIn hm hs) rfl rfl (Nat.le_of_ble_eq_true rfl) (Nat.le_of_ble_eq_true rfl) ?_
  refine wp_iconst 1 dX10_reachOf_7 rfl rfl ?_
  refine wp_isub dX10_reachOf_8 rfl ?_
  refine wp_istore_4 dX10_reachOf_9 rfl (by decide) rfl ?_
  refine wp_iconst 0 dX10_reachOf_11 rfl rfl ?_
  refine wp_istore_5 dX10_reachOf_12 rfl (by decide) rfl ?_
  exact mL_reachOf hm hp hs _ 0 0 (Nat.zero_add _) ⟨rfl, rfl⟩
theorem q_m_reach {g : GW} {M : Nat} {pre post : AH} {S : SM} (hm : pre.length = M) {x z : Int32} (hs : WFs (wd S)) : SPx g 4 0 0 yX10_reach cX10_reach 3 (some .int) [.ref M, .int x, .int z] (mH M pre S post) (some (.int (qreach (wd S) x z))) (mH M pre S post) := by
  refine SPx.intro [some (.ref M), some (.int x), some (.int z)] (pfn (by decide)) rfl (Nat.le_of_ble_eq_true rfl) ?_
  refine wp_aload_0 dX10_reach_0 rfl ?_
  refine wp_iload_1 dX10_reach_1 rfl ?_
  refine wp_cvR dX10_reach_2 rfl q2129 mv_X10_isPlayer (mg_0 hm) rfl rfl (m_isPlayer hm) rfl rfl (Nat.le_of_ble_eq_true rfl) (Nat.le_of_ble_eq_true rfl) ?_
  refine wp_ifeq_b 26 dX10_reach_5 rfl rfl (fun c5 => ?_) (fun c5 => ?_)
  · refine wp_bipush (-2) dX10_reach_26 rfl rfl ?_
    exact wp_ireturn dX10_reach_28 rfl ⟨by simp (disch := omega) [qreach, nI_clamp, *], rfl⟩
  · obtain ⟨p, hp, rfl⟩ := plW_of hs c5
    have hp4 : p < 4 := by have := hs.np.2; omega
    refine wp_aload_0 dX10_reach_8 rfl ?_
    refine wp_iload_2 dX10_reach_9 rfl ?_
    refine wp_i2l dX10_reach_10 rfl ?_
    refine wp_cvR dX10_reach_11 rfl q2202 mv_X10_isHole (mg_0 hm) rfl rfl (m_isHole hm) rfl rfl (Nat.le_of_ble_eq_true rfl) (Nat.le_of_ble_eq_true rfl) ?_
    refine wp_ifeq_b 26 dX10_reach_14 rfl rfl (fun c14 => ?_) (fun c14 => ?_)
    · refine wp_bipush (-2) dX10_reach_26 rfl rfl ?_
      exact wp_ireturn dX10_reach_28 rfl ⟨by simp (disch := omega) [qreach, nI_clamp, *], rfl⟩
    · refine wp_aload_0 dX10_reach_17 rfl ?_
      refine wp_iload_1 dX10_reach_18 rfl ?_
      refine wp_iload_2 dX10_reach_19 rfl ?_
      refine wp_cvR dX10_reach_20 rfl q2357 mv_X10_reachOf (mg_0 hm) rfl rfl (m_reachOf hm hp4 hs) rfl rfl (Nat.le_of_ble_eq_true rfl) (Nat.le_of_ble_eq_true rfl) ?_
      refine wp_goto 28 dX10_reach_23 rfl rfl ?_
      exact wp_ireturn dX10_reach_28 rfl ⟨by simp (disch := omega) [qreach, nI_clamp, *], rfl⟩
theorem mL_post {g : GW} {M : Nat} {pre post : AH} {S : SM} (hm : pre.length = M) {p : Nat} (hp4 : p < 4) (hs : WFs (wd S)) {c n : Nat} {Q : Option Value → AH → Prop} : ∀ (k : Nat) (i b : Nat), ((hoN (wd S) ≤ i ∧ k = 0) ∨ i + k = hoN (wd S)) ∧ i < 1000 → Q (some (.int (nI (itr (beF (fun i b => decide (bitW (reW (wd S) p (nI b)) < bitW (reW (wd S) p (nI i))))) k i b)))) (mH M pre S post) → WP g 4 yX10_post cX10_post 4 (some .int) 15 [some (.ref M), some (.int (nI p)), some (.int (nI b)), some (.int (nI i))] [] (mH M pre S post) c n Q := by
  intro k
  induction k with
  | zero =>
    intro i b hi hq
    refine wp_iload_3 dX10_post_15 rfl ?_
    refine wp_aload_0 dX10_post_16 rfl ?_
    refine wp_cvR dX10_post_17 rfl q2206 mv_X10_holes (mg_0 hm) rfl rfl (m_holes hm) rfl rfl (Nat.le_of_ble_eq_true rfl) (Nat.le_of_ble_eq_true rfl) ?_
    refine wp_icmp_ge 56 dX10_post_20 rfl rfl (fun c20 => ?_) (fun c20 => ?_)
    · refine wp_iload_2 dX10_post_56 rfl ?_
      exact wp_ireturn dX10_post_57 rfl hq
    · exact absurd (show hoW (wd S) ≤ nI i by rw [hs.ho]; exact nI_le (by omega) (by have := hs.ho12; omega)) c20
  | succ k ih =>
    intro i b hi hq
    refine wp_iload_3 dX10_post_15 rfl ?_
    refine wp_aload_0 dX10_post_16 rfl ?_
    refine wp_cvR dX10_post_17 rfl q2206 mv_X10_holes (mg_0 hm) rfl rfl (m_holes hm) rfl rfl (Nat.le_of_ble_eq_true rfl) (Nat.le_of_ble_eq_true rfl) ?_
    refine wp_icmp_ge 56 dX10_post_20 rfl rfl (fun c20 => ?_) (fun c20 => ?_)
    · exact absurd c20 (show ¬ (hoW (wd S) ≤ nI i) by rw [hs.ho]; exact nI_ge (by omega) (by have := hs.ho12; omega))
    · refine wp_aload_0 dX10_post_23 rfl ?_
      refine wp_iload_1 dX10_post_24 rfl ?_
      refine wp_iload_3 dX10_post_25 rfl ?_
      refine wp_cvR dX10_post_26 rfl q2357 mv_X10_reachOf (mg_0 hm) rfl rfl (m_reachOf hm hp4 hs) rfl rfl (Nat.le_of_ble_eq_true rfl) (Nat.le_of_ble_eq_true rfl) ?_
      refine wp_csR dX10_post_29 rfl q2365 ms_X10_bits m_bits rfl rfl (Nat.le_of_ble_eq_true rfl) (Nat.le_of_ble_eq_true rfl) ?_
      refine wp_aload_0 dX10_post_32 rfl ?_
      refine wp_iload_1 dX10_post_33 rfl ?_
      refine wp_iload_2 dX10_post_34 rfl ?_
      refine wp_cvR dX10_post_35 rfl q2357 mv_X10_reachOf (mg_0 hm) rfl rfl (m_reachOf hm hp4 hs) rfl rfl (Nat.le_of_ble_eq_true rfl) (Nat.le_of_ble_eq_true rfl) ?_
      refine wp_csR dX10_post_38 rfl q2365 ms_X10_bits m_bits rfl rfl (Nat.le_of_ble_eq_true rfl) (Nat.le_of_ble_eq_true rfl) ?_
      refine wp_icmp_le 48 dX10_post_41 rfl rfl (fun c41 => ?_) (fun c41 => ?_)
      · refine wp_iload_2 dX10_post_48 rfl ?_
        refine wp_istore_2 dX10_post_49 rfl (by decide) rfl ?_
        refine wp_iinc_3 1 dX10_post_50 rfl rfl (by decide) rfl ?_
        refine wp_goto 15 dX10_post_53 rfl rfl ?_
        exact WP.cast (by simp [beF, nI_1, ← Int32.not_le, *]) (ih (i + 1) (beF (fun i b => decide (bitW (reW (wd S) p (nI b)) < bitW (reW (wd S) p (nI i)))) i b) (by have := hs.ho12; omega) hq)
      · refine wp_iload_3 dX10_post_44 rfl ?_
        refine wp_goto 49 dX10_post_45 rfl rfl ?_
        refine wp_istore_2 dX10_post_49 rfl (by decide) rfl ?_
        refine wp_iinc_3 1 dX10_post_50 rfl rfl (by decide) rfl ?_
        refine wp_goto 15 dX10_post_53 rfl rfl ?_
        exact WP.cast (by simp [beF, nI_1, ← Int32.not_le, *]) (ih (i + 1) (beF (fun i b => decide (bitW (reW (wd S) p (nI b)) < bitW (reW (wd S) p (nI i)))) i b) (by have := hs.ho12; omega) hq)
theorem q_m_post {g : GW} {M : Nat} {pre post : AH} {S : SM} (hm : pre.length = M) {x : Int32} (hs : WFs (wd S)) : SPx g 4 0 0 yX10_post cX10_post 4 (some .int) [.ref M, .int x] (mH M pre S post) (some (.int (qpost (wd S) x))) (mH M pre S post) := by
  refine SPx.intro [some (.ref M), some (.int x), none, none] (pfn (by decide)) rfl (Nat.le_of_ble_eq_true rfl) ?_
  refine wp_aload_0 dX10_post_0 rfl ?_
  refine wp_iload_1 dX10_post_1 rfl ?_
  refine wp_cvR dX10_post_2 rfl q2129 mv_X10_isPlayer (mg_0 hm) rfl rfl (m_isPlayer hm) rfl rfl (Nat.le_of_ble_eq_true rfl) (Nat.le_of_ble_eq_true rfl) ?_
  refine wp_ifne_b 11 dX10_post_5 rfl rfl (fun c5 => ?_) (fun c5 => ?_)
  · obtain ⟨p, hp, rfl⟩ := plW_of hs c5
    have hp4 : p < 4 := by have := hs.np.2; omega
    refine wp_iconst 0 dX10_post_11 rfl rfl ?_
    refine wp_istore_2 dX10_post_12 rfl (by decide) rfl ?_
    refine wp_iconst 1 dX10_post_13 rfl rfl ?_
    refine wp_istore_3 dX10_post_14 rfl (by decide) rfl ?_
    exact mL_post hm hp4 hs (hoN (wd S) - 1) 1 0 (by omega) ⟨by simp (disch := omega) [qpost, beN, nI_clamp, *], rfl⟩
  · refine wp_bipush (-2) dX10_post_8 rfl rfl ?_
    exact wp_ireturn dX10_post_10 rfl ⟨by simp (disch := omega) [qpost, nI_clamp, *], rfl⟩
