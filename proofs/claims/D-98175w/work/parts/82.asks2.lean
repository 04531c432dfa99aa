/-! ===== the class: what it is asked, on ===== -/
set_option maxRecDepth 100000
theorem cL_stepsFrom {g : GW} {C : SC} {S : SM} {X : AH} {lo hi b : Nat} {A : BA} {W : Nat → Int32} (hE : EV C X lo hi b A W) {h : Nat} (hh : h < 12) {c n : Nat} {Q : Option Value → AH → Prop} : ∀ (k : Nat) (i a : Nat), i + k = hoN W → Q (some (.int (nI (itr (fun i n => n + (if shW W (nI i) = true then 0 else stN (nW W 0) h i)) k i a)))) (cH C S X) → WP g 3 yX0_stepsFrom cX0_stepsFrom 4 (some .int) 4 [some (.ref 0), some (.int (nI h)), some (.int (nI a)), some (.int (nI i))] [] (cH C S X) c n Q := by
  intro k
  induction k with
  | zero =>
    intro i a hi hq
    refine wp_iload_3 dX0_stepsFrom_4 rfl ?_
    refine wp_aload_0 dX0_stepsFrom_5 rfl ?_
    refine wp_getf dX0_stepsFrom_6 rfl q721 fk0_1 hE.o0 rfl ?_
    refine wp_cvR dX0_stepsFrom_9 rfl q1329 mv_X2_holes hE.ob rfl rfl (b_holes hE.B) rfl rfl (Nat.le_of_ble_eq_true rfl) (Nat.le_of_ble_eq_true rfl) ?_
    rw [hE.s.ho]
    refine wp_icmp_ge_k 42 dX0_stepsFrom_12 rfl rfl (by have := hE.s.ho12; omega) (by have := hE.s.ho12; omega) (fun c12 => ?_) (fun c12 => ?_)
    · refine wp_iload_2 dX0_stepsFrom_42 rfl ?_
      exact wp_ireturn dX0_stepsFrom_43 rfl hq
    · exact absurd c12 (by omega)
  | succ k ih =>
    intro i a hi hq
    refine wp_iload_3 dX0_stepsFrom_4 rfl ?_
    refine wp_aload_0 dX0_stepsFrom_5 rfl ?_
    refine wp_getf dX0_stepsFrom_6 rfl q721 fk0_1 hE.o0 rfl ?_
    refine wp_cvR dX0_stepsFrom_9 rfl q1329 mv_X2_holes hE.ob rfl rfl (b_holes hE.B) rfl rfl (Nat.le_of_ble_eq_true rfl) (Nat.le_of_ble_eq_true rfl) ?_
    rw [hE.s.ho]
    refine wp_icmp_ge_k 42 dX0_stepsFrom_12 rfl rfl (by have := hE.s.ho12; omega) (by have := hE.s.ho12; omega) (fun c12 => ?_) (fun c12 => ?_)
    · exact absurd c12 (by omega)
    · refine wp_iload_2 dX0_stepsFrom_15 rfl ?_
      refine wp_aload_0 dX0_stepsFrom_16 rfl ?_
      refine wp_iload_3 dX0_stepsFrom_17 rfl ?_
      refine wp_cvR dX0_stepsFrom_18 rfl q1274 mv_X0_isOpen hE.o0 rfl rfl (c_isOpen hE) rfl rfl (Nat.le_of_ble_eq_true rfl) (Nat.le_of_ble_eq_true rfl) ?_
      refine wp_ifeq_b 33 dX0_stepsFrom_21 rfl rfl (fun c21 => ?_) (fun c21 => ?_)
      · refine wp_iconst 0 dX0_stepsFrom_33 rfl rfl ?_
        refine wp_iadd dX0_stepsFrom_34 rfl ?_
        refine wp_istore_2 dX0_stepsFrom_35 rfl (by decide) rfl ?_
        refine wp_iinc_3 1 dX0_stepsFrom_36 rfl rfl (by decide) rfl ?_
        refine wp_goto 4 dX0_stepsFrom_39 rfl rfl ?_
        exact WP.cast (by cases hsh : shW W (nI i) <;> simp_all [nI_1, ← nI_add]) (ih (i + 1) (a + (if shW W (nI i) = true then 0 else stN (nW W 0) h i)) (by omega) hq)
      · refine wp_aload_0 dX0_stepsFrom_24 rfl ?_
        refine wp_iload_1 dX0_stepsFrom_25 rfl ?_
        refine wp_iload_3 dX0_stepsFrom_26 rfl ?_
        refine wp_cvR dX0_stepsFrom_27 rfl q1279 mv_X0_stepsOf hE.o0 rfl rfl (c_stepsOf hE (hE.s.w0ne (i := i) (by omega))) rfl rfl (Nat.le_of_ble_eq_true rfl) (Nat.le_of_ble_eq_true rfl) ?_
        rw [stW_n hE.s (hE.s.w0 (i := i) (by omega)) (show h < 1000000000 by omega) (show i < 1000000000 by have := hE.s.ho12; omega)]
        refine wp_goto 34 dX0_stepsFrom_30 rfl rfl ?_
        refine wp_iadd dX0_stepsFrom_34 rfl ?_
        refine wp_istore_2 dX0_stepsFrom_35 rfl (by decide) rfl ?_
        refine wp_iinc_3 1 dX0_stepsFrom_36 rfl rfl (by decide) rfl ?_
        refine wp_goto 4 dX0_stepsFrom_39 rfl rfl ?_
        exact WP.cast (by cases hsh : shW W (nI i) <;> simp_all [nI_1, ← nI_add]) (ih (i + 1) (a + (if shW W (nI i) = true then 0 else stN (nW W 0) h i)) (by omega) hq)
theorem c_stepsFrom {g : GW} {C : SC} {S : SM} {X : AH} {lo hi b : Nat} {A : BA} {W : Nat → Int32} (hE : EV C X lo hi b A W) {h : Nat} (hh : h < 12) : SPx g 3 0 0 yX0_stepsFrom cX0_stepsFrom 4 (some .int) [.ref 0, .int (nI h)] (cH C S X) (some (.int (nI (saN W h)))) (cH C S X) := by
  refine SPx.intro [some (.ref 0), some (.int (nI h)), none, none] (pfn (by decide)) rfl (Nat.le_of_ble_eq_true rfl) ?_
  refine wp_iconst 0 dX0_stepsFrom_0 rfl rfl ?_
  refine wp_istore_2 dX0_stepsFrom_1 rfl (by decide) rfl ?_
  refine wp_iconst 0 dX0_stepsFrom_2 rfl rfl ?_
  refine wp_istore_3 dX0_stepsFrom_3 rfl (by decide) rfl ?_
  exact cL_stepsFrom hE hh (hoN W) 0 0 (Nat.zero_add _) ⟨rfl, rfl⟩
theorem c_common {g : GW} {h : AH} : ∀ (f x y : Nat), y ≤ f → x < 1000000000 → y < 1000000000 → SPx g (f + 1) 0 0 yX0_common cX0_common 4 (some .long) [.long (lN x), .long (lN y)] h (some (.long (lN (Nat.gcd x y)))) h := by
  intro f
  induction f with
  | zero =>
    intro x y hf hx hy
    obtain rfl : y = 0 := by omega
    refine SPx.intro [some (.long (lN x)), none, some (.long (lN 0)), none] (pfn (by decide)) rfl (Nat.le_of_ble_eq_true rfl) ?_
    refine wp_lload_2 dX0_common_0 rfl ?_
    refine wp_lconst 0 dX0_common_1 rfl rfl ?_
    refine wp_lcmp dX0_common_2 rfl ?_
    refine wp_if_ne 10 dX0_common_3 rfl rfl (fun c3 => ?_) (fun c3 => ?_)
    · exact absurd ((lg_cmp_eq _ _).mpr (show lN 0 = lN 0 from rfl)) c3
    · refine wp_lload_0 dX0_common_6 rfl ?_
      refine wp_goto 17 dX0_common_7 rfl rfl ?_
      exact wp_lreturn dX0_common_17 rfl ⟨by rw [Nat.gcd_zero_right], rfl⟩
  | succ f ih =>
    intro x y hf hx hy
    refine SPx.intro [some (.long (lN x)), none, some (.long (lN y)), none] (pfn (by decide)) rfl (Nat.le_of_ble_eq_true rfl) ?_
    rcases Nat.eq_zero_or_pos y with q | q
    · subst q
      refine wp_lload_2 dX0_common_0 rfl ?_
      refine wp_lconst 0 dX0_common_1 rfl rfl ?_
      refine wp_lcmp dX0_common_2 rfl ?_
      refine wp_if_ne 10 dX0_common_3 rfl rfl (fun c3 => ?_) (fun c3 => ?_)
      · exact absurd ((lg_cmp_eq _ _).mpr (show lN 0 = lN 0 from rfl)) c3
      · refine wp_lload_0 dX0_common_6 rfl ?_
        refine wp_goto 17 dX0_common_7 rfl rfl ?_
        exact wp_lreturn dX0_common_17 rfl ⟨by rw [Nat.gcd_zero_right], rfl⟩
    · obtain ⟨y, rfl⟩ : ∃ z, y = z + 1 := ⟨y - 1, by omega⟩
      refine wp_lload_2 dX0_common_0 rfl ?_
      refine wp_lconst 0 dX0_common_1 rfl rfl ?_
      refine wp_lcmp dX0_common_2 rfl ?_
      refine wp_if_ne 10 dX0_common_3 rfl rfl (fun c3 => ?_) (fun c3 => ?_)
      · refine wp_lload_2 dX0_common_10 rfl ?_
        refine wp_lload_0 dX0_common_11 rfl ?_
        refine wp_lload_2 dX0_common_12 rfl ?_
        refine wp_lrem dX0_common_13 rfl (fun q => absurd ((lN_eq (a := y + 1) (b := 0) (by omega) (by omega)).mp q) (Nat.succ_ne_zero y)) ?_
        rw [pk_lRem (by omega) (Nat.succ_pos y) (by omega)]
        refine wp_csR dX0_common_14 rfl q1465 ms_X0_common (ih (y + 1) (x % (y + 1)) (by have := Nat.mod_lt x (show 0 < y + 1 by omega); omega) (by omega) (by have := Nat.mod_lt x (show 0 < y + 1 by omega); omega)) rfl rfl (Nat.le_refl _) (Nat.le_of_ble_eq_true rfl) ?_
        exact wp_lreturn dX0_common_17 rfl ⟨by rw [Nat.gcd_comm x (y + 1), Nat.gcd_rec (y + 1) x, Nat.gcd_comm], rfl⟩
      · exact absurd ((lN_eq (a := y + 1) (b := 0) (by omega) (by omega)).mp ((lg_cmp_eq _ _).mp c3)) (Nat.succ_ne_zero y)
theorem q_c_mean {g : GW} {C : SC} {S : SM} {X : AH} {lo hi b : Nat} {A : BA} {W : Nat → Int32} (hE : EV C X lo hi b A W) {x z : Int32} : SP g 14 0 0 yX0_mean cX0_mean 5 (some .int) [.ref 0, .int x, .int z] (cH C S X) (QC C S X (.int (qmean W x z))) := by
  refine SP.intro [some (.ref 0), some (.int x), some (.int z), none, none] (pfn (by decide)) rfl (Nat.le_of_ble_eq_true rfl) ?_
  refine wp_aload_0 dX0_mean_0 rfl ?_
  refine wp_iload_1 dX0_mean_1 rfl ?_
  refine wp_i2l dX0_mean_2 rfl ?_
  refine wp_cvR dX0_mean_3 rfl q1325 mv_X0_isHole hE.o0 rfl rfl (c_isHole hE) rfl rfl (Nat.le_of_ble_eq_true rfl) (Nat.le_of_ble_eq_true rfl) ?_
  refine wp_ifeq_b 19 dX0_mean_6 rfl rfl (fun c6 => ?_) (fun c6 => ?_)
  · refine wp_bipush (-2) dX0_mean_19 rfl rfl ?_
    exact wp_ireturn dX0_mean_21 rfl ⟨by first | (simp (disch := omega) [qmean, nI_clamp, *]; done) | (subst c41; simp (disch := omega) [qmean, nI_clamp, *]), QC0.rf⟩
  · obtain ⟨x, hx, rfl⟩ := hlL_of hE.s c6
    have h12 := hE.s.ho12
    have hx12 : x < 12 := by omega
    have hop := opN_le W
    have hsa := saN_le hE.s hx12
    refine wp_iload_2 dX0_mean_9 rfl ?_
    refine wp_i2l dX0_mean_10 rfl ?_
    refine wp_lconst 0 dX0_mean_11 rfl rfl ?_
    refine wp_lconst 1 dX0_mean_12 rfl rfl ?_
    refine wp_csR dX0_mean_13 rfl q190 ms_X0_in c_in rfl rfl (Nat.le_of_ble_eq_true rfl) (Nat.le_of_ble_eq_true rfl) ?_
    refine wp_ifne_b 22 dX0_mean_16 rfl rfl (fun c16 => ?_) (fun c16 => ?_)
    · refine wp_aload_0 dX0_mean_22 rfl ?_
      refine wp_cvR dX0_mean_23 rfl q1457 mv_X0_openOnes hE.o0 rfl rfl (c_openOnes hE) rfl rfl (Nat.le_of_ble_eq_true rfl) (Nat.le_of_ble_eq_true rfl) ?_
      refine wp_istore_3 dX0_mean_26 rfl (by decide) rfl ?_
      refine wp_iload_3 dX0_mean_27 rfl ?_
      refine wp_if_ne_k 33 dX0_mean_28 rfl rfl (by omega) (fun c28 => ?_) (fun c28 => ?_)
      · refine wp_aload_0 dX0_mean_33 rfl ?_
        refine wp_iload_1 dX0_mean_34 rfl ?_
        refine wp_cvR dX0_mean_35 rfl q1461 mv_X0_stepsFrom hE.o0 rfl rfl (c_stepsFrom hE hx12) rfl rfl (Nat.le_of_ble_eq_true rfl) (Nat.le_of_ble_eq_true rfl) ?_
        refine wp_istore_4 dX0_mean_38 rfl (by decide) rfl ?_
        refine wp_iload_2 dX0_mean_40 rfl ?_
        refine wp_if_ne 49 dX0_mean_41 rfl rfl (fun c41 => ?_) (fun c41 => ?_)
        · refine wp_iload_3 dX0_mean_49 rfl ?_
          refine wp_iload_4 dX0_mean_50 rfl ?_
          refine wp_i2l dX0_mean_52 rfl ?_
          refine wp_iload_3 dX0_mean_53 rfl ?_
          refine wp_i2l dX0_mean_54 rfl ?_
          rw [nI_l (n := saN W x) (by omega), nI_l (n := opN W) (by omega)]
          refine wp_csR dX0_mean_55 rfl q1465 ms_X0_common (c_common 12 (saN W x) (opN W) (by omega) (by omega) (by omega)) rfl rfl (Nat.le_of_ble_eq_true rfl) (Nat.le_of_ble_eq_true rfl) ?_
          refine wp_l2i dX0_mean_58 rfl ?_
          rw [lN_i]
          refine wp_idiv dX0_mean_59 rfl (nI_ne0 (Nat.gcd_pos_of_pos_right _ (by omega)) (by have := Nat.gcd_le_right (saN W x) (show 0 < opN W by omega); omega)) ?_
          exact wp_ireturn dX0_mean_60 rfl ⟨by first | (simp (disch := omega) [qmean, nI_clamp, *]; done) | (subst c41; simp (disch := omega) [qmean, nI_clamp, *]), QC0.rf⟩
        · refine wp_iload_4 dX0_mean_44 rfl ?_
          refine wp_goto 50 dX0_mean_46 rfl rfl ?_
          refine wp_iload_4 dX0_mean_50 rfl ?_
          refine wp_i2l dX0_mean_52 rfl ?_
          refine wp_iload_3 dX0_mean_53 rfl ?_
          refine wp_i2l dX0_mean_54 rfl ?_
          rw [nI_l (n := saN W x) (by omega), nI_l (n := opN W) (by omega)]
          refine wp_csR dX0_mean_55 rfl q1465 ms_X0_common (c_common 12 (saN W x) (opN W) (by omega) (by omega) (by omega)) rfl rfl (Nat.le_of_ble_eq_true rfl) (Nat.le_of_ble_eq_true rfl) ?_
          refine wp_l2i dX0_mean_58 rfl ?_
          rw [lN_i]
          refine wp_idiv dX0_mean_59 rfl (nI_ne0 (Nat.gcd_pos_of_pos_right _ (by omega)) (by have := Nat.gcd_le_right (saN W x) (show 0 < opN W by omega); omega)) ?_
          exact wp_ireturn dX0_mean_60 rfl ⟨by first | (simp (disch := omega) [qmean, nI_clamp, *]; done) | (subst c41; simp (disch := omega) [qmean, nI_clamp, *]), QC0.rf⟩
      · refine wp_iconst (-1) dX0_mean_31 rfl rfl ?_
        exact wp_ireturn dX0_mean_32 rfl ⟨by first | (simp (disch := omega) [qmean, nI_clamp, *]; done) | (subst c41; simp (disch := omega) [qmean, nI_clamp, *]), QC0.rf⟩
    · refine wp_bipush (-2) dX0_mean_19 rfl rfl ?_
      exact wp_ireturn dX0_mean_21 rfl ⟨by first | (simp (disch := omega) [qmean, nI_clamp, *]; done) | (subst c41; simp (disch := omega) [qmean, nI_clamp, *]), QC0.rf⟩
theorem cL_middle {g : GW} {C : SC} {S : SM} {X : AH} {lo hi b : Nat} {A : BA} {W : Nat → Int32} (hE : EV C X lo hi b A W) {z : Int32} {c n : Nat} {Q : Option Value → AH → Prop} : ∀ (k : Nat) (i b : Nat), ((hoN W ≤ i ∧ k = 0) ∨ i + k = hoN W) → i < 1000 → b < 12 → Q (some (.int (nI (itr (beF (fun i b => if z = 0 then decide (saN W i < saN W b) else decide (saN W b < saN W i))) k i b)))) (cH C S X) → WP g 4 yX0_middle cX0_middle 4 (some .int) 36 [some (.ref 0), some (.int z), some (.int (nI b)), some (.int (nI i))] [] (cH C S X) c n Q := by
  intro k
  induction k with
  | zero =>
    intro i b hi hi2 hb hq
    refine wp_iload_3 dX0_middle_36 rfl ?_
    refine wp_aload_0 dX0_middle_37 rfl ?_
    refine wp_getf dX0_middle_38 rfl q721 fk0_1 hE.o0 rfl ?_
    refine wp_cvR dX0_middle_41 rfl q1329 mv_X2_holes hE.ob rfl rfl (b_holes hE.B) rfl rfl (Nat.le_of_ble_eq_true rfl) (Nat.le_of_ble_eq_true rfl) ?_
    rw [hE.s.ho]
    refine wp_icmp_ge_k 88 dX0_middle_44 rfl rfl (by omega) (by have := hE.s.ho12; omega) (fun c44 => ?_) (fun c44 => ?_)
    · refine wp_iload_2 dX0_middle_88 rfl ?_
      exact wp_ireturn dX0_middle_89 rfl hq
    · exact absurd c44 (by omega)
  | succ k ih =>
    intro i b hi hi2 hb hq
    refine wp_iload_3 dX0_middle_36 rfl ?_
    refine wp_aload_0 dX0_middle_37 rfl ?_
    refine wp_getf dX0_middle_38 rfl q721 fk0_1 hE.o0 rfl ?_
    refine wp_cvR dX0_middle_41 rfl q1329 mv_X2_holes hE.ob rfl rfl (b_holes hE.B) rfl rfl (Nat.le_of_ble_eq_true rfl) (Nat.le_of_ble_eq_true rfl) ?_
    rw [hE.s.ho]
    refine wp_icmp_ge_k 88 dX0_middle_44 rfl rfl (by omega) (by have := hE.s.ho12; omega) (fun c44 => ?_) (fun c44 => ?_)
    · exact absurd c44 (by omega)
    · refine wp_iload_1 dX0_middle_47 rfl ?_
      refine wp_if_ne 67 dX0_middle_48 rfl rfl (fun c48 => ?_) (fun c48 => ?_)
      · refine wp_aload_0 dX0_middle_67 rfl ?_
        refine wp_iload_3 dX0_middle_68 rfl ?_
        refine wp_cvR dX0_middle_69 rfl q1461 mv_X0_stepsFrom hE.o0 rfl rfl (c_stepsFrom hE (by have := hE.s.ho12; omega)) rfl rfl (Nat.le_of_ble_eq_true rfl) (Nat.le_of_ble_eq_true rfl) ?_
        refine wp_aload_0 dX0_middle_72 rfl ?_
        refine wp_iload_2 dX0_middle_73 rfl ?_
        refine wp_cvR dX0_middle_74 rfl q1461 mv_X0_stepsFrom hE.o0 rfl rfl (c_stepsFrom hE hb) rfl rfl (Nat.le_of_ble_eq_true rfl) (Nat.le_of_ble_eq_true rfl) ?_
        refine wp_icmp_le_k 82 dX0_middle_77 rfl rfl (by have := saN_le hE.s (h := i) (by have := hE.s.ho12; omega); omega) (by have := saN_le hE.s hb; omega) (fun c77 => ?_) (fun c77 => ?_)
        · refine wp_iinc_3 1 dX0_middle_82 rfl rfl (by decide) rfl ?_
          refine wp_goto 36 dX0_middle_85 rfl rfl ?_
          exact WP.cast (by simp [beF, nI_1]; (try simp only [*, if_true, if_false]); (try split) <;> first | rfl | omega) (ih (i + 1) (beF (fun i b => if z = 0 then decide (saN W i < saN W b) else decide (saN W b < saN W i)) i b) (by omega) (by have := hE.s.ho12; omega) (beF_lt (by have := hE.s.ho12; omega) hb) hq)
        · refine wp_iload_3 dX0_middle_80 rfl ?_
          refine wp_istore_2 dX0_middle_81 rfl (by decide) rfl ?_
          refine wp_iinc_3 1 dX0_middle_82 rfl rfl (by decide) rfl ?_
          refine wp_goto 36 dX0_middle_85 rfl rfl ?_
          exact WP.cast (by simp [beF, nI_1]; (try simp only [*, if_true, if_false]); (try split) <;> first | rfl | omega) (ih (i + 1) (beF (fun i b => if z = 0 then decide (saN W i < saN W b) else decide (saN W b < saN W i)) i b) (by omega) (by have := hE.s.ho12; omega) (beF_lt (by have := hE.s.ho12; omega) hb) hq)
      · refine wp_aload_0 dX0_middle_51 rfl ?_
        refine wp_iload_3 dX0_middle_52 rfl ?_
        refine wp_cvR dX0_middle_53 rfl q1461 mv_X0_stepsFrom hE.o0 rfl rfl (c_stepsFrom hE (by have := hE.s.ho12; omega)) rfl rfl (Nat.le_of_ble_eq_true rfl) (Nat.le_of_ble_eq_true rfl) ?_
        refine wp_aload_0 dX0_middle_56 rfl ?_
        refine wp_iload_2 dX0_middle_57 rfl ?_
        refine wp_cvR dX0_middle_58 rfl q1461 mv_X0_stepsFrom hE.o0 rfl rfl (c_stepsFrom hE hb) rfl rfl (Nat.le_of_ble_eq_true rfl) (Nat.le_of_ble_eq_true rfl) ?_
        refine wp_icmp_ge_k 82 dX0_middle_61 rfl rfl (by have := saN_le hE.s (h := i) (by have := hE.s.ho12; omega); omega) (by have := saN_le hE.s hb; omega) (fun c61 => ?_) (fun c61 => ?_)
        · refine wp_iinc_3 1 dX0_middle_82 rfl rfl (by decide) rfl ?_
          refine wp_goto 36 dX0_middle_85 rfl rfl ?_
          exact WP.cast (by simp [beF, nI_1]; (try simp only [*, if_true, if_false]); (try split) <;> first | rfl | omega) (ih (i + 1) (beF (fun i b => if z = 0 then decide (saN W i < saN W b) else decide (saN W b < saN W i)) i b) (by omega) (by have := hE.s.ho12; omega) (beF_lt (by have := hE.s.ho12; omega) hb) hq)
        · refine wp_goto 80 dX0_middle_64 rfl rfl ?_
          refine wp_iload_3 dX0_middle_80 rfl ?_
          refine wp_istore_2 dX0_middle_81 rfl (by decide) rfl ?_
          refine wp_iinc_3 1 dX0_middle_82 rfl rfl (by decide) rfl ?_
          refine wp_goto 36 dX0_middle_85 rfl rfl ?_
          exact WP.cast (by simp [beF, nI_1]; (try simp only [*, if_true, if_false]); (try split) <;> first | rfl | omega) (ih (i + 1) (beF (fun i b => if z = 0 then decide (saN W i < saN W b) else decide (saN W b < saN W i)) i b) (by omega) (by have := hE.s.ho12; omega) (beF_lt (by have := hE.s.ho12; omega) hb) hq)
theorem q_c_middle {g : GW} {C : SC} {S : SM} {X : AH} {lo hi b : Nat} {A : BA} {W : Nat → Int32} (hE : EV C X lo hi b A W) {z : Int32} : SP g 4 0 0 yX0_middle cX0_middle 4 (some .int) [.ref 0, .int z] (cH C S X) (QC C S X (.int (qmiddle W z))) := by
  refine SP.intro [some (.ref 0), some (.int z), none, none] (pfn (by decide)) rfl (Nat.le_of_ble_eq_true rfl) ?_
  refine wp_aload_0 dX0_middle_0 rfl ?_
  refine wp_getf dX0_middle_1 rfl q721 fk0_1 hE.o0 rfl ?_
  refine wp_cvR dX0_middle_4 rfl q1167 mv_X2_is hE.ob rfl rfl (c_is hE) rfl rfl (Nat.le_of_ble_eq_true rfl) (Nat.le_of_ble_eq_true rfl) ?_
  refine wp_ifeq_b 20 dX0_middle_7 rfl rfl (fun c7 => ?_) (fun c7 => ?_)
  · refine wp_bipush (-2) dX0_middle_20 rfl rfl ?_
    exact wp_ireturn dX0_middle_22 rfl ⟨by simp (disch := omega) [qmiddle, nI_clamp, *], QC0.rf⟩
  · refine wp_iload_1 dX0_middle_10 rfl ?_
    refine wp_i2l dX0_middle_11 rfl ?_
    refine wp_lconst 0 dX0_middle_12 rfl rfl ?_
    refine wp_lconst 1 dX0_middle_13 rfl rfl ?_
    refine wp_csR dX0_middle_14 rfl q190 ms_X0_in c_in rfl rfl (Nat.le_of_ble_eq_true rfl) (Nat.le_of_ble_eq_true rfl) ?_
    refine wp_ifne_b 23 dX0_middle_17 rfl rfl (fun c17 => ?_) (fun c17 => ?_)
    · refine wp_aload_0 dX0_middle_23 rfl ?_
      refine wp_cvR dX0_middle_24 rfl q1457 mv_X0_openOnes hE.o0 rfl rfl (c_openOnes hE) rfl rfl (Nat.le_of_ble_eq_true rfl) (Nat.le_of_ble_eq_true rfl) ?_
      refine wp_if_ne_k 32 dX0_middle_27 rfl rfl (by have := opN_le W; have := hE.s.ho12; omega) (fun c27 => ?_) (fun c27 => ?_)
      · refine wp_iconst 0 dX0_middle_32 rfl rfl ?_
        refine wp_istore_2 dX0_middle_33 rfl (by decide) rfl ?_
        refine wp_iconst 1 dX0_middle_34 rfl rfl ?_
        refine wp_istore_3 dX0_middle_35 rfl (by decide) rfl ?_
        exact cL_middle hE (hoN W - 1) 1 0 (by omega) (by omega) (by omega) ⟨by simp (disch := omega) [qmiddle, beN, *], QC0.rf⟩
      · refine wp_iconst (-1) dX0_middle_30 rfl rfl ?_
        exact wp_ireturn dX0_middle_31 rfl ⟨by simp (disch := omega) [qmiddle, nI_clamp, *], QC0.rf⟩
    · refine wp_bipush (-2) dX0_middle_20 rfl rfl ?_
      exact wp_ireturn dX0_middle_22 rfl ⟨by simp (disch := omega) [qmiddle, nI_clamp, *], QC0.rf⟩
theorem cL_reachOf {g : GW} {C : SC} {S : SM} {X : AH} {lo hi b : Nat} {A : BA} {W : Nat → Int32} (hE : EV C X lo hi b A W) {p : Nat} (hp : p < nW W 6) {h : Int32} {c n : Nat} {Q : Option Value → AH → Prop} : ∀ (k : Nat) (i : Nat) (a : Int32), i + k = hoN W → Q (some (.int (itr (reF W p h) k i a))) (cH C S X) → WP g 4 yX0_reachOf cX0_reachOf 6 (some .int) 13 [some (.ref 0), some (.ref (A.pl p)), some (.int h), some (.int (W (96 + 5 * p + 1))), some (.int a), some (.int (nI i))] [] (cH C S X) c n Q := by
  intro k
  induction k with
  | zero =>
    intro i a hi hq
    refine wp_iload_5 dX0_reachOf_13 rfl ?_
    refine wp_aload_0 dX0_reachOf_15 rfl ?_
    refine wp_getf dX0_reachOf_16 rfl q721 fk0_1 hE.o0 rfl ?_
    refine wp_cvR dX0_reachOf_19 rfl q1329 mv_X2_holes hE.ob rfl rfl (b_holes hE.B) rfl rfl (Nat.le_of_ble_eq_true rfl) (Nat.le_of_ble_eq_true rfl) ?_
    rw [hE.s.ho]
    refine wp_icmp_ge_k 79 dX0_reachOf_22 rfl rfl (by have := hE.s.ho12; omega) (by have := hE.s.ho12; omega) (fun c22 => ?_) (fun c22 => ?_)
    · refine wp_iload_4 dX0_reachOf_79 rfl ?_
      exact wp_ireturn dX0_reachOf_81 rfl hq
    · exact absurd c22 (by omega)
  | succ k ih =>
    intro i a hi hq
    refine wp_iload_5 dX0_reachOf_13 rfl ?_
    refine wp_aload_0 dX0_reachOf_15 rfl ?_
    refine wp_getf dX0_reachOf_16 rfl q721 fk0_1 hE.o0 rfl ?_
    refine wp_cvR dX0_reachOf_19 rfl q1329 mv_X2_holes hE.ob rfl rfl (b_holes hE.B) rfl rfl (Nat.le_of_ble_eq_true rfl) (Nat.le_of_ble_eq_true rfl) ?_
    rw [hE.s.ho]
    refine wp_icmp_ge_k 79 dX0_reachOf_22 rfl rfl (by have := hE.s.ho12; omega) (by have := hE.s.ho12; omega) (fun c22 => ?_) (fun c22 => ?_)
    · exact absurd c22 (by omega)
    · refine wp_iload_4 dX0_reachOf_25 rfl ?_
      refine wp_aload_0 dX0_reachOf_27 rfl ?_
      refine wp_iload_5 dX0_reachOf_28 rfl ?_
      refine wp_cvR dX0_reachOf_30 rfl q1274 mv_X0_isOpen hE.o0 rfl rfl (c_isOpen hE) rfl rfl (Nat.le_of_ble_eq_true rfl) (Nat.le_of_ble_eq_true rfl) ?_
      refine wp_ifeq_b 69 dX0_reachOf_33 rfl rfl (fun c33 => ?_) (fun c33 => ?_)
      · refine wp_iconst 0 dX0_reachOf_69 rfl rfl ?_
        refine wp_ior dX0_reachOf_70 rfl ?_
        refine wp_istore_4 dX0_reachOf_71 rfl (by decide) rfl ?_
        refine wp_iinc_5 1 dX0_reachOf_73 rfl rfl (by decide) rfl ?_
        refine wp_goto 13 dX0_reachOf_76 rfl rfl ?_
        have e9 : reF W p h i a = a := by
          unfold reF
          rw [if_neg (fun q => by rw [q.1] at c33; cases c33)]
        exact WP.cast (by rw [e9, nI_1]; simp) (ih (i + 1) (reF W p h i a) (by omega) hq)
      · refine wp_iload_3 dX0_reachOf_36 rfl ?_
        refine wp_aload_0 dX0_reachOf_37 rfl ?_
        refine wp_iload_2 dX0_reachOf_38 rfl ?_
        refine wp_iload_5 dX0_reachOf_39 rfl ?_
        refine wp_cvR dX0_reachOf_41 rfl q1279 mv_X0_stepsOf hE.o0 rfl rfl (c_stepsOf hE (hE.s.w0ne (i := i) (by omega))) rfl rfl (Nat.le_of_ble_eq_true rfl) (Nat.le_of_ble_eq_true rfl) ?_
        refine wp_aload_1 dX0_reachOf_44 rfl ?_
        refine wp_iload_3 dX0_reachOf_45 rfl ?_
        refine wp_cvR dX0_reachOf_46 rfl q1334 mv_X14_pace (hE.pla hp) rfl rfl (c_ppace hE hp) rfl rfl (Nat.le_of_ble_eq_true rfl) (Nat.le_of_ble_eq_true rfl) ?_
        refine wp_imul dX0_reachOf_49 rfl ?_
        refine wp_iadd dX0_reachOf_50 rfl ?_
        refine wp_aload_0 dX0_reachOf_51 rfl ?_
        refine wp_getf dX0_reachOf_52 rfl q721 fk0_1 hE.o0 rfl ?_
        refine wp_iconst 0 dX0_reachOf_55 rfl rfl ?_
        refine wp_cvR dX0_reachOf_56 rfl q1237 mv_X2_stay hE.ob rfl rfl (b_stay hE.B hE.t hE.s) rfl rfl (Nat.le_of_ble_eq_true rfl) (Nat.le_of_ble_eq_true rfl) ?_
        obtain ⟨s, es, s1, s2⟩ := stay_n hE.t 0
        rw [es]
        refine wp_icmp_ge 69 dX0_reachOf_59 rfl rfl (fun c59 => ?_) (fun c59 => ?_)
        · refine wp_iconst 0 dX0_reachOf_69 rfl rfl ?_
          refine wp_ior dX0_reachOf_70 rfl ?_
          refine wp_istore_4 dX0_reachOf_71 rfl (by decide) rfl ?_
          refine wp_iinc_5 1 dX0_reachOf_73 rfl rfl (by decide) rfl ?_
          refine wp_goto 13 dX0_reachOf_76 rfl rfl ?_
          have e9 : reF W p h i a = a := by
            unfold reF
            rw [if_neg (fun q => by have q2 := q.2; rw [es] at q2; exact absurd ((lt_le1 s1 s2).mpr q2) (Int32.not_lt.mpr c59))]
          exact WP.cast (by rw [e9, nI_1]; simp) (ih (i + 1) (reF W p h i a) (by omega) hq)
        · refine wp_iconst 1 dX0_reachOf_62 rfl rfl ?_
          refine wp_iload_5 dX0_reachOf_63 rfl ?_
          refine wp_ishl dX0_reachOf_65 rfl ?_
          refine wp_goto 70 dX0_reachOf_66 rfl rfl ?_
          refine wp_ior dX0_reachOf_70 rfl ?_
          refine wp_istore_4 dX0_reachOf_71 rfl (by decide) rfl ?_
          refine wp_iinc_5 1 dX0_reachOf_73 rfl rfl (by decide) rfl ?_
          refine wp_goto 13 dX0_reachOf_76 rfl rfl ?_
          have e8 : shW W (nI i) = false := by
            cases q : shW W (nI i) with
            | false => rfl
            | true => rw [q] at c33; exact absurd c33 (by decide)
          exact WP.cast (by rw [show reF W p h i a = a ||| ((1 : Int32) <<< (nI i &&& 31)) by unfold reF; rw [if_pos ⟨e8, by rw [es]; exact (lt_le1 s1 s2).mp (Int32.not_le.mp c59)⟩], nI_1]) (ih (i + 1) (reF W p h i a) (by omega) hq)
theorem c_reachOf {g : GW} {C : SC} {S : SM} {X : AH} {lo hi b : Nat} {A : BA} {W : Nat → Int32} (hE : EV C X lo hi b A W) {p : Nat} (hp : p < nW W 6) {h : Int32} : SPx g 4 0 0 yX0_reachOf cX0_reachOf 6 (some .int) [.ref 0, .ref (A.pl p), .int h] (cH C S X) (some (.int (reW W p h))) (cH C S X) := by
  refine SPx.intro [some (.ref 0), some (.ref (A.pl p)), some (.int h), none, none, none] (pfn (by decide)) rfl (Nat.le_of_ble_eq_true rfl) ?_
  refine wp_aload_1 dX0_reachOf_0 rfl ?_
  refine wp_getfN dX0_reachOf_1 rfl q1156 fk15_0 (hE.pla hp) rfl ?_
  refine wp_iconst 1 dX0_reachOf_4 rfl rfl ?_
  refine wp_ialoadn 1 dX0_reachOf_5 rfl (hE.pis hp) rfl (by omega) (by decide) ?_
  rw [(hE.B.pl p hp).2.2.2 1 (by omega)]
  refine wp_istore_3 dX0_reachOf_6 rfl (by decide) rfl ?_
  refine wp_iconst 0 dX0_reachOf_7 rfl rfl ?_
  refine wp_istore_4 dX0_reachOf_8 rfl (by decide) rfl ?_
  refine wp_iconst 0 dX0_reachOf_10 rfl rfl ?_
  refine wp_istore_5 dX0_reachOf_11 rfl (by decide) rfl ?_
  exact cL_reachOf hE hp (hoN W) 0 0 (Nat.zero_add _) ⟨rfl, rfl⟩
theorem q_c_reach {g : GW} {C : SC} {S : SM} {X : AH} {lo hi b : Nat} {A : BA} {W : Nat → Int32} (hE : EV C X lo hi b A W) {x z : Int32} : SP g 5 0 0 yX0_reach cX0_reach 3 (some .int) [.ref 0, .int x, .int z] (cH C S X) (QC C S X (.int (qreach W x z))) := by
  refine SP.intro [some (.ref 0), some (.int x), some (.int z)] (pfn (by decide)) rfl (Nat.le_of_ble_eq_true rfl) ?_
  refine wp_aload_0 dX0_reach_0 rfl ?_
  refine wp_iload_1 dX0_reach_1 rfl ?_
  refine wp_cvR dX0_reach_2 rfl q1219 mv_X0_isPlayer hE.o0 rfl rfl (c_isPlayer hE) rfl rfl (Nat.le_of_ble_eq_true rfl) (Nat.le_of_ble_eq_true rfl) ?_
  refine wp_ifeq_b 30 dX0_reach_5 rfl rfl (fun c5 => ?_) (fun c5 => ?_)
  · refine wp_bipush (-2) dX0_reach_30 rfl rfl ?_
    exact wp_ireturn dX0_reach_32 rfl ⟨by simp (disch := omega) [qreach, nI_clamp, *], QC0.rf⟩
  · obtain ⟨p, hp, rfl⟩ := plW_of hE.s c5
    have hp4 : p < 4 := by have := hE.s.np.2; omega
    refine wp_aload_0 dX0_reach_8 rfl ?_
    refine wp_iload_2 dX0_reach_9 rfl ?_
    refine wp_i2l dX0_reach_10 rfl ?_
    refine wp_cvR dX0_reach_11 rfl q1325 mv_X0_isHole hE.o0 rfl rfl (c_isHole hE) rfl rfl (Nat.le_of_ble_eq_true rfl) (Nat.le_of_ble_eq_true rfl) ?_
    refine wp_ifeq_b 30 dX0_reach_14 rfl rfl (fun c14 => ?_) (fun c14 => ?_)
    · refine wp_bipush (-2) dX0_reach_30 rfl rfl ?_
      exact wp_ireturn dX0_reach_32 rfl ⟨by simp (disch := omega) [qreach, nI_clamp, *], QC0.rf⟩
    · refine wp_aload_0 dX0_reach_17 rfl ?_
      refine wp_aload_0 dX0_reach_18 rfl ?_
      refine wp_iload_1 dX0_reach_19 rfl ?_
      refine wp_cvR dX0_reach_20 rfl q1224 mv_X0_one hE.o0 rfl rfl (c_one hE hp) rfl rfl (Nat.le_of_ble_eq_true rfl) (Nat.le_of_ble_eq_true rfl) ?_
      refine wp_iload_2 dX0_reach_23 rfl ?_
      refine wp_cvR dX0_reach_24 rfl q1476 mv_X0_reachOf hE.o0 rfl rfl (c_reachOf hE hp) rfl rfl (Nat.le_of_ble_eq_true rfl) (Nat.le_of_ble_eq_true rfl) ?_
      refine wp_goto 32 dX0_reach_27 rfl rfl ?_
      exact wp_ireturn dX0_reach_32 rfl ⟨by simp (disch := omega) [qreach, nI_clamp, *], QC0.rf⟩
theorem j_bitCount {g : GW} {h : AH} {x : Int32} : SPx g 1 0 0 yJ15_bitCount cJ15_bitCount 1 (some .int) [.int x] h (some (.int (bcV x))) h := by
  refine SPx.intro [some (.int x)] (by decide +kernel) rfl (Nat.le_of_ble_eq_true rfl) ?_
  refine wp_iload_0 dJ15_bitCount_0 rfl ?_
  refine wp_iload_0 dJ15_bitCount_1 rfl ?_
  refine wp_iconst 1 dJ15_bitCount_2 rfl rfl ?_
  refine wp_iushr dJ15_bitCount_3 rfl ?_
  refine wp_ldc_w dJ15_bitCount_4 rfl q1487 ?_
  refine wp_iand dJ15_bitCount_7 rfl ?_
  refine wp_isub dJ15_bitCount_8 rfl ?_
  refine wp_istore_0 dJ15_bitCount_9 rfl (by decide) ?_
  refine wp_iload_0 dJ15_bitCount_10 rfl ?_
  refine wp_ldc_w dJ15_bitCount_11 rfl q1488 ?_
  refine wp_iand dJ15_bitCount_14 rfl ?_
  refine wp_iload_0 dJ15_bitCount_15 rfl ?_
  refine wp_iconst 2 dJ15_bitCount_16 rfl rfl ?_
  refine wp_iushr dJ15_bitCount_17 rfl ?_
  refine wp_ldc_w dJ15_bitCount_18 rfl q1488 ?_
  refine wp_iand dJ15_bitCount_21 rfl ?_
  refine wp_iadd dJ15_bitCount_22 rfl ?_
  refine wp_istore_0 dJ15_bitCount_23 rfl (by decide) ?_
  refine wp_iload_0 dJ15_bitCount_24 rfl ?_
  refine wp_iload_0 dJ15_bitCount_25 rfl ?_
  refine wp_iconst 4 dJ15_bitCount_26 rfl rfl ?_
  refine wp_iushr dJ15_bitCount_27 rfl ?_
  refine wp_iadd dJ15_bitCount_28 rfl ?_
  refine wp_ldc_w dJ15_bitCount_29 rfl q1489 ?_
  refine wp_iand dJ15_bitCount_32 rfl ?_
  refine wp_istore_0 dJ15_bitCount_33 rfl (by decide) ?_
  refine wp_iload_0 dJ15_bitCount_34 rfl ?_
  refine wp_iload_0 dJ15_bitCount_35 rfl ?_
  refine wp_bipush 8 dJ15_bitCount_36 rfl rfl ?_
  refine wp_iushr dJ15_bitCount_38 rfl ?_
  refine wp_iadd dJ15_bitCount_39 rfl ?_
  refine wp_istore_0 dJ15_bitCount_40 rfl (by decide) ?_
  refine wp_iload_0 dJ15_bitCount_41 rfl ?_
  refine wp_iload_0 dJ15_bitCount_42 rfl ?_
  refine wp_bipush 16 dJ15_bitCount_43 rfl rfl ?_
  refine wp_iushr dJ15_bitCount_45 rfl ?_
  refine wp_iadd dJ15_bitCount_46 rfl ?_
  refine wp_istore_0 dJ15_bitCount_47 rfl (by decide) ?_
  refine wp_iload_0 dJ15_bitCount_48 rfl ?_
  refine wp_bipush 63 dJ15_bitCount_49 rfl rfl ?_
  refine wp_iand dJ15_bitCount_51 rfl ?_
  exact wp_ireturn dJ15_bitCount_52 rfl ⟨rfl, rfl⟩
theorem j_bc {g : GW} {h : AH} {x : Int32} (hx : ∃ n, x = nI n ∧ n < 4096) : SPx g 1 0 0 yJ15_bitCount cJ15_bitCount 1 (some .int) [.int x] h (some (.int (bitW x))) h := by
  obtain ⟨n, rfl, h1⟩ := hx
  have := j_bitCount (g := g) (h := h) (x := nI n)
  rw [bcV_n n h1] at this
  exact this
theorem cL_post {g : GW} {C : SC} {S : SM} {X : AH} {lo hi b : Nat} {A : BA} {W : Nat → Int32} (hE : EV C X lo hi b A W) {p : Nat} (hp : p < nW W 6) {c n : Nat} {Q : Option Value → AH → Prop} : ∀ (k : Nat) (i b : Nat), ((hoN W ≤ i ∧ k = 0) ∨ i + k = hoN W) → i < 1000 → b < 12 → Q (some (.int (nI (itr (beF (fun i b => decide (bitW (reW W p (nI b)) < bitW (reW W p (nI i))))) k i b)))) (cH C S X) → WP g 5 yX0_post cX0_post 4 (some .int) 15 [some (.ref 0), some (.int (nI p)), some (.int (nI b)), some (.int (nI i))] [] (cH C S X) c n Q := by
  intro k
  induction k with
  | zero =>
    intro i b hi hi2 hb hq
    refine wp_iload_3 dX0_post_15 rfl ?_
    refine wp_aload_0 dX0_post_16 rfl ?_
    refine wp_getf dX0_post_17 rfl q721 fk0_1 hE.o0 rfl ?_
    refine wp_cvR dX0_post_20 rfl q1329 mv_X2_holes hE.ob rfl rfl (b_holes hE.B) rfl rfl (Nat.le_of_ble_eq_true rfl) (Nat.le_of_ble_eq_true rfl) ?_
    rw [hE.s.ho]
    refine wp_icmp_ge_k 63 dX0_post_23 rfl rfl (by omega) (by have := hE.s.ho12; omega) (fun c23 => ?_) (fun c23 => ?_)
    · refine wp_iload_2 dX0_post_63 rfl ?_
      exact wp_ireturn dX0_post_64 rfl hq
    · exact absurd c23 (by omega)
  | succ k ih =>
    intro i b hi hi2 hb hq
    refine wp_iload_3 dX0_post_15 rfl ?_
    refine wp_aload_0 dX0_post_16 rfl ?_
    refine wp_getf dX0_post_17 rfl q721 fk0_1 hE.o0 rfl ?_
    refine wp_cvR dX0_post_20 rfl q1329 mv_X2_holes hE.ob rfl rfl (b_holes hE.B) rfl rfl (Nat.le_of_ble_eq_true rfl) (Nat.le_of_ble_eq_true rfl) ?_
    rw [hE.s.ho]
    refine wp_icmp_ge_k 63 dX0_post_23 rfl rfl (by omega) (by have := hE.s.ho12; omega) (fun c23 => ?_) (fun c23 => ?_)
    · exact absurd c23 (by omega)
    · refine wp_aload_0 dX0_post_26 rfl ?_
      refine wp_aload_0 dX0_post_27 rfl ?_
      refine wp_iload_1 dX0_post_28 rfl ?_
      refine wp_cvR dX0_post_29 rfl q1224 mv_X0_one hE.o0 rfl rfl (c_one hE hp) rfl rfl (Nat.le_of_ble_eq_true rfl) (Nat.le_of_ble_eq_true rfl) ?_
      refine wp_iload_3 dX0_post_32 rfl ?_
      refine wp_cvR dX0_post_33 rfl q1476 mv_X0_reachOf hE.o0 rfl rfl (c_reachOf hE hp) rfl rfl (Nat.le_of_ble_eq_true rfl) (Nat.le_of_ble_eq_true rfl) ?_
      refine wp_csR dX0_post_36 rfl q1484 ms_J15_bitCount (j_bc (reW_n hE.s _ _)) rfl rfl (Nat.le_of_ble_eq_true rfl) (Nat.le_of_ble_eq_true rfl) ?_
      refine wp_aload_0 dX0_post_39 rfl ?_
      refine wp_aload_0 dX0_post_40 rfl ?_
      refine wp_iload_1 dX0_post_41 rfl ?_
      refine wp_cvR dX0_post_42 rfl q1224 mv_X0_one hE.o0 rfl rfl (c_one hE hp) rfl rfl (Nat.le_of_ble_eq_true rfl) (Nat.le_of_ble_eq_true rfl) ?_
      refine wp_iload_2 dX0_post_45 rfl ?_
      refine wp_cvR dX0_post_46 rfl q1476 mv_X0_reachOf hE.o0 rfl rfl (c_reachOf hE hp) rfl rfl (Nat.le_of_ble_eq_true rfl) (Nat.le_of_ble_eq_true rfl) ?_
      refine wp_csR dX0_post_49 rfl q1484 ms_J15_bitCount (j_bc (reW_n hE.s _ _)) rfl rfl (Nat.le_of_ble_eq_true rfl) (Nat.le_of_ble_eq_true rfl) ?_
      refine wp_icmp_le 57 dX0_post_52 rfl rfl (fun c52 => ?_) (fun c52 => ?_)
      · refine wp_iinc_3 1 dX0_post_57 rfl rfl (by decide) rfl ?_
        refine wp_goto 15 dX0_post_60 rfl rfl ?_
        exact WP.cast (by simp [beF, nI_1, ← Int32.not_le, *]) (ih (i + 1) (beF (fun i b => decide (bitW (reW W p (nI b)) < bitW (reW W p (nI i)))) i b) (by omega) (by have := hE.s.ho12; omega) (beF_lt (by have := hE.s.ho12; omega) hb) hq)
      · refine wp_iload_3 dX0_post_55 rfl ?_
        refine wp_istore_2 dX0_post_56 rfl (by decide) rfl ?_
        refine wp_iinc_3 1 dX0_post_57 rfl rfl (by decide) rfl ?_
        refine wp_goto 15 dX0_post_60 rfl rfl ?_
        exact WP.cast (by simp [beF, nI_1, ← Int32.not_le, *]) (ih (i + 1) (beF (fun i b => decide (bitW (reW W p (nI b)) < bitW (reW W p (nI i)))) i b) (by omega) (by have := hE.s.ho12; omega) (beF_lt (by have := hE.s.ho12; omega) hb) hq)
theorem q_c_post {g : GW} {C : SC} {S : SM} {X : AH} {lo hi b : Nat} {A : BA} {W : Nat → Int32} (hE : EV C X lo hi b A W) {x : Int32} : SP g 5 0 0 yX0_post cX0_post 4 (some .int) [.ref 0, .int x] (cH C S X) (QC C S X (.int (qpost W x))) := by
  refine SP.intro [some (.ref 0), some (.int x), none, none] (pfn (by decide)) rfl (Nat.le_of_ble_eq_true rfl) ?_
  refine wp_aload_0 dX0_post_0 rfl ?_
  refine wp_iload_1 dX0_post_1 rfl ?_
  refine wp_cvR dX0_post_2 rfl q1219 mv_X0_isPlayer hE.o0 rfl rfl (c_isPlayer hE) rfl rfl (Nat.le_of_ble_eq_true rfl) (Nat.le_of_ble_eq_true rfl) ?_
  refine wp_ifne_b 11 dX0_post_5 rfl rfl (fun c5 => ?_) (fun c5 => ?_)
  · obtain ⟨p, hp, rfl⟩ := plW_of hE.s c5
    have hp4 : p < 4 := by have := hE.s.np.2; omega
    refine wp_iconst 0 dX0_post_11 rfl rfl ?_
    refine wp_istore_2 dX0_post_12 rfl (by decide) rfl ?_
    refine wp_iconst 1 dX0_post_13 rfl rfl ?_
    refine wp_istore_3 dX0_post_14 rfl (by decide) rfl ?_
    exact cL_post hE hp (hoN W - 1) 1 0 (by omega) (by omega) (by omega) ⟨by simp (disch := omega) [qpost, beN, nI_clamp, *], QC0.rf⟩
  · refine wp_bipush (-2) dX0_post_8 rfl rfl ?_
    exact wp_ireturn dX0_post_10 rfl ⟨by simp (disch := omega) [qpost, nI_clamp, *], QC0.rf⟩
def caF (W : Nat → Int32) (i : Nat) (n : Int32) : Int32 := n - (gE (dgF W) i - gF (dgF W) i + 1)
def caV (W : Nat → Int32) : Int32 := if bdW W = true then itr (caF W) (dgM W) 0 (W 2) else -2
theorem cL_calm {g : GW} {C : SC} {S : SM} {X : AH} {lo hi b : Nat} {A : BA} {W : Nat → Int32} (hE : EV C X lo hi b A W) (hG : GM 3 16 17 18 C X (dgW W)) {c n : Nat} {Q : Option Value → AH → Prop} : ∀ (k : Nat) (i : Nat) (a : Int32), i + k = dgM W → Q (some (.int (itr (caF W) k i a))) (cH C S X) → WP g 8 yX0_calm cX0_calm 4 (some .int) 28 [some (.ref 0), some (.ref 15), some (.int a), some (.int (nI i))] [] (cH C S X) c n Q := by
  intro k
  induction k with
  | zero =>
    intro i a hi hq
    have hn : C.1 3 = nI (dgM W) := hG.1
    have h60 : dgM W ≤ 60 := hG.2.1
    refine wp_iload_3 dX0_calm_28 rfl ?_
    refine wp_aload_1 dX0_calm_29 rfl ?_
    refine wp_getf dX0_calm_30 rfl q539 fk4_3 (cg_15 hE.X) rfl ?_
    rw [hn]
    refine wp_icmp_ge_k 60 dX0_calm_33 rfl rfl (by omega) (by omega) (fun c33 => ?_) (fun c33 => ?_)
    · refine wp_iload_2 dX0_calm_60 rfl ?_
      exact wp_ireturn dX0_calm_61 rfl hq
    · exact absurd c33 (by omega)
  | succ k ih =>
    intro i a hi hq
    have hn : C.1 3 = nI (dgM W) := hG.1
    have h60 : dgM W ≤ 60 := hG.2.1
    refine wp_iload_3 dX0_calm_28 rfl ?_
    refine wp_aload_1 dX0_calm_29 rfl ?_
    refine wp_getf dX0_calm_30 rfl q539 fk4_3 (cg_15 hE.X) rfl ?_
    rw [hn]
    refine wp_icmp_ge_k 60 dX0_calm_33 rfl rfl (by omega) (by omega) (fun c33 => ?_) (fun c33 => ?_)
    · exact absurd c33 (by omega)
    · refine wp_iload_2 dX0_calm_36 rfl ?_
      refine wp_aload_1 dX0_calm_37 rfl ?_
      refine wp_getf dX0_calm_38 rfl q530 fk4_2 (cg_15 hE.X) rfl ?_
      refine wp_iload_3 dX0_calm_41 rfl ?_
      refine wp_ialoadn i dX0_calm_42 rfl (cg_18 hE.X) rfl (by omega) (by decide) ?_
      rw [show C.2.1 18 i = gE (dgF W) i from hG.e (show i < dgM W by omega)]
      refine wp_aload_1 dX0_calm_43 rfl ?_
      refine wp_getf dX0_calm_44 rfl q526 fk4_1 (cg_15 hE.X) rfl ?_
      refine wp_iload_3 dX0_calm_47 rfl ?_
      refine wp_ialoadn i dX0_calm_48 rfl (cg_17 hE.X) rfl (by omega) (by decide) ?_
      rw [show C.2.1 17 i = gF (dgF W) i from hG.f (show i < dgM W by omega)]
      refine wp_isub dX0_calm_49 rfl ?_
      refine wp_iconst 1 dX0_calm_50 rfl rfl ?_
      refine wp_iadd dX0_calm_51 rfl ?_
      refine wp_isub dX0_calm_52 rfl ?_
      refine wp_istore_2 dX0_calm_53 rfl (by decide) rfl ?_
      refine wp_iinc_3 1 dX0_calm_54 rfl rfl (by decide) rfl ?_
      refine wp_goto 28 dX0_calm_57 rfl rfl ?_
      exact WP.cast (by rw [nI_1]; rfl) (ih (i + 1) (caF W i a) (by omega) hq)
theorem q_c_calm0 {g : GW} {C : SC} {S : SM} {X : AH} {lo hi b : Nat} {A : BA} {W : Nat → Int32} (hE : EV C X lo hi b A W)  : SP g 8 0 0 yX0_calm cX0_calm 4 (some .int) [.ref 0] (cH C S X) (QC C S X (.int (caV W))) := by
  refine SP.intro [some (.ref 0), none, none, none] (pfn (by decide)) rfl (Nat.le_of_ble_eq_true rfl) ?_
  refine wp_aload_0 dX0_calm_0 rfl ?_
  refine wp_getf dX0_calm_1 rfl q721 fk0_1 hE.o0 rfl ?_
  refine wp_cvR dX0_calm_4 rfl q1167 mv_X2_is hE.ob rfl rfl (c_is hE) rfl rfl (Nat.le_of_ble_eq_true rfl) (Nat.le_of_ble_eq_true rfl) ?_
  refine wp_ifne_b 13 dX0_calm_7 rfl rfl (fun c7 => ?_) (fun c7 => ?_)
  · refine wp_aload_0 dX0_calm_13 rfl ?_
    refine wp_cvEi dX0_calm_14 rfl q1245 mv_X0_game hE.o0 rfl rfl (c_game hE) rfl rfl (Nat.le_of_ble_eq_true rfl) (Nat.le_of_ble_eq_true rfl) (fun h1 hq => ?_)
    obtain ⟨C, rfl, hG, hK⟩ := hq
    have hE := hK.ev (by decide) hE
    have hL := LD.kc hK
    have hn : C.1 3 = nI (dgM W) := hG.1
    have h60 : dgM W ≤ 60 := hG.2.1
    refine wp_astore_1 dX0_calm_17 rfl (by decide) rfl ?_
    refine wp_aload_0 dX0_calm_18 rfl ?_
    refine wp_getf dX0_calm_19 rfl q721 fk0_1 hE.o0 rfl ?_
    refine wp_getfN dX0_calm_22 rfl q457 fk2_6 hE.ob rfl ?_
    refine wp_istore_2 dX0_calm_25 rfl (by decide) rfl ?_
    refine wp_iconst 0 dX0_calm_26 rfl rfl ?_
    refine wp_istore_3 dX0_calm_27 rfl (by decide) rfl ?_
    exact cL_calm hE hG (dgM W) 0 (W 2) (Nat.zero_add _) ⟨by simp_all [caV, dgW], QC0.mk hL⟩
  · refine wp_bipush (-2) dX0_calm_10 rfl rfl ?_
    exact wp_ireturn dX0_calm_12 rfl ⟨by first | (simp (disch := omega) [caV, dgW, nI_clamp, inL_0, *]; done) | (simp_all [caV, dgW, inL_0]; done), by first | exact QC0.mk hL | exact QC0.rf⟩
