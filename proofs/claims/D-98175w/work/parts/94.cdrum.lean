/-! ===== the class: the drum ===== -/
set_option maxRecDepth 100000
theorem itat {C : SC} {S : SM} {X : AH} (hX : 108 ≤ X.length) {e : AE} : (cH C S (X ++ [e]))[X.length]? = some e := by
  rw [cH_dyn (Or.inr (by omega))]
  exact g_last
theorem cL_oftenOf {g : GW} {C : SC} {S : SM} {X : AH} {lo hi b : Nat} {A : BA} {W : Nat → Int32} (hE : EV C X lo hi b A W) {x : Int32} {c n : Nat} {Q : Option Value → AH → Prop} : ∀ (k : Nat) (i : Nat) (la a : Int32) (v4 : Option Value), i + k = nW W 5 → (∀ e, Q (some (.int (itr (ofF W x) k i a))) (cH C S (X ++ [e]))) → WP g 4 yX0_oftenOf cX0_oftenOf 5 (some .int) 15 [some (.ref 0), some (.int x), some (.int a), some (.ref X.length), v4] [] (cH C S (X ++ [itc i la A.dm A.d])) c n Q := by
  intro k
  induction k with
  | zero =>
    intro i la a v4 hi0 hq
    have hE2 : EV C (X ++ [itc i la A.dm A.d]) lo hi b A W := hE.ap
    refine wp_aload_3 dX0_oftenOf_15 rfl ?_
    refine wp_FxR dX0_oftenOf_16 rfl q1705 mf_J11_hasNext (itat hE.X) rfl rfl (j_hasNext (itat hE.X) hE2.B.drum (by omega)) rfl rfl (Nat.le_of_ble_eq_true rfl) (Nat.le_of_ble_eq_true rfl) (Nat.zero_le _) (Nat.zero_le _) ?_
    refine wp_ifeq_b 55 dX0_oftenOf_21 rfl rfl (fun c21 => ?_) (fun c21 => ?_)
    · refine wp_iload_2 dX0_oftenOf_55 rfl ?_
      exact wp_ireturn dX0_oftenOf_56 rfl (hq _)
    · rw [decide_eq_true (show i = nW W 5 by omega)] at c21; exact absurd c21 (by decide)
  | succ k ih =>
    intro i la a v4 hi0 hq
    have hE2 : EV C (X ++ [itc i la A.dm A.d]) lo hi b A W := hE.ap
    refine wp_aload_3 dX0_oftenOf_15 rfl ?_
    refine wp_FxR dX0_oftenOf_16 rfl q1705 mf_J11_hasNext (itat hE.X) rfl rfl (j_hasNext (itat hE.X) hE2.B.drum (by omega)) rfl rfl (Nat.le_of_ble_eq_true rfl) (Nat.le_of_ble_eq_true rfl) (Nat.zero_le _) (Nat.zero_le _) ?_
    refine wp_ifeq_b 55 dX0_oftenOf_21 rfl rfl (fun c21 => ?_) (fun c21 => ?_)
    · rw [decide_eq_false (show ¬ i = nW W 5 by omega)] at c21; exact absurd c21 (by decide)
    · refine wp_aload_3 dX0_oftenOf_24 rfl ?_
      refine wp_FxR dX0_oftenOf_25 rfl q1707 mf_J11_next (itat hE.X) rfl rfl (j_next (itat hE.X) hE2.B.drum (show i < nW W 5 by omega) (hE.B.mo i (by omega)).1) rfl rfl (Nat.le_of_ble_eq_true rfl) (Nat.le_of_ble_eq_true rfl) (Nat.zero_le _) (Nat.zero_le _) ?_
      rw [it_set hE.X]
      have hE3 : EV C (X ++ [itc (i + 1) (nI i) A.dm A.d]) lo hi b A W := hE.ap
      refine wp_castO (r := (RX13, TX13, 3)) dX0_oftenOf_30 rfl q1211 (hE3.mol (show i < nW W 5 by omega)) rfl ?_
      refine wp_astore_4 dX0_oftenOf_33 rfl (by decide) rfl ?_
      refine wp_iload_2 dX0_oftenOf_35 rfl ?_
      refine wp_aload_4 dX0_oftenOf_36 rfl ?_
      refine wp_iload_1 dX0_oftenOf_38 rfl ?_
      refine wp_cvR dX0_oftenOf_39 rfl q1708 mv_X13_isAt (hE3.mol (show i < nW W 5 by omega)) rfl rfl (c_isAt (hE3.mol (show i < nW W 5 by omega))) rfl rfl (Nat.le_of_ble_eq_true rfl) (Nat.le_of_ble_eq_true rfl) ?_
      refine wp_ifeq_b 49 dX0_oftenOf_42 rfl rfl (fun c42 => ?_) (fun c42 => ?_)
      · refine wp_iconst 0 dX0_oftenOf_49 rfl rfl ?_
        refine wp_iadd dX0_oftenOf_50 rfl ?_
        refine wp_istore_2 dX0_oftenOf_51 rfl (by decide) rfl ?_
        refine wp_goto 15 dX0_oftenOf_52 rfl rfl ?_
        have e9 : ofF W x i a = a + 0 := by
          have e8 : (decide (x = W (24 + 3 * i)) || decide (x = W (24 + 3 * i + 1))) = false := c42
          unfold ofF
          rw [Nat.add_zero]
          simp only [Bool.or_eq_false_iff, decide_eq_true_eq, decide_eq_false_iff_not] at e8
          rw [if_neg (fun q => q.elim (fun q => e8.1 q.symm) (fun q => e8.2 q.symm))]
        exact WP.cast (by rw [e9]) (ih (i + 1) (nI i) (ofF W x i a) _ (by omega) hq)
      · refine wp_iconst 1 dX0_oftenOf_45 rfl rfl ?_
        refine wp_goto 50 dX0_oftenOf_46 rfl rfl ?_
        refine wp_iadd dX0_oftenOf_50 rfl ?_
        refine wp_istore_2 dX0_oftenOf_51 rfl (by decide) rfl ?_
        refine wp_goto 15 dX0_oftenOf_52 rfl rfl ?_
        have e9 : ofF W x i a = a + 1 := by
          have e8 : (decide (x = W (24 + 3 * i)) || decide (x = W (24 + 3 * i + 1))) = true := c42
          unfold ofF
          rw [Nat.add_zero]
          simp only [Bool.or_eq_true, decide_eq_true_eq, decide_eq_false_iff_not] at e8
          rw [if_pos (e8.elim (fun q => Or.inl q.symm) (fun q => Or.inr q.symm))]
        exact WP.cast (by rw [e9]) (ih (i + 1) (nI i) (ofF W x i a) _ (by omega) hq)
theorem c_oftenOf {g : GW} {C : SC} {S : SM} {X : AH} {lo hi b : Nat} {A : BA} {W : Nat → Int32} (hE : EV C X lo hi b A W) {x : Int32} : SP g 4 1 4 yX0_oftenOf cX0_oftenOf 5 (some .int) [.ref 0, .int x] (cH C S X) (fun v h1 => v = some (.int (ofW W x)) ∧ ∃ e, h1 = cH C S (X ++ [e])) := by
  refine SP.intro [some (.ref 0), some (.int x), none, none, none] (pfn (by decide)) rfl (Nat.le_of_ble_eq_true rfl) ?_
  refine wp_iconst 0 dX0_oftenOf_0 rfl rfl ?_
  refine wp_istore_2 dX0_oftenOf_1 rfl (by decide) rfl ?_
  refine wp_aload_0 dX0_oftenOf_2 rfl ?_
  refine wp_getf dX0_oftenOf_3 rfl q721 fk0_1 hE.o0 rfl ?_
  refine wp_getfN dX0_oftenOf_6 rfl q439 fk2_0 hE.ob rfl ?_
  refine wp_FxR dX0_oftenOf_9 rfl q1703 mf_J2_iterator (hE.B.od.at hE.B.dy) rfl rfl (j_iterator (hE.B.od.at hE.B.dy)) rfl rfl (Nat.le_of_ble_eq_true rfl) (Nat.le_of_ble_eq_true rfl) (Nat.le_refl _) (Nat.le_refl _) ?_
  rw [cH_app hE.X, cH_len]
  refine wp_astore_3 dX0_oftenOf_14 rfl (by decide) rfl ?_
  exact cL_oftenOf hE (nW W 5) 0 (-1) 0 none (Nat.zero_add _) (fun e => ⟨rfl, e, rfl⟩)
theorem co_sw {W : Nat → Int32} {x : Int32} {i : Nat} {v : Bool} (h : (decide (x = W (24 + 3 * i)) || decide (x = W (24 + 3 * i + 1))) = v) : (!(decide (W (24 + 3 * i) = x) || decide (W (24 + 3 * i + 1) = x))) = !v := by
  rw [← h]
  congr 1
  congr 1
  · rw [decide_eq_decide]; exact eq_comm
  · rw [decide_eq_decide]; exact eq_comm
theorem eq_t {p : Nat → Bool} {k i : Nat} (h : p i = true) : eqK p (k + 1) i = eqK p k (i + 1) := if_pos h
theorem eq_f {p : Nat → Bool} {k i : Nat} (h : p i = false) : eqK p (k + 1) i = false := if_neg (by rw [h]; decide)
theorem bL_isComing {g : GW} {C : SC} {S : SM} {X : AH} {lo hi b : Nat} {A : BA} {W : Nat → Int32} (hX : 108 ≤ X.length) (hB : BD X lo hi b A W) {x : Int32} {c n : Nat} {Q : Option Value → AH → Prop} : ∀ (k : Nat) (i : Nat) (la : Int32) (v3 : Option Value), i + k = nW W 5 → (∀ e, Q (some (.int (b2i (!eqK (fun k => !(decide (W (24 + 3 * k) = x) || decide (W (24 + 3 * k + 1) = x))) k i)))) (cH C S (X ++ [e]))) → WP g 4 yX2_isComing cX2_isComing 4 (some .boolean) 10 [some (.ref b), some (.int x), some (.ref X.length), v3] [] (cH C S (X ++ [itc i la A.dm A.d])) c n Q := by
  intro k
  induction k with
  | zero =>
    intro i la v3 hi0 hq
    have hB2 : BD (X ++ [itc i la A.dm A.d]) lo hi b A W := hB.app
    refine wp_aload_2 dX2_isComing_10 rfl ?_
    refine wp_FxR dX2_isComing_11 rfl q992 mf_J11_hasNext (itat hX) rfl rfl (j_hasNext (itat hX) hB2.drum (by omega)) rfl rfl (Nat.le_of_ble_eq_true rfl) (Nat.le_of_ble_eq_true rfl) (Nat.zero_le _) (Nat.zero_le _) ?_
    refine wp_ifeq_b 42 dX2_isComing_16 rfl rfl (fun c16 => ?_) (fun c16 => ?_)
    · refine wp_iconst 0 dX2_isComing_42 rfl rfl ?_
      exact wp_zreturn dX2_isComing_43 rfl rfl (hq _)
    · rw [decide_eq_true (show i = nW W 5 by omega)] at c16; exact absurd c16 (by decide)
  | succ k ih =>
    intro i la v3 hi0 hq
    have hB2 : BD (X ++ [itc i la A.dm A.d]) lo hi b A W := hB.app
    refine wp_aload_2 dX2_isComing_10 rfl ?_
    refine wp_FxR dX2_isComing_11 rfl q992 mf_J11_hasNext (itat hX) rfl rfl (j_hasNext (itat hX) hB2.drum (by omega)) rfl rfl (Nat.le_of_ble_eq_true rfl) (Nat.le_of_ble_eq_true rfl) (Nat.zero_le _) (Nat.zero_le _) ?_
    refine wp_ifeq_b 42 dX2_isComing_16 rfl rfl (fun c16 => ?_) (fun c16 => ?_)
    · rw [decide_eq_false (show ¬ i = nW W 5 by omega)] at c16; exact absurd c16 (by decide)
    · refine wp_aload_2 dX2_isComing_19 rfl ?_
      refine wp_FxR dX2_isComing_20 rfl q1002 mf_J11_next (itat hX) rfl rfl (j_next (itat hX) hB2.drum (show i < nW W 5 by omega) (hB.mo i (by omega)).1) rfl rfl (Nat.le_of_ble_eq_true rfl) (Nat.le_of_ble_eq_true rfl) (Nat.zero_le _) (Nat.zero_le _) ?_
      rw [it_set hX]
      have hB3 : BD (X ++ [itc (i + 1) (nI i) A.dm A.d]) lo hi b A W := hB.app
      refine wp_castO (r := (RX13, TX13, 3)) dX2_isComing_25 rfl q1014 ((hB3.mo i (by omega)).2.at hB3.dy) rfl ?_
      refine wp_astore_3 dX2_isComing_28 rfl (by decide) rfl ?_
      refine wp_aload_3 dX2_isComing_29 rfl ?_
      refine wp_iload_1 dX2_isComing_30 rfl ?_
      refine wp_cvR dX2_isComing_31 rfl q1015 mv_X13_isAt ((hB3.mo i (by omega)).2.at hB3.dy) rfl rfl (c_isAt ((hB3.mo i (by omega)).2.at hB3.dy)) rfl rfl (Nat.le_of_ble_eq_true rfl) (Nat.le_of_ble_eq_true rfl) ?_
      refine wp_ifeq_b 39 dX2_isComing_34 rfl rfl (fun c34 => ?_) (fun c34 => ?_)
      · refine wp_goto 10 dX2_isComing_39 rfl rfl ?_
        exact ih (i + 1) (nI i) _ (by omega) (fun e => by have h9 := hq e; rw [eq_t (p := (fun k => !(decide (W (24 + 3 * k) = x) || decide (W (24 + 3 * k + 1) = x)))) (co_sw c34)] at h9; exact h9)
      · refine wp_iconst 1 dX2_isComing_37 rfl rfl ?_
        exact wp_zreturn dX2_isComing_38 rfl rfl (by have h9 := hq (itc (i + 1) (nI i) A.dm A.d); rw [eq_f (p := (fun k => !(decide (W (24 + 3 * k) = x) || decide (W (24 + 3 * k + 1) = x)))) (co_sw c34)] at h9; exact h9)
theorem b_isComing {g : GW} {C : SC} {S : SM} {X : AH} {lo hi b : Nat} {A : BA} {W : Nat → Int32} (hX : 108 ≤ X.length) (hB : BD X lo hi b A W) {x : Int32} : SP g 4 1 4 yX2_isComing cX2_isComing 4 (some .boolean) [.ref b, .int x] (cH C S X) (fun v h1 => v = some (.int (b2i (isCo W x))) ∧ ∃ e, h1 = cH C S (X ++ [e])) := by
  refine SP.intro [some (.ref b), some (.int x), none, none] (pfn (by decide)) rfl (Nat.le_of_ble_eq_true rfl) ?_
  refine wp_aload_0 dX2_isComing_0 rfl ?_
  refine wp_getf dX2_isComing_1 rfl q437 fk2_0 (hB.ob.at hB.dy) rfl ?_
  refine wp_FxR dX2_isComing_4 rfl q963 mf_J2_iterator (hB.od.at hB.dy) rfl rfl (j_iterator (hB.od.at hB.dy)) rfl rfl (Nat.le_of_ble_eq_true rfl) (Nat.le_of_ble_eq_true rfl) (Nat.le_refl _) (Nat.le_refl _) ?_
  rw [cH_app hX, cH_len]
  refine wp_astore_2 dX2_isComing_9 rfl (by decide) rfl ?_
  exact bL_isComing hX hB (nW W 5) 0 (-1) none (Nat.zero_add _) (fun e => ⟨rfl, e, rfl⟩)
theorem q_c_often {g : GW} {C : SC} {S : SM} {X : AH} {lo hi b : Nat} {A : BA} {W : Nat → Int32} (hE : EV C X lo hi b A W) {x : Int32} : SP g 5 1 4 yX0_often cX0_often 2 (some .int) [.ref 0, .int x] (cH C S X) (QC C S X (.int (qoften W x))) := by
  refine SP.intro [some (.ref 0), some (.int x)] (pfn (by decide)) rfl (Nat.le_of_ble_eq_true rfl) ?_
  refine wp_aload_0 dX0_often_0 rfl ?_
  refine wp_iload_1 dX0_often_1 rfl ?_
  refine wp_i2l dX0_often_2 rfl ?_
  refine wp_cvR dX0_often_3 rfl q1325 mv_X0_isHole hE.o0 rfl rfl (c_isHole hE) rfl rfl (Nat.le_of_ble_eq_true rfl) (Nat.le_of_ble_eq_true rfl) ?_
  refine wp_ifeq_b 17 dX0_often_6 rfl rfl (fun c6 => ?_) (fun c6 => ?_)
  · refine wp_bipush (-2) dX0_often_17 rfl rfl ?_
    exact wp_ireturn dX0_often_19 rfl ⟨by simp [qoften, *], by first | exact QC0.mkz (KC.rf C) | exact QC0.rf⟩
  · refine wp_aload_0 dX0_often_9 rfl ?_
    refine wp_iload_1 dX0_often_10 rfl ?_
    refine wp_VeR dX0_often_11 rfl q1698 mv_X0_oftenOf hE.o0 rfl rfl (c_oftenOf hE) rfl rfl (Nat.le_of_ble_eq_true rfl) (Nat.le_of_ble_eq_true rfl) (Nat.le_refl _) (Nat.le_refl _) (fun h1 hq => ?_)
    obtain ⟨e, rfl⟩ := hq
    refine wp_goto 19 dX0_often_14 rfl rfl ?_
    exact wp_ireturn dX0_often_19 rfl ⟨by simp [qoften, *], by first | exact QC0.mkz (KC.rf C) | exact QC0.rf⟩
theorem cL_pathOf {g : GW} {C : SC} {S : SM} {X : AH} {lo hi b : Nat} {A : BA} {W : Nat → Int32} (hE : EV C X lo hi b A W)  {c n : Nat} {Q : Option Value → AH → Prop} : ∀ (k : Nat) (i : Nat) (x : Int32), i + k = nW W 5 → Q (some (.int (itr (paF W) k i x))) (cH C S X) → WP g 6 yX0_pathOf cX0_pathOf 3 (some .int) 4 [some (.ref 0), some (.int x), some (.int (nI i))] [] (cH C S X) c n Q := by
  intro k
  induction k with
  | zero =>
    intro i x hi0 hq
    refine wp_iload_2 dX0_pathOf_4 rfl ?_
    refine wp_aload_0 dX0_pathOf_5 rfl ?_
    refine wp_cvR dX0_pathOf_6 rfl q1183 mv_X0_comingsOfDrum hE.o0 rfl rfl (c_comingsOfDrum hE) rfl rfl (Nat.le_of_ble_eq_true rfl) (Nat.le_of_ble_eq_true rfl) ?_
    refine wp_icmp_ge_k 37 dX0_pathOf_9 rfl rfl (by have := hE.s.nc.2; omega) (by have := hE.s.nc.2; omega) (fun c9 => ?_) (fun c9 => ?_)
    · refine wp_iload_1 dX0_pathOf_37 rfl ?_
      exact wp_ireturn dX0_pathOf_38 rfl hq
    · exact absurd c9 (by omega)
  | succ k ih =>
    intro i x hi0 hq
    refine wp_iload_2 dX0_pathOf_4 rfl ?_
    refine wp_aload_0 dX0_pathOf_5 rfl ?_
    refine wp_cvR dX0_pathOf_6 rfl q1183 mv_X0_comingsOfDrum hE.o0 rfl rfl (c_comingsOfDrum hE) rfl rfl (Nat.le_of_ble_eq_true rfl) (Nat.le_of_ble_eq_true rfl) ?_
    refine wp_icmp_ge_k 37 dX0_pathOf_9 rfl rfl (by have := hE.s.nc.2; omega) (by have := hE.s.nc.2; omega) (fun c9 => ?_) (fun c9 => ?_)
    · exact absurd c9 (by omega)
    · have hw0 : ¬ W 0 = 0 := by
        obtain ⟨a0, o0, r0, -, -, -, hh0, -⟩ := hE.c i (by omega)
        exact hE.s.w0ne hh0
      refine wp_iload_1 dX0_pathOf_12 rfl ?_
      refine wp_aload_0 dX0_pathOf_13 rfl ?_
      refine wp_aload_0 dX0_pathOf_14 rfl ?_
      refine wp_iload_2 dX0_pathOf_15 rfl ?_
      refine wp_cvR dX0_pathOf_16 rfl q1549 mv_X0_holeOf hE.o0 rfl rfl (c_holeOf hE (by omega)) rfl rfl (Nat.le_of_ble_eq_true rfl) (Nat.le_of_ble_eq_true rfl) ?_
      refine wp_aload_0 dX0_pathOf_19 rfl ?_
      refine wp_iload_2 dX0_pathOf_20 rfl ?_
      refine wp_iconst 1 dX0_pathOf_21 rfl rfl ?_
      refine wp_iadd dX0_pathOf_22 rfl ?_
      refine wp_cvR dX0_pathOf_23 rfl q1549 mv_X0_holeOf hE.o0 rfl rfl (c_holeOf hE (by omega)) rfl rfl (Nat.le_of_ble_eq_true rfl) (Nat.le_of_ble_eq_true rfl) ?_
      refine wp_cvR dX0_pathOf_26 rfl q1279 mv_X0_stepsOf hE.o0 rfl rfl (c_stepsOf hE hw0) rfl rfl (Nat.le_of_ble_eq_true rfl) (Nat.le_of_ble_eq_true rfl) ?_
      refine wp_iadd dX0_pathOf_29 rfl ?_
      refine wp_istore_1 dX0_pathOf_30 rfl (by decide) rfl ?_
      refine wp_iinc_2 1 dX0_pathOf_31 rfl rfl (by decide) rfl ?_
      refine wp_goto 4 dX0_pathOf_34 rfl rfl ?_
      exact WP.cast (by unfold paF; rw [nI_1]) (ih (i + 1) (paF W i x) (by omega) hq)
theorem c_pathOf {g : GW} {C : SC} {S : SM} {X : AH} {lo hi b : Nat} {A : BA} {W : Nat → Int32} (hE : EV C X lo hi b A W)  : SPx g 6 0 0 yX0_pathOf cX0_pathOf 3 (some .int) [.ref 0] (cH C S X) (some (.int (paW W))) (cH C S X) := by
  refine SPx.intro [some (.ref 0), none, none] (pfn (by decide)) rfl (Nat.le_of_ble_eq_true rfl) ?_
  refine wp_iconst 0 dX0_pathOf_0 rfl rfl ?_
  refine wp_istore_1 dX0_pathOf_1 rfl (by decide) rfl ?_
  refine wp_iconst 0 dX0_pathOf_2 rfl rfl ?_
  refine wp_istore_2 dX0_pathOf_3 rfl (by decide) rfl ?_
  exact cL_pathOf hE (nW W 5) 0 0 (Nat.zero_add _) ⟨rfl, rfl⟩
theorem q_c_path {g : GW} {C : SC} {S : SM} {X : AH} {lo hi b : Nat} {A : BA} {W : Nat → Int32} (hE : EV C X lo hi b A W)  : SP g 7 0 0 yX0_path cX0_path 1 (some .int) [.ref 0] (cH C S X) (QC C S X (.int (qpath W))) := by
  refine SP.intro [some (.ref 0)] (pfn (by decide)) rfl (Nat.le_of_ble_eq_true rfl) ?_
  refine wp_aload_0 dX0_path_0 rfl ?_
  refine wp_getf dX0_path_1 rfl q721 fk0_1 hE.o0 rfl ?_
  refine wp_cvR dX0_path_4 rfl q1167 mv_X2_is hE.ob rfl rfl (c_is hE) rfl rfl (Nat.le_of_ble_eq_true rfl) (Nat.le_of_ble_eq_true rfl) ?_
  refine wp_ifeq_b 17 dX0_path_7 rfl rfl (fun c7 => ?_) (fun c7 => ?_)
  · refine wp_bipush (-2) dX0_path_17 rfl rfl ?_
    exact wp_ireturn dX0_path_19 rfl ⟨by simp [qpath, *], QC0.rf⟩
  · refine wp_aload_0 dX0_path_10 rfl ?_
    refine wp_cvR dX0_path_11 rfl q1718 mv_X0_pathOf hE.o0 rfl rfl (c_pathOf hE) rfl rfl (Nat.le_of_ble_eq_true rfl) (Nat.le_of_ble_eq_true rfl) ?_
    refine wp_goto 19 dX0_path_14 rfl rfl ?_
    exact wp_ireturn dX0_path_19 rfl ⟨by simp [qpath, *], QC0.rf⟩
def XT (X0 X : AH) : Prop := ∃ Z, X = X0 ++ Z
theorem XT.rf (X : AH) : XT X X := ⟨[], (List.append_nil X).symm⟩
theorem XT.imp2 {X0 X : AH} (h : XT X0 X) (e1 e2 : AE) : XT X0 (X ++ [e1] ++ [e2]) := by
  obtain ⟨Z, rfl⟩ := h
  exact ⟨Z ++ [e1] ++ [e2], by simp⟩
theorem cL_balance {g : GW} {C : SC} {S : SM} {X0 : AH} {lo hi b : Nat} {A : BA} {W : Nat → Int32}   {Q : Option Value → AH → Prop} : ∀ (k : Nat) (X : AH) (i : Nat) (a : Int32 × Int32), i + k = hoN W → EV C X lo hi b A W → XT X0 X → (∀ X' c' n' vi, XT X0 X' → WP g 6 yX0_balance cX0_balance 4 (some .int) 69 [some (.ref 0), some (.int (itr (baF W) k i a).2), some (.int (itr (baF W) k i a).1), some (.int vi)] [] (cH C S X') c' n' Q) → WP g 6 yX0_balance cX0_balance 4 (some .int) 21 [some (.ref 0), some (.int a.2), some (.int a.1), some (.int (nI i))] [] (cH C S X) (2 * k) (8 * k) Q := by
  intro k
  induction k with
  | zero =>
    intro X i a hi0 hE hZ hq
    refine wp_iload_3 dX0_balance_21 rfl ?_
    refine wp_aload_0 dX0_balance_22 rfl ?_
    refine wp_getf dX0_balance_23 rfl q721 fk0_1 hE.o0 rfl ?_
    refine wp_cvR dX0_balance_26 rfl q1329 mv_X2_holes hE.ob rfl rfl (b_holes hE.B) rfl rfl (Nat.le_of_ble_eq_true rfl) (Nat.le_of_ble_eq_true rfl) ?_
    rw [hE.s.ho]
    refine wp_icmp_ge_k 69 dX0_balance_29 rfl rfl (by have := hE.s.ho12; omega) (by have := hE.s.ho12; omega) (fun c29 => ?_) (fun c29 => ?_)
    · exact hq X _ _ _ hZ
    · exact absurd c29 (by omega)
  | succ k ih =>
    intro X i a hi0 hE hZ hq
    refine wp_iload_3 dX0_balance_21 rfl ?_
    refine wp_aload_0 dX0_balance_22 rfl ?_
    refine wp_getf dX0_balance_23 rfl q721 fk0_1 hE.o0 rfl ?_
    refine wp_cvR dX0_balance_26 rfl q1329 mv_X2_holes hE.ob rfl rfl (b_holes hE.B) rfl rfl (Nat.le_of_ble_eq_true rfl) (Nat.le_of_ble_eq_true rfl) ?_
    rw [hE.s.ho]
    refine wp_icmp_ge_k 69 dX0_balance_29 rfl rfl (by have := hE.s.ho12; omega) (by have := hE.s.ho12; omega) (fun c29 => ?_) (fun c29 => ?_)
    · exact absurd c29 (by omega)
    · refine wp_aload_0 dX0_balance_32 rfl ?_
      refine wp_iload_3 dX0_balance_33 rfl ?_
      refine wp_cvR dX0_balance_34 rfl q1274 mv_X0_isOpen hE.o0 rfl rfl (c_isOpen hE) rfl rfl (Nat.le_of_ble_eq_true rfl) (Nat.le_of_ble_eq_true rfl) ?_
      refine wp_ifne_b 43 dX0_balance_37 rfl rfl (fun c37 => ?_) (fun c37 => ?_)
      · refine wp_iload_1 dX0_balance_43 rfl ?_
        refine wp_aload_0 dX0_balance_44 rfl ?_
        refine wp_iload_3 dX0_balance_45 rfl ?_
        refine wp_VeR dX0_balance_46 rfl q1698 mv_X0_oftenOf hE.o0 rfl rfl (c_oftenOf hE) rfl rfl (Nat.le_of_ble_eq_true rfl) (Nat.le_of_ble_eq_true rfl) (by omega) (by omega) (fun h1 hq => ?_)
        obtain ⟨e, rfl⟩ := hq
        have hE := hE.ap (Z := [e])
        refine wp_csR dX0_balance_49 rfl q1616 ms_J3_max j_max rfl rfl (Nat.le_of_ble_eq_true rfl) (Nat.le_of_ble_eq_true rfl) ?_
        refine wp_istore_1 dX0_balance_52 rfl (by decide) rfl ?_
        refine wp_iload_2 dX0_balance_53 rfl ?_
        refine wp_aload_0 dX0_balance_54 rfl ?_
        refine wp_iload_3 dX0_balance_55 rfl ?_
        refine wp_VeR dX0_balance_56 rfl q1698 mv_X0_oftenOf hE.o0 rfl rfl (c_oftenOf hE) rfl rfl (Nat.le_of_ble_eq_true rfl) (Nat.le_of_ble_eq_true rfl) (by omega) (by omega) (fun h1 hq => ?_)
        obtain ⟨e, rfl⟩ := hq
        have hE := hE.ap (Z := [e])
        refine wp_csR dX0_balance_59 rfl q1345 ms_J3_min j_min rfl rfl (Nat.le_of_ble_eq_true rfl) (Nat.le_of_ble_eq_true rfl) ?_
        refine wp_istore_2 dX0_balance_62 rfl (by decide) rfl ?_
        refine wp_iinc_3 1 dX0_balance_63 rfl rfl (by decide) rfl ?_
        refine wp_goto 21 dX0_balance_66 rfl rfl ?_
        have e8 : shW W (nI i) = false := by
          cases q : shW W (nI i) with
          | false => rfl
          | true => rw [q] at c37; exact absurd c37 (by decide)
        have e9 : baF W i a = (mn32 a.1 (ofW W (nI i)), mx32 a.2 (ofW W (nI i))) := by rw [baF, if_neg (by rw [e8]; decide)]
        exact WP.mono (by omega) (by omega) (WP.cast (by rw [e9, nI_1]) (ih _ (i + 1) (baF W i a) (by omega) hE (hZ.imp2 _ _) hq))
      · refine wp_goto 63 dX0_balance_40 rfl rfl ?_
        refine wp_iinc_3 1 dX0_balance_63 rfl rfl (by decide) rfl ?_
        refine wp_goto 21 dX0_balance_66 rfl rfl ?_
        have e8 : shW W (nI i) = true := by
          cases q : shW W (nI i) with
          | true => rfl
          | false => rw [q] at c37; exact absurd c37 (by decide)
        have e9 : baF W i a = a := by rw [baF, if_pos e8]
        exact WP.mono (by omega) (by omega) (WP.cast (by rw [e9, nI_1]) (ih _ (i + 1) (baF W i a) (by omega) hE hZ hq))
theorem q_c_balance {g : GW} {C : SC} {S : SM} {X : AH} {lo hi b : Nat} {A : BA} {W : Nat → Int32} (hE : EV C X lo hi b A W)  : SP g 6 24 96 yX0_balance cX0_balance 4 (some .int) [.ref 0] (cH C S X) (QC C S X (.int (qbalance W))) := by
  refine SP.intro [some (.ref 0), none, none, none] (pfn (by decide)) rfl (Nat.le_of_ble_eq_true rfl) ?_
  refine wp_aload_0 dX0_balance_0 rfl ?_
  refine wp_getf dX0_balance_1 rfl q721 fk0_1 hE.o0 rfl ?_
  refine wp_cvR dX0_balance_4 rfl q1167 mv_X2_is hE.ob rfl rfl (c_is hE) rfl rfl (Nat.le_of_ble_eq_true rfl) (Nat.le_of_ble_eq_true rfl) ?_
  refine wp_ifne_b 13 dX0_balance_7 rfl rfl (fun c7 => ?_) (fun c7 => ?_)
  · refine wp_iconst (-1) dX0_balance_13 rfl rfl ?_
    refine wp_istore_1 dX0_balance_14 rfl (by decide) rfl ?_
    refine wp_ldc_w dX0_balance_15 rfl q1713 ?_
    refine wp_istore_2 dX0_balance_18 rfl (by decide) rfl ?_
    refine wp_iconst 0 dX0_balance_19 rfl rfl ?_
    refine wp_istore_3 dX0_balance_20 rfl (by decide) rfl ?_
    refine WP.mono (c' := 2 * hoN W) (n' := 8 * hoN W) (by have := hE.s.ho12; omega) (by have := hE.s.ho12; omega) (cL_balance (X0 := X) (hoN W) X 0 (1000000, -1) (Nat.zero_add _) hE (XT.rf X) (fun X' c' n' vi hZ => ?_))
    refine wp_iload_1 dX0_balance_69 rfl ?_
    generalize hbb : itr (baF W) (hoN W) 0 (1000000, -1) = zz
    refine wp_iconst (-1) dX0_balance_70 rfl rfl ?_
    refine wp_icmp_ne 78 dX0_balance_71 rfl rfl (fun c71 => ?_) (fun c71 => ?_)
    · refine wp_iload_1 dX0_balance_78 rfl ?_
      refine wp_iload_2 dX0_balance_79 rfl ?_
      refine wp_isub dX0_balance_80 rfl ?_
      exact wp_ireturn dX0_balance_81 rfl ⟨by subst hbb; simp [qbalance, *], by obtain ⟨Z, rfl⟩ := hZ; exact QC0.mkz (KC.rf C)⟩
    · refine wp_iconst (-1) dX0_balance_74 rfl rfl ?_
      refine wp_goto 81 dX0_balance_75 rfl rfl ?_
      exact wp_ireturn dX0_balance_81 rfl ⟨by subst hbb; simp [qbalance, *], by obtain ⟨Z, rfl⟩ := hZ; exact QC0.mkz (KC.rf C)⟩
  · refine wp_bipush (-2) dX0_balance_10 rfl rfl ?_
    exact wp_ireturn dX0_balance_12 rfl ⟨by simp [qbalance, *], QC0.rf⟩
