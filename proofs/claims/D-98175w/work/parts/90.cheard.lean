/-! ===== the class: what was heard ===== -/
set_option maxRecDepth 100000
theorem cL_whyNot {g : GW} {C : SC} {S : SM} {X : AH} {lo hi b : Nat} {A : BA} {W : Nat → Int32} (hE : EV C X lo hi b A W) {s : Nat} (hs : s < 4) {a m : Nat} {w : Int32} {nu : LT} (hr : C.2.2.2.1 (2 + s) = some a) (hh : HE X a m w (fun i => nu (60 * s + i))) {c n : Nat} {Q : Option Value → AH → Prop} : ∀ (k : Nat) (i : Nat), i + k = m → Q (some (.int (if alK (fun i => hlL W (nu (60 * s + i))) k i = true then 0 else -2))) (cH C S X) → WP g 4 yX0_whyNot cX0_whyNot 4 (some .int) 39 [some (.ref 0), some (.int (nI s)), some (.ref (2 + s)), some (.int (nI i))] [] (cH C S X) c n Q := by
  intro k
  induction k with
  | zero =>
    intro i hi hq
    refine wp_iload_3 dX0_whyNot_39 rfl ?_
    refine wp_aload_2 dX0_whyNot_40 rfl ?_
    refine wp_cvR dX0_whyNot_41 rfl q1565 mv_X1_many (cgs hE.X hs) rfl rfl (c_many hE.X hs hr hh) rfl rfl (Nat.le_of_ble_eq_true rfl) (Nat.le_of_ble_eq_true rfl) ?_
    refine wp_icmp_ge_k 68 dX0_whyNot_44 rfl rfl (by have := hh.2.1; omega) (by have := hh.2.1; omega) (fun c44 => ?_) (fun c44 => ?_)
    · refine wp_iconst 0 dX0_whyNot_68 rfl rfl ?_
      exact wp_ireturn dX0_whyNot_69 rfl hq
    · exact absurd c44 (by omega)
  | succ k ih =>
    intro i hi hq
    refine wp_iload_3 dX0_whyNot_39 rfl ?_
    refine wp_aload_2 dX0_whyNot_40 rfl ?_
    refine wp_cvR dX0_whyNot_41 rfl q1565 mv_X1_many (cgs hE.X hs) rfl rfl (c_many hE.X hs hr hh) rfl rfl (Nat.le_of_ble_eq_true rfl) (Nat.le_of_ble_eq_true rfl) ?_
    refine wp_icmp_ge_k 68 dX0_whyNot_44 rfl rfl (by have := hh.2.1; omega) (by have := hh.2.1; omega) (fun c44 => ?_) (fun c44 => ?_)
    · exact absurd c44 (by omega)
    · refine wp_aload_0 dX0_whyNot_47 rfl ?_
      refine wp_aload_2 dX0_whyNot_48 rfl ?_
      refine wp_iload_3 dX0_whyNot_49 rfl ?_
      refine wp_cvR dX0_whyNot_50 rfl q1569 mv_X1_number (cgs hE.X hs) rfl rfl (c_number (nu := fun i => nu (60 * s + i)) hE.X hs hr hh (i := i) (by omega)) rfl rfl (Nat.le_of_ble_eq_true rfl) (Nat.le_of_ble_eq_true rfl) ?_
      refine wp_cvR dX0_whyNot_53 rfl q1325 mv_X0_isHole hE.o0 rfl rfl (c_isHole hE) rfl rfl (Nat.le_of_ble_eq_true rfl) (Nat.le_of_ble_eq_true rfl) ?_
      refine wp_ifne_b 62 dX0_whyNot_56 rfl rfl (fun c56 => ?_) (fun c56 => ?_)
      · refine wp_iinc_3 1 dX0_whyNot_62 rfl rfl (by decide) rfl ?_
        refine wp_goto 39 dX0_whyNot_65 rfl rfl ?_
        exact WP.cast (by rw [nI_1]) (ih (i + 1) (by omega) (by rw [al_t (by exact c56)] at hq; exact hq))
      · refine wp_bipush (-2) dX0_whyNot_59 rfl rfl ?_
        exact wp_ireturn dX0_whyNot_61 rfl (by rw [al_f (by exact c56)] at hq; exact hq)
theorem c_whyNot {g : GW} {C : SC} {S : SM} {X : AH} {lo hi b : Nat} {A : BA} {W : Nat → Int32} (hE : EV C X lo hi b A W) {sl : SLt} (hS : HSS C X sl) {x : Int32} : SPx g 4 0 0 yX0_whyNot cX0_whyNot 4 (some .int) [.ref 0, .int x] (cH C S X) (some (.int (ahV W sl.1 sl.2.2 x))) (cH C S X) := by
  refine SPx.intro [some (.ref 0), some (.int x), none, none] (pfn (by decide)) rfl (Nat.le_of_ble_eq_true rfl) ?_
  refine wp_iload_1 dX0_whyNot_0 rfl ?_
  refine wp_csR dX0_whyNot_1 rfl q186 ms_X0_isSlot c_isSlot rfl rfl (Nat.le_of_ble_eq_true rfl) (Nat.le_of_ble_eq_true rfl) ?_
  refine wp_ifeq_b 17 dX0_whyNot_4 rfl rfl (fun c4 => ?_) (fun c4 => ?_)
  · refine wp_bipush (-2) dX0_whyNot_17 rfl rfl ?_
    exact wp_ireturn dX0_whyNot_19 rfl ⟨by simp (disch := omega) [ahV, nI_clamp, *], rfl⟩
  · obtain ⟨s, hs, rfl⟩ := la_of c4
    refine wp_aload_0 dX0_whyNot_7 rfl ?_
    refine wp_getf dX0_whyNot_8 rfl q721 fk0_1 hE.o0 rfl ?_
    refine wp_cvR dX0_whyNot_11 rfl q1167 mv_X2_is hE.ob rfl rfl (c_is hE) rfl rfl (Nat.le_of_ble_eq_true rfl) (Nat.le_of_ble_eq_true rfl) ?_
    refine wp_ifne_b 20 dX0_whyNot_14 rfl rfl (fun c14 => ?_) (fun c14 => ?_)
    · refine wp_aload_0 dX0_whyNot_20 rfl ?_
      refine wp_getf dX0_whyNot_21 rfl q715 fk0_0 hE.o0 rfl ?_
      refine wp_iload_1 dX0_whyNot_24 rfl ?_
      refine wp_aaload s dX0_whyNot_25 rfl rfl rfl (cg_1 hE.X) (nI_clamp (by omega)) (vp_in_nI hs (by omega)) ?_
      rw [show va_rf (cn_ 4 2 s) = .ref (2 + s) by rw [show cn_ 4 2 s = some (2 + s) from if_pos hs]; rfl]
      refine wp_astore_2 dX0_whyNot_26 rfl (by decide) rfl ?_
      rcases hS s hs with ⟨hm, hr⟩ | ⟨a, m, hm, hr, hh⟩
      · refine wp_aload_2 dX0_whyNot_27 rfl ?_
        refine wp_getfN dX0_whyNot_28 rfl q396 fk1_0 (cgs hE.X hs) rfl ?_
        rw [hr]
        refine wp_ifnonnull_n dX0_whyNot_31 rfl ?_
        refine wp_bipush (-6) dX0_whyNot_34 rfl rfl ?_
        exact wp_ireturn dX0_whyNot_36 rfl ⟨by simp (disch := omega) [ahV, nI_clamp, *], rfl⟩
      · refine wp_aload_2 dX0_whyNot_27 rfl ?_
        refine wp_getfN dX0_whyNot_28 rfl q396 fk1_0 (cgs hE.X hs) rfl ?_
        rw [hr]
        refine wp_ifnonnull_r 37 dX0_whyNot_31 rfl rfl ?_
        refine wp_iconst 0 dX0_whyNot_37 rfl rfl ?_
        refine wp_istore_3 dX0_whyNot_38 rfl (by decide) rfl ?_
        have h60 := hh.2.1
        exact cL_whyNot hE hs hr hh m 0 (Nat.zero_add _) ⟨by simp (disch := omega) [ahV, mN, nI_clamp, nI_m1, *], rfl⟩
    · refine wp_bipush (-2) dX0_whyNot_17 rfl rfl ?_
      exact wp_ireturn dX0_whyNot_19 rfl ⟨by simp (disch := omega) [ahV, nI_clamp, *], rfl⟩
theorem cL_isPeriod {g : GW} {C : SC} {S : SM} {X : AH} {lo hi b : Nat} {A : BA} {W : Nat → Int32} (hE : EV C X lo hi b A W) {s : Nat} (hs : s < 4) {a m : Nat} {w : Int32} {nu : LT} (hr : C.2.2.2.1 (2 + s) = some a) (hh : HE X a m w (fun i => nu (60 * s + i))) {p : Nat} {c n : Nat} {Q : Option Value → AH → Prop} : ∀ (k : Nat) (i : Nat), ((m ≤ i ∧ k = 0) ∨ i + k = m) → p ≤ i → i < 1000 → Q (some (.int (b2i (alK (peP nu s p) k i)))) (cH C S X) → WP g 2 yX0_isPeriod cX0_isPeriod 3 (some .boolean) 2 [some (.ref (2 + s)), some (.int (nI p)), some (.int (nI i))] [] (cH C S X) c n Q := by
  intro k
  induction k with
  | zero =>
    intro i hi hp hi2 hq
    refine wp_iload_2 dX0_isPeriod_2 rfl ?_
    refine wp_aload_0 dX0_isPeriod_3 rfl ?_
    refine wp_cvR dX0_isPeriod_4 rfl q1565 mv_X1_many (cgs hE.X hs) rfl rfl (c_many hE.X hs hr hh) rfl rfl (Nat.le_of_ble_eq_true rfl) (Nat.le_of_ble_eq_true rfl) ?_
    refine wp_icmp_ge_k 34 dX0_isPeriod_7 rfl rfl (by have := hh.2.1; omega) (by have := hh.2.1; omega) (fun c7 => ?_) (fun c7 => ?_)
    · refine wp_iconst 1 dX0_isPeriod_34 rfl rfl ?_
      exact wp_zreturn dX0_isPeriod_35 rfl rfl hq
    · exact absurd c7 (by omega)
  | succ k ih =>
    intro i hi hp hi2 hq
    refine wp_iload_2 dX0_isPeriod_2 rfl ?_
    refine wp_aload_0 dX0_isPeriod_3 rfl ?_
    refine wp_cvR dX0_isPeriod_4 rfl q1565 mv_X1_many (cgs hE.X hs) rfl rfl (c_many hE.X hs hr hh) rfl rfl (Nat.le_of_ble_eq_true rfl) (Nat.le_of_ble_eq_true rfl) ?_
    refine wp_icmp_ge_k 34 dX0_isPeriod_7 rfl rfl (by have := hh.2.1; omega) (by have := hh.2.1; omega) (fun c7 => ?_) (fun c7 => ?_)
    · exact absurd c7 (by omega)
    · refine wp_aload_0 dX0_isPeriod_10 rfl ?_
      refine wp_iload_2 dX0_isPeriod_11 rfl ?_
      refine wp_cvR dX0_isPeriod_12 rfl q1569 mv_X1_number (cgs hE.X hs) rfl rfl (c_number (nu := fun i => nu (60 * s + i)) hE.X hs hr hh (i := i) (by omega)) rfl rfl (Nat.le_of_ble_eq_true rfl) (Nat.le_of_ble_eq_true rfl) ?_
      refine wp_aload_0 dX0_isPeriod_15 rfl ?_
      refine wp_iload_2 dX0_isPeriod_16 rfl ?_
      refine wp_iload_1 dX0_isPeriod_17 rfl ?_
      refine wp_isub dX0_isPeriod_18 rfl ?_
      rw [pk_sub (show p ≤ i by omega)]
      refine wp_cvR dX0_isPeriod_19 rfl q1569 mv_X1_number (cgs hE.X hs) rfl rfl (c_number (nu := fun i => nu (60 * s + i)) hE.X hs hr hh (i := (i - p)) (by omega)) rfl rfl (Nat.le_of_ble_eq_true rfl) (Nat.le_of_ble_eq_true rfl) ?_
      refine wp_lcmp dX0_isPeriod_22 rfl ?_
      refine wp_if_eq 28 dX0_isPeriod_23 rfl rfl (fun c23 => ?_) (fun c23 => ?_)
      · refine wp_iinc_2 1 dX0_isPeriod_28 rfl rfl (by decide) rfl ?_
        refine wp_goto 2 dX0_isPeriod_31 rfl rfl ?_
        exact WP.cast (by rw [nI_1]) (ih (i + 1) (by omega) (by omega) (by have := hh.2.1; omega) (by rw [al_t (decide_eq_true ((lg_cmp_eq _ _).mp c23))] at hq; exact hq))
      · refine wp_iconst 0 dX0_isPeriod_26 rfl rfl ?_
        exact wp_zreturn dX0_isPeriod_27 rfl rfl (by rw [al_f (decide_eq_false (fun q => c23 ((lg_cmp_eq _ _).mpr q)))] at hq; exact hq)
theorem c_isPeriod {g : GW} {C : SC} {S : SM} {X : AH} {lo hi b : Nat} {A : BA} {W : Nat → Int32} (hE : EV C X lo hi b A W) {s : Nat} (hs : s < 4) {a m : Nat} {w : Int32} {nu : LT} (hr : C.2.2.2.1 (2 + s) = some a) (hh : HE X a m w (fun i => nu (60 * s + i))) {p : Nat} (hp : p < 1000) : SPx g 2 0 0 yX0_isPeriod cX0_isPeriod 3 (some .boolean) [.ref (2 + s), .int (nI p)] (cH C S X) (some (.int (b2i (ipV nu s m p)))) (cH C S X) := by
  refine SPx.intro [some (.ref (2 + s)), some (.int (nI p)), none] (pfn (by decide)) rfl (Nat.le_of_ble_eq_true rfl) ?_
  refine wp_iload_1 dX0_isPeriod_0 rfl ?_
  refine wp_istore_2 dX0_isPeriod_1 rfl (by decide) rfl ?_
  exact cL_isPeriod hE hs hr hh (m - p) p (by omega) (Nat.le_refl _) hp ⟨rfl, rfl⟩
theorem cL_leastPeriod {g : GW} {C : SC} {S : SM} {X : AH} {lo hi b : Nat} {A : BA} {W : Nat → Int32} (hE : EV C X lo hi b A W) {s : Nat} (hs : s < 4) {a m : Nat} {w : Int32} {nu : LT} (hr : C.2.2.2.1 (2 + s) = some a) (hh : HE X a m w (fun i => nu (60 * s + i))) {c n : Nat} {Q : Option Value → AH → Prop} : ∀ (k : Nat) (i : Nat), ((m ≤ i ∧ k = 0) ∨ i + k = m) → i < 1000 → Q (some (.int (onI (fstK (ipV nu s m) k i)))) (cH C S X) → WP g 3 yX0_leastPeriod cX0_leastPeriod 2 (some .int) 2 [some (.ref (2 + s)), some (.int (nI i))] [] (cH C S X) c n Q := by
  intro k
  induction k with
  | zero =>
    intro i hi hi2 hq
    refine wp_iload_1 dX0_leastPeriod_2 rfl ?_
    refine wp_aload_0 dX0_leastPeriod_3 rfl ?_
    refine wp_cvR dX0_leastPeriod_4 rfl q1565 mv_X1_many (cgs hE.X hs) rfl rfl (c_many hE.X hs hr hh) rfl rfl (Nat.le_of_ble_eq_true rfl) (Nat.le_of_ble_eq_true rfl) ?_
    refine wp_icmp_ge_k 26 dX0_leastPeriod_7 rfl rfl (by have := hh.2.1; omega) (by have := hh.2.1; omega) (fun c7 => ?_) (fun c7 => ?_)
    · refine wp_iconst (-1) dX0_leastPeriod_26 rfl rfl ?_
      exact wp_ireturn dX0_leastPeriod_27 rfl hq
    · exact absurd c7 (by omega)
  | succ k ih =>
    intro i hi hi2 hq
    refine wp_iload_1 dX0_leastPeriod_2 rfl ?_
    refine wp_aload_0 dX0_leastPeriod_3 rfl ?_
    refine wp_cvR dX0_leastPeriod_4 rfl q1565 mv_X1_many (cgs hE.X hs) rfl rfl (c_many hE.X hs hr hh) rfl rfl (Nat.le_of_ble_eq_true rfl) (Nat.le_of_ble_eq_true rfl) ?_
    refine wp_icmp_ge_k 26 dX0_leastPeriod_7 rfl rfl (by have := hh.2.1; omega) (by have := hh.2.1; omega) (fun c7 => ?_) (fun c7 => ?_)
    · exact absurd c7 (by omega)
    · refine wp_aload_0 dX0_leastPeriod_10 rfl ?_
      refine wp_iload_1 dX0_leastPeriod_11 rfl ?_
      refine wp_csR dX0_leastPeriod_12 rfl q1576 ms_X0_isPeriod (c_isPeriod hE hs hr hh (p := i) (by omega)) rfl rfl (Nat.le_of_ble_eq_true rfl) (Nat.le_of_ble_eq_true rfl) ?_
      refine wp_ifeq_b 20 dX0_leastPeriod_15 rfl rfl (fun c15 => ?_) (fun c15 => ?_)
      · refine wp_iinc_1 1 dX0_leastPeriod_20 rfl rfl (by decide) rfl ?_
        refine wp_goto 2 dX0_leastPeriod_23 rfl rfl ?_
        exact WP.cast (by rw [nI_1]) (ih (i + 1) (by omega) (by have := hh.2.1; omega) (by rw [fst_f c15] at hq; exact hq))
      · refine wp_iload_1 dX0_leastPeriod_18 rfl ?_
        exact wp_ireturn dX0_leastPeriod_19 rfl (by rw [fst_t c15] at hq; exact hq)
theorem c_leastPeriod {g : GW} {C : SC} {S : SM} {X : AH} {lo hi b : Nat} {A : BA} {W : Nat → Int32} (hE : EV C X lo hi b A W) {s : Nat} (hs : s < 4) {a m : Nat} {w : Int32} {nu : LT} (hr : C.2.2.2.1 (2 + s) = some a) (hh : HE X a m w (fun i => nu (60 * s + i))) : SPx g 3 0 0 yX0_leastPeriod cX0_leastPeriod 2 (some .int) [.ref (2 + s)] (cH C S X) (some (.int (onI (lpV nu s m)))) (cH C S X) := by
  refine SPx.intro [some (.ref (2 + s)), none] (pfn (by decide)) rfl (Nat.le_of_ble_eq_true rfl) ?_
  refine wp_iconst 1 dX0_leastPeriod_0 rfl rfl ?_
  refine wp_istore_1 dX0_leastPeriod_1 rfl (by decide) rfl ?_
  exact cL_leastPeriod hE hs hr hh (m - 1) 1 (by omega) (by omega) ⟨rfl, rfl⟩
theorem hrd_z {W my : Nat → Int32} {nu : LT} {slot : Int32} {f : Nat → Nat → Int32} (h : ahV W my nu slot = 0) : hrd W my nu slot f = f slot.toNatClampNeg (mN my slot.toNatClampNeg) := if_neg (by rw [h]; decide)
theorem ahV_lt {W my : Nat → Int32} {nu : LT} {slot : Int32} (h : ¬ ahV W my nu slot = 0) : ahV W my nu slot < 0 := by
  unfold ahV at h ⊢
  split
  · split
    · decide
    · split
      · rename_i q1 q2 q3
        rw [if_pos q1, if_neg q2, if_pos q3] at h
        exact absurd rfl h
      · decide
  · decide
theorem ahV_held {C : SC} {X : AH} {sl : SLt} (hS : HSS C X sl) {W : Nat → Int32} {slot : Int32} (h : ahV W sl.1 sl.2.2 slot = 0) : ∃ s, s < 4 ∧ slot = nI s ∧ bdW W = true ∧ ∃ a m w, sl.1 s = nI m ∧ m ≤ 60 ∧ mN sl.1 s = m ∧ C.2.2.2.1 (2 + s) = some a ∧ HE X a m w (fun i => sl.2.2 (60 * s + i)) := by
  unfold ahV at h
  split at h
  · rename_i q1
    obtain ⟨s, hs, rfl⟩ := la_of q1.1
    rw [nI_clamp (by omega)] at h
    rcases hS s hs with ⟨hm, hr⟩ | ⟨a, m, hm, hr, hh⟩
    · rw [if_pos hm] at h
      exact absurd h (by decide)
    · exact ⟨s, hs, rfl, q1.2, a, m, _, hm, hh.2.1, by unfold mN; rw [hm, nI_clamp (by have := hh.2.1; omega)], hr, hh⟩
  · exact absurd h (by decide)
theorem q_c_period {g : GW} {C : SC} {S : SM} {X : AH} {lo hi b : Nat} {A : BA} {W : Nat → Int32} (hE : EV C X lo hi b A W) {x : Int32} {sl : SLt} (hS : HSS C X sl) : SP g 6 0 0 yX0_period cX0_period 3 (some .int) [.ref 0, .int x] (cH C S X) (QC C S X (.int (qperiod W sl.1 sl.2.2 x))) := by
  refine SP.intro [some (.ref 0), some (.int x), none] (pfn (by decide)) rfl (Nat.le_of_ble_eq_true rfl) ?_
  refine wp_aload_0 dX0_period_0 rfl ?_
  refine wp_iload_1 dX0_period_1 rfl ?_
  refine wp_cvR dX0_period_2 rfl q1561 mv_X0_whyNot hE.o0 rfl rfl (c_whyNot hE hS) rfl rfl (Nat.le_of_ble_eq_true rfl) (Nat.le_of_ble_eq_true rfl) ?_
  refine wp_istore_2 dX0_period_5 rfl (by decide) rfl ?_
  refine wp_iload_2 dX0_period_6 rfl ?_
  refine wp_if_eq 14 dX0_period_7 rfl rfl (fun c7 => ?_) (fun c7 => ?_)
  · obtain ⟨s, hs, rfl, hbd, a, m, w, hm, h60, hmn, hr, hh⟩ := ahV_held hS c7
    refine wp_aload_0 dX0_period_14 rfl ?_
    refine wp_getf dX0_period_15 rfl q715 fk0_0 hE.o0 rfl ?_
    refine wp_iload_1 dX0_period_18 rfl ?_
    refine wp_aaload s dX0_period_19 rfl rfl rfl (cg_1 hE.X) (nI_clamp (by omega)) (vp_in_nI hs (by omega)) ?_
    rw [show va_rf (cn_ 4 2 s) = .ref (2 + s) by rw [show cn_ 4 2 s = some (2 + s) from if_pos hs]; rfl]
    refine wp_csR dX0_period_20 rfl q1573 ms_X0_leastPeriod (c_leastPeriod hE hs hr hh) rfl rfl (Nat.le_of_ble_eq_true rfl) (Nat.le_of_ble_eq_true rfl) ?_
    exact wp_ireturn dX0_period_23 rfl ⟨by first | (rw [qperiod, hrd_n (ahV_lt c7)]; done) | (rw [qperiod, hrd_z c7, nI_clamp (by omega), hmn]; done), QC0.rf⟩
  · refine wp_iload_2 dX0_period_10 rfl ?_
    refine wp_goto 23 dX0_period_11 rfl rfl ?_
    exact wp_ireturn dX0_period_23 rfl ⟨by first | (rw [qperiod, hrd_n (ahV_lt c7)]; done) | (rw [qperiod, hrd_z c7, nI_clamp (by omega), hmn]; done), QC0.rf⟩
theorem cL_periods {g : GW} {C : SC} {S : SM} {X : AH} {lo hi b : Nat} {A : BA} {W : Nat → Int32} (hE : EV C X lo hi b A W) {s : Nat} (hs : s < 4) {a m : Nat} {w : Int32} {nu : LT} (hr : C.2.2.2.1 (2 + s) = some a) (hh : HE X a m w (fun i => nu (60 * s + i))) {v2 : Int32} {c n : Nat} {Q : Option Value → AH → Prop} : ∀ (k : Nat) (i : Nat) (x : Int32), ((m ≤ i ∧ k = 0) ∨ i + k = m) → i < 1000 → Q (some (.int (itr (ctF (ipV nu s m)) k i x))) (cH C S X) → WP g 6 yX0_periods cX0_periods 5 (some .int) 17 [some (.ref 0), some (.int (nI s)), some (.int v2), some (.int x), some (.int (nI i))] [] (cH C S X) c n Q := by
  intro k
  induction k with
  | zero =>
    intro i x hi hi2 hq
    refine wp_iload_4 dX0_periods_17 rfl ?_
    refine wp_aload_0 dX0_periods_19 rfl ?_
    refine wp_getf dX0_periods_20 rfl q715 fk0_0 hE.o0 rfl ?_
    refine wp_iload_1 dX0_periods_23 rfl ?_
    refine wp_aaload s dX0_periods_24 rfl rfl rfl (cg_1 hE.X) (nI_clamp (by omega)) (vp_in_nI hs (by omega)) ?_
    rw [show va_rf (cn_ 4 2 s) = .ref (2 + s) by rw [show cn_ 4 2 s = some (2 + s) from if_pos hs]; rfl]
    refine wp_cvR dX0_periods_25 rfl q1565 mv_X1_many (cgs hE.X hs) rfl rfl (c_many hE.X hs hr hh) rfl rfl (Nat.le_of_ble_eq_true rfl) (Nat.le_of_ble_eq_true rfl) ?_
    refine wp_icmp_ge_k 59 dX0_periods_28 rfl rfl (by have := hh.2.1; omega) (by have := hh.2.1; omega) (fun c28 => ?_) (fun c28 => ?_)
    · refine wp_iload_3 dX0_periods_59 rfl ?_
      exact wp_ireturn dX0_periods_60 rfl hq
    · exact absurd c28 (by omega)
  | succ k ih =>
    intro i x hi hi2 hq
    refine wp_iload_4 dX0_periods_17 rfl ?_
    refine wp_aload_0 dX0_periods_19 rfl ?_
    refine wp_getf dX0_periods_20 rfl q715 fk0_0 hE.o0 rfl ?_
    refine wp_iload_1 dX0_periods_23 rfl ?_
    refine wp_aaload s dX0_periods_24 rfl rfl rfl (cg_1 hE.X) (nI_clamp (by omega)) (vp_in_nI hs (by omega)) ?_
    rw [show va_rf (cn_ 4 2 s) = .ref (2 + s) by rw [show cn_ 4 2 s = some (2 + s) from if_pos hs]; rfl]
    refine wp_cvR dX0_periods_25 rfl q1565 mv_X1_many (cgs hE.X hs) rfl rfl (c_many hE.X hs hr hh) rfl rfl (Nat.le_of_ble_eq_true rfl) (Nat.le_of_ble_eq_true rfl) ?_
    refine wp_icmp_ge_k 59 dX0_periods_28 rfl rfl (by have := hh.2.1; omega) (by have := hh.2.1; omega) (fun c28 => ?_) (fun c28 => ?_)
    · exact absurd c28 (by omega)
    · refine wp_iload_3 dX0_periods_31 rfl ?_
      refine wp_aload_0 dX0_periods_32 rfl ?_
      refine wp_getf dX0_periods_33 rfl q715 fk0_0 hE.o0 rfl ?_
      refine wp_iload_1 dX0_periods_36 rfl ?_
      refine wp_aaload s dX0_periods_37 rfl rfl rfl (cg_1 hE.X) (nI_clamp (by omega)) (vp_in_nI hs (by omega)) ?_
      rw [show va_rf (cn_ 4 2 s) = .ref (2 + s) by rw [show cn_ 4 2 s = some (2 + s) from if_pos hs]; rfl]
      refine wp_iload_4 dX0_periods_38 rfl ?_
      refine wp_csR dX0_periods_40 rfl q1576 ms_X0_isPeriod (c_isPeriod hE hs hr hh (p := i) (by omega)) rfl rfl (Nat.le_of_ble_eq_true rfl) (Nat.le_of_ble_eq_true rfl) ?_
      refine wp_ifeq_b 50 dX0_periods_43 rfl rfl (fun c43 => ?_) (fun c43 => ?_)
      · refine wp_iconst 0 dX0_periods_50 rfl rfl ?_
        refine wp_iadd dX0_periods_51 rfl ?_
        refine wp_istore_3 dX0_periods_52 rfl (by decide) rfl ?_
        refine wp_iinc_4 1 dX0_periods_53 rfl rfl (by decide) rfl ?_
        refine wp_goto 17 dX0_periods_56 rfl rfl ?_
        exact WP.cast (by simp [ctF, nI_1, *]) (ih (i + 1) (ctF (ipV nu s m) i x) (by omega) (by have := hh.2.1; omega) hq)
      · refine wp_iconst 1 dX0_periods_46 rfl rfl ?_
        refine wp_goto 51 dX0_periods_47 rfl rfl ?_
        refine wp_iadd dX0_periods_51 rfl ?_
        refine wp_istore_3 dX0_periods_52 rfl (by decide) rfl ?_
        refine wp_iinc_4 1 dX0_periods_53 rfl rfl (by decide) rfl ?_
        refine wp_goto 17 dX0_periods_56 rfl rfl ?_
        exact WP.cast (by simp [ctF, nI_1, *]) (ih (i + 1) (ctF (ipV nu s m) i x) (by omega) (by have := hh.2.1; omega) hq)
theorem q_c_periods {g : GW} {C : SC} {S : SM} {X : AH} {lo hi b : Nat} {A : BA} {W : Nat → Int32} (hE : EV C X lo hi b A W) {x : Int32} {sl : SLt} (hS : HSS C X sl) : SP g 6 0 0 yX0_periods cX0_periods 5 (some .int) [.ref 0, .int x] (cH C S X) (QC C S X (.int (qperiods W sl.1 sl.2.2 x))) := by
  refine SP.intro [some (.ref 0), some (.int x), none, none, none] (pfn (by decide)) rfl (Nat.le_of_ble_eq_true rfl) ?_
  refine wp_aload_0 dX0_periods_0 rfl ?_
  refine wp_iload_1 dX0_periods_1 rfl ?_
  refine wp_cvR dX0_periods_2 rfl q1561 mv_X0_whyNot hE.o0 rfl rfl (c_whyNot hE hS) rfl rfl (Nat.le_of_ble_eq_true rfl) (Nat.le_of_ble_eq_true rfl) ?_
  refine wp_istore_2 dX0_periods_5 rfl (by decide) rfl ?_
  refine wp_iload_2 dX0_periods_6 rfl ?_
  refine wp_if_eq 12 dX0_periods_7 rfl rfl (fun c7 => ?_) (fun c7 => ?_)
  · obtain ⟨s, hs, rfl, hbd, a, m, w, hm, h60, hmn, hr, hh⟩ := ahV_held hS c7
    refine wp_iconst 0 dX0_periods_12 rfl rfl ?_
    refine wp_istore_3 dX0_periods_13 rfl (by decide) rfl ?_
    refine wp_iconst 1 dX0_periods_14 rfl rfl ?_
    refine wp_istore_4 dX0_periods_15 rfl (by decide) rfl ?_
    exact cL_periods hE hs hr hh (m - 1) 1 0 (by omega) (by omega) ⟨by rw [qperiods, hrd_z c7, nI_clamp (by omega), hmn], QC0.rf⟩
  · refine wp_iload_2 dX0_periods_10 rfl ?_
    exact wp_ireturn dX0_periods_11 rfl ⟨by first | (rw [qperiods, hrd_n (ahV_lt c7)]; done) | (rw [qperiods, hrd_z c7, nI_clamp (by omega), hmn]; done), QC0.rf⟩
theorem cL_isFit {g : GW} {C : SC} {S : SM} {X : AH} {lo hi b : Nat} {A : BA} {W : Nat → Int32} (hE : EV C X lo hi b A W) {s : Nat} (hs : s < 4) {a m : Nat} {w : Int32} {nu : LT} (hr : C.2.2.2.1 (2 + s) = some a) (hh : HE X a m w (fun i => nu (60 * s + i))) {p : Nat} (h5 : 0 < nW W 5) {c n : Nat} {Q : Option Value → AH → Prop} : ∀ (k : Nat) (i : Nat), i + k = m → Q (some (.int (b2i (alK (fiP W nu s p) k i)))) (cH C S X) → WP g 6 yX0_isFit cX0_isFit 4 (some .boolean) 2 [some (.ref 0), some (.ref (2 + s)), some (.int (nI p)), some (.int (nI i))] [] (cH C S X) c n Q := by
  intro k
  induction k with
  | zero =>
    intro i hi hq
    refine wp_iload_3 dX0_isFit_2 rfl ?_
    refine wp_aload_1 dX0_isFit_3 rfl ?_
    refine wp_cvR dX0_isFit_4 rfl q1565 mv_X1_many (cgs hE.X hs) rfl rfl (c_many hE.X hs hr hh) rfl rfl (Nat.le_of_ble_eq_true rfl) (Nat.le_of_ble_eq_true rfl) ?_
    refine wp_icmp_ge_k 35 dX0_isFit_7 rfl rfl (by have := hh.2.1; omega) (by have := hh.2.1; omega) (fun c7 => ?_) (fun c7 => ?_)
    · refine wp_iconst 1 dX0_isFit_35 rfl rfl ?_
      exact wp_zreturn dX0_isFit_36 rfl rfl hq
    · exact absurd c7 (by omega)
  | succ k ih =>
    intro i hi hq
    refine wp_iload_3 dX0_isFit_2 rfl ?_
    refine wp_aload_1 dX0_isFit_3 rfl ?_
    refine wp_cvR dX0_isFit_4 rfl q1565 mv_X1_many (cgs hE.X hs) rfl rfl (c_many hE.X hs hr hh) rfl rfl (Nat.le_of_ble_eq_true rfl) (Nat.le_of_ble_eq_true rfl) ?_
    refine wp_icmp_ge_k 35 dX0_isFit_7 rfl rfl (by have := hh.2.1; omega) (by have := hh.2.1; omega) (fun c7 => ?_) (fun c7 => ?_)
    · exact absurd c7 (by omega)
    · refine wp_aload_0 dX0_isFit_10 rfl ?_
      refine wp_iload_2 dX0_isFit_11 rfl ?_
      refine wp_iload_3 dX0_isFit_12 rfl ?_
      refine wp_iadd dX0_isFit_13 rfl ?_
      rw [nI_add]
      refine wp_cvR dX0_isFit_14 rfl q1549 mv_X0_holeOf hE.o0 rfl rfl (c_holeOf hE h5) rfl rfl (Nat.le_of_ble_eq_true rfl) (Nat.le_of_ble_eq_true rfl) ?_
      refine wp_i2l dX0_isFit_17 rfl ?_
      refine wp_aload_1 dX0_isFit_18 rfl ?_
      refine wp_iload_3 dX0_isFit_19 rfl ?_
      refine wp_cvR dX0_isFit_20 rfl q1569 mv_X1_number (cgs hE.X hs) rfl rfl (c_number (nu := fun i => nu (60 * s + i)) hE.X hs hr hh (i := i) (by omega)) rfl rfl (Nat.le_of_ble_eq_true rfl) (Nat.le_of_ble_eq_true rfl) ?_
      refine wp_lcmp dX0_isFit_23 rfl ?_
      refine wp_if_eq 29 dX0_isFit_24 rfl rfl (fun c24 => ?_) (fun c24 => ?_)
      · refine wp_iinc_3 1 dX0_isFit_29 rfl rfl (by decide) rfl ?_
        refine wp_goto 2 dX0_isFit_32 rfl rfl ?_
        exact WP.cast (by rw [nI_1]) (ih (i + 1) (by omega) (by rw [al_t (decide_eq_true ((lg_cmp_eq _ _).mp c24))] at hq; exact hq))
      · refine wp_iconst 0 dX0_isFit_27 rfl rfl ?_
        exact wp_zreturn dX0_isFit_28 rfl rfl (by rw [al_f (decide_eq_false (fun q => c24 ((lg_cmp_eq _ _).mpr q)))] at hq; exact hq)
theorem c_isFit {g : GW} {C : SC} {S : SM} {X : AH} {lo hi b : Nat} {A : BA} {W : Nat → Int32} (hE : EV C X lo hi b A W) {s : Nat} (hs : s < 4) {a m : Nat} {w : Int32} {nu : LT} (hr : C.2.2.2.1 (2 + s) = some a) (hh : HE X a m w (fun i => nu (60 * s + i))) {p : Nat} (h5 : 0 < nW W 5) : SPx g 6 0 0 yX0_isFit cX0_isFit 4 (some .boolean) [.ref 0, .ref (2 + s), .int (nI p)] (cH C S X) (some (.int (b2i (fiV W nu s m p)))) (cH C S X) := by
  refine SPx.intro [some (.ref 0), some (.ref (2 + s)), some (.int (nI p)), none] (pfn (by decide)) rfl (Nat.le_of_ble_eq_true rfl) ?_
  refine wp_iconst 0 dX0_isFit_0 rfl rfl ?_
  refine wp_istore_3 dX0_isFit_1 rfl (by decide) rfl ?_
  exact cL_isFit hE hs hr hh h5 m 0 (Nat.zero_add _) ⟨rfl, rfl⟩
theorem cL_fits {g : GW} {C : SC} {S : SM} {X : AH} {lo hi b : Nat} {A : BA} {W : Nat → Int32} (hE : EV C X lo hi b A W) {s : Nat} (hs : s < 4) {a m : Nat} {w : Int32} {nu : LT} (hr : C.2.2.2.1 (2 + s) = some a) (hh : HE X a m w (fun i => nu (60 * s + i))) {v2 : Int32} {c n : Nat} {Q : Option Value → AH → Prop} : ∀ (k : Nat) (i : Nat) (x : Int32), i + k = nW W 5 → Q (some (.int (itr (ctF (fiV W nu s m)) k i x))) (cH C S X) → WP g 7 yX0_fits cX0_fits 5 (some .int) 17 [some (.ref 0), some (.int (nI s)), some (.int v2), some (.int x), some (.int (nI i))] [] (cH C S X) c n Q := by
  intro k
  induction k with
  | zero =>
    intro i x hi hq
    refine wp_iload_4 dX0_fits_17 rfl ?_
    refine wp_aload_0 dX0_fits_19 rfl ?_
    refine wp_cvR dX0_fits_20 rfl q1183 mv_X0_comingsOfDrum hE.o0 rfl rfl (c_comingsOfDrum hE) rfl rfl (Nat.le_of_ble_eq_true rfl) (Nat.le_of_ble_eq_true rfl) ?_
    refine wp_icmp_ge_k 55 dX0_fits_23 rfl rfl (by have := hE.s.nc.2; omega) (by have := hE.s.nc.2; omega) (fun c23 => ?_) (fun c23 => ?_)
    · refine wp_iload_3 dX0_fits_55 rfl ?_
      exact wp_ireturn dX0_fits_56 rfl hq
    · exact absurd c23 (by omega)
  | succ k ih =>
    intro i x hi hq
    refine wp_iload_4 dX0_fits_17 rfl ?_
    refine wp_aload_0 dX0_fits_19 rfl ?_
    refine wp_cvR dX0_fits_20 rfl q1183 mv_X0_comingsOfDrum hE.o0 rfl rfl (c_comingsOfDrum hE) rfl rfl (Nat.le_of_ble_eq_true rfl) (Nat.le_of_ble_eq_true rfl) ?_
    refine wp_icmp_ge_k 55 dX0_fits_23 rfl rfl (by have := hE.s.nc.2; omega) (by have := hE.s.nc.2; omega) (fun c23 => ?_) (fun c23 => ?_)
    · exact absurd c23 (by omega)
    · refine wp_iload_3 dX0_fits_26 rfl ?_
      refine wp_aload_0 dX0_fits_27 rfl ?_
      refine wp_aload_0 dX0_fits_28 rfl ?_
      refine wp_getf dX0_fits_29 rfl q715 fk0_0 hE.o0 rfl ?_
      refine wp_iload_1 dX0_fits_32 rfl ?_
      refine wp_aaload s dX0_fits_33 rfl rfl rfl (cg_1 hE.X) (nI_clamp (by omega)) (vp_in_nI hs (by omega)) ?_
      rw [show va_rf (cn_ 4 2 s) = .ref (2 + s) by rw [show cn_ 4 2 s = some (2 + s) from if_pos hs]; rfl]
      refine wp_iload_4 dX0_fits_34 rfl ?_
      refine wp_cvR dX0_fits_36 rfl q1592 mv_X0_isFit hE.o0 rfl rfl (c_isFit hE hs hr hh (by omega)) rfl rfl (Nat.le_of_ble_eq_true rfl) (Nat.le_of_ble_eq_true rfl) ?_
      refine wp_ifeq_b 46 dX0_fits_39 rfl rfl (fun c39 => ?_) (fun c39 => ?_)
      · refine wp_iconst 0 dX0_fits_46 rfl rfl ?_
        refine wp_iadd dX0_fits_47 rfl ?_
        refine wp_istore_3 dX0_fits_48 rfl (by decide) rfl ?_
        refine wp_iinc_4 1 dX0_fits_49 rfl rfl (by decide) rfl ?_
        refine wp_goto 17 dX0_fits_52 rfl rfl ?_
        exact WP.cast (by simp [ctF, nI_1, *]) (ih (i + 1) (ctF (fiV W nu s m) i x) (by omega) hq)
      · refine wp_iconst 1 dX0_fits_42 rfl rfl ?_
        refine wp_goto 47 dX0_fits_43 rfl rfl ?_
        refine wp_iadd dX0_fits_47 rfl ?_
        refine wp_istore_3 dX0_fits_48 rfl (by decide) rfl ?_
        refine wp_iinc_4 1 dX0_fits_49 rfl rfl (by decide) rfl ?_
        refine wp_goto 17 dX0_fits_52 rfl rfl ?_
        exact WP.cast (by simp [ctF, nI_1, *]) (ih (i + 1) (ctF (fiV W nu s m) i x) (by omega) hq)
theorem q_c_fits {g : GW} {C : SC} {S : SM} {X : AH} {lo hi b : Nat} {A : BA} {W : Nat → Int32} (hE : EV C X lo hi b A W) {x : Int32} {sl : SLt} (hS : HSS C X sl) : SP g 7 0 0 yX0_fits cX0_fits 5 (some .int) [.ref 0, .int x] (cH C S X) (QC C S X (.int (qfits W sl.1 sl.2.2 x))) := by
  refine SP.intro [some (.ref 0), some (.int x), none, none, none] (pfn (by decide)) rfl (Nat.le_of_ble_eq_true rfl) ?_
  refine wp_aload_0 dX0_fits_0 rfl ?_
  refine wp_iload_1 dX0_fits_1 rfl ?_
  refine wp_cvR dX0_fits_2 rfl q1561 mv_X0_whyNot hE.o0 rfl rfl (c_whyNot hE hS) rfl rfl (Nat.le_of_ble_eq_true rfl) (Nat.le_of_ble_eq_true rfl) ?_
  refine wp_istore_2 dX0_fits_5 rfl (by decide) rfl ?_
  refine wp_iload_2 dX0_fits_6 rfl ?_
  refine wp_if_eq 12 dX0_fits_7 rfl rfl (fun c7 => ?_) (fun c7 => ?_)
  · obtain ⟨s, hs, rfl, hbd, a, m, w, hm, h60, hmn, hr, hh⟩ := ahV_held hS c7
    refine wp_iconst 0 dX0_fits_12 rfl rfl ?_
    refine wp_istore_3 dX0_fits_13 rfl (by decide) rfl ?_
    refine wp_iconst 0 dX0_fits_14 rfl rfl ?_
    refine wp_istore_4 dX0_fits_15 rfl (by decide) rfl ?_
    exact cL_fits hE hs hr hh (nW W 5) 0 0 (Nat.zero_add _) ⟨by rw [qfits, hrd_z c7, nI_clamp (by omega), hmn], QC0.rf⟩
  · refine wp_iload_2 dX0_fits_10 rfl ?_
    exact wp_ireturn dX0_fits_11 rfl ⟨by first | (rw [qfits, hrd_n (ahV_lt c7)]; done) | (rw [qfits, hrd_z c7, nI_clamp (by omega), hmn]; done), QC0.rf⟩
def plC (p : Nat → Bool) : Nat → Nat → Int32 → Int32
  | 0, _, _ => -1
  | k + 1, d, left => if p d = true then (if left = 0 then nI d else plC p k (d + 1) (left - 1)) else plC p k (d + 1) left
def pla0 (W my : Nat → Int32) (nu : LT) (slot i : Int32) : Int32 := hrd W my nu slot (fun s m => plC (fiV W nu s m) (nW W 5) 0 i)
theorem cL_place {g : GW} {C : SC} {S : SM} {X : AH} {lo hi b : Nat} {A : BA} {W : Nat → Int32} (hE : EV C X lo hi b A W) {s : Nat} (hs : s < 4) {a m : Nat} {w : Int32} {nu : LT} (hr : C.2.2.2.1 (2 + s) = some a) (hh : HE X a m w (fun i => nu (60 * s + i))) {v2 v3 : Int32} {c n : Nat} {Q : Option Value → AH → Prop} : ∀ (k : Nat) (i : Nat) (x : Int32), i + k = nW W 5 → Q (some (.int (plC (fiV W nu s m) k i x))) (cH C S X) → WP g 7 yX0_place cX0_place 6 (some .int) 18 [some (.ref 0), some (.int (nI s)), some (.int v2), some (.int v3), some (.int x), some (.int (nI i))] [] (cH C S X) c n Q := by
  intro k
  induction k with
  | zero =>
    intro i x hi hq
    refine wp_iload_5 dX0_place_18 rfl ?_
    refine wp_aload_0 dX0_place_20 rfl ?_
    refine wp_cvR dX0_place_21 rfl q1183 mv_X0_comingsOfDrum hE.o0 rfl rfl (c_comingsOfDrum hE) rfl rfl (Nat.le_of_ble_eq_true rfl) (Nat.le_of_ble_eq_true rfl) ?_
    refine wp_icmp_ge_k 62 dX0_place_24 rfl rfl (by have := hE.s.nc.2; omega) (by have := hE.s.nc.2; omega) (fun c24 => ?_) (fun c24 => ?_)
    · refine wp_iconst (-1) dX0_place_62 rfl rfl ?_
      exact wp_ireturn dX0_place_63 rfl hq
    · exact absurd c24 (by omega)
  | succ k ih =>
    intro i x hi hq
    refine wp_iload_5 dX0_place_18 rfl ?_
    refine wp_aload_0 dX0_place_20 rfl ?_
    refine wp_cvR dX0_place_21 rfl q1183 mv_X0_comingsOfDrum hE.o0 rfl rfl (c_comingsOfDrum hE) rfl rfl (Nat.le_of_ble_eq_true rfl) (Nat.le_of_ble_eq_true rfl) ?_
    refine wp_icmp_ge_k 62 dX0_place_24 rfl rfl (by have := hE.s.nc.2; omega) (by have := hE.s.nc.2; omega) (fun c24 => ?_) (fun c24 => ?_)
    · exact absurd c24 (by omega)
    · refine wp_aload_0 dX0_place_27 rfl ?_
      refine wp_aload_0 dX0_place_28 rfl ?_
      refine wp_getf dX0_place_29 rfl q715 fk0_0 hE.o0 rfl ?_
      refine wp_iload_1 dX0_place_32 rfl ?_
      refine wp_aaload s dX0_place_33 rfl rfl rfl (cg_1 hE.X) (nI_clamp (by omega)) (vp_in_nI hs (by omega)) ?_
      rw [show va_rf (cn_ 4 2 s) = .ref (2 + s) by rw [show cn_ 4 2 s = some (2 + s) from if_pos hs]; rfl]
      refine wp_iload_5 dX0_place_34 rfl ?_
      refine wp_cvR dX0_place_36 rfl q1592 mv_X0_isFit hE.o0 rfl rfl (c_isFit hE hs hr hh (by omega)) rfl rfl (Nat.le_of_ble_eq_true rfl) (Nat.le_of_ble_eq_true rfl) ?_
      refine wp_ifne_b 45 dX0_place_39 rfl rfl (fun c39 => ?_) (fun c39 => ?_)
      · refine wp_iload_4 dX0_place_45 rfl ?_
        refine wp_if_ne 53 dX0_place_47 rfl rfl (fun c47 => ?_) (fun c47 => ?_)
        · refine wp_iinc_4 (-1) dX0_place_53 rfl rfl (by decide) rfl ?_
          refine wp_iinc_5 1 dX0_place_56 rfl rfl (by decide) rfl ?_
          refine wp_goto 18 dX0_place_59 rfl rfl ?_
          exact WP.cast (by rw [nI_1, show x + -1 = x - 1 by grind]) (ih (i + 1) (x - 1) (by omega) (by rw [plC, if_pos c39, if_neg c47] at hq; exact hq))
        · refine wp_iload_5 dX0_place_50 rfl ?_
          exact wp_ireturn dX0_place_52 rfl (by rw [plC, if_pos c39, if_pos c47] at hq; exact hq)
      · refine wp_goto 56 dX0_place_42 rfl rfl ?_
        refine wp_iinc_5 1 dX0_place_56 rfl rfl (by decide) rfl ?_
        refine wp_goto 18 dX0_place_59 rfl rfl ?_
        exact WP.cast (by rw [nI_1]) (ih (i + 1) x (by omega) (by rw [plC, if_neg (by rw [c39]; decide)] at hq; exact hq))
theorem q_c_place0 {g : GW} {C : SC} {S : SM} {X : AH} {lo hi b : Nat} {A : BA} {W : Nat → Int32} (hE : EV C X lo hi b A W) {x z : Int32} {sl : SLt} (hS : HSS C X sl) : SP g 7 0 0 yX0_place cX0_place 6 (some .int) [.ref 0, .int x, .int z] (cH C S X) (QC C S X (.int (pla0 W sl.1 sl.2.2 x z))) := by
  refine SP.intro [some (.ref 0), some (.int x), some (.int z), none, none, none] (pfn (by decide)) rfl (Nat.le_of_ble_eq_true rfl) ?_
  refine wp_aload_0 dX0_place_0 rfl ?_
  refine wp_iload_1 dX0_place_1 rfl ?_
  refine wp_cvR dX0_place_2 rfl q1561 mv_X0_whyNot hE.o0 rfl rfl (c_whyNot hE hS) rfl rfl (Nat.le_of_ble_eq_true rfl) (Nat.le_of_ble_eq_true rfl) ?_
  refine wp_istore_3 dX0_place_5 rfl (by decide) rfl ?_
  refine wp_iload_3 dX0_place_6 rfl ?_
  refine wp_if_eq 12 dX0_place_7 rfl rfl (fun c7 => ?_) (fun c7 => ?_)
  · obtain ⟨s, hs, rfl, hbd, a, m, w, hm, h60, hmn, hr, hh⟩ := ahV_held hS c7
    refine wp_iload_2 dX0_place_12 rfl ?_
    refine wp_istore_4 dX0_place_13 rfl (by decide) rfl ?_
    refine wp_iconst 0 dX0_place_15 rfl rfl ?_
    refine wp_istore_5 dX0_place_16 rfl (by decide) rfl ?_
    exact cL_place hE hs hr hh (nW W 5) 0 z (Nat.zero_add _) ⟨by rw [pla0, hrd_z c7, nI_clamp (by omega), hmn], QC0.rf⟩
  · refine wp_iload_3 dX0_place_10 rfl ?_
    exact wp_ireturn dX0_place_11 rfl ⟨by first | (rw [pla0, hrd_n (ahV_lt c7)]; done) | (rw [pla0, hrd_z c7, nI_clamp (by omega), hmn]; done), QC0.rf⟩
theorem cL_next {g : GW} {C : SC} {S : SM} {X : AH} {lo hi b : Nat} {A : BA} {W : Nat → Int32} (hE : EV C X lo hi b A W) {s : Nat} (hs : s < 4) {a m : Nat} {w : Int32} {nu : LT} (hr : C.2.2.2.1 (2 + s) = some a) (hh : HE X a m w (fun i => nu (60 * s + i))) {v2 : Int32} {c n : Nat} {Q : Option Value → AH → Prop} : ∀ (k : Nat) (i : Nat) (x : Int32) (v5 : Option Value), i + k = nW W 5 → Q (some (.int (nxK (fiV W nu s m) (fun d => hA W (d + m)) k i x))) (cH C S X) → WP g 7 yX0_next cX0_next 6 (some .int) 17 [some (.ref 0), some (.int (nI s)), some (.int v2), some (.int x), some (.int (nI i)), v5] [] (cH C S X) c n Q := by
  intro k
  induction k with
  | zero =>
    intro i x v5 hi hq
    refine wp_iload_4 dX0_next_17 rfl ?_
    refine wp_aload_0 dX0_next_19 rfl ?_
    refine wp_cvR dX0_next_20 rfl q1183 mv_X0_comingsOfDrum hE.o0 rfl rfl (c_comingsOfDrum hE) rfl rfl (Nat.le_of_ble_eq_true rfl) (Nat.le_of_ble_eq_true rfl) ?_
    refine wp_icmp_ge_k 84 dX0_next_23 rfl rfl (by have := hE.s.nc.2; omega) (by have := hE.s.nc.2; omega) (fun c23 => ?_) (fun c23 => ?_)
    · refine wp_iload_3 dX0_next_84 rfl ?_
      exact wp_ireturn dX0_next_85 rfl hq
    · exact absurd c23 (by omega)
  | succ k ih =>
    intro i x v5 hi hq
    refine wp_iload_4 dX0_next_17 rfl ?_
    refine wp_aload_0 dX0_next_19 rfl ?_
    refine wp_cvR dX0_next_20 rfl q1183 mv_X0_comingsOfDrum hE.o0 rfl rfl (c_comingsOfDrum hE) rfl rfl (Nat.le_of_ble_eq_true rfl) (Nat.le_of_ble_eq_true rfl) ?_
    refine wp_icmp_ge_k 84 dX0_next_23 rfl rfl (by have := hE.s.nc.2; omega) (by have := hE.s.nc.2; omega) (fun c23 => ?_) (fun c23 => ?_)
    · exact absurd c23 (by omega)
    · refine wp_aload_0 dX0_next_26 rfl ?_
      refine wp_aload_0 dX0_next_27 rfl ?_
      refine wp_getf dX0_next_28 rfl q715 fk0_0 hE.o0 rfl ?_
      refine wp_iload_1 dX0_next_31 rfl ?_
      refine wp_aaload s dX0_next_32 rfl rfl rfl (cg_1 hE.X) (nI_clamp (by omega)) (vp_in_nI hs (by omega)) ?_
      rw [show va_rf (cn_ 4 2 s) = .ref (2 + s) by rw [show cn_ 4 2 s = some (2 + s) from if_pos hs]; rfl]
      refine wp_iload_4 dX0_next_33 rfl ?_
      refine wp_cvR dX0_next_35 rfl q1592 mv_X0_isFit hE.o0 rfl rfl (c_isFit hE hs hr hh (by omega)) rfl rfl (Nat.le_of_ble_eq_true rfl) (Nat.le_of_ble_eq_true rfl) ?_
      refine wp_ifne_b 44 dX0_next_38 rfl rfl (fun c38 => ?_) (fun c38 => ?_)
      · refine wp_aload_0 dX0_next_44 rfl ?_
        refine wp_iload_4 dX0_next_45 rfl ?_
        refine wp_aload_0 dX0_next_47 rfl ?_
        refine wp_getf dX0_next_48 rfl q715 fk0_0 hE.o0 rfl ?_
        refine wp_iload_1 dX0_next_51 rfl ?_
        refine wp_aaload s dX0_next_52 rfl rfl rfl (cg_1 hE.X) (nI_clamp (by omega)) (vp_in_nI hs (by omega)) ?_
        rw [show va_rf (cn_ 4 2 s) = .ref (2 + s) by rw [show cn_ 4 2 s = some (2 + s) from if_pos hs]; rfl]
        refine wp_cvR dX0_next_53 rfl q1565 mv_X1_many (cgs hE.X hs) rfl rfl (c_many hE.X hs hr hh) rfl rfl (Nat.le_of_ble_eq_true rfl) (Nat.le_of_ble_eq_true rfl) ?_
        refine wp_iadd dX0_next_56 rfl ?_
        rw [nI_add]
        refine wp_cvR dX0_next_57 rfl q1549 mv_X0_holeOf hE.o0 rfl rfl (c_holeOf hE (by omega)) rfl rfl (Nat.le_of_ble_eq_true rfl) (Nat.le_of_ble_eq_true rfl) ?_
        rw [show hoA W (nI (i + m)) = hA W (i + m) from rfl]
        refine wp_istore_5 dX0_next_60 rfl (by decide) rfl ?_
        refine wp_iload_3 dX0_next_62 rfl ?_
        refine wp_iconst (-1) dX0_next_63 rfl rfl ?_
        refine wp_icmp_eq 75 dX0_next_64 rfl rfl (fun c64 => ?_) (fun c64 => ?_)
        · refine wp_iload_5 dX0_next_75 rfl ?_
          refine wp_istore_3 dX0_next_77 rfl (by decide) rfl ?_
          refine wp_iinc_4 1 dX0_next_78 rfl rfl (by decide) rfl ?_
          refine wp_goto 17 dX0_next_81 rfl rfl ?_
          exact WP.cast (by rw [nI_1]) (ih (i + 1) (hA W (i + m)) _ (by omega) (by rw [nxK, if_pos c38, if_neg (fun q => q.1 c64)] at hq; exact hq))
        · refine wp_iload_3 dX0_next_67 rfl ?_
          refine wp_iload_5 dX0_next_68 rfl ?_
          refine wp_icmp_eq 75 dX0_next_70 rfl rfl (fun c70 => ?_) (fun c70 => ?_)
          · refine wp_iload_5 dX0_next_75 rfl ?_
            refine wp_istore_3 dX0_next_77 rfl (by decide) rfl ?_
            refine wp_iinc_4 1 dX0_next_78 rfl rfl (by decide) rfl ?_
            refine wp_goto 17 dX0_next_81 rfl rfl ?_
            exact WP.cast (by rw [nI_1]) (ih (i + 1) (hA W (i + m)) _ (by omega) (by rw [nxK, if_pos c38, if_neg (fun q => q.2 c70.symm)] at hq; exact hq))
          · refine wp_iconst (-1) dX0_next_73 rfl rfl ?_
            exact wp_ireturn dX0_next_74 rfl (by rw [nxK, if_pos c38, if_pos ⟨c64, fun q => c70 q.symm⟩] at hq; exact hq)
      · refine wp_goto 78 dX0_next_41 rfl rfl ?_
        refine wp_iinc_4 1 dX0_next_78 rfl rfl (by decide) rfl ?_
        refine wp_goto 17 dX0_next_81 rfl rfl ?_
        exact WP.cast (by rw [nI_1]) (ih (i + 1) x _ (by omega) (by rw [nxK, if_neg (by rw [c38]; decide)] at hq; exact hq))
theorem q_c_next {g : GW} {C : SC} {S : SM} {X : AH} {lo hi b : Nat} {A : BA} {W : Nat → Int32} (hE : EV C X lo hi b A W) {x : Int32} {sl : SLt} (hS : HSS C X sl) : SP g 7 0 0 yX0_next cX0_next 6 (some .int) [.ref 0, .int x] (cH C S X) (QC C S X (.int (qnext W sl.1 sl.2.2 x))) := by
  refine SP.intro [some (.ref 0), some (.int x), none, none, none, none] (pfn (by decide)) rfl (Nat.le_of_ble_eq_true rfl) ?_
  refine wp_aload_0 dX0_next_0 rfl ?_
  refine wp_iload_1 dX0_next_1 rfl ?_
  refine wp_cvR dX0_next_2 rfl q1561 mv_X0_whyNot hE.o0 rfl rfl (c_whyNot hE hS) rfl rfl (Nat.le_of_ble_eq_true rfl) (Nat.le_of_ble_eq_true rfl) ?_
  refine wp_istore_2 dX0_next_5 rfl (by decide) rfl ?_
  refine wp_iload_2 dX0_next_6 rfl ?_
  refine wp_if_eq 12 dX0_next_7 rfl rfl (fun c7 => ?_) (fun c7 => ?_)
  · obtain ⟨s, hs, rfl, hbd, a, m, w, hm, h60, hmn, hr, hh⟩ := ahV_held hS c7
    refine wp_iconst (-1) dX0_next_12 rfl rfl ?_
    refine wp_istore_3 dX0_next_13 rfl (by decide) rfl ?_
    refine wp_iconst 0 dX0_next_14 rfl rfl ?_
    refine wp_istore_4 dX0_next_15 rfl (by decide) rfl ?_
    exact cL_next hE hs hr hh (nW W 5) 0 (-1) none (Nat.zero_add _) ⟨by rw [qnext, hrd_z c7, nI_clamp (by omega), hmn], QC0.rf⟩
  · refine wp_iload_2 dX0_next_10 rfl ?_
    exact wp_ireturn dX0_next_11 rfl ⟨by first | (rw [qnext, hrd_n (ahV_lt c7)]; done) | (rw [qnext, hrd_z c7, nI_clamp (by omega), hmn]; done), QC0.rf⟩
theorem fstK_in {p : Nat → Bool} : ∀ (k i j : Nat), fstK p k i = some j → i ≤ j ∧ j < i + k ∧ p j = true := by
  intro k
  induction k with
  | zero => intro i j h; cases h
  | succ k ih =>
    intro i j h
    unfold fstK at h
    split at h
    · rename_i q
      cases h
      exact ⟨Nat.le_refl _, by omega, q⟩
    · have := ih _ _ h
      exact ⟨by omega, by omega, this.2.2⟩
theorem lg_gtz {a b : Int64} : 0 < lg_cmp a b ↔ b < a := lg_gt a b
theorem cL_luck {g : GW} {C : SC} {S : SM} {X : AH} {lo hi b : Nat} {A : BA} {W : Nat → Int32} (hE : EV C X lo hi b A W) {x1 x2 x3 : Int32} {c n : Nat} {Q : Option Value → AH → Prop} : ∀ (k : Nat) (v : Int64), k ≤ 1000 → Q (some (.int (if 1000000000 < v then -1 else luK (nI (opN W)).toInt64 k v))) (cH C S X) → WP g 6 yX0_luck cX0_luck 7 (some .int) 45 [some (.ref 0), some (.int x1), some (.int x2), some (.int x3), some (.long v), none, some (.int (nI k))] [] (cH C S X) c n Q := by
  intro k
  induction k with
  | zero =>
    intro v hk hq
    refine wp_iload_6 dX0_luck_45 rfl ?_
    refine wp_if_le 75 dX0_luck_47 rfl rfl (fun c47 => ?_) (fun c47 => ?_)
    · refine wp_lload_4 dX0_luck_75 rfl ?_
      refine wp_ldc2_w dX0_luck_77 rfl q1587 ?_
      refine wp_lcmp dX0_luck_80 rfl ?_
      refine wp_if_le 88 dX0_luck_81 rfl rfl (fun c81 => ?_) (fun c81 => ?_)
      · refine wp_lload_4 dX0_luck_88 rfl ?_
        refine wp_l2i dX0_luck_90 rfl ?_
        exact wp_ireturn dX0_luck_91 rfl (by first | (rw [if_pos (lg_gtz.mp (Int32.not_le.mp c81))] at hq; exact hq) | (rw [if_neg (fun q => absurd (lg_gtz.mpr q) (Int32.not_lt.mpr c81)), luK] at hq; exact hq))
      · refine wp_iconst (-1) dX0_luck_84 rfl rfl ?_
        refine wp_goto 91 dX0_luck_85 rfl rfl ?_
        exact wp_ireturn dX0_luck_91 rfl (by first | (rw [if_pos (lg_gtz.mp (Int32.not_le.mp c81))] at hq; exact hq) | (rw [if_neg (fun q => absurd (lg_gtz.mpr q) (Int32.not_lt.mpr c81)), luK] at hq; exact hq))
    · exact absurd (show nI 0 ≤ 0 by decide) c47
  | succ k ih =>
    intro v hk hq
    refine wp_iload_6 dX0_luck_45 rfl ?_
    refine wp_if_le 75 dX0_luck_47 rfl rfl (fun c47 => ?_) (fun c47 => ?_)
    · exact absurd c47 (Int32.not_le.mpr (nI_lt (a := 0) (by omega) (by omega)))
    · refine wp_lload_4 dX0_luck_50 rfl ?_
      refine wp_ldc2_w dX0_luck_52 rfl q1587 ?_
      refine wp_lcmp dX0_luck_55 rfl ?_
      refine wp_if_gt 75 dX0_luck_56 rfl rfl (fun c56 => ?_) (fun c56 => ?_)
      · refine wp_lload_4 dX0_luck_75 rfl ?_
        refine wp_ldc2_w dX0_luck_77 rfl q1587 ?_
        refine wp_lcmp dX0_luck_80 rfl ?_
        refine wp_if_le 88 dX0_luck_81 rfl rfl (fun c81 => ?_) (fun c81 => ?_)
        · refine wp_lload_4 dX0_luck_88 rfl ?_
          refine wp_l2i dX0_luck_90 rfl ?_
          exact wp_ireturn dX0_luck_91 rfl (absurd c56 (Int32.not_lt.mpr c81))
        · refine wp_iconst (-1) dX0_luck_84 rfl rfl ?_
          refine wp_goto 91 dX0_luck_85 rfl rfl ?_
          exact wp_ireturn dX0_luck_91 rfl (by rw [if_pos (lg_gtz.mp c56)] at hq; exact hq)
      · refine wp_lload_4 dX0_luck_59 rfl ?_
        refine wp_aload_0 dX0_luck_61 rfl ?_
        refine wp_cvR dX0_luck_62 rfl q1457 mv_X0_openOnes hE.o0 rfl rfl (c_openOnes hE) rfl rfl (Nat.le_of_ble_eq_true rfl) (Nat.le_of_ble_eq_true rfl) ?_
        refine wp_i2l dX0_luck_65 rfl ?_
        refine wp_lmul dX0_luck_66 rfl ?_
        refine wp_lstore_4 dX0_luck_67 rfl (by decide) rfl ?_
        refine wp_iinc_6 (-1) dX0_luck_69 rfl rfl (by decide) rfl ?_
        refine wp_goto 45 dX0_luck_72 rfl rfl ?_
        exact WP.cast (by rw [show nI (k + 1) + -1 = nI k by rw [← nI_1]; grind]) (ih (v * (nI (opN W)).toInt64) (by omega) (by rw [if_neg (fun q => c56 ((lg_gtz).mpr q)), luK] at hq; exact hq))
theorem q_c_luck {g : GW} {C : SC} {S : SM} {X : AH} {lo hi b : Nat} {A : BA} {W : Nat → Int32} (hE : EV C X lo hi b A W) {x : Int32} {sl : SLt} (hS : HSS C X sl) : SP g 6 0 0 yX0_luck cX0_luck 7 (some .int) [.ref 0, .int x] (cH C S X) (QC C S X (.int (qluck W sl.1 sl.2.2 x))) := by
  refine SP.intro [some (.ref 0), some (.int x), none, none, none, none, none] (pfn (by decide)) rfl (Nat.le_of_ble_eq_true rfl) ?_
  refine wp_aload_0 dX0_luck_0 rfl ?_
  refine wp_iload_1 dX0_luck_1 rfl ?_
  refine wp_cvR dX0_luck_2 rfl q1561 mv_X0_whyNot hE.o0 rfl rfl (c_whyNot hE hS) rfl rfl (Nat.le_of_ble_eq_true rfl) (Nat.le_of_ble_eq_true rfl) ?_
  refine wp_istore_2 dX0_luck_5 rfl (by decide) rfl ?_
  refine wp_iload_2 dX0_luck_6 rfl ?_
  refine wp_if_eq 12 dX0_luck_7 rfl rfl (fun c7 => ?_) (fun c7 => ?_)
  · obtain ⟨s, hs, rfl, hbd, a, m, w, hm, h60, hmn, hr, hh⟩ := ahV_held hS c7
    refine wp_aload_0 dX0_luck_12 rfl ?_
    refine wp_getf dX0_luck_13 rfl q715 fk0_0 hE.o0 rfl ?_
    refine wp_iload_1 dX0_luck_16 rfl ?_
    refine wp_aaload s dX0_luck_17 rfl rfl rfl (cg_1 hE.X) (nI_clamp (by omega)) (vp_in_nI hs (by omega)) ?_
    rw [show va_rf (cn_ 4 2 s) = .ref (2 + s) by rw [show cn_ 4 2 s = some (2 + s) from if_pos hs]; rfl]
    refine wp_csR dX0_luck_18 rfl q1573 ms_X0_leastPeriod (c_leastPeriod hE hs hr hh) rfl rfl (Nat.le_of_ble_eq_true rfl) (Nat.le_of_ble_eq_true rfl) ?_
    cases hlp : lpV sl.2.2 s m with
    | none =>
      refine wp_istore_3 dX0_luck_21 rfl (by decide) rfl ?_
      refine wp_iload_3 dX0_luck_22 rfl ?_
      refine wp_iconst (-1) dX0_luck_23 rfl rfl ?_
      refine wp_icmp_ne 29 dX0_luck_24 rfl rfl (fun c24 => ?_) (fun c24 => ?_)
      · exact absurd rfl c24
      · refine wp_iconst (-1) dX0_luck_27 rfl rfl ?_
        exact wp_ireturn dX0_luck_28 rfl ⟨by rw [qluck, hrd_z c7, nI_clamp (by omega), hmn, luV, hlp], QC0.rf⟩
    | some p =>
      obtain ⟨hp1, hp2, -⟩ := fstK_in _ _ _ hlp
      change WP g 6 _ _ _ _ _ _ (.int (nI p) :: _) _ _ _ _
      refine wp_istore_3 dX0_luck_21 rfl (by decide) rfl ?_
      refine wp_iload_3 dX0_luck_22 rfl ?_
      refine wp_iconst (-1) dX0_luck_23 rfl rfl ?_
      refine wp_icmp_ne 29 dX0_luck_24 rfl rfl (fun c24 => ?_) (fun c24 => ?_)
      · refine wp_lconst 1 dX0_luck_29 rfl rfl ?_
        refine wp_lstore_4 dX0_luck_30 rfl (by decide) rfl ?_
        refine wp_aload_0 dX0_luck_32 rfl ?_
        refine wp_getf dX0_luck_33 rfl q715 fk0_0 hE.o0 rfl ?_
        refine wp_iload_1 dX0_luck_36 rfl ?_
        refine wp_aaload s dX0_luck_37 rfl rfl rfl (cg_1 hE.X) (nI_clamp (by omega)) (vp_in_nI hs (by omega)) ?_
        rw [show va_rf (cn_ 4 2 s) = .ref (2 + s) by rw [show cn_ 4 2 s = some (2 + s) from if_pos hs]; rfl]
        refine wp_cvR dX0_luck_38 rfl q1565 mv_X1_many (cgs hE.X hs) rfl rfl (c_many hE.X hs hr hh) rfl rfl (Nat.le_of_ble_eq_true rfl) (Nat.le_of_ble_eq_true rfl) ?_
        refine wp_iload_3 dX0_luck_41 rfl ?_
        refine wp_isub dX0_luck_42 rfl ?_
        rw [pk_sub (show p ≤ m by omega)]
        refine wp_istore_6 dX0_luck_43 rfl (by decide) rfl ?_
        exact cL_luck hE (m - p) 1 (by omega) ⟨by rw [if_neg (by decide), qluck, hrd_z c7, nI_clamp (by omega), hmn, luV, hlp], QC0.rf⟩
      · exact absurd c24 (nI_m1 (by omega))
  · refine wp_iload_2 dX0_luck_10 rfl ?_
    exact wp_ireturn dX0_luck_11 rfl ⟨by first | (rw [qluck, hrd_n (ahV_lt c7)]; done) | (rw [qluck, hrd_z c7, nI_clamp (by omega), hmn]; done), QC0.rf⟩
theorem cL_same {g : GW} {C : SC} {S : SM} {X : AH} {lo hi b : Nat} {A : BA} {W : Nat → Int32} (hE : EV C X lo hi b A W) {q r d : Nat} {x : Int32} (h5 : 0 < nW W 5) (hr : r ≤ 100) {c n : Nat} {Q : Option Value → AH → Prop} : ∀ (k : Nat) (i : Nat) (z : Bool), i + k = r → (∀ v7, WP g 7 yX0_neededOf cX0_neededOf 8 (some .int) 74 [some (.ref 0), some (.int (nI q)), some (.int (nI (nW W 5))), some (.int (nI r)), some (.int x), some (.int (nI d)), some (.int (b2i (z && alK (gaP W d q) k i))), v7] [] (cH C S X) c n Q) → WP g 7 yX0_neededOf cX0_neededOf 8 (some .int) 30 [some (.ref 0), some (.int (nI q)), some (.int (nI (nW W 5))), some (.int (nI r)), some (.int x), some (.int (nI d)), some (.int (b2i z)), some (.int (nI i))] [] (cH C S X) c n Q := by
  intro k
  induction k with
  | zero =>
    intro i z hi hq
    refine wp_iload_7 dX0_neededOf_30 rfl ?_
    refine wp_iload_3 dX0_neededOf_32 rfl ?_
    refine wp_icmp_ge_k 74 dX0_neededOf_33 rfl rfl (by omega) (by omega) (fun c33 => ?_) (fun c33 => ?_)
    · have e8 : (z && alK (gaP W d q) 0 i) = z := Bool.and_true z
      have h9 := hq (some (.int (nI i)))
      rw [e8] at h9
      exact h9
    · exact absurd c33 (by omega)
  | succ k ih =>
    intro i z hi hq
    refine wp_iload_7 dX0_neededOf_30 rfl ?_
    refine wp_iload_3 dX0_neededOf_32 rfl ?_
    refine wp_icmp_ge_k 74 dX0_neededOf_33 rfl rfl (by omega) (by omega) (fun c33 => ?_) (fun c33 => ?_)
    · exact absurd c33 (by omega)
    · refine wp_iload_6 dX0_neededOf_36 rfl ?_
      refine wp_ifeq_b 74 dX0_neededOf_38 rfl rfl (fun c38 => ?_) (fun c38 => ?_)
      · subst c38
        have h9 := hq (some (.int (nI i)))
        rw [Bool.false_and] at h9
        exact h9
      · refine wp_aload_0 dX0_neededOf_41 rfl ?_
        refine wp_iload_5 dX0_neededOf_42 rfl ?_
        refine wp_iload_7 dX0_neededOf_44 rfl ?_
        refine wp_iadd dX0_neededOf_46 rfl ?_
        rw [nI_add]
        refine wp_cvR dX0_neededOf_47 rfl q1549 mv_X0_holeOf hE.o0 rfl rfl (c_holeOf hE h5) rfl rfl (Nat.le_of_ble_eq_true rfl) (Nat.le_of_ble_eq_true rfl) ?_
        refine wp_aload_0 dX0_neededOf_50 rfl ?_
        refine wp_iload_1 dX0_neededOf_51 rfl ?_
        refine wp_iload_7 dX0_neededOf_52 rfl ?_
        refine wp_iadd dX0_neededOf_54 rfl ?_
        rw [nI_add]
        refine wp_cvR dX0_neededOf_55 rfl q1549 mv_X0_holeOf hE.o0 rfl rfl (c_holeOf hE h5) rfl rfl (Nat.le_of_ble_eq_true rfl) (Nat.le_of_ble_eq_true rfl) ?_
        refine wp_icmp_ne 65 dX0_neededOf_58 rfl rfl (fun c58 => ?_) (fun c58 => ?_)
        · refine wp_iconst 0 dX0_neededOf_65 rfl rfl ?_
          refine wp_istore_6 dX0_neededOf_66 rfl (by decide) rfl ?_
          refine wp_iinc_7 1 dX0_neededOf_68 rfl rfl (by decide) rfl ?_
          refine wp_goto 30 dX0_neededOf_71 rfl rfl ?_
          subst c38
          have e9 : gaP W d q i = false := decide_eq_false c58
          exact WP.cast (by rw [nI_1]; rfl) (ih (i + 1) false (by omega) (by rw [al_f e9] at hq; rw [Bool.true_and, Bool.false_and] at *; exact hq))
        · refine wp_iconst 1 dX0_neededOf_61 rfl rfl ?_
          refine wp_goto 66 dX0_neededOf_62 rfl rfl ?_
          refine wp_istore_6 dX0_neededOf_66 rfl (by decide) rfl ?_
          refine wp_iinc_7 1 dX0_neededOf_68 rfl rfl (by decide) rfl ?_
          refine wp_goto 30 dX0_neededOf_71 rfl rfl ?_
          subst c38
          have e9 : gaP W d q i = true := decide_eq_true c58
          exact WP.cast (by rw [nI_1]; rfl) (ih (i + 1) true (by omega) (by rw [al_t e9] at hq; exact hq))
theorem gaV_sw (W : Nat → Int32) (a b n : Nat) : gaV W a b n = gaV W b a n := by
  have e : gaP W a b = gaP W b a := by
    funext i
    unfold gaP
    rw [decide_eq_decide]
    exact ⟨Eq.symm, Eq.symm⟩
  unfold gaV
  rw [e]
theorem cL_count {g : GW} {C : SC} {S : SM} {X : AH} {lo hi b : Nat} {A : BA} {W : Nat → Int32} (hE : EV C X lo hi b A W) {q r : Nat} (hr : r ≤ 100) {c n : Nat} {Q : Option Value → AH → Prop} : ∀ (k : Nat) (d : Nat) (x : Int32) (v6 v7 : Option Value), d + k = nW W 5 → (∀ v5 v6 v7, WP g 7 yX0_neededOf cX0_neededOf 8 (some .int) 95 [some (.ref 0), some (.int (nI q)), some (.int (nI (nW W 5))), some (.int (nI r)), some (.int (itr (ctF (fun o => gaV W q o r)) k d x)), v5, v6, v7] [] (cH C S X) c n Q) → WP g 7 yX0_neededOf cX0_neededOf 8 (some .int) 18 [some (.ref 0), some (.int (nI q)), some (.int (nI (nW W 5))), some (.int (nI r)), some (.int x), some (.int (nI d)), v6, v7] [] (cH C S X) c n Q := by
  intro k
  induction k with
  | zero =>
    intro d x v6 v7 hi hq
    refine wp_iload_5 dX0_neededOf_18 rfl ?_
    refine wp_iload_2 dX0_neededOf_20 rfl ?_
    refine wp_icmp_ge_k 95 dX0_neededOf_21 rfl rfl (by have := hE.s.nc.2; omega) (by have := hE.s.nc.2; omega) (fun c21 => ?_) (fun c21 => ?_)
    · exact hq _ _ _
    · exact absurd c21 (by omega)
  | succ k ih =>
    intro d x v6 v7 hi hq
    refine wp_iload_5 dX0_neededOf_18 rfl ?_
    refine wp_iload_2 dX0_neededOf_20 rfl ?_
    refine wp_icmp_ge_k 95 dX0_neededOf_21 rfl rfl (by have := hE.s.nc.2; omega) (by have := hE.s.nc.2; omega) (fun c21 => ?_) (fun c21 => ?_)
    · exact absurd c21 (by omega)
    · refine wp_iconst 1 dX0_neededOf_24 rfl rfl ?_
      refine wp_istore_6 dX0_neededOf_25 rfl (by decide) rfl ?_
      refine wp_iconst 0 dX0_neededOf_27 rfl rfl ?_
      refine wp_istore_7 dX0_neededOf_28 rfl (by decide) rfl ?_
      refine cL_same hE (by omega) hr r 0 true (Nat.zero_add _) (fun v7 => ?_)
      refine wp_iload_4 dX0_neededOf_74 rfl ?_
      refine wp_iload_6 dX0_neededOf_76 rfl ?_
      refine wp_ifeq_b 85 dX0_neededOf_78 rfl rfl (fun c78 => ?_) (fun c78 => ?_)
      · refine wp_iconst 0 dX0_neededOf_85 rfl rfl ?_
        refine wp_iadd dX0_neededOf_86 rfl ?_
        refine wp_istore_4 dX0_neededOf_87 rfl (by decide) rfl ?_
        refine wp_iinc_5 1 dX0_neededOf_89 rfl rfl (by decide) rfl ?_
        refine wp_goto 18 dX0_neededOf_92 rfl rfl ?_
        have e9 : gaV W q d r = false := by rw [gaV_sw]; exact c78
        exact WP.cast (by rw [nI_1, show ctF (fun o => gaV W q o r) d x = x + 0 by simp [ctF, e9]]) (ih (d + 1) (ctF (fun o => gaV W q o r) d x) _ _ (by omega) hq)
      · refine wp_iconst 1 dX0_neededOf_81 rfl rfl ?_
        refine wp_goto 86 dX0_neededOf_82 rfl rfl ?_
        refine wp_iadd dX0_neededOf_86 rfl ?_
        refine wp_istore_4 dX0_neededOf_87 rfl (by decide) rfl ?_
        refine wp_iinc_5 1 dX0_neededOf_89 rfl rfl (by decide) rfl ?_
        refine wp_goto 18 dX0_neededOf_92 rfl rfl ?_
        have e9 : gaV W q d r = true := by rw [gaV_sw]; exact c78
        exact WP.cast (by rw [nI_1, show ctF (fun o => gaV W q o r) d x = x + 1 by simp [ctF, e9]]) (ih (d + 1) (ctF (fun o => gaV W q o r) d x) _ _ (by omega) hq)
theorem cL_needed {g : GW} {C : SC} {S : SM} {X : AH} {lo hi b : Nat} {A : BA} {W : Nat → Int32} (hE : EV C X lo hi b A W) {q : Nat} {c n : Nat} {Q : Option Value → AH → Prop} : ∀ (k : Nat) (r : Nat) (v4 v5 v6 v7 : Option Value), r + k = nW W 5 + 1 → Q (some (.int (onI (fstK (fun n => decide (ncV W q n = 1)) k r)))) (cH C S X) → WP g 7 yX0_neededOf cX0_neededOf 8 (some .int) 7 [some (.ref 0), some (.int (nI q)), some (.int (nI (nW W 5))), some (.int (nI r)), v4, v5, v6, v7] [] (cH C S X) c n Q := by
  intro k
  induction k with
  | zero =>
    intro r v4 v5 v6 v7 hi hq
    refine wp_iload_3 dX0_neededOf_7 rfl ?_
    refine wp_iload_2 dX0_neededOf_8 rfl ?_
    refine wp_icmp_gt_k 109 dX0_neededOf_9 rfl rfl (by have := hE.s.nc.2; omega) (by have := hE.s.nc.2; omega) (fun c9 => ?_) (fun c9 => ?_)
    · refine wp_iconst (-1) dX0_neededOf_109 rfl rfl ?_
      exact wp_ireturn dX0_neededOf_110 rfl hq
    · exact absurd c9 (by omega)
  | succ k ih =>
    intro r v4 v5 v6 v7 hi hq
    refine wp_iload_3 dX0_neededOf_7 rfl ?_
    refine wp_iload_2 dX0_neededOf_8 rfl ?_
    refine wp_icmp_gt_k 109 dX0_neededOf_9 rfl rfl (by have := hE.s.nc.2; omega) (by have := hE.s.nc.2; omega) (fun c9 => ?_) (fun c9 => ?_)
    · exact absurd c9 (by omega)
    · refine wp_iconst 0 dX0_neededOf_12 rfl rfl ?_
      refine wp_istore_4 dX0_neededOf_13 rfl (by decide) rfl ?_
      refine wp_iconst 0 dX0_neededOf_15 rfl rfl ?_
      refine wp_istore_5 dX0_neededOf_16 rfl (by decide) rfl ?_
      refine cL_count hE (by have := hE.s.nc.2; omega) (nW W 5) 0 0 _ _ (Nat.zero_add _) (fun v5 v6 v7 => ?_)
      change WP g 7 _ _ _ _ _ [_, _, _, _, some (.int (ncV W q r)), _, _, _] _ _ _ _ _
      refine wp_iload_4 dX0_neededOf_95 rfl ?_
      refine wp_iconst 1 dX0_neededOf_97 rfl rfl ?_
      refine wp_icmp_ne 103 dX0_neededOf_98 rfl rfl (fun c98 => ?_) (fun c98 => ?_)
      · refine wp_iinc_3 1 dX0_neededOf_103 rfl rfl (by decide) rfl ?_
        refine wp_goto 7 dX0_neededOf_106 rfl rfl ?_
        exact WP.cast (by rw [nI_1]) (ih (r + 1) _ _ _ _ (by omega) (by rw [fst_f (decide_eq_false c98)] at hq; exact hq))
      · refine wp_iload_3 dX0_neededOf_101 rfl ?_
        exact wp_ireturn dX0_neededOf_102 rfl (by rw [fst_t (decide_eq_true c98)] at hq; exact hq)
theorem c_neededOf {g : GW} {C : SC} {S : SM} {X : AH} {lo hi b : Nat} {A : BA} {W : Nat → Int32} (hE : EV C X lo hi b A W) {q : Nat} : SPx g 7 0 0 yX0_neededOf cX0_neededOf 8 (some .int) [.ref 0, .int (nI q)] (cH C S X) (some (.int (neV W q))) (cH C S X) := by
  refine SPx.intro [some (.ref 0), some (.int (nI q)), none, none, none, none, none, none] (pfn (by decide)) rfl (Nat.le_of_ble_eq_true rfl) ?_
  refine wp_aload_0 dX0_neededOf_0 rfl ?_
  refine wp_cvR dX0_neededOf_1 rfl q1183 mv_X0_comingsOfDrum hE.o0 rfl rfl (c_comingsOfDrum hE) rfl rfl (Nat.le_of_ble_eq_true rfl) (Nat.le_of_ble_eq_true rfl) ?_
  refine wp_istore_2 dX0_neededOf_4 rfl (by decide) rfl ?_
  refine wp_iconst 0 dX0_neededOf_5 rfl rfl ?_
  refine wp_istore_3 dX0_neededOf_6 rfl (by decide) rfl ?_
  exact cL_needed hE (nW W 5 + 1) 0 none none none none (by omega) ⟨rfl, rfl⟩
theorem q_c_needed {g : GW} {C : SC} {S : SM} {X : AH} {lo hi b : Nat} {A : BA} {W : Nat → Int32} (hE : EV C X lo hi b A W) {x : Int32} : SP g 8 0 0 yX0_needed cX0_needed 2 (some .int) [.ref 0, .int x] (cH C S X) (QC C S X (.int (qneeded W x))) := by
  refine SP.intro [some (.ref 0), some (.int x)] (pfn (by decide)) rfl (Nat.le_of_ble_eq_true rfl) ?_
  refine wp_aload_0 dX0_needed_0 rfl ?_
  refine wp_iload_1 dX0_needed_1 rfl ?_
  refine wp_cvR dX0_needed_2 rfl q1179 mv_X0_isMole hE.o0 rfl rfl (c_isMole hE) rfl rfl (Nat.le_of_ble_eq_true rfl) (Nat.le_of_ble_eq_true rfl) ?_
  refine wp_ifeq_b 16 dX0_needed_5 rfl rfl (fun c5 => ?_) (fun c5 => ?_)
  · refine wp_bipush (-2) dX0_needed_16 rfl rfl ?_
    exact wp_ireturn dX0_needed_18 rfl ⟨by simp (disch := omega) [qneeded, nI_clamp, *], QC0.rf⟩
  · obtain ⟨q, hq, rfl⟩ := cmW_of hE.s c5
    have hq24 : q < 24 := by have := hE.s.nc.2; omega
    refine wp_aload_0 dX0_needed_8 rfl ?_
    refine wp_iload_1 dX0_needed_9 rfl ?_
    refine wp_cvR dX0_needed_10 rfl q1608 mv_X0_neededOf hE.o0 rfl rfl (c_neededOf hE) rfl rfl (Nat.le_of_ble_eq_true rfl) (Nat.le_of_ble_eq_true rfl) ?_
    refine wp_goto 18 dX0_needed_13 rfl rfl ?_
    exact wp_ireturn dX0_needed_18 rfl ⟨by simp (disch := omega) [qneeded, nI_clamp, *], QC0.rf⟩
theorem cL_known {g : GW} {C : SC} {S : SM} {X : AH} {lo hi b : Nat} {A : BA} {W : Nat → Int32} (hE : EV C X lo hi b A W)  {c n : Nat} {Q : Option Value → AH → Prop} : ∀ (k : Nat) (i : Nat) (x : Int32) (v3 : Option Value), i + k = nW W 5 → Q (some (.int (kwK (neV W) k i x))) (cH C S X) → WP g 8 yX0_known cX0_known 4 (some .int) 17 [some (.ref 0), some (.int x), some (.int (nI i)), v3] [] (cH C S X) c n Q := by
  intro k
  induction k with
  | zero =>
    intro i x v3 hi hq
    refine wp_iload_2 dX0_known_17 rfl ?_
    refine wp_aload_0 dX0_known_18 rfl ?_
    refine wp_cvR dX0_known_19 rfl q1183 mv_X0_comingsOfDrum hE.o0 rfl rfl (c_comingsOfDrum hE) rfl rfl (Nat.le_of_ble_eq_true rfl) (Nat.le_of_ble_eq_true rfl) ?_
    refine wp_icmp_ge_k 50 dX0_known_22 rfl rfl (by have := hE.s.nc.2; omega) (by have := hE.s.nc.2; omega) (fun c22 => ?_) (fun c22 => ?_)
    · refine wp_iload_1 dX0_known_50 rfl ?_
      exact wp_ireturn dX0_known_51 rfl hq
    · exact absurd c22 (by omega)
  | succ k ih =>
    intro i x v3 hi hq
    refine wp_iload_2 dX0_known_17 rfl ?_
    refine wp_aload_0 dX0_known_18 rfl ?_
    refine wp_cvR dX0_known_19 rfl q1183 mv_X0_comingsOfDrum hE.o0 rfl rfl (c_comingsOfDrum hE) rfl rfl (Nat.le_of_ble_eq_true rfl) (Nat.le_of_ble_eq_true rfl) ?_
    refine wp_icmp_ge_k 50 dX0_known_22 rfl rfl (by have := hE.s.nc.2; omega) (by have := hE.s.nc.2; omega) (fun c22 => ?_) (fun c22 => ?_)
    · exact absurd c22 (by omega)
    · refine wp_aload_0 dX0_known_25 rfl ?_
      refine wp_iload_2 dX0_known_26 rfl ?_
      refine wp_cvR dX0_known_27 rfl q1608 mv_X0_neededOf hE.o0 rfl rfl (c_neededOf hE) rfl rfl (Nat.le_of_ble_eq_true rfl) (Nat.le_of_ble_eq_true rfl) ?_
      refine wp_istore_3 dX0_known_30 rfl (by decide) rfl ?_
      refine wp_iload_3 dX0_known_31 rfl ?_
      refine wp_iconst (-1) dX0_known_32 rfl rfl ?_
      refine wp_icmp_ne 38 dX0_known_33 rfl rfl (fun c33 => ?_) (fun c33 => ?_)
      · refine wp_iload_1 dX0_known_38 rfl ?_
        refine wp_iload_3 dX0_known_39 rfl ?_
        refine wp_csR dX0_known_40 rfl q1616 ms_J3_max j_max rfl rfl (Nat.le_of_ble_eq_true rfl) (Nat.le_of_ble_eq_true rfl) ?_
        refine wp_istore_1 dX0_known_43 rfl (by decide) rfl ?_
        refine wp_iinc_2 1 dX0_known_44 rfl rfl (by decide) rfl ?_
        refine wp_goto 17 dX0_known_47 rfl rfl ?_
        exact WP.cast (by rw [nI_1]) (ih (i + 1) (mx32 x (neV W i)) _ (by omega) (by rw [kwK, if_neg c33] at hq; exact hq))
      · refine wp_iconst (-1) dX0_known_36 rfl rfl ?_
        exact wp_ireturn dX0_known_37 rfl (by rw [kwK, if_pos c33] at hq; exact hq)
theorem q_c_known {g : GW} {C : SC} {S : SM} {X : AH} {lo hi b : Nat} {A : BA} {W : Nat → Int32} (hE : EV C X lo hi b A W)  : SP g 8 0 0 yX0_known cX0_known 4 (some .int) [.ref 0] (cH C S X) (QC C S X (.int (qknown W))) := by
  refine SP.intro [some (.ref 0), none, none, none] (pfn (by decide)) rfl (Nat.le_of_ble_eq_true rfl) ?_
  refine wp_aload_0 dX0_known_0 rfl ?_
  refine wp_getf dX0_known_1 rfl q721 fk0_1 hE.o0 rfl ?_
  refine wp_cvR dX0_known_4 rfl q1167 mv_X2_is hE.ob rfl rfl (c_is hE) rfl rfl (Nat.le_of_ble_eq_true rfl) (Nat.le_of_ble_eq_true rfl) ?_
  refine wp_ifne_b 13 dX0_known_7 rfl rfl (fun c7 => ?_) (fun c7 => ?_)
  · refine wp_iconst (-1) dX0_known_13 rfl rfl ?_
    refine wp_istore_1 dX0_known_14 rfl (by decide) rfl ?_
    refine wp_iconst 0 dX0_known_15 rfl rfl ?_
    refine wp_istore_2 dX0_known_16 rfl (by decide) rfl ?_
    exact cL_known hE (nW W 5) 0 (-1) none (Nat.zero_add _) ⟨by simp [qknown, *], QC0.rf⟩
  · refine wp_bipush (-2) dX0_known_10 rfl rfl ?_
    exact wp_ireturn dX0_known_12 rfl ⟨by simp (disch := omega) [qknown, nI_clamp, *], QC0.rf⟩
