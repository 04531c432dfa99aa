/-! ===== the class: the drum changed ===== -/
set_option maxRecDepth 100000
theorem c_changes {g : GW} {C : SC} {S : SM} {X : AH} {lo hi b : Nat} {A : BA} {W : Nat → Int32} (hE : EV C X lo hi b A W) {k l : Nat} (hk : k < nW W 5) (hl : l < nW W 5) : SP g 5 0 0 yX0_changes cX0_changes 4 none [.ref 0, .int (nI k), .int (nI l)] (cH C S X) (fun v h1 => v = none ∧ ∃ X' A', h1 = cH C S X' ∧ OutX X X' lo hi ∧ EV C X' lo hi b A' (swW k l W)) := by
  refine SP.intro [some (.ref 0), some (.int (nI k)), some (.int (nI l)), none] (pfn (by decide)) rfl (Nat.le_of_ble_eq_true rfl) ?_
  refine wp_aload_0 dX0_changes_0 rfl ?_
  refine wp_iload_1 dX0_changes_1 rfl ?_
  refine wp_cvR dX0_changes_2 rfl q1190 mv_X0_mole hE.o0 rfl rfl (c_mole hE hk) rfl rfl (Nat.le_of_ble_eq_true rfl) (Nat.le_of_ble_eq_true rfl) ?_
  refine wp_astore_3 dX0_changes_5 rfl (by decide) rfl ?_
  refine wp_aload_0 dX0_changes_6 rfl ?_
  refine wp_getf dX0_changes_7 rfl q721 fk0_1 hE.o0 rfl ?_
  refine wp_getfN dX0_changes_10 rfl q439 fk2_0 hE.ob rfl ?_
  refine wp_iload_1 dX0_changes_13 rfl ?_
  refine wp_aload_0 dX0_changes_14 rfl ?_
  refine wp_iload_2 dX0_changes_15 rfl ?_
  refine wp_cvR dX0_changes_16 rfl q1190 mv_X0_mole hE.o0 rfl rfl (c_mole hE hl) rfl rfl (Nat.le_of_ble_eq_true rfl) (Nat.le_of_ble_eq_true rfl) ?_
  refine wp_FxR dX0_changes_19 rfl q1731 mf_J2_set (hE.B.od.at hE.B.dy) rfl rfl (j_set hE.B.drum hk (hE.B.mo k hk).1 (hE.mol hl)) rfl rfl (Nat.le_of_ble_eq_true rfl) (Nat.le_of_ble_eq_true rfl) (Nat.zero_le _) (Nat.zero_le _) ?_
  rw [cH_dset (hE.B.dy.dyn hE.B.oq.2.1 hE.B.oq.2.2)]
  have hX1 : 108 ≤ (X.set A.dq (.inl (6, 24, .inr (.inr (va_up A.df k (some (A.mo l))))))).length := by rw [List.length_set]; exact hE.X
  have hb1 : DX (X.set A.dq (.inl (6, 24, .inr (.inr (va_up A.df k (some (A.mo l))))))) lo hi b (.inr (2, bfl A W)) := hE.B.ob.other hE.B.oq.1 (by simp)
  have hd1 : DX (X.set A.dq (.inl (6, 24, .inr (.inr (va_up A.df k (some (A.mo l))))))) lo hi A.d (.inr (3, [.int A.dm, .ref A.dq, .int (nI (nW W 5))])) := hE.B.od.other hE.B.oq.1 (by simp)
  have hq1 : DX (X.set A.dq (.inl (6, 24, .inr (.inr (va_up A.df k (some (A.mo l))))))) lo hi A.dq (.inl (6, 24, .inr (.inr (va_up A.df k (some (A.mo l)))))) := hE.B.oq.set_s
  have hm1 : DX (X.set A.dq (.inl (6, 24, .inr (.inr (va_up A.df k (some (A.mo l))))))) lo hi (A.mo k) (.inr (14, mofl W k)) := (hE.B.mo k hk).2.other hE.B.oq.1 (by simp)
  have hl1 : LI (cH C S (X.set A.dq (.inl (6, 24, .inr (.inr (va_up A.df k (some (A.mo l)))))))) A.d A.dq 24 (nW W 5) A.dm (va_up A.df k (some (A.mo l))) := ⟨hd1.at hE.B.dy, hq1.at hE.B.dy, hE.B.n5.2, by decide⟩
  have hf1 : va_up A.df k (some (A.mo l)) l = some (A.mo l) := by
    by_cases q : l = k
    · rw [q, va_up_self]
    · rw [va_up_ne _ _ q]; exact (hE.B.mo l hl).1
  refine wp_pop dX0_changes_24 rfl rfl ?_
  refine wp_aload_0 dX0_changes_25 rfl ?_
  refine wp_getf dX0_changes_26 rfl q721 fk0_1 (o0X hX1 hE.n) rfl ?_
  refine wp_getfN dX0_changes_29 rfl q439 fk2_0 (hb1.at hE.B.dy) rfl ?_
  refine wp_iload_2 dX0_changes_32 rfl ?_
  refine wp_aload_3 dX0_changes_33 rfl ?_
  refine wp_FxR dX0_changes_34 rfl q1731 mf_J2_set (hd1.at hE.B.dy) rfl rfl (j_set hl1 hl hf1 (hm1.at hE.B.dy)) rfl rfl (Nat.le_of_ble_eq_true rfl) (Nat.le_of_ble_eq_true rfl) (Nat.zero_le _) (Nat.zero_le _) ?_
  rw [cH_dset (hE.B.dy.dyn hE.B.oq.2.1 hE.B.oq.2.2), List.set_set]
  refine wp_pop dX0_changes_39 rfl rfl ?_
  exact wp_return dX0_changes_40 rfl ⟨rfl, _, A.sw k l, rfl, OutX.set hE.B.oq.2.1 hE.B.oq.2.2, hE.sw hk hl⟩
theorem cL_better2 {g : GW} {C : SC} {S : SM} {X0 : AH} {lo hi b : Nat} {W : Nat → Int32} {z : Int32} {q : Nat} (hq5 : q < nW W 5) {c n : Nat} {Q : Option Value → AH → Prop} : ∀ (k : Nat) (X : AH) (A : BA) (i : Nat) (a : Int32 × Int32) (v6 : Option Value), EV C X lo hi b A W → OutX X0 X lo hi → ((nW W 5 ≤ i ∧ k = 0) ∨ i + k = nW W 5) → i < 1000 → (∀ X' A' v5 v6, EV C X' lo hi b A' W → OutX X0 X' lo hi → WP g 7 yX0_better cX0_better 7 (some .int) 119 [some (.ref 0), some (.int z), some (.int (itr (beT W z q) k i a).1), some (.int (itr (beT W z q) k i a).2), some (.int (nI q)), v5, v6] [] (cH C S X') c n Q) → WP g 7 yX0_better cX0_better 7 (some .int) 48 [some (.ref 0), some (.int z), some (.int a.1), some (.int a.2), some (.int (nI q)), some (.int (nI i)), v6] [] (cH C S X) c n Q := by
  intro k
  induction k with
  | zero =>
    intro X A i a v6 hE hO hi hi2 hq
    refine wp_iload_5 dX0_better_48 rfl ?_
    refine wp_aload_0 dX0_better_50 rfl ?_
    refine wp_cvR dX0_better_51 rfl q1183 mv_X0_comingsOfDrum hE.o0 rfl rfl (c_comingsOfDrum hE) rfl rfl (Nat.le_of_ble_eq_true rfl) (Nat.le_of_ble_eq_true rfl) ?_
    refine wp_icmp_ge_k 119 dX0_better_54 rfl rfl (by omega) (by have := hE.s.nc.2; omega) (fun c54 => ?_) (fun c54 => ?_)
    · exact hq X A _ _ hE hO
    · exact absurd c54 (by omega)
  | succ k ih =>
    intro X A i a v6 hE hO hi hi2 hq
    refine wp_iload_5 dX0_better_48 rfl ?_
    refine wp_aload_0 dX0_better_50 rfl ?_
    refine wp_cvR dX0_better_51 rfl q1183 mv_X0_comingsOfDrum hE.o0 rfl rfl (c_comingsOfDrum hE) rfl rfl (Nat.le_of_ble_eq_true rfl) (Nat.le_of_ble_eq_true rfl) ?_
    refine wp_icmp_ge_k 119 dX0_better_54 rfl rfl (by omega) (by have := hE.s.nc.2; omega) (fun c54 => ?_) (fun c54 => ?_)
    · exact absurd c54 (by omega)
    · have h24 := hE.s.nc.2
      have hi5 : i < nW W 5 := by omega
      refine wp_aload_0 dX0_better_57 rfl ?_
      refine wp_iload_4 dX0_better_58 rfl ?_
      refine wp_iload_5 dX0_better_60 rfl ?_
      refine wp_cvE dX0_better_62 rfl q1726 mv_X0_changes hE.o0 rfl rfl (c_changes hE hq5 hi5) rfl rfl (Nat.le_of_ble_eq_true rfl) (Nat.le_of_ble_eq_true rfl) (fun h1 hq => ?_)
      obtain ⟨X1, A1, rfl, hO1, hE1⟩ := hq
      have e5 := swN hq5 hi5 hE.s.nc.2
      have hE := hE1
      refine wp_aload_0 dX0_better_65 rfl ?_
      refine wp_cvR dX0_better_66 rfl q1718 mv_X0_pathOf hE.o0 rfl rfl (c_pathOf hE) rfl rfl (Nat.le_of_ble_eq_true rfl) (Nat.le_of_ble_eq_true rfl) ?_
      refine wp_istore_6 dX0_better_69 rfl (by decide) rfl ?_
      refine wp_aload_0 dX0_better_71 rfl ?_
      refine wp_iload_4 dX0_better_72 rfl ?_
      refine wp_iload_5 dX0_better_74 rfl ?_
      refine wp_cvE dX0_better_76 rfl q1726 mv_X0_changes hE.o0 rfl rfl (c_changes hE (by rw [e5]; exact hq5) (by rw [e5]; exact hi5)) rfl rfl (Nat.le_of_ble_eq_true rfl) (Nat.le_of_ble_eq_true rfl) (fun h1 hq => ?_)
      obtain ⟨X2, A2, rfl, hO2, hE2⟩ := hq
      rw [swW_sw] at hE2
      have hE := hE2
      refine wp_iload_1 dX0_better_79 rfl ?_
      refine wp_if_ne 92 dX0_better_80 rfl rfl (fun c80 => ?_) (fun c80 => ?_)
      · refine wp_iload_6 dX0_better_92 rfl ?_
        refine wp_iload_3 dX0_better_94 rfl ?_
        refine wp_icmp_lt 101 dX0_better_95 rfl rfl (fun c95 => ?_) (fun c95 => ?_)
        · refine wp_bipush 100 dX0_better_101 rfl rfl ?_
          refine wp_iload_4 dX0_better_103 rfl ?_
          refine wp_imul dX0_better_105 rfl ?_
          refine wp_iload_5 dX0_better_106 rfl ?_
          refine wp_iadd dX0_better_108 rfl ?_
          refine wp_istore_2 dX0_better_109 rfl (by decide) rfl ?_
          refine wp_iload_6 dX0_better_110 rfl ?_
          refine wp_istore_3 dX0_better_112 rfl (by decide) rfl ?_
          refine wp_iinc_5 1 dX0_better_113 rfl rfl (by decide) rfl ?_
          refine wp_goto 48 dX0_better_116 rfl rfl ?_
          have e9 : beT W z q i a = (100 * nI q + nI i, paW (swW q i W)) := by rw [beT, if_neg (by rw [beB, if_neg c80, decide_eq_true_eq]; exact Int32.not_le.mpr c95)]
          exact WP.cast (by rw [e9, nI_1]) (ih X2 A2 (i + 1) (beT W z q i a) _ hE2 ((hO.tr hO1).tr hO2) (by omega) (by omega) hq)
        · refine wp_goto 113 dX0_better_98 rfl rfl ?_
          refine wp_iinc_5 1 dX0_better_113 rfl rfl (by decide) rfl ?_
          refine wp_goto 48 dX0_better_116 rfl rfl ?_
          have e9 : beT W z q i a = a := by rw [beT, if_pos (by rw [beB, if_neg c80, decide_eq_true_eq]; exact Int32.not_lt.mp c95)]
          exact WP.cast (by rw [e9, nI_1]) (ih X2 A2 (i + 1) (beT W z q i a) _ hE2 ((hO.tr hO1).tr hO2) (by omega) (by omega) hq)
      · refine wp_iload_6 dX0_better_83 rfl ?_
        refine wp_iload_3 dX0_better_85 rfl ?_
        refine wp_icmp_gt 101 dX0_better_86 rfl rfl (fun c86 => ?_) (fun c86 => ?_)
        · refine wp_bipush 100 dX0_better_101 rfl rfl ?_
          refine wp_iload_4 dX0_better_103 rfl ?_
          refine wp_imul dX0_better_105 rfl ?_
          refine wp_iload_5 dX0_better_106 rfl ?_
          refine wp_iadd dX0_better_108 rfl ?_
          refine wp_istore_2 dX0_better_109 rfl (by decide) rfl ?_
          refine wp_iload_6 dX0_better_110 rfl ?_
          refine wp_istore_3 dX0_better_112 rfl (by decide) rfl ?_
          refine wp_iinc_5 1 dX0_better_113 rfl rfl (by decide) rfl ?_
          refine wp_goto 48 dX0_better_116 rfl rfl ?_
          have e9 : beT W z q i a = (100 * nI q + nI i, paW (swW q i W)) := by rw [beT, if_neg (by rw [beB, if_pos c80, decide_eq_true_eq]; exact Int32.not_le.mpr c86)]
          exact WP.cast (by rw [e9, nI_1]) (ih X2 A2 (i + 1) (beT W z q i a) _ hE2 ((hO.tr hO1).tr hO2) (by omega) (by omega) hq)
        · refine wp_goto 113 dX0_better_89 rfl rfl ?_
          refine wp_iinc_5 1 dX0_better_113 rfl rfl (by decide) rfl ?_
          refine wp_goto 48 dX0_better_116 rfl rfl ?_
          have e9 : beT W z q i a = a := by rw [beT, if_pos (by rw [beB, if_pos c80, decide_eq_true_eq]; exact Int32.not_lt.mp c86)]
          exact WP.cast (by rw [e9, nI_1]) (ih X2 A2 (i + 1) (beT W z q i a) _ hE2 ((hO.tr hO1).tr hO2) (by omega) (by omega) hq)
theorem cL_better {g : GW} {C : SC} {S : SM} {X0 : AH} {lo hi b : Nat} {W : Nat → Int32} {z : Int32} {c n : Nat} {Q : Option Value → AH → Prop} : ∀ (k : Nat) (X : AH) (A : BA) (i : Nat) (a : Int32 × Int32) (v5 v6 : Option Value), EV C X lo hi b A W → OutX X0 X lo hi → i + k = nW W 5 → (∀ X' A', EV C X' lo hi b A' W → OutX X0 X' lo hi → Q (some (.int (itr (beK W z) k i a).1)) (cH C S X')) → WP g 7 yX0_better cX0_better 7 (some .int) 33 [some (.ref 0), some (.int z), some (.int a.1), some (.int a.2), some (.int (nI i)), v5, v6] [] (cH C S X) c n Q := by
  intro k
  induction k with
  | zero =>
    intro X A i a v5 v6 hE hO hi hq
    refine wp_iload_4 dX0_better_33 rfl ?_
    refine wp_aload_0 dX0_better_35 rfl ?_
    refine wp_cvR dX0_better_36 rfl q1183 mv_X0_comingsOfDrum hE.o0 rfl rfl (c_comingsOfDrum hE) rfl rfl (Nat.le_of_ble_eq_true rfl) (Nat.le_of_ble_eq_true rfl) ?_
    refine wp_icmp_ge_k 125 dX0_better_39 rfl rfl (by have := hE.s.nc.2; omega) (by have := hE.s.nc.2; omega) (fun c39 => ?_) (fun c39 => ?_)
    · refine wp_iload_2 dX0_better_125 rfl ?_
      exact wp_ireturn dX0_better_126 rfl (hq X A hE hO)
    · exact absurd c39 (by omega)
  | succ k ih =>
    intro X A i a v5 v6 hE hO hi hq
    refine wp_iload_4 dX0_better_33 rfl ?_
    refine wp_aload_0 dX0_better_35 rfl ?_
    refine wp_cvR dX0_better_36 rfl q1183 mv_X0_comingsOfDrum hE.o0 rfl rfl (c_comingsOfDrum hE) rfl rfl (Nat.le_of_ble_eq_true rfl) (Nat.le_of_ble_eq_true rfl) ?_
    refine wp_icmp_ge_k 125 dX0_better_39 rfl rfl (by have := hE.s.nc.2; omega) (by have := hE.s.nc.2; omega) (fun c39 => ?_) (fun c39 => ?_)
    · exact absurd c39 (by omega)
    · refine wp_iload_4 dX0_better_42 rfl ?_
      refine wp_iconst 1 dX0_better_44 rfl rfl ?_
      refine wp_iadd dX0_better_45 rfl ?_
      rw [nI_1]
      refine wp_istore_5 dX0_better_46 rfl (by decide) rfl ?_
      refine cL_better2 (by omega) (nW W 5 - (i + 1)) X A (i + 1) a _ hE hO (by omega) (by have := hE.s.nc.2; omega) (fun X1 A1 v5 v6 hE1 hO1 => ?_)
      refine wp_iinc_4 1 dX0_better_119 rfl rfl (by decide) rfl ?_
      refine wp_goto 33 dX0_better_122 rfl rfl ?_
      exact WP.cast (by rw [nI_1]; rfl) (ih X1 A1 (i + 1) (beK W z i a) _ _ hE1 hO1 (by omega) hq)
theorem q_c_better {g : GW} {C : SC} {S : SM} {X : AH} {lo hi b : Nat} {A : BA} {W : Nat → Int32} (hE : EV C X lo hi b A W) {z : Int32} : SP g 7 0 0 yX0_better cX0_better 7 (some .int) [.ref 0, .int z] (cH C S X) (QCW C S X lo hi b (.int (qbetter W z)) W) := by
  refine SP.intro [some (.ref 0), some (.int z), none, none, none, none, none] (pfn (by decide)) rfl (Nat.le_of_ble_eq_true rfl) ?_
  refine wp_aload_0 dX0_better_0 rfl ?_
  refine wp_getf dX0_better_1 rfl q721 fk0_1 hE.o0 rfl ?_
  refine wp_cvR dX0_better_4 rfl q1167 mv_X2_is hE.ob rfl rfl (c_is hE) rfl rfl (Nat.le_of_ble_eq_true rfl) (Nat.le_of_ble_eq_true rfl) ?_
  refine wp_ifeq_b 20 dX0_better_7 rfl rfl (fun c7 => ?_) (fun c7 => ?_)
  · refine wp_bipush (-2) dX0_better_20 rfl rfl ?_
    exact wp_ireturn dX0_better_22 rfl ⟨by simp [qbetter, *], C, X, A, rfl, KC.rf C, OutX.rf X lo hi, hE⟩
  · refine wp_iload_1 dX0_better_10 rfl ?_
    refine wp_i2l dX0_better_11 rfl ?_
    refine wp_lconst 0 dX0_better_12 rfl rfl ?_
    refine wp_lconst 1 dX0_better_13 rfl rfl ?_
    refine wp_csR dX0_better_14 rfl q190 ms_X0_in c_in rfl rfl (Nat.le_of_ble_eq_true rfl) (Nat.le_of_ble_eq_true rfl) ?_
    refine wp_ifne_b 23 dX0_better_17 rfl rfl (fun c17 => ?_) (fun c17 => ?_)
    · refine wp_iconst (-1) dX0_better_23 rfl rfl ?_
      refine wp_istore_2 dX0_better_24 rfl (by decide) rfl ?_
      refine wp_aload_0 dX0_better_25 rfl ?_
      refine wp_cvR dX0_better_26 rfl q1718 mv_X0_pathOf hE.o0 rfl rfl (c_pathOf hE) rfl rfl (Nat.le_of_ble_eq_true rfl) (Nat.le_of_ble_eq_true rfl) ?_
      refine wp_istore_3 dX0_better_29 rfl (by decide) rfl ?_
      refine wp_iconst 0 dX0_better_30 rfl rfl ?_
      refine wp_istore_4 dX0_better_31 rfl (by decide) rfl ?_
      exact cL_better (X0 := X) (nW W 5) X A 0 (-1, paW W) none none hE (OutX.rf X lo hi) (Nat.zero_add _) (fun X1 A1 hE1 hO1 => ⟨by rw [qbetter, if_pos ⟨c7, c17⟩], C, X1, A1, rfl, KC.rf C, hO1, hE1⟩)
    · refine wp_bipush (-2) dX0_better_20 rfl rfl ?_
      exact wp_ireturn dX0_better_22 rfl ⟨by simp [qbetter, *], C, X, A, rfl, KC.rf C, OutX.rf X lo hi, hE⟩
theorem q_c_swap {g : GW} {C : SC} {S : SM} {X : AH} {lo hi b : Nat} {A : BA} {W : Nat → Int32} (hE : EV C X lo hi b A W) {x z : Int32} : SP g 6 0 0 yX0_swap cX0_swap 3 (some .int) [.ref 0, .int x, .int z] (cH C S X) (QCW C S X lo hi b (.int (qswap W x z)) (wswap W x z)) := by
  refine SP.intro [some (.ref 0), some (.int x), some (.int z)] (pfn (by decide)) rfl (Nat.le_of_ble_eq_true rfl) ?_
  refine wp_aload_0 dX0_swap_0 rfl ?_
  refine wp_iload_1 dX0_swap_1 rfl ?_
  refine wp_cvR dX0_swap_2 rfl q1179 mv_X0_isMole hE.o0 rfl rfl (c_isMole hE) rfl rfl (Nat.le_of_ble_eq_true rfl) (Nat.le_of_ble_eq_true rfl) ?_
  refine wp_ifeq_b 16 dX0_swap_5 rfl rfl (fun c5 => ?_) (fun c5 => ?_)
  · refine wp_bipush (-2) dX0_swap_16 rfl rfl ?_
    exact wp_ireturn dX0_swap_18 rfl ⟨by simp [qswap, *], C, X, A, rfl, KC.rf C, OutX.rf X lo hi, by first | (simp [wswap, *]; done) | (simp [wswap, *]; exact hE)⟩
  · obtain ⟨k, hk, rfl⟩ := cmW_of hE.s c5
    have hk24 : k < 24 := by have := hE.s.nc.2; omega
    refine wp_aload_0 dX0_swap_8 rfl ?_
    refine wp_iload_2 dX0_swap_9 rfl ?_
    refine wp_cvR dX0_swap_10 rfl q1179 mv_X0_isMole hE.o0 rfl rfl (c_isMole hE) rfl rfl (Nat.le_of_ble_eq_true rfl) (Nat.le_of_ble_eq_true rfl) ?_
    refine wp_ifne_b 19 dX0_swap_13 rfl rfl (fun c13 => ?_) (fun c13 => ?_)
    · obtain ⟨l, hl, rfl⟩ := cmW_of hE.s c13
      have hl24 : l < 24 := by have := hE.s.nc.2; omega
      refine wp_aload_0 dX0_swap_19 rfl ?_
      refine wp_iload_1 dX0_swap_20 rfl ?_
      refine wp_iload_2 dX0_swap_21 rfl ?_
      refine wp_cvE dX0_swap_22 rfl q1726 mv_X0_changes hE.o0 rfl rfl (c_changes hE hk hl) rfl rfl (Nat.le_of_ble_eq_true rfl) (Nat.le_of_ble_eq_true rfl) (fun h1 hq => ?_)
      obtain ⟨X1, A1, rfl, hO1, hE1⟩ := hq
      refine wp_iconst 0 dX0_swap_25 rfl rfl ?_
      exact wp_ireturn dX0_swap_26 rfl ⟨by rw [qswap, if_pos ⟨c5, c13⟩], C, X1, A1, rfl, KC.rf C, hO1, by rw [wswap, if_pos ⟨c5, c13⟩, nI_clamp (by omega), nI_clamp (by omega)]; exact hE1⟩
    · refine wp_bipush (-2) dX0_swap_16 rfl rfl ?_
      exact wp_ireturn dX0_swap_18 rfl ⟨by simp [qswap, *], C, X, A, rfl, KC.rf C, OutX.rf X lo hi, by first | (simp [wswap, *]; done) | (simp [wswap, *]; exact hE)⟩
theorem q_c_paint {g : GW} {C : SC} {S : SM} {X : AH} {lo hi b : Nat} {A : BA} {W : Nat → Int32} (hE : EV C X lo hi b A W) {x z : Int32} : SP g 5 0 0 yX0_paint cX0_paint 4 (some .int) [.ref 0, .int x, .int z] (cH C S X) (QCW C S X lo hi b (.int (qpaint W x z)) (wpaint W x z)) := by
  refine SP.intro [some (.ref 0), some (.int x), some (.int z), none] (pfn (by decide)) rfl (Nat.le_of_ble_eq_true rfl) ?_
  refine wp_aload_0 dX0_paint_0 rfl ?_
  refine wp_iload_1 dX0_paint_1 rfl ?_
  refine wp_cvR dX0_paint_2 rfl q1179 mv_X0_isMole hE.o0 rfl rfl (c_isMole hE) rfl rfl (Nat.le_of_ble_eq_true rfl) (Nat.le_of_ble_eq_true rfl) ?_
  refine wp_ifeq_b 29 dX0_paint_5 rfl rfl (fun c5 => ?_) (fun c5 => ?_)
  · refine wp_bipush (-2) dX0_paint_29 rfl rfl ?_
    exact wp_ireturn dX0_paint_31 rfl ⟨by simp [qpaint, okP, *], C, X, A, rfl, KC.rf C, OutX.rf X lo hi, by first | (simp [wpaint, okP, *]; done) | (simp [wpaint, okP, *]; exact hE)⟩
  · obtain ⟨k, hk, rfl⟩ := cmW_of hE.s c5
    have hk24 : k < 24 := by have := hE.s.nc.2; omega
    have hred : W (24 + 3 * k + 2) = 0 ∨ W (24 + 3 * k + 2) = 1 := by
      obtain ⟨a9, o9, r9, -, -, e9, -⟩ := hE.c k hk
      rw [e9]
      cases r9
      · exact Or.inl rfl
      · exact Or.inr rfl
    refine wp_iload_2 dX0_paint_8 rfl ?_
    refine wp_i2l dX0_paint_9 rfl ?_
    refine wp_lconst 0 dX0_paint_10 rfl rfl ?_
    refine wp_lconst 1 dX0_paint_11 rfl rfl ?_
    refine wp_csR dX0_paint_12 rfl q190 ms_X0_in c_in rfl rfl (Nat.le_of_ble_eq_true rfl) (Nat.le_of_ble_eq_true rfl) ?_
    refine wp_ifeq_b 29 dX0_paint_15 rfl rfl (fun c15 => ?_) (fun c15 => ?_)
    · refine wp_bipush (-2) dX0_paint_29 rfl rfl ?_
      exact wp_ireturn dX0_paint_31 rfl ⟨by simp [qpaint, okP, *], C, X, A, rfl, KC.rf C, OutX.rf X lo hi, by first | (simp [wpaint, okP, *]; done) | (simp [wpaint, okP, *]; exact hE)⟩
    · obtain ⟨w, hw, rfl⟩ := in01_of c15
      refine wp_aload_0 dX0_paint_18 rfl ?_
      refine wp_iload_1 dX0_paint_19 rfl ?_
      refine wp_cvR dX0_paint_20 rfl q1190 mv_X0_mole hE.o0 rfl rfl (c_mole hE hk) rfl rfl (Nat.le_of_ble_eq_true rfl) (Nat.le_of_ble_eq_true rfl) ?_
      refine wp_cvR dX0_paint_23 rfl q1313 mv_X13_isTwin (hE.mol hk) rfl rfl (c_isTwin (hE.mol hk)) rfl rfl (Nat.le_of_ble_eq_true rfl) (Nat.le_of_ble_eq_true rfl) ?_
      refine wp_ifeq_b 32 dX0_paint_26 rfl rfl (fun c26 => ?_) (fun c26 => ?_)
      · have c26 : W (24 + 3 * k + 1) = -1 := by simpa using c26
        refine wp_aload_0 dX0_paint_32 rfl ?_
        refine wp_iload_1 dX0_paint_33 rfl ?_
        refine wp_cvR dX0_paint_34 rfl q1190 mv_X0_mole hE.o0 rfl rfl (c_mole hE hk) rfl rfl (Nat.le_of_ble_eq_true rfl) (Nat.le_of_ble_eq_true rfl) ?_
        refine wp_getfN dX0_paint_37 rfl q1065 fk14_2 (hE.mol hk) rfl ?_
        refine wp_if_eq 47 dX0_paint_40 rfl rfl (fun c40 => ?_) (fun c40 => ?_)
        · refine wp_iconst 0 dX0_paint_47 rfl rfl ?_
          refine wp_istore_3 dX0_paint_48 rfl (by decide) rfl ?_
          refine wp_aload_0 dX0_paint_49 rfl ?_
          refine wp_iload_1 dX0_paint_50 rfl ?_
          refine wp_cvR dX0_paint_51 rfl q1190 mv_X0_mole hE.o0 rfl rfl (c_mole hE hk) rfl rfl (Nat.le_of_ble_eq_true rfl) (Nat.le_of_ble_eq_true rfl) ?_
          refine wp_iload_2 dX0_paint_54 rfl ?_
          refine wp_iconst 1 dX0_paint_55 rfl rfl ?_
          refine wp_icmp_ne 63 dX0_paint_56 rfl rfl (fun c56 => ?_) (fun c56 => ?_)
          · refine wp_iconst 0 dX0_paint_63 rfl rfl ?_
            refine wp_putfN dX0_paint_64 rfl q1065 fp14_2 (hE.mol hk) rfl rfl (Nat.le_of_ble_eq_true rfl) (pset hE hk) ?_
            refine wp_iload_3 dX0_paint_67 rfl ?_
            exact wp_ireturn dX0_paint_68 rfl (by
    have hok : okP W (nI k) (nI w) = true := by rw [okP, c5, c15, nI_clamp (by omega)]; exact decide_eq_true c26
    have hz : nI w = 0 := (by
      rcases (show w = 0 ∨ w = 1 by omega) with rfl | rfl
      · rfl
      · exact absurd rfl c56)
    rw [qpaint, wpaint, if_pos hok, if_pos hok, nI_clamp (by omega)]
    refine ⟨?_, C, _, A, rfl, KC.rf C, OutX.set (hE.B.mo k hk).2.2.1 (hE.B.mo k hk).2.2.2, ?_⟩
    · rw [c40]
    · rw [hz]
      exact hE.paint hk false)
          · refine wp_iconst 1 dX0_paint_59 rfl rfl ?_
            refine wp_goto 64 dX0_paint_60 rfl rfl ?_
            refine wp_putfN dX0_paint_64 rfl q1065 fp14_2 (hE.mol hk) rfl rfl (Nat.le_of_ble_eq_true rfl) (pset hE hk) ?_
            refine wp_iload_3 dX0_paint_67 rfl ?_
            exact wp_ireturn dX0_paint_68 rfl (by
    have hok : okP W (nI k) (nI w) = true := by rw [okP, c5, c15, nI_clamp (by omega)]; exact decide_eq_true c26
    have hz : nI w = 1 := c56
    rw [qpaint, wpaint, if_pos hok, if_pos hok, nI_clamp (by omega)]
    refine ⟨?_, C, _, A, rfl, KC.rf C, OutX.set (hE.B.mo k hk).2.2.1 (hE.B.mo k hk).2.2.2, ?_⟩
    · rw [c40]
    · rw [hz]
      exact hE.paint hk true)
        · refine wp_iconst 1 dX0_paint_43 rfl rfl ?_
          refine wp_goto 48 dX0_paint_44 rfl rfl ?_
          refine wp_istore_3 dX0_paint_48 rfl (by decide) rfl ?_
          refine wp_aload_0 dX0_paint_49 rfl ?_
          refine wp_iload_1 dX0_paint_50 rfl ?_
          refine wp_cvR dX0_paint_51 rfl q1190 mv_X0_mole hE.o0 rfl rfl (c_mole hE hk) rfl rfl (Nat.le_of_ble_eq_true rfl) (Nat.le_of_ble_eq_true rfl) ?_
          refine wp_iload_2 dX0_paint_54 rfl ?_
          refine wp_iconst 1 dX0_paint_55 rfl rfl ?_
          refine wp_icmp_ne 63 dX0_paint_56 rfl rfl (fun c56 => ?_) (fun c56 => ?_)
          · refine wp_iconst 0 dX0_paint_63 rfl rfl ?_
            refine wp_putfN dX0_paint_64 rfl q1065 fp14_2 (hE.mol hk) rfl rfl (Nat.le_of_ble_eq_true rfl) (pset hE hk) ?_
            refine wp_iload_3 dX0_paint_67 rfl ?_
            exact wp_ireturn dX0_paint_68 rfl (by
    have hok : okP W (nI k) (nI w) = true := by rw [okP, c5, c15, nI_clamp (by omega)]; exact decide_eq_true c26
    have hz : nI w = 0 := (by
      rcases (show w = 0 ∨ w = 1 by omega) with rfl | rfl
      · rfl
      · exact absurd rfl c56)
    rw [qpaint, wpaint, if_pos hok, if_pos hok, nI_clamp (by omega)]
    refine ⟨?_, C, _, A, rfl, KC.rf C, OutX.set (hE.B.mo k hk).2.2.1 (hE.B.mo k hk).2.2.2, ?_⟩
    · rw [show W (24 + 3 * k + 2) = 1 from hred.resolve_left c40]
    · rw [hz]
      exact hE.paint hk false)
          · refine wp_iconst 1 dX0_paint_59 rfl rfl ?_
            refine wp_goto 64 dX0_paint_60 rfl rfl ?_
            refine wp_putfN dX0_paint_64 rfl q1065 fp14_2 (hE.mol hk) rfl rfl (Nat.le_of_ble_eq_true rfl) (pset hE hk) ?_
            refine wp_iload_3 dX0_paint_67 rfl ?_
            exact wp_ireturn dX0_paint_68 rfl (by
    have hok : okP W (nI k) (nI w) = true := by rw [okP, c5, c15, nI_clamp (by omega)]; exact decide_eq_true c26
    have hz : nI w = 1 := c56
    rw [qpaint, wpaint, if_pos hok, if_pos hok, nI_clamp (by omega)]
    refine ⟨?_, C, _, A, rfl, KC.rf C, OutX.set (hE.B.mo k hk).2.2.1 (hE.B.mo k hk).2.2.2, ?_⟩
    · rw [show W (24 + 3 * k + 2) = 1 from hred.resolve_left c40]
    · rw [hz]
      exact hE.paint hk true)
      · have c26 : ¬ W (24 + 3 * k + 1) = -1 := by simpa using c26
        refine wp_bipush (-2) dX0_paint_29 rfl rfl ?_
        exact wp_ireturn dX0_paint_31 rfl (by
    have hok : okP W (nI k) (nI w) = false := by rw [okP, c5, c15, nI_clamp (by omega), decide_eq_false c26]; rfl
    refine ⟨by rw [qpaint, if_neg (by rw [hok]; decide)], C, X, A, rfl, KC.rf C, OutX.rf X lo hi, ?_⟩
    rw [wpaint, if_neg (by rw [hok]; decide)]
    exact hE)
theorem q_c_turn {g : GW} {C : SC} {S : SM} {X : AH} {lo hi b : Nat} {A : BA} {W : Nat → Int32} (hE : EV C X lo hi b A W) {x : Int32} : SP g 4 0 0 yX0_turn cX0_turn 3 (some .int) [.ref 0, .int x] (cH C S X) (QCW C S X lo hi b (.int (qturn W x)) (wturn W x)) := by
  refine SP.intro [some (.ref 0), some (.int x), none] (pfn (by decide)) rfl (Nat.le_of_ble_eq_true rfl) ?_
  refine wp_aload_0 dX0_turn_0 rfl ?_
  refine wp_iload_1 dX0_turn_1 rfl ?_
  refine wp_cvR dX0_turn_2 rfl q1179 mv_X0_isMole hE.o0 rfl rfl (c_isMole hE) rfl rfl (Nat.le_of_ble_eq_true rfl) (Nat.le_of_ble_eq_true rfl) ?_
  refine wp_ifne_b 11 dX0_turn_5 rfl rfl (fun c5 => ?_) (fun c5 => ?_)
  · obtain ⟨k, hk, rfl⟩ := cmW_of hE.s c5
    refine wp_aload_0 dX0_turn_11 rfl ?_
    refine wp_getf dX0_turn_12 rfl q721 fk0_1 hE.o0 rfl ?_
    refine wp_getfN dX0_turn_15 rfl q478 fk2_13 hE.ob rfl ?_
    refine wp_istore_2 dX0_turn_18 rfl (by decide) rfl ?_
    refine wp_aload_0 dX0_turn_19 rfl ?_
    refine wp_getf dX0_turn_20 rfl q721 fk0_1 hE.o0 rfl ?_
    refine wp_iload_1 dX0_turn_23 rfl ?_
    refine wp_putfN dX0_turn_24 rfl q478 fp2_13 hE.ob rfl rfl (Nat.le_of_ble_eq_true rfl) hE.put ?_
    change WP g 4 _ _ _ _ _ _ _ (cH C S (X.set b (.inr (2, bfl A (upd W 8 (nI k)))))) _ _ _
    refine wp_iload_2 dX0_turn_27 rfl ?_
    exact wp_ireturn dX0_turn_28 rfl ⟨by rw [qturn, if_pos c5], C, _, A, rfl, KC.rf C, OutX.set hE.B.ob.2.1 hE.B.ob.2.2, by rw [wturn, if_pos c5]; exact hE.u8 hk⟩
  · refine wp_bipush (-2) dX0_turn_8 rfl rfl ?_
    exact wp_ireturn dX0_turn_10 rfl ⟨by simp [qturn, *], C, X, A, rfl, KC.rf C, OutX.rf X lo hi, by first | (simp [wturn, *]; done) | (simp [wturn, *]; exact hE)⟩
theorem q_c_shut {g : GW} {C : SC} {S : SM} {X : AH} {lo hi b : Nat} {A : BA} {W : Nat → Int32} (hE : EV C X lo hi b A W) {x z : Int32} : SP g 5 1 4 yX0_shut cX0_shut 4 (some .int) [.ref 0, .int x, .int z] (cH C S X) (QCW C S X lo hi b (.int (qshut W x z)) (wshut W x z)) := by
  refine SP.intro [some (.ref 0), some (.int x), some (.int z), none] (pfn (by decide)) rfl (Nat.le_of_ble_eq_true rfl) ?_
  refine wp_aload_0 dX0_shut_0 rfl ?_
  refine wp_iload_1 dX0_shut_1 rfl ?_
  refine wp_i2l dX0_shut_2 rfl ?_
  refine wp_cvR dX0_shut_3 rfl q1325 mv_X0_isHole hE.o0 rfl rfl (c_isHole hE) rfl rfl (Nat.le_of_ble_eq_true rfl) (Nat.le_of_ble_eq_true rfl) ?_
  refine wp_ifeq_b 30 dX0_shut_6 rfl rfl (fun c6 => ?_) (fun c6 => ?_)
  · refine wp_bipush (-2) dX0_shut_30 rfl rfl ?_
    exact wp_ireturn dX0_shut_32 rfl ⟨by simp [qshut, okH, *], C, X, A, rfl, KC.rf C, OutX.rf X lo hi, by first | (simp [wshut, okH, *]; done) | (simp [wshut, okH, *]; exact hE)⟩
  · obtain ⟨x, hx, rfl⟩ := hlL_of hE.s c6
    have hx12 : x < 12 := by have := hE.s.ho12; omega
    refine wp_iload_2 dX0_shut_9 rfl ?_
    refine wp_i2l dX0_shut_10 rfl ?_
    refine wp_lconst 0 dX0_shut_11 rfl rfl ?_
    refine wp_lconst 1 dX0_shut_12 rfl rfl ?_
    refine wp_csR dX0_shut_13 rfl q190 ms_X0_in c_in rfl rfl (Nat.le_of_ble_eq_true rfl) (Nat.le_of_ble_eq_true rfl) ?_
    refine wp_ifeq_b 30 dX0_shut_16 rfl rfl (fun c16 => ?_) (fun c16 => ?_)
    · refine wp_bipush (-2) dX0_shut_30 rfl rfl ?_
      exact wp_ireturn dX0_shut_32 rfl ⟨by simp [qshut, okH, *], C, X, A, rfl, KC.rf C, OutX.rf X lo hi, by first | (simp [wshut, okH, *]; done) | (simp [wshut, okH, *]; exact hE)⟩
    · obtain ⟨w, hw, rfl⟩ := in01_of c16
      refine wp_aload_0 dX0_shut_19 rfl ?_
      refine wp_getf dX0_shut_20 rfl q721 fk0_1 hE.o0 rfl ?_
      refine wp_iload_1 dX0_shut_23 rfl ?_
      refine wp_VeR dX0_shut_24 rfl q1759 mv_X2_isComing hE.ob rfl rfl (b_isComing hE.X hE.B) rfl rfl (Nat.le_of_ble_eq_true rfl) (Nat.le_of_ble_eq_true rfl) (Nat.le_refl _) (Nat.le_refl _) (fun h1 hq => ?_)
      obtain ⟨e, rfl⟩ := hq
      have hE := hE.ap (Z := [e])
      refine wp_ifeq_b 33 dX0_shut_27 rfl rfl (fun c27 => ?_) (fun c27 => ?_)
      · have hof : decide (ofW W (nI x) ≤ 0) = true := by have h9 := isCo_ofW W (nI x) hE.s.nc.2; rw [c27] at h9; simpa using h9.symm
        refine wp_aload_0 dX0_shut_33 rfl ?_
        refine wp_getf dX0_shut_34 rfl q721 fk0_1 hE.o0 rfl ?_
        refine wp_getfN dX0_shut_37 rfl q466 fk2_9 hE.ob rfl ?_
        refine wp_iload_1 dX0_shut_40 rfl ?_
        refine wp_ishr dX0_shut_41 rfl ?_
        refine wp_iconst 1 dX0_shut_42 rfl rfl ?_
        refine wp_iand dX0_shut_43 rfl ?_
        refine wp_istore_3 dX0_shut_44 rfl (by decide) rfl ?_
        refine wp_aload_0 dX0_shut_45 rfl ?_
        refine wp_getf dX0_shut_46 rfl q721 fk0_1 hE.o0 rfl ?_
        refine wp_iload_2 dX0_shut_49 rfl ?_
        refine wp_iconst 1 dX0_shut_50 rfl rfl ?_
        refine wp_icmp_ne 68 dX0_shut_51 rfl rfl (fun c51 => ?_) (fun c51 => ?_)
        · refine wp_aload_0 dX0_shut_68 rfl ?_
          refine wp_getf dX0_shut_69 rfl q721 fk0_1 hE.o0 rfl ?_
          refine wp_getfN dX0_shut_72 rfl q466 fk2_9 hE.ob rfl ?_
          refine wp_iconst 1 dX0_shut_75 rfl rfl ?_
          refine wp_iload_1 dX0_shut_76 rfl ?_
          refine wp_ishl dX0_shut_77 rfl ?_
          refine wp_iconst (-1) dX0_shut_78 rfl rfl ?_
          refine wp_ixor dX0_shut_79 rfl ?_
          refine wp_iand dX0_shut_80 rfl ?_
          rw [sh_0 hE.s hx12]
          refine wp_putfN dX0_shut_81 rfl q466 fp2_9 hE.ob rfl rfl (Nat.le_of_ble_eq_true rfl) hE.put ?_
          refine wp_iload_3 dX0_shut_84 rfl ?_
          exact wp_ireturn dX0_shut_85 rfl (by
    have hz : nI w = b2i false := (by
      rcases (show w = 0 ∨ w = 1 by omega) with rfl | rfl
      · rfl
      · exact absurd rfl c51)
    have hok : okH W (nI x) (nI w) = true := by rw [okH, c6, c16, hof]; rfl
    refine ⟨by rw [qshut, if_pos hok, ← sh_v hE.s hx12], C, _, A, rfl, KC.rf C, OutX.app.tr (OutX.set hE.B.ob.2.1 hE.B.ob.2.2), ?_⟩
    rw [hz] at hok ⊢
    rw [wshut_n hE.s hx12 false hok]
    exact hE.v7 (hE.w.shut hx c27 false))
        · refine wp_aload_0 dX0_shut_54 rfl ?_
          refine wp_getf dX0_shut_55 rfl q721 fk0_1 hE.o0 rfl ?_
          refine wp_getfN dX0_shut_58 rfl q466 fk2_9 hE.ob rfl ?_
          refine wp_iconst 1 dX0_shut_61 rfl rfl ?_
          refine wp_iload_1 dX0_shut_62 rfl ?_
          refine wp_ishl dX0_shut_63 rfl ?_
          refine wp_ior dX0_shut_64 rfl ?_
          rw [sh_1 hE.s hx12]
          refine wp_goto 81 dX0_shut_65 rfl rfl ?_
          refine wp_putfN dX0_shut_81 rfl q466 fp2_9 hE.ob rfl rfl (Nat.le_of_ble_eq_true rfl) hE.put ?_
          refine wp_iload_3 dX0_shut_84 rfl ?_
          exact wp_ireturn dX0_shut_85 rfl (by
    have hz : nI w = b2i true := c51
    have hok : okH W (nI x) (nI w) = true := by rw [okH, c6, c16, hof]; rfl
    refine ⟨by rw [qshut, if_pos hok, ← sh_v hE.s hx12], C, _, A, rfl, KC.rf C, OutX.app.tr (OutX.set hE.B.ob.2.1 hE.B.ob.2.2), ?_⟩
    rw [hz] at hok ⊢
    rw [wshut_n hE.s hx12 true hok]
    exact hE.v7 (hE.w.shut hx c27 true))
      · have hof : decide (ofW W (nI x) ≤ 0) = false := by have h9 := isCo_ofW W (nI x) hE.s.nc.2; rw [c27] at h9; simpa using h9.symm
        refine wp_bipush (-2) dX0_shut_30 rfl rfl ?_
        exact wp_ireturn dX0_shut_32 rfl (by
    have hok : okH W (nI x) (nI w) = false := by rw [okH, c6, c16, hof]; rfl
    refine ⟨by rw [qshut, if_neg (by rw [hok]; decide)], C, _, A, rfl, KC.rf C, OutX.app, ?_⟩
    rw [wshut, if_neg (by rw [hok]; decide)]
    exact hE)
theorem inT_no {W : Nat → Int32} {y z : Int32} (h : inL y.toInt64 0 4 = false) : ¬ inT W y z = true := by
  intro q
  have n : ∀ v : Int32, inL v.toInt64 0 4 = true → ¬ y = v := fun v hv e => by rw [e, hv] at h; cases h
  rw [inT, if_neg (n 0 (by decide)), if_neg (n 1 (by decide)), if_neg (n 2 (by decide)), if_neg (n 3 (by decide)), decide_eq_false (n 4 (by decide))] at q
  cases q
theorem q_c_train {g : GW} {C : SC} {S : SM} {X : AH} {lo hi b : Nat} {A : BA} {W : Nat → Int32} (hE : EV C X lo hi b A W) {x y z : Int32} : SP g 5 0 0 yX0_train cX0_train 6 (some .int) [.ref 0, .int x, .int y, .int z] (cH C S X) (QCW C S X lo hi b (.int (qtrain W x y z)) (wtrain W x y z)) := by
  refine SP.intro [some (.ref 0), some (.int x), some (.int y), some (.int z), none, none] (pfn (by decide)) rfl (Nat.le_of_ble_eq_true rfl) ?_
  refine wp_aload_0 dX0_train_0 rfl ?_
  refine wp_iload_1 dX0_train_1 rfl ?_
  refine wp_cvR dX0_train_2 rfl q1219 mv_X0_isPlayer hE.o0 rfl rfl (c_isPlayer hE) rfl rfl (Nat.le_of_ble_eq_true rfl) (Nat.le_of_ble_eq_true rfl) ?_
  refine wp_ifeq_b 20 dX0_train_5 rfl rfl (fun c5 => ?_) (fun c5 => ?_)
  · refine wp_bipush (-2) dX0_train_20 rfl rfl ?_
    exact wp_ireturn dX0_train_22 rfl ⟨by simp [qtrain, *], C, X, A, rfl, KC.rf C, OutX.rf X lo hi, by first | (simp [wtrain, *]; done) | (simp [wtrain, *]; exact hE)⟩
  · obtain ⟨p, hp, rfl⟩ := plW_of hE.s c5
    have hp4 : p < 4 := by have := hE.s.np.2; omega
    refine wp_iload_2 dX0_train_8 rfl ?_
    refine wp_i2l dX0_train_9 rfl ?_
    refine wp_lconst 0 dX0_train_10 rfl rfl ?_
    refine wp_ldc2_w dX0_train_11 rfl q1223 ?_
    refine wp_csR dX0_train_14 rfl q190 ms_X0_in c_in rfl rfl (Nat.le_of_ble_eq_true rfl) (Nat.le_of_ble_eq_true rfl) ?_
    refine wp_ifne_b 23 dX0_train_17 rfl rfl (fun c17 => ?_) (fun c17 => ?_)
    · obtain ⟨w, hw, rfl⟩ := in4_of c17
      refine wp_iload_2 dX0_train_23 rfl ?_
      refine wp_iconst 4 dX0_train_24 rfl rfl ?_
      refine wp_icmp_ne 37 dX0_train_25 rfl rfl (fun c25 => ?_) (fun c25 => ?_)
      · refine wp_iload_3 dX0_train_37 rfl ?_
        refine wp_i2l dX0_train_38 rfl ?_
        refine wp_iload_2 dX0_train_39 rfl ?_
        refine wp_if_ne 47 dX0_train_40 rfl rfl (fun c40 => ?_) (fun c40 => ?_)
        · refine wp_lconst 0 dX0_train_47 rfl rfl ?_
          refine wp_iload_2 dX0_train_48 rfl ?_
          refine wp_csR dX0_train_49 rfl q1764 ms_X14_high c_high rfl rfl (Nat.le_of_ble_eq_true rfl) (Nat.le_of_ble_eq_true rfl) ?_
          refine wp_i2l dX0_train_52 rfl ?_
          refine wp_csR dX0_train_53 rfl q190 ms_X0_in c_in rfl rfl (Nat.le_of_ble_eq_true rfl) (Nat.le_of_ble_eq_true rfl) ?_
          refine wp_istore_4 dX0_train_56 rfl (by decide) rfl ?_
          refine wp_iload_4 dX0_train_58 rfl ?_
          refine wp_ifne_b 66 dX0_train_60 rfl rfl (fun c60 => ?_) (fun c60 => ?_)
          · have hT : inT W (nI w) z = true := by
              rcases (show w = 0 ∨ w = 1 ∨ w = 2 ∨ w = 3 ∨ w = 4 by omega) with rfl | rfl | rfl | rfl | rfl
              · exact absurd rfl c40
              · exact c60
              · exact c60
              · exact c60
              · exact absurd rfl c25
            obtain ⟨m, rfl, hm⟩ := in4_inT hE.s hw hT
            refine wp_aload_0 dX0_train_66 rfl ?_
            refine wp_iload_1 dX0_train_67 rfl ?_
            refine wp_cvR dX0_train_68 rfl q1224 mv_X0_one hE.o0 rfl rfl (c_one hE hp) rfl rfl (Nat.le_of_ble_eq_true rfl) (Nat.le_of_ble_eq_true rfl) ?_
            refine wp_getfN dX0_train_71 rfl q1156 fk15_0 (hE.pla hp) rfl ?_
            refine wp_iload_2 dX0_train_74 rfl ?_
            refine wp_ialoadn w dX0_train_75 rfl (hE.pis hp) rfl (by omega) (by decide) ?_
            rw [(hE.B.pl p hp).2.2.2 w (by omega)]
            refine wp_istore_5 dX0_train_76 rfl (by decide) rfl ?_
            refine wp_aload_0 dX0_train_78 rfl ?_
            refine wp_iload_1 dX0_train_79 rfl ?_
            refine wp_cvR dX0_train_80 rfl q1224 mv_X0_one hE.o0 rfl rfl (c_one hE hp) rfl rfl (Nat.le_of_ble_eq_true rfl) (Nat.le_of_ble_eq_true rfl) ?_
            refine wp_getfN dX0_train_83 rfl q1156 fk15_0 (hE.pla hp) rfl ?_
            refine wp_iload_2 dX0_train_86 rfl ?_
            refine wp_iload_3 dX0_train_87 rfl ?_
            refine wp_iastoren w dX0_train_88 rfl (hE.pis hp) rfl (by omega) (by decide) (cH_dset (hE.B.dy.dyn (hE.B.pl p hp).2.2.1.2.1 (hE.B.pl p hp).2.2.1.2.2)) ?_
            refine wp_iload_5 dX0_train_89 rfl ?_
            exact wp_ireturn dX0_train_91 rfl ⟨by rw [qtrain, if_pos ⟨c5, hT⟩, nI_clamp (by omega), nI_clamp (by omega)], C, _, _, rfl, KC.rf C, OutX.set (hE.B.pl p hp).2.2.1.2.1 (hE.B.pl p hp).2.2.1.2.2, by rw [wtrain, if_pos ⟨c5, hT⟩, nI_clamp (by omega), nI_clamp (by omega)]; exact hE.train hp hm⟩
          · have hT : inT W (nI w) z = false := by
              rcases (show w = 0 ∨ w = 1 ∨ w = 2 ∨ w = 3 ∨ w = 4 by omega) with rfl | rfl | rfl | rfl | rfl
              · exact absurd rfl c40
              · exact c60
              · exact c60
              · exact c60
              · exact absurd rfl c25
            refine wp_bipush (-2) dX0_train_63 rfl rfl ?_
            exact wp_ireturn dX0_train_65 rfl ⟨by rw [qtrain, if_neg (fun q => by rw [hT] at q; exact absurd q.2 (by decide))], C, X, A, rfl, KC.rf C, OutX.rf X lo hi, by rw [wtrain, if_neg (fun q => by rw [hT] at q; exact absurd q.2 (by decide))]; exact hE⟩
        · refine wp_lconst 1 dX0_train_43 rfl rfl ?_
          refine wp_goto 48 dX0_train_44 rfl rfl ?_
          refine wp_iload_2 dX0_train_48 rfl ?_
          refine wp_csR dX0_train_49 rfl q1764 ms_X14_high c_high rfl rfl (Nat.le_of_ble_eq_true rfl) (Nat.le_of_ble_eq_true rfl) ?_
          refine wp_i2l dX0_train_52 rfl ?_
          refine wp_csR dX0_train_53 rfl q190 ms_X0_in c_in rfl rfl (Nat.le_of_ble_eq_true rfl) (Nat.le_of_ble_eq_true rfl) ?_
          refine wp_istore_4 dX0_train_56 rfl (by decide) rfl ?_
          refine wp_iload_4 dX0_train_58 rfl ?_
          refine wp_ifne_b 66 dX0_train_60 rfl rfl (fun c60 => ?_) (fun c60 => ?_)
          · have hT : inT W (nI w) z = true := by
              rcases (show w = 0 ∨ w = 1 ∨ w = 2 ∨ w = 3 ∨ w = 4 by omega) with rfl | rfl | rfl | rfl | rfl
              · exact c60
              · exact absurd c40 (by decide)
              · exact absurd c40 (by decide)
              · exact absurd c40 (by decide)
              · exact absurd rfl c25
            obtain ⟨m, rfl, hm⟩ := in4_inT hE.s hw hT
            refine wp_aload_0 dX0_train_66 rfl ?_
            refine wp_iload_1 dX0_train_67 rfl ?_
            refine wp_cvR dX0_train_68 rfl q1224 mv_X0_one hE.o0 rfl rfl (c_one hE hp) rfl rfl (Nat.le_of_ble_eq_true rfl) (Nat.le_of_ble_eq_true rfl) ?_
            refine wp_getfN dX0_train_71 rfl q1156 fk15_0 (hE.pla hp) rfl ?_
            refine wp_iload_2 dX0_train_74 rfl ?_
            refine wp_ialoadn w dX0_train_75 rfl (hE.pis hp) rfl (by omega) (by decide) ?_
            rw [(hE.B.pl p hp).2.2.2 w (by omega)]
            refine wp_istore_5 dX0_train_76 rfl (by decide) rfl ?_
            refine wp_aload_0 dX0_train_78 rfl ?_
            refine wp_iload_1 dX0_train_79 rfl ?_
            refine wp_cvR dX0_train_80 rfl q1224 mv_X0_one hE.o0 rfl rfl (c_one hE hp) rfl rfl (Nat.le_of_ble_eq_true rfl) (Nat.le_of_ble_eq_true rfl) ?_
            refine wp_getfN dX0_train_83 rfl q1156 fk15_0 (hE.pla hp) rfl ?_
            refine wp_iload_2 dX0_train_86 rfl ?_
            refine wp_iload_3 dX0_train_87 rfl ?_
            refine wp_iastoren w dX0_train_88 rfl (hE.pis hp) rfl (by omega) (by decide) (cH_dset (hE.B.dy.dyn (hE.B.pl p hp).2.2.1.2.1 (hE.B.pl p hp).2.2.1.2.2)) ?_
            refine wp_iload_5 dX0_train_89 rfl ?_
            exact wp_ireturn dX0_train_91 rfl ⟨by rw [qtrain, if_pos ⟨c5, hT⟩, nI_clamp (by omega), nI_clamp (by omega)], C, _, _, rfl, KC.rf C, OutX.set (hE.B.pl p hp).2.2.1.2.1 (hE.B.pl p hp).2.2.1.2.2, by rw [wtrain, if_pos ⟨c5, hT⟩, nI_clamp (by omega), nI_clamp (by omega)]; exact hE.train hp hm⟩
          · have hT : inT W (nI w) z = false := by
              rcases (show w = 0 ∨ w = 1 ∨ w = 2 ∨ w = 3 ∨ w = 4 by omega) with rfl | rfl | rfl | rfl | rfl
              · exact c60
              · exact absurd c40 (by decide)
              · exact absurd c40 (by decide)
              · exact absurd c40 (by decide)
              · exact absurd rfl c25
            refine wp_bipush (-2) dX0_train_63 rfl rfl ?_
            exact wp_ireturn dX0_train_65 rfl ⟨by rw [qtrain, if_neg (fun q => by rw [hT] at q; exact absurd q.2 (by decide))], C, X, A, rfl, KC.rf C, OutX.rf X lo hi, by rw [wtrain, if_neg (fun q => by rw [hT] at q; exact absurd q.2 (by decide))]; exact hE⟩
      · refine wp_aload_0 dX0_train_28 rfl ?_
        refine wp_iload_3 dX0_train_29 rfl ?_
        refine wp_i2l dX0_train_30 rfl ?_
        refine wp_cvR dX0_train_31 rfl q1325 mv_X0_isHole hE.o0 rfl rfl (c_isHole hE) rfl rfl (Nat.le_of_ble_eq_true rfl) (Nat.le_of_ble_eq_true rfl) ?_
        refine wp_goto 56 dX0_train_34 rfl rfl ?_
        refine wp_istore_4 dX0_train_56 rfl (by decide) rfl ?_
        refine wp_iload_4 dX0_train_58 rfl ?_
        refine wp_ifne_b 66 dX0_train_60 rfl rfl (fun c60 => ?_) (fun c60 => ?_)
        · have hT : inT W (nI w) z = true := by rw [inT, c25]; exact c60
          obtain ⟨m, rfl, hm⟩ := in4_inT hE.s hw hT
          refine wp_aload_0 dX0_train_66 rfl ?_
          refine wp_iload_1 dX0_train_67 rfl ?_
          refine wp_cvR dX0_train_68 rfl q1224 mv_X0_one hE.o0 rfl rfl (c_one hE hp) rfl rfl (Nat.le_of_ble_eq_true rfl) (Nat.le_of_ble_eq_true rfl) ?_
          refine wp_getfN dX0_train_71 rfl q1156 fk15_0 (hE.pla hp) rfl ?_
          refine wp_iload_2 dX0_train_74 rfl ?_
          refine wp_ialoadn w dX0_train_75 rfl (hE.pis hp) rfl (by omega) (by decide) ?_
          rw [(hE.B.pl p hp).2.2.2 w (by omega)]
          refine wp_istore_5 dX0_train_76 rfl (by decide) rfl ?_
          refine wp_aload_0 dX0_train_78 rfl ?_
          refine wp_iload_1 dX0_train_79 rfl ?_
          refine wp_cvR dX0_train_80 rfl q1224 mv_X0_one hE.o0 rfl rfl (c_one hE hp) rfl rfl (Nat.le_of_ble_eq_true rfl) (Nat.le_of_ble_eq_true rfl) ?_
          refine wp_getfN dX0_train_83 rfl q1156 fk15_0 (hE.pla hp) rfl ?_
          refine wp_iload_2 dX0_train_86 rfl ?_
          refine wp_iload_3 dX0_train_87 rfl ?_
          refine wp_iastoren w dX0_train_88 rfl (hE.pis hp) rfl (by omega) (by decide) (cH_dset (hE.B.dy.dyn (hE.B.pl p hp).2.2.1.2.1 (hE.B.pl p hp).2.2.1.2.2)) ?_
          refine wp_iload_5 dX0_train_89 rfl ?_
          exact wp_ireturn dX0_train_91 rfl ⟨by rw [qtrain, if_pos ⟨c5, hT⟩, nI_clamp (by omega), nI_clamp (by omega)], C, _, _, rfl, KC.rf C, OutX.set (hE.B.pl p hp).2.2.1.2.1 (hE.B.pl p hp).2.2.1.2.2, by rw [wtrain, if_pos ⟨c5, hT⟩, nI_clamp (by omega), nI_clamp (by omega)]; exact hE.train hp hm⟩
        · have hT : inT W (nI w) z = false := by rw [inT, c25]; exact c60
          refine wp_bipush (-2) dX0_train_63 rfl rfl ?_
          exact wp_ireturn dX0_train_65 rfl ⟨by rw [qtrain, if_neg (fun q => by rw [hT] at q; exact absurd q.2 (by decide))], C, X, A, rfl, KC.rf C, OutX.rf X lo hi, by rw [wtrain, if_neg (fun q => by rw [hT] at q; exact absurd q.2 (by decide))]; exact hE⟩
    · refine wp_bipush (-2) dX0_train_20 rfl rfl ?_
      exact wp_ireturn dX0_train_22 rfl ⟨by rw [qtrain, if_neg (fun q => inT_no c17 q.2)], C, X, A, rfl, KC.rf C, OutX.rf X lo hi, by rw [wtrain, if_neg (fun q => inT_no c17 q.2)]; exact hE⟩
