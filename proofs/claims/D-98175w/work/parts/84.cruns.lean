/-! ===== the class: runs ===== -/
set_option maxRecDepth 100000
theorem c_strikes4 {g : GW} {C : SC} {S : SM} {X : AH} {lo hi b : Nat} {A : BA} {W : Nat → Int32} (hE : EV C X lo hi b A W) {G : GA} (hG : GM 3 16 17 18 C X G) {P : RP} (hP : PC C A P) (hp : P.1.1 < nW W 6) (hk : P.1.2 < 1000) (hw : WG2 G) {t : RT} {i : Nat} {o : Int32} (hi : i < G.1) (hr : RC C t (i + 1)) (hs : tSt t < 120) : SP g 3 0 0 yX6_strikes cX6_strikes 7 (some .boolean) [.ref 24, .ref 15, .int (nI i), .int o] (cH C S X) (fun v h1 => v = some (.int (b2i (okR W G.2 P i o t))) ∧ ∃ C', h1 = cH C' S X ∧ RC C' (goR W G.2 P i o t) (i + 1) ∧ CR C C') := by
  refine SP.intro [some (.ref 24), some (.ref 15), some (.int (nI i)), some (.int o), none, none, none] (pfn (by decide)) rfl (Nat.le_of_ble_eq_true rfl) ?_
  have h60 := hG.2.1
  have h0 := WFp.w0 hE.s hE.p hp
  refine wp_aload_0 dX6_strikes_0 rfl ?_
  refine wp_getf dX6_strikes_1 rfl q602 fk6_10 (cg_24 hE.X) rfl ?_
  rw [hr.2.1]
  refine wp_aload_1 dX6_strikes_4 rfl ?_
  refine wp_aload_0 dX6_strikes_5 rfl ?_
  refine wp_getf dX6_strikes_6 rfl q593 fk6_5 (cg_24 hE.X) rfl ?_
  rw [hP.2.1]
  refine wp_aload_0 dX6_strikes_9 rfl ?_
  refine wp_getf dX6_strikes_10 rfl q595 fk6_6 (cg_24 hE.X) rfl ?_
  rw [hP.2.2.1]
  refine wp_iload_2 dX6_strikes_13 rfl ?_
  refine wp_SNxR dX6_strikes_14 rfl q1371 ms_X0_awareOf (c_awareOf4 (p := P.1.1) (z := P.2.2) hE.X hG hi hk) rfl rfl (Nat.le_of_ble_eq_true rfl) (Nat.le_of_ble_eq_true rfl) (Nat.zero_le _) (Nat.zero_le _) ?_
  rw [show awR G.2 ((P.1.1, P.1.2), P.2.1, P.2.2) i = awR G.2 P i from rfl]
  refine wp_csR dX6_strikes_17 rfl q1372 ms_J3_max j_max rfl rfl (Nat.le_of_ble_eq_true rfl) (Nat.le_of_ble_eq_true rfl) ?_
  rw [show mx32 (tFr t) (awR G.2 P i) = ouR G.2 P i t from rfl]
  refine wp_istore_4 dX6_strikes_20 rfl (by decide) rfl ?_
  refine wp_aload_0 dX6_strikes_22 rfl ?_
  refine wp_getf dX6_strikes_23 rfl q612 fk6_16 (cg_24 hE.X) rfl ?_
  refine wp_aload_0 dX6_strikes_26 rfl ?_
  refine wp_getf dX6_strikes_27 rfl q601 fk6_9 (cg_24 hE.X) rfl ?_
  rw [hr.1]
  refine wp_iload_3 dX6_strikes_30 rfl ?_
  refine wp_VNxR dX6_strikes_31 rfl q1366 mv_X0_stepsOf hE.o0 rfl rfl (c_stepsOf hE h0) rfl rfl (Nat.le_of_ble_eq_true rfl) (Nat.le_of_ble_eq_true rfl) (Nat.zero_le _) (Nat.zero_le _) ?_
  refine wp_istore_5 dX6_strikes_34 rfl (by decide) rfl ?_
  refine wp_iload_4 dX6_strikes_36 rfl ?_
  refine wp_iload_5 dX6_strikes_38 rfl ?_
  refine wp_aload_0 dX6_strikes_40 rfl ?_
  refine wp_getf dX6_strikes_41 rfl q592 fk6_4 (cg_24 hE.X) rfl ?_
  rw [hP.1]
  refine wp_iload_4 dX6_strikes_44 rfl ?_
  refine wp_cvR dX6_strikes_46 rfl q1373 mv_X14_pace (hE.pla hp) rfl rfl (c_ppace hE hp) rfl rfl (Nat.le_of_ble_eq_true rfl) (Nat.le_of_ble_eq_true rfl) ?_
  refine wp_imul dX6_strikes_49 rfl ?_
  refine wp_iadd dX6_strikes_50 rfl ?_
  refine wp_aload_1 dX6_strikes_51 rfl ?_
  refine wp_getf dX6_strikes_52 rfl q524 fk4_1 (cg_15 hE.X) rfl ?_
  refine wp_iload_2 dX6_strikes_55 rfl ?_
  refine wp_ialoadn i dX6_strikes_56 rfl (cg_17 hE.X) rfl (by omega) (by decide) ?_
  rw [hG.f hi]
  refine wp_csR dX6_strikes_57 rfl q1372 ms_J3_max j_max rfl rfl (Nat.le_of_ble_eq_true rfl) (Nat.le_of_ble_eq_true rfl) ?_
  rw [show mx32 (ouR G.2 P i t + stW W (tPl t) o * pcW W P.1.1 (ouR G.2 P i t)) (gF G.2 i) = (thR W G.2 P i o t) from rfl]
  refine wp_istore_6 dX6_strikes_60 rfl (by decide) rfl ?_
  refine wp_iload_6 dX6_strikes_62 rfl ?_
  refine wp_aload_1 dX6_strikes_64 rfl ?_
  refine wp_getf dX6_strikes_65 rfl q529 fk4_2 (cg_15 hE.X) rfl ?_
  refine wp_iload_2 dX6_strikes_68 rfl ?_
  refine wp_ialoadn i dX6_strikes_69 rfl (cg_18 hE.X) rfl (by omega) (by decide) ?_
  rw [hG.e hi]
  refine wp_icmp_le 75 dX6_strikes_70 rfl rfl (fun c70 => ?_) (fun c70 => ?_)
  · have hok : okR W G.2 P i o t = true := decide_eq_true c70
    refine wp_aload_0 dX6_strikes_75 rfl ?_
    refine wp_iload_3 dX6_strikes_76 rfl ?_
    refine wp_putf dX6_strikes_77 rfl q601 fp6_9 (cg_24 hE.X) rfl rfl (Nat.le_of_ble_eq_true rfl) cs_24_9 ?_
    refine wp_aload_0 dX6_strikes_80 rfl ?_
    refine wp_iload_6 dX6_strikes_81 rfl ?_
    refine wp_iconst 1 dX6_strikes_83 rfl rfl ?_
    refine wp_iadd dX6_strikes_84 rfl ?_
    refine wp_putf dX6_strikes_85 rfl q602 fp6_10 (cg_24 hE.X) rfl rfl (Nat.le_of_ble_eq_true rfl) cs_24_10 ?_
    refine wp_aload_0 dX6_strikes_88 rfl ?_
    refine wp_dup dX6_strikes_89 rfl rfl ?_
    refine wp_getf dX6_strikes_90 rfl q608 fk6_14 (cg_24 hE.X) rfl ?_
    rw [show (cF 11 ((thR W G.2 P i o t) + 1) (cF 10 o C)).1 15 = C.1 15 from rfl]
    refine wp_iload_5 dX6_strikes_93 rfl ?_
    refine wp_iadd dX6_strikes_95 rfl ?_
    refine wp_putf dX6_strikes_96 rfl q608 fp6_14 (cg_24 hE.X) rfl rfl (Nat.le_of_ble_eq_true rfl) cs_24_14 ?_
    refine wp_aload_0 dX6_strikes_99 rfl ?_
    refine wp_getf dX6_strikes_100 rfl q584 fk6_0 (cg_24 hE.X) rfl ?_
    refine wp_iload_2 dX6_strikes_103 rfl ?_
    refine wp_dup2 dX6_strikes_104 rfl rfl rfl ?_
    refine wp_ialoadn i dX6_strikes_105 rfl (cg_25 hE.X) rfl (by omega) (by decide) ?_
    rw [show (cF 15 (C.1 15 + stW W (tPl t) o) (cF 11 ((thR W G.2 P i o t) + 1) (cF 10 o C))).2.1 25 i = C.2.1 25 i from rfl]
    refine wp_iconst 1 dX6_strikes_106 rfl rfl ?_
    refine wp_iadd dX6_strikes_107 rfl ?_
    refine wp_iastoren i dX6_strikes_108 rfl (cg_25 hE.X) rfl (by omega) (by decide) cs_25 ?_
    refine wp_aload_0 dX6_strikes_109 rfl ?_
    refine wp_getf dX6_strikes_110 rfl q586 fk6_1 (cg_24 hE.X) rfl ?_
    refine wp_iload_2 dX6_strikes_113 rfl ?_
    refine wp_iload_6 dX6_strikes_114 rfl ?_
    refine wp_iastoren i dX6_strikes_116 rfl (cg_26 hE.X) rfl (by omega) (by decide) cs_26 ?_
    refine wp_aload_0 dX6_strikes_117 rfl ?_
    refine wp_getf dX6_strikes_118 rfl q588 fk6_2 (cg_24 hE.X) rfl ?_
    refine wp_aload_0 dX6_strikes_121 rfl ?_
    refine wp_getf dX6_strikes_122 rfl q606 fk6_13 (cg_24 hE.X) rfl ?_
    refine wp_iload_3 dX6_strikes_125 rfl ?_
    refine wp_iastoren (tSt t) dX6_strikes_126 rfl (cg_27 hE.X) hr.2.2.1 (by omega) (by decide) cs_27 ?_
    refine wp_aload_0 dX6_strikes_127 rfl ?_
    refine wp_getf dX6_strikes_128 rfl q590 fk6_3 (cg_24 hE.X) rfl ?_
    refine wp_aload_0 dX6_strikes_131 rfl ?_
    refine wp_getf dX6_strikes_132 rfl q606 fk6_13 (cg_24 hE.X) rfl ?_
    refine wp_iload_6 dX6_strikes_135 rfl ?_
    refine wp_iastoren (tSt t) dX6_strikes_137 rfl (cg_28 hE.X) hr.2.2.1 (by omega) (by decide) cs_28 ?_
    refine wp_aload_0 dX6_strikes_138 rfl ?_
    refine wp_dup dX6_strikes_139 rfl rfl ?_
    refine wp_getf dX6_strikes_140 rfl q606 fk6_13 (cg_24 hE.X) rfl ?_
    rw [show (cA 28 (tSt t) (thR W G.2 P i o t) (cA 27 (tSt t) o (cA 26 i (thR W G.2 P i o t) (cA 25 i (C.2.1 25 i + 1) (cF 15 (C.1 15 + stW W (tPl t) o) (cF 11 ((thR W G.2 P i o t) + 1) (cF 10 o C))))))).1 14 = C.1 14 from rfl]
    refine wp_iconst 1 dX6_strikes_143 rfl rfl ?_
    refine wp_iadd dX6_strikes_144 rfl ?_
    refine wp_putf dX6_strikes_145 rfl q606 fp6_13 (cg_24 hE.X) rfl rfl (Nat.le_of_ble_eq_true rfl) cs_24_13 ?_
    refine wp_aload_1 dX6_strikes_148 rfl ?_
    refine wp_iload_2 dX6_strikes_149 rfl ?_
    obtain ⟨⟨m, hm, hmd, hmx⟩, -⟩ := hG.2.2 i hi
    refine wp_UxR dX6_strikes_150 rfl q1363 mu_X3_mole_X4 (cg_15 hE.X) rfl rfl (c_gmole4 hE.X (by omega) hm) rfl rfl (Nat.le_of_ble_eq_true rfl) (Nat.le_of_ble_eq_true rfl) (Nat.zero_le _) (Nat.zero_le _) ?_
    refine wp_getfN dX6_strikes_153 rfl q1063 fk14_2 ((cH_dyn hmd).trans hmx) rfl ?_
    refine wp_if_eq 172 dX6_strikes_156 rfl rfl (fun c156 => ?_) (fun c156 => ?_)
    · refine wp_aload_0 dX6_strikes_172 rfl ?_
      refine wp_dup dX6_strikes_173 rfl rfl ?_
      refine wp_getf dX6_strikes_174 rfl q603 fk6_11 (cg_24 hE.X) rfl ?_
      refine wp_iconst 1 dX6_strikes_177 rfl rfl ?_
      refine wp_iadd dX6_strikes_178 rfl ?_
      refine wp_putf dX6_strikes_179 rfl q603 fp6_11 (cg_24 hE.X) rfl rfl (Nat.le_of_ble_eq_true rfl) cs_24_11 ?_
      refine wp_iconst 1 dX6_strikes_182 rfl rfl ?_
      exact wp_zreturn dX6_strikes_183 rfl rfl ⟨by rw [hok]; rfl, _, rfl, goC_RC hr hok (by show C.1 13 = _; rw [hr.2.2.2.1, c156, Int32.add_zero]) (by rw [c156]; exact hit_n _ _ hr.2.2.2.2.2.1) rfl rfl (fun k a b => pk_un a) rfl, CK.F (goC_CR i (tSt t) o _ _ C) _ (by decide)⟩
    · refine wp_aload_0 dX6_strikes_159 rfl ?_
      refine wp_dup dX6_strikes_160 rfl rfl ?_
      refine wp_getf dX6_strikes_161 rfl q605 fk6_12 (cg_24 hE.X) rfl ?_
      refine wp_iconst 1 dX6_strikes_164 rfl rfl ?_
      refine wp_iadd dX6_strikes_165 rfl ?_
      refine wp_putf dX6_strikes_166 rfl q605 fp6_12 (cg_24 hE.X) rfl rfl (Nat.le_of_ble_eq_true rfl) cs_24_12 ?_
      refine wp_goto 182 dX6_strikes_169 rfl rfl ?_
      refine wp_iconst 1 dX6_strikes_182 rfl rfl ?_
      exact wp_zreturn dX6_strikes_183 rfl rfl ⟨by rw [hok]; rfl, _, rfl, goC_RC hr hok (by show C.1 13 + 1 = _; rw [hr.2.2.2.1, (hw.1 i hi).resolve_left c156]) (by rw [(hw.1 i hi).resolve_left c156]; exact hit_r _ _ hr.2.2.2.2.2.1) rfl rfl (fun k a b => pk_un b) rfl, CK.F (goC_CR i (tSt t) o _ _ C) _ (by decide)⟩
  · have hok : okR W G.2 P i o t = false := decide_eq_false c70
    refine wp_iconst 0 dX6_strikes_73 rfl rfl ?_
    exact wp_zreturn dX6_strikes_74 rfl rfl ⟨by rw [hok]; rfl, C, rfl, by rw [goR, if_neg (by rw [hok]; decide)]; exact hr, CR.rf C⟩
theorem c_strikes5 {g : GW} {C : SC} {S : SM} {X : AH} {lo hi b : Nat} {A : BA} {W : Nat → Int32} (hE : EV C X lo hi b A W) {G : GA} (hG : GM 4 20 21 22 C X G) {P : RP} (hP : PC C A P) (hp : P.1.1 < nW W 6) (hk : P.1.2 < 1000) (hw : WG2 G) {t : RT} {i : Nat} {o : Int32} (hi : i < G.1) (hr : RC C t (i + 1)) (hs : tSt t < 120) : SP g 3 0 0 yX6_strikes cX6_strikes 7 (some .boolean) [.ref 24, .ref 19, .int (nI i), .int o] (cH C S X) (fun v h1 => v = some (.int (b2i (okR W G.2 P i o t))) ∧ ∃ C', h1 = cH C' S X ∧ RC C' (goR W G.2 P i o t) (i + 1) ∧ CR C C') := by
  refine SP.intro [some (.ref 24), some (.ref 19), some (.int (nI i)), some (.int o), none, none, none] (pfn (by decide)) rfl (Nat.le_of_ble_eq_true rfl) ?_
  have h60 := hG.2.1
  have h0 := WFp.w0 hE.s hE.p hp
  refine wp_aload_0 dX6_strikes_0 rfl ?_
  refine wp_getf dX6_strikes_1 rfl q602 fk6_10 (cg_24 hE.X) rfl ?_
  rw [hr.2.1]
  refine wp_aload_1 dX6_strikes_4 rfl ?_
  refine wp_aload_0 dX6_strikes_5 rfl ?_
  refine wp_getf dX6_strikes_6 rfl q593 fk6_5 (cg_24 hE.X) rfl ?_
  rw [hP.2.1]
  refine wp_aload_0 dX6_strikes_9 rfl ?_
  refine wp_getf dX6_strikes_10 rfl q595 fk6_6 (cg_24 hE.X) rfl ?_
  rw [hP.2.2.1]
  refine wp_iload_2 dX6_strikes_13 rfl ?_
  refine wp_SNxR dX6_strikes_14 rfl q1371 ms_X0_awareOf (c_awareOf5 (p := P.1.1) (z := P.2.2) hE.X hG hi hk) rfl rfl (Nat.le_of_ble_eq_true rfl) (Nat.le_of_ble_eq_true rfl) (Nat.zero_le _) (Nat.zero_le _) ?_
  rw [show awR G.2 ((P.1.1, P.1.2), P.2.1, P.2.2) i = awR G.2 P i from rfl]
  refine wp_csR dX6_strikes_17 rfl q1372 ms_J3_max j_max rfl rfl (Nat.le_of_ble_eq_true rfl) (Nat.le_of_ble_eq_true rfl) ?_
  rw [show mx32 (tFr t) (awR G.2 P i) = ouR G.2 P i t from rfl]
  refine wp_istore_4 dX6_strikes_20 rfl (by decide) rfl ?_
  refine wp_aload_0 dX6_strikes_22 rfl ?_
  refine wp_getf dX6_strikes_23 rfl q612 fk6_16 (cg_24 hE.X) rfl ?_
  refine wp_aload_0 dX6_strikes_26 rfl ?_
  refine wp_getf dX6_strikes_27 rfl q601 fk6_9 (cg_24 hE.X) rfl ?_
  rw [hr.1]
  refine wp_iload_3 dX6_strikes_30 rfl ?_
  refine wp_VNxR dX6_strikes_31 rfl q1366 mv_X0_stepsOf hE.o0 rfl rfl (c_stepsOf hE h0) rfl rfl (Nat.le_of_ble_eq_true rfl) (Nat.le_of_ble_eq_true rfl) (Nat.zero_le _) (Nat.zero_le _) ?_
  refine wp_istore_5 dX6_strikes_34 rfl (by decide) rfl ?_
  refine wp_iload_4 dX6_strikes_36 rfl ?_
  refine wp_iload_5 dX6_strikes_38 rfl ?_
  refine wp_aload_0 dX6_strikes_40 rfl ?_
  refine wp_getf dX6_strikes_41 rfl q592 fk6_4 (cg_24 hE.X) rfl ?_
  rw [hP.1]
  refine wp_iload_4 dX6_strikes_44 rfl ?_
  refine wp_cvR dX6_strikes_46 rfl q1373 mv_X14_pace (hE.pla hp) rfl rfl (c_ppace hE hp) rfl rfl (Nat.le_of_ble_eq_true rfl) (Nat.le_of_ble_eq_true rfl) ?_
  refine wp_imul dX6_strikes_49 rfl ?_
  refine wp_iadd dX6_strikes_50 rfl ?_
  refine wp_aload_1 dX6_strikes_51 rfl ?_
  refine wp_getf dX6_strikes_52 rfl q524 fk5_1 (cg_19 hE.X) rfl ?_
  refine wp_iload_2 dX6_strikes_55 rfl ?_
  refine wp_ialoadn i dX6_strikes_56 rfl (cg_21 hE.X) rfl (by omega) (by decide) ?_
  rw [hG.f hi]
  refine wp_csR dX6_strikes_57 rfl q1372 ms_J3_max j_max rfl rfl (Nat.le_of_ble_eq_true rfl) (Nat.le_of_ble_eq_true rfl) ?_
  rw [show mx32 (ouR G.2 P i t + stW W (tPl t) o * pcW W P.1.1 (ouR G.2 P i t)) (gF G.2 i) = (thR W G.2 P i o t) from rfl]
  refine wp_istore_6 dX6_strikes_60 rfl (by decide) rfl ?_
  refine wp_iload_6 dX6_strikes_62 rfl ?_
  refine wp_aload_1 dX6_strikes_64 rfl ?_
  refine wp_getf dX6_strikes_65 rfl q529 fk5_2 (cg_19 hE.X) rfl ?_
  refine wp_iload_2 dX6_strikes_68 rfl ?_
  refine wp_ialoadn i dX6_strikes_69 rfl (cg_22 hE.X) rfl (by omega) (by decide) ?_
  rw [hG.e hi]
  refine wp_icmp_le 75 dX6_strikes_70 rfl rfl (fun c70 => ?_) (fun c70 => ?_)
  · have hok : okR W G.2 P i o t = true := decide_eq_true c70
    refine wp_aload_0 dX6_strikes_75 rfl ?_
    refine wp_iload_3 dX6_strikes_76 rfl ?_
    refine wp_putf dX6_strikes_77 rfl q601 fp6_9 (cg_24 hE.X) rfl rfl (Nat.le_of_ble_eq_true rfl) cs_24_9 ?_
    refine wp_aload_0 dX6_strikes_80 rfl ?_
    refine wp_iload_6 dX6_strikes_81 rfl ?_
    refine wp_iconst 1 dX6_strikes_83 rfl rfl ?_
    refine wp_iadd dX6_strikes_84 rfl ?_
    refine wp_putf dX6_strikes_85 rfl q602 fp6_10 (cg_24 hE.X) rfl rfl (Nat.le_of_ble_eq_true rfl) cs_24_10 ?_
    refine wp_aload_0 dX6_strikes_88 rfl ?_
    refine wp_dup dX6_strikes_89 rfl rfl ?_
    refine wp_getf dX6_strikes_90 rfl q608 fk6_14 (cg_24 hE.X) rfl ?_
    rw [show (cF 11 ((thR W G.2 P i o t) + 1) (cF 10 o C)).1 15 = C.1 15 from rfl]
    refine wp_iload_5 dX6_strikes_93 rfl ?_
    refine wp_iadd dX6_strikes_95 rfl ?_
    refine wp_putf dX6_strikes_96 rfl q608 fp6_14 (cg_24 hE.X) rfl rfl (Nat.le_of_ble_eq_true rfl) cs_24_14 ?_
    refine wp_aload_0 dX6_strikes_99 rfl ?_
    refine wp_getf dX6_strikes_100 rfl q584 fk6_0 (cg_24 hE.X) rfl ?_
    refine wp_iload_2 dX6_strikes_103 rfl ?_
    refine wp_dup2 dX6_strikes_104 rfl rfl rfl ?_
    refine wp_ialoadn i dX6_strikes_105 rfl (cg_25 hE.X) rfl (by omega) (by decide) ?_
    rw [show (cF 15 (C.1 15 + stW W (tPl t) o) (cF 11 ((thR W G.2 P i o t) + 1) (cF 10 o C))).2.1 25 i = C.2.1 25 i from rfl]
    refine wp_iconst 1 dX6_strikes_106 rfl rfl ?_
    refine wp_iadd dX6_strikes_107 rfl ?_
    refine wp_iastoren i dX6_strikes_108 rfl (cg_25 hE.X) rfl (by omega) (by decide) cs_25 ?_
    refine wp_aload_0 dX6_strikes_109 rfl ?_
    refine wp_getf dX6_strikes_110 rfl q586 fk6_1 (cg_24 hE.X) rfl ?_
    refine wp_iload_2 dX6_strikes_113 rfl ?_
    refine wp_iload_6 dX6_strikes_114 rfl ?_
    refine wp_iastoren i dX6_strikes_116 rfl (cg_26 hE.X) rfl (by omega) (by decide) cs_26 ?_
    refine wp_aload_0 dX6_strikes_117 rfl ?_
    refine wp_getf dX6_strikes_118 rfl q588 fk6_2 (cg_24 hE.X) rfl ?_
    refine wp_aload_0 dX6_strikes_121 rfl ?_
    refine wp_getf dX6_strikes_122 rfl q606 fk6_13 (cg_24 hE.X) rfl ?_
    refine wp_iload_3 dX6_strikes_125 rfl ?_
    refine wp_iastoren (tSt t) dX6_strikes_126 rfl (cg_27 hE.X) hr.2.2.1 (by omega) (by decide) cs_27 ?_
    refine wp_aload_0 dX6_strikes_127 rfl ?_
    refine wp_getf dX6_strikes_128 rfl q590 fk6_3 (cg_24 hE.X) rfl ?_
    refine wp_aload_0 dX6_strikes_131 rfl ?_
    refine wp_getf dX6_strikes_132 rfl q606 fk6_13 (cg_24 hE.X) rfl ?_
    refine wp_iload_6 dX6_strikes_135 rfl ?_
    refine wp_iastoren (tSt t) dX6_strikes_137 rfl (cg_28 hE.X) hr.2.2.1 (by omega) (by decide) cs_28 ?_
    refine wp_aload_0 dX6_strikes_138 rfl ?_
    refine wp_dup dX6_strikes_139 rfl rfl ?_
    refine wp_getf dX6_strikes_140 rfl q606 fk6_13 (cg_24 hE.X) rfl ?_
    rw [show (cA 28 (tSt t) (thR W G.2 P i o t) (cA 27 (tSt t) o (cA 26 i (thR W G.2 P i o t) (cA 25 i (C.2.1 25 i + 1) (cF 15 (C.1 15 + stW W (tPl t) o) (cF 11 ((thR W G.2 P i o t) + 1) (cF 10 o C))))))).1 14 = C.1 14 from rfl]
    refine wp_iconst 1 dX6_strikes_143 rfl rfl ?_
    refine wp_iadd dX6_strikes_144 rfl ?_
    refine wp_putf dX6_strikes_145 rfl q606 fp6_13 (cg_24 hE.X) rfl rfl (Nat.le_of_ble_eq_true rfl) cs_24_13 ?_
    refine wp_aload_1 dX6_strikes_148 rfl ?_
    refine wp_iload_2 dX6_strikes_149 rfl ?_
    obtain ⟨⟨m, hm, hmd, hmx⟩, -⟩ := hG.2.2 i hi
    refine wp_UxR dX6_strikes_150 rfl q1363 mu_X3_mole_X5 (cg_19 hE.X) rfl rfl (c_gmole5 hE.X (by omega) hm) rfl rfl (Nat.le_of_ble_eq_true rfl) (Nat.le_of_ble_eq_true rfl) (Nat.zero_le _) (Nat.zero_le _) ?_
    refine wp_getfN dX6_strikes_153 rfl q1063 fk14_2 ((cH_dyn hmd).trans hmx) rfl ?_
    refine wp_if_eq 172 dX6_strikes_156 rfl rfl (fun c156 => ?_) (fun c156 => ?_)
    · refine wp_aload_0 dX6_strikes_172 rfl ?_
      refine wp_dup dX6_strikes_173 rfl rfl ?_
      refine wp_getf dX6_strikes_174 rfl q603 fk6_11 (cg_24 hE.X) rfl ?_
      refine wp_iconst 1 dX6_strikes_177 rfl rfl ?_
      refine wp_iadd dX6_strikes_178 rfl ?_
      refine wp_putf dX6_strikes_179 rfl q603 fp6_11 (cg_24 hE.X) rfl rfl (Nat.le_of_ble_eq_true rfl) cs_24_11 ?_
      refine wp_iconst 1 dX6_strikes_182 rfl rfl ?_
      exact wp_zreturn dX6_strikes_183 rfl rfl ⟨by rw [hok]; rfl, _, rfl, goC_RC hr hok (by show C.1 13 = _; rw [hr.2.2.2.1, c156, Int32.add_zero]) (by rw [c156]; exact hit_n _ _ hr.2.2.2.2.2.1) rfl rfl (fun k a b => pk_un a) rfl, CK.F (goC_CR i (tSt t) o _ _ C) _ (by decide)⟩
    · refine wp_aload_0 dX6_strikes_159 rfl ?_
      refine wp_dup dX6_strikes_160 rfl rfl ?_
      refine wp_getf dX6_strikes_161 rfl q605 fk6_12 (cg_24 hE.X) rfl ?_
      refine wp_iconst 1 dX6_strikes_164 rfl rfl ?_
      refine wp_iadd dX6_strikes_165 rfl ?_
      refine wp_putf dX6_strikes_166 rfl q605 fp6_12 (cg_24 hE.X) rfl rfl (Nat.le_of_ble_eq_true rfl) cs_24_12 ?_
      refine wp_goto 182 dX6_strikes_169 rfl rfl ?_
      refine wp_iconst 1 dX6_strikes_182 rfl rfl ?_
      exact wp_zreturn dX6_strikes_183 rfl rfl ⟨by rw [hok]; rfl, _, rfl, goC_RC hr hok (by show C.1 13 + 1 = _; rw [hr.2.2.2.1, (hw.1 i hi).resolve_left c156]) (by rw [(hw.1 i hi).resolve_left c156]; exact hit_r _ _ hr.2.2.2.2.2.1) rfl rfl (fun k a b => pk_un b) rfl, CK.F (goC_CR i (tSt t) o _ _ C) _ (by decide)⟩
  · have hok : okR W G.2 P i o t = false := decide_eq_false c70
    refine wp_iconst 0 dX6_strikes_73 rfl rfl ?_
    exact wp_zreturn dX6_strikes_74 rfl rfl ⟨by rw [hok]; rfl, C, rfl, by rw [goR, if_neg (by rw [hok]; decide)]; exact hr, CR.rf C⟩
theorem cL_goes4 {g : GW} {S : SM} {X : AH} {lo hi b : Nat} {A : BA} {W : Nat → Int32} {C0 : SC} {G : GA} {P : RP} (hp : P.1.1 < nW W 6) (hk : P.1.2 < 1000) (hw : WG2 G) (h0 : ¬ W 0 = 0) (h60 : G.1 ≤ 60) {c n : Nat} {Q : Option Value → AH → Prop} : ∀ (k : Nat) (C : SC) (i : Nat) (t : RT) (v3 v4 v5 v6 : Option Value), i + k = G.1 → EV C X lo hi b A W → GM 3 16 17 18 C X G → PC C A P → CR C0 C → RC C t i → tSt t ≤ 2 * i → (∀ C', RC C' (itr (ruF W G.2 P) k i t) G.1 → CR C0 C' → Q (some (.ref 24)) (cH C' S X)) → WP g 6 yX6_goes cX6_goes 7 (some (.object "MoleBoard$Run")) 35 [some (.ref 24), some (.ref 15), some (.int (nI i)), v3, v4, v5, v6] [] (cH C S X) c n Q := by
  intro k
  induction k with
  | zero =>
    intro C i t v3 v4 v5 v6 hi0 hE hG hP hcr hr hs hq
    refine wp_iload_2 dX6_goes_35 rfl ?_
    refine wp_aload_1 dX6_goes_36 rfl ?_
    refine wp_getf dX6_goes_37 rfl q538 fk4_3 (cg_15 hE.X) rfl ?_
    rw [hG.1]
    refine wp_icmp_ge_k 244 dX6_goes_40 rfl rfl (by omega) (by omega) (fun c40 => ?_) (fun c40 => ?_)
    · refine wp_aload_0 dX6_goes_244 rfl ?_
      exact wp_areturn_r dX6_goes_245 rfl (Or.inl ⟨_, rfl⟩) (hq C (by rw [show G.1 = i by omega]; exact hr) hcr)
    · exact absurd c40 (by omega)
  | succ k ih =>
    intro C i t v3 v4 v5 v6 hi0 hE hG hP hcr hr hs hq
    refine wp_iload_2 dX6_goes_35 rfl ?_
    refine wp_aload_1 dX6_goes_36 rfl ?_
    refine wp_getf dX6_goes_37 rfl q538 fk4_3 (cg_15 hE.X) rfl ?_
    rw [hG.1]
    refine wp_icmp_ge_k 244 dX6_goes_40 rfl rfl (by omega) (by omega) (fun c40 => ?_) (fun c40 => ?_)
    · exact absurd c40 (by omega)
    · refine wp_aload_0 dX6_goes_43 rfl ?_
      refine wp_getf dX6_goes_44 rfl q584 fk6_0 (cg_24 hE.X) rfl ?_
      refine wp_iload_2 dX6_goes_47 rfl ?_
      refine wp_iconst 0 dX6_goes_48 rfl rfl ?_
      refine wp_iastoren i dX6_goes_49 rfl (cg_25 hE.X) rfl (by omega) (by decide) cs_25 ?_
      refine wp_aload_0 dX6_goes_50 rfl ?_
      refine wp_getf dX6_goes_51 rfl q586 fk6_1 (cg_24 hE.X) rfl ?_
      refine wp_iload_2 dX6_goes_54 rfl ?_
      refine wp_iconst (-1) dX6_goes_55 rfl rfl ?_
      refine wp_iastoren i dX6_goes_56 rfl (cg_26 hE.X) rfl (by omega) (by decide) cs_26 ?_
      have hi : i < G.1 := by omega
      have k1 := hcr.tr (rsC_CR i C)
      have hr1 := rsC_RC hr
      have hE1 := (rsC_CR i C).ev hE
      have hG1 := (rsC_CR i C).g4 hG
      have hP1 := (rsC_CR i C).pc hP
      have hs1 : tSt (rsR i t) ≤ 2 * i := hs
      obtain ⟨⟨m, hm, hmd, hmx⟩, -⟩ := hG1.2.2 i hi
      change WP g 6 _ _ _ _ _ _ _ (cH (rsC i C) S X) _ _ Q
      generalize rsC i C = C1 at *
      refine wp_aload_1 dX6_goes_57 rfl ?_
      refine wp_iload_2 dX6_goes_58 rfl ?_
      refine wp_UxR dX6_goes_59 rfl q1363 mu_X3_mole_X4 (cg_15 hE.X) rfl rfl (c_gmole4 hE1.X (by omega) hm) rfl rfl (Nat.le_of_ble_eq_true rfl) (Nat.le_of_ble_eq_true rfl) (Nat.zero_le _) (Nat.zero_le _) ?_
      refine wp_astore_3 dX6_goes_62 rfl (by decide) rfl ?_
      refine wp_aload_3 dX6_goes_63 rfl ?_
      refine wp_getfN dX6_goes_64 rfl q1063 fk14_2 ((cH_dyn hmd).trans hmx) rfl ?_
      refine wp_if_eq 80 dX6_goes_67 rfl rfl (fun c67 => ?_) (fun c67 => ?_)
      · refine wp_aload_0 dX6_goes_80 rfl ?_
        refine wp_getf dX6_goes_81 rfl q599 fk6_8 (cg_24 hE.X) rfl ?_
        refine wp_aload_3 dX6_goes_84 rfl ?_
        refine wp_getfN dX6_goes_85 rfl q1054 fk14_0 ((cH_dyn hmd).trans hmx) rfl ?_
        refine wp_SNxR dX6_goes_88 rfl q1364 ms_X0_isOn c_isOn rfl rfl (Nat.le_of_ble_eq_true rfl) (Nat.le_of_ble_eq_true rfl) (Nat.zero_le _) (Nat.zero_le _) ?_
        cases h1 : onB (C1.1 9) (gH G.2 i) with
        | false =>
          refine wp_istore_4 dX6_goes_91 rfl (by decide) rfl ?_
          refine wp_aload_3 dX6_goes_93 rfl ?_
          refine wp_cvR dX6_goes_94 rfl q1365 mv_X13_isTwin ((cH_dyn hmd).trans hmx) rfl rfl (c_isTwin ((cH_dyn hmd).trans hmx)) rfl rfl (Nat.le_of_ble_eq_true rfl) (Nat.le_of_ble_eq_true rfl) ?_
          refine wp_ifeq_b 118 dX6_goes_97 rfl rfl (fun c97 => ?_) (fun c97 => ?_)
          · refine wp_iconst 0 dX6_goes_118 rfl rfl ?_
            refine wp_istore_5 dX6_goes_119 rfl (by decide) rfl ?_
            refine wp_iload_5 dX6_goes_121 rfl ?_
            refine wp_if_eq 171 dX6_goes_123 rfl rfl (fun c123 => ?_) (fun c123 => ?_)
            · refine wp_aload_3 dX6_goes_171 rfl ?_
              refine wp_getfN dX6_goes_172 rfl q1054 fk14_0 ((cH_dyn hmd).trans hmx) rfl ?_
              refine wp_istore_6 dX6_goes_175 rfl (by decide) rfl ?_
              refine wp_iload_4 dX6_goes_177 rfl ?_
              refine wp_if_ne 187 dX6_goes_179 rfl rfl (fun c179 => ?_) (fun c179 => ?_)
              · exact absurd (by decide) c179
              · refine wp_iload_5 dX6_goes_182 rfl ?_
                refine wp_if_eq 238 dX6_goes_184 rfl rfl (fun c184 => ?_) (fun c184 => ?_)
                · refine wp_iinc_2 1 dX6_goes_238 rfl rfl (by decide) rfl ?_
                  refine wp_goto 35 dX6_goes_241 rfl rfl ?_
                  have e8 : ruF W G.2 P i t = gfR W G.2 P i (rsR i t) := by
                    unfold ruF
                    rw [if_pos (Or.inl c67)]
                  have hH : hisR P (gH G.2 i) = false := by
                    rw [hisR, decide_eq_false (hw.2 i hi).1, Bool.not_false, Bool.true_and, ← hP1.2.2.2.2.1]
                    exact h1
                  have hO : hisR P (gO G.2 i) = false := by
                    rw [hisR, c97, Bool.false_and]
                  have e9 : ruF W G.2 P i t = (rsR i t) := by
                    rw [e8, gfR, hH, hO]; rfl
                  exact WP.cast (by rw [nI_1]) (ih C1 (i + 1) (ruF W G.2 P i t) _ _ _ _ (by omega) hE1 hG1 hP1 k1 (by rw [e9]; exact hr1) (ruF_st W G.2 P i t hs) hq)
                · exact absurd (by decide) c184
            · exact absurd (by decide) c123
          · refine wp_aload_0 dX6_goes_100 rfl ?_
            refine wp_getf dX6_goes_101 rfl q599 fk6_8 (cg_24 hE.X) rfl ?_
            refine wp_aload_3 dX6_goes_104 rfl ?_
            refine wp_getfN dX6_goes_105 rfl q1059 fk14_1 ((cH_dyn hmd).trans hmx) rfl ?_
            refine wp_SNxR dX6_goes_108 rfl q1364 ms_X0_isOn c_isOn rfl rfl (Nat.le_of_ble_eq_true rfl) (Nat.le_of_ble_eq_true rfl) (Nat.zero_le _) (Nat.zero_le _) ?_
            refine wp_ifeq_b 118 dX6_goes_111 rfl rfl (fun c111 => ?_) (fun c111 => ?_)
            · refine wp_iconst 0 dX6_goes_118 rfl rfl ?_
              refine wp_istore_5 dX6_goes_119 rfl (by decide) rfl ?_
              refine wp_iload_5 dX6_goes_121 rfl ?_
              refine wp_if_eq 171 dX6_goes_123 rfl rfl (fun c123 => ?_) (fun c123 => ?_)
              · refine wp_aload_3 dX6_goes_171 rfl ?_
                refine wp_getfN dX6_goes_172 rfl q1054 fk14_0 ((cH_dyn hmd).trans hmx) rfl ?_
                refine wp_istore_6 dX6_goes_175 rfl (by decide) rfl ?_
                refine wp_iload_4 dX6_goes_177 rfl ?_
                refine wp_if_ne 187 dX6_goes_179 rfl rfl (fun c179 => ?_) (fun c179 => ?_)
                · exact absurd (by decide) c179
                · refine wp_iload_5 dX6_goes_182 rfl ?_
                  refine wp_if_eq 238 dX6_goes_184 rfl rfl (fun c184 => ?_) (fun c184 => ?_)
                  · refine wp_iinc_2 1 dX6_goes_238 rfl rfl (by decide) rfl ?_
                    refine wp_goto 35 dX6_goes_241 rfl rfl ?_
                    have e8 : ruF W G.2 P i t = gfR W G.2 P i (rsR i t) := by
                      unfold ruF
                      rw [if_pos (Or.inl c67)]
                    have hH : hisR P (gH G.2 i) = false := by
                      rw [hisR, decide_eq_false (hw.2 i hi).1, Bool.not_false, Bool.true_and, ← hP1.2.2.2.2.1]
                      exact h1
                    have hO : hisR P (gO G.2 i) = false := by
                      rw [hisR, c97, Bool.true_and, ← hP1.2.2.2.2.1]
                      exact c111
                    have e9 : ruF W G.2 P i t = (rsR i t) := by
                      rw [e8, gfR, hH, hO]; rfl
                    exact WP.cast (by rw [nI_1]) (ih C1 (i + 1) (ruF W G.2 P i t) _ _ _ _ (by omega) hE1 hG1 hP1 k1 (by rw [e9]; exact hr1) (ruF_st W G.2 P i t hs) hq)
                  · exact absurd (by decide) c184
              · exact absurd (by decide) c123
            · refine wp_iconst 1 dX6_goes_114 rfl rfl ?_
              refine wp_goto 119 dX6_goes_115 rfl rfl ?_
              refine wp_istore_5 dX6_goes_119 rfl (by decide) rfl ?_
              refine wp_iload_5 dX6_goes_121 rfl ?_
              refine wp_if_eq 171 dX6_goes_123 rfl rfl (fun c123 => ?_) (fun c123 => ?_)
              · exact absurd c123 (by decide)
              · refine wp_iload_4 dX6_goes_126 rfl ?_
                refine wp_if_eq 164 dX6_goes_128 rfl rfl (fun c128 => ?_) (fun c128 => ?_)
                · refine wp_aload_3 dX6_goes_164 rfl ?_
                  refine wp_getfN dX6_goes_165 rfl q1059 fk14_1 ((cH_dyn hmd).trans hmx) rfl ?_
                  refine wp_goto 175 dX6_goes_168 rfl rfl ?_
                  refine wp_istore_6 dX6_goes_175 rfl (by decide) rfl ?_
                  refine wp_iload_4 dX6_goes_177 rfl ?_
                  refine wp_if_ne 187 dX6_goes_179 rfl rfl (fun c179 => ?_) (fun c179 => ?_)
                  · exact absurd (by decide) c179
                  · refine wp_iload_5 dX6_goes_182 rfl ?_
                    refine wp_if_eq 238 dX6_goes_184 rfl rfl (fun c184 => ?_) (fun c184 => ?_)
                    · exact absurd c184 (by decide)
                    · refine wp_aload_0 dX6_goes_187 rfl ?_
                      refine wp_aload_1 dX6_goes_188 rfl ?_
                      refine wp_iload_2 dX6_goes_189 rfl ?_
                      refine wp_iload_6 dX6_goes_190 rfl ?_
                      refine wp_VeR dX6_goes_192 rfl q1367 mv_X6_strikes (cg_24 hE1.X) rfl rfl (c_strikes4 (t := (rsR i t)) (o := (gO G.2 i)) hE1 hG1 hP1 hp hk hw hi hr1 (by omega)) rfl rfl (Nat.le_of_ble_eq_true rfl) (Nat.le_of_ble_eq_true rfl) (Nat.zero_le _) (Nat.zero_le _) (fun h1 hq0 => ?_)
                      obtain ⟨C2, rfl, hr2, c2⟩ := hq0
                      have k2 := k1.tr c2
                      have hE2 := c2.ev hE1
                      have hG2 := c2.g4 hG1
                      have hP2 := c2.pc hP1
                      refine wp_ifeq_b 238 dX6_goes_195 rfl rfl (fun c195 => ?_) (fun c195 => ?_)
                      · refine wp_iinc_2 1 dX6_goes_238 rfl rfl (by decide) rfl ?_
                        refine wp_goto 35 dX6_goes_241 rfl rfl ?_
                        have e8 : ruF W G.2 P i t = gfR W G.2 P i (rsR i t) := by
                          unfold ruF
                          rw [if_pos (Or.inl c67)]
                        have hH : hisR P (gH G.2 i) = false := by
                          rw [hisR, decide_eq_false (hw.2 i hi).1, Bool.not_false, Bool.true_and, ← hP1.2.2.2.2.1]
                          exact h1
                        have hO : hisR P (gO G.2 i) = true := by
                          rw [hisR, c97, Bool.true_and, ← hP1.2.2.2.2.1]
                          exact c111
                        have e9 : ruF W G.2 P i t = (goR W G.2 P i (gO G.2 i) (rsR i t)) := by
                          rw [e8, gfR, hH, hO]; rfl
                        exact WP.cast (by rw [nI_1]) (ih C2 (i + 1) (ruF W G.2 P i t) _ _ _ _ (by omega) hE2 hG2 hP2 k2 (by rw [e9]; exact hr2) (ruF_st W G.2 P i t hs) hq)
                      · refine wp_iload_4 dX6_goes_198 rfl ?_
                        refine wp_if_eq 238 dX6_goes_200 rfl rfl (fun c200 => ?_) (fun c200 => ?_)
                        · refine wp_iinc_2 1 dX6_goes_238 rfl rfl (by decide) rfl ?_
                          refine wp_goto 35 dX6_goes_241 rfl rfl ?_
                          have e8 : ruF W G.2 P i t = gfR W G.2 P i (rsR i t) := by
                            unfold ruF
                            rw [if_pos (Or.inl c67)]
                          have hH : hisR P (gH G.2 i) = false := by
                            rw [hisR, decide_eq_false (hw.2 i hi).1, Bool.not_false, Bool.true_and, ← hP1.2.2.2.2.1]
                            exact h1
                          have hO : hisR P (gO G.2 i) = true := by
                            rw [hisR, c97, Bool.true_and, ← hP1.2.2.2.2.1]
                            exact c111
                          have e9 : ruF W G.2 P i t = (goR W G.2 P i (gO G.2 i) (rsR i t)) := by
                            rw [e8, gfR, hH, hO]; rfl
                          exact WP.cast (by rw [nI_1]) (ih C2 (i + 1) (ruF W G.2 P i t) _ _ _ _ (by omega) hE2 hG2 hP2 k2 (by rw [e9]; exact hr2) (ruF_st W G.2 P i t hs) hq)
                        · exact absurd (by decide) c200
                · exact absurd (by decide) c128
        | true =>
          refine wp_istore_4 dX6_goes_91 rfl (by decide) rfl ?_
          refine wp_aload_3 dX6_goes_93 rfl ?_
          refine wp_cvR dX6_goes_94 rfl q1365 mv_X13_isTwin ((cH_dyn hmd).trans hmx) rfl rfl (c_isTwin ((cH_dyn hmd).trans hmx)) rfl rfl (Nat.le_of_ble_eq_true rfl) (Nat.le_of_ble_eq_true rfl) ?_
          refine wp_ifeq_b 118 dX6_goes_97 rfl rfl (fun c97 => ?_) (fun c97 => ?_)
          · refine wp_iconst 0 dX6_goes_118 rfl rfl ?_
            refine wp_istore_5 dX6_goes_119 rfl (by decide) rfl ?_
            refine wp_iload_5 dX6_goes_121 rfl ?_
            refine wp_if_eq 171 dX6_goes_123 rfl rfl (fun c123 => ?_) (fun c123 => ?_)
            · refine wp_aload_3 dX6_goes_171 rfl ?_
              refine wp_getfN dX6_goes_172 rfl q1054 fk14_0 ((cH_dyn hmd).trans hmx) rfl ?_
              refine wp_istore_6 dX6_goes_175 rfl (by decide) rfl ?_
              refine wp_iload_4 dX6_goes_177 rfl ?_
              refine wp_if_ne 187 dX6_goes_179 rfl rfl (fun c179 => ?_) (fun c179 => ?_)
              · refine wp_aload_0 dX6_goes_187 rfl ?_
                refine wp_aload_1 dX6_goes_188 rfl ?_
                refine wp_iload_2 dX6_goes_189 rfl ?_
                refine wp_iload_6 dX6_goes_190 rfl ?_
                refine wp_VeR dX6_goes_192 rfl q1367 mv_X6_strikes (cg_24 hE1.X) rfl rfl (c_strikes4 (t := (rsR i t)) (o := (gH G.2 i)) hE1 hG1 hP1 hp hk hw hi hr1 (by omega)) rfl rfl (Nat.le_of_ble_eq_true rfl) (Nat.le_of_ble_eq_true rfl) (Nat.zero_le _) (Nat.zero_le _) (fun h1 hq0 => ?_)
                obtain ⟨C2, rfl, hr2, c2⟩ := hq0
                have k2 := k1.tr c2
                have hE2 := c2.ev hE1
                have hG2 := c2.g4 hG1
                have hP2 := c2.pc hP1
                refine wp_ifeq_b 238 dX6_goes_195 rfl rfl (fun c195 => ?_) (fun c195 => ?_)
                · refine wp_iinc_2 1 dX6_goes_238 rfl rfl (by decide) rfl ?_
                  refine wp_goto 35 dX6_goes_241 rfl rfl ?_
                  have e8 : ruF W G.2 P i t = gfR W G.2 P i (rsR i t) := by
                    unfold ruF
                    rw [if_pos (Or.inl c67)]
                  have hH : hisR P (gH G.2 i) = true := by
                    rw [hisR, decide_eq_false (hw.2 i hi).1, Bool.not_false, Bool.true_and, ← hP1.2.2.2.2.1]
                    exact h1
                  have hO : hisR P (gO G.2 i) = false := by
                    rw [hisR, c97, Bool.false_and]
                  have e9 : ruF W G.2 P i t = (goR W G.2 P i (gH G.2 i) (rsR i t)) := by
                    rw [e8, gfR, hH, hO]; rfl
                  exact WP.cast (by rw [nI_1]) (ih C2 (i + 1) (ruF W G.2 P i t) _ _ _ _ (by omega) hE2 hG2 hP2 k2 (by rw [e9]; exact hr2) (ruF_st W G.2 P i t hs) hq)
                · refine wp_iload_4 dX6_goes_198 rfl ?_
                  refine wp_if_eq 238 dX6_goes_200 rfl rfl (fun c200 => ?_) (fun c200 => ?_)
                  · exact absurd c200 (by decide)
                  · refine wp_iload_5 dX6_goes_203 rfl ?_
                    refine wp_if_ne 211 dX6_goes_205 rfl rfl (fun c205 => ?_) (fun c205 => ?_)
                    · exact absurd (by decide) c205
                    · refine wp_goto 238 dX6_goes_208 rfl rfl ?_
                      refine wp_iinc_2 1 dX6_goes_238 rfl rfl (by decide) rfl ?_
                      refine wp_goto 35 dX6_goes_241 rfl rfl ?_
                      have e8 : ruF W G.2 P i t = gfR W G.2 P i (rsR i t) := by
                        unfold ruF
                        rw [if_pos (Or.inl c67)]
                      have hH : hisR P (gH G.2 i) = true := by
                        rw [hisR, decide_eq_false (hw.2 i hi).1, Bool.not_false, Bool.true_and, ← hP1.2.2.2.2.1]
                        exact h1
                      have hO : hisR P (gO G.2 i) = false := by
                        rw [hisR, c97, Bool.false_and]
                      have e9 : ruF W G.2 P i t = (goR W G.2 P i (gH G.2 i) (rsR i t)) := by
                        rw [e8, gfR, hH, hO]; rfl
                      exact WP.cast (by rw [nI_1]) (ih C2 (i + 1) (ruF W G.2 P i t) _ _ _ _ (by omega) hE2 hG2 hP2 k2 (by rw [e9]; exact hr2) (ruF_st W G.2 P i t hs) hq)
              · exact absurd c179 (by decide)
            · exact absurd (by decide) c123
          · refine wp_aload_0 dX6_goes_100 rfl ?_
            refine wp_getf dX6_goes_101 rfl q599 fk6_8 (cg_24 hE.X) rfl ?_
            refine wp_aload_3 dX6_goes_104 rfl ?_
            refine wp_getfN dX6_goes_105 rfl q1059 fk14_1 ((cH_dyn hmd).trans hmx) rfl ?_
            refine wp_SNxR dX6_goes_108 rfl q1364 ms_X0_isOn c_isOn rfl rfl (Nat.le_of_ble_eq_true rfl) (Nat.le_of_ble_eq_true rfl) (Nat.zero_le _) (Nat.zero_le _) ?_
            refine wp_ifeq_b 118 dX6_goes_111 rfl rfl (fun c111 => ?_) (fun c111 => ?_)
            · refine wp_iconst 0 dX6_goes_118 rfl rfl ?_
              refine wp_istore_5 dX6_goes_119 rfl (by decide) rfl ?_
              refine wp_iload_5 dX6_goes_121 rfl ?_
              refine wp_if_eq 171 dX6_goes_123 rfl rfl (fun c123 => ?_) (fun c123 => ?_)
              · refine wp_aload_3 dX6_goes_171 rfl ?_
                refine wp_getfN dX6_goes_172 rfl q1054 fk14_0 ((cH_dyn hmd).trans hmx) rfl ?_
                refine wp_istore_6 dX6_goes_175 rfl (by decide) rfl ?_
                refine wp_iload_4 dX6_goes_177 rfl ?_
                refine wp_if_ne 187 dX6_goes_179 rfl rfl (fun c179 => ?_) (fun c179 => ?_)
                · refine wp_aload_0 dX6_goes_187 rfl ?_
                  refine wp_aload_1 dX6_goes_188 rfl ?_
                  refine wp_iload_2 dX6_goes_189 rfl ?_
                  refine wp_iload_6 dX6_goes_190 rfl ?_
                  refine wp_VeR dX6_goes_192 rfl q1367 mv_X6_strikes (cg_24 hE1.X) rfl rfl (c_strikes4 (t := (rsR i t)) (o := (gH G.2 i)) hE1 hG1 hP1 hp hk hw hi hr1 (by omega)) rfl rfl (Nat.le_of_ble_eq_true rfl) (Nat.le_of_ble_eq_true rfl) (Nat.zero_le _) (Nat.zero_le _) (fun h1 hq0 => ?_)
                  obtain ⟨C2, rfl, hr2, c2⟩ := hq0
                  have k2 := k1.tr c2
                  have hE2 := c2.ev hE1
                  have hG2 := c2.g4 hG1
                  have hP2 := c2.pc hP1
                  refine wp_ifeq_b 238 dX6_goes_195 rfl rfl (fun c195 => ?_) (fun c195 => ?_)
                  · refine wp_iinc_2 1 dX6_goes_238 rfl rfl (by decide) rfl ?_
                    refine wp_goto 35 dX6_goes_241 rfl rfl ?_
                    have e8 : ruF W G.2 P i t = gfR W G.2 P i (rsR i t) := by
                      unfold ruF
                      rw [if_pos (Or.inl c67)]
                    have hH : hisR P (gH G.2 i) = true := by
                      rw [hisR, decide_eq_false (hw.2 i hi).1, Bool.not_false, Bool.true_and, ← hP1.2.2.2.2.1]
                      exact h1
                    have hO : hisR P (gO G.2 i) = false := by
                      rw [hisR, c97, Bool.true_and, ← hP1.2.2.2.2.1]
                      exact c111
                    have e9 : ruF W G.2 P i t = (goR W G.2 P i (gH G.2 i) (rsR i t)) := by
                      rw [e8, gfR, hH, hO]; rfl
                    exact WP.cast (by rw [nI_1]) (ih C2 (i + 1) (ruF W G.2 P i t) _ _ _ _ (by omega) hE2 hG2 hP2 k2 (by rw [e9]; exact hr2) (ruF_st W G.2 P i t hs) hq)
                  · refine wp_iload_4 dX6_goes_198 rfl ?_
                    refine wp_if_eq 238 dX6_goes_200 rfl rfl (fun c200 => ?_) (fun c200 => ?_)
                    · exact absurd c200 (by decide)
                    · refine wp_iload_5 dX6_goes_203 rfl ?_
                      refine wp_if_ne 211 dX6_goes_205 rfl rfl (fun c205 => ?_) (fun c205 => ?_)
                      · exact absurd (by decide) c205
                      · refine wp_goto 238 dX6_goes_208 rfl rfl ?_
                        refine wp_iinc_2 1 dX6_goes_238 rfl rfl (by decide) rfl ?_
                        refine wp_goto 35 dX6_goes_241 rfl rfl ?_
                        have e8 : ruF W G.2 P i t = gfR W G.2 P i (rsR i t) := by
                          unfold ruF
                          rw [if_pos (Or.inl c67)]
                        have hH : hisR P (gH G.2 i) = true := by
                          rw [hisR, decide_eq_false (hw.2 i hi).1, Bool.not_false, Bool.true_and, ← hP1.2.2.2.2.1]
                          exact h1
                        have hO : hisR P (gO G.2 i) = false := by
                          rw [hisR, c97, Bool.true_and, ← hP1.2.2.2.2.1]
                          exact c111
                        have e9 : ruF W G.2 P i t = (goR W G.2 P i (gH G.2 i) (rsR i t)) := by
                          rw [e8, gfR, hH, hO]; rfl
                        exact WP.cast (by rw [nI_1]) (ih C2 (i + 1) (ruF W G.2 P i t) _ _ _ _ (by omega) hE2 hG2 hP2 k2 (by rw [e9]; exact hr2) (ruF_st W G.2 P i t hs) hq)
                · exact absurd c179 (by decide)
              · exact absurd (by decide) c123
            · refine wp_iconst 1 dX6_goes_114 rfl rfl ?_
              refine wp_goto 119 dX6_goes_115 rfl rfl ?_
              refine wp_istore_5 dX6_goes_119 rfl (by decide) rfl ?_
              refine wp_iload_5 dX6_goes_121 rfl ?_
              refine wp_if_eq 171 dX6_goes_123 rfl rfl (fun c123 => ?_) (fun c123 => ?_)
              · exact absurd c123 (by decide)
              · refine wp_iload_4 dX6_goes_126 rfl ?_
                refine wp_if_eq 164 dX6_goes_128 rfl rfl (fun c128 => ?_) (fun c128 => ?_)
                · exact absurd c128 (by decide)
                · refine wp_aload_0 dX6_goes_131 rfl ?_
                  refine wp_getf dX6_goes_132 rfl q612 fk6_16 (cg_24 hE.X) rfl ?_
                  refine wp_aload_0 dX6_goes_135 rfl ?_
                  refine wp_getf dX6_goes_136 rfl q601 fk6_9 (cg_24 hE.X) rfl ?_
                  refine wp_aload_3 dX6_goes_139 rfl ?_
                  refine wp_getfN dX6_goes_140 rfl q1059 fk14_1 ((cH_dyn hmd).trans hmx) rfl ?_
                  refine wp_VNxR dX6_goes_143 rfl q1366 mv_X0_stepsOf hE1.o0 rfl rfl (c_stepsOf hE1 h0) rfl rfl (Nat.le_of_ble_eq_true rfl) (Nat.le_of_ble_eq_true rfl) (Nat.zero_le _) (Nat.zero_le _) ?_
                  refine wp_aload_0 dX6_goes_146 rfl ?_
                  refine wp_getf dX6_goes_147 rfl q612 fk6_16 (cg_24 hE.X) rfl ?_
                  refine wp_aload_0 dX6_goes_150 rfl ?_
                  refine wp_getf dX6_goes_151 rfl q601 fk6_9 (cg_24 hE.X) rfl ?_
                  refine wp_aload_3 dX6_goes_154 rfl ?_
                  refine wp_getfN dX6_goes_155 rfl q1054 fk14_0 ((cH_dyn hmd).trans hmx) rfl ?_
                  refine wp_VNxR dX6_goes_158 rfl q1366 mv_X0_stepsOf hE1.o0 rfl rfl (c_stepsOf hE1 h0) rfl rfl (Nat.le_of_ble_eq_true rfl) (Nat.le_of_ble_eq_true rfl) (Nat.zero_le _) (Nat.zero_le _) ?_
                  rw [hr1.1]
                  refine wp_icmp_ge 171 dX6_goes_161 rfl rfl (fun c161 => ?_) (fun c161 => ?_)
                  · refine wp_aload_3 dX6_goes_171 rfl ?_
                    refine wp_getfN dX6_goes_172 rfl q1054 fk14_0 ((cH_dyn hmd).trans hmx) rfl ?_
                    refine wp_istore_6 dX6_goes_175 rfl (by decide) rfl ?_
                    refine wp_iload_4 dX6_goes_177 rfl ?_
                    refine wp_if_ne 187 dX6_goes_179 rfl rfl (fun c179 => ?_) (fun c179 => ?_)
                    · refine wp_aload_0 dX6_goes_187 rfl ?_
                      refine wp_aload_1 dX6_goes_188 rfl ?_
                      refine wp_iload_2 dX6_goes_189 rfl ?_
                      refine wp_iload_6 dX6_goes_190 rfl ?_
                      refine wp_VeR dX6_goes_192 rfl q1367 mv_X6_strikes (cg_24 hE1.X) rfl rfl (c_strikes4 (t := (rsR i t)) (o := (gH G.2 i)) hE1 hG1 hP1 hp hk hw hi hr1 (by omega)) rfl rfl (Nat.le_of_ble_eq_true rfl) (Nat.le_of_ble_eq_true rfl) (Nat.zero_le _) (Nat.zero_le _) (fun h1 hq0 => ?_)
                      obtain ⟨C2, rfl, hr2, c2⟩ := hq0
                      have k2 := k1.tr c2
                      have hE2 := c2.ev hE1
                      have hG2 := c2.g4 hG1
                      have hP2 := c2.pc hP1
                      refine wp_ifeq_b 238 dX6_goes_195 rfl rfl (fun c195 => ?_) (fun c195 => ?_)
                      · refine wp_iinc_2 1 dX6_goes_238 rfl rfl (by decide) rfl ?_
                        refine wp_goto 35 dX6_goes_241 rfl rfl ?_
                        have e8 : ruF W G.2 P i t = gfR W G.2 P i (rsR i t) := by
                          unfold ruF
                          rw [if_pos (Or.inl c67)]
                        have hH : hisR P (gH G.2 i) = true := by
                          rw [hisR, decide_eq_false (hw.2 i hi).1, Bool.not_false, Bool.true_and, ← hP1.2.2.2.2.1]
                          exact h1
                        have hO : hisR P (gO G.2 i) = true := by
                          rw [hisR, c97, Bool.true_and, ← hP1.2.2.2.2.1]
                          exact c111
                        have e9 : ruF W G.2 P i t = (goR W G.2 P i (gH G.2 i) (rsR i t)) := by
                          rw [e8, gfR, hH, hO]
                          rw [if_pos ⟨rfl, rfl⟩, if_pos c161, if_neg (by rw [c195]; decide), goR, if_neg (by rw [c195]; decide)]
                        exact WP.cast (by rw [nI_1]) (ih C2 (i + 1) (ruF W G.2 P i t) _ _ _ _ (by omega) hE2 hG2 hP2 k2 (by rw [e9]; exact hr2) (ruF_st W G.2 P i t hs) hq)
                      · refine wp_iload_4 dX6_goes_198 rfl ?_
                        refine wp_if_eq 238 dX6_goes_200 rfl rfl (fun c200 => ?_) (fun c200 => ?_)
                        · exact absurd c200 (by decide)
                        · refine wp_iload_5 dX6_goes_203 rfl ?_
                          refine wp_if_ne 211 dX6_goes_205 rfl rfl (fun c205 => ?_) (fun c205 => ?_)
                          · refine wp_aload_0 dX6_goes_211 rfl ?_
                            refine wp_aload_1 dX6_goes_212 rfl ?_
                            refine wp_iload_2 dX6_goes_213 rfl ?_
                            refine wp_iload_6 dX6_goes_214 rfl ?_
                            refine wp_aload_3 dX6_goes_216 rfl ?_
                            refine wp_getfN dX6_goes_217 rfl q1054 fk14_0 ((cH_dyn hmd).trans hmx) rfl ?_
                            refine wp_icmp_ne 230 dX6_goes_220 rfl rfl (fun c220 => absurd rfl c220) (fun c220 => ?_)
                            refine wp_aload_3 dX6_goes_223 rfl ?_
                            refine wp_getfN dX6_goes_224 rfl q1059 fk14_1 ((cH_dyn hmd).trans hmx) rfl ?_
                            refine wp_goto 234 dX6_goes_227 rfl rfl ?_
                            refine wp_VeR dX6_goes_234 rfl q1367 mv_X6_strikes (cg_24 hE2.X) rfl rfl (c_strikes4 (t := (goR W G.2 P i (gH G.2 i) (rsR i t))) (o := (gO G.2 i)) hE2 hG2 hP2 hp hk hw hi hr2 (by have := goR_st W G.2 P i (gH G.2 i) (rsR i t); omega)) rfl rfl (Nat.le_of_ble_eq_true rfl) (Nat.le_of_ble_eq_true rfl) (Nat.zero_le _) (Nat.zero_le _) (fun h1 hq0 => ?_)
                            obtain ⟨C3, rfl, hr3, c3⟩ := hq0
                            have k3 := k2.tr c3
                            have hE3 := c3.ev hE2
                            have hG3 := c3.g4 hG2
                            have hP3 := c3.pc hP2
                            refine wp_pop dX6_goes_237 rfl rfl ?_
                            refine wp_iinc_2 1 dX6_goes_238 rfl rfl (by decide) rfl ?_
                            refine wp_goto 35 dX6_goes_241 rfl rfl ?_
                            have e8 : ruF W G.2 P i t = gfR W G.2 P i (rsR i t) := by
                              unfold ruF
                              rw [if_pos (Or.inl c67)]
                            have hH : hisR P (gH G.2 i) = true := by
                              rw [hisR, decide_eq_false (hw.2 i hi).1, Bool.not_false, Bool.true_and, ← hP1.2.2.2.2.1]
                              exact h1
                            have hO : hisR P (gO G.2 i) = true := by
                              rw [hisR, c97, Bool.true_and, ← hP1.2.2.2.2.1]
                              exact c111
                            have e9 : ruF W G.2 P i t = (goR W G.2 P i (gO G.2 i) (goR W G.2 P i (gH G.2 i) (rsR i t))) := by
                              rw [e8, gfR, hH, hO]
                              rw [if_pos ⟨rfl, rfl⟩, if_pos c161, if_pos c195]
                            exact WP.cast (by rw [nI_1]) (ih C3 (i + 1) (ruF W G.2 P i t) _ _ _ _ (by omega) hE3 hG3 hP3 k3 (by rw [e9]; exact hr3) (ruF_st W G.2 P i t hs) hq)
                          · exact absurd c205 (by decide)
                    · exact absurd c179 (by decide)
                  · have c161x := Int32.not_le.mp c161
                    refine wp_aload_3 dX6_goes_164 rfl ?_
                    refine wp_getfN dX6_goes_165 rfl q1059 fk14_1 ((cH_dyn hmd).trans hmx) rfl ?_
                    refine wp_goto 175 dX6_goes_168 rfl rfl ?_
                    refine wp_istore_6 dX6_goes_175 rfl (by decide) rfl ?_
                    refine wp_iload_4 dX6_goes_177 rfl ?_
                    refine wp_if_ne 187 dX6_goes_179 rfl rfl (fun c179 => ?_) (fun c179 => ?_)
                    · refine wp_aload_0 dX6_goes_187 rfl ?_
                      refine wp_aload_1 dX6_goes_188 rfl ?_
                      refine wp_iload_2 dX6_goes_189 rfl ?_
                      refine wp_iload_6 dX6_goes_190 rfl ?_
                      refine wp_VeR dX6_goes_192 rfl q1367 mv_X6_strikes (cg_24 hE1.X) rfl rfl (c_strikes4 (t := (rsR i t)) (o := (gO G.2 i)) hE1 hG1 hP1 hp hk hw hi hr1 (by omega)) rfl rfl (Nat.le_of_ble_eq_true rfl) (Nat.le_of_ble_eq_true rfl) (Nat.zero_le _) (Nat.zero_le _) (fun h1 hq0 => ?_)
                      obtain ⟨C2, rfl, hr2, c2⟩ := hq0
                      have k2 := k1.tr c2
                      have hE2 := c2.ev hE1
                      have hG2 := c2.g4 hG1
                      have hP2 := c2.pc hP1
                      refine wp_ifeq_b 238 dX6_goes_195 rfl rfl (fun c195 => ?_) (fun c195 => ?_)
                      · refine wp_iinc_2 1 dX6_goes_238 rfl rfl (by decide) rfl ?_
                        refine wp_goto 35 dX6_goes_241 rfl rfl ?_
                        have e8 : ruF W G.2 P i t = gfR W G.2 P i (rsR i t) := by
                          unfold ruF
                          rw [if_pos (Or.inl c67)]
                        have hH : hisR P (gH G.2 i) = true := by
                          rw [hisR, decide_eq_false (hw.2 i hi).1, Bool.not_false, Bool.true_and, ← hP1.2.2.2.2.1]
                          exact h1
                        have hO : hisR P (gO G.2 i) = true := by
                          rw [hisR, c97, Bool.true_and, ← hP1.2.2.2.2.1]
                          exact c111
                        have e9 : ruF W G.2 P i t = (goR W G.2 P i (gO G.2 i) (rsR i t)) := by
                          rw [e8, gfR, hH, hO]
                          rw [if_pos ⟨rfl, rfl⟩, if_neg (Int32.not_le.mpr c161x), if_neg (by rw [c195]; decide), goR, if_neg (by rw [c195]; decide)]
                        exact WP.cast (by rw [nI_1]) (ih C2 (i + 1) (ruF W G.2 P i t) _ _ _ _ (by omega) hE2 hG2 hP2 k2 (by rw [e9]; exact hr2) (ruF_st W G.2 P i t hs) hq)
                      · refine wp_iload_4 dX6_goes_198 rfl ?_
                        refine wp_if_eq 238 dX6_goes_200 rfl rfl (fun c200 => ?_) (fun c200 => ?_)
                        · exact absurd c200 (by decide)
                        · refine wp_iload_5 dX6_goes_203 rfl ?_
                          refine wp_if_ne 211 dX6_goes_205 rfl rfl (fun c205 => ?_) (fun c205 => ?_)
                          · refine wp_aload_0 dX6_goes_211 rfl ?_
                            refine wp_aload_1 dX6_goes_212 rfl ?_
                            refine wp_iload_2 dX6_goes_213 rfl ?_
                            refine wp_iload_6 dX6_goes_214 rfl ?_
                            refine wp_aload_3 dX6_goes_216 rfl ?_
                            refine wp_getfN dX6_goes_217 rfl q1054 fk14_0 ((cH_dyn hmd).trans hmx) rfl ?_
                            refine wp_icmp_ne 230 dX6_goes_220 rfl rfl (fun c220 => ?_) (fun c220 => absurd c220 (hw.2 i hi).2)
                            refine wp_aload_3 dX6_goes_230 rfl ?_
                            refine wp_getfN dX6_goes_231 rfl q1054 fk14_0 ((cH_dyn hmd).trans hmx) rfl ?_
                            refine wp_VeR dX6_goes_234 rfl q1367 mv_X6_strikes (cg_24 hE2.X) rfl rfl (c_strikes4 (t := (goR W G.2 P i (gO G.2 i) (rsR i t))) (o := (gH G.2 i)) hE2 hG2 hP2 hp hk hw hi hr2 (by have := goR_st W G.2 P i (gO G.2 i) (rsR i t); omega)) rfl rfl (Nat.le_of_ble_eq_true rfl) (Nat.le_of_ble_eq_true rfl) (Nat.zero_le _) (Nat.zero_le _) (fun h1 hq0 => ?_)
                            obtain ⟨C3, rfl, hr3, c3⟩ := hq0
                            have k3 := k2.tr c3
                            have hE3 := c3.ev hE2
                            have hG3 := c3.g4 hG2
                            have hP3 := c3.pc hP2
                            refine wp_pop dX6_goes_237 rfl rfl ?_
                            refine wp_iinc_2 1 dX6_goes_238 rfl rfl (by decide) rfl ?_
                            refine wp_goto 35 dX6_goes_241 rfl rfl ?_
                            have e8 : ruF W G.2 P i t = gfR W G.2 P i (rsR i t) := by
                              unfold ruF
                              rw [if_pos (Or.inl c67)]
                            have hH : hisR P (gH G.2 i) = true := by
                              rw [hisR, decide_eq_false (hw.2 i hi).1, Bool.not_false, Bool.true_and, ← hP1.2.2.2.2.1]
                              exact h1
                            have hO : hisR P (gO G.2 i) = true := by
                              rw [hisR, c97, Bool.true_and, ← hP1.2.2.2.2.1]
                              exact c111
                            have e9 : ruF W G.2 P i t = (goR W G.2 P i (gH G.2 i) (goR W G.2 P i (gO G.2 i) (rsR i t))) := by
                              rw [e8, gfR, hH, hO]
                              rw [if_pos ⟨rfl, rfl⟩, if_neg (Int32.not_le.mpr c161x), if_pos c195]
                            exact WP.cast (by rw [nI_1]) (ih C3 (i + 1) (ruF W G.2 P i t) _ _ _ _ (by omega) hE3 hG3 hP3 k3 (by rw [e9]; exact hr3) (ruF_st W G.2 P i t hs) hq)
                          · exact absurd c205 (by decide)
                    · exact absurd c179 (by decide)
      · refine wp_aload_0 dX6_goes_70 rfl ?_
        refine wp_getf dX6_goes_71 rfl q610 fk6_15 (cg_24 hE.X) rfl ?_
        refine wp_if_ne 80 dX6_goes_74 rfl rfl (fun c74 => ?_) (fun c74 => ?_)
        · refine wp_aload_0 dX6_goes_80 rfl ?_
          refine wp_getf dX6_goes_81 rfl q599 fk6_8 (cg_24 hE.X) rfl ?_
          refine wp_aload_3 dX6_goes_84 rfl ?_
          refine wp_getfN dX6_goes_85 rfl q1054 fk14_0 ((cH_dyn hmd).trans hmx) rfl ?_
          refine wp_SNxR dX6_goes_88 rfl q1364 ms_X0_isOn c_isOn rfl rfl (Nat.le_of_ble_eq_true rfl) (Nat.le_of_ble_eq_true rfl) (Nat.zero_le _) (Nat.zero_le _) ?_
          cases h1 : onB (C1.1 9) (gH G.2 i) with
          | false =>
            refine wp_istore_4 dX6_goes_91 rfl (by decide) rfl ?_
            refine wp_aload_3 dX6_goes_93 rfl ?_
            refine wp_cvR dX6_goes_94 rfl q1365 mv_X13_isTwin ((cH_dyn hmd).trans hmx) rfl rfl (c_isTwin ((cH_dyn hmd).trans hmx)) rfl rfl (Nat.le_of_ble_eq_true rfl) (Nat.le_of_ble_eq_true rfl) ?_
            refine wp_ifeq_b 118 dX6_goes_97 rfl rfl (fun c97 => ?_) (fun c97 => ?_)
            · refine wp_iconst 0 dX6_goes_118 rfl rfl ?_
              refine wp_istore_5 dX6_goes_119 rfl (by decide) rfl ?_
              refine wp_iload_5 dX6_goes_121 rfl ?_
              refine wp_if_eq 171 dX6_goes_123 rfl rfl (fun c123 => ?_) (fun c123 => ?_)
              · refine wp_aload_3 dX6_goes_171 rfl ?_
                refine wp_getfN dX6_goes_172 rfl q1054 fk14_0 ((cH_dyn hmd).trans hmx) rfl ?_
                refine wp_istore_6 dX6_goes_175 rfl (by decide) rfl ?_
                refine wp_iload_4 dX6_goes_177 rfl ?_
                refine wp_if_ne 187 dX6_goes_179 rfl rfl (fun c179 => ?_) (fun c179 => ?_)
                · exact absurd (by decide) c179
                · refine wp_iload_5 dX6_goes_182 rfl ?_
                  refine wp_if_eq 238 dX6_goes_184 rfl rfl (fun c184 => ?_) (fun c184 => ?_)
                  · refine wp_iinc_2 1 dX6_goes_238 rfl rfl (by decide) rfl ?_
                    refine wp_goto 35 dX6_goes_241 rfl rfl ?_
                    have e8 : ruF W G.2 P i t = gfR W G.2 P i (rsR i t) := by
                      unfold ruF
                      rw [if_pos (Or.inr (fun q2 => c74 (by rw [hP1.2.2.2.2.2]; exact q2)))]
                    have hH : hisR P (gH G.2 i) = false := by
                      rw [hisR, decide_eq_false (hw.2 i hi).1, Bool.not_false, Bool.true_and, ← hP1.2.2.2.2.1]
                      exact h1
                    have hO : hisR P (gO G.2 i) = false := by
                      rw [hisR, c97, Bool.false_and]
                    have e9 : ruF W G.2 P i t = (rsR i t) := by
                      rw [e8, gfR, hH, hO]; rfl
                    exact WP.cast (by rw [nI_1]) (ih C1 (i + 1) (ruF W G.2 P i t) _ _ _ _ (by omega) hE1 hG1 hP1 k1 (by rw [e9]; exact hr1) (ruF_st W G.2 P i t hs) hq)
                  · exact absurd (by decide) c184
              · exact absurd (by decide) c123
            · refine wp_aload_0 dX6_goes_100 rfl ?_
              refine wp_getf dX6_goes_101 rfl q599 fk6_8 (cg_24 hE.X) rfl ?_
              refine wp_aload_3 dX6_goes_104 rfl ?_
              refine wp_getfN dX6_goes_105 rfl q1059 fk14_1 ((cH_dyn hmd).trans hmx) rfl ?_
              refine wp_SNxR dX6_goes_108 rfl q1364 ms_X0_isOn c_isOn rfl rfl (Nat.le_of_ble_eq_true rfl) (Nat.le_of_ble_eq_true rfl) (Nat.zero_le _) (Nat.zero_le _) ?_
              refine wp_ifeq_b 118 dX6_goes_111 rfl rfl (fun c111 => ?_) (fun c111 => ?_)
              · refine wp_iconst 0 dX6_goes_118 rfl rfl ?_
                refine wp_istore_5 dX6_goes_119 rfl (by decide) rfl ?_
                refine wp_iload_5 dX6_goes_121 rfl ?_
                refine wp_if_eq 171 dX6_goes_123 rfl rfl (fun c123 => ?_) (fun c123 => ?_)
                · refine wp_aload_3 dX6_goes_171 rfl ?_
                  refine wp_getfN dX6_goes_172 rfl q1054 fk14_0 ((cH_dyn hmd).trans hmx) rfl ?_
                  refine wp_istore_6 dX6_goes_175 rfl (by decide) rfl ?_
                  refine wp_iload_4 dX6_goes_177 rfl ?_
                  refine wp_if_ne 187 dX6_goes_179 rfl rfl (fun c179 => ?_) (fun c179 => ?_)
                  · exact absurd (by decide) c179
                  · refine wp_iload_5 dX6_goes_182 rfl ?_
                    refine wp_if_eq 238 dX6_goes_184 rfl rfl (fun c184 => ?_) (fun c184 => ?_)
                    · refine wp_iinc_2 1 dX6_goes_238 rfl rfl (by decide) rfl ?_
                      refine wp_goto 35 dX6_goes_241 rfl rfl ?_
                      have e8 : ruF W G.2 P i t = gfR W G.2 P i (rsR i t) := by
                        unfold ruF
                        rw [if_pos (Or.inr (fun q2 => c74 (by rw [hP1.2.2.2.2.2]; exact q2)))]
                      have hH : hisR P (gH G.2 i) = false := by
                        rw [hisR, decide_eq_false (hw.2 i hi).1, Bool.not_false, Bool.true_and, ← hP1.2.2.2.2.1]
                        exact h1
                      have hO : hisR P (gO G.2 i) = false := by
                        rw [hisR, c97, Bool.true_and, ← hP1.2.2.2.2.1]
                        exact c111
                      have e9 : ruF W G.2 P i t = (rsR i t) := by
                        rw [e8, gfR, hH, hO]; rfl
                      exact WP.cast (by rw [nI_1]) (ih C1 (i + 1) (ruF W G.2 P i t) _ _ _ _ (by omega) hE1 hG1 hP1 k1 (by rw [e9]; exact hr1) (ruF_st W G.2 P i t hs) hq)
                    · exact absurd (by decide) c184
                · exact absurd (by decide) c123
              · refine wp_iconst 1 dX6_goes_114 rfl rfl ?_
                refine wp_goto 119 dX6_goes_115 rfl rfl ?_
                refine wp_istore_5 dX6_goes_119 rfl (by decide) rfl ?_
                refine wp_iload_5 dX6_goes_121 rfl ?_
                refine wp_if_eq 171 dX6_goes_123 rfl rfl (fun c123 => ?_) (fun c123 => ?_)
                · exact absurd c123 (by decide)
                · refine wp_iload_4 dX6_goes_126 rfl ?_
                  refine wp_if_eq 164 dX6_goes_128 rfl rfl (fun c128 => ?_) (fun c128 => ?_)
                  · refine wp_aload_3 dX6_goes_164 rfl ?_
                    refine wp_getfN dX6_goes_165 rfl q1059 fk14_1 ((cH_dyn hmd).trans hmx) rfl ?_
                    refine wp_goto 175 dX6_goes_168 rfl rfl ?_
                    refine wp_istore_6 dX6_goes_175 rfl (by decide) rfl ?_
                    refine wp_iload_4 dX6_goes_177 rfl ?_
                    refine wp_if_ne 187 dX6_goes_179 rfl rfl (fun c179 => ?_) (fun c179 => ?_)
                    · exact absurd (by decide) c179
                    · refine wp_iload_5 dX6_goes_182 rfl ?_
                      refine wp_if_eq 238 dX6_goes_184 rfl rfl (fun c184 => ?_) (fun c184 => ?_)
                      · exact absurd c184 (by decide)
                      · refine wp_aload_0 dX6_goes_187 rfl ?_
                        refine wp_aload_1 dX6_goes_188 rfl ?_
                        refine wp_iload_2 dX6_goes_189 rfl ?_
                        refine wp_iload_6 dX6_goes_190 rfl ?_
                        refine wp_VeR dX6_goes_192 rfl q1367 mv_X6_strikes (cg_24 hE1.X) rfl rfl (c_strikes4 (t := (rsR i t)) (o := (gO G.2 i)) hE1 hG1 hP1 hp hk hw hi hr1 (by omega)) rfl rfl (Nat.le_of_ble_eq_true rfl) (Nat.le_of_ble_eq_true rfl) (Nat.zero_le _) (Nat.zero_le _) (fun h1 hq0 => ?_)
                        obtain ⟨C2, rfl, hr2, c2⟩ := hq0
                        have k2 := k1.tr c2
                        have hE2 := c2.ev hE1
                        have hG2 := c2.g4 hG1
                        have hP2 := c2.pc hP1
                        refine wp_ifeq_b 238 dX6_goes_195 rfl rfl (fun c195 => ?_) (fun c195 => ?_)
                        · refine wp_iinc_2 1 dX6_goes_238 rfl rfl (by decide) rfl ?_
                          refine wp_goto 35 dX6_goes_241 rfl rfl ?_
                          have e8 : ruF W G.2 P i t = gfR W G.2 P i (rsR i t) := by
                            unfold ruF
                            rw [if_pos (Or.inr (fun q2 => c74 (by rw [hP1.2.2.2.2.2]; exact q2)))]
                          have hH : hisR P (gH G.2 i) = false := by
                            rw [hisR, decide_eq_false (hw.2 i hi).1, Bool.not_false, Bool.true_and, ← hP1.2.2.2.2.1]
                            exact h1
                          have hO : hisR P (gO G.2 i) = true := by
                            rw [hisR, c97, Bool.true_and, ← hP1.2.2.2.2.1]
                            exact c111
                          have e9 : ruF W G.2 P i t = (goR W G.2 P i (gO G.2 i) (rsR i t)) := by
                            rw [e8, gfR, hH, hO]; rfl
                          exact WP.cast (by rw [nI_1]) (ih C2 (i + 1) (ruF W G.2 P i t) _ _ _ _ (by omega) hE2 hG2 hP2 k2 (by rw [e9]; exact hr2) (ruF_st W G.2 P i t hs) hq)
                        · refine wp_iload_4 dX6_goes_198 rfl ?_
                          refine wp_if_eq 238 dX6_goes_200 rfl rfl (fun c200 => ?_) (fun c200 => ?_)
                          · refine wp_iinc_2 1 dX6_goes_238 rfl rfl (by decide) rfl ?_
                            refine wp_goto 35 dX6_goes_241 rfl rfl ?_
                            have e8 : ruF W G.2 P i t = gfR W G.2 P i (rsR i t) := by
                              unfold ruF
                              rw [if_pos (Or.inr (fun q2 => c74 (by rw [hP1.2.2.2.2.2]; exact q2)))]
                            have hH : hisR P (gH G.2 i) = false := by
                              rw [hisR, decide_eq_false (hw.2 i hi).1, Bool.not_false, Bool.true_and, ← hP1.2.2.2.2.1]
                              exact h1
                            have hO : hisR P (gO G.2 i) = true := by
                              rw [hisR, c97, Bool.true_and, ← hP1.2.2.2.2.1]
                              exact c111
                            have e9 : ruF W G.2 P i t = (goR W G.2 P i (gO G.2 i) (rsR i t)) := by
                              rw [e8, gfR, hH, hO]; rfl
                            exact WP.cast (by rw [nI_1]) (ih C2 (i + 1) (ruF W G.2 P i t) _ _ _ _ (by omega) hE2 hG2 hP2 k2 (by rw [e9]; exact hr2) (ruF_st W G.2 P i t hs) hq)
                          · exact absurd (by decide) c200
                  · exact absurd (by decide) c128
          | true =>
            refine wp_istore_4 dX6_goes_91 rfl (by decide) rfl ?_
            refine wp_aload_3 dX6_goes_93 rfl ?_
            refine wp_cvR dX6_goes_94 rfl q1365 mv_X13_isTwin ((cH_dyn hmd).trans hmx) rfl rfl (c_isTwin ((cH_dyn hmd).trans hmx)) rfl rfl (Nat.le_of_ble_eq_true rfl) (Nat.le_of_ble_eq_true rfl) ?_
            refine wp_ifeq_b 118 dX6_goes_97 rfl rfl (fun c97 => ?_) (fun c97 => ?_)
            · refine wp_iconst 0 dX6_goes_118 rfl rfl ?_
              refine wp_istore_5 dX6_goes_119 rfl (by decide) rfl ?_
              refine wp_iload_5 dX6_goes_121 rfl ?_
              refine wp_if_eq 171 dX6_goes_123 rfl rfl (fun c123 => ?_) (fun c123 => ?_)
              · refine wp_aload_3 dX6_goes_171 rfl ?_
                refine wp_getfN dX6_goes_172 rfl q1054 fk14_0 ((cH_dyn hmd).trans hmx) rfl ?_
                refine wp_istore_6 dX6_goes_175 rfl (by decide) rfl ?_
                refine wp_iload_4 dX6_goes_177 rfl ?_
                refine wp_if_ne 187 dX6_goes_179 rfl rfl (fun c179 => ?_) (fun c179 => ?_)
                · refine wp_aload_0 dX6_goes_187 rfl ?_
                  refine wp_aload_1 dX6_goes_188 rfl ?_
                  refine wp_iload_2 dX6_goes_189 rfl ?_
                  refine wp_iload_6 dX6_goes_190 rfl ?_
                  refine wp_VeR dX6_goes_192 rfl q1367 mv_X6_strikes (cg_24 hE1.X) rfl rfl (c_strikes4 (t := (rsR i t)) (o := (gH G.2 i)) hE1 hG1 hP1 hp hk hw hi hr1 (by omega)) rfl rfl (Nat.le_of_ble_eq_true rfl) (Nat.le_of_ble_eq_true rfl) (Nat.zero_le _) (Nat.zero_le _) (fun h1 hq0 => ?_)
                  obtain ⟨C2, rfl, hr2, c2⟩ := hq0
                  have k2 := k1.tr c2
                  have hE2 := c2.ev hE1
                  have hG2 := c2.g4 hG1
                  have hP2 := c2.pc hP1
                  refine wp_ifeq_b 238 dX6_goes_195 rfl rfl (fun c195 => ?_) (fun c195 => ?_)
                  · refine wp_iinc_2 1 dX6_goes_238 rfl rfl (by decide) rfl ?_
                    refine wp_goto 35 dX6_goes_241 rfl rfl ?_
                    have e8 : ruF W G.2 P i t = gfR W G.2 P i (rsR i t) := by
                      unfold ruF
                      rw [if_pos (Or.inr (fun q2 => c74 (by rw [hP1.2.2.2.2.2]; exact q2)))]
                    have hH : hisR P (gH G.2 i) = true := by
                      rw [hisR, decide_eq_false (hw.2 i hi).1, Bool.not_false, Bool.true_and, ← hP1.2.2.2.2.1]
                      exact h1
                    have hO : hisR P (gO G.2 i) = false := by
                      rw [hisR, c97, Bool.false_and]
                    have e9 : ruF W G.2 P i t = (goR W G.2 P i (gH G.2 i) (rsR i t)) := by
                      rw [e8, gfR, hH, hO]; rfl
                    exact WP.cast (by rw [nI_1]) (ih C2 (i + 1) (ruF W G.2 P i t) _ _ _ _ (by omega) hE2 hG2 hP2 k2 (by rw [e9]; exact hr2) (ruF_st W G.2 P i t hs) hq)
                  · refine wp_iload_4 dX6_goes_198 rfl ?_
                    refine wp_if_eq 238 dX6_goes_200 rfl rfl (fun c200 => ?_) (fun c200 => ?_)
                    · exact absurd c200 (by decide)
                    · refine wp_iload_5 dX6_goes_203 rfl ?_
                      refine wp_if_ne 211 dX6_goes_205 rfl rfl (fun c205 => ?_) (fun c205 => ?_)
                      · exact absurd (by decide) c205
                      · refine wp_goto 238 dX6_goes_208 rfl rfl ?_
                        refine wp_iinc_2 1 dX6_goes_238 rfl rfl (by decide) rfl ?_
                        refine wp_goto 35 dX6_goes_241 rfl rfl ?_
                        have e8 : ruF W G.2 P i t = gfR W G.2 P i (rsR i t) := by
                          unfold ruF
                          rw [if_pos (Or.inr (fun q2 => c74 (by rw [hP1.2.2.2.2.2]; exact q2)))]
                        have hH : hisR P (gH G.2 i) = true := by
                          rw [hisR, decide_eq_false (hw.2 i hi).1, Bool.not_false, Bool.true_and, ← hP1.2.2.2.2.1]
                          exact h1
                        have hO : hisR P (gO G.2 i) = false := by
                          rw [hisR, c97, Bool.false_and]
                        have e9 : ruF W G.2 P i t = (goR W G.2 P i (gH G.2 i) (rsR i t)) := by
                          rw [e8, gfR, hH, hO]; rfl
                        exact WP.cast (by rw [nI_1]) (ih C2 (i + 1) (ruF W G.2 P i t) _ _ _ _ (by omega) hE2 hG2 hP2 k2 (by rw [e9]; exact hr2) (ruF_st W G.2 P i t hs) hq)
                · exact absurd c179 (by decide)
              · exact absurd (by decide) c123
            · refine wp_aload_0 dX6_goes_100 rfl ?_
              refine wp_getf dX6_goes_101 rfl q599 fk6_8 (cg_24 hE.X) rfl ?_
              refine wp_aload_3 dX6_goes_104 rfl ?_
              refine wp_getfN dX6_goes_105 rfl q1059 fk14_1 ((cH_dyn hmd).trans hmx) rfl ?_
              refine wp_SNxR dX6_goes_108 rfl q1364 ms_X0_isOn c_isOn rfl rfl (Nat.le_of_ble_eq_true rfl) (Nat.le_of_ble_eq_true rfl) (Nat.zero_le _) (Nat.zero_le _) ?_
              refine wp_ifeq_b 118 dX6_goes_111 rfl rfl (fun c111 => ?_) (fun c111 => ?_)
              · refine wp_iconst 0 dX6_goes_118 rfl rfl ?_
                refine wp_istore_5 dX6_goes_119 rfl (by decide) rfl ?_
                refine wp_iload_5 dX6_goes_121 rfl ?_
                refine wp_if_eq 171 dX6_goes_123 rfl rfl (fun c123 => ?_) (fun c123 => ?_)
                · refine wp_aload_3 dX6_goes_171 rfl ?_
                  refine wp_getfN dX6_goes_172 rfl q1054 fk14_0 ((cH_dyn hmd).trans hmx) rfl ?_
                  refine wp_istore_6 dX6_goes_175 rfl (by decide) rfl ?_
                  refine wp_iload_4 dX6_goes_177 rfl ?_
                  refine wp_if_ne 187 dX6_goes_179 rfl rfl (fun c179 => ?_) (fun c179 => ?_)
                  · refine wp_aload_0 dX6_goes_187 rfl ?_
                    refine wp_aload_1 dX6_goes_188 rfl ?_
                    refine wp_iload_2 dX6_goes_189 rfl ?_
                    refine wp_iload_6 dX6_goes_190 rfl ?_
                    refine wp_VeR dX6_goes_192 rfl q1367 mv_X6_strikes (cg_24 hE1.X) rfl rfl (c_strikes4 (t := (rsR i t)) (o := (gH G.2 i)) hE1 hG1 hP1 hp hk hw hi hr1 (by omega)) rfl rfl (Nat.le_of_ble_eq_true rfl) (Nat.le_of_ble_eq_true rfl) (Nat.zero_le _) (Nat.zero_le _) (fun h1 hq0 => ?_)
                    obtain ⟨C2, rfl, hr2, c2⟩ := hq0
                    have k2 := k1.tr c2
                    have hE2 := c2.ev hE1
                    have hG2 := c2.g4 hG1
                    have hP2 := c2.pc hP1
                    refine wp_ifeq_b 238 dX6_goes_195 rfl rfl (fun c195 => ?_) (fun c195 => ?_)
                    · refine wp_iinc_2 1 dX6_goes_238 rfl rfl (by decide) rfl ?_
                      refine wp_goto 35 dX6_goes_241 rfl rfl ?_
                      have e8 : ruF W G.2 P i t = gfR W G.2 P i (rsR i t) := by
                        unfold ruF
                        rw [if_pos (Or.inr (fun q2 => c74 (by rw [hP1.2.2.2.2.2]; exact q2)))]
                      have hH : hisR P (gH G.2 i) = true := by
                        rw [hisR, decide_eq_false (hw.2 i hi).1, Bool.not_false, Bool.true_and, ← hP1.2.2.2.2.1]
                        exact h1
                      have hO : hisR P (gO G.2 i) = false := by
                        rw [hisR, c97, Bool.true_and, ← hP1.2.2.2.2.1]
                        exact c111
                      have e9 : ruF W G.2 P i t = (goR W G.2 P i (gH G.2 i) (rsR i t)) := by
                        rw [e8, gfR, hH, hO]; rfl
                      exact WP.cast (by rw [nI_1]) (ih C2 (i + 1) (ruF W G.2 P i t) _ _ _ _ (by omega) hE2 hG2 hP2 k2 (by rw [e9]; exact hr2) (ruF_st W G.2 P i t hs) hq)
                    · refine wp_iload_4 dX6_goes_198 rfl ?_
                      refine wp_if_eq 238 dX6_goes_200 rfl rfl (fun c200 => ?_) (fun c200 => ?_)
                      · exact absurd c200 (by decide)
                      · refine wp_iload_5 dX6_goes_203 rfl ?_
                        refine wp_if_ne 211 dX6_goes_205 rfl rfl (fun c205 => ?_) (fun c205 => ?_)
                        · exact absurd (by decide) c205
                        · refine wp_goto 238 dX6_goes_208 rfl rfl ?_
                          refine wp_iinc_2 1 dX6_goes_238 rfl rfl (by decide) rfl ?_
                          refine wp_goto 35 dX6_goes_241 rfl rfl ?_
                          have e8 : ruF W G.2 P i t = gfR W G.2 P i (rsR i t) := by
                            unfold ruF
                            rw [if_pos (Or.inr (fun q2 => c74 (by rw [hP1.2.2.2.2.2]; exact q2)))]
                          have hH : hisR P (gH G.2 i) = true := by
                            rw [hisR, decide_eq_false (hw.2 i hi).1, Bool.not_false, Bool.true_and, ← hP1.2.2.2.2.1]
                            exact h1
                          have hO : hisR P (gO G.2 i) = false := by
                            rw [hisR, c97, Bool.true_and, ← hP1.2.2.2.2.1]
                            exact c111
                          have e9 : ruF W G.2 P i t = (goR W G.2 P i (gH G.2 i) (rsR i t)) := by
                            rw [e8, gfR, hH, hO]; rfl
                          exact WP.cast (by rw [nI_1]) (ih C2 (i + 1) (ruF W G.2 P i t) _ _ _ _ (by omega) hE2 hG2 hP2 k2 (by rw [e9]; exact hr2) (ruF_st W G.2 P i t hs) hq)
                  · exact absurd c179 (by decide)
                · exact absurd (by decide) c123
              · refine wp_iconst 1 dX6_goes_114 rfl rfl ?_
                refine wp_goto 119 dX6_goes_115 rfl rfl ?_
                refine wp_istore_5 dX6_goes_119 rfl (by decide) rfl ?_
                refine wp_iload_5 dX6_goes_121 rfl ?_
                refine wp_if_eq 171 dX6_goes_123 rfl rfl (fun c123 => ?_) (fun c123 => ?_)
                · exact absurd c123 (by decide)
                · refine wp_iload_4 dX6_goes_126 rfl ?_
                  refine wp_if_eq 164 dX6_goes_128 rfl rfl (fun c128 => ?_) (fun c128 => ?_)
                  · exact absurd c128 (by decide)
                  · refine wp_aload_0 dX6_goes_131 rfl ?_
                    refine wp_getf dX6_goes_132 rfl q612 fk6_16 (cg_24 hE.X) rfl ?_
                    refine wp_aload_0 dX6_goes_135 rfl ?_
                    refine wp_getf dX6_goes_136 rfl q601 fk6_9 (cg_24 hE.X) rfl ?_
                    refine wp_aload_3 dX6_goes_139 rfl ?_
                    refine wp_getfN dX6_goes_140 rfl q1059 fk14_1 ((cH_dyn hmd).trans hmx) rfl ?_
                    refine wp_VNxR dX6_goes_143 rfl q1366 mv_X0_stepsOf hE1.o0 rfl rfl (c_stepsOf hE1 h0) rfl rfl (Nat.le_of_ble_eq_true rfl) (Nat.le_of_ble_eq_true rfl) (Nat.zero_le _) (Nat.zero_le _) ?_
                    refine wp_aload_0 dX6_goes_146 rfl ?_
                    refine wp_getf dX6_goes_147 rfl q612 fk6_16 (cg_24 hE.X) rfl ?_
                    refine wp_aload_0 dX6_goes_150 rfl ?_
                    refine wp_getf dX6_goes_151 rfl q601 fk6_9 (cg_24 hE.X) rfl ?_
                    refine wp_aload_3 dX6_goes_154 rfl ?_
                    refine wp_getfN dX6_goes_155 rfl q1054 fk14_0 ((cH_dyn hmd).trans hmx) rfl ?_
                    refine wp_VNxR dX6_goes_158 rfl q1366 mv_X0_stepsOf hE1.o0 rfl rfl (c_stepsOf hE1 h0) rfl rfl (Nat.le_of_ble_eq_true rfl) (Nat.le_of_ble_eq_true rfl) (Nat.zero_le _) (Nat.zero_le _) ?_
                    rw [hr1.1]
                    refine wp_icmp_ge 171 dX6_goes_161 rfl rfl (fun c161 => ?_) (fun c161 => ?_)
                    · refine wp_aload_3 dX6_goes_171 rfl ?_
                      refine wp_getfN dX6_goes_172 rfl q1054 fk14_0 ((cH_dyn hmd).trans hmx) rfl ?_
                      refine wp_istore_6 dX6_goes_175 rfl (by decide) rfl ?_
                      refine wp_iload_4 dX6_goes_177 rfl ?_
                      refine wp_if_ne 187 dX6_goes_179 rfl rfl (fun c179 => ?_) (fun c179 => ?_)
                      · refine wp_aload_0 dX6_goes_187 rfl ?_
                        refine wp_aload_1 dX6_goes_188 rfl ?_
                        refine wp_iload_2 dX6_goes_189 rfl ?_
                        refine wp_iload_6 dX6_goes_190 rfl ?_
                        refine wp_VeR dX6_goes_192 rfl q1367 mv_X6_strikes (cg_24 hE1.X) rfl rfl (c_strikes4 (t := (rsR i t)) (o := (gH G.2 i)) hE1 hG1 hP1 hp hk hw hi hr1 (by omega)) rfl rfl (Nat.le_of_ble_eq_true rfl) (Nat.le_of_ble_eq_true rfl) (Nat.zero_le _) (Nat.zero_le _) (fun h1 hq0 => ?_)
                        obtain ⟨C2, rfl, hr2, c2⟩ := hq0
                        have k2 := k1.tr c2
                        have hE2 := c2.ev hE1
                        have hG2 := c2.g4 hG1
                        have hP2 := c2.pc hP1
                        refine wp_ifeq_b 238 dX6_goes_195 rfl rfl (fun c195 => ?_) (fun c195 => ?_)
                        · refine wp_iinc_2 1 dX6_goes_238 rfl rfl (by decide) rfl ?_
                          refine wp_goto 35 dX6_goes_241 rfl rfl ?_
                          have e8 : ruF W G.2 P i t = gfR W G.2 P i (rsR i t) := by
                            unfold ruF
                            rw [if_pos (Or.inr (fun q2 => c74 (by rw [hP1.2.2.2.2.2]; exact q2)))]
                          have hH : hisR P (gH G.2 i) = true := by
                            rw [hisR, decide_eq_false (hw.2 i hi).1, Bool.not_false, Bool.true_and, ← hP1.2.2.2.2.1]
                            exact h1
                          have hO : hisR P (gO G.2 i) = true := by
                            rw [hisR, c97, Bool.true_and, ← hP1.2.2.2.2.1]
                            exact c111
                          have e9 : ruF W G.2 P i t = (goR W G.2 P i (gH G.2 i) (rsR i t)) := by
                            rw [e8, gfR, hH, hO]
                            rw [if_pos ⟨rfl, rfl⟩, if_pos c161, if_neg (by rw [c195]; decide), goR, if_neg (by rw [c195]; decide)]
                          exact WP.cast (by rw [nI_1]) (ih C2 (i + 1) (ruF W G.2 P i t) _ _ _ _ (by omega) hE2 hG2 hP2 k2 (by rw [e9]; exact hr2) (ruF_st W G.2 P i t hs) hq)
                        · refine wp_iload_4 dX6_goes_198 rfl ?_
                          refine wp_if_eq 238 dX6_goes_200 rfl rfl (fun c200 => ?_) (fun c200 => ?_)
                          · exact absurd c200 (by decide)
                          · refine wp_iload_5 dX6_goes_203 rfl ?_
                            refine wp_if_ne 211 dX6_goes_205 rfl rfl (fun c205 => ?_) (fun c205 => ?_)
                            · refine wp_aload_0 dX6_goes_211 rfl ?_
                              refine wp_aload_1 dX6_goes_212 rfl ?_
                              refine wp_iload_2 dX6_goes_213 rfl ?_
                              refine wp_iload_6 dX6_goes_214 rfl ?_
                              refine wp_aload_3 dX6_goes_216 rfl ?_
                              refine wp_getfN dX6_goes_217 rfl q1054 fk14_0 ((cH_dyn hmd).trans hmx) rfl ?_
                              refine wp_icmp_ne 230 dX6_goes_220 rfl rfl (fun c220 => absurd rfl c220) (fun c220 => ?_)
                              refine wp_aload_3 dX6_goes_223 rfl ?_
                              refine wp_getfN dX6_goes_224 rfl q1059 fk14_1 ((cH_dyn hmd).trans hmx) rfl ?_
                              refine wp_goto 234 dX6_goes_227 rfl rfl ?_
                              refine wp_VeR dX6_goes_234 rfl q1367 mv_X6_strikes (cg_24 hE2.X) rfl rfl (c_strikes4 (t := (goR W G.2 P i (gH G.2 i) (rsR i t))) (o := (gO G.2 i)) hE2 hG2 hP2 hp hk hw hi hr2 (by have := goR_st W G.2 P i (gH G.2 i) (rsR i t); omega)) rfl rfl (Nat.le_of_ble_eq_true rfl) (Nat.le_of_ble_eq_true rfl) (Nat.zero_le _) (Nat.zero_le _) (fun h1 hq0 => ?_)
                              obtain ⟨C3, rfl, hr3, c3⟩ := hq0
                              have k3 := k2.tr c3
                              have hE3 := c3.ev hE2
                              have hG3 := c3.g4 hG2
                              have hP3 := c3.pc hP2
                              refine wp_pop dX6_goes_237 rfl rfl ?_
                              refine wp_iinc_2 1 dX6_goes_238 rfl rfl (by decide) rfl ?_
                              refine wp_goto 35 dX6_goes_241 rfl rfl ?_
                              have e8 : ruF W G.2 P i t = gfR W G.2 P i (rsR i t) := by
                                unfold ruF
                                rw [if_pos (Or.inr (fun q2 => c74 (by rw [hP1.2.2.2.2.2]; exact q2)))]
                              have hH : hisR P (gH G.2 i) = true := by
                                rw [hisR, decide_eq_false (hw.2 i hi).1, Bool.not_false, Bool.true_and, ← hP1.2.2.2.2.1]
                                exact h1
                              have hO : hisR P (gO G.2 i) = true := by
                                rw [hisR, c97, Bool.true_and, ← hP1.2.2.2.2.1]
                                exact c111
                              have e9 : ruF W G.2 P i t = (goR W G.2 P i (gO G.2 i) (goR W G.2 P i (gH G.2 i) (rsR i t))) := by
                                rw [e8, gfR, hH, hO]
                                rw [if_pos ⟨rfl, rfl⟩, if_pos c161, if_pos c195]
                              exact WP.cast (by rw [nI_1]) (ih C3 (i + 1) (ruF W G.2 P i t) _ _ _ _ (by omega) hE3 hG3 hP3 k3 (by rw [e9]; exact hr3) (ruF_st W G.2 P i t hs) hq)
                            · exact absurd c205 (by decide)
                      · exact absurd c179 (by decide)
                    · have c161x := Int32.not_le.mp c161
                      refine wp_aload_3 dX6_goes_164 rfl ?_
                      refine wp_getfN dX6_goes_165 rfl q1059 fk14_1 ((cH_dyn hmd).trans hmx) rfl ?_
                      refine wp_goto 175 dX6_goes_168 rfl rfl ?_
                      refine wp_istore_6 dX6_goes_175 rfl (by decide) rfl ?_
                      refine wp_iload_4 dX6_goes_177 rfl ?_
                      refine wp_if_ne 187 dX6_goes_179 rfl rfl (fun c179 => ?_) (fun c179 => ?_)
                      · refine wp_aload_0 dX6_goes_187 rfl ?_
                        refine wp_aload_1 dX6_goes_188 rfl ?_
                        refine wp_iload_2 dX6_goes_189 rfl ?_
                        refine wp_iload_6 dX6_goes_190 rfl ?_
                        refine wp_VeR dX6_goes_192 rfl q1367 mv_X6_strikes (cg_24 hE1.X) rfl rfl (c_strikes4 (t := (rsR i t)) (o := (gO G.2 i)) hE1 hG1 hP1 hp hk hw hi hr1 (by omega)) rfl rfl (Nat.le_of_ble_eq_true rfl) (Nat.le_of_ble_eq_true rfl) (Nat.zero_le _) (Nat.zero_le _) (fun h1 hq0 => ?_)
                        obtain ⟨C2, rfl, hr2, c2⟩ := hq0
                        have k2 := k1.tr c2
                        have hE2 := c2.ev hE1
                        have hG2 := c2.g4 hG1
                        have hP2 := c2.pc hP1
                        refine wp_ifeq_b 238 dX6_goes_195 rfl rfl (fun c195 => ?_) (fun c195 => ?_)
                        · refine wp_iinc_2 1 dX6_goes_238 rfl rfl (by decide) rfl ?_
                          refine wp_goto 35 dX6_goes_241 rfl rfl ?_
                          have e8 : ruF W G.2 P i t = gfR W G.2 P i (rsR i t) := by
                            unfold ruF
                            rw [if_pos (Or.inr (fun q2 => c74 (by rw [hP1.2.2.2.2.2]; exact q2)))]
                          have hH : hisR P (gH G.2 i) = true := by
                            rw [hisR, decide_eq_false (hw.2 i hi).1, Bool.not_false, Bool.true_and, ← hP1.2.2.2.2.1]
                            exact h1
                          have hO : hisR P (gO G.2 i) = true := by
                            rw [hisR, c97, Bool.true_and, ← hP1.2.2.2.2.1]
                            exact c111
                          have e9 : ruF W G.2 P i t = (goR W G.2 P i (gO G.2 i) (rsR i t)) := by
                            rw [e8, gfR, hH, hO]
                            rw [if_pos ⟨rfl, rfl⟩, if_neg (Int32.not_le.mpr c161x), if_neg (by rw [c195]; decide), goR, if_neg (by rw [c195]; decide)]
                          exact WP.cast (by rw [nI_1]) (ih C2 (i + 1) (ruF W G.2 P i t) _ _ _ _ (by omega) hE2 hG2 hP2 k2 (by rw [e9]; exact hr2) (ruF_st W G.2 P i t hs) hq)
                        · refine wp_iload_4 dX6_goes_198 rfl ?_
                          refine wp_if_eq 238 dX6_goes_200 rfl rfl (fun c200 => ?_) (fun c200 => ?_)
                          · exact absurd c200 (by decide)
                          · refine wp_iload_5 dX6_goes_203 rfl ?_
                            refine wp_if_ne 211 dX6_goes_205 rfl rfl (fun c205 => ?_) (fun c205 => ?_)
                            · refine wp_aload_0 dX6_goes_211 rfl ?_
                              refine wp_aload_1 dX6_goes_212 rfl ?_
                              refine wp_iload_2 dX6_goes_213 rfl ?_
                              refine wp_iload_6 dX6_goes_214 rfl ?_
                              refine wp_aload_3 dX6_goes_216 rfl ?_
                              refine wp_getfN dX6_goes_217 rfl q1054 fk14_0 ((cH_dyn hmd).trans hmx) rfl ?_
                              refine wp_icmp_ne 230 dX6_goes_220 rfl rfl (fun c220 => ?_) (fun c220 => absurd c220 (hw.2 i hi).2)
                              refine wp_aload_3 dX6_goes_230 rfl ?_
                              refine wp_getfN dX6_goes_231 rfl q1054 fk14_0 ((cH_dyn hmd).trans hmx) rfl ?_
                              refine wp_VeR dX6_goes_234 rfl q1367 mv_X6_strikes (cg_24 hE2.X) rfl rfl (c_strikes4 (t := (goR W G.2 P i (gO G.2 i) (rsR i t))) (o := (gH G.2 i)) hE2 hG2 hP2 hp hk hw hi hr2 (by have := goR_st W G.2 P i (gO G.2 i) (rsR i t); omega)) rfl rfl (Nat.le_of_ble_eq_true rfl) (Nat.le_of_ble_eq_true rfl) (Nat.zero_le _) (Nat.zero_le _) (fun h1 hq0 => ?_)
                              obtain ⟨C3, rfl, hr3, c3⟩ := hq0
                              have k3 := k2.tr c3
                              have hE3 := c3.ev hE2
                              have hG3 := c3.g4 hG2
                              have hP3 := c3.pc hP2
                              refine wp_pop dX6_goes_237 rfl rfl ?_
                              refine wp_iinc_2 1 dX6_goes_238 rfl rfl (by decide) rfl ?_
                              refine wp_goto 35 dX6_goes_241 rfl rfl ?_
                              have e8 : ruF W G.2 P i t = gfR W G.2 P i (rsR i t) := by
                                unfold ruF
                                rw [if_pos (Or.inr (fun q2 => c74 (by rw [hP1.2.2.2.2.2]; exact q2)))]
                              have hH : hisR P (gH G.2 i) = true := by
                                rw [hisR, decide_eq_false (hw.2 i hi).1, Bool.not_false, Bool.true_and, ← hP1.2.2.2.2.1]
                                exact h1
                              have hO : hisR P (gO G.2 i) = true := by
                                rw [hisR, c97, Bool.true_and, ← hP1.2.2.2.2.1]
                                exact c111
                              have e9 : ruF W G.2 P i t = (goR W G.2 P i (gH G.2 i) (goR W G.2 P i (gO G.2 i) (rsR i t))) := by
                                rw [e8, gfR, hH, hO]
                                rw [if_pos ⟨rfl, rfl⟩, if_neg (Int32.not_le.mpr c161x), if_pos c195]
                              exact WP.cast (by rw [nI_1]) (ih C3 (i + 1) (ruF W G.2 P i t) _ _ _ _ (by omega) hE3 hG3 hP3 k3 (by rw [e9]; exact hr3) (ruF_st W G.2 P i t hs) hq)
                            · exact absurd c205 (by decide)
                      · exact absurd c179 (by decide)
        · refine wp_goto 238 dX6_goes_77 rfl rfl ?_
          refine wp_iinc_2 1 dX6_goes_238 rfl rfl (by decide) rfl ?_
          refine wp_goto 35 dX6_goes_241 rfl rfl ?_
          have e9 : ruF W G.2 P i t = rsR i t := by
            unfold ruF
            rw [if_neg (fun q => q.elim c67 (fun q2 => q2 (by rw [← hP1.2.2.2.2.2]; exact c74)))]
          exact WP.cast (by rw [nI_1]) (ih C1 (i + 1) (ruF W G.2 P i t) _ _ _ _ (by omega) hE1 hG1 hP1 k1 (by rw [e9]; exact hr1) (ruF_st W G.2 P i t hs) hq)
theorem cL_goes5 {g : GW} {S : SM} {X : AH} {lo hi b : Nat} {A : BA} {W : Nat → Int32} {C0 : SC} {G : GA} {P : RP} (hp : P.1.1 < nW W 6) (hk : P.1.2 < 1000) (hw : WG2 G) (h0 : ¬ W 0 = 0) (h60 : G.1 ≤ 60) {c n : Nat} {Q : Option Value → AH → Prop} : ∀ (k : Nat) (C : SC) (i : Nat) (t : RT) (v3 v4 v5 v6 : Option Value), i + k = G.1 → EV C X lo hi b A W → GM 4 20 21 22 C X G → PC C A P → CR C0 C → RC C t i → tSt t ≤ 2 * i → (∀ C', RC C' (itr (ruF W G.2 P) k i t) G.1 → CR C0 C' → Q (some (.ref 24)) (cH C' S X)) → WP g 6 yX6_goes cX6_goes 7 (some (.object "MoleBoard$Run")) 35 [some (.ref 24), some (.ref 19), some (.int (nI i)), v3, v4, v5, v6] [] (cH C S X) c n Q := by
  intro k
  induction k with
  | zero =>
    intro C i t v3 v4 v5 v6 hi0 hE hG hP hcr hr hs hq
    refine wp_iload_2 dX6_goes_35 rfl ?_
    refine wp_aload_1 dX6_goes_36 rfl ?_
    refine wp_getf dX6_goes_37 rfl q538 fk5_3 (cg_19 hE.X) rfl ?_
    rw [hG.1]
    refine wp_icmp_ge_k 244 dX6_goes_40 rfl rfl (by omega) (by omega) (fun c40 => ?_) (fun c40 => ?_)
    · refine wp_aload_0 dX6_goes_244 rfl ?_
      exact wp_areturn_r dX6_goes_245 rfl (Or.inl ⟨_, rfl⟩) (hq C (by rw [show G.1 = i by omega]; exact hr) hcr)
    · exact absurd c40 (by omega)
  | succ k ih =>
    intro C i t v3 v4 v5 v6 hi0 hE hG hP hcr hr hs hq
    refine wp_iload_2 dX6_goes_35 rfl ?_
    refine wp_aload_1 dX6_goes_36 rfl ?_
    refine wp_getf dX6_goes_37 rfl q538 fk5_3 (cg_19 hE.X) rfl ?_
    rw [hG.1]
    refine wp_icmp_ge_k 244 dX6_goes_40 rfl rfl (by omega) (by omega) (fun c40 => ?_) (fun c40 => ?_)
    · exact absurd c40 (by omega)
    · refine wp_aload_0 dX6_goes_43 rfl ?_
      refine wp_getf dX6_goes_44 rfl q584 fk6_0 (cg_24 hE.X) rfl ?_
      refine wp_iload_2 dX6_goes_47 rfl ?_
      refine wp_iconst 0 dX6_goes_48 rfl rfl ?_
      refine wp_iastoren i dX6_goes_49 rfl (cg_25 hE.X) rfl (by omega) (by decide) cs_25 ?_
      refine wp_aload_0 dX6_goes_50 rfl ?_
      refine wp_getf dX6_goes_51 rfl q586 fk6_1 (cg_24 hE.X) rfl ?_
      refine wp_iload_2 dX6_goes_54 rfl ?_
      refine wp_iconst (-1) dX6_goes_55 rfl rfl ?_
      refine wp_iastoren i dX6_goes_56 rfl (cg_26 hE.X) rfl (by omega) (by decide) cs_26 ?_
      have hi : i < G.1 := by omega
      have k1 := hcr.tr (rsC_CR i C)
      have hr1 := rsC_RC hr
      have hE1 := (rsC_CR i C).ev hE
      have hG1 := (rsC_CR i C).g5 hG
      have hP1 := (rsC_CR i C).pc hP
      have hs1 : tSt (rsR i t) ≤ 2 * i := hs
      obtain ⟨⟨m, hm, hmd, hmx⟩, -⟩ := hG1.2.2 i hi
      change WP g 6 _ _ _ _ _ _ _ (cH (rsC i C) S X) _ _ Q
      generalize rsC i C = C1 at *
      refine wp_aload_1 dX6_goes_57 rfl ?_
      refine wp_iload_2 dX6_goes_58 rfl ?_
      refine wp_UxR dX6_goes_59 rfl q1363 mu_X3_mole_X5 (cg_19 hE.X) rfl rfl (c_gmole5 hE1.X (by omega) hm) rfl rfl (Nat.le_of_ble_eq_true rfl) (Nat.le_of_ble_eq_true rfl) (Nat.zero_le _) (Nat.zero_le _) ?_
      refine wp_astore_3 dX6_goes_62 rfl (by decide) rfl ?_
      refine wp_aload_3 dX6_goes_63 rfl ?_
      refine wp_getfN dX6_goes_64 rfl q1063 fk14_2 ((cH_dyn hmd).trans hmx) rfl ?_
      refine wp_if_eq 80 dX6_goes_67 rfl rfl (fun c67 => ?_) (fun c67 => ?_)
      · refine wp_aload_0 dX6_goes_80 rfl ?_
        refine wp_getf dX6_goes_81 rfl q599 fk6_8 (cg_24 hE.X) rfl ?_
        refine wp_aload_3 dX6_goes_84 rfl ?_
        refine wp_getfN dX6_goes_85 rfl q1054 fk14_0 ((cH_dyn hmd).trans hmx) rfl ?_
        refine wp_SNxR dX6_goes_88 rfl q1364 ms_X0_isOn c_isOn rfl rfl (Nat.le_of_ble_eq_true rfl) (Nat.le_of_ble_eq_true rfl) (Nat.zero_le _) (Nat.zero_le _) ?_
        cases h1 : onB (C1.1 9) (gH G.2 i) with
        | false =>
          refine wp_istore_4 dX6_goes_91 rfl (by decide) rfl ?_
          refine wp_aload_3 dX6_goes_93 rfl ?_
          refine wp_cvR dX6_goes_94 rfl q1365 mv_X13_isTwin ((cH_dyn hmd).trans hmx) rfl rfl (c_isTwin ((cH_dyn hmd).trans hmx)) rfl rfl (Nat.le_of_ble_eq_true rfl) (Nat.le_of_ble_eq_true rfl) ?_
          refine wp_ifeq_b 118 dX6_goes_97 rfl rfl (fun c97 => ?_) (fun c97 => ?_)
          · refine wp_iconst 0 dX6_goes_118 rfl rfl ?_
            refine wp_istore_5 dX6_goes_119 rfl (by decide) rfl ?_
            refine wp_iload_5 dX6_goes_121 rfl ?_
            refine wp_if_eq 171 dX6_goes_123 rfl rfl (fun c123 => ?_) (fun c123 => ?_)
            · refine wp_aload_3 dX6_goes_171 rfl ?_
              refine wp_getfN dX6_goes_172 rfl q1054 fk14_0 ((cH_dyn hmd).trans hmx) rfl ?_
              refine wp_istore_6 dX6_goes_175 rfl (by decide) rfl ?_
              refine wp_iload_4 dX6_goes_177 rfl ?_
              refine wp_if_ne 187 dX6_goes_179 rfl rfl (fun c179 => ?_) (fun c179 => ?_)
              · exact absurd (by decide) c179
              · refine wp_iload_5 dX6_goes_182 rfl ?_
                refine wp_if_eq 238 dX6_goes_184 rfl rfl (fun c184 => ?_) (fun c184 => ?_)
                · refine wp_iinc_2 1 dX6_goes_238 rfl rfl (by decide) rfl ?_
                  refine wp_goto 35 dX6_goes_241 rfl rfl ?_
                  have e8 : ruF W G.2 P i t = gfR W G.2 P i (rsR i t) := by
                    unfold ruF
                    rw [if_pos (Or.inl c67)]
                  have hH : hisR P (gH G.2 i) = false := by
                    rw [hisR, decide_eq_false (hw.2 i hi).1, Bool.not_false, Bool.true_and, ← hP1.2.2.2.2.1]
                    exact h1
                  have hO : hisR P (gO G.2 i) = false := by
                    rw [hisR, c97, Bool.false_and]
                  have e9 : ruF W G.2 P i t = (rsR i t) := by
                    rw [e8, gfR, hH, hO]; rfl
                  exact WP.cast (by rw [nI_1]) (ih C1 (i + 1) (ruF W G.2 P i t) _ _ _ _ (by omega) hE1 hG1 hP1 k1 (by rw [e9]; exact hr1) (ruF_st W G.2 P i t hs) hq)
                · exact absurd (by decide) c184
            · exact absurd (by decide) c123
          · refine wp_aload_0 dX6_goes_100 rfl ?_
            refine wp_getf dX6_goes_101 rfl q599 fk6_8 (cg_24 hE.X) rfl ?_
            refine wp_aload_3 dX6_goes_104 rfl ?_
            refine wp_getfN dX6_goes_105 rfl q1059 fk14_1 ((cH_dyn hmd).trans hmx) rfl ?_
            refine wp_SNxR dX6_goes_108 rfl q1364 ms_X0_isOn c_isOn rfl rfl (Nat.le_of_ble_eq_true rfl) (Nat.le_of_ble_eq_true rfl) (Nat.zero_le _) (Nat.zero_le _) ?_
            refine wp_ifeq_b 118 dX6_goes_111 rfl rfl (fun c111 => ?_) (fun c111 => ?_)
            · refine wp_iconst 0 dX6_goes_118 rfl rfl ?_
              refine wp_istore_5 dX6_goes_119 rfl (by decide) rfl ?_
              refine wp_iload_5 dX6_goes_121 rfl ?_
              refine wp_if_eq 171 dX6_goes_123 rfl rfl (fun c123 => ?_) (fun c123 => ?_)
              · refine wp_aload_3 dX6_goes_171 rfl ?_
                refine wp_getfN dX6_goes_172 rfl q1054 fk14_0 ((cH_dyn hmd).trans hmx) rfl ?_
                refine wp_istore_6 dX6_goes_175 rfl (by decide) rfl ?_
                refine wp_iload_4 dX6_goes_177 rfl ?_
                refine wp_if_ne 187 dX6_goes_179 rfl rfl (fun c179 => ?_) (fun c179 => ?_)
                · exact absurd (by decide) c179
                · refine wp_iload_5 dX6_goes_182 rfl ?_
                  refine wp_if_eq 238 dX6_goes_184 rfl rfl (fun c184 => ?_) (fun c184 => ?_)
                  · refine wp_iinc_2 1 dX6_goes_238 rfl rfl (by decide) rfl ?_
                    refine wp_goto 35 dX6_goes_241 rfl rfl ?_
                    have e8 : ruF W G.2 P i t = gfR W G.2 P i (rsR i t) := by
                      unfold ruF
                      rw [if_pos (Or.inl c67)]
                    have hH : hisR P (gH G.2 i) = false := by
                      rw [hisR, decide_eq_false (hw.2 i hi).1, Bool.not_false, Bool.true_and, ← hP1.2.2.2.2.1]
                      exact h1
                    have hO : hisR P (gO G.2 i) = false := by
                      rw [hisR, c97, Bool.true_and, ← hP1.2.2.2.2.1]
                      exact c111
                    have e9 : ruF W G.2 P i t = (rsR i t) := by
                      rw [e8, gfR, hH, hO]; rfl
                    exact WP.cast (by rw [nI_1]) (ih C1 (i + 1) (ruF W G.2 P i t) _ _ _ _ (by omega) hE1 hG1 hP1 k1 (by rw [e9]; exact hr1) (ruF_st W G.2 P i t hs) hq)
                  · exact absurd (by decide) c184
              · exact absurd (by decide) c123
            · refine wp_iconst 1 dX6_goes_114 rfl rfl ?_
              refine wp_goto 119 dX6_goes_115 rfl rfl ?_
              refine wp_istore_5 dX6_goes_119 rfl (by decide) rfl ?_
              refine wp_iload_5 dX6_goes_121 rfl ?_
              refine wp_if_eq 171 dX6_goes_123 rfl rfl (fun c123 => ?_) (fun c123 => ?_)
              · exact absurd c123 (by decide)
              · refine wp_iload_4 dX6_goes_126 rfl ?_
                refine wp_if_eq 164 dX6_goes_128 rfl rfl (fun c128 => ?_) (fun c128 => ?_)
                · refine wp_aload_3 dX6_goes_164 rfl ?_
                  refine wp_getfN dX6_goes_165 rfl q1059 fk14_1 ((cH_dyn hmd).trans hmx) rfl ?_
                  refine wp_goto 175 dX6_goes_168 rfl rfl ?_
                  refine wp_istore_6 dX6_goes_175 rfl (by decide) rfl ?_
                  refine wp_iload_4 dX6_goes_177 rfl ?_
                  refine wp_if_ne 187 dX6_goes_179 rfl rfl (fun c179 => ?_) (fun c179 => ?_)
                  · exact absurd (by decide) c179
                  · refine wp_iload_5 dX6_goes_182 rfl ?_
                    refine wp_if_eq 238 dX6_goes_184 rfl rfl (fun c184 => ?_) (fun c184 => ?_)
                    · exact absurd c184 (by decide)
                    · refine wp_aload_0 dX6_goes_187 rfl ?_
                      refine wp_aload_1 dX6_goes_188 rfl ?_
                      refine wp_iload_2 dX6_goes_189 rfl ?_
                      refine wp_iload_6 dX6_goes_190 rfl ?_
                      refine wp_VeR dX6_goes_192 rfl q1367 mv_X6_strikes (cg_24 hE1.X) rfl rfl (c_strikes5 (t := (rsR i t)) (o := (gO G.2 i)) hE1 hG1 hP1 hp hk hw hi hr1 (by omega)) rfl rfl (Nat.le_of_ble_eq_true rfl) (Nat.le_of_ble_eq_true rfl) (Nat.zero_le _) (Nat.zero_le _) (fun h1 hq0 => ?_)
                      obtain ⟨C2, rfl, hr2, c2⟩ := hq0
                      have k2 := k1.tr c2
                      have hE2 := c2.ev hE1
                      have hG2 := c2.g5 hG1
                      have hP2 := c2.pc hP1
                      refine wp_ifeq_b 238 dX6_goes_195 rfl rfl (fun c195 => ?_) (fun c195 => ?_)
                      · refine wp_iinc_2 1 dX6_goes_238 rfl rfl (by decide) rfl ?_
                        refine wp_goto 35 dX6_goes_241 rfl rfl ?_
                        have e8 : ruF W G.2 P i t = gfR W G.2 P i (rsR i t) := by
                          unfold ruF
                          rw [if_pos (Or.inl c67)]
                        have hH : hisR P (gH G.2 i) = false := by
                          rw [hisR, decide_eq_false (hw.2 i hi).1, Bool.not_false, Bool.true_and, ← hP1.2.2.2.2.1]
                          exact h1
                        have hO : hisR P (gO G.2 i) = true := by
                          rw [hisR, c97, Bool.true_and, ← hP1.2.2.2.2.1]
                          exact c111
                        have e9 : ruF W G.2 P i t = (goR W G.2 P i (gO G.2 i) (rsR i t)) := by
                          rw [e8, gfR, hH, hO]; rfl
                        exact WP.cast (by rw [nI_1]) (ih C2 (i + 1) (ruF W G.2 P i t) _ _ _ _ (by omega) hE2 hG2 hP2 k2 (by rw [e9]; exact hr2) (ruF_st W G.2 P i t hs) hq)
                      · refine wp_iload_4 dX6_goes_198 rfl ?_
                        refine wp_if_eq 238 dX6_goes_200 rfl rfl (fun c200 => ?_) (fun c200 => ?_)
                        · refine wp_iinc_2 1 dX6_goes_238 rfl rfl (by decide) rfl ?_
                          refine wp_goto 35 dX6_goes_241 rfl rfl ?_
                          have e8 : ruF W G.2 P i t = gfR W G.2 P i (rsR i t) := by
                            unfold ruF
                            rw [if_pos (Or.inl c67)]
                          have hH : hisR P (gH G.2 i) = false := by
                            rw [hisR, decide_eq_false (hw.2 i hi).1, Bool.not_false, Bool.true_and, ← hP1.2.2.2.2.1]
                            exact h1
                          have hO : hisR P (gO G.2 i) = true := by
                            rw [hisR, c97, Bool.true_and, ← hP1.2.2.2.2.1]
                            exact c111
                          have e9 : ruF W G.2 P i t = (goR W G.2 P i (gO G.2 i) (rsR i t)) := by
                            rw [e8, gfR, hH, hO]; rfl
                          exact WP.cast (by rw [nI_1]) (ih C2 (i + 1) (ruF W G.2 P i t) _ _ _ _ (by omega) hE2 hG2 hP2 k2 (by rw [e9]; exact hr2) (ruF_st W G.2 P i t hs) hq)
                        · exact absurd (by decide) c200
                · exact absurd (by decide) c128
        | true =>
          refine wp_istore_4 dX6_goes_91 rfl (by decide) rfl ?_
          refine wp_aload_3 dX6_goes_93 rfl ?_
          refine wp_cvR dX6_goes_94 rfl q1365 mv_X13_isTwin ((cH_dyn hmd).trans hmx) rfl rfl (c_isTwin ((cH_dyn hmd).trans hmx)) rfl rfl (Nat.le_of_ble_eq_true rfl) (Nat.le_of_ble_eq_true rfl) ?_
          refine wp_ifeq_b 118 dX6_goes_97 rfl rfl (fun c97 => ?_) (fun c97 => ?_)
          · refine wp_iconst 0 dX6_goes_118 rfl rfl ?_
            refine wp_istore_5 dX6_goes_119 rfl (by decide) rfl ?_
            refine wp_iload_5 dX6_goes_121 rfl ?_
            refine wp_if_eq 171 dX6_goes_123 rfl rfl (fun c123 => ?_) (fun c123 => ?_)
            · refine wp_aload_3 dX6_goes_171 rfl ?_
              refine wp_getfN dX6_goes_172 rfl q1054 fk14_0 ((cH_dyn hmd).trans hmx) rfl ?_
              refine wp_istore_6 dX6_goes_175 rfl (by decide) rfl ?_
              refine wp_iload_4 dX6_goes_177 rfl ?_
              refine wp_if_ne 187 dX6_goes_179 rfl rfl (fun c179 => ?_) (fun c179 => ?_)
              · refine wp_aload_0 dX6_goes_187 rfl ?_
                refine wp_aload_1 dX6_goes_188 rfl ?_
                refine wp_iload_2 dX6_goes_189 rfl ?_
                refine wp_iload_6 dX6_goes_190 rfl ?_
                refine wp_VeR dX6_goes_192 rfl q1367 mv_X6_strikes (cg_24 hE1.X) rfl rfl (c_strikes5 (t := (rsR i t)) (o := (gH G.2 i)) hE1 hG1 hP1 hp hk hw hi hr1 (by omega)) rfl rfl (Nat.le_of_ble_eq_true rfl) (Nat.le_of_ble_eq_true rfl) (Nat.zero_le _) (Nat.zero_le _) (fun h1 hq0 => ?_)
                obtain ⟨C2, rfl, hr2, c2⟩ := hq0
                have k2 := k1.tr c2
                have hE2 := c2.ev hE1
                have hG2 := c2.g5 hG1
                have hP2 := c2.pc hP1
                refine wp_ifeq_b 238 dX6_goes_195 rfl rfl (fun c195 => ?_) (fun c195 => ?_)
                · refine wp_iinc_2 1 dX6_goes_238 rfl rfl (by decide) rfl ?_
                  refine wp_goto 35 dX6_goes_241 rfl rfl ?_
                  have e8 : ruF W G.2 P i t = gfR W G.2 P i (rsR i t) := by
                    unfold ruF
                    rw [if_pos (Or.inl c67)]
                  have hH : hisR P (gH G.2 i) = true := by
                    rw [hisR, decide_eq_false (hw.2 i hi).1, Bool.not_false, Bool.true_and, ← hP1.2.2.2.2.1]
                    exact h1
                  have hO : hisR P (gO G.2 i) = false := by
                    rw [hisR, c97, Bool.false_and]
                  have e9 : ruF W G.2 P i t = (goR W G.2 P i (gH G.2 i) (rsR i t)) := by
                    rw [e8, gfR, hH, hO]; rfl
                  exact WP.cast (by rw [nI_1]) (ih C2 (i + 1) (ruF W G.2 P i t) _ _ _ _ (by omega) hE2 hG2 hP2 k2 (by rw [e9]; exact hr2) (ruF_st W G.2 P i t hs) hq)
                · refine wp_iload_4 dX6_goes_198 rfl ?_
                  refine wp_if_eq 238 dX6_goes_200 rfl rfl (fun c200 => ?_) (fun c200 => ?_)
                  · exact absurd c200 (by decide)
                  · refine wp_iload_5 dX6_goes_203 rfl ?_
                    refine wp_if_ne 211 dX6_goes_205 rfl rfl (fun c205 => ?_) (fun c205 => ?_)
                    · exact absurd (by decide) c205
                    · refine wp_goto 238 dX6_goes_208 rfl rfl ?_
                      refine wp_iinc_2 1 dX6_goes_238 rfl rfl (by decide) rfl ?_
                      refine wp_goto 35 dX6_goes_241 rfl rfl ?_
                      have e8 : ruF W G.2 P i t = gfR W G.2 P i (rsR i t) := by
                        unfold ruF
                        rw [if_pos (Or.inl c67)]
                      have hH : hisR P (gH G.2 i) = true := by
                        rw [hisR, decide_eq_false (hw.2 i hi).1, Bool.not_false, Bool.true_and, ← hP1.2.2.2.2.1]
                        exact h1
                      have hO : hisR P (gO G.2 i) = false := by
                        rw [hisR, c97, Bool.false_and]
                      have e9 : ruF W G.2 P i t = (goR W G.2 P i (gH G.2 i) (rsR i t)) := by
                        rw [e8, gfR, hH, hO]; rfl
                      exact WP.cast (by rw [nI_1]) (ih C2 (i + 1) (ruF W G.2 P i t) _ _ _ _ (by omega) hE2 hG2 hP2 k2 (by rw [e9]; exact hr2) (ruF_st W G.2 P i t hs) hq)
              · exact absurd c179 (by decide)
            · exact absurd (by decide) c123
          · refine wp_aload_0 dX6_goes_100 rfl ?_
            refine wp_getf dX6_goes_101 rfl q599 fk6_8 (cg_24 hE.X) rfl ?_
            refine wp_aload_3 dX6_goes_104 rfl ?_
            refine wp_getfN dX6_goes_105 rfl q1059 fk14_1 ((cH_dyn hmd).trans hmx) rfl ?_
            refine wp_SNxR dX6_goes_108 rfl q1364 ms_X0_isOn c_isOn rfl rfl (Nat.le_of_ble_eq_true rfl) (Nat.le_of_ble_eq_true rfl) (Nat.zero_le _) (Nat.zero_le _) ?_
            refine wp_ifeq_b 118 dX6_goes_111 rfl rfl (fun c111 => ?_) (fun c111 => ?_)
            · refine wp_iconst 0 dX6_goes_118 rfl rfl ?_
              refine wp_istore_5 dX6_goes_119 rfl (by decide) rfl ?_
              refine wp_iload_5 dX6_goes_121 rfl ?_
              refine wp_if_eq 171 dX6_goes_123 rfl rfl (fun c123 => ?_) (fun c123 => ?_)
              · refine wp_aload_3 dX6_goes_171 rfl ?_
                refine wp_getfN dX6_goes_172 rfl q1054 fk14_0 ((cH_dyn hmd).trans hmx) rfl ?_
                refine wp_istore_6 dX6_goes_175 rfl (by decide) rfl ?_
                refine wp_iload_4 dX6_goes_177 rfl ?_
                refine wp_if_ne 187 dX6_goes_179 rfl rfl (fun c179 => ?_) (fun c179 => ?_)
                · refine wp_aload_0 dX6_goes_187 rfl ?_
                  refine wp_aload_1 dX6_goes_188 rfl ?_
                  refine wp_iload_2 dX6_goes_189 rfl ?_
                  refine wp_iload_6 dX6_goes_190 rfl ?_
                  refine wp_VeR dX6_goes_192 rfl q1367 mv_X6_strikes (cg_24 hE1.X) rfl rfl (c_strikes5 (t := (rsR i t)) (o := (gH G.2 i)) hE1 hG1 hP1 hp hk hw hi hr1 (by omega)) rfl rfl (Nat.le_of_ble_eq_true rfl) (Nat.le_of_ble_eq_true rfl) (Nat.zero_le _) (Nat.zero_le _) (fun h1 hq0 => ?_)
                  obtain ⟨C2, rfl, hr2, c2⟩ := hq0
                  have k2 := k1.tr c2
                  have hE2 := c2.ev hE1
                  have hG2 := c2.g5 hG1
                  have hP2 := c2.pc hP1
                  refine wp_ifeq_b 238 dX6_goes_195 rfl rfl (fun c195 => ?_) (fun c195 => ?_)
                  · refine wp_iinc_2 1 dX6_goes_238 rfl rfl (by decide) rfl ?_
                    refine wp_goto 35 dX6_goes_241 rfl rfl ?_
                    have e8 : ruF W G.2 P i t = gfR W G.2 P i (rsR i t) := by
                      unfold ruF
                      rw [if_pos (Or.inl c67)]
                    have hH : hisR P (gH G.2 i) = true := by
                      rw [hisR, decide_eq_false (hw.2 i hi).1, Bool.not_false, Bool.true_and, ← hP1.2.2.2.2.1]
                      exact h1
                    have hO : hisR P (gO G.2 i) = false := by
                      rw [hisR, c97, Bool.true_and, ← hP1.2.2.2.2.1]
                      exact c111
                    have e9 : ruF W G.2 P i t = (goR W G.2 P i (gH G.2 i) (rsR i t)) := by
                      rw [e8, gfR, hH, hO]; rfl
                    exact WP.cast (by rw [nI_1]) (ih C2 (i + 1) (ruF W G.2 P i t) _ _ _ _ (by omega) hE2 hG2 hP2 k2 (by rw [e9]; exact hr2) (ruF_st W G.2 P i t hs) hq)
                  · refine wp_iload_4 dX6_goes_198 rfl ?_
                    refine wp_if_eq 238 dX6_goes_200 rfl rfl (fun c200 => ?_) (fun c200 => ?_)
                    · exact absurd c200 (by decide)
                    · refine wp_iload_5 dX6_goes_203 rfl ?_
                      refine wp_if_ne 211 dX6_goes_205 rfl rfl (fun c205 => ?_) (fun c205 => ?_)
                      · exact absurd (by decide) c205
                      · refine wp_goto 238 dX6_goes_208 rfl rfl ?_
                        refine wp_iinc_2 1 dX6_goes_238 rfl rfl (by decide) rfl ?_
                        refine wp_goto 35 dX6_goes_241 rfl rfl ?_
                        have e8 : ruF W G.2 P i t = gfR W G.2 P i (rsR i t) := by
                          unfold ruF
                          rw [if_pos (Or.inl c67)]
                        have hH : hisR P (gH G.2 i) = true := by
                          rw [hisR, decide_eq_false (hw.2 i hi).1, Bool.not_false, Bool.true_and, ← hP1.2.2.2.2.1]
                          exact h1
                        have hO : hisR P (gO G.2 i) = false := by
                          rw [hisR, c97, Bool.true_and, ← hP1.2.2.2.2.1]
                          exact c111
                        have e9 : ruF W G.2 P i t = (goR W G.2 P i (gH G.2 i) (rsR i t)) := by
                          rw [e8, gfR, hH, hO]; rfl
                        exact WP.cast (by rw [nI_1]) (ih C2 (i + 1) (ruF W G.2 P i t) _ _ _ _ (by omega) hE2 hG2 hP2 k2 (by rw [e9]; exact hr2) (ruF_st W G.2 P i t hs) hq)
                · exact absurd c179 (by decide)
              · exact absurd (by decide) c123
            · refine wp_iconst 1 dX6_goes_114 rfl rfl ?_
              refine wp_goto 119 dX6_goes_115 rfl rfl ?_
              refine wp_istore_5 dX6_goes_119 rfl (by decide) rfl ?_
              refine wp_iload_5 dX6_goes_121 rfl ?_
              refine wp_if_eq 171 dX6_goes_123 rfl rfl (fun c123 => ?_) (fun c123 => ?_)
              · exact absurd c123 (by decide)
              · refine wp_iload_4 dX6_goes_126 rfl ?_
                refine wp_if_eq 164 dX6_goes_128 rfl rfl (fun c128 => ?_) (fun c128 => ?_)
                · exact absurd c128 (by decide)
                · refine wp_aload_0 dX6_goes_131 rfl ?_
                  refine wp_getf dX6_goes_132 rfl q612 fk6_16 (cg_24 hE.X) rfl ?_
                  refine wp_aload_0 dX6_goes_135 rfl ?_
                  refine wp_getf dX6_goes_136 rfl q601 fk6_9 (cg_24 hE.X) rfl ?_
                  refine wp_aload_3 dX6_goes_139 rfl ?_
                  refine wp_getfN dX6_goes_140 rfl q1059 fk14_1 ((cH_dyn hmd).trans hmx) rfl ?_
                  refine wp_VNxR dX6_goes_143 rfl q1366 mv_X0_stepsOf hE1.o0 rfl rfl (c_stepsOf hE1 h0) rfl rfl (Nat.le_of_ble_eq_true rfl) (Nat.le_of_ble_eq_true rfl) (Nat.zero_le _) (Nat.zero_le _) ?_
                  refine wp_aload_0 dX6_goes_146 rfl ?_
                  refine wp_getf dX6_goes_147 rfl q612 fk6_16 (cg_24 hE.X) rfl ?_
                  refine wp_aload_0 dX6_goes_150 rfl ?_
                  refine wp_getf dX6_goes_151 rfl q601 fk6_9 (cg_24 hE.X) rfl ?_
                  refine wp_aload_3 dX6_goes_154 rfl ?_
                  refine wp_getfN dX6_goes_155 rfl q1054 fk14_0 ((cH_dyn hmd).trans hmx) rfl ?_
                  refine wp_VNxR dX6_goes_158 rfl q1366 mv_X0_stepsOf hE1.o0 rfl rfl (c_stepsOf hE1 h0) rfl rfl (Nat.le_of_ble_eq_true rfl) (Nat.le_of_ble_eq_true rfl) (Nat.zero_le _) (Nat.zero_le _) ?_
                  rw [hr1.1]
                  refine wp_icmp_ge 171 dX6_goes_161 rfl rfl (fun c161 => ?_) (fun c161 => ?_)
                  · refine wp_aload_3 dX6_goes_171 rfl ?_
                    refine wp_getfN dX6_goes_172 rfl q1054 fk14_0 ((cH_dyn hmd).trans hmx) rfl ?_
                    refine wp_istore_6 dX6_goes_175 rfl (by decide) rfl ?_
                    refine wp_iload_4 dX6_goes_177 rfl ?_
                    refine wp_if_ne 187 dX6_goes_179 rfl rfl (fun c179 => ?_) (fun c179 => ?_)
                    · refine wp_aload_0 dX6_goes_187 rfl ?_
                      refine wp_aload_1 dX6_goes_188 rfl ?_
                      refine wp_iload_2 dX6_goes_189 rfl ?_
                      refine wp_iload_6 dX6_goes_190 rfl ?_
                      refine wp_VeR dX6_goes_192 rfl q1367 mv_X6_strikes (cg_24 hE1.X) rfl rfl (c_strikes5 (t := (rsR i t)) (o := (gH G.2 i)) hE1 hG1 hP1 hp hk hw hi hr1 (by omega)) rfl rfl (Nat.le_of_ble_eq_true rfl) (Nat.le_of_ble_eq_true rfl) (Nat.zero_le _) (Nat.zero_le _) (fun h1 hq0 => ?_)
                      obtain ⟨C2, rfl, hr2, c2⟩ := hq0
                      have k2 := k1.tr c2
                      have hE2 := c2.ev hE1
                      have hG2 := c2.g5 hG1
                      have hP2 := c2.pc hP1
                      refine wp_ifeq_b 238 dX6_goes_195 rfl rfl (fun c195 => ?_) (fun c195 => ?_)
                      · refine wp_iinc_2 1 dX6_goes_238 rfl rfl (by decide) rfl ?_
                        refine wp_goto 35 dX6_goes_241 rfl rfl ?_
                        have e8 : ruF W G.2 P i t = gfR W G.2 P i (rsR i t) := by
                          unfold ruF
                          rw [if_pos (Or.inl c67)]
                        have hH : hisR P (gH G.2 i) = true := by
                          rw [hisR, decide_eq_false (hw.2 i hi).1, Bool.not_false, Bool.true_and, ← hP1.2.2.2.2.1]
                          exact h1
                        have hO : hisR P (gO G.2 i) = true := by
                          rw [hisR, c97, Bool.true_and, ← hP1.2.2.2.2.1]
                          exact c111
                        have e9 : ruF W G.2 P i t = (goR W G.2 P i (gH G.2 i) (rsR i t)) := by
                          rw [e8, gfR, hH, hO]
                          rw [if_pos ⟨rfl, rfl⟩, if_pos c161, if_neg (by rw [c195]; decide), goR, if_neg (by rw [c195]; decide)]
                        exact WP.cast (by rw [nI_1]) (ih C2 (i + 1) (ruF W G.2 P i t) _ _ _ _ (by omega) hE2 hG2 hP2 k2 (by rw [e9]; exact hr2) (ruF_st W G.2 P i t hs) hq)
                      · refine wp_iload_4 dX6_goes_198 rfl ?_
                        refine wp_if_eq 238 dX6_goes_200 rfl rfl (fun c200 => ?_) (fun c200 => ?_)
                        · exact absurd c200 (by decide)
                        · refine wp_iload_5 dX6_goes_203 rfl ?_
                          refine wp_if_ne 211 dX6_goes_205 rfl rfl (fun c205 => ?_) (fun c205 => ?_)
                          · refine wp_aload_0 dX6_goes_211 rfl ?_
                            refine wp_aload_1 dX6_goes_212 rfl ?_
                            refine wp_iload_2 dX6_goes_213 rfl ?_
                            refine wp_iload_6 dX6_goes_214 rfl ?_
                            refine wp_aload_3 dX6_goes_216 rfl ?_
                            refine wp_getfN dX6_goes_217 rfl q1054 fk14_0 ((cH_dyn hmd).trans hmx) rfl ?_
                            refine wp_icmp_ne 230 dX6_goes_220 rfl rfl (fun c220 => absurd rfl c220) (fun c220 => ?_)
                            refine wp_aload_3 dX6_goes_223 rfl ?_
                            refine wp_getfN dX6_goes_224 rfl q1059 fk14_1 ((cH_dyn hmd).trans hmx) rfl ?_
                            refine wp_goto 234 dX6_goes_227 rfl rfl ?_
                            refine wp_VeR dX6_goes_234 rfl q1367 mv_X6_strikes (cg_24 hE2.X) rfl rfl (c_strikes5 (t := (goR W G.2 P i (gH G.2 i) (rsR i t))) (o := (gO G.2 i)) hE2 hG2 hP2 hp hk hw hi hr2 (by have := goR_st W G.2 P i (gH G.2 i) (rsR i t); omega)) rfl rfl (Nat.le_of_ble_eq_true rfl) (Nat.le_of_ble_eq_true rfl) (Nat.zero_le _) (Nat.zero_le _) (fun h1 hq0 => ?_)
                            obtain ⟨C3, rfl, hr3, c3⟩ := hq0
                            have k3 := k2.tr c3
                            have hE3 := c3.ev hE2
                            have hG3 := c3.g5 hG2
                            have hP3 := c3.pc hP2
                            refine wp_pop dX6_goes_237 rfl rfl ?_
                            refine wp_iinc_2 1 dX6_goes_238 rfl rfl (by decide) rfl ?_
                            refine wp_goto 35 dX6_goes_241 rfl rfl ?_
                            have e8 : ruF W G.2 P i t = gfR W G.2 P i (rsR i t) := by
                              unfold ruF
                              rw [if_pos (Or.inl c67)]
                            have hH : hisR P (gH G.2 i) = true := by
                              rw [hisR, decide_eq_false (hw.2 i hi).1, Bool.not_false, Bool.true_and, ← hP1.2.2.2.2.1]
                              exact h1
                            have hO : hisR P (gO G.2 i) = true := by
                              rw [hisR, c97, Bool.true_and, ← hP1.2.2.2.2.1]
                              exact c111
                            have e9 : ruF W G.2 P i t = (goR W G.2 P i (gO G.2 i) (goR W G.2 P i (gH G.2 i) (rsR i t))) := by
                              rw [e8, gfR, hH, hO]
                              rw [if_pos ⟨rfl, rfl⟩, if_pos c161, if_pos c195]
                            exact WP.cast (by rw [nI_1]) (ih C3 (i + 1) (ruF W G.2 P i t) _ _ _ _ (by omega) hE3 hG3 hP3 k3 (by rw [e9]; exact hr3) (ruF_st W G.2 P i t hs) hq)
                          · exact absurd c205 (by decide)
                    · exact absurd c179 (by decide)
                  · have c161x := Int32.not_le.mp c161
                    refine wp_aload_3 dX6_goes_164 rfl ?_
                    refine wp_getfN dX6_goes_165 rfl q1059 fk14_1 ((cH_dyn hmd).trans hmx) rfl ?_
                    refine wp_goto 175 dX6_goes_168 rfl rfl ?_
                    refine wp_istore_6 dX6_goes_175 rfl (by decide) rfl ?_
                    refine wp_iload_4 dX6_goes_177 rfl ?_
                    refine wp_if_ne 187 dX6_goes_179 rfl rfl (fun c179 => ?_) (fun c179 => ?_)
                    · refine wp_aload_0 dX6_goes_187 rfl ?_
                      refine wp_aload_1 dX6_goes_188 rfl ?_
                      refine wp_iload_2 dX6_goes_189 rfl ?_
                      refine wp_iload_6 dX6_goes_190 rfl ?_
                      refine wp_VeR dX6_goes_192 rfl q1367 mv_X6_strikes (cg_24 hE1.X) rfl rfl (c_strikes5 (t := (rsR i t)) (o := (gO G.2 i)) hE1 hG1 hP1 hp hk hw hi hr1 (by omega)) rfl rfl (Nat.le_of_ble_eq_true rfl) (Nat.le_of_ble_eq_true rfl) (Nat.zero_le _) (Nat.zero_le _) (fun h1 hq0 => ?_)
                      obtain ⟨C2, rfl, hr2, c2⟩ := hq0
                      have k2 := k1.tr c2
                      have hE2 := c2.ev hE1
                      have hG2 := c2.g5 hG1
                      have hP2 := c2.pc hP1
                      refine wp_ifeq_b 238 dX6_goes_195 rfl rfl (fun c195 => ?_) (fun c195 => ?_)
                      · refine wp_iinc_2 1 dX6_goes_238 rfl rfl (by decide) rfl ?_
                        refine wp_goto 35 dX6_goes_241 rfl rfl ?_
                        have e8 : ruF W G.2 P i t = gfR W G.2 P i (rsR i t) := by
                          unfold ruF
                          rw [if_pos (Or.inl c67)]
                        have hH : hisR P (gH G.2 i) = true := by
                          rw [hisR, decide_eq_false (hw.2 i hi).1, Bool.not_false, Bool.true_and, ← hP1.2.2.2.2.1]
                          exact h1
                        have hO : hisR P (gO G.2 i) = true := by
                          rw [hisR, c97, Bool.true_and, ← hP1.2.2.2.2.1]
                          exact c111
                        have e9 : ruF W G.2 P i t = (goR W G.2 P i (gO G.2 i) (rsR i t)) := by
                          rw [e8, gfR, hH, hO]
                          rw [if_pos ⟨rfl, rfl⟩, if_neg (Int32.not_le.mpr c161x), if_neg (by rw [c195]; decide), goR, if_neg (by rw [c195]; decide)]
                        exact WP.cast (by rw [nI_1]) (ih C2 (i + 1) (ruF W G.2 P i t) _ _ _ _ (by omega) hE2 hG2 hP2 k2 (by rw [e9]; exact hr2) (ruF_st W G.2 P i t hs) hq)
                      · refine wp_iload_4 dX6_goes_198 rfl ?_
                        refine wp_if_eq 238 dX6_goes_200 rfl rfl (fun c200 => ?_) (fun c200 => ?_)
                        · exact absurd c200 (by decide)
                        · refine wp_iload_5 dX6_goes_203 rfl ?_
                          refine wp_if_ne 211 dX6_goes_205 rfl rfl (fun c205 => ?_) (fun c205 => ?_)
                          · refine wp_aload_0 dX6_goes_211 rfl ?_
                            refine wp_aload_1 dX6_goes_212 rfl ?_
                            refine wp_iload_2 dX6_goes_213 rfl ?_
                            refine wp_iload_6 dX6_goes_214 rfl ?_
                            refine wp_aload_3 dX6_goes_216 rfl ?_
                            refine wp_getfN dX6_goes_217 rfl q1054 fk14_0 ((cH_dyn hmd).trans hmx) rfl ?_
                            refine wp_icmp_ne 230 dX6_goes_220 rfl rfl (fun c220 => ?_) (fun c220 => absurd c220 (hw.2 i hi).2)
                            refine wp_aload_3 dX6_goes_230 rfl ?_
                            refine wp_getfN dX6_goes_231 rfl q1054 fk14_0 ((cH_dyn hmd).trans hmx) rfl ?_
                            refine wp_VeR dX6_goes_234 rfl q1367 mv_X6_strikes (cg_24 hE2.X) rfl rfl (c_strikes5 (t := (goR W G.2 P i (gO G.2 i) (rsR i t))) (o := (gH G.2 i)) hE2 hG2 hP2 hp hk hw hi hr2 (by have := goR_st W G.2 P i (gO G.2 i) (rsR i t); omega)) rfl rfl (Nat.le_of_ble_eq_true rfl) (Nat.le_of_ble_eq_true rfl) (Nat.zero_le _) (Nat.zero_le _) (fun h1 hq0 => ?_)
                            obtain ⟨C3, rfl, hr3, c3⟩ := hq0
                            have k3 := k2.tr c3
                            have hE3 := c3.ev hE2
                            have hG3 := c3.g5 hG2
                            have hP3 := c3.pc hP2
                            refine wp_pop dX6_goes_237 rfl rfl ?_
                            refine wp_iinc_2 1 dX6_goes_238 rfl rfl (by decide) rfl ?_
                            refine wp_goto 35 dX6_goes_241 rfl rfl ?_
                            have e8 : ruF W G.2 P i t = gfR W G.2 P i (rsR i t) := by
                              unfold ruF
                              rw [if_pos (Or.inl c67)]
                            have hH : hisR P (gH G.2 i) = true := by
                              rw [hisR, decide_eq_false (hw.2 i hi).1, Bool.not_false, Bool.true_and, ← hP1.2.2.2.2.1]
                              exact h1
                            have hO : hisR P (gO G.2 i) = true := by
                              rw [hisR, c97, Bool.true_and, ← hP1.2.2.2.2.1]
                              exact c111
                            have e9 : ruF W G.2 P i t = (goR W G.2 P i (gH G.2 i) (goR W G.2 P i (gO G.2 i) (rsR i t))) := by
                              rw [e8, gfR, hH, hO]
                              rw [if_pos ⟨rfl, rfl⟩, if_neg (Int32.not_le.mpr c161x), if_pos c195]
                            exact WP.cast (by rw [nI_1]) (ih C3 (i + 1) (ruF W G.2 P i t) _ _ _ _ (by omega) hE3 hG3 hP3 k3 (by rw [e9]; exact hr3) (ruF_st W G.2 P i t hs) hq)
                          · exact absurd c205 (by decide)
                    · exact absurd c179 (by decide)
      · refine wp_aload_0 dX6_goes_70 rfl ?_
        refine wp_getf dX6_goes_71 rfl q610 fk6_15 (cg_24 hE.X) rfl ?_
        refine wp_if_ne 80 dX6_goes_74 rfl rfl (fun c74 => ?_) (fun c74 => ?_)
        · refine wp_aload_0 dX6_goes_80 rfl ?_
          refine wp_getf dX6_goes_81 rfl q599 fk6_8 (cg_24 hE.X) rfl ?_
          refine wp_aload_3 dX6_goes_84 rfl ?_
          refine wp_getfN dX6_goes_85 rfl q1054 fk14_0 ((cH_dyn hmd).trans hmx) rfl ?_
          refine wp_SNxR dX6_goes_88 rfl q1364 ms_X0_isOn c_isOn rfl rfl (Nat.le_of_ble_eq_true rfl) (Nat.le_of_ble_eq_true rfl) (Nat.zero_le _) (Nat.zero_le _) ?_
          cases h1 : onB (C1.1 9) (gH G.2 i) with
          | false =>
            refine wp_istore_4 dX6_goes_91 rfl (by decide) rfl ?_
            refine wp_aload_3 dX6_goes_93 rfl ?_
            refine wp_cvR dX6_goes_94 rfl q1365 mv_X13_isTwin ((cH_dyn hmd).trans hmx) rfl rfl (c_isTwin ((cH_dyn hmd).trans hmx)) rfl rfl (Nat.le_of_ble_eq_true rfl) (Nat.le_of_ble_eq_true rfl) ?_
            refine wp_ifeq_b 118 dX6_goes_97 rfl rfl (fun c97 => ?_) (fun c97 => ?_)
            · refine wp_iconst 0 dX6_goes_118 rfl rfl ?_
              refine wp_istore_5 dX6_goes_119 rfl (by decide) rfl ?_
              refine wp_iload_5 dX6_goes_121 rfl ?_
              refine wp_if_eq 171 dX6_goes_123 rfl rfl (fun c123 => ?_) (fun c123 => ?_)
              · refine wp_aload_3 dX6_goes_171 rfl ?_
                refine wp_getfN dX6_goes_172 rfl q1054 fk14_0 ((cH_dyn hmd).trans hmx) rfl ?_
                refine wp_istore_6 dX6_goes_175 rfl (by decide) rfl ?_
                refine wp_iload_4 dX6_goes_177 rfl ?_
                refine wp_if_ne 187 dX6_goes_179 rfl rfl (fun c179 => ?_) (fun c179 => ?_)
                · exact absurd (by decide) c179
                · refine wp_iload_5 dX6_goes_182 rfl ?_
                  refine wp_if_eq 238 dX6_goes_184 rfl rfl (fun c184 => ?_) (fun c184 => ?_)
                  · refine wp_iinc_2 1 dX6_goes_238 rfl rfl (by decide) rfl ?_
                    refine wp_goto 35 dX6_goes_241 rfl rfl ?_
                    have e8 : ruF W G.2 P i t = gfR W G.2 P i (rsR i t) := by
                      unfold ruF
                      rw [if_pos (Or.inr (fun q2 => c74 (by rw [hP1.2.2.2.2.2]; exact q2)))]
                    have hH : hisR P (gH G.2 i) = false := by
                      rw [hisR, decide_eq_false (hw.2 i hi).1, Bool.not_false, Bool.true_and, ← hP1.2.2.2.2.1]
                      exact h1
                    have hO : hisR P (gO G.2 i) = false := by
                      rw [hisR, c97, Bool.false_and]
                    have e9 : ruF W G.2 P i t = (rsR i t) := by
                      rw [e8, gfR, hH, hO]; rfl
                    exact WP.cast (by rw [nI_1]) (ih C1 (i + 1) (ruF W G.2 P i t) _ _ _ _ (by omega) hE1 hG1 hP1 k1 (by rw [e9]; exact hr1) (ruF_st W G.2 P i t hs) hq)
                  · exact absurd (by decide) c184
              · exact absurd (by decide) c123
            · refine wp_aload_0 dX6_goes_100 rfl ?_
              refine wp_getf dX6_goes_101 rfl q599 fk6_8 (cg_24 hE.X) rfl ?_
              refine wp_aload_3 dX6_goes_104 rfl ?_
              refine wp_getfN dX6_goes_105 rfl q1059 fk14_1 ((cH_dyn hmd).trans hmx) rfl ?_
              refine wp_SNxR dX6_goes_108 rfl q1364 ms_X0_isOn c_isOn rfl rfl (Nat.le_of_ble_eq_true rfl) (Nat.le_of_ble_eq_true rfl) (Nat.zero_le _) (Nat.zero_le _) ?_
              refine wp_ifeq_b 118 dX6_goes_111 rfl rfl (fun c111 => ?_) (fun c111 => ?_)
              · refine wp_iconst 0 dX6_goes_118 rfl rfl ?_
                refine wp_istore_5 dX6_goes_119 rfl (by decide) rfl ?_
                refine wp_iload_5 dX6_goes_121 rfl ?_
                refine wp_if_eq 171 dX6_goes_123 rfl rfl (fun c123 => ?_) (fun c123 => ?_)
                · refine wp_aload_3 dX6_goes_171 rfl ?_
                  refine wp_getfN dX6_goes_172 rfl q1054 fk14_0 ((cH_dyn hmd).trans hmx) rfl ?_
                  refine wp_istore_6 dX6_goes_175 rfl (by decide) rfl ?_
                  refine wp_iload_4 dX6_goes_177 rfl ?_
                  refine wp_if_ne 187 dX6_goes_179 rfl rfl (fun c179 => ?_) (fun c179 => ?_)
                  · exact absurd (by decide) c179
                  · refine wp_iload_5 dX6_goes_182 rfl ?_
                    refine wp_if_eq 238 dX6_goes_184 rfl rfl (fun c184 => ?_) (fun c184 => ?_)
                    · refine wp_iinc_2 1 dX6_goes_238 rfl rfl (by decide) rfl ?_
                      refine wp_goto 35 dX6_goes_241 rfl rfl ?_
                      have e8 : ruF W G.2 P i t = gfR W G.2 P i (rsR i t) := by
                        unfold ruF
                        rw [if_pos (Or.inr (fun q2 => c74 (by rw [hP1.2.2.2.2.2]; exact q2)))]
                      have hH : hisR P (gH G.2 i) = false := by
                        rw [hisR, decide_eq_false (hw.2 i hi).1, Bool.not_false, Bool.true_and, ← hP1.2.2.2.2.1]
                        exact h1
                      have hO : hisR P (gO G.2 i) = false := by
                        rw [hisR, c97, Bool.true_and, ← hP1.2.2.2.2.1]
                        exact c111
                      have e9 : ruF W G.2 P i t = (rsR i t) := by
                        rw [e8, gfR, hH, hO]; rfl
                      exact WP.cast (by rw [nI_1]) (ih C1 (i + 1) (ruF W G.2 P i t) _ _ _ _ (by omega) hE1 hG1 hP1 k1 (by rw [e9]; exact hr1) (ruF_st W G.2 P i t hs) hq)
                    · exact absurd (by decide) c184
                · exact absurd (by decide) c123
              · refine wp_iconst 1 dX6_goes_114 rfl rfl ?_
                refine wp_goto 119 dX6_goes_115 rfl rfl ?_
                refine wp_istore_5 dX6_goes_119 rfl (by decide) rfl ?_
                refine wp_iload_5 dX6_goes_121 rfl ?_
                refine wp_if_eq 171 dX6_goes_123 rfl rfl (fun c123 => ?_) (fun c123 => ?_)
                · exact absurd c123 (by decide)
                · refine wp_iload_4 dX6_goes_126 rfl ?_
                  refine wp_if_eq 164 dX6_goes_128 rfl rfl (fun c128 => ?_) (fun c128 => ?_)
                  · refine wp_aload_3 dX6_goes_164 rfl ?_
                    refine wp_getfN dX6_goes_165 rfl q1059 fk14_1 ((cH_dyn hmd).trans hmx) rfl ?_
                    refine wp_goto 175 dX6_goes_168 rfl rfl ?_
                    refine wp_istore_6 dX6_goes_175 rfl (by decide) rfl ?_
                    refine wp_iload_4 dX6_goes_177 rfl ?_
                    refine wp_if_ne 187 dX6_goes_179 rfl rfl (fun c179 => ?_) (fun c179 => ?_)
                    · exact absurd (by decide) c179
                    · refine wp_iload_5 dX6_goes_182 rfl ?_
                      refine wp_if_eq 238 dX6_goes_184 rfl rfl (fun c184 => ?_) (fun c184 => ?_)
                      · exact absurd c184 (by decide)
                      · refine wp_aload_0 dX6_goes_187 rfl ?_
                        refine wp_aload_1 dX6_goes_188 rfl ?_
                        refine wp_iload_2 dX6_goes_189 rfl ?_
                        refine wp_iload_6 dX6_goes_190 rfl ?_
                        refine wp_VeR dX6_goes_192 rfl q1367 mv_X6_strikes (cg_24 hE1.X) rfl rfl (c_strikes5 (t := (rsR i t)) (o := (gO G.2 i)) hE1 hG1 hP1 hp hk hw hi hr1 (by omega)) rfl rfl (Nat.le_of_ble_eq_true rfl) (Nat.le_of_ble_eq_true rfl) (Nat.zero_le _) (Nat.zero_le _) (fun h1 hq0 => ?_)
                        obtain ⟨C2, rfl, hr2, c2⟩ := hq0
                        have k2 := k1.tr c2
                        have hE2 := c2.ev hE1
                        have hG2 := c2.g5 hG1
                        have hP2 := c2.pc hP1
                        refine wp_ifeq_b 238 dX6_goes_195 rfl rfl (fun c195 => ?_) (fun c195 => ?_)
                        · refine wp_iinc_2 1 dX6_goes_238 rfl rfl (by decide) rfl ?_
                          refine wp_goto 35 dX6_goes_241 rfl rfl ?_
                          have e8 : ruF W G.2 P i t = gfR W G.2 P i (rsR i t) := by
                            unfold ruF
                            rw [if_pos (Or.inr (fun q2 => c74 (by rw [hP1.2.2.2.2.2]; exact q2)))]
                          have hH : hisR P (gH G.2 i) = false := by
                            rw [hisR, decide_eq_false (hw.2 i hi).1, Bool.not_false, Bool.true_and, ← hP1.2.2.2.2.1]
                            exact h1
                          have hO : hisR P (gO G.2 i) = true := by
                            rw [hisR, c97, Bool.true_and, ← hP1.2.2.2.2.1]
                            exact c111
                          have e9 : ruF W G.2 P i t = (goR W G.2 P i (gO G.2 i) (rsR i t)) := by
                            rw [e8, gfR, hH, hO]; rfl
                          exact WP.cast (by rw [nI_1]) (ih C2 (i + 1) (ruF W G.2 P i t) _ _ _ _ (by omega) hE2 hG2 hP2 k2 (by rw [e9]; exact hr2) (ruF_st W G.2 P i t hs) hq)
                        · refine wp_iload_4 dX6_goes_198 rfl ?_
                          refine wp_if_eq 238 dX6_goes_200 rfl rfl (fun c200 => ?_) (fun c200 => ?_)
                          · refine wp_iinc_2 1 dX6_goes_238 rfl rfl (by decide) rfl ?_
                            refine wp_goto 35 dX6_goes_241 rfl rfl ?_
                            have e8 : ruF W G.2 P i t = gfR W G.2 P i (rsR i t) := by
                              unfold ruF
                              rw [if_pos (Or.inr (fun q2 => c74 (by rw [hP1.2.2.2.2.2]; exact q2)))]
                            have hH : hisR P (gH G.2 i) = false := by
                              rw [hisR, decide_eq_false (hw.2 i hi).1, Bool.not_false, Bool.true_and, ← hP1.2.2.2.2.1]
                              exact h1
                            have hO : hisR P (gO G.2 i) = true := by
                              rw [hisR, c97, Bool.true_and, ← hP1.2.2.2.2.1]
                              exact c111
                            have e9 : ruF W G.2 P i t = (goR W G.2 P i (gO G.2 i) (rsR i t)) := by
                              rw [e8, gfR, hH, hO]; rfl
                            exact WP.cast (by rw [nI_1]) (ih C2 (i + 1) (ruF W G.2 P i t) _ _ _ _ (by omega) hE2 hG2 hP2 k2 (by rw [e9]; exact hr2) (ruF_st W G.2 P i t hs) hq)
                          · exact absurd (by decide) c200
                  · exact absurd (by decide) c128
          | true =>
            refine wp_istore_4 dX6_goes_91 rfl (by decide) rfl ?_
            refine wp_aload_3 dX6_goes_93 rfl ?_
            refine wp_cvR dX6_goes_94 rfl q1365 mv_X13_isTwin ((cH_dyn hmd).trans hmx) rfl rfl (c_isTwin ((cH_dyn hmd).trans hmx)) rfl rfl (Nat.le_of_ble_eq_true rfl) (Nat.le_of_ble_eq_true rfl) ?_
            refine wp_ifeq_b 118 dX6_goes_97 rfl rfl (fun c97 => ?_) (fun c97 => ?_)
            · refine wp_iconst 0 dX6_goes_118 rfl rfl ?_
              refine wp_istore_5 dX6_goes_119 rfl (by decide) rfl ?_
              refine wp_iload_5 dX6_goes_121 rfl ?_
              refine wp_if_eq 171 dX6_goes_123 rfl rfl (fun c123 => ?_) (fun c123 => ?_)
              · refine wp_aload_3 dX6_goes_171 rfl ?_
                refine wp_getfN dX6_goes_172 rfl q1054 fk14_0 ((cH_dyn hmd).trans hmx) rfl ?_
                refine wp_istore_6 dX6_goes_175 rfl (by decide) rfl ?_
                refine wp_iload_4 dX6_goes_177 rfl ?_
                refine wp_if_ne 187 dX6_goes_179 rfl rfl (fun c179 => ?_) (fun c179 => ?_)
                · refine wp_aload_0 dX6_goes_187 rfl ?_
                  refine wp_aload_1 dX6_goes_188 rfl ?_
                  refine wp_iload_2 dX6_goes_189 rfl ?_
                  refine wp_iload_6 dX6_goes_190 rfl ?_
                  refine wp_VeR dX6_goes_192 rfl q1367 mv_X6_strikes (cg_24 hE1.X) rfl rfl (c_strikes5 (t := (rsR i t)) (o := (gH G.2 i)) hE1 hG1 hP1 hp hk hw hi hr1 (by omega)) rfl rfl (Nat.le_of_ble_eq_true rfl) (Nat.le_of_ble_eq_true rfl) (Nat.zero_le _) (Nat.zero_le _) (fun h1 hq0 => ?_)
                  obtain ⟨C2, rfl, hr2, c2⟩ := hq0
                  have k2 := k1.tr c2
                  have hE2 := c2.ev hE1
                  have hG2 := c2.g5 hG1
                  have hP2 := c2.pc hP1
                  refine wp_ifeq_b 238 dX6_goes_195 rfl rfl (fun c195 => ?_) (fun c195 => ?_)
                  · refine wp_iinc_2 1 dX6_goes_238 rfl rfl (by decide) rfl ?_
                    refine wp_goto 35 dX6_goes_241 rfl rfl ?_
                    have e8 : ruF W G.2 P i t = gfR W G.2 P i (rsR i t) := by
                      unfold ruF
                      rw [if_pos (Or.inr (fun q2 => c74 (by rw [hP1.2.2.2.2.2]; exact q2)))]
                    have hH : hisR P (gH G.2 i) = true := by
                      rw [hisR, decide_eq_false (hw.2 i hi).1, Bool.not_false, Bool.true_and, ← hP1.2.2.2.2.1]
                      exact h1
                    have hO : hisR P (gO G.2 i) = false := by
                      rw [hisR, c97, Bool.false_and]
                    have e9 : ruF W G.2 P i t = (goR W G.2 P i (gH G.2 i) (rsR i t)) := by
                      rw [e8, gfR, hH, hO]; rfl
                    exact WP.cast (by rw [nI_1]) (ih C2 (i + 1) (ruF W G.2 P i t) _ _ _ _ (by omega) hE2 hG2 hP2 k2 (by rw [e9]; exact hr2) (ruF_st W G.2 P i t hs) hq)
                  · refine wp_iload_4 dX6_goes_198 rfl ?_
                    refine wp_if_eq 238 dX6_goes_200 rfl rfl (fun c200 => ?_) (fun c200 => ?_)
                    · exact absurd c200 (by decide)
                    · refine wp_iload_5 dX6_goes_203 rfl ?_
                      refine wp_if_ne 211 dX6_goes_205 rfl rfl (fun c205 => ?_) (fun c205 => ?_)
                      · exact absurd (by decide) c205
                      · refine wp_goto 238 dX6_goes_208 rfl rfl ?_
                        refine wp_iinc_2 1 dX6_goes_238 rfl rfl (by decide) rfl ?_
                        refine wp_goto 35 dX6_goes_241 rfl rfl ?_
                        have e8 : ruF W G.2 P i t = gfR W G.2 P i (rsR i t) := by
                          unfold ruF
                          rw [if_pos (Or.inr (fun q2 => c74 (by rw [hP1.2.2.2.2.2]; exact q2)))]
                        have hH : hisR P (gH G.2 i) = true := by
                          rw [hisR, decide_eq_false (hw.2 i hi).1, Bool.not_false, Bool.true_and, ← hP1.2.2.2.2.1]
                          exact h1
                        have hO : hisR P (gO G.2 i) = false := by
                          rw [hisR, c97, Bool.false_and]
                        have e9 : ruF W G.2 P i t = (goR W G.2 P i (gH G.2 i) (rsR i t)) := by
                          rw [e8, gfR, hH, hO]; rfl
                        exact WP.cast (by rw [nI_1]) (ih C2 (i + 1) (ruF W G.2 P i t) _ _ _ _ (by omega) hE2 hG2 hP2 k2 (by rw [e9]; exact hr2) (ruF_st W G.2 P i t hs) hq)
                · exact absurd c179 (by decide)
              · exact absurd (by decide) c123
            · refine wp_aload_0 dX6_goes_100 rfl ?_
              refine wp_getf dX6_goes_101 rfl q599 fk6_8 (cg_24 hE.X) rfl ?_
              refine wp_aload_3 dX6_goes_104 rfl ?_
              refine wp_getfN dX6_goes_105 rfl q1059 fk14_1 ((cH_dyn hmd).trans hmx) rfl ?_
              refine wp_SNxR dX6_goes_108 rfl q1364 ms_X0_isOn c_isOn rfl rfl (Nat.le_of_ble_eq_true rfl) (Nat.le_of_ble_eq_true rfl) (Nat.zero_le _) (Nat.zero_le _) ?_
              refine wp_ifeq_b 118 dX6_goes_111 rfl rfl (fun c111 => ?_) (fun c111 => ?_)
              · refine wp_iconst 0 dX6_goes_118 rfl rfl ?_
                refine wp_istore_5 dX6_goes_119 rfl (by decide) rfl ?_
                refine wp_iload_5 dX6_goes_121 rfl ?_
                refine wp_if_eq 171 dX6_goes_123 rfl rfl (fun c123 => ?_) (fun c123 => ?_)
                · refine wp_aload_3 dX6_goes_171 rfl ?_
                  refine wp_getfN dX6_goes_172 rfl q1054 fk14_0 ((cH_dyn hmd).trans hmx) rfl ?_
                  refine wp_istore_6 dX6_goes_175 rfl (by decide) rfl ?_
                  refine wp_iload_4 dX6_goes_177 rfl ?_
                  refine wp_if_ne 187 dX6_goes_179 rfl rfl (fun c179 => ?_) (fun c179 => ?_)
                  · refine wp_aload_0 dX6_goes_187 rfl ?_
                    refine wp_aload_1 dX6_goes_188 rfl ?_
                    refine wp_iload_2 dX6_goes_189 rfl ?_
                    refine wp_iload_6 dX6_goes_190 rfl ?_
                    refine wp_VeR dX6_goes_192 rfl q1367 mv_X6_strikes (cg_24 hE1.X) rfl rfl (c_strikes5 (t := (rsR i t)) (o := (gH G.2 i)) hE1 hG1 hP1 hp hk hw hi hr1 (by omega)) rfl rfl (Nat.le_of_ble_eq_true rfl) (Nat.le_of_ble_eq_true rfl) (Nat.zero_le _) (Nat.zero_le _) (fun h1 hq0 => ?_)
                    obtain ⟨C2, rfl, hr2, c2⟩ := hq0
                    have k2 := k1.tr c2
                    have hE2 := c2.ev hE1
                    have hG2 := c2.g5 hG1
                    have hP2 := c2.pc hP1
                    refine wp_ifeq_b 238 dX6_goes_195 rfl rfl (fun c195 => ?_) (fun c195 => ?_)
                    · refine wp_iinc_2 1 dX6_goes_238 rfl rfl (by decide) rfl ?_
                      refine wp_goto 35 dX6_goes_241 rfl rfl ?_
                      have e8 : ruF W G.2 P i t = gfR W G.2 P i (rsR i t) := by
                        unfold ruF
                        rw [if_pos (Or.inr (fun q2 => c74 (by rw [hP1.2.2.2.2.2]; exact q2)))]
                      have hH : hisR P (gH G.2 i) = true := by
                        rw [hisR, decide_eq_false (hw.2 i hi).1, Bool.not_false, Bool.true_and, ← hP1.2.2.2.2.1]
                        exact h1
                      have hO : hisR P (gO G.2 i) = false := by
                        rw [hisR, c97, Bool.true_and, ← hP1.2.2.2.2.1]
                        exact c111
                      have e9 : ruF W G.2 P i t = (goR W G.2 P i (gH G.2 i) (rsR i t)) := by
                        rw [e8, gfR, hH, hO]; rfl
                      exact WP.cast (by rw [nI_1]) (ih C2 (i + 1) (ruF W G.2 P i t) _ _ _ _ (by omega) hE2 hG2 hP2 k2 (by rw [e9]; exact hr2) (ruF_st W G.2 P i t hs) hq)
                    · refine wp_iload_4 dX6_goes_198 rfl ?_
                      refine wp_if_eq 238 dX6_goes_200 rfl rfl (fun c200 => ?_) (fun c200 => ?_)
                      · exact absurd c200 (by decide)
                      · refine wp_iload_5 dX6_goes_203 rfl ?_
                        refine wp_if_ne 211 dX6_goes_205 rfl rfl (fun c205 => ?_) (fun c205 => ?_)
                        · exact absurd (by decide) c205
                        · refine wp_goto 238 dX6_goes_208 rfl rfl ?_
                          refine wp_iinc_2 1 dX6_goes_238 rfl rfl (by decide) rfl ?_
                          refine wp_goto 35 dX6_goes_241 rfl rfl ?_
                          have e8 : ruF W G.2 P i t = gfR W G.2 P i (rsR i t) := by
                            unfold ruF
                            rw [if_pos (Or.inr (fun q2 => c74 (by rw [hP1.2.2.2.2.2]; exact q2)))]
                          have hH : hisR P (gH G.2 i) = true := by
                            rw [hisR, decide_eq_false (hw.2 i hi).1, Bool.not_false, Bool.true_and, ← hP1.2.2.2.2.1]
                            exact h1
                          have hO : hisR P (gO G.2 i) = false := by
                            rw [hisR, c97, Bool.true_and, ← hP1.2.2.2.2.1]
                            exact c111
                          have e9 : ruF W G.2 P i t = (goR W G.2 P i (gH G.2 i) (rsR i t)) := by
                            rw [e8, gfR, hH, hO]; rfl
                          exact WP.cast (by rw [nI_1]) (ih C2 (i + 1) (ruF W G.2 P i t) _ _ _ _ (by omega) hE2 hG2 hP2 k2 (by rw [e9]; exact hr2) (ruF_st W G.2 P i t hs) hq)
                  · exact absurd c179 (by decide)
                · exact absurd (by decide) c123
              · refine wp_iconst 1 dX6_goes_114 rfl rfl ?_
                refine wp_goto 119 dX6_goes_115 rfl rfl ?_
                refine wp_istore_5 dX6_goes_119 rfl (by decide) rfl ?_
                refine wp_iload_5 dX6_goes_121 rfl ?_
                refine wp_if_eq 171 dX6_goes_123 rfl rfl (fun c123 => ?_) (fun c123 => ?_)
                · exact absurd c123 (by decide)
                · refine wp_iload_4 dX6_goes_126 rfl ?_
                  refine wp_if_eq 164 dX6_goes_128 rfl rfl (fun c128 => ?_) (fun c128 => ?_)
                  · exact absurd c128 (by decide)
                  · refine wp_aload_0 dX6_goes_131 rfl ?_
                    refine wp_getf dX6_goes_132 rfl q612 fk6_16 (cg_24 hE.X) rfl ?_
                    refine wp_aload_0 dX6_goes_135 rfl ?_
                    refine wp_getf dX6_goes_136 rfl q601 fk6_9 (cg_24 hE.X) rfl ?_
                    refine wp_aload_3 dX6_goes_139 rfl ?_
                    refine wp_getfN dX6_goes_140 rfl q1059 fk14_1 ((cH_dyn hmd).trans hmx) rfl ?_
                    refine wp_VNxR dX6_goes_143 rfl q1366 mv_X0_stepsOf hE1.o0 rfl rfl (c_stepsOf hE1 h0) rfl rfl (Nat.le_of_ble_eq_true rfl) (Nat.le_of_ble_eq_true rfl) (Nat.zero_le _) (Nat.zero_le _) ?_
                    refine wp_aload_0 dX6_goes_146 rfl ?_
                    refine wp_getf dX6_goes_147 rfl q612 fk6_16 (cg_24 hE.X) rfl ?_
                    refine wp_aload_0 dX6_goes_150 rfl ?_
                    refine wp_getf dX6_goes_151 rfl q601 fk6_9 (cg_24 hE.X) rfl ?_
                    refine wp_aload_3 dX6_goes_154 rfl ?_
                    refine wp_getfN dX6_goes_155 rfl q1054 fk14_0 ((cH_dyn hmd).trans hmx) rfl ?_
                    refine wp_VNxR dX6_goes_158 rfl q1366 mv_X0_stepsOf hE1.o0 rfl rfl (c_stepsOf hE1 h0) rfl rfl (Nat.le_of_ble_eq_true rfl) (Nat.le_of_ble_eq_true rfl) (Nat.zero_le _) (Nat.zero_le _) ?_
                    rw [hr1.1]
                    refine wp_icmp_ge 171 dX6_goes_161 rfl rfl (fun c161 => ?_) (fun c161 => ?_)
                    · refine wp_aload_3 dX6_goes_171 rfl ?_
                      refine wp_getfN dX6_goes_172 rfl q1054 fk14_0 ((cH_dyn hmd).trans hmx) rfl ?_
                      refine wp_istore_6 dX6_goes_175 rfl (by decide) rfl ?_
                      refine wp_iload_4 dX6_goes_177 rfl ?_
                      refine wp_if_ne 187 dX6_goes_179 rfl rfl (fun c179 => ?_) (fun c179 => ?_)
                      · refine wp_aload_0 dX6_goes_187 rfl ?_
                        refine wp_aload_1 dX6_goes_188 rfl ?_
                        refine wp_iload_2 dX6_goes_189 rfl ?_
                        refine wp_iload_6 dX6_goes_190 rfl ?_
                        refine wp_VeR dX6_goes_192 rfl q1367 mv_X6_strikes (cg_24 hE1.X) rfl rfl (c_strikes5 (t := (rsR i t)) (o := (gH G.2 i)) hE1 hG1 hP1 hp hk hw hi hr1 (by omega)) rfl rfl (Nat.le_of_ble_eq_true rfl) (Nat.le_of_ble_eq_true rfl) (Nat.zero_le _) (Nat.zero_le _) (fun h1 hq0 => ?_)
                        obtain ⟨C2, rfl, hr2, c2⟩ := hq0
                        have k2 := k1.tr c2
                        have hE2 := c2.ev hE1
                        have hG2 := c2.g5 hG1
                        have hP2 := c2.pc hP1
                        refine wp_ifeq_b 238 dX6_goes_195 rfl rfl (fun c195 => ?_) (fun c195 => ?_)
                        · refine wp_iinc_2 1 dX6_goes_238 rfl rfl (by decide) rfl ?_
                          refine wp_goto 35 dX6_goes_241 rfl rfl ?_
                          have e8 : ruF W G.2 P i t = gfR W G.2 P i (rsR i t) := by
                            unfold ruF
                            rw [if_pos (Or.inr (fun q2 => c74 (by rw [hP1.2.2.2.2.2]; exact q2)))]
                          have hH : hisR P (gH G.2 i) = true := by
                            rw [hisR, decide_eq_false (hw.2 i hi).1, Bool.not_false, Bool.true_and, ← hP1.2.2.2.2.1]
                            exact h1
                          have hO : hisR P (gO G.2 i) = true := by
                            rw [hisR, c97, Bool.true_and, ← hP1.2.2.2.2.1]
                            exact c111
                          have e9 : ruF W G.2 P i t = (goR W G.2 P i (gH G.2 i) (rsR i t)) := by
                            rw [e8, gfR, hH, hO]
                            rw [if_pos ⟨rfl, rfl⟩, if_pos c161, if_neg (by rw [c195]; decide), goR, if_neg (by rw [c195]; decide)]
                          exact WP.cast (by rw [nI_1]) (ih C2 (i + 1) (ruF W G.2 P i t) _ _ _ _ (by omega) hE2 hG2 hP2 k2 (by rw [e9]; exact hr2) (ruF_st W G.2 P i t hs) hq)
                        · refine wp_iload_4 dX6_goes_198 rfl ?_
                          refine wp_if_eq 238 dX6_goes_200 rfl rfl (fun c200 => ?_) (fun c200 => ?_)
                          · exact absurd c200 (by decide)
                          · refine wp_iload_5 dX6_goes_203 rfl ?_
                            refine wp_if_ne 211 dX6_goes_205 rfl rfl (fun c205 => ?_) (fun c205 => ?_)
                            · refine wp_aload_0 dX6_goes_211 rfl ?_
                              refine wp_aload_1 dX6_goes_212 rfl ?_
                              refine wp_iload_2 dX6_goes_213 rfl ?_
                              refine wp_iload_6 dX6_goes_214 rfl ?_
                              refine wp_aload_3 dX6_goes_216 rfl ?_
                              refine wp_getfN dX6_goes_217 rfl q1054 fk14_0 ((cH_dyn hmd).trans hmx) rfl ?_
                              refine wp_icmp_ne 230 dX6_goes_220 rfl rfl (fun c220 => absurd rfl c220) (fun c220 => ?_)
                              refine wp_aload_3 dX6_goes_223 rfl ?_
                              refine wp_getfN dX6_goes_224 rfl q1059 fk14_1 ((cH_dyn hmd).trans hmx) rfl ?_
                              refine wp_goto 234 dX6_goes_227 rfl rfl ?_
                              refine wp_VeR dX6_goes_234 rfl q1367 mv_X6_strikes (cg_24 hE2.X) rfl rfl (c_strikes5 (t := (goR W G.2 P i (gH G.2 i) (rsR i t))) (o := (gO G.2 i)) hE2 hG2 hP2 hp hk hw hi hr2 (by have := goR_st W G.2 P i (gH G.2 i) (rsR i t); omega)) rfl rfl (Nat.le_of_ble_eq_true rfl) (Nat.le_of_ble_eq_true rfl) (Nat.zero_le _) (Nat.zero_le _) (fun h1 hq0 => ?_)
                              obtain ⟨C3, rfl, hr3, c3⟩ := hq0
                              have k3 := k2.tr c3
                              have hE3 := c3.ev hE2
                              have hG3 := c3.g5 hG2
                              have hP3 := c3.pc hP2
                              refine wp_pop dX6_goes_237 rfl rfl ?_
                              refine wp_iinc_2 1 dX6_goes_238 rfl rfl (by decide) rfl ?_
                              refine wp_goto 35 dX6_goes_241 rfl rfl ?_
                              have e8 : ruF W G.2 P i t = gfR W G.2 P i (rsR i t) := by
                                unfold ruF
                                rw [if_pos (Or.inr (fun q2 => c74 (by rw [hP1.2.2.2.2.2]; exact q2)))]
                              have hH : hisR P (gH G.2 i) = true := by
                                rw [hisR, decide_eq_false (hw.2 i hi).1, Bool.not_false, Bool.true_and, ← hP1.2.2.2.2.1]
                                exact h1
                              have hO : hisR P (gO G.2 i) = true := by
                                rw [hisR, c97, Bool.true_and, ← hP1.2.2.2.2.1]
                                exact c111
                              have e9 : ruF W G.2 P i t = (goR W G.2 P i (gO G.2 i) (goR W G.2 P i (gH G.2 i) (rsR i t))) := by
                                rw [e8, gfR, hH, hO]
                                rw [if_pos ⟨rfl, rfl⟩, if_pos c161, if_pos c195]
                              exact WP.cast (by rw [nI_1]) (ih C3 (i + 1) (ruF W G.2 P i t) _ _ _ _ (by omega) hE3 hG3 hP3 k3 (by rw [e9]; exact hr3) (ruF_st W G.2 P i t hs) hq)
                            · exact absurd c205 (by decide)
                      · exact absurd c179 (by decide)
                    · have c161x := Int32.not_le.mp c161
                      refine wp_aload_3 dX6_goes_164 rfl ?_
                      refine wp_getfN dX6_goes_165 rfl q1059 fk14_1 ((cH_dyn hmd).trans hmx) rfl ?_
                      refine wp_goto 175 dX6_goes_168 rfl rfl ?_
                      refine wp_istore_6 dX6_goes_175 rfl (by decide) rfl ?_
                      refine wp_iload_4 dX6_goes_177 rfl ?_
                      refine wp_if_ne 187 dX6_goes_179 rfl rfl (fun c179 => ?_) (fun c179 => ?_)
                      · refine wp_aload_0 dX6_goes_187 rfl ?_
                        refine wp_aload_1 dX6_goes_188 rfl ?_
                        refine wp_iload_2 dX6_goes_189 rfl ?_
                        refine wp_iload_6 dX6_goes_190 rfl ?_
                        refine wp_VeR dX6_goes_192 rfl q1367 mv_X6_strikes (cg_24 hE1.X) rfl rfl (c_strikes5 (t := (rsR i t)) (o := (gO G.2 i)) hE1 hG1 hP1 hp hk hw hi hr1 (by omega)) rfl rfl (Nat.le_of_ble_eq_true rfl) (Nat.le_of_ble_eq_true rfl) (Nat.zero_le _) (Nat.zero_le _) (fun h1 hq0 => ?_)
                        obtain ⟨C2, rfl, hr2, c2⟩ := hq0
                        have k2 := k1.tr c2
                        have hE2 := c2.ev hE1
                        have hG2 := c2.g5 hG1
                        have hP2 := c2.pc hP1
                        refine wp_ifeq_b 238 dX6_goes_195 rfl rfl (fun c195 => ?_) (fun c195 => ?_)
                        · refine wp_iinc_2 1 dX6_goes_238 rfl rfl (by decide) rfl ?_
                          refine wp_goto 35 dX6_goes_241 rfl rfl ?_
                          have e8 : ruF W G.2 P i t = gfR W G.2 P i (rsR i t) := by
                            unfold ruF
                            rw [if_pos (Or.inr (fun q2 => c74 (by rw [hP1.2.2.2.2.2]; exact q2)))]
                          have hH : hisR P (gH G.2 i) = true := by
                            rw [hisR, decide_eq_false (hw.2 i hi).1, Bool.not_false, Bool.true_and, ← hP1.2.2.2.2.1]
                            exact h1
                          have hO : hisR P (gO G.2 i) = true := by
                            rw [hisR, c97, Bool.true_and, ← hP1.2.2.2.2.1]
                            exact c111
                          have e9 : ruF W G.2 P i t = (goR W G.2 P i (gO G.2 i) (rsR i t)) := by
                            rw [e8, gfR, hH, hO]
                            rw [if_pos ⟨rfl, rfl⟩, if_neg (Int32.not_le.mpr c161x), if_neg (by rw [c195]; decide), goR, if_neg (by rw [c195]; decide)]
                          exact WP.cast (by rw [nI_1]) (ih C2 (i + 1) (ruF W G.2 P i t) _ _ _ _ (by omega) hE2 hG2 hP2 k2 (by rw [e9]; exact hr2) (ruF_st W G.2 P i t hs) hq)
                        · refine wp_iload_4 dX6_goes_198 rfl ?_
                          refine wp_if_eq 238 dX6_goes_200 rfl rfl (fun c200 => ?_) (fun c200 => ?_)
                          · exact absurd c200 (by decide)
                          · refine wp_iload_5 dX6_goes_203 rfl ?_
                            refine wp_if_ne 211 dX6_goes_205 rfl rfl (fun c205 => ?_) (fun c205 => ?_)
                            · refine wp_aload_0 dX6_goes_211 rfl ?_
                              refine wp_aload_1 dX6_goes_212 rfl ?_
                              refine wp_iload_2 dX6_goes_213 rfl ?_
                              refine wp_iload_6 dX6_goes_214 rfl ?_
                              refine wp_aload_3 dX6_goes_216 rfl ?_
                              refine wp_getfN dX6_goes_217 rfl q1054 fk14_0 ((cH_dyn hmd).trans hmx) rfl ?_
                              refine wp_icmp_ne 230 dX6_goes_220 rfl rfl (fun c220 => ?_) (fun c220 => absurd c220 (hw.2 i hi).2)
                              refine wp_aload_3 dX6_goes_230 rfl ?_
                              refine wp_getfN dX6_goes_231 rfl q1054 fk14_0 ((cH_dyn hmd).trans hmx) rfl ?_
                              refine wp_VeR dX6_goes_234 rfl q1367 mv_X6_strikes (cg_24 hE2.X) rfl rfl (c_strikes5 (t := (goR W G.2 P i (gO G.2 i) (rsR i t))) (o := (gH G.2 i)) hE2 hG2 hP2 hp hk hw hi hr2 (by have := goR_st W G.2 P i (gO G.2 i) (rsR i t); omega)) rfl rfl (Nat.le_of_ble_eq_true rfl) (Nat.le_of_ble_eq_true rfl) (Nat.zero_le _) (Nat.zero_le _) (fun h1 hq0 => ?_)
                              obtain ⟨C3, rfl, hr3, c3⟩ := hq0
                              have k3 := k2.tr c3
                              have hE3 := c3.ev hE2
                              have hG3 := c3.g5 hG2
                              have hP3 := c3.pc hP2
                              refine wp_pop dX6_goes_237 rfl rfl ?_
                              refine wp_iinc_2 1 dX6_goes_238 rfl rfl (by decide) rfl ?_
                              refine wp_goto 35 dX6_goes_241 rfl rfl ?_
                              have e8 : ruF W G.2 P i t = gfR W G.2 P i (rsR i t) := by
                                unfold ruF
                                rw [if_pos (Or.inr (fun q2 => c74 (by rw [hP1.2.2.2.2.2]; exact q2)))]
                              have hH : hisR P (gH G.2 i) = true := by
                                rw [hisR, decide_eq_false (hw.2 i hi).1, Bool.not_false, Bool.true_and, ← hP1.2.2.2.2.1]
                                exact h1
                              have hO : hisR P (gO G.2 i) = true := by
                                rw [hisR, c97, Bool.true_and, ← hP1.2.2.2.2.1]
                                exact c111
                              have e9 : ruF W G.2 P i t = (goR W G.2 P i (gH G.2 i) (goR W G.2 P i (gO G.2 i) (rsR i t))) := by
                                rw [e8, gfR, hH, hO]
                                rw [if_pos ⟨rfl, rfl⟩, if_neg (Int32.not_le.mpr c161x), if_pos c195]
                              exact WP.cast (by rw [nI_1]) (ih C3 (i + 1) (ruF W G.2 P i t) _ _ _ _ (by omega) hE3 hG3 hP3 k3 (by rw [e9]; exact hr3) (ruF_st W G.2 P i t hs) hq)
                            · exact absurd c205 (by decide)
                      · exact absurd c179 (by decide)
        · refine wp_goto 238 dX6_goes_77 rfl rfl ?_
          refine wp_iinc_2 1 dX6_goes_238 rfl rfl (by decide) rfl ?_
          refine wp_goto 35 dX6_goes_241 rfl rfl ?_
          have e9 : ruF W G.2 P i t = rsR i t := by
            unfold ruF
            rw [if_neg (fun q => q.elim c67 (fun q2 => q2 (by rw [← hP1.2.2.2.2.2]; exact c74)))]
          exact WP.cast (by rw [nI_1]) (ih C1 (i + 1) (ruF W G.2 P i t) _ _ _ _ (by omega) hE1 hG1 hP1 k1 (by rw [e9]; exact hr1) (ruF_st W G.2 P i t hs) hq)
theorem c_goes4 {g : GW} {C : SC} {S : SM} {X : AH} {lo hi b : Nat} {A : BA} {W : Nat → Int32} (hE : EV C X lo hi b A W) {G : GA} (hG : GM 3 16 17 18 C X G) {P : RP} (hP : PC C A P) (hp : P.1.1 < nW W 6) (hk : P.1.2 < 1000) (hw : WG2 G) : SP g 6 0 0 yX6_goes cX6_goes 7 (some (.object "MoleBoard$Run")) [.ref 24, .ref 15] (cH C S X) (fun v h1 => v = some (.ref 24) ∧ ∃ C', h1 = cH C' S X ∧ RC C' (ruW W G P) G.1 ∧ CR C C') := by
  refine SP.intro [some (.ref 24), some (.ref 15), none, none, none, none, none] (pfn (by decide)) rfl (Nat.le_of_ble_eq_true rfl) ?_
  refine wp_aload_0 dX6_goes_0 rfl ?_
  refine wp_aload_0 dX6_goes_1 rfl ?_
  refine wp_getf dX6_goes_2 rfl q597 fk6_7 (cg_24 hE.X) rfl ?_
  rw [hP.2.2.2.1]
  refine wp_putf dX6_goes_5 rfl q601 fp6_9 (cg_24 hE.X) rfl rfl (Nat.le_of_ble_eq_true rfl) cs_24_9 ?_
  refine wp_aload_0 dX6_goes_8 rfl ?_
  refine wp_iconst 0 dX6_goes_9 rfl rfl ?_
  refine wp_putf dX6_goes_10 rfl q602 fp6_10 (cg_24 hE.X) rfl rfl (Nat.le_of_ble_eq_true rfl) cs_24_10 ?_
  refine wp_aload_0 dX6_goes_13 rfl ?_
  refine wp_iconst 0 dX6_goes_14 rfl rfl ?_
  refine wp_putf dX6_goes_15 rfl q603 fp6_11 (cg_24 hE.X) rfl rfl (Nat.le_of_ble_eq_true rfl) cs_24_11 ?_
  refine wp_aload_0 dX6_goes_18 rfl ?_
  refine wp_iconst 0 dX6_goes_19 rfl rfl ?_
  refine wp_putf dX6_goes_20 rfl q605 fp6_12 (cg_24 hE.X) rfl rfl (Nat.le_of_ble_eq_true rfl) cs_24_12 ?_
  refine wp_aload_0 dX6_goes_23 rfl ?_
  refine wp_iconst 0 dX6_goes_24 rfl rfl ?_
  refine wp_putf dX6_goes_25 rfl q606 fp6_13 (cg_24 hE.X) rfl rfl (Nat.le_of_ble_eq_true rfl) cs_24_13 ?_
  refine wp_aload_0 dX6_goes_28 rfl ?_
  refine wp_iconst 0 dX6_goes_29 rfl rfl ?_
  refine wp_putf dX6_goes_30 rfl q608 fp6_14 (cg_24 hE.X) rfl rfl (Nat.le_of_ble_eq_true rfl) cs_24_14 ?_
  refine wp_iconst 0 dX6_goes_33 rfl rfl ?_
  refine wp_istore_2 dX6_goes_34 rfl (by decide) rfl ?_
  exact cL_goes4 hp hk hw (WFp.w0 hE.s hE.p hp) hG.2.1 G.1 (ruC P.2.2.1 C) 0 (ru0 P) none none none none (by omega) ((ruC_CR _ C).ev hE) ((ruC_CR _ C).g4 hG) ((ruC_CR _ C).pc hP) (ruC_CR _ C) (ruC_RC P C) (Nat.zero_le _) (fun C1 h1 h2 => ⟨rfl, C1, rfl, h1, h2⟩)
theorem c_goes5 {g : GW} {C : SC} {S : SM} {X : AH} {lo hi b : Nat} {A : BA} {W : Nat → Int32} (hE : EV C X lo hi b A W) {G : GA} (hG : GM 4 20 21 22 C X G) {P : RP} (hP : PC C A P) (hp : P.1.1 < nW W 6) (hk : P.1.2 < 1000) (hw : WG2 G) : SP g 6 0 0 yX6_goes cX6_goes 7 (some (.object "MoleBoard$Run")) [.ref 24, .ref 19] (cH C S X) (fun v h1 => v = some (.ref 24) ∧ ∃ C', h1 = cH C' S X ∧ RC C' (ruW W G P) G.1 ∧ CR C C') := by
  refine SP.intro [some (.ref 24), some (.ref 19), none, none, none, none, none] (pfn (by decide)) rfl (Nat.le_of_ble_eq_true rfl) ?_
  refine wp_aload_0 dX6_goes_0 rfl ?_
  refine wp_aload_0 dX6_goes_1 rfl ?_
  refine wp_getf dX6_goes_2 rfl q597 fk6_7 (cg_24 hE.X) rfl ?_
  rw [hP.2.2.2.1]
  refine wp_putf dX6_goes_5 rfl q601 fp6_9 (cg_24 hE.X) rfl rfl (Nat.le_of_ble_eq_true rfl) cs_24_9 ?_
  refine wp_aload_0 dX6_goes_8 rfl ?_
  refine wp_iconst 0 dX6_goes_9 rfl rfl ?_
  refine wp_putf dX6_goes_10 rfl q602 fp6_10 (cg_24 hE.X) rfl rfl (Nat.le_of_ble_eq_true rfl) cs_24_10 ?_
  refine wp_aload_0 dX6_goes_13 rfl ?_
  refine wp_iconst 0 dX6_goes_14 rfl rfl ?_
  refine wp_putf dX6_goes_15 rfl q603 fp6_11 (cg_24 hE.X) rfl rfl (Nat.le_of_ble_eq_true rfl) cs_24_11 ?_
  refine wp_aload_0 dX6_goes_18 rfl ?_
  refine wp_iconst 0 dX6_goes_19 rfl rfl ?_
  refine wp_putf dX6_goes_20 rfl q605 fp6_12 (cg_24 hE.X) rfl rfl (Nat.le_of_ble_eq_true rfl) cs_24_12 ?_
  refine wp_aload_0 dX6_goes_23 rfl ?_
  refine wp_iconst 0 dX6_goes_24 rfl rfl ?_
  refine wp_putf dX6_goes_25 rfl q606 fp6_13 (cg_24 hE.X) rfl rfl (Nat.le_of_ble_eq_true rfl) cs_24_13 ?_
  refine wp_aload_0 dX6_goes_28 rfl ?_
  refine wp_iconst 0 dX6_goes_29 rfl rfl ?_
  refine wp_putf dX6_goes_30 rfl q608 fp6_14 (cg_24 hE.X) rfl rfl (Nat.le_of_ble_eq_true rfl) cs_24_14 ?_
  refine wp_iconst 0 dX6_goes_33 rfl rfl ?_
  refine wp_istore_2 dX6_goes_34 rfl (by decide) rfl ?_
  exact cL_goes5 hp hk hw (WFp.w0 hE.s hE.p hp) hG.2.1 G.1 (ruC P.2.2.1 C) 0 (ru0 P) none none none none (by omega) ((ruC_CR _ C).ev hE) ((ruC_CR _ C).g5 hG) ((ruC_CR _ C).pc hP) (ruC_CR _ C) (ruC_RC P C) (Nat.zero_le _) (fun C1 h1 h2 => ⟨rfl, C1, rfl, h1, h2⟩)
theorem c_plain {g : GW} {C : SC} {S : SM} {X : AH} {lo hi b : Nat} {A : BA} {W : Nat → Int32} (hE : EV C X lo hi b A W) {p : Nat} (hp : p < nW W 6) : SP g 5 0 0 yX6_plain cX6_plain 2 (some (.object "MoleBoard$Run")) [.ref 24, .int (nI p)] (cH C S X) (fun v h1 => v = some (.ref 24) ∧ ∃ C', h1 = cH C' S X ∧ PC C' A (tpW W p) ∧ CP C C') := by
  refine SP.intro [some (.ref 24), some (.int (nI p))] (pfn (by decide)) rfl (Nat.le_of_ble_eq_true rfl) ?_
  refine wp_aload_0 dX6_plain_0 rfl ?_
  refine wp_aload_0 dX6_plain_1 rfl ?_
  refine wp_getf dX6_plain_2 rfl q612 fk6_16 (cg_24 hE.X) rfl ?_
  refine wp_iload_1 dX6_plain_5 rfl ?_
  refine wp_VNxR dX6_plain_6 rfl q1358 mv_X0_one hE.o0 rfl rfl (c_one hE hp) rfl rfl (Nat.le_of_ble_eq_true rfl) (Nat.le_of_ble_eq_true rfl) (Nat.zero_le _) (Nat.zero_le _) ?_
  refine wp_putf dX6_plain_9 rfl q592 fp6_4 (cg_24 hE.X) rfl rfl (Nat.le_of_ble_eq_true rfl) cs_24_4 ?_
  refine wp_aload_0 dX6_plain_12 rfl ?_
  refine wp_aload_0 dX6_plain_13 rfl ?_
  refine wp_getf dX6_plain_14 rfl q592 fk6_4 (cg_24 hE.X) rfl ?_
  refine wp_getfN dX6_plain_17 rfl q1153 fk15_0 (hE.pla hp) rfl ?_
  refine wp_iconst 1 dX6_plain_20 rfl rfl ?_
  refine wp_ialoadn 1 dX6_plain_21 rfl (hE.pis hp) rfl (by omega) (by decide) ?_
  rw [(hE.B.pl p hp).2.2.2 1 (by omega)]
  refine wp_putf dX6_plain_22 rfl q593 fp6_5 (cg_24 hE.X) rfl rfl (Nat.le_of_ble_eq_true rfl) cs_24_5 ?_
  refine wp_aload_0 dX6_plain_25 rfl ?_
  refine wp_aload_0 dX6_plain_26 rfl ?_
  refine wp_getf dX6_plain_27 rfl q592 fk6_4 (cg_24 hE.X) rfl ?_
  refine wp_getfN dX6_plain_30 rfl q1153 fk15_0 (hE.pla hp) rfl ?_
  refine wp_iconst 3 dX6_plain_33 rfl rfl ?_
  refine wp_ialoadn 3 dX6_plain_34 rfl (hE.pis hp) rfl (by omega) (by decide) ?_
  rw [(hE.B.pl p hp).2.2.2 3 (by omega)]
  refine wp_putf dX6_plain_35 rfl q595 fp6_6 (cg_24 hE.X) rfl rfl (Nat.le_of_ble_eq_true rfl) cs_24_6 ?_
  refine wp_aload_0 dX6_plain_38 rfl ?_
  refine wp_aload_0 dX6_plain_39 rfl ?_
  refine wp_getf dX6_plain_40 rfl q592 fk6_4 (cg_24 hE.X) rfl ?_
  refine wp_getfN dX6_plain_43 rfl q1153 fk15_0 (hE.pla hp) rfl ?_
  refine wp_iconst 4 dX6_plain_46 rfl rfl ?_
  refine wp_ialoadn 4 dX6_plain_47 rfl (hE.pis hp) rfl (by omega) (by decide) ?_
  rw [(hE.B.pl p hp).2.2.2 4 (by omega)]
  refine wp_putf dX6_plain_48 rfl q597 fp6_7 (cg_24 hE.X) rfl rfl (Nat.le_of_ble_eq_true rfl) cs_24_7 ?_
  refine wp_aload_0 dX6_plain_51 rfl ?_
  refine wp_sipush 4095 dX6_plain_52 rfl rfl ?_
  refine wp_putf dX6_plain_55 rfl q599 fp6_8 (cg_24 hE.X) rfl rfl (Nat.le_of_ble_eq_true rfl) cs_24_8 ?_
  refine wp_aload_0 dX6_plain_58 rfl ?_
  refine wp_iconst 0 dX6_plain_59 rfl rfl ?_
  refine wp_putf dX6_plain_60 rfl q610 fp6_15 (cg_24 hE.X) rfl rfl (Nat.le_of_ble_eq_true rfl) cs_24_15 ?_
  refine wp_aload_0 dX6_plain_63 rfl ?_
  exact wp_areturn_r dX6_plain_64 rfl (Or.inl ⟨_, rfl⟩) ⟨rfl, _, rfl, ⟨rfl, rfl, (pl1 hE.p hp).1, rfl, rfl, rfl⟩, (((((CK.rf [6, 7, 8, 9, 16] [] [] [24] [] C).R _ (by decide)).F _ (by decide)).F _ (by decide)).F _ (by decide)).F _ (by decide) |>.F _ (by decide)⟩
