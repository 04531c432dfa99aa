/-! ===== the class: what it is asked ===== -/
set_option maxRecDepth 100000
theorem c_is {g : GW} {C : SC} {S : SM} {X : AH} {lo hi b : Nat} {A : BA} {W : Nat → Int32} (hE : EV C X lo hi b A W) : SPx g 1 0 0 yX2_is cX2_is 1 (some .boolean) [.ref b] (cH C S X) (some (.int (b2i (bdW W)))) (cH C S X) := by
  have h := b_is (g := g) (C := C) (S := S) hE.B
  rw [show decide (0 < W 9) = bdW W from by
    rw [Bool.eq_iff_iff, decide_eq_true_eq]
    exact hE.isb] at h
  exact h
theorem c_ppace {g : GW} {C : SC} {S : SM} {X : AH} {lo hi b : Nat} {A : BA} {W : Nat → Int32} (hE : EV C X lo hi b A W) {p : Nat} (hp : p < nW W 6) {t : Int32} : SPx g 1 0 0 yX14_pace cX14_pace 2 (some .int) [.ref (A.pl p), .int t] (cH C S X) (some (.int (pcW W p t))) (cH C S X) := by
  have h := c_pace (g := g) (hE.pla (S := S) (C' := C) hp) (hE.pis (S := S) (C' := C) hp) (x := t)
  rw [(hE.B.pl p hp).2.2.2 0 (by omega), (hE.B.pl p hp).2.2.2 2 (by omega)] at h
  exact h
theorem c_ctold {g : GW} {C : SC} {S : SM} {X : AH} {lo hi b : Nat} {A : BA} {W : Nat → Int32} (hE : EV C X lo hi b A W) {k w : Nat} (hk : k < nW W 5) (hw : w ≤ 2) : SPx g 1 0 0 yX0_told cX0_told 2 (some .int) [.ref (A.mo k), .int (nI w)] (cH C S X) (some (.int (W (24 + 3 * k + w)))) (cH C S X) := by
  have h := c_told (g := g) (hE.mol (S := S) (C' := C) hk) (k := nI w)
  rw [tld_W hE.c hk hw] at h
  exact h
theorem q_c_drum {g : GW} {C : SC} {S : SM} {X : AH} {lo hi b : Nat} {A : BA} {W : Nat → Int32} (hE : EV C X lo hi b A W) {x z : Int32} : SP g 5 0 0 yX0_drum cX0_drum 3 (some .int) [.ref 0, .int x, .int z] (cH C S X) (QC C S X (.int (qdrum W x z))) := by
  refine SP.intro [some (.ref 0), some (.int x), some (.int z)] (pfn (by decide)) rfl (Nat.le_of_ble_eq_true rfl) ?_
  refine wp_aload_0 dX0_drum_0 rfl ?_
  refine wp_iload_1 dX0_drum_1 rfl ?_
  refine wp_cvR dX0_drum_2 rfl q1179 mv_X0_isMole hE.o0 rfl rfl (c_isMole hE) rfl rfl (Nat.le_of_ble_eq_true rfl) (Nat.le_of_ble_eq_true rfl) ?_
  refine wp_ifeq_b 32 dX0_drum_5 rfl rfl (fun c5 => ?_) (fun c5 => ?_)
  · refine wp_bipush (-2) dX0_drum_32 rfl rfl ?_
    exact wp_ireturn dX0_drum_34 rfl ⟨by simp (disch := omega) [qdrum, nI_clamp, *], QC0.rf⟩
  · obtain ⟨k, hk, rfl⟩ := cmW_of hE.s c5
    have hk4 : k < 24 := by have := hE.s.nc.2; omega
    refine wp_iload_2 dX0_drum_8 rfl ?_
    refine wp_i2l dX0_drum_9 rfl ?_
    refine wp_lconst 0 dX0_drum_10 rfl rfl ?_
    refine wp_ldc2_w dX0_drum_11 rfl q1189 ?_
    refine wp_csR dX0_drum_14 rfl q190 ms_X0_in c_in rfl rfl (Nat.le_of_ble_eq_true rfl) (Nat.le_of_ble_eq_true rfl) ?_
    refine wp_ifeq_b 32 dX0_drum_17 rfl rfl (fun c17 => ?_) (fun c17 => ?_)
    · refine wp_bipush (-2) dX0_drum_32 rfl rfl ?_
      exact wp_ireturn dX0_drum_34 rfl ⟨by simp (disch := omega) [qdrum, nI_clamp, *], QC0.rf⟩
    · obtain ⟨w, hw, rfl⟩ := in2_of c17
      refine wp_aload_0 dX0_drum_20 rfl ?_
      refine wp_iload_1 dX0_drum_21 rfl ?_
      refine wp_cvR dX0_drum_22 rfl q1190 mv_X0_mole hE.o0 rfl rfl (c_mole hE hk) rfl rfl (Nat.le_of_ble_eq_true rfl) (Nat.le_of_ble_eq_true rfl) ?_
      refine wp_iload_2 dX0_drum_25 rfl ?_
      refine wp_csR dX0_drum_26 rfl q1212 ms_X0_told (c_ctold hE hk hw) rfl rfl (Nat.le_of_ble_eq_true rfl) (Nat.le_of_ble_eq_true rfl) ?_
      refine wp_goto 34 dX0_drum_29 rfl rfl ?_
      exact wp_ireturn dX0_drum_34 rfl ⟨by simp (disch := omega) [qdrum, nI_clamp, *], QC0.rf⟩
theorem q_c_player {g : GW} {C : SC} {S : SM} {X : AH} {lo hi b : Nat} {A : BA} {W : Nat → Int32} (hE : EV C X lo hi b A W) {x z : Int32} : SP g 5 0 0 yX0_player cX0_player 3 (some .int) [.ref 0, .int x, .int z] (cH C S X) (QC C S X (.int (qplayer W x z))) := by
  refine SP.intro [some (.ref 0), some (.int x), some (.int z)] (pfn (by decide)) rfl (Nat.le_of_ble_eq_true rfl) ?_
  refine wp_aload_0 dX0_player_0 rfl ?_
  refine wp_iload_1 dX0_player_1 rfl ?_
  refine wp_cvR dX0_player_2 rfl q1219 mv_X0_isPlayer hE.o0 rfl rfl (c_isPlayer hE) rfl rfl (Nat.le_of_ble_eq_true rfl) (Nat.le_of_ble_eq_true rfl) ?_
  refine wp_ifeq_b 33 dX0_player_5 rfl rfl (fun c5 => ?_) (fun c5 => ?_)
  · refine wp_bipush (-2) dX0_player_33 rfl rfl ?_
    exact wp_ireturn dX0_player_35 rfl ⟨by simp (disch := omega) [qplayer, nI_clamp, *], QC0.rf⟩
  · obtain ⟨p, hp, rfl⟩ := plW_of hE.s c5
    have hp4 : p < 4 := by have := hE.s.np.2; omega
    refine wp_iload_2 dX0_player_8 rfl ?_
    refine wp_i2l dX0_player_9 rfl ?_
    refine wp_lconst 0 dX0_player_10 rfl rfl ?_
    refine wp_ldc2_w dX0_player_11 rfl q1223 ?_
    refine wp_csR dX0_player_14 rfl q190 ms_X0_in c_in rfl rfl (Nat.le_of_ble_eq_true rfl) (Nat.le_of_ble_eq_true rfl) ?_
    refine wp_ifeq_b 33 dX0_player_17 rfl rfl (fun c17 => ?_) (fun c17 => ?_)
    · refine wp_bipush (-2) dX0_player_33 rfl rfl ?_
      exact wp_ireturn dX0_player_35 rfl ⟨by simp (disch := omega) [qplayer, nI_clamp, *], QC0.rf⟩
    · obtain ⟨w, hw, rfl⟩ := in4_of c17
      refine wp_aload_0 dX0_player_20 rfl ?_
      refine wp_iload_1 dX0_player_21 rfl ?_
      refine wp_cvR dX0_player_22 rfl q1224 mv_X0_one hE.o0 rfl rfl (c_one hE hp) rfl rfl (Nat.le_of_ble_eq_true rfl) (Nat.le_of_ble_eq_true rfl) ?_
      refine wp_getfN dX0_player_25 rfl q1156 fk15_0 (hE.pla hp) rfl ?_
      refine wp_iload_2 dX0_player_28 rfl ?_
      refine wp_ialoadn w dX0_player_29 rfl (hE.pis hp) rfl (by omega) (by decide) ?_
      rw [(hE.B.pl p hp).2.2.2 w (by omega)]
      refine wp_goto 35 dX0_player_30 rfl rfl ?_
      exact wp_ireturn dX0_player_35 rfl ⟨by simp (disch := omega) [qplayer, nI_clamp, *], QC0.rf⟩
theorem q_c_stay {g : GW} {C : SC} {S : SM} {X : AH} {lo hi b : Nat} {A : BA} {W : Nat → Int32} (hE : EV C X lo hi b A W) {t : Int32} : SP g 3 0 0 yX0_stay cX0_stay 2 (some .int) [.ref 0, .int t] (cH C S X) (QC C S X (.int (qstay W t))) := by
  refine SP.intro [some (.ref 0), some (.int t)] (pfn (by decide)) rfl (Nat.le_of_ble_eq_true rfl) ?_
  refine wp_aload_0 dX0_stay_0 rfl ?_
  refine wp_iload_1 dX0_stay_1 rfl ?_
  refine wp_i2l dX0_stay_2 rfl ?_
  refine wp_cvR dX0_stay_3 rfl q1233 mv_X0_isTick hE.o0 rfl rfl (c_isTick hE) rfl rfl (Nat.le_of_ble_eq_true rfl) (Nat.le_of_ble_eq_true rfl) ?_
  refine wp_ifeq_b 20 dX0_stay_6 rfl rfl (fun c6 => ?_) (fun c6 => ?_)
  · refine wp_bipush (-2) dX0_stay_20 rfl rfl ?_
    exact wp_ireturn dX0_stay_22 rfl ⟨by simp (disch := omega) [qstay, nI_clamp, *], QC0.rf⟩
  · refine wp_aload_0 dX0_stay_9 rfl ?_
    refine wp_getf dX0_stay_10 rfl q721 fk0_1 hE.o0 rfl ?_
    refine wp_iload_1 dX0_stay_13 rfl ?_
    refine wp_cvR dX0_stay_14 rfl q1237 mv_X2_stay hE.ob rfl rfl (b_stay hE.B hE.t hE.s) rfl rfl (Nat.le_of_ble_eq_true rfl) (Nat.le_of_ble_eq_true rfl) ?_
    refine wp_goto 22 dX0_stay_17 rfl rfl ?_
    exact wp_ireturn dX0_stay_22 rfl ⟨by simp (disch := omega) [qstay, nI_clamp, *], QC0.rf⟩
theorem q_c_steps {g : GW} {C : SC} {S : SM} {X : AH} {lo hi b : Nat} {A : BA} {W : Nat → Int32} (hE : EV C X lo hi b A W) {x z : Int32} : SP g 3 0 0 yX0_steps cX0_steps 3 (some .int) [.ref 0, .int x, .int z] (cH C S X) (QC C S X (.int (qsteps W x z))) := by
  refine SP.intro [some (.ref 0), some (.int x), some (.int z)] (pfn (by decide)) rfl (Nat.le_of_ble_eq_true rfl) ?_
  refine wp_aload_0 dX0_steps_0 rfl ?_
  refine wp_iload_1 dX0_steps_1 rfl ?_
  refine wp_i2l dX0_steps_2 rfl ?_
  refine wp_cvR dX0_steps_3 rfl q1325 mv_X0_isHole hE.o0 rfl rfl (c_isHole hE) rfl rfl (Nat.le_of_ble_eq_true rfl) (Nat.le_of_ble_eq_true rfl) ?_
  refine wp_ifeq_b 27 dX0_steps_6 rfl rfl (fun c6 => ?_) (fun c6 => ?_)
  · refine wp_bipush (-2) dX0_steps_27 rfl rfl ?_
    exact wp_ireturn dX0_steps_29 rfl ⟨by simp (disch := omega) [qsteps, nI_clamp, *], QC0.rf⟩
  · obtain ⟨x, hx, rfl⟩ := hlL_of hE.s c6
    refine wp_aload_0 dX0_steps_9 rfl ?_
    refine wp_iload_2 dX0_steps_10 rfl ?_
    refine wp_i2l dX0_steps_11 rfl ?_
    refine wp_cvR dX0_steps_12 rfl q1325 mv_X0_isHole hE.o0 rfl rfl (c_isHole hE) rfl rfl (Nat.le_of_ble_eq_true rfl) (Nat.le_of_ble_eq_true rfl) ?_
    refine wp_ifeq_b 27 dX0_steps_15 rfl rfl (fun c15 => ?_) (fun c15 => ?_)
    · refine wp_bipush (-2) dX0_steps_27 rfl rfl ?_
      exact wp_ireturn dX0_steps_29 rfl ⟨by simp (disch := omega) [qsteps, nI_clamp, *], QC0.rf⟩
    · refine wp_aload_0 dX0_steps_18 rfl ?_
      refine wp_iload_1 dX0_steps_19 rfl ?_
      refine wp_iload_2 dX0_steps_20 rfl ?_
      refine wp_cvR dX0_steps_21 rfl q1279 mv_X0_stepsOf hE.o0 rfl rfl (c_stepsOf hE (hE.s.w0ne hx)) rfl rfl (Nat.le_of_ble_eq_true rfl) (Nat.le_of_ble_eq_true rfl) ?_
      refine wp_goto 29 dX0_steps_24 rfl rfl ?_
      exact wp_ireturn dX0_steps_29 rfl ⟨by simp (disch := omega) [qsteps, nI_clamp, *], QC0.rf⟩
theorem q_c_pace {g : GW} {C : SC} {S : SM} {X : AH} {lo hi b : Nat} {A : BA} {W : Nat → Int32} (hE : EV C X lo hi b A W) {x z : Int32} : SP g 5 0 0 yX0_pace cX0_pace 3 (some .int) [.ref 0, .int x, .int z] (cH C S X) (QC C S X (.int (qpace W x z))) := by
  refine SP.intro [some (.ref 0), some (.int x), some (.int z)] (pfn (by decide)) rfl (Nat.le_of_ble_eq_true rfl) ?_
  refine wp_aload_0 dX0_pace_0 rfl ?_
  refine wp_iload_1 dX0_pace_1 rfl ?_
  refine wp_cvR dX0_pace_2 rfl q1219 mv_X0_isPlayer hE.o0 rfl rfl (c_isPlayer hE) rfl rfl (Nat.le_of_ble_eq_true rfl) (Nat.le_of_ble_eq_true rfl) ?_
  refine wp_ifeq_b 29 dX0_pace_5 rfl rfl (fun c5 => ?_) (fun c5 => ?_)
  · refine wp_bipush (-2) dX0_pace_29 rfl rfl ?_
    exact wp_ireturn dX0_pace_31 rfl ⟨by simp (disch := omega) [qpace, nI_clamp, *], QC0.rf⟩
  · obtain ⟨p, hp, rfl⟩ := plW_of hE.s c5
    have hp4 : p < 4 := by have := hE.s.np.2; omega
    refine wp_aload_0 dX0_pace_8 rfl ?_
    refine wp_iload_2 dX0_pace_9 rfl ?_
    refine wp_i2l dX0_pace_10 rfl ?_
    refine wp_cvR dX0_pace_11 rfl q1233 mv_X0_isTick hE.o0 rfl rfl (c_isTick hE) rfl rfl (Nat.le_of_ble_eq_true rfl) (Nat.le_of_ble_eq_true rfl) ?_
    refine wp_ifeq_b 29 dX0_pace_14 rfl rfl (fun c14 => ?_) (fun c14 => ?_)
    · refine wp_bipush (-2) dX0_pace_29 rfl rfl ?_
      exact wp_ireturn dX0_pace_31 rfl ⟨by simp (disch := omega) [qpace, nI_clamp, *], QC0.rf⟩
    · refine wp_aload_0 dX0_pace_17 rfl ?_
      refine wp_iload_1 dX0_pace_18 rfl ?_
      refine wp_cvR dX0_pace_19 rfl q1224 mv_X0_one hE.o0 rfl rfl (c_one hE hp) rfl rfl (Nat.le_of_ble_eq_true rfl) (Nat.le_of_ble_eq_true rfl) ?_
      refine wp_iload_2 dX0_pace_22 rfl ?_
      refine wp_cvR dX0_pace_23 rfl q1334 mv_X14_pace (hE.pla hp) rfl rfl (c_ppace hE hp) rfl rfl (Nat.le_of_ble_eq_true rfl) (Nat.le_of_ble_eq_true rfl) ?_
      refine wp_goto 31 dX0_pace_26 rfl rfl ?_
      exact wp_ireturn dX0_pace_31 rfl ⟨by simp (disch := omega) [qpace, nI_clamp, *], QC0.rf⟩

theorem q_c_comings {g : GW} {C : SC} {S : SM} {X : AH} {lo hi b : Nat} {A : BA} {W : Nat → Int32} (hE : EV C X lo hi b A W)  : SP g 8 0 0 yX0_comings cX0_comings 1 (some .int) [.ref 0] (cH C S X) (QC C S X (.int (qcomings W))) := by
  refine SP.intro [some (.ref 0)] (pfn (by decide)) rfl (Nat.le_of_ble_eq_true rfl) ?_
  refine wp_aload_0 dX0_comings_0 rfl ?_
  refine wp_getf dX0_comings_1 rfl q721 fk0_1 hE.o0 rfl ?_
  refine wp_cvR dX0_comings_4 rfl q1167 mv_X2_is hE.ob rfl rfl (c_is hE) rfl rfl (Nat.le_of_ble_eq_true rfl) (Nat.le_of_ble_eq_true rfl) ?_
  refine wp_ifeq_b 20 dX0_comings_7 rfl rfl (fun c7 => ?_) (fun c7 => ?_)
  · refine wp_bipush (-2) dX0_comings_20 rfl rfl ?_
    exact wp_ireturn dX0_comings_22 rfl ⟨by first | (simp (disch := omega) [qcomings, dgW, nI_clamp, inL_0, *]; done) | (simp_all [qcomings, dgW, inL_0]; done), by first | exact QC0.mk hL | exact QC0.rf⟩
  · refine wp_aload_0 dX0_comings_10 rfl ?_
    refine wp_cvEi dX0_comings_11 rfl q1245 mv_X0_game hE.o0 rfl rfl (c_game hE) rfl rfl (Nat.le_of_ble_eq_true rfl) (Nat.le_of_ble_eq_true rfl) (fun h1 hq => ?_)
    obtain ⟨C, rfl, hG, hK⟩ := hq
    have hE := hK.ev (by decide) hE
    have hL := LD.kc hK
    have hn : C.1 3 = nI (dgM W) := hG.1
    have h60 : dgM W ≤ 60 := hG.2.1
    refine wp_getf dX0_comings_14 rfl q539 fk4_3 (cg_15 hE.X) rfl ?_
    rw [hn]
    refine wp_goto 22 dX0_comings_17 rfl rfl ?_
    exact wp_ireturn dX0_comings_22 rfl ⟨by first | (simp (disch := omega) [qcomings, dgW, nI_clamp, inL_0, *]; done) | (simp_all [qcomings, dgW, inL_0]; done), by first | exact QC0.mk hL | exact QC0.rf⟩
theorem dg_red {W : Nat → Int32} (hs : WFs W) (hc : WFc W) {i : Nat} (hi : i < dgM W) : (if gR (dgF W) i = 0 then (0 : Int32) else 1) = gR (dgF W) i := by
  have h5 : 0 < nW W 5 := by
    rcases Nat.eq_zero_or_pos (nW W 5) with q | q
    · unfold dgM at hi
      rw [hs.nc.1, q, if_neg (by decide)] at hi
      omega
    · exact q
  exact red_told hc (Nat.mod_lt _ h5)
theorem gC_td {G : GF} {i w : Nat} (hw : w < 3) (h : (if gR G i = 0 then (0 : Int32) else 1) = gR G i) : (if nI w = 0 then gH G i else if nI w = 1 then gO G i else if gR G i = 0 then (0 : Int32) else 1) = gC5 G w i := by
  match w, hw with
  | 0, _ => rfl
  | 1, _ => rfl
  | 2, _ =>
    rw [if_neg (by decide), if_neg (by decide), h]
    rfl
theorem q_c_comes {g : GW} {C : SC} {S : SM} {X : AH} {lo hi b : Nat} {A : BA} {W : Nat → Int32} (hE : EV C X lo hi b A W) {x z : Int32} : SP g 8 0 0 yX0_comes cX0_comes 4 (some .int) [.ref 0, .int x, .int z] (cH C S X) (QC C S X (.int (qcomes W x z))) := by
  refine SP.intro [some (.ref 0), some (.int x), some (.int z), none] (pfn (by decide)) rfl (Nat.le_of_ble_eq_true rfl) ?_
  refine wp_aload_0 dX0_comes_0 rfl ?_
  refine wp_getf dX0_comes_1 rfl q721 fk0_1 hE.o0 rfl ?_
  refine wp_cvR dX0_comes_4 rfl q1167 mv_X2_is hE.ob rfl rfl (c_is hE) rfl rfl (Nat.le_of_ble_eq_true rfl) (Nat.le_of_ble_eq_true rfl) ?_
  refine wp_ifeq_b 22 dX0_comes_7 rfl rfl (fun c7 => ?_) (fun c7 => ?_)
  · refine wp_bipush (-2) dX0_comes_22 rfl rfl ?_
    exact wp_ireturn dX0_comes_24 rfl ⟨by first | (simp (disch := omega) [qcomes, gC5, dgW, nI_clamp, inL_0, *]; done) | (simp_all [qcomes, gC5, dgW, inL_0]; done), by first | exact QC0.mk hL | exact QC0.rf⟩
  · refine wp_iload_2 dX0_comes_10 rfl ?_
    refine wp_i2l dX0_comes_11 rfl ?_
    refine wp_lconst 0 dX0_comes_12 rfl rfl ?_
    refine wp_ldc2_w dX0_comes_13 rfl q1223 ?_
    refine wp_csR dX0_comes_16 rfl q190 ms_X0_in c_in rfl rfl (Nat.le_of_ble_eq_true rfl) (Nat.le_of_ble_eq_true rfl) ?_
    refine wp_ifne_b 25 dX0_comes_19 rfl rfl (fun c19 => ?_) (fun c19 => ?_)
    · obtain ⟨w, hw, rfl⟩ := in4_of c19
      refine wp_aload_0 dX0_comes_25 rfl ?_
      refine wp_cvEi dX0_comes_26 rfl q1245 mv_X0_game hE.o0 rfl rfl (c_game hE) rfl rfl (Nat.le_of_ble_eq_true rfl) (Nat.le_of_ble_eq_true rfl) (fun h1 hq => ?_)
      obtain ⟨C, rfl, hG, hK⟩ := hq
      have hE := hK.ev (by decide) hE
      have hL := LD.kc hK
      have hn : C.1 3 = nI (dgM W) := hG.1
      have h60 : dgM W ≤ 60 := hG.2.1
      refine wp_astore_3 dX0_comes_29 rfl (by decide) rfl ?_
      refine wp_iload_1 dX0_comes_30 rfl ?_
      refine wp_i2l dX0_comes_31 rfl ?_
      refine wp_lconst 0 dX0_comes_32 rfl rfl ?_
      refine wp_aload_3 dX0_comes_33 rfl ?_
      refine wp_getf dX0_comes_34 rfl q539 fk4_3 (cg_15 hE.X) rfl ?_
      rw [hn]
      refine wp_iconst 1 dX0_comes_37 rfl rfl ?_
      refine wp_isub dX0_comes_38 rfl ?_
      refine wp_i2l dX0_comes_39 rfl ?_
      refine wp_csR dX0_comes_40 rfl q190 ms_X0_in c_in rfl rfl (Nat.le_of_ble_eq_true rfl) (Nat.le_of_ble_eq_true rfl) ?_
      refine wp_ifne_b 48 dX0_comes_43 rfl rfl (fun c43 => ?_) (fun c43 => ?_)
      · rw [inL_0] at c43
        obtain ⟨i, hi, rfl⟩ := in_of (n := dgM W) (by omega) c43
        obtain ⟨m, hm, hM⟩ : ∃ m, C.2.2.2.2.1 16 i = some m ∧ (cH C S X)[m]? = some (.inr (14, [.int (gH (dgF W) i), .int (gO (dgF W) i), .int (gR (dgF W) i)])) := hG.m hi
        refine wp_iload_2 dX0_comes_48 rfl ?_
        refine wp_iconst 3 dX0_comes_49 rfl rfl ?_
        refine wp_icmp_ge_k 65 dX0_comes_50 rfl rfl (b := 3) (by omega) (by omega) (fun c50 => ?_) (fun c50 => ?_)
        · have c50 : ¬ w < 3 := by omega
          refine wp_iload_2 dX0_comes_65 rfl ?_
          refine wp_iconst 3 dX0_comes_66 rfl rfl ?_
          refine wp_icmp_ne_k 79 dX0_comes_67 rfl rfl (b := 3) (by omega) (by omega) (fun c67 => ?_) (fun c67 => ?_)
          · refine wp_aload_3 dX0_comes_79 rfl ?_
            refine wp_getf dX0_comes_80 rfl q530 fk4_2 (cg_15 hE.X) rfl ?_
            refine wp_iload_1 dX0_comes_83 rfl ?_
            refine wp_ialoadn i dX0_comes_84 rfl (cg_18 hE.X) rfl (by omega) (by decide) ?_
            rw [show C.2.1 18 i = gE (dgF W) i from hG.e hi]
            exact wp_ireturn dX0_comes_85 rfl ⟨by first | (simp (disch := omega) [qcomes, gC5, dgW, nI_clamp, inL_0, *]; done) | (simp_all [qcomes, gC5, dgW, inL_0]; done), by first | exact QC0.mk hL | exact QC0.rf⟩
          · subst c67
            clear c50
            refine wp_aload_3 dX0_comes_70 rfl ?_
            refine wp_getf dX0_comes_71 rfl q526 fk4_1 (cg_15 hE.X) rfl ?_
            refine wp_iload_1 dX0_comes_74 rfl ?_
            refine wp_ialoadn i dX0_comes_75 rfl (cg_17 hE.X) rfl (by omega) (by decide) ?_
            rw [show C.2.1 17 i = gF (dgF W) i from hG.f hi]
            refine wp_goto 85 dX0_comes_76 rfl rfl ?_
            exact wp_ireturn dX0_comes_85 rfl ⟨by first | (simp (disch := omega) [qcomes, gC5, dgW, nI_clamp, inL_0, *]; done) | (simp_all [qcomes, gC5, dgW, inL_0]; done), by first | exact QC0.mk hL | exact QC0.rf⟩
        · refine wp_aload_3 dX0_comes_53 rfl ?_
          refine wp_iload_1 dX0_comes_54 rfl ?_
          refine wp_UxR dX0_comes_55 rfl q1296 mu_X3_mole_X4 (cg_15 hE.X) rfl rfl (c_gmole4 hE.X (by omega) hm) rfl rfl (Nat.le_of_ble_eq_true rfl) (Nat.le_of_ble_eq_true rfl) (Nat.zero_le _) (Nat.zero_le _) ?_
          refine wp_iload_2 dX0_comes_58 rfl ?_
          refine wp_csR dX0_comes_59 rfl q1212 ms_X0_told (c_told hM) rfl rfl (Nat.le_of_ble_eq_true rfl) (Nat.le_of_ble_eq_true rfl) ?_
          rw [gC_td (by omega) (dg_red hE.s hE.c hi)]
          refine wp_goto 85 dX0_comes_62 rfl rfl ?_
          exact wp_ireturn dX0_comes_85 rfl ⟨by first | (simp (disch := omega) [qcomes, gC5, dgW, nI_clamp, inL_0, *]; done) | (simp_all [qcomes, gC5, dgW, inL_0]; done), by first | exact QC0.mk hL | exact QC0.rf⟩
      · rw [inL_0] at c43
        refine wp_iconst (-1) dX0_comes_46 rfl rfl ?_
        exact wp_ireturn dX0_comes_47 rfl ⟨by first | (simp (disch := omega) [qcomes, gC5, dgW, nI_clamp, inL_0, *]; done) | (simp_all [qcomes, gC5, dgW, inL_0]; done), by first | exact QC0.mk hL | exact QC0.rf⟩
    · refine wp_bipush (-2) dX0_comes_22 rfl rfl ?_
      exact wp_ireturn dX0_comes_24 rfl ⟨by first | (simp (disch := omega) [qcomes, gC5, dgW, nI_clamp, inL_0, *]; done) | (simp_all [qcomes, gC5, dgW, inL_0]; done), by first | exact QC0.mk hL | exact QC0.rf⟩
theorem q_c_aware {g : GW} {C : SC} {S : SM} {X : AH} {lo hi b : Nat} {A : BA} {W : Nat → Int32} (hE : EV C X lo hi b A W) {x z : Int32} : SP g 8 0 0 yX0_aware cX0_aware 4 (some .int) [.ref 0, .int x, .int z] (cH C S X) (QC C S X (.int (qaware W x z))) := by
  refine SP.intro [some (.ref 0), some (.int x), some (.int z), none] (pfn (by decide)) rfl (Nat.le_of_ble_eq_true rfl) ?_
  refine wp_aload_0 dX0_aware_0 rfl ?_
  refine wp_iload_1 dX0_aware_1 rfl ?_
  refine wp_cvR dX0_aware_2 rfl q1219 mv_X0_isPlayer hE.o0 rfl rfl (c_isPlayer hE) rfl rfl (Nat.le_of_ble_eq_true rfl) (Nat.le_of_ble_eq_true rfl) ?_
  refine wp_ifne_b 11 dX0_aware_5 rfl rfl (fun c5 => ?_) (fun c5 => ?_)
  · obtain ⟨p, hp, rfl⟩ := plW_of hE.s c5
    have hp4 : p < 4 := by have := hE.s.np.2; omega
    refine wp_aload_0 dX0_aware_11 rfl ?_
    refine wp_cvEi dX0_aware_12 rfl q1245 mv_X0_game hE.o0 rfl rfl (c_game hE) rfl rfl (Nat.le_of_ble_eq_true rfl) (Nat.le_of_ble_eq_true rfl) (fun h1 hq => ?_)
    obtain ⟨C, rfl, hG, hK⟩ := hq
    have hE := hK.ev (by decide) hE
    have hL := LD.kc hK
    have hn : C.1 3 = nI (dgM W) := hG.1
    have h60 : dgM W ≤ 60 := hG.2.1
    refine wp_astore_3 dX0_aware_15 rfl (by decide) rfl ?_
    refine wp_iload_2 dX0_aware_16 rfl ?_
    refine wp_i2l dX0_aware_17 rfl ?_
    refine wp_lconst 0 dX0_aware_18 rfl rfl ?_
    refine wp_aload_3 dX0_aware_19 rfl ?_
    refine wp_getf dX0_aware_20 rfl q539 fk4_3 (cg_15 hE.X) rfl ?_
    rw [hn]
    refine wp_iconst 1 dX0_aware_23 rfl rfl ?_
    refine wp_isub dX0_aware_24 rfl ?_
    refine wp_i2l dX0_aware_25 rfl ?_
    refine wp_csR dX0_aware_26 rfl q190 ms_X0_in c_in rfl rfl (Nat.le_of_ble_eq_true rfl) (Nat.le_of_ble_eq_true rfl) ?_
    refine wp_ifeq_b 60 dX0_aware_29 rfl rfl (fun c29 => ?_) (fun c29 => ?_)
    · rw [inL_0] at c29
      refine wp_iconst (-1) dX0_aware_60 rfl rfl ?_
      exact wp_ireturn dX0_aware_61 rfl ⟨by first | (simp (disch := omega) [qaware, tpW, dgW, nI_clamp, inL_0, *]; done) | (simp_all [qaware, tpW, dgW, inL_0]; done), by first | exact QC0.mk hL | exact QC0.rf⟩
    · rw [inL_0] at c29
      obtain ⟨i, hi, rfl⟩ := in_of (n := dgM W) (by omega) c29
      obtain ⟨b1, b2⟩ := (hE.p p hp).2.2.2.1
      refine wp_aload_3 dX0_aware_32 rfl ?_
      refine wp_aload_0 dX0_aware_33 rfl ?_
      refine wp_iload_1 dX0_aware_34 rfl ?_
      refine wp_cvR dX0_aware_35 rfl q1224 mv_X0_one hE.o0 rfl rfl (c_one hE hp) rfl rfl (Nat.le_of_ble_eq_true rfl) (Nat.le_of_ble_eq_true rfl) ?_
      refine wp_getfN dX0_aware_38 rfl q1156 fk15_0 (hE.pla hp) rfl ?_
      refine wp_iconst 1 dX0_aware_41 rfl rfl ?_
      refine wp_ialoadn 1 dX0_aware_42 rfl (hE.pis hp) rfl (by omega) (by decide) ?_
      rw [(hE.B.pl p hp).2.2.2 1 (by omega)]
      refine wp_aload_0 dX0_aware_43 rfl ?_
      refine wp_iload_1 dX0_aware_44 rfl ?_
      refine wp_cvR dX0_aware_45 rfl q1224 mv_X0_one hE.o0 rfl rfl (c_one hE hp) rfl rfl (Nat.le_of_ble_eq_true rfl) (Nat.le_of_ble_eq_true rfl) ?_
      refine wp_getfN dX0_aware_48 rfl q1156 fk15_0 (hE.pla hp) rfl ?_
      refine wp_iconst 3 dX0_aware_51 rfl rfl ?_
      refine wp_ialoadn 3 dX0_aware_52 rfl (hE.pis hp) rfl (by omega) (by decide) ?_
      rw [(hE.B.pl p hp).2.2.2 3 (by omega), b1]
      refine wp_iload_2 dX0_aware_53 rfl ?_
      refine wp_csR dX0_aware_54 rfl q1342 ms_X0_awareOf (c_awareOf4 (p := p) (z := (W (96 + 5 * p + 4), 4095, 0)) hE.X hG hi (by omega)) rfl rfl (Nat.le_of_ble_eq_true rfl) (Nat.le_of_ble_eq_true rfl) ?_
      refine wp_goto 61 dX0_aware_57 rfl rfl ?_
      exact wp_ireturn dX0_aware_61 rfl ⟨by first | (simp (disch := omega) [qaware, tpW, dgW, nI_clamp, inL_0, *]; done) | (simp_all [qaware, tpW, dgW, inL_0]; done), by first | exact QC0.mk hL | exact QC0.rf⟩
  · refine wp_bipush (-2) dX0_aware_8 rfl rfl ?_
    exact wp_ireturn dX0_aware_10 rfl ⟨by first | (simp (disch := omega) [qaware, tpW, dgW, nI_clamp, inL_0, *]; done) | (simp_all [qaware, tpW, dgW, inL_0]; done), by first | exact QC0.mk hL | exact QC0.rf⟩
theorem cL_up {g : GW} {C : SC} {S : SM} {X : AH} {lo hi b : Nat} {A : BA} {W : Nat → Int32} (hE : EV C X lo hi b A W) (hG : GM 3 16 17 18 C X (dgW W)) {t : Int32} {c n : Nat} {Q : Option Value → AH → Prop} : ∀ (k : Nat) (i : Nat) (a : Int32), i + k = dgM W → Q (some (.int (itr (upF (dgF W) t) k i a))) (cH C S X) → WP g 8 yX0_up cX0_up 5 (some .int) 22 [some (.ref 0), some (.int t), some (.ref 15), some (.int a), some (.int (nI i))] [] (cH C S X) c n Q := by
  intro k
  induction k with
  | zero =>
    intro i a hi hq
    have hn : C.1 3 = nI (dgM W) := hG.1
    have h60 : dgM W ≤ 60 := hG.2.1
    refine wp_iload_4 dX0_up_22 rfl ?_
    refine wp_aload_2 dX0_up_24 rfl ?_
    refine wp_getf dX0_up_25 rfl q539 fk4_3 (cg_15 hE.X) rfl ?_
    rw [hn]
    refine wp_icmp_ge_k 89 dX0_up_28 rfl rfl (by omega) (by omega) (fun c28 => ?_) (fun c28 => ?_)
    · refine wp_iload_3 dX0_up_89 rfl ?_
      exact wp_ireturn dX0_up_90 rfl hq
    · exact absurd c28 (by omega)
  | succ k ih =>
    intro i a hi hq
    have hn : C.1 3 = nI (dgM W) := hG.1
    have h60 : dgM W ≤ 60 := hG.2.1
    refine wp_iload_4 dX0_up_22 rfl ?_
    refine wp_aload_2 dX0_up_24 rfl ?_
    refine wp_getf dX0_up_25 rfl q539 fk4_3 (cg_15 hE.X) rfl ?_
    rw [hn]
    refine wp_icmp_ge_k 89 dX0_up_28 rfl rfl (by omega) (by omega) (fun c28 => ?_) (fun c28 => ?_)
    · exact absurd c28 (by omega)
    · obtain ⟨m, hm, hM⟩ : ∃ m, C.2.2.2.2.1 16 i = some m ∧ (cH C S X)[m]? = some (.inr (14, [.int (gH (dgF W) i), .int (gO (dgF W) i), .int (gR (dgF W) i)])) := hG.m (show i < (dgW W).1 by show i < dgM W; omega)
      refine wp_aload_2 dX0_up_31 rfl ?_
      refine wp_iload_4 dX0_up_32 rfl ?_
      refine wp_iload_1 dX0_up_34 rfl ?_
      refine wp_UxR dX0_up_35 rfl q1306 mu_X3_isUp_X4 (cg_15 hE.X) rfl rfl (c_isUp4 hE.X hG (show i < (dgW W).1 by show i < dgM W; omega)) rfl rfl (Nat.le_of_ble_eq_true rfl) (Nat.le_of_ble_eq_true rfl) (Nat.zero_le _) (Nat.zero_le _) ?_
      refine wp_ifeq_b 83 dX0_up_38 rfl rfl (fun c38 => ?_) (fun c38 => ?_)
      · refine wp_iinc_4 1 dX0_up_83 rfl rfl (by decide) rfl ?_
        refine wp_goto 22 dX0_up_86 rfl rfl ?_
        exact WP.cast (by simp_all [upF, nI_1, dgW, Int32.or_assoc]) (ih (i + 1) (upF (dgF W) t i a) (by omega) hq)
      · refine wp_iload_3 dX0_up_41 rfl ?_
        refine wp_iconst 1 dX0_up_42 rfl rfl ?_
        refine wp_aload_2 dX0_up_43 rfl ?_
        refine wp_iload_4 dX0_up_44 rfl ?_
        refine wp_UxR dX0_up_46 rfl q1296 mu_X3_mole_X4 (cg_15 hE.X) rfl rfl (c_gmole4 hE.X (by omega) hm) rfl rfl (Nat.le_of_ble_eq_true rfl) (Nat.le_of_ble_eq_true rfl) (Nat.zero_le _) (Nat.zero_le _) ?_
        refine wp_getfN dX0_up_49 rfl q1056 fk14_0 hM rfl ?_
        refine wp_ishl dX0_up_52 rfl ?_
        refine wp_aload_2 dX0_up_53 rfl ?_
        refine wp_iload_4 dX0_up_54 rfl ?_
        refine wp_UxR dX0_up_56 rfl q1296 mu_X3_mole_X4 (cg_15 hE.X) rfl rfl (c_gmole4 hE.X (by omega) hm) rfl rfl (Nat.le_of_ble_eq_true rfl) (Nat.le_of_ble_eq_true rfl) (Nat.zero_le _) (Nat.zero_le _) ?_
        refine wp_cvR dX0_up_59 rfl q1313 mv_X13_isTwin hM rfl rfl (c_isTwin hM) rfl rfl (Nat.le_of_ble_eq_true rfl) (Nat.le_of_ble_eq_true rfl) ?_
        refine wp_ifeq_b 79 dX0_up_62 rfl rfl (fun c62 => ?_) (fun c62 => ?_)
        · refine wp_iconst 0 dX0_up_79 rfl rfl ?_
          refine wp_ior dX0_up_80 rfl ?_
          refine wp_ior dX0_up_81 rfl ?_
          refine wp_istore_3 dX0_up_82 rfl (by decide) rfl ?_
          refine wp_iinc_4 1 dX0_up_83 rfl rfl (by decide) rfl ?_
          refine wp_goto 22 dX0_up_86 rfl rfl ?_
          exact WP.cast (by simp_all [upF, nI_1, dgW, Int32.or_assoc]) (ih (i + 1) (upF (dgF W) t i a) (by omega) hq)
        · refine wp_iconst 1 dX0_up_65 rfl rfl ?_
          refine wp_aload_2 dX0_up_66 rfl ?_
          refine wp_iload_4 dX0_up_67 rfl ?_
          refine wp_UxR dX0_up_69 rfl q1296 mu_X3_mole_X4 (cg_15 hE.X) rfl rfl (c_gmole4 hE.X (by omega) hm) rfl rfl (Nat.le_of_ble_eq_true rfl) (Nat.le_of_ble_eq_true rfl) (Nat.zero_le _) (Nat.zero_le _) ?_
          refine wp_getfN dX0_up_72 rfl q1060 fk14_1 hM rfl ?_
          refine wp_ishl dX0_up_75 rfl ?_
          refine wp_goto 80 dX0_up_76 rfl rfl ?_
          refine wp_ior dX0_up_80 rfl ?_
          refine wp_ior dX0_up_81 rfl ?_
          refine wp_istore_3 dX0_up_82 rfl (by decide) rfl ?_
          refine wp_iinc_4 1 dX0_up_83 rfl rfl (by decide) rfl ?_
          refine wp_goto 22 dX0_up_86 rfl rfl ?_
          exact WP.cast (by simp_all [upF, nI_1, dgW, Int32.or_assoc]) (ih (i + 1) (upF (dgF W) t i a) (by omega) hq)
theorem q_c_up {g : GW} {C : SC} {S : SM} {X : AH} {lo hi b : Nat} {A : BA} {W : Nat → Int32} (hE : EV C X lo hi b A W) {x : Int32} : SP g 8 0 0 yX0_up cX0_up 5 (some .int) [.ref 0, .int x] (cH C S X) (QC C S X (.int (qup W x))) := by
  refine SP.intro [some (.ref 0), some (.int x), none, none, none] (pfn (by decide)) rfl (Nat.le_of_ble_eq_true rfl) ?_
  refine wp_aload_0 dX0_up_0 rfl ?_
  refine wp_iload_1 dX0_up_1 rfl ?_
  refine wp_i2l dX0_up_2 rfl ?_
  refine wp_cvR dX0_up_3 rfl q1233 mv_X0_isTick hE.o0 rfl rfl (c_isTick hE) rfl rfl (Nat.le_of_ble_eq_true rfl) (Nat.le_of_ble_eq_true rfl) ?_
  refine wp_ifne_b 12 dX0_up_6 rfl rfl (fun c6 => ?_) (fun c6 => ?_)
  · refine wp_aload_0 dX0_up_12 rfl ?_
    refine wp_cvEi dX0_up_13 rfl q1245 mv_X0_game hE.o0 rfl rfl (c_game hE) rfl rfl (Nat.le_of_ble_eq_true rfl) (Nat.le_of_ble_eq_true rfl) (fun h1 hq => ?_)
    obtain ⟨C, rfl, hG, hK⟩ := hq
    have hE := hK.ev (by decide) hE
    have hL := LD.kc hK
    have hn : C.1 3 = nI (dgM W) := hG.1
    have h60 : dgM W ≤ 60 := hG.2.1
    refine wp_astore_2 dX0_up_16 rfl (by decide) rfl ?_
    refine wp_iconst 0 dX0_up_17 rfl rfl ?_
    refine wp_istore_3 dX0_up_18 rfl (by decide) rfl ?_
    refine wp_iconst 0 dX0_up_19 rfl rfl ?_
    refine wp_istore_4 dX0_up_20 rfl (by decide) rfl ?_
    exact cL_up hE hG (dgM W) 0 0 (Nat.zero_add _) ⟨by simp_all [qup, upG, dgW], QC0.mk hL⟩
  · refine wp_bipush (-2) dX0_up_9 rfl rfl ?_
    exact wp_ireturn dX0_up_11 rfl ⟨by first | (simp (disch := omega) [qup, dgW, nI_clamp, inL_0, *]; done) | (simp_all [qup, dgW, inL_0]; done), by first | exact QC0.mk hL | exact QC0.rf⟩
