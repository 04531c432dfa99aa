/-! ===== the class: what it is asked of runs ===== -/
set_option maxRecDepth 100000
theorem c_hitsOf {g : GW} {C : SC} {S : SM} {X : AH} {lo hi b : Nat} {A : BA} {W : Nat → Int32} (hE : EV C X lo hi b A W) {p : Nat} (hp : p < nW W 6) : SP g 8 0 0 yX0_hitsOf cX0_hitsOf 2 (some .int) [.ref 0, .int (nI p)] (cH C S X) (fun v h1 => v = some (.int (nI (tSt (ruD W p)))) ∧ HQ C S X h1) := by
  refine SP.intro [some (.ref 0), some (.int (nI p))] (pfn (by decide)) rfl (Nat.le_of_ble_eq_true rfl) ?_
  have hk := (pl1 hE.p hp).2
  refine wp_aload_0 dX0_hitsOf_0 rfl ?_
  refine wp_getf dX0_hitsOf_1 rfl q729 fk0_9 hE.o0 rfl ?_
  refine wp_iload_1 dX0_hitsOf_4 rfl ?_
  refine wp_cvEi dX0_hitsOf_5 rfl q1354 mv_X6_plain (cg_24 hE.X) rfl rfl (c_plain hE hp) rfl rfl (Nat.le_of_ble_eq_true rfl) (Nat.le_of_ble_eq_true rfl) (fun h1 hq => ?_)
  obtain ⟨C, rfl, hP, hc⟩ := hq
  have hE := hc.ev hE
  have hL := hc.kc
  refine wp_aload_0 dX0_hitsOf_8 rfl ?_
  refine wp_cvEi dX0_hitsOf_9 rfl q1245 mv_X0_game hE.o0 rfl rfl (c_game hE) rfl rfl (Nat.le_of_ble_eq_true rfl) (Nat.le_of_ble_eq_true rfl) (fun h1 hq => ?_)
  obtain ⟨C, rfl, hG, hK⟩ := hq
  have hE := hK.ev (by decide) hE
  have hL := hL.tr (LD.kc hK)
  have hP := LD.pc hK hP
  refine wp_cvEi dX0_hitsOf_12 rfl q1359 mv_X6_goes (cg_24 hE.X) rfl rfl (c_goes4 hE hG hP hp hk (dg_wg hE.s hE.c)) rfl rfl (Nat.le_of_ble_eq_true rfl) (Nat.le_of_ble_eq_true rfl) (fun h1 hq => ?_)
  obtain ⟨C, rfl, hR, hr⟩ := hq
  have hE := hr.ev hE
  have hL := hL.tr hr.kc
  refine wp_getfN dX0_hitsOf_15 rfl q604 fk6_11 (cg_24 hE.X) rfl ?_
  rw [hR.hits rfl]
  exact wp_ireturn dX0_hitsOf_18 rfl ⟨rfl, HQ.qc hL⟩
theorem c_learnsOf {g : GW} {C : SC} {S : SM} {X : AH} {lo hi b : Nat} {A : BA} {W : Nat → Int32} (hE : EV C X lo hi b A W) {p : Nat} (hp : p < nW W 6) {n : Nat} (hk : n < 1000) : SP g 8 0 0 yX0_learnsOf cX0_learnsOf 3 (some .int) [.ref 0, .int (nI p), .int (nI n)] (cH C S X) (fun v h1 => v = some (.int (nI (stG W (lnP W p n)))) ∧ HQ C S X h1) := by
  refine SP.intro [some (.ref 0), some (.int (nI p)), some (.int (nI n))] (pfn (by decide)) rfl (Nat.le_of_ble_eq_true rfl) ?_
  refine wp_aload_0 dX0_learnsOf_0 rfl ?_
  refine wp_getf dX0_learnsOf_1 rfl q729 fk0_9 hE.o0 rfl ?_
  refine wp_iload_1 dX0_learnsOf_4 rfl ?_
  refine wp_cvEi dX0_learnsOf_5 rfl q1354 mv_X6_plain (cg_24 hE.X) rfl rfl (c_plain hE hp) rfl rfl (Nat.le_of_ble_eq_true rfl) (Nat.le_of_ble_eq_true rfl) (fun h1 hq => ?_)
  obtain ⟨C, rfl, hP, hc⟩ := hq
  have hE := hc.ev hE
  have hL := hc.kc
  refine wp_iload_2 dX0_learnsOf_8 rfl ?_
  refine wp_putfN dX0_learnsOf_9 rfl q596 fp6_6 (cg_24 hE.X) rfl rfl (Nat.le_of_ble_eq_true rfl) cs_24_6 ?_
  have hP : PC (cF 7 (nI n) C) A (lnP W p n) := ⟨hP.1, hP.2.1, rfl, hP.2.2.2⟩
  have hE : EV (cF 7 (nI n) C) X lo hi b A W := hE.to rfl
  have hL := hL.tr (show KC C (cF 7 (nI n) C) from CP.kc ((CK.rf [6, 7, 8, 9, 16] [] [] [24] [] C).F _ (by decide)))
  generalize cF 7 (nI n) C = C at *
  refine wp_aload_0 dX0_learnsOf_12 rfl ?_
  refine wp_getf dX0_learnsOf_13 rfl q729 fk0_9 hE.o0 rfl ?_
  refine wp_aload_0 dX0_learnsOf_16 rfl ?_
  refine wp_cvEi dX0_learnsOf_17 rfl q1245 mv_X0_game hE.o0 rfl rfl (c_game hE) rfl rfl (Nat.le_of_ble_eq_true rfl) (Nat.le_of_ble_eq_true rfl) (fun h1 hq => ?_)
  obtain ⟨C, rfl, hG, hK⟩ := hq
  have hE := hK.ev (by decide) hE
  have hL := hL.tr (LD.kc hK)
  have hP := LD.pc hK hP
  refine wp_cvEi dX0_learnsOf_20 rfl q1359 mv_X6_goes (cg_24 hE.X) rfl rfl (c_goes4 hE hG hP hp hk (dg_wg hE.s hE.c)) rfl rfl (Nat.le_of_ble_eq_true rfl) (Nat.le_of_ble_eq_true rfl) (fun h1 hq => ?_)
  obtain ⟨C, rfl, hR, hr⟩ := hq
  have hE := hr.ev hE
  have hL := hL.tr hr.kc
  refine wp_getfN dX0_learnsOf_23 rfl q604 fk6_11 (cg_24 hE.X) rfl ?_
  rw [hR.hits rfl]
  exact wp_ireturn dX0_learnsOf_26 rfl ⟨rfl, HQ.qc hL⟩
theorem c_waitsOf {g : GW} {C : SC} {S : SM} {X : AH} {lo hi b : Nat} {A : BA} {W : Nat → Int32} (hE : EV C X lo hi b A W) {p : Nat} (hp : p < nW W 6) {x : Int32} : SP g 8 0 0 yX0_waitsOf cX0_waitsOf 3 (some .int) [.ref 0, .int (nI p), .int x] (cH C S X) (fun v h1 => v = some (.int (nI (stG W (wtP W p x)))) ∧ HQ C S X h1) := by
  refine SP.intro [some (.ref 0), some (.int (nI p)), some (.int x)] (pfn (by decide)) rfl (Nat.le_of_ble_eq_true rfl) ?_
  have hk := (pl1 hE.p hp).2
  refine wp_aload_0 dX0_waitsOf_0 rfl ?_
  refine wp_getf dX0_waitsOf_1 rfl q729 fk0_9 hE.o0 rfl ?_
  refine wp_iload_1 dX0_waitsOf_4 rfl ?_
  refine wp_cvEi dX0_waitsOf_5 rfl q1354 mv_X6_plain (cg_24 hE.X) rfl rfl (c_plain hE hp) rfl rfl (Nat.le_of_ble_eq_true rfl) (Nat.le_of_ble_eq_true rfl) (fun h1 hq => ?_)
  obtain ⟨C, rfl, hP, hc⟩ := hq
  have hE := hc.ev hE
  have hL := hc.kc
  refine wp_iload_2 dX0_waitsOf_8 rfl ?_
  refine wp_putfN dX0_waitsOf_9 rfl q598 fp6_7 (cg_24 hE.X) rfl rfl (Nat.le_of_ble_eq_true rfl) cs_24_7 ?_
  have hP : PC (cF 8 x C) A (wtP W p x) := ⟨hP.1, hP.2.1, hP.2.2.1, rfl, hP.2.2.2.2⟩
  have hE : EV (cF 8 x C) X lo hi b A W := hE.to rfl
  have hL := hL.tr (show KC C (cF 8 x C) from CP.kc ((CK.rf [6, 7, 8, 9, 16] [] [] [24] [] C).F _ (by decide)))
  generalize cF 8 x C = C at *
  refine wp_aload_0 dX0_waitsOf_12 rfl ?_
  refine wp_getf dX0_waitsOf_13 rfl q729 fk0_9 hE.o0 rfl ?_
  refine wp_aload_0 dX0_waitsOf_16 rfl ?_
  refine wp_cvEi dX0_waitsOf_17 rfl q1245 mv_X0_game hE.o0 rfl rfl (c_game hE) rfl rfl (Nat.le_of_ble_eq_true rfl) (Nat.le_of_ble_eq_true rfl) (fun h1 hq => ?_)
  obtain ⟨C, rfl, hG, hK⟩ := hq
  have hE := hK.ev (by decide) hE
  have hL := hL.tr (LD.kc hK)
  have hP := LD.pc hK hP
  refine wp_cvEi dX0_waitsOf_20 rfl q1359 mv_X6_goes (cg_24 hE.X) rfl rfl (c_goes4 hE hG hP hp hk (dg_wg hE.s hE.c)) rfl rfl (Nat.le_of_ble_eq_true rfl) (Nat.le_of_ble_eq_true rfl) (fun h1 hq => ?_)
  obtain ⟨C, rfl, hR, hr⟩ := hq
  have hE := hr.ev hE
  have hL := hL.tr hr.kc
  refine wp_getfN dX0_waitsOf_23 rfl q604 fk6_11 (cg_24 hE.X) rfl ?_
  rw [hR.hits rfl]
  exact wp_ireturn dX0_waitsOf_26 rfl ⟨rfl, HQ.qc hL⟩
theorem c_laggingHits {g : GW} {C : SC} {S : SM} {X : AH} {lo hi b : Nat} {A : BA} {W : Nat → Int32} (hE : EV C X lo hi b A W) {p : Nat} (hp : p < nW W 6) {x : Int32} : SP g 8 0 0 yX0_laggingHits cX0_laggingHits 3 (some .int) [.ref 0, .int (nI p), .int x] (cH C S X) (fun v h1 => v = some (.int (nI (stG W (lgP W p x)))) ∧ HQ C S X h1) := by
  refine SP.intro [some (.ref 0), some (.int (nI p)), some (.int x)] (pfn (by decide)) rfl (Nat.le_of_ble_eq_true rfl) ?_
  have hk := (pl1 hE.p hp).2
  refine wp_aload_0 dX0_laggingHits_0 rfl ?_
  refine wp_getf dX0_laggingHits_1 rfl q729 fk0_9 hE.o0 rfl ?_
  refine wp_iload_1 dX0_laggingHits_4 rfl ?_
  refine wp_cvEi dX0_laggingHits_5 rfl q1354 mv_X6_plain (cg_24 hE.X) rfl rfl (c_plain hE hp) rfl rfl (Nat.le_of_ble_eq_true rfl) (Nat.le_of_ble_eq_true rfl) (fun h1 hq => ?_)
  obtain ⟨C, rfl, hP, hc⟩ := hq
  have hE := hc.ev hE
  have hL := hc.kc
  refine wp_iload_2 dX0_laggingHits_8 rfl ?_
  refine wp_putfN dX0_laggingHits_9 rfl q594 fp6_5 (cg_24 hE.X) rfl rfl (Nat.le_of_ble_eq_true rfl) cs_24_5 ?_
  have hP : PC (cF 6 x C) A (lgP W p x) := ⟨hP.1, rfl, hP.2.2⟩
  have hE : EV (cF 6 x C) X lo hi b A W := hE.to rfl
  have hL := hL.tr (show KC C (cF 6 x C) from CP.kc ((CK.rf [6, 7, 8, 9, 16] [] [] [24] [] C).F _ (by decide)))
  generalize cF 6 x C = C at *
  refine wp_aload_0 dX0_laggingHits_12 rfl ?_
  refine wp_getf dX0_laggingHits_13 rfl q729 fk0_9 hE.o0 rfl ?_
  refine wp_aload_0 dX0_laggingHits_16 rfl ?_
  refine wp_cvEi dX0_laggingHits_17 rfl q1245 mv_X0_game hE.o0 rfl rfl (c_game hE) rfl rfl (Nat.le_of_ble_eq_true rfl) (Nat.le_of_ble_eq_true rfl) (fun h1 hq => ?_)
  obtain ⟨C, rfl, hG, hK⟩ := hq
  have hE := hK.ev (by decide) hE
  have hL := hL.tr (LD.kc hK)
  have hP := LD.pc hK hP
  refine wp_cvEi dX0_laggingHits_20 rfl q1359 mv_X6_goes (cg_24 hE.X) rfl rfl (c_goes4 hE hG hP hp hk (dg_wg hE.s hE.c)) rfl rfl (Nat.le_of_ble_eq_true rfl) (Nat.le_of_ble_eq_true rfl) (fun h1 hq => ?_)
  obtain ⟨C, rfl, hR, hr⟩ := hq
  have hE := hr.ev hE
  have hL := hL.tr hr.kc
  refine wp_getfN dX0_laggingHits_23 rfl q604 fk6_11 (cg_24 hE.X) rfl ?_
  rw [hR.hits rfl]
  exact wp_ireturn dX0_laggingHits_26 rfl ⟨rfl, HQ.qc hL⟩
theorem c_points {g : GW} {C : SC} {S : SM} {X : AH} {lo hi b : Nat} {A : BA} {W : Nat → Int32} (hE : EV C X lo hi b A W)  : SPx g 1 0 0 yX6_points cX6_points 1 (some .int) [.ref 24] (cH C S X) (some (.int (10 * C.1 12 - 20 * C.1 13))) (cH C S X) := by
  refine SPx.intro [some (.ref 24)] (pfn (by decide)) rfl (Nat.le_of_ble_eq_true rfl) ?_
  refine wp_bipush 10 dX6_points_0 rfl rfl ?_
  refine wp_aload_0 dX6_points_2 rfl ?_
  refine wp_getf dX6_points_3 rfl q603 fk6_11 (cg_24 hE.X) rfl ?_
  refine wp_imul dX6_points_6 rfl ?_
  refine wp_bipush 20 dX6_points_7 rfl rfl ?_
  refine wp_aload_0 dX6_points_9 rfl ?_
  refine wp_getf dX6_points_10 rfl q605 fk6_12 (cg_24 hE.X) rfl ?_
  refine wp_imul dX6_points_13 rfl ?_
  refine wp_isub dX6_points_14 rfl ?_
  exact wp_ireturn dX6_points_15 rfl ⟨rfl, rfl⟩
theorem RC.pts {W : Nat → Int32} {G : GA} {P : RP} {C : SC} {m : Nat} (h : RC C (ruW W G P) m) : 10 * C.1 12 - 20 * C.1 13 = 10 * (nI (tSt (ruW W G P)) - tRd (ruW W G P)) - 20 * tRd (ruW W G P) := by
  rw [h.2.2.2.2.2.1, h.2.2.2.1]
theorem lkV_eq {W : Nat → Int32} {p : Nat} {x : Int32} : 10 * (nI (tSt (ruW W (dgW W) (lkP W p x))) - tRd (ruW W (dgW W) (lkP W p x))) - 20 * tRd (ruW W (dgW W) (lkP W p x)) = lkV W p x := by
  rw [ruW_rd (P := lkP W p x) rfl, show (20 : Int32) * 0 = 0 from rfl]
  unfold lkV stG
  grind
theorem c_rashOf {g : GW} {C : SC} {S : SM} {X : AH} {lo hi b : Nat} {A : BA} {W : Nat → Int32} (hE : EV C X lo hi b A W) {p : Nat} (hp : p < nW W 6) : SP g 8 0 0 yX0_rashOf cX0_rashOf 2 (some .int) [.ref 0, .int (nI p)] (cH C S X) (fun v h1 => v = some (.int (raV W p)) ∧ HQ C S X h1) := by
  refine SP.intro [some (.ref 0), some (.int (nI p))] (pfn (by decide)) rfl (Nat.le_of_ble_eq_true rfl) ?_
  have hk := (pl1 hE.p hp).2
  refine wp_aload_0 dX0_rashOf_0 rfl ?_
  refine wp_getf dX0_rashOf_1 rfl q729 fk0_9 hE.o0 rfl ?_
  refine wp_iload_1 dX0_rashOf_4 rfl ?_
  refine wp_cvEi dX0_rashOf_5 rfl q1354 mv_X6_plain (cg_24 hE.X) rfl rfl (c_plain hE hp) rfl rfl (Nat.le_of_ble_eq_true rfl) (Nat.le_of_ble_eq_true rfl) (fun h1 hq => ?_)
  obtain ⟨C, rfl, hP, hc⟩ := hq
  have hE := hc.ev hE
  have hL := hc.kc
  refine wp_iconst 1 dX0_rashOf_8 rfl rfl ?_
  refine wp_putfN dX0_rashOf_9 rfl q611 fp6_15 (cg_24 hE.X) rfl rfl (Nat.le_of_ble_eq_true rfl) cs_24_15 ?_
  have hP : PC (cF 16 1 C) A (raP W p) := ⟨hP.1, hP.2.1, hP.2.2.1, hP.2.2.2.1, hP.2.2.2.2.1, rfl⟩
  have hE : EV (cF 16 1 C) X lo hi b A W := hE.to rfl
  have hL := hL.tr (show KC C (cF 16 1 C) from CP.kc ((CK.rf [6, 7, 8, 9, 16] [] [] [24] [] C).F _ (by decide)))
  generalize cF 16 1 C = C at *
  refine wp_aload_0 dX0_rashOf_12 rfl ?_
  refine wp_getf dX0_rashOf_13 rfl q729 fk0_9 hE.o0 rfl ?_
  refine wp_aload_0 dX0_rashOf_16 rfl ?_
  refine wp_cvEi dX0_rashOf_17 rfl q1245 mv_X0_game hE.o0 rfl rfl (c_game hE) rfl rfl (Nat.le_of_ble_eq_true rfl) (Nat.le_of_ble_eq_true rfl) (fun h1 hq => ?_)
  obtain ⟨C, rfl, hG, hK⟩ := hq
  have hE := hK.ev (by decide) hE
  have hL := hL.tr (LD.kc hK)
  have hP := LD.pc hK hP
  refine wp_cvEi dX0_rashOf_20 rfl q1359 mv_X6_goes (cg_24 hE.X) rfl rfl (c_goes4 hE hG hP hp hk (dg_wg hE.s hE.c)) rfl rfl (Nat.le_of_ble_eq_true rfl) (Nat.le_of_ble_eq_true rfl) (fun h1 hq => ?_)
  obtain ⟨C, rfl, hR, hr⟩ := hq
  have hE := hr.ev hE
  have hL := hL.tr hr.kc
  refine wp_cvR dX0_rashOf_23 rfl q1625 mv_X6_points (cg_24 hE.X) rfl rfl (c_points hE) rfl rfl (Nat.le_of_ble_eq_true rfl) (Nat.le_of_ble_eq_true rfl) ?_
  rw [hR.pts]
  exact wp_ireturn dX0_rashOf_26 rfl ⟨rfl, HQ.qc hL⟩
theorem c_lookOf {g : GW} {C : SC} {S : SM} {X : AH} {lo hi b : Nat} {A : BA} {W : Nat → Int32} (hE : EV C X lo hi b A W) {p : Nat} (hp : p < nW W 6) {x : Int32} : SP g 8 0 0 yX0_lookOf cX0_lookOf 3 (some .int) [.ref 0, .int (nI p), .int x] (cH C S X) (fun v h1 => v = some (.int (lkV W p x)) ∧ HQ C S X h1) := by
  refine SP.intro [some (.ref 0), some (.int (nI p)), some (.int x)] (pfn (by decide)) rfl (Nat.le_of_ble_eq_true rfl) ?_
  have hk : 0 < 1000 := by omega
  refine wp_aload_0 dX0_lookOf_0 rfl ?_
  refine wp_getf dX0_lookOf_1 rfl q729 fk0_9 hE.o0 rfl ?_
  refine wp_iload_1 dX0_lookOf_4 rfl ?_
  refine wp_cvEi dX0_lookOf_5 rfl q1354 mv_X6_plain (cg_24 hE.X) rfl rfl (c_plain hE hp) rfl rfl (Nat.le_of_ble_eq_true rfl) (Nat.le_of_ble_eq_true rfl) (fun h1 hq => ?_)
  obtain ⟨C, rfl, hP, hc⟩ := hq
  have hE := hc.ev hE
  have hL := hc.kc
  refine wp_dup dX0_lookOf_8 rfl rfl ?_
  refine wp_getfN dX0_lookOf_9 rfl q594 fk6_5 (cg_24 hE.X) rfl ?_
  rw [show C.1 6 = W (96 + 5 * p + 1) from hP.2.1]
  refine wp_iload_2 dX0_lookOf_12 rfl ?_
  refine wp_iadd dX0_lookOf_13 rfl ?_
  refine wp_putfN dX0_lookOf_14 rfl q594 fp6_5 (cg_24 hE.X) rfl rfl (Nat.le_of_ble_eq_true rfl) cs_24_5 ?_
  refine wp_aload_0 dX0_lookOf_17 rfl ?_
  refine wp_getf dX0_lookOf_18 rfl q729 fk0_9 hE.o0 rfl ?_
  refine wp_iconst 0 dX0_lookOf_21 rfl rfl ?_
  refine wp_putfN dX0_lookOf_22 rfl q596 fp6_6 (cg_24 hE.X) rfl rfl (Nat.le_of_ble_eq_true rfl) cs_24_6 ?_
  have hP : PC (cF 7 0 (cF 6 (W (96 + 5 * p + 1) + x) C)) A (lkP W p x) := ⟨hP.1, rfl, rfl, hP.2.2.2⟩
  have hE : EV (cF 7 0 (cF 6 (W (96 + 5 * p + 1) + x) C)) X lo hi b A W := hE.to rfl
  have hL := hL.tr (show KC C (cF 7 0 (cF 6 (W (96 + 5 * p + 1) + x) C)) from CP.kc (((CK.rf [6, 7, 8, 9, 16] [] [] [24] [] C).F _ (by decide)).F _ (by decide)))
  generalize cF 7 0 (cF 6 (W (96 + 5 * p + 1) + x) C) = C at *
  refine wp_aload_0 dX0_lookOf_25 rfl ?_
  refine wp_getf dX0_lookOf_26 rfl q729 fk0_9 hE.o0 rfl ?_
  refine wp_aload_0 dX0_lookOf_29 rfl ?_
  refine wp_cvEi dX0_lookOf_30 rfl q1245 mv_X0_game hE.o0 rfl rfl (c_game hE) rfl rfl (Nat.le_of_ble_eq_true rfl) (Nat.le_of_ble_eq_true rfl) (fun h1 hq => ?_)
  obtain ⟨C, rfl, hG, hK⟩ := hq
  have hE := hK.ev (by decide) hE
  have hL := hL.tr (LD.kc hK)
  have hP := LD.pc hK hP
  refine wp_cvEi dX0_lookOf_33 rfl q1359 mv_X6_goes (cg_24 hE.X) rfl rfl (c_goes4 hE hG hP hp hk (dg_wg hE.s hE.c)) rfl rfl (Nat.le_of_ble_eq_true rfl) (Nat.le_of_ble_eq_true rfl) (fun h1 hq => ?_)
  obtain ⟨C, rfl, hR, hr⟩ := hq
  have hE := hr.ev hE
  have hL := hL.tr hr.kc
  refine wp_cvR dX0_lookOf_36 rfl q1625 mv_X6_points (cg_24 hE.X) rfl rfl (c_points hE) rfl rfl (Nat.le_of_ble_eq_true rfl) (Nat.le_of_ble_eq_true rfl) ?_
  rw [hR.pts, show (20 : Int32) = 20 from rfl, lkV_eq]
  exact wp_ireturn dX0_lookOf_39 rfl ⟨rfl, HQ.qc hL⟩
theorem q_c_hits {g : GW} {C : SC} {S : SM} {X : AH} {lo hi b : Nat} {A : BA} {W : Nat → Int32} (hE : EV C X lo hi b A W) {x : Int32} : SP g 9 0 0 yX0_hits cX0_hits 2 (some .int) [.ref 0, .int x] (cH C S X) (QC C S X (.int (qhits W x))) := by
  refine SP.intro [some (.ref 0), some (.int x)] (pfn (by decide)) rfl (Nat.le_of_ble_eq_true rfl) ?_
  refine wp_aload_0 dX0_hits_0 rfl ?_
  refine wp_iload_1 dX0_hits_1 rfl ?_
  refine wp_cvR dX0_hits_2 rfl q1219 mv_X0_isPlayer hE.o0 rfl rfl (c_isPlayer hE) rfl rfl (Nat.le_of_ble_eq_true rfl) (Nat.le_of_ble_eq_true rfl) ?_
  refine wp_ifeq_b 16 dX0_hits_5 rfl rfl (fun c5 => ?_) (fun c5 => ?_)
  · refine wp_bipush (-2) dX0_hits_16 rfl rfl ?_
    exact wp_ireturn dX0_hits_18 rfl ⟨by first | (simp (disch := omega) [qhits, dgW, nI_clamp, inL_0, *]; done) | (simp_all (config := {failIfUnchanged := false}) [qhits, dgW, inL_0]; done), by first | exact QC0.mk hL | exact QC0.rf⟩
  · obtain ⟨p, hp, rfl⟩ := plW_of hE.s c5
    have hp4 : p < 4 := by have := hE.s.np.2; omega
    refine wp_aload_0 dX0_hits_8 rfl ?_
    refine wp_iload_1 dX0_hits_9 rfl ?_
    refine wp_cvEi dX0_hits_10 rfl q1350 mv_X0_hitsOf hE.o0 rfl rfl (c_hitsOf hE hp) rfl rfl (Nat.le_of_ble_eq_true rfl) (Nat.le_of_ble_eq_true rfl) (fun h1 hq => ?_)
    obtain ⟨C, rfl, hl⟩ := hq
    have hE := hl.ev hE
    have hL := hl
    refine wp_goto 18 dX0_hits_13 rfl rfl ?_
    exact wp_ireturn dX0_hits_18 rfl ⟨by first | (simp (disch := omega) [qhits, dgW, nI_clamp, inL_0, *]; done) | (simp_all (config := {failIfUnchanged := false}) [qhits, dgW, inL_0]; done), by first | exact QC0.mk hL | exact QC0.rf⟩
theorem q_c_hit {g : GW} {C : SC} {S : SM} {X : AH} {lo hi b : Nat} {A : BA} {W : Nat → Int32} (hE : EV C X lo hi b A W) {x z : Int32} : SP g 9 0 0 yX0_hit cX0_hit 4 (some .int) [.ref 0, .int x, .int z] (cH C S X) (QC C S X (.int (qhit W x z))) := by
  refine SP.intro [some (.ref 0), some (.int x), some (.int z), none] (pfn (by decide)) rfl (Nat.le_of_ble_eq_true rfl) ?_
  refine wp_aload_0 dX0_hit_0 rfl ?_
  refine wp_iload_1 dX0_hit_1 rfl ?_
  refine wp_cvR dX0_hit_2 rfl q1219 mv_X0_isPlayer hE.o0 rfl rfl (c_isPlayer hE) rfl rfl (Nat.le_of_ble_eq_true rfl) (Nat.le_of_ble_eq_true rfl) ?_
  refine wp_ifne_b 11 dX0_hit_5 rfl rfl (fun c5 => ?_) (fun c5 => ?_)
  · obtain ⟨p, hp, rfl⟩ := plW_of hE.s c5
    have hp4 : p < 4 := by have := hE.s.np.2; omega
    refine wp_aload_0 dX0_hit_11 rfl ?_
    refine wp_cvEi dX0_hit_12 rfl q1245 mv_X0_game hE.o0 rfl rfl (c_game hE) rfl rfl (Nat.le_of_ble_eq_true rfl) (Nat.le_of_ble_eq_true rfl) (fun h1 hq => ?_)
    obtain ⟨C, rfl, hG, hK⟩ := hq
    have hE := hK.ev (by decide) hE
    have hL := LD.kc hK
    have hn : C.1 3 = nI (dgM W) := hG.1
    have h60 : dgM W ≤ 60 := hG.2.1
    refine wp_astore_3 dX0_hit_15 rfl (by decide) rfl ?_
    refine wp_iload_2 dX0_hit_16 rfl ?_
    refine wp_i2l dX0_hit_17 rfl ?_
    refine wp_lconst 0 dX0_hit_18 rfl rfl ?_
    refine wp_aload_3 dX0_hit_19 rfl ?_
    refine wp_getf dX0_hit_20 rfl q539 fk4_3 (cg_15 hE.X) rfl ?_
    rw [hn]
    refine wp_iconst 1 dX0_hit_23 rfl rfl ?_
    refine wp_isub dX0_hit_24 rfl ?_
    refine wp_i2l dX0_hit_25 rfl ?_
    refine wp_csR dX0_hit_26 rfl q190 ms_X0_in c_in rfl rfl (Nat.le_of_ble_eq_true rfl) (Nat.le_of_ble_eq_true rfl) ?_
    refine wp_ifeq_b 52 dX0_hit_29 rfl rfl (fun c29 => ?_) (fun c29 => ?_)
    · rw [inL_0] at c29
      refine wp_iconst (-1) dX0_hit_52 rfl rfl ?_
      exact wp_ireturn dX0_hit_53 rfl ⟨by first | (simp (disch := omega) [qhit, ruD, dgW, nI_clamp, inL_0, *]; done) | (simp_all (config := {failIfUnchanged := false}) [qhit, ruD, dgW, inL_0]; done), by first | exact QC0.mk hL | exact QC0.rf⟩
    · rw [inL_0] at c29
      obtain ⟨i, hi, rfl⟩ := in_of (n := dgM W) (by omega) c29
      have hk := (pl1 hE.p hp).2
      refine wp_aload_0 dX0_hit_32 rfl ?_
      refine wp_getf dX0_hit_33 rfl q729 fk0_9 hE.o0 rfl ?_
      refine wp_iload_1 dX0_hit_36 rfl ?_
      refine wp_cvEi dX0_hit_37 rfl q1354 mv_X6_plain (cg_24 hE.X) rfl rfl (c_plain hE hp) rfl rfl (Nat.le_of_ble_eq_true rfl) (Nat.le_of_ble_eq_true rfl) (fun h1 hq => ?_)
      obtain ⟨C, rfl, hP, hc⟩ := hq
      have hE := hc.ev hE
      have hL := hL.tr hc.kc
      have hG := hc.g4 hG
      refine wp_aload_3 dX0_hit_40 rfl ?_
      refine wp_cvEi dX0_hit_41 rfl q1359 mv_X6_goes (cg_24 hE.X) rfl rfl (c_goes4 hE hG hP hp hk (dg_wg hE.s hE.c)) rfl rfl (Nat.le_of_ble_eq_true rfl) (Nat.le_of_ble_eq_true rfl) (fun h1 hq => ?_)
      obtain ⟨C, rfl, hR, hr⟩ := hq
      have hE := hr.ev hE
      have hL := hL.tr hr.kc
      refine wp_getfN dX0_hit_44 rfl q587 fk6_1 (cg_24 hE.X) rfl ?_
      refine wp_iload_2 dX0_hit_47 rfl ?_
      refine wp_ialoadn i dX0_hit_48 rfl (cg_26 hE.X) rfl (by omega) (by decide) ?_
      rw [show C.2.1 26 i = tHt (ruW W (dgW W) (tpW W p)) i from (hR.2.2.2.2.2.2.1 i hi).2]
      refine wp_goto 53 dX0_hit_49 rfl rfl ?_
      exact wp_ireturn dX0_hit_53 rfl ⟨by first | (simp (disch := omega) [qhit, ruD, dgW, nI_clamp, inL_0, *]; done) | (simp_all (config := {failIfUnchanged := false}) [qhit, ruD, dgW, inL_0]; done), by first | exact QC0.mk hL | exact QC0.rf⟩
  · refine wp_bipush (-2) dX0_hit_8 rfl rfl ?_
    exact wp_ireturn dX0_hit_10 rfl ⟨by first | (simp (disch := omega) [qhit, ruD, dgW, nI_clamp, inL_0, *]; done) | (simp_all (config := {failIfUnchanged := false}) [qhit, ruD, dgW, inL_0]; done), by first | exact QC0.mk hL | exact QC0.rf⟩
theorem q_c_twice {g : GW} {C : SC} {S : SM} {X : AH} {lo hi b : Nat} {A : BA} {W : Nat → Int32} (hE : EV C X lo hi b A W) {x z : Int32} : SP g 9 0 0 yX0_twice cX0_twice 4 (some .int) [.ref 0, .int x, .int z] (cH C S X) (QC C S X (.int (qtwice W x z))) := by
  refine SP.intro [some (.ref 0), some (.int x), some (.int z), none] (pfn (by decide)) rfl (Nat.le_of_ble_eq_true rfl) ?_
  refine wp_aload_0 dX0_twice_0 rfl ?_
  refine wp_iload_1 dX0_twice_1 rfl ?_
  refine wp_cvR dX0_twice_2 rfl q1219 mv_X0_isPlayer hE.o0 rfl rfl (c_isPlayer hE) rfl rfl (Nat.le_of_ble_eq_true rfl) (Nat.le_of_ble_eq_true rfl) ?_
  refine wp_ifne_b 11 dX0_twice_5 rfl rfl (fun c5 => ?_) (fun c5 => ?_)
  · obtain ⟨p, hp, rfl⟩ := plW_of hE.s c5
    have hp4 : p < 4 := by have := hE.s.np.2; omega
    refine wp_aload_0 dX0_twice_11 rfl ?_
    refine wp_cvEi dX0_twice_12 rfl q1245 mv_X0_game hE.o0 rfl rfl (c_game hE) rfl rfl (Nat.le_of_ble_eq_true rfl) (Nat.le_of_ble_eq_true rfl) (fun h1 hq => ?_)
    obtain ⟨C, rfl, hG, hK⟩ := hq
    have hE := hK.ev (by decide) hE
    have hL := LD.kc hK
    have hn : C.1 3 = nI (dgM W) := hG.1
    have h60 : dgM W ≤ 60 := hG.2.1
    refine wp_astore_3 dX0_twice_15 rfl (by decide) rfl ?_
    refine wp_iload_2 dX0_twice_16 rfl ?_
    refine wp_i2l dX0_twice_17 rfl ?_
    refine wp_lconst 0 dX0_twice_18 rfl rfl ?_
    refine wp_aload_3 dX0_twice_19 rfl ?_
    refine wp_getf dX0_twice_20 rfl q539 fk4_3 (cg_15 hE.X) rfl ?_
    rw [hn]
    refine wp_iconst 1 dX0_twice_23 rfl rfl ?_
    refine wp_isub dX0_twice_24 rfl ?_
    refine wp_i2l dX0_twice_25 rfl ?_
    refine wp_csR dX0_twice_26 rfl q190 ms_X0_in c_in rfl rfl (Nat.le_of_ble_eq_true rfl) (Nat.le_of_ble_eq_true rfl) ?_
    refine wp_ifeq_b 52 dX0_twice_29 rfl rfl (fun c29 => ?_) (fun c29 => ?_)
    · rw [inL_0] at c29
      refine wp_iconst (-1) dX0_twice_52 rfl rfl ?_
      exact wp_ireturn dX0_twice_53 rfl ⟨by first | (simp (disch := omega) [qtwice, ruD, dgW, nI_clamp, inL_0, *]; done) | (simp_all (config := {failIfUnchanged := false}) [qtwice, ruD, dgW, inL_0]; done), by first | exact QC0.mk hL | exact QC0.rf⟩
    · rw [inL_0] at c29
      obtain ⟨i, hi, rfl⟩ := in_of (n := dgM W) (by omega) c29
      have hk := (pl1 hE.p hp).2
      refine wp_aload_0 dX0_twice_32 rfl ?_
      refine wp_getf dX0_twice_33 rfl q729 fk0_9 hE.o0 rfl ?_
      refine wp_iload_1 dX0_twice_36 rfl ?_
      refine wp_cvEi dX0_twice_37 rfl q1354 mv_X6_plain (cg_24 hE.X) rfl rfl (c_plain hE hp) rfl rfl (Nat.le_of_ble_eq_true rfl) (Nat.le_of_ble_eq_true rfl) (fun h1 hq => ?_)
      obtain ⟨C, rfl, hP, hc⟩ := hq
      have hE := hc.ev hE
      have hL := hL.tr hc.kc
      have hG := hc.g4 hG
      refine wp_aload_3 dX0_twice_40 rfl ?_
      refine wp_cvEi dX0_twice_41 rfl q1359 mv_X6_goes (cg_24 hE.X) rfl rfl (c_goes4 hE hG hP hp hk (dg_wg hE.s hE.c)) rfl rfl (Nat.le_of_ble_eq_true rfl) (Nat.le_of_ble_eq_true rfl) (fun h1 hq => ?_)
      obtain ⟨C, rfl, hR, hr⟩ := hq
      have hE := hr.ev hE
      have hL := hL.tr hr.kc
      refine wp_getfN dX0_twice_44 rfl q585 fk6_0 (cg_24 hE.X) rfl ?_
      refine wp_iload_2 dX0_twice_47 rfl ?_
      refine wp_ialoadn i dX0_twice_48 rfl (cg_25 hE.X) rfl (by omega) (by decide) ?_
      rw [show C.2.1 25 i = tHm (ruW W (dgW W) (tpW W p)) i from (hR.2.2.2.2.2.2.1 i hi).1]
      refine wp_goto 53 dX0_twice_49 rfl rfl ?_
      exact wp_ireturn dX0_twice_53 rfl ⟨by first | (simp (disch := omega) [qtwice, ruD, dgW, nI_clamp, inL_0, *]; done) | (simp_all (config := {failIfUnchanged := false}) [qtwice, ruD, dgW, inL_0]; done), by first | exact QC0.mk hL | exact QC0.rf⟩
  · refine wp_bipush (-2) dX0_twice_8 rfl rfl ?_
    exact wp_ireturn dX0_twice_10 rfl ⟨by first | (simp (disch := omega) [qtwice, ruD, dgW, nI_clamp, inL_0, *]; done) | (simp_all (config := {failIfUnchanged := false}) [qtwice, ruD, dgW, inL_0]; done), by first | exact QC0.mk hL | exact QC0.rf⟩
theorem q_c_walked {g : GW} {C : SC} {S : SM} {X : AH} {lo hi b : Nat} {A : BA} {W : Nat → Int32} (hE : EV C X lo hi b A W) {x : Int32} : SP g 9 0 0 yX0_walked cX0_walked 2 (some .int) [.ref 0, .int x] (cH C S X) (QC C S X (.int (qwalked W x))) := by
  refine SP.intro [some (.ref 0), some (.int x)] (pfn (by decide)) rfl (Nat.le_of_ble_eq_true rfl) ?_
  refine wp_aload_0 dX0_walked_0 rfl ?_
  refine wp_iload_1 dX0_walked_1 rfl ?_
  refine wp_cvR dX0_walked_2 rfl q1219 mv_X0_isPlayer hE.o0 rfl rfl (c_isPlayer hE) rfl rfl (Nat.le_of_ble_eq_true rfl) (Nat.le_of_ble_eq_true rfl) ?_
  refine wp_ifeq_b 29 dX0_walked_5 rfl rfl (fun c5 => ?_) (fun c5 => ?_)
  · refine wp_bipush (-2) dX0_walked_29 rfl rfl ?_
    exact wp_ireturn dX0_walked_31 rfl ⟨by first | (simp (disch := omega) [qwalked, ruD, dgW, nI_clamp, inL_0, *]; done) | (simp_all (config := {failIfUnchanged := false}) [qwalked, ruD, dgW, inL_0]; done), by first | exact QC0.mk hL | exact QC0.rf⟩
  · obtain ⟨p, hp, rfl⟩ := plW_of hE.s c5
    have hp4 : p < 4 := by have := hE.s.np.2; omega
    have hk := (pl1 hE.p hp).2
    refine wp_aload_0 dX0_walked_8 rfl ?_
    refine wp_getf dX0_walked_9 rfl q729 fk0_9 hE.o0 rfl ?_
    refine wp_iload_1 dX0_walked_12 rfl ?_
    refine wp_cvEi dX0_walked_13 rfl q1354 mv_X6_plain (cg_24 hE.X) rfl rfl (c_plain hE hp) rfl rfl (Nat.le_of_ble_eq_true rfl) (Nat.le_of_ble_eq_true rfl) (fun h1 hq => ?_)
    obtain ⟨C, rfl, hP, hc⟩ := hq
    have hE := hc.ev hE
    have hL := hc.kc
    refine wp_aload_0 dX0_walked_16 rfl ?_
    refine wp_cvEi dX0_walked_17 rfl q1245 mv_X0_game hE.o0 rfl rfl (c_game hE) rfl rfl (Nat.le_of_ble_eq_true rfl) (Nat.le_of_ble_eq_true rfl) (fun h1 hq => ?_)
    obtain ⟨C, rfl, hG, hK⟩ := hq
    have hE := hK.ev (by decide) hE
    have hL := hL.tr (LD.kc hK)
    have hP := LD.pc hK hP
    refine wp_cvEi dX0_walked_20 rfl q1359 mv_X6_goes (cg_24 hE.X) rfl rfl (c_goes4 hE hG hP hp hk (dg_wg hE.s hE.c)) rfl rfl (Nat.le_of_ble_eq_true rfl) (Nat.le_of_ble_eq_true rfl) (fun h1 hq => ?_)
    obtain ⟨C, rfl, hR, hr⟩ := hq
    have hE := hr.ev hE
    have hL := hL.tr hr.kc
    refine wp_getfN dX0_walked_23 rfl q609 fk6_14 (cg_24 hE.X) rfl ?_
    rw [hR.2.2.2.2.1]
    refine wp_goto 31 dX0_walked_26 rfl rfl ?_
    exact wp_ireturn dX0_walked_31 rfl ⟨by first | (simp (disch := omega) [qwalked, ruD, dgW, nI_clamp, inL_0, *]; done) | (simp_all (config := {failIfUnchanged := false}) [qwalked, ruD, dgW, inL_0]; done), by first | exact QC0.mk hL | exact QC0.rf⟩
theorem cL_where {g : GW} {C : SC} {S : SM} {X : AH} {lo hi b : Nat} {A : BA} {W : Nat → Int32} (hE : EV C X lo hi b A W) {t : RT} {m p : Nat} {x : Int32} (hR : RC C t m) (hs : tSt t ≤ 120) {c n : Nat} {Q : Option Value → AH → Prop} : ∀ (k : Nat) (i : Nat) (a : Int32), i + k = tSt t → Q (some (.int (itr (whF t x) k i a))) (cH C S X) → WP g 9 yX0_where cX0_where 5 (some .int) 47 [some (.ref 0), some (.int (nI p)), some (.int x), some (.int a), some (.int (nI i))] [] (cH C S X) c n Q := by
  intro k
  induction k with
  | zero =>
    intro i a hi hq
    refine wp_iload_4 dX0_where_47 rfl ?_
    refine wp_aload_0 dX0_where_49 rfl ?_
    refine wp_getf dX0_where_50 rfl q729 fk0_9 hE.o0 rfl ?_
    refine wp_getfN dX0_where_53 rfl q607 fk6_13 (cg_24 hE.X) rfl ?_
    rw [hR.2.2.1]
    refine wp_icmp_ge_k 90 dX0_where_56 rfl rfl (by omega) (by omega) (fun c56 => ?_) (fun c56 => ?_)
    · refine wp_iload_3 dX0_where_90 rfl ?_
      exact wp_ireturn dX0_where_91 rfl hq
    · exact absurd c56 (by omega)
  | succ k ih =>
    intro i a hi hq
    refine wp_iload_4 dX0_where_47 rfl ?_
    refine wp_aload_0 dX0_where_49 rfl ?_
    refine wp_getf dX0_where_50 rfl q729 fk0_9 hE.o0 rfl ?_
    refine wp_getfN dX0_where_53 rfl q607 fk6_13 (cg_24 hE.X) rfl ?_
    rw [hR.2.2.1]
    refine wp_icmp_ge_k 90 dX0_where_56 rfl rfl (by omega) (by omega) (fun c56 => ?_) (fun c56 => ?_)
    · exact absurd c56 (by omega)
    · refine wp_aload_0 dX0_where_59 rfl ?_
      refine wp_getf dX0_where_60 rfl q729 fk0_9 hE.o0 rfl ?_
      refine wp_getfN dX0_where_63 rfl q591 fk6_3 (cg_24 hE.X) rfl ?_
      refine wp_iload_4 dX0_where_66 rfl ?_
      refine wp_ialoadn i dX0_where_68 rfl (cg_28 hE.X) rfl (by omega) (by decide) ?_
      rw [(hR.2.2.2.2.2.2.2 i (by omega)).1]
      refine wp_iload_2 dX0_where_69 rfl ?_
      refine wp_icmp_gt 84 dX0_where_70 rfl rfl (fun c70 => ?_) (fun c70 => ?_)
      · refine wp_iinc_4 1 dX0_where_84 rfl rfl (by decide) rfl ?_
        refine wp_goto 47 dX0_where_87 rfl rfl ?_
        exact WP.cast (by simp_all [whF, nI_1, ← Int32.not_lt]) (ih (i + 1) (whF t x i a) (by omega) hq)
      · refine wp_aload_0 dX0_where_73 rfl ?_
        refine wp_getf dX0_where_74 rfl q729 fk0_9 hE.o0 rfl ?_
        refine wp_getfN dX0_where_77 rfl q589 fk6_2 (cg_24 hE.X) rfl ?_
        refine wp_iload_4 dX0_where_80 rfl ?_
        refine wp_ialoadn i dX0_where_82 rfl (cg_27 hE.X) rfl (by omega) (by decide) ?_
        rw [(hR.2.2.2.2.2.2.2 i (by omega)).2]
        refine wp_istore_3 dX0_where_83 rfl (by decide) rfl ?_
        refine wp_iinc_4 1 dX0_where_84 rfl rfl (by decide) rfl ?_
        refine wp_goto 47 dX0_where_87 rfl rfl ?_
        exact WP.cast (by simp_all [whF, nI_1, ← Int32.not_lt]) (ih (i + 1) (whF t x i a) (by omega) hq)
theorem q_c_where {g : GW} {C : SC} {S : SM} {X : AH} {lo hi b : Nat} {A : BA} {W : Nat → Int32} (hE : EV C X lo hi b A W) {x z : Int32} : SP g 9 0 0 yX0_where cX0_where 5 (some .int) [.ref 0, .int x, .int z] (cH C S X) (QC C S X (.int (qwhere W x z))) := by
  refine SP.intro [some (.ref 0), some (.int x), some (.int z), none, none] (pfn (by decide)) rfl (Nat.le_of_ble_eq_true rfl) ?_
  refine wp_aload_0 dX0_where_0 rfl ?_
  refine wp_iload_1 dX0_where_1 rfl ?_
  refine wp_cvR dX0_where_2 rfl q1219 mv_X0_isPlayer hE.o0 rfl rfl (c_isPlayer hE) rfl rfl (Nat.le_of_ble_eq_true rfl) (Nat.le_of_ble_eq_true rfl) ?_
  refine wp_ifeq_b 17 dX0_where_5 rfl rfl (fun c5 => ?_) (fun c5 => ?_)
  · refine wp_bipush (-2) dX0_where_17 rfl rfl ?_
    exact wp_ireturn dX0_where_19 rfl ⟨by first | (simp (disch := omega) [qwhere, dgW, nI_clamp, inL_0, *]; done) | (simp_all (config := {failIfUnchanged := false}) [qwhere, dgW, inL_0]; done), by first | exact QC0.mk hL | exact QC0.rf⟩
  · obtain ⟨p, hp, rfl⟩ := plW_of hE.s c5
    have hp4 : p < 4 := by have := hE.s.np.2; omega
    have hk := (pl1 hE.p hp).2
    refine wp_aload_0 dX0_where_8 rfl ?_
    refine wp_iload_2 dX0_where_9 rfl ?_
    refine wp_i2l dX0_where_10 rfl ?_
    refine wp_cvR dX0_where_11 rfl q1233 mv_X0_isTick hE.o0 rfl rfl (c_isTick hE) rfl rfl (Nat.le_of_ble_eq_true rfl) (Nat.le_of_ble_eq_true rfl) ?_
    refine wp_ifne_b 20 dX0_where_14 rfl rfl (fun c14 => ?_) (fun c14 => ?_)
    · refine wp_aload_0 dX0_where_20 rfl ?_
      refine wp_getf dX0_where_21 rfl q729 fk0_9 hE.o0 rfl ?_
      refine wp_iload_1 dX0_where_24 rfl ?_
      refine wp_cvEi dX0_where_25 rfl q1354 mv_X6_plain (cg_24 hE.X) rfl rfl (c_plain hE hp) rfl rfl (Nat.le_of_ble_eq_true rfl) (Nat.le_of_ble_eq_true rfl) (fun h1 hq => ?_)
      obtain ⟨C, rfl, hP, hc⟩ := hq
      have hE := hc.ev hE
      have hL := hc.kc
      refine wp_aload_0 dX0_where_28 rfl ?_
      refine wp_cvEi dX0_where_29 rfl q1245 mv_X0_game hE.o0 rfl rfl (c_game hE) rfl rfl (Nat.le_of_ble_eq_true rfl) (Nat.le_of_ble_eq_true rfl) (fun h1 hq => ?_)
      obtain ⟨C, rfl, hG, hK⟩ := hq
      have hE := hK.ev (by decide) hE
      have hL := hL.tr (LD.kc hK)
      have hP := LD.pc hK hP
      refine wp_cvEi dX0_where_32 rfl q1359 mv_X6_goes (cg_24 hE.X) rfl rfl (c_goes4 hE hG hP hp hk (dg_wg hE.s hE.c)) rfl rfl (Nat.le_of_ble_eq_true rfl) (Nat.le_of_ble_eq_true rfl) (fun h1 hq => ?_)
      obtain ⟨C, rfl, hR, hr⟩ := hq
      have hE := hr.ev hE
      have hL := hL.tr hr.kc
      refine wp_pop dX0_where_35 rfl rfl ?_
      refine wp_aload_0 dX0_where_36 rfl ?_
      refine wp_getf dX0_where_37 rfl q729 fk0_9 hE.o0 rfl ?_
      refine wp_getfN dX0_where_40 rfl q598 fk6_7 (cg_24 hE.X) rfl ?_
      rw [show C.1 8 = W (96 + 5 * p + 4) from (hr.pc hP).2.2.2.1]
      refine wp_istore_3 dX0_where_43 rfl (by decide) rfl ?_
      refine wp_iconst 0 dX0_where_44 rfl rfl ?_
      refine wp_istore_4 dX0_where_45 rfl (by decide) rfl ?_
      exact cL_where hE hR (stG_le W (tpW W p)) (tSt (ruD W p)) 0 _ (Nat.zero_add _) ⟨by simp (disch := omega) [qwhere, ruD, nI_clamp, *], QC0.mk hL⟩
    · refine wp_bipush (-2) dX0_where_17 rfl rfl ?_
      exact wp_ireturn dX0_where_19 rfl ⟨by first | (simp (disch := omega) [qwhere, dgW, nI_clamp, inL_0, *]; done) | (simp_all (config := {failIfUnchanged := false}) [qwhere, dgW, inL_0]; done), by first | exact QC0.mk hL | exact QC0.rf⟩
theorem cL_missed {g : GW} {C : SC} {S : SM} {X : AH} {lo hi b : Nat} {A : BA} {W : Nat → Int32} (hE : EV C X lo hi b A W) {t : RT} {p : Nat} (hG : GM 3 16 17 18 C X (dgW W)) (hR : RC C t (dgM W)) (hw : WG2 (dgW W)) {c n : Nat} {Q : Option Value → AH → Prop} : ∀ (k : Nat) (i : Nat), i + k = dgM W → Q (some (.int (onI (fstK (miP (dgF W) t) k i)))) (cH C S X) → WP g 9 yX0_missed cX0_missed 4 (some .int) 31 [some (.ref 0), some (.int (nI p)), some (.ref 15), some (.int (nI i))] [] (cH C S X) c n Q := by
  intro k
  induction k with
  | zero =>
    intro i hi hq
    have hn : C.1 3 = nI (dgM W) := hG.1
    have h60 : dgM W ≤ 60 := hG.2.1
    refine wp_iload_3 dX0_missed_31 rfl ?_
    refine wp_aload_2 dX0_missed_32 rfl ?_
    refine wp_getf dX0_missed_33 rfl q539 fk4_3 (cg_15 hE.X) rfl ?_
    rw [hn]
    refine wp_icmp_ge_k 86 dX0_missed_36 rfl rfl (by omega) (by omega) (fun c36 => ?_) (fun c36 => ?_)
    · refine wp_iconst (-1) dX0_missed_86 rfl rfl ?_
      exact wp_ireturn dX0_missed_87 rfl hq
    · exact absurd c36 (by omega)
  | succ k ih =>
    intro i hi hq
    have hn : C.1 3 = nI (dgM W) := hG.1
    have h60 : dgM W ≤ 60 := hG.2.1
    refine wp_iload_3 dX0_missed_31 rfl ?_
    refine wp_aload_2 dX0_missed_32 rfl ?_
    refine wp_getf dX0_missed_33 rfl q539 fk4_3 (cg_15 hE.X) rfl ?_
    rw [hn]
    refine wp_icmp_ge_k 86 dX0_missed_36 rfl rfl (by omega) (by omega) (fun c36 => ?_) (fun c36 => ?_)
    · exact absurd c36 (by omega)
    · obtain ⟨m, hm, hM⟩ : ∃ m, C.2.2.2.2.1 16 i = some m ∧ (cH C S X)[m]? = some (.inr (14, [.int (gH (dgF W) i), .int (gO (dgF W) i), .int (gR (dgF W) i)])) := hG.m (show i < dgM W by omega)
      refine wp_aload_2 dX0_missed_39 rfl ?_
      refine wp_iload_3 dX0_missed_40 rfl ?_
      refine wp_UxR dX0_missed_41 rfl q1296 mu_X3_mole_X4 (cg_15 hE.X) rfl rfl (c_gmole4 hE.X (by omega) hm) rfl rfl (Nat.le_of_ble_eq_true rfl) (Nat.le_of_ble_eq_true rfl) (Nat.zero_le _) (Nat.zero_le _) ?_
      refine wp_getfN dX0_missed_44 rfl q1065 fk14_2 hM rfl ?_
      refine wp_if_ne 80 dX0_missed_47 rfl rfl (fun c47 => ?_) (fun c47 => ?_)
      · refine wp_iinc_3 1 dX0_missed_80 rfl rfl (by decide) rfl ?_
        refine wp_goto 31 dX0_missed_83 rfl rfl ?_
        have e9 : miP (dgF W) t i = false := by simp_all [miP, ← Int32.not_lt]
        exact WP.cast (by rw [nI_1]) (ih (i + 1) (by omega) (by rw [fst_f e9] at hq; exact hq))
      · refine wp_aload_0 dX0_missed_50 rfl ?_
        refine wp_getf dX0_missed_51 rfl q729 fk0_9 hE.o0 rfl ?_
        refine wp_getfN dX0_missed_54 rfl q585 fk6_0 (cg_24 hE.X) rfl ?_
        refine wp_iload_3 dX0_missed_57 rfl ?_
        refine wp_ialoadn i dX0_missed_58 rfl (cg_25 hE.X) rfl (by omega) (by decide) ?_
        rw [(hR.2.2.2.2.2.2.1 i (by omega)).1]
        refine wp_aload_2 dX0_missed_59 rfl ?_
        refine wp_iload_3 dX0_missed_60 rfl ?_
        refine wp_UxR dX0_missed_61 rfl q1296 mu_X3_mole_X4 (cg_15 hE.X) rfl rfl (c_gmole4 hE.X (by omega) hm) rfl rfl (Nat.le_of_ble_eq_true rfl) (Nat.le_of_ble_eq_true rfl) (Nat.zero_le _) (Nat.zero_le _) ?_
        refine wp_cvR dX0_missed_64 rfl q1313 mv_X13_isTwin hM rfl rfl (c_isTwin hM) rfl rfl (Nat.le_of_ble_eq_true rfl) (Nat.le_of_ble_eq_true rfl) ?_
        refine wp_ifeq_b 74 dX0_missed_67 rfl rfl (fun c67 => ?_) (fun c67 => ?_)
        · refine wp_iconst 1 dX0_missed_74 rfl rfl ?_
          refine wp_icmp_ge 80 dX0_missed_75 rfl rfl (fun c75 => ?_) (fun c75 => ?_)
          · refine wp_iinc_3 1 dX0_missed_80 rfl rfl (by decide) rfl ?_
            refine wp_goto 31 dX0_missed_83 rfl rfl ?_
            have e9 : miP (dgF W) t i = false := by simp_all [miP, ← Int32.not_lt]
            exact WP.cast (by rw [nI_1]) (ih (i + 1) (by omega) (by rw [fst_f e9] at hq; exact hq))
          · refine wp_iload_3 dX0_missed_78 rfl ?_
            exact wp_ireturn dX0_missed_79 rfl (by
     have e9 : miP (dgF W) t i = true := by simp_all [miP, ← Int32.not_lt]
     rw [fst_t e9] at hq
     exact hq)
        · refine wp_iconst 2 dX0_missed_70 rfl rfl ?_
          refine wp_goto 75 dX0_missed_71 rfl rfl ?_
          refine wp_icmp_ge 80 dX0_missed_75 rfl rfl (fun c75 => ?_) (fun c75 => ?_)
          · refine wp_iinc_3 1 dX0_missed_80 rfl rfl (by decide) rfl ?_
            refine wp_goto 31 dX0_missed_83 rfl rfl ?_
            have e9 : miP (dgF W) t i = false := by simp_all [miP, ← Int32.not_lt]
            exact WP.cast (by rw [nI_1]) (ih (i + 1) (by omega) (by rw [fst_f e9] at hq; exact hq))
          · refine wp_iload_3 dX0_missed_78 rfl ?_
            exact wp_ireturn dX0_missed_79 rfl (by
     have e9 : miP (dgF W) t i = true := by simp_all [miP, ← Int32.not_lt]
     rw [fst_t e9] at hq
     exact hq)
theorem q_c_missed {g : GW} {C : SC} {S : SM} {X : AH} {lo hi b : Nat} {A : BA} {W : Nat → Int32} (hE : EV C X lo hi b A W) {x : Int32} : SP g 9 0 0 yX0_missed cX0_missed 4 (some .int) [.ref 0, .int x] (cH C S X) (QC C S X (.int (qmissed W x))) := by
  refine SP.intro [some (.ref 0), some (.int x), none, none] (pfn (by decide)) rfl (Nat.le_of_ble_eq_true rfl) ?_
  refine wp_aload_0 dX0_missed_0 rfl ?_
  refine wp_iload_1 dX0_missed_1 rfl ?_
  refine wp_cvR dX0_missed_2 rfl q1219 mv_X0_isPlayer hE.o0 rfl rfl (c_isPlayer hE) rfl rfl (Nat.le_of_ble_eq_true rfl) (Nat.le_of_ble_eq_true rfl) ?_
  refine wp_ifne_b 11 dX0_missed_5 rfl rfl (fun c5 => ?_) (fun c5 => ?_)
  · obtain ⟨p, hp, rfl⟩ := plW_of hE.s c5
    have hp4 : p < 4 := by have := hE.s.np.2; omega
    have hk := (pl1 hE.p hp).2
    refine wp_aload_0 dX0_missed_11 rfl ?_
    refine wp_cvEi dX0_missed_12 rfl q1245 mv_X0_game hE.o0 rfl rfl (c_game hE) rfl rfl (Nat.le_of_ble_eq_true rfl) (Nat.le_of_ble_eq_true rfl) (fun h1 hq => ?_)
    obtain ⟨C, rfl, hG, hK⟩ := hq
    have hE := hK.ev (by decide) hE
    have hL := LD.kc hK
    have hn : C.1 3 = nI (dgM W) := hG.1
    have h60 : dgM W ≤ 60 := hG.2.1
    refine wp_astore_2 dX0_missed_15 rfl (by decide) rfl ?_
    refine wp_aload_0 dX0_missed_16 rfl ?_
    refine wp_getf dX0_missed_17 rfl q729 fk0_9 hE.o0 rfl ?_
    refine wp_iload_1 dX0_missed_20 rfl ?_
    refine wp_cvEi dX0_missed_21 rfl q1354 mv_X6_plain (cg_24 hE.X) rfl rfl (c_plain hE hp) rfl rfl (Nat.le_of_ble_eq_true rfl) (Nat.le_of_ble_eq_true rfl) (fun h1 hq => ?_)
    obtain ⟨C, rfl, hP, hc⟩ := hq
    have hE := hc.ev hE
    have hL := hL.tr hc.kc
    have hG := hc.g4 hG
    refine wp_aload_2 dX0_missed_24 rfl ?_
    refine wp_cvEi dX0_missed_25 rfl q1359 mv_X6_goes (cg_24 hE.X) rfl rfl (c_goes4 hE hG hP hp hk (dg_wg hE.s hE.c)) rfl rfl (Nat.le_of_ble_eq_true rfl) (Nat.le_of_ble_eq_true rfl) (fun h1 hq => ?_)
    obtain ⟨C, rfl, hR, hr⟩ := hq
    have hE := hr.ev hE
    have hL := hL.tr hr.kc
    have hG := hr.g4 hG
    refine wp_pop dX0_missed_28 rfl rfl ?_
    refine wp_iconst 0 dX0_missed_29 rfl rfl ?_
    refine wp_istore_3 dX0_missed_30 rfl (by decide) rfl ?_
    exact cL_missed hE hG hR (dg_wg hE.s hE.c) (dgM W) 0 (Nat.zero_add _) ⟨by simp (disch := omega) [qmissed, ruD, nI_clamp, *], QC0.mk hL⟩
  · refine wp_bipush (-2) dX0_missed_8 rfl rfl ?_
    exact wp_ireturn dX0_missed_10 rfl ⟨by first | (simp (disch := omega) [qmissed, dgW, nI_clamp, inL_0, *]; done) | (simp_all (config := {failIfUnchanged := false}) [qmissed, dgW, inL_0]; done), by first | exact QC0.mk hL | exact QC0.rf⟩
theorem q_c_learns {g : GW} {C : SC} {S : SM} {X : AH} {lo hi b : Nat} {A : BA} {W : Nat → Int32} (hE : EV C X lo hi b A W) {x z : Int32} : SP g 9 0 0 yX0_learns cX0_learns 3 (some .int) [.ref 0, .int x, .int z] (cH C S X) (QC C S X (.int (qlearns W x z))) := by
  refine SP.intro [some (.ref 0), some (.int x), some (.int z)] (pfn (by decide)) rfl (Nat.le_of_ble_eq_true rfl) ?_
  refine wp_aload_0 dX0_learns_0 rfl ?_
  refine wp_iload_1 dX0_learns_1 rfl ?_
  refine wp_cvR dX0_learns_2 rfl q1219 mv_X0_isPlayer hE.o0 rfl rfl (c_isPlayer hE) rfl rfl (Nat.le_of_ble_eq_true rfl) (Nat.le_of_ble_eq_true rfl) ?_
  refine wp_ifeq_b 29 dX0_learns_5 rfl rfl (fun c5 => ?_) (fun c5 => ?_)
  · refine wp_bipush (-2) dX0_learns_29 rfl rfl ?_
    exact wp_ireturn dX0_learns_31 rfl ⟨by first | (simp (disch := omega) [qlearns, dgW, nI_clamp, inL_0, *]; done) | (simp_all (config := {failIfUnchanged := false}) [qlearns, dgW, inL_0]; done), by first | exact QC0.mk hL | exact QC0.rf⟩
  · obtain ⟨p, hp, rfl⟩ := plW_of hE.s c5
    have hp4 : p < 4 := by have := hE.s.np.2; omega
    refine wp_iload_2 dX0_learns_8 rfl ?_
    refine wp_i2l dX0_learns_9 rfl ?_
    refine wp_lconst 0 dX0_learns_10 rfl rfl ?_
    refine wp_ldc2_w dX0_learns_11 rfl q1436 ?_
    refine wp_csR dX0_learns_14 rfl q190 ms_X0_in c_in rfl rfl (Nat.le_of_ble_eq_true rfl) (Nat.le_of_ble_eq_true rfl) ?_
    refine wp_ifeq_b 29 dX0_learns_17 rfl rfl (fun c17 => ?_) (fun c17 => ?_)
    · refine wp_bipush (-2) dX0_learns_29 rfl rfl ?_
      exact wp_ireturn dX0_learns_31 rfl ⟨by first | (simp (disch := omega) [qlearns, dgW, nI_clamp, inL_0, *]; done) | (simp_all (config := {failIfUnchanged := false}) [qlearns, dgW, inL_0]; done), by first | exact QC0.mk hL | exact QC0.rf⟩
    · obtain ⟨n, hn, rfl⟩ := in_ofk (n := 9) (by omega) c17
      refine wp_aload_0 dX0_learns_20 rfl ?_
      refine wp_iload_1 dX0_learns_21 rfl ?_
      refine wp_iload_2 dX0_learns_22 rfl ?_
      refine wp_cvEi dX0_learns_23 rfl q1437 mv_X0_learnsOf hE.o0 rfl rfl (c_learnsOf hE hp (by omega)) rfl rfl (Nat.le_of_ble_eq_true rfl) (Nat.le_of_ble_eq_true rfl) (fun h1 hq => ?_)
      obtain ⟨C, rfl, hl⟩ := hq
      have hE := hl.ev hE
      have hL := hl
      refine wp_goto 31 dX0_learns_26 rfl rfl ?_
      exact wp_ireturn dX0_learns_31 rfl ⟨by first | (simp (disch := omega) [qlearns, dgW, nI_clamp, inL_0, *]; done) | (simp_all (config := {failIfUnchanged := false}) [qlearns, dgW, inL_0]; done), by first | exact QC0.mk hL | exact QC0.rf⟩
theorem cL_enough {g : GW} {S : SM} {X : AH} {lo hi b : Nat} {A : BA} {W : Nat → Int32} {C0 : SC} {p : Nat} (hp : p < nW W 6) {c n : Nat} {Q : Option Value → AH → Prop} : ∀ (k : Nat) (C : SC) (i z : Nat), EV C X lo hi b A W → KC C0 C → i + k = 10 → z < 1000 → (∀ C', KC C0 C' → Q (some (.int (nI (itr (beF (lnB W p)) k i z)))) (cH C' S X)) → WP g 9 yX0_enough cX0_enough 4 (some .int) 15 [some (.ref 0), some (.int (nI p)), some (.int (nI z)), some (.int (nI i))] [] (cH C S X) c n Q := by
  intro k
  induction k with
  | zero =>
    intro C i z hE hL hi hz hq
    refine wp_iload_3 dX0_enough_15 rfl ?_
    refine wp_bipush 9 dX0_enough_16 rfl rfl ?_
    refine wp_icmp_gt_k 44 dX0_enough_18 rfl rfl (b := 9) (by omega) (by omega) (fun c18 => ?_) (fun c18 => ?_)
    · refine wp_iload_2 dX0_enough_44 rfl ?_
      exact wp_ireturn dX0_enough_45 rfl (hq C hL)
    · exact absurd c18 (by omega)
  | succ k ih =>
    intro C i z hE hL hi hz hq
    refine wp_iload_3 dX0_enough_15 rfl ?_
    refine wp_bipush 9 dX0_enough_16 rfl rfl ?_
    refine wp_icmp_gt_k 44 dX0_enough_18 rfl rfl (b := 9) (by omega) (by omega) (fun c18 => ?_) (fun c18 => ?_)
    · exact absurd c18 (by omega)
    · refine wp_aload_0 dX0_enough_21 rfl ?_
      refine wp_iload_1 dX0_enough_22 rfl ?_
      refine wp_iload_3 dX0_enough_23 rfl ?_
      refine wp_cvEi dX0_enough_24 rfl q1437 mv_X0_learnsOf hE.o0 rfl rfl (c_learnsOf hE hp (by omega)) rfl rfl (Nat.le_of_ble_eq_true rfl) (Nat.le_of_ble_eq_true rfl) (fun h1 hq => ?_)
      obtain ⟨C, rfl, hl⟩ := hq
      have hE := hl.ev hE
      have hL := hL.tr hl
      refine wp_aload_0 dX0_enough_27 rfl ?_
      refine wp_iload_1 dX0_enough_28 rfl ?_
      refine wp_iload_2 dX0_enough_29 rfl ?_
      refine wp_cvEi dX0_enough_30 rfl q1437 mv_X0_learnsOf hE.o0 rfl rfl (c_learnsOf hE hp (by omega)) rfl rfl (Nat.le_of_ble_eq_true rfl) (Nat.le_of_ble_eq_true rfl) (fun h1 hq => ?_)
      obtain ⟨C, rfl, hl⟩ := hq
      have hE := hl.ev hE
      have hL := hL.tr hl
      refine wp_icmp_le_k 38 dX0_enough_33 rfl rfl (by have := stG_le W (lnP W p i); omega) (by have := stG_le W (lnP W p z); omega) (fun c33 => ?_) (fun c33 => ?_)
      · refine wp_iinc_3 1 dX0_enough_38 rfl rfl (by decide) rfl ?_
        refine wp_goto 15 dX0_enough_41 rfl rfl ?_
        exact WP.cast (by simp [beF, lnB, nI_1, ← Nat.not_le, *]) (ih C (i + 1) (beF (lnB W p) i z) hE hL (by omega) (by have := beF_lt (better := lnB W p) (n := 1000) (i := i) (b := z) (by omega) hz; exact this) hq)
      · refine wp_iload_3 dX0_enough_36 rfl ?_
        refine wp_istore_2 dX0_enough_37 rfl (by decide) rfl ?_
        refine wp_iinc_3 1 dX0_enough_38 rfl rfl (by decide) rfl ?_
        refine wp_goto 15 dX0_enough_41 rfl rfl ?_
        exact WP.cast (by simp [beF, lnB, nI_1, ← Nat.not_le, *]) (ih C (i + 1) (beF (lnB W p) i z) hE hL (by omega) (by have := beF_lt (better := lnB W p) (n := 1000) (i := i) (b := z) (by omega) hz; exact this) hq)
theorem q_c_enough {g : GW} {C : SC} {S : SM} {X : AH} {lo hi b : Nat} {A : BA} {W : Nat → Int32} (hE : EV C X lo hi b A W) {x : Int32} : SP g 9 0 0 yX0_enough cX0_enough 4 (some .int) [.ref 0, .int x] (cH C S X) (QC C S X (.int (qenough W x))) := by
  refine SP.intro [some (.ref 0), some (.int x), none, none] (pfn (by decide)) rfl (Nat.le_of_ble_eq_true rfl) ?_
  refine wp_aload_0 dX0_enough_0 rfl ?_
  refine wp_iload_1 dX0_enough_1 rfl ?_
  refine wp_cvR dX0_enough_2 rfl q1219 mv_X0_isPlayer hE.o0 rfl rfl (c_isPlayer hE) rfl rfl (Nat.le_of_ble_eq_true rfl) (Nat.le_of_ble_eq_true rfl) ?_
  refine wp_ifne_b 11 dX0_enough_5 rfl rfl (fun c5 => ?_) (fun c5 => ?_)
  · obtain ⟨p, hp, rfl⟩ := plW_of hE.s c5
    have hp4 : p < 4 := by have := hE.s.np.2; omega
    refine wp_iconst 0 dX0_enough_11 rfl rfl ?_
    refine wp_istore_2 dX0_enough_12 rfl (by decide) rfl ?_
    refine wp_iconst 1 dX0_enough_13 rfl rfl ?_
    refine wp_istore_3 dX0_enough_14 rfl (by decide) rfl ?_
    exact cL_enough hp 9 C 1 0 hE (KC.rf C) (by omega) (by omega) (fun C1 hL => ⟨by simp (disch := omega) [qenough, nI_clamp, *], QC0.mk hL⟩)
  · refine wp_bipush (-2) dX0_enough_8 rfl rfl ?_
    exact wp_ireturn dX0_enough_10 rfl ⟨by first | (simp (disch := omega) [qenough, dgW, nI_clamp, inL_0, *]; done) | (simp_all (config := {failIfUnchanged := false}) [qenough, dgW, inL_0]; done), by first | exact QC0.mk hL | exact QC0.rf⟩
theorem cL_waits {g : GW} {S : SM} {X : AH} {lo hi b : Nat} {A : BA} {W : Nat → Int32} {C0 : SC} {p : Nat} (hp : p < nW W 6) {w : Int32} {c n : Nat} {Q : Option Value → AH → Prop} : ∀ (k : Nat) (C : SC) (i z : Nat), EV C X lo hi b A W → KC C0 C → ((hoN W ≤ i ∧ k = 0) ∨ i + k = hoN W) → i < 1000 → z < 1000 → (∀ C' vv, KC C0 C' → EV C' X lo hi b A W → WP g 9 yX0_waits cX0_waits 5 (some .int) 63 [some (.ref 0), some (.int (nI p)), some (.int w), some (.int (nI (itr (beF (wtB W p)) k i z))), vv] [] (cH C' S X) c n Q) → WP g 9 yX0_waits cX0_waits 5 (some .int) 26 [some (.ref 0), some (.int (nI p)), some (.int w), some (.int (nI z)), some (.int (nI i))] [] (cH C S X) c n Q := by
  intro k
  induction k with
  | zero =>
    intro C i z hE hL hi hi2 hz hq
    refine wp_iload_4 dX0_waits_26 rfl ?_
    refine wp_aload_0 dX0_waits_28 rfl ?_
    refine wp_getf dX0_waits_29 rfl q721 fk0_1 hE.o0 rfl ?_
    refine wp_cvR dX0_waits_32 rfl q1329 mv_X2_holes hE.ob rfl rfl (b_holes hE.B) rfl rfl (Nat.le_of_ble_eq_true rfl) (Nat.le_of_ble_eq_true rfl) ?_
    rw [hE.s.ho]
    refine wp_icmp_ge_k 63 dX0_waits_35 rfl rfl (by omega) (by have := hE.s.ho12; omega) (fun c35 => ?_) (fun c35 => ?_)
    · exact hq C _ hL hE
    · exact absurd c35 (by omega)
  | succ k ih =>
    intro C i z hE hL hi hi2 hz hq
    refine wp_iload_4 dX0_waits_26 rfl ?_
    refine wp_aload_0 dX0_waits_28 rfl ?_
    refine wp_getf dX0_waits_29 rfl q721 fk0_1 hE.o0 rfl ?_
    refine wp_cvR dX0_waits_32 rfl q1329 mv_X2_holes hE.ob rfl rfl (b_holes hE.B) rfl rfl (Nat.le_of_ble_eq_true rfl) (Nat.le_of_ble_eq_true rfl) ?_
    rw [hE.s.ho]
    refine wp_icmp_ge_k 63 dX0_waits_35 rfl rfl (by omega) (by have := hE.s.ho12; omega) (fun c35 => ?_) (fun c35 => ?_)
    · exact absurd c35 (by omega)
    · refine wp_aload_0 dX0_waits_38 rfl ?_
      refine wp_iload_1 dX0_waits_39 rfl ?_
      refine wp_iload_4 dX0_waits_40 rfl ?_
      refine wp_cvEi dX0_waits_42 rfl q1449 mv_X0_waitsOf hE.o0 rfl rfl (c_waitsOf hE hp) rfl rfl (Nat.le_of_ble_eq_true rfl) (Nat.le_of_ble_eq_true rfl) (fun h1 hq => ?_)
      obtain ⟨C, rfl, hl⟩ := hq
      have hE := hl.ev hE
      have hL := hL.tr hl
      refine wp_aload_0 dX0_waits_45 rfl ?_
      refine wp_iload_1 dX0_waits_46 rfl ?_
      refine wp_iload_3 dX0_waits_47 rfl ?_
      refine wp_cvEi dX0_waits_48 rfl q1449 mv_X0_waitsOf hE.o0 rfl rfl (c_waitsOf hE hp) rfl rfl (Nat.le_of_ble_eq_true rfl) (Nat.le_of_ble_eq_true rfl) (fun h1 hq => ?_)
      obtain ⟨C, rfl, hl⟩ := hq
      have hE := hl.ev hE
      have hL := hL.tr hl
      refine wp_icmp_le_k 57 dX0_waits_51 rfl rfl (by have := stG_le W (wtP W p (nI i)); omega) (by have := stG_le W (wtP W p (nI z)); omega) (fun c51 => ?_) (fun c51 => ?_)
      · refine wp_iinc_4 1 dX0_waits_57 rfl rfl (by decide) rfl ?_
        refine wp_goto 26 dX0_waits_60 rfl rfl ?_
        exact WP.cast (by simp [beF, wtB, nI_1, ← Nat.not_le, *]) (ih C (i + 1) (beF (wtB W p) i z) hE hL (by omega) (by have := hE.s.ho12; omega) (by have := hE.s.ho12; have := beF_lt (better := wtB W p) (n := 1000) (i := i) (b := z) (by omega) hz; exact this) hq)
      · refine wp_iload_4 dX0_waits_54 rfl ?_
        refine wp_istore_3 dX0_waits_56 rfl (by decide) rfl ?_
        refine wp_iinc_4 1 dX0_waits_57 rfl rfl (by decide) rfl ?_
        refine wp_goto 26 dX0_waits_60 rfl rfl ?_
        exact WP.cast (by simp [beF, wtB, nI_1, ← Nat.not_le, *]) (ih C (i + 1) (beF (wtB W p) i z) hE hL (by omega) (by have := hE.s.ho12; omega) (by have := hE.s.ho12; have := beF_lt (better := wtB W p) (n := 1000) (i := i) (b := z) (by omega) hz; exact this) hq)
theorem q_c_waits {g : GW} {C : SC} {S : SM} {X : AH} {lo hi b : Nat} {A : BA} {W : Nat → Int32} (hE : EV C X lo hi b A W) {x z : Int32} : SP g 9 0 0 yX0_waits cX0_waits 5 (some .int) [.ref 0, .int x, .int z] (cH C S X) (QC C S X (.int (qwaits W x z))) := by
  refine SP.intro [some (.ref 0), some (.int x), some (.int z), none, none] (pfn (by decide)) rfl (Nat.le_of_ble_eq_true rfl) ?_
  refine wp_aload_0 dX0_waits_0 rfl ?_
  refine wp_iload_1 dX0_waits_1 rfl ?_
  refine wp_cvR dX0_waits_2 rfl q1219 mv_X0_isPlayer hE.o0 rfl rfl (c_isPlayer hE) rfl rfl (Nat.le_of_ble_eq_true rfl) (Nat.le_of_ble_eq_true rfl) ?_
  refine wp_ifeq_b 18 dX0_waits_5 rfl rfl (fun c5 => ?_) (fun c5 => ?_)
  · refine wp_bipush (-2) dX0_waits_18 rfl rfl ?_
    exact wp_ireturn dX0_waits_20 rfl ⟨by first | (simp (disch := omega) [qwaits, beN, dgW, nI_clamp, inL_0, *]; done) | (simp_all (config := {failIfUnchanged := false}) [qwaits, beN, dgW, inL_0]; done), by first | exact QC0.mk hL | exact QC0.rf⟩
  · obtain ⟨p, hp, rfl⟩ := plW_of hE.s c5
    have hp4 : p < 4 := by have := hE.s.np.2; omega
    refine wp_iload_2 dX0_waits_8 rfl ?_
    refine wp_i2l dX0_waits_9 rfl ?_
    refine wp_lconst 0 dX0_waits_10 rfl rfl ?_
    refine wp_lconst 1 dX0_waits_11 rfl rfl ?_
    refine wp_csR dX0_waits_12 rfl q190 ms_X0_in c_in rfl rfl (Nat.le_of_ble_eq_true rfl) (Nat.le_of_ble_eq_true rfl) ?_
    refine wp_ifne_b 21 dX0_waits_15 rfl rfl (fun c15 => ?_) (fun c15 => ?_)
    · obtain ⟨w, hw, rfl⟩ := in01_of c15
      refine wp_iconst 0 dX0_waits_21 rfl rfl ?_
      refine wp_istore_3 dX0_waits_22 rfl (by decide) rfl ?_
      refine wp_iconst 1 dX0_waits_23 rfl rfl ?_
      refine wp_istore_4 dX0_waits_24 rfl (by decide) rfl ?_
      refine cL_waits hp (hoN W - 1) C 1 0 hE (KC.rf C) (by omega) (by omega) (by omega) (fun C vv hL hE => ?_)
      refine wp_iload_2 dX0_waits_63 rfl ?_
      generalize hbb : itr (beF (wtB W p)) (hoN W - 1) 1 0 = zz
      refine wp_if_ne 71 dX0_waits_64 rfl rfl (fun c64 => ?_) (fun c64 => ?_)
      · refine wp_aload_0 dX0_waits_71 rfl ?_
        refine wp_iload_1 dX0_waits_72 rfl ?_
        refine wp_iload_3 dX0_waits_73 rfl ?_
        refine wp_cvEi dX0_waits_74 rfl q1449 mv_X0_waitsOf hE.o0 rfl rfl (c_waitsOf hE hp) rfl rfl (Nat.le_of_ble_eq_true rfl) (Nat.le_of_ble_eq_true rfl) (fun h1 hq => ?_)
        obtain ⟨C, rfl, hl⟩ := hq
        have hE := hl.ev hE
        have hL := hL.tr hl
        exact wp_ireturn dX0_waits_77 rfl ⟨by subst hbb; simp (disch := omega) [qwaits, beN, nI_clamp, *], QC0.mk hL⟩
      · rw [c64] at c15
        refine wp_iload_3 dX0_waits_67 rfl ?_
        refine wp_goto 77 dX0_waits_68 rfl rfl ?_
        exact wp_ireturn dX0_waits_77 rfl ⟨by subst hbb; simp (disch := omega) [qwaits, beN, nI_clamp, *], QC0.mk hL⟩
    · refine wp_bipush (-2) dX0_waits_18 rfl rfl ?_
      exact wp_ireturn dX0_waits_20 rfl ⟨by first | (simp (disch := omega) [qwaits, beN, dgW, nI_clamp, inL_0, *]; done) | (simp_all (config := {failIfUnchanged := false}) [qwaits, beN, dgW, inL_0]; done), by first | exact QC0.mk hL | exact QC0.rf⟩
def slN (W : Nat → Int32) (p : Nat) : Nat → Nat
  | 0 => 0
  | z + 1 => if slB W p (z + 1) 0 = true then z + 1 else slN W p z
theorem slN_t {W : Nat → Int32} {p z : Nat} (h : slB W p z 0 = true) : slN W p z = z := by
  cases z with
  | zero => rfl
  | succ z => exact if_pos h
theorem slB_0 (W : Nat → Int32) (p : Nat) : slB W p 0 0 = true := decide_eq_true rfl
theorem slB_b (W : Nat → Int32) (p z b : Nat) : slB W p z b = slB W p z 0 := rfl
theorem itr_snoc {α : Type} (f : Nat → α → α) : ∀ (k i : Nat) (a : α), itr f (k + 1) i a = f (i + k) (itr f k i a) := by
  intro k
  induction k with
  | zero => intro i a; rfl
  | succ k ih =>
    intro i a
    show itr f (k + 1) (i + 1) (f i a) = _
    rw [ih (i + 1) (f i a), show i + 1 + k = i + (k + 1) by omega]
    rfl
theorem sl_eq (W : Nat → Int32) (p : Nat) : ∀ k, itr (beF (slB W p)) k 1 0 = slN W p k := by
  intro k
  induction k with
  | zero => rfl
  | succ k ih =>
    rw [itr_snoc, ih, show 1 + k = k + 1 by omega]
    unfold beF
    rw [slB_b W p (k + 1) (slN W p k)]
    rfl
theorem cL_slack {g : GW} {S : SM} {X : AH} {lo hi b : Nat} {A : BA} {W : Nat → Int32} {C0 : SC} {p : Nat} (hp : p < nW W 6) {c n : Nat} {Q : Option Value → AH → Prop} : ∀ (z : Nat) (C : SC), EV C X lo hi b A W → KC C0 C → z < 1000 → (∀ C', KC C0 C' → Q (some (.int (nI (slN W p z)))) (cH C' S X)) → WP g 9 yX0_slack cX0_slack 3 (some .int) 14 [some (.ref 0), some (.int (nI p)), some (.int (nI z))] [] (cH C S X) c n Q := by
  intro z
  induction z with
  | zero =>
    intro C hE hL hz hq
    refine wp_aload_0 dX0_slack_14 rfl ?_
    refine wp_iload_1 dX0_slack_15 rfl ?_
    refine wp_iload_2 dX0_slack_16 rfl ?_
    refine wp_cvEi dX0_slack_17 rfl q1494 mv_X0_laggingHits hE.o0 rfl rfl (c_laggingHits (x := nI 0) hE hp) rfl rfl (Nat.le_of_ble_eq_true rfl) (Nat.le_of_ble_eq_true rfl) (fun h1 hq => ?_)
    obtain ⟨C, rfl, hl⟩ := hq
    have hE := hl.ev hE
    have hL := hL.tr hl
    refine wp_aload_0 dX0_slack_20 rfl ?_
    refine wp_iload_1 dX0_slack_21 rfl ?_
    refine wp_iconst 0 dX0_slack_22 rfl rfl ?_
    refine wp_cvEi dX0_slack_23 rfl q1494 mv_X0_laggingHits hE.o0 rfl rfl (c_laggingHits hE hp) rfl rfl (Nat.le_of_ble_eq_true rfl) (Nat.le_of_ble_eq_true rfl) (fun h1 hq => ?_)
    obtain ⟨C, rfl, hl⟩ := hq
    have hE := hl.ev hE
    have hL := hL.tr hl
    refine wp_icmp_eq_k 35 dX0_slack_26 rfl rfl (by have := stG_le W (lgP W p (nI 0)); omega) (by have := stG_le W (lgP W p 0); omega) (fun c26 => ?_) (fun c26 => ?_)
    · refine wp_iload_2 dX0_slack_35 rfl ?_
      exact wp_ireturn dX0_slack_36 rfl (hq C hL)
    · exact absurd (show stG W (lgP W p (nI 0)) = stG W (lgP W p 0) from rfl) c26
  | succ z ih =>
    intro C hE hL hz hq
    refine wp_aload_0 dX0_slack_14 rfl ?_
    refine wp_iload_1 dX0_slack_15 rfl ?_
    refine wp_iload_2 dX0_slack_16 rfl ?_
    refine wp_cvEi dX0_slack_17 rfl q1494 mv_X0_laggingHits hE.o0 rfl rfl (c_laggingHits (x := nI (z + 1)) hE hp) rfl rfl (Nat.le_of_ble_eq_true rfl) (Nat.le_of_ble_eq_true rfl) (fun h1 hq => ?_)
    obtain ⟨C, rfl, hl⟩ := hq
    have hE := hl.ev hE
    have hL := hL.tr hl
    refine wp_aload_0 dX0_slack_20 rfl ?_
    refine wp_iload_1 dX0_slack_21 rfl ?_
    refine wp_iconst 0 dX0_slack_22 rfl rfl ?_
    refine wp_cvEi dX0_slack_23 rfl q1494 mv_X0_laggingHits hE.o0 rfl rfl (c_laggingHits hE hp) rfl rfl (Nat.le_of_ble_eq_true rfl) (Nat.le_of_ble_eq_true rfl) (fun h1 hq => ?_)
    obtain ⟨C, rfl, hl⟩ := hq
    have hE := hl.ev hE
    have hL := hL.tr hl
    refine wp_icmp_eq_k 35 dX0_slack_26 rfl rfl (by have := stG_le W (lgP W p (nI (z + 1))); omega) (by have := stG_le W (lgP W p 0); omega) (fun c26 => ?_) (fun c26 => ?_)
    · refine wp_iload_2 dX0_slack_35 rfl ?_
      exact wp_ireturn dX0_slack_36 rfl (by
    have e9 : slB W p (z + 1) 0 = true := decide_eq_true c26
    rw [slN_t e9] at hq
    exact hq C hL)
    · refine wp_iinc_2 (-1) dX0_slack_29 rfl rfl (by decide) rfl ?_
      refine wp_goto 14 dX0_slack_32 rfl rfl ?_
      have e9 : slB W p (z + 1) 0 = false := decide_eq_false c26
      exact WP.cast (by rw [show nI (z + 1) + -1 = nI z by rw [← nI_1]; grind]) (ih C hE hL (by omega) (fun C1 h1 => by have h2 := hq C1 h1; rw [slN, if_neg (by rw [e9]; decide)] at h2; exact h2))
theorem q_c_slack {g : GW} {C : SC} {S : SM} {X : AH} {lo hi b : Nat} {A : BA} {W : Nat → Int32} (hE : EV C X lo hi b A W) {x : Int32} : SP g 9 0 0 yX0_slack cX0_slack 3 (some .int) [.ref 0, .int x] (cH C S X) (QC C S X (.int (qslack W x))) := by
  refine SP.intro [some (.ref 0), some (.int x), none] (pfn (by decide)) rfl (Nat.le_of_ble_eq_true rfl) ?_
  refine wp_aload_0 dX0_slack_0 rfl ?_
  refine wp_iload_1 dX0_slack_1 rfl ?_
  refine wp_cvR dX0_slack_2 rfl q1219 mv_X0_isPlayer hE.o0 rfl rfl (c_isPlayer hE) rfl rfl (Nat.le_of_ble_eq_true rfl) (Nat.le_of_ble_eq_true rfl) ?_
  refine wp_ifne_b 11 dX0_slack_5 rfl rfl (fun c5 => ?_) (fun c5 => ?_)
  · obtain ⟨p, hp, rfl⟩ := plW_of hE.s c5
    have hp4 : p < 4 := by have := hE.s.np.2; omega
    refine wp_bipush 20 dX0_slack_11 rfl rfl ?_
    refine wp_istore_2 dX0_slack_13 rfl (by decide) rfl ?_
    exact cL_slack hp 20 C hE (KC.rf C) (by omega) (fun C1 hL => ⟨by simp (disch := omega) [qslack, sl_eq, nI_clamp, *], QC0.mk hL⟩)
  · refine wp_bipush (-2) dX0_slack_8 rfl rfl ?_
    exact wp_ireturn dX0_slack_10 rfl ⟨by first | (simp (disch := omega) [qslack, dgW, nI_clamp, inL_0, *]; done) | (simp_all (config := {failIfUnchanged := false}) [qslack, dgW, inL_0]; done), by first | exact QC0.mk hL | exact QC0.rf⟩
