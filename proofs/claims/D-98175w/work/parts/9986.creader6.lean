/-! ===== the class: the reader: a player ===== -/
set_option maxRecDepth 100000
theorem r_player {g : GW} {C : SC} {S : SM} {X0 X : AH} {r b n : Nat} {A : BA} {L : LX} {W : Nat → Int32} (hn : n ≤ 1200) (hT : TB (C.2.1 14)) (R : RDS X0 r b n X (L, W) A)  : SP g 10 16 160 yX11_player cX11_player 2 none [.ref r] (cH C S X) (RDQ C S X0 r b n TrX none ((if W 6 = 4 then .inl (3, nI (lFr L)) else pPla (C.2.1 14) n (nW W 6) (pGo (C.2.1 14) n L W)))) := by
  refine SP.intro [some (.ref r), none] (pfn (by decide)) rfl (Nat.le_of_ble_eq_true rfl) ?_
  have hn5 := R.bd.n6
  dsimp only at hn5
  refine wp_aload_0 dX11_player_0 rfl ?_
  refine wp_aload_0 dX11_player_1 rfl ?_
  refine wp_getf dX11_player_2 rfl q796 fk11_2 R.at rfl ?_
  refine wp_getfN dX11_player_5 rfl q443 fk2_1 R.ob rfl ?_
  refine wp_FxR dX11_player_8 rfl q1031 mf_J2_size (R.bd.op.at R.bd.dy) rfl rfl (j_size (m := nW W 6) R.bd.plas) rfl rfl (Nat.le_of_ble_eq_true rfl) (Nat.le_of_ble_eq_true rfl) (Nat.zero_le _) (Nat.zero_le _) ?_
  refine wp_iconst 4 dX11_player_13 rfl rfl ?_
  change WP g 10 _ _ _ _ _ _ (Value.int (nI 4) :: _) _ _ _ _
  refine wp_icmp_ge_k 21 dX11_player_14 rfl rfl (by omega) (by omega) (fun c14 => ?_) (fun c14 => ?_)
  · have h24 : W 6 = 4 := hn5.1.trans (by rw [show nW W 6 = 4 by omega]; rfl)
    refine wp_iconst 0 dX11_player_21 rfl rfl ?_
    refine wp_cvT dX11_player_22 rfl q1039 mv_X11_room R.at rfl rfl (r_room hn hT R (q := false)) rfl rfl (Nat.le_of_ble_eq_true rfl) (Nat.le_of_ble_eq_true rfl) (Nat.le_of_ble_eq_true rfl) (Nat.le_of_ble_eq_true rfl) (fun v' h1 hq hnt => ?_) (fun v' h1 hq hnt => WX.out0 (hq.to hnt rfl (fun f e => by first | (rw [if_pos h24]; exact e) | (rw [room_t] at e; cases e))))
    obtain ⟨⟨L1, W1⟩, e1, rfl, X1, A1, rfl, R1, p1, rfl⟩ := hq.ok hnt
    obtain ⟨hq1, hL1, hw1⟩ := room_W e1
    cases hq1
  · have h24 : ¬ W 6 = 4 := fun q => absurd (nW_n (j := 6) (k := 4) q (by omega)) (by omega)
    refine wp_iconst 1 dX11_player_17 rfl rfl ?_
    refine wp_goto 22 dX11_player_18 rfl rfl ?_
    refine wp_cvT dX11_player_22 rfl q1039 mv_X11_room R.at rfl rfl (r_room hn hT R (q := true)) rfl rfl (Nat.le_of_ble_eq_true rfl) (Nat.le_of_ble_eq_true rfl) (Nat.le_of_ble_eq_true rfl) (Nat.le_of_ble_eq_true rfl) (fun v' h1 hq hnt => ?_) (fun v' h1 hq hnt => WX.out0 (hq.to hnt rfl (fun f e => by first | (rw [if_pos h24]; exact e) | (rw [room_t] at e; cases e))))
    obtain ⟨⟨L1, W1⟩, e1, rfl, X1, A1, rfl, R1, p1, rfl⟩ := hq.ok hnt
    obtain ⟨hq1, hL1, hw1⟩ := room_W e1
    subst hw1
    have hgo : pGo (C.2.1 14) n L W1 = .inr (L1, W1) := by rw [hL1]; rfl
    refine wp_new1 dX11_player_25 rfl q1146 nw15 (Nat.le_of_ble_eq_true rfl) (Nat.le_of_ble_eq_true rfl) ?_
    change WP _ _ _ _ _ _ _ _ _ (iH 15 (cH C S X1) [.null] []) _ _ _
    refine wp_dup dX11_player_28 rfl rfl ?_
    refine wp_INx0 dX11_player_29 rfl q1148 mi_X14_init (c_pInit (pre := cH C S X1) rfl) rfl rfl (Nat.le_of_ble_eq_true rfl) (Nat.le_of_ble_eq_true rfl) (Nat.le_of_ble_eq_true rfl) (Nat.le_of_ble_eq_true rfl) ?_
    change WP g 10 _ _ _ _ _ _ _ (cH C S X1 ++ ([.inr (15, [.ref ((cH C S X1).length + 1)]), .inl (0, 5, .inl (fun _ => 0))] : AH)) _ _ _
    rw [cH_app R1.X8, cH_len]
    have hold : ∀ k, k < nW W1 6 → A1.pi k ≠ X1.length + 1 := fun k hk z => by
      have q := (R1.bd.pl k hk).2.2.1.2.2
      omega
    have hx0 : X0.length ≤ X1.length := R1.xe.len
    have ht1 : (X1 ++ ([.inr (15, [.ref (X1.length + 1)]), .inl (0, 5, .inl (fun _ => 0))] : AH))[X1.length]? = some (.inr (15, [.ref (X1.length + 1)])) := by
      rw [List.getElem?_append_right (Nat.le_refl _), Nat.sub_self]; rfl
    have hp1 : (X1 ++ ([.inr (15, [.ref (X1.length + 1)]), .inl (0, 5, .inl (fun _ => 0))] : AH))[X1.length + 1]? = some (.inl (0, 5, .inl (fun _ => 0))) := by
      rw [List.getElem?_append_right (by omega), Nat.add_sub_cancel_left]; rfl
    have R1 := R1.app ([.inr (15, [.ref (X1.length + 1)]), .inl (0, 5, .inl (fun _ => 0))] : AH)
    generalize X1 ++ ([.inr (15, [.ref (X1.length + 1)]), .inl (0, 5, .inl (fun _ => 0))] : AH) = Y1 at *
    generalize X1.length = t at *
    have hdt : dyn t := Or.inr (by have := R1.x0; omega)
    have hdp : dyn (t + 1) := Or.inr (by have := R1.x0; omega)
    have hv1 : ∀ i, i < 0 → (fun _ => 0 : Nat → Int32) i = W1 (96 + 5 * nW W1 6 + i) := fun i hi => absurd hi (Nat.not_lt_zero i)
    generalize (fun _ => 0 : Nat → Int32) = F1 at *
    obtain ⟨q, hq6⟩ : ∃ q, nW W1 6 = q := ⟨_, rfl⟩
    rw [hq6] at hold hv1
    have hq1 := hq6
    refine wp_astore_1 dX11_player_32 rfl (by decide) rfl ?_
    refine wp_aload_1 dX11_player_33 rfl ?_
    refine wp_getfN dX11_player_34 rfl q1155 fk15_0 ((cH_dyn hdt).trans ht1) rfl ?_
    refine wp_iconst 0 dX11_player_37 rfl rfl ?_
    refine wp_aload_0 dX11_player_38 rfl ?_
    refine wp_ldcS (w := 7) dX11_player_39 rfl (List.mem_of_getElem? (i := 6) rfl) ?_
    refine wp_iconst 1 dX11_player_41 rfl rfl ?_
    refine wp_bipush 9 dX11_player_42 rfl rfl ?_
    refine wp_cvT dX11_player_44 rfl q917 mv_X11_number R1.at rfl rfl (r_to hn hT R1 (w := 7) (by decide)) rfl rfl (Nat.le_of_ble_eq_true rfl) (Nat.le_of_ble_eq_true rfl) (Nat.le_of_ble_eq_true rfl) (Nat.le_of_ble_eq_true rfl) (fun v' h1 hq hnt => ?_) (fun v' h1 hq hnt => WX.out0 (hq.to hnt rfl (fun f e => by rw [if_neg h24, hgo, hq6, pla_eq, ts_f e]; rfl)))
    obtain ⟨⟨L2, W2⟩, e2, rfl, X2, A2, rfl, R2, p2, rfl⟩ := hq.ok hnt
    have hw2 := to_W e2
    subst hw2
    have ht2 := p2 t _ ht1 (R1.nb ht1 (by simp [lxo, ro]))
    have hp2 := p2 (t + 1) _ hp1 (R1.nb hp1 (by simp [lxo, ro]))
    refine wp_iastoren 0 dX11_player_47 rfl ((cH_dyn hdp).trans hp2) rfl (by decide) (by decide) (cH_dset hdp) ?_
    have t2 : pTs (C.2.1 14) n 7 1 9 (96 + 5 * q) (.inr (L1, W2)) = .inr (L2, upd W2 (96 + 5 * q + 0) (pTo (C.2.1 14) n 7 1 9 (.inr (L1, W2))).1) := ts_go e2
    obtain ⟨R2, ht2, hp2, hq2, hv2⟩ := pla_step (e1 := .inl (0, 5, .inl F1)) R2 (by omega) ht2 hp2 hx0 hq1 hold hv1 (pTo (C.2.1 14) n 7 1 9 (.inr (L1, W2))).1
    generalize X2.set (t + 1) (.inl (0, 5, .inl (upd F1 0 (pTo (C.2.1 14) n 7 1 9 (.inr (L1, W2))).1))) = Y2 at *
    generalize upd F1 0 (pTo (C.2.1 14) n 7 1 9 (.inr (L1, W2))).1 = F2 at *
    generalize upd W2 (96 + 5 * q + 0) (pTo (C.2.1 14) n 7 1 9 (.inr (L1, W2))).1 = V2 at *
    refine wp_aload_1 dX11_player_48 rfl ?_
    refine wp_getfN dX11_player_49 rfl q1155 fk15_0 ((cH_dyn hdt).trans ht2) rfl ?_
    refine wp_iconst 1 dX11_player_52 rfl rfl ?_
    refine wp_aload_0 dX11_player_53 rfl ?_
    refine wp_ldcS (w := 6) dX11_player_54 rfl (List.mem_of_getElem? (i := 7) rfl) ?_
    refine wp_iconst 0 dX11_player_56 rfl rfl ?_
    refine wp_bipush 20 dX11_player_57 rfl rfl ?_
    refine wp_cvT dX11_player_59 rfl q917 mv_X11_number R2.at rfl rfl (r_to hn hT R2 (w := 6) (by decide)) rfl rfl (Nat.le_of_ble_eq_true rfl) (Nat.le_of_ble_eq_true rfl) (Nat.le_of_ble_eq_true rfl) (Nat.le_of_ble_eq_true rfl) (fun v' h1 hq hnt => ?_) (fun v' h1 hq hnt => WX.out0 (hq.to hnt rfl (fun f e => by rw [if_neg h24, hgo, hq6, pla_eq, t2, ts_f e]; rfl)))
    obtain ⟨⟨L3, W3⟩, e3, rfl, X3, A3, rfl, R3, p3, rfl⟩ := hq.ok hnt
    have hw3 := to_W e3
    subst hw3
    have ht3 := p3 t _ ht2 (R2.nb ht2 (by simp [lxo, ro]))
    have hp3 := p3 (t + 1) _ hp2 (R2.nb hp2 (by simp [lxo, ro]))
    refine wp_iastoren 1 dX11_player_62 rfl ((cH_dyn hdp).trans hp3) rfl (by decide) (by decide) (cH_dset hdp) ?_
    have t3 : pTs (C.2.1 14) n 6 0 20 (96 + 5 * q + 1) (.inr (L2, W3)) = .inr (L3, upd W3 (96 + 5 * q + 1) (pTo (C.2.1 14) n 6 0 20 (.inr (L2, W3))).1) := ts_go e3
    obtain ⟨R3, ht3, hp3, hq3, hv3⟩ := pla_step (e1 := .inl (0, 5, .inl F2)) R3 (by omega) ht3 hp3 hx0 hq2 hold hv2 (pTo (C.2.1 14) n 6 0 20 (.inr (L2, W3))).1
    generalize X3.set (t + 1) (.inl (0, 5, .inl (upd F2 1 (pTo (C.2.1 14) n 6 0 20 (.inr (L2, W3))).1))) = Y3 at *
    generalize upd F2 1 (pTo (C.2.1 14) n 6 0 20 (.inr (L2, W3))).1 = F3 at *
    generalize upd W3 (96 + 5 * q + 1) (pTo (C.2.1 14) n 6 0 20 (.inr (L2, W3))).1 = V3 at *
    refine wp_aload_1 dX11_player_63 rfl ?_
    refine wp_getfN dX11_player_64 rfl q1155 fk15_0 ((cH_dyn hdt).trans ht3) rfl ?_
    refine wp_iconst 2 dX11_player_67 rfl rfl ?_
    refine wp_aload_0 dX11_player_68 rfl ?_
    refine wp_ldcS (w := 15) dX11_player_69 rfl (List.mem_of_getElem? (i := 8) rfl) ?_
    refine wp_iconst 0 dX11_player_71 rfl rfl ?_
    refine wp_bipush 99 dX11_player_72 rfl rfl ?_
    refine wp_cvT dX11_player_74 rfl q917 mv_X11_number R3.at rfl rfl (r_to hn hT R3 (w := 15) (by decide)) rfl rfl (Nat.le_of_ble_eq_true rfl) (Nat.le_of_ble_eq_true rfl) (Nat.le_of_ble_eq_true rfl) (Nat.le_of_ble_eq_true rfl) (fun v' h1 hq hnt => ?_) (fun v' h1 hq hnt => WX.out0 (hq.to hnt rfl (fun f e => by rw [if_neg h24, hgo, hq6, pla_eq, t2, t3, ts_f e]; rfl)))
    obtain ⟨⟨L4, W4⟩, e4, rfl, X4, A4, rfl, R4, p4, rfl⟩ := hq.ok hnt
    have hw4 := to_W e4
    subst hw4
    have ht4 := p4 t _ ht3 (R3.nb ht3 (by simp [lxo, ro]))
    have hp4 := p4 (t + 1) _ hp3 (R3.nb hp3 (by simp [lxo, ro]))
    refine wp_iastoren 2 dX11_player_77 rfl ((cH_dyn hdp).trans hp4) rfl (by decide) (by decide) (cH_dset hdp) ?_
    have t4 : pTs (C.2.1 14) n 15 0 99 (96 + 5 * q + 2) (.inr (L3, W4)) = .inr (L4, upd W4 (96 + 5 * q + 2) (pTo (C.2.1 14) n 15 0 99 (.inr (L3, W4))).1) := ts_go e4
    obtain ⟨R4, ht4, hp4, hq4, hv4⟩ := pla_step (e1 := .inl (0, 5, .inl F3)) R4 (by omega) ht4 hp4 hx0 hq3 hold hv3 (pTo (C.2.1 14) n 15 0 99 (.inr (L3, W4))).1
    generalize X4.set (t + 1) (.inl (0, 5, .inl (upd F3 2 (pTo (C.2.1 14) n 15 0 99 (.inr (L3, W4))).1))) = Y4 at *
    generalize upd F3 2 (pTo (C.2.1 14) n 15 0 99 (.inr (L3, W4))).1 = F4 at *
    generalize upd W4 (96 + 5 * q + 2) (pTo (C.2.1 14) n 15 0 99 (.inr (L3, W4))).1 = V4 at *
    refine wp_aload_1 dX11_player_78 rfl ?_
    refine wp_getfN dX11_player_79 rfl q1155 fk15_0 ((cH_dyn hdt).trans ht4) rfl ?_
    refine wp_iconst 3 dX11_player_82 rfl rfl ?_
    refine wp_aload_0 dX11_player_83 rfl ?_
    refine wp_ldcS (w := 5) dX11_player_84 rfl (List.mem_of_getElem? (i := 9) rfl) ?_
    refine wp_iconst 0 dX11_player_86 rfl rfl ?_
    refine wp_bipush 9 dX11_player_87 rfl rfl ?_
    refine wp_cvT dX11_player_89 rfl q917 mv_X11_number R4.at rfl rfl (r_to hn hT R4 (w := 5) (by decide)) rfl rfl (Nat.le_of_ble_eq_true rfl) (Nat.le_of_ble_eq_true rfl) (Nat.le_of_ble_eq_true rfl) (Nat.le_of_ble_eq_true rfl) (fun v' h1 hq hnt => ?_) (fun v' h1 hq hnt => WX.out0 (hq.to hnt rfl (fun f e => by rw [if_neg h24, hgo, hq6, pla_eq, t2, t3, t4, ts_f e]; rfl)))
    obtain ⟨⟨L5, W5⟩, e5, rfl, X5, A5, rfl, R5, p5, rfl⟩ := hq.ok hnt
    have hw5 := to_W e5
    subst hw5
    have ht5 := p5 t _ ht4 (R4.nb ht4 (by simp [lxo, ro]))
    have hp5 := p5 (t + 1) _ hp4 (R4.nb hp4 (by simp [lxo, ro]))
    refine wp_iastoren 3 dX11_player_92 rfl ((cH_dyn hdp).trans hp5) rfl (by decide) (by decide) (cH_dset hdp) ?_
    have t5 : pTs (C.2.1 14) n 5 0 9 (96 + 5 * q + 3) (.inr (L4, W5)) = .inr (L5, upd W5 (96 + 5 * q + 3) (pTo (C.2.1 14) n 5 0 9 (.inr (L4, W5))).1) := ts_go e5
    obtain ⟨R5, ht5, hp5, hq5, hv5⟩ := pla_step (e1 := .inl (0, 5, .inl F4)) R5 (by omega) ht5 hp5 hx0 hq4 hold hv4 (pTo (C.2.1 14) n 5 0 9 (.inr (L4, W5))).1
    generalize X5.set (t + 1) (.inl (0, 5, .inl (upd F4 3 (pTo (C.2.1 14) n 5 0 9 (.inr (L4, W5))).1))) = Y5 at *
    generalize upd F4 3 (pTo (C.2.1 14) n 5 0 9 (.inr (L4, W5))).1 = F5 at *
    generalize upd W5 (96 + 5 * q + 3) (pTo (C.2.1 14) n 5 0 9 (.inr (L4, W5))).1 = V5 at *
    refine wp_aload_0 dX11_player_93 rfl ?_
    refine wp_ldcS (w := 17) dX11_player_94 rfl (List.mem_of_getElem? (i := 10) rfl) ?_
    refine wp_cvT dX11_player_96 rfl q825 mv_X11_asks R5.at rfl rfl (r_asks hn hT R5 (w := 17) (by decide)) rfl rfl (Nat.le_of_ble_eq_true rfl) (Nat.le_of_ble_eq_true rfl) (Nat.le_of_ble_eq_true rfl) (Nat.le_of_ble_eq_true rfl) (fun v' h1 hq hnt => ?_) (fun v' h1 hq hnt => WX.out0 (hq.to hnt rfl (fun f e => by rw [if_neg h24, hgo, hq6, pla_eq, t2, t3, t4, t5, pla_f1 e]; rfl)))
    obtain ⟨⟨L6, W6⟩, e6, rfl, X6, A6, rfl, R6, p6, rfl⟩ := hq.ok hnt
    have hw6 := ne_W e6
    subst hw6
    have ht6 := p6 t _ ht5 (R5.nb ht5 (by simp [lxo, ro]))
    have hp6 := p6 (t + 1) _ hp5 (R5.nb hp5 (by simp [lxo, ro]))
    refine wp_aload_1 dX11_player_99 rfl ?_
    refine wp_getfN dX11_player_100 rfl q1155 fk15_0 ((cH_dyn hdt).trans ht6) rfl ?_
    refine wp_iconst 4 dX11_player_103 rfl rfl ?_
    refine wp_aload_0 dX11_player_104 rfl ?_
    refine wp_cvT dX11_player_105 rfl q1019 mv_X11_hole R6.at rfl rfl (r_hole hn hT R6) rfl rfl (Nat.le_of_ble_eq_true rfl) (Nat.le_of_ble_eq_true rfl) (Nat.le_of_ble_eq_true rfl) (Nat.le_of_ble_eq_true rfl) (fun v' h1 hq hnt => ?_) (fun v' h1 hq hnt => WX.out0 (hq.to hnt rfl (fun f e => by rw [if_neg h24, hgo, hq6, pla_eq, t2, t3, t4, t5, pla_f2 e6 e]; rfl)))
    obtain ⟨⟨L7, W7⟩, e7, rfl, X7, A7, rfl, R7, p7, rfl⟩ := hq.ok hnt
    have hw7 := nu_W e7
    subst hw7
    have ht7 := p7 t _ ht6 (R6.nb ht6 (by simp [lxo, ro]))
    have hp7 := p7 (t + 1) _ hp6 (R6.nb hp6 (by simp [lxo, ro]))
    refine wp_iastoren 4 dX11_player_108 rfl ((cH_dyn hdp).trans hp7) rfl (by decide) (by decide) (cH_dset hdp) ?_
    have t7 := pla_n (k := 96 + 5 * q + 4) e6 e7
    obtain ⟨R7, ht7, hp7, hq7, hv7⟩ := pla_step (e1 := .inl (0, 5, .inl F5)) R7 (by omega) ht7 hp7 hx0 hq5 hold hv5 (pNu (C.2.1 14) n 0 (hoW W7 - 1) (.inr (L6, W7))).1
    generalize X7.set (t + 1) (.inl (0, 5, .inl (upd F5 4 (pNu (C.2.1 14) n 0 (hoW W7 - 1) (.inr (L6, W7))).1))) = Y7 at *
    generalize upd F5 4 (pNu (C.2.1 14) n 0 (hoW W7 - 1) (.inr (L6, W7))).1 = F7 at *
    generalize upd W7 (96 + 5 * q + 4) (pNu (C.2.1 14) n 0 (hoW W7 - 1) (.inr (L6, W7))).1 = V7 at *
    refine wp_aload_0 dX11_player_109 rfl ?_
    refine wp_getf dX11_player_110 rfl q796 fk11_2 R7.at rfl ?_
    refine wp_getfN dX11_player_113 rfl q443 fk2_1 R7.ob rfl ?_
    refine wp_aload_1 dX11_player_116 rfl ?_
    refine wp_FxR dX11_player_117 rfl q1074 mf_J2_add (R7.bd.op.at R7.bd.dy) rfl rfl (j_add15 (m := q) (hq7 ▸ R7.bd.plas) (by omega) ((cH_dyn hdt).trans ht7)) rfl rfl (Nat.le_of_ble_eq_true rfl) (Nat.le_of_ble_eq_true rfl) (Nat.zero_le _) (Nat.zero_le _) ?_
    rw [cH_dset (R7.bd.dy.dyn R7.bd.orr.2.1 R7.bd.orr.2.2), cH_dset (R7.bd.dy.dyn R7.bd.op.2.1 R7.bd.op.2.2)]
    refine wp_pop dX11_player_122 rfl rfl ?_
    exact wp_return dX11_player_123 rfl (by have q9 := R7.addp (W' := upd V7 6 (V7 6 + 1)) ht7 hp7 hx0 (by omega) (fun k hk => hold k (by omega)) (by omega) (fun j h1 h2 => by rw [upd, if_neg h2]) (by rw [upd, if_pos rfl]) (fun j h1 => by rw [upd, if_neg (by omega)]) (fun i hi => by rw [upd, if_neg (by omega), hq7]; exact hv7 i hi); rw [hq7] at q9; exact RDQ.mk (by rw [if_neg h24, hgo, hq6, pla_eq, t2, t3, t4, t5, t7]; rfl) q9 trivial)
