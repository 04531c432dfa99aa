/-! ===== the class: the reader: the first line, a shut hole ===== -/
set_option maxRecDepth 100000
theorem r_first {g : GW} {C : SC} {S : SM} {X0 X : AH} {r b n : Nat} {A : BA} {L : LX} {W : Nat → Int32} (hn : n ≤ 1200) (hT : TB (C.2.1 14)) (R : RDS X0 r b n X (L, W) A) (ha : A.tk = 1 ∧ A.ec = 100) : SP g 10 12 96 yX11_first cX11_first 1 none [.ref r] (cH C S X) (RDQ C S X0 r b n TrX none (pFi (C.2.1 14) n (.inr (L, W)))) := by
  refine SP.intro [some (.ref r)] (pfn (by decide)) rfl (Nat.le_of_ble_eq_true rfl) ?_
  refine wp_aload_0 dX11_first_0 rfl ?_
  refine wp_ldcS (w := 0) dX11_first_1 rfl (List.mem_of_getElem? (i := 0) rfl) ?_
  refine wp_cvT dX11_first_3 rfl q825 mv_X11_asks R.at rfl rfl (r_asks hn hT R (by decide)) rfl rfl (Nat.le_of_ble_eq_true rfl) (Nat.le_of_ble_eq_true rfl) (Nat.le_of_ble_eq_true rfl) (Nat.le_of_ble_eq_true rfl) (fun v' h1 hq hnt => ?_) (fun v' h1 hq hnt => WX.out0 (hq.to hnt rfl (fun f e => by rw [pFi_te, e]; rfl)))
  obtain ⟨⟨L1, W1⟩, e1, rfl, X1, A1, rfl, R1, p1, rfl⟩ := hq.ok hnt
  obtain rfl := ne_W e1
  have R1 : RDS X0 r b n X1 (L1, (upd (upd W1 10 1) 11 100)) A1 := R1.same (fun j h1 h2 => by rw [upd, if_neg h2, upd, if_neg h1]) (fun _ => ⟨ha.1, ha.2⟩)
  have t1 : pTE (pNe (C.2.1 14) n 0 (.inr (L, W1))) = .inr (L1, (upd (upd W1 10 1) 11 100)) := by rw [e1]; rfl
  generalize hV1 : (upd (upd W1 10 1) 11 100 : Nat → Int32) = V1 at *
  have ht1 : V1 10 = 1 ∧ V1 11 = 100 := by subst hV1; exact ⟨rfl, rfl⟩
  refine wp_aload_0 dX11_first_6 rfl ?_
  refine wp_getf dX11_first_7 rfl q796 fk11_2 R1.at rfl ?_
  refine wp_aload_0 dX11_first_10 rfl ?_
  refine wp_ldcS (w := 18) dX11_first_11 rfl (List.mem_of_getElem? (i := 1) rfl) ?_
  refine wp_iconst 1 dX11_first_13 rfl rfl ?_
  refine wp_iconst 4 dX11_first_14 rfl rfl ?_
  refine wp_cvT dX11_first_15 rfl q917 mv_X11_number R1.at rfl rfl (r_to hn hT R1 (w := 18) (by decide)) rfl rfl (Nat.le_of_ble_eq_true rfl) (Nat.le_of_ble_eq_true rfl) (Nat.le_of_ble_eq_true rfl) (Nat.le_of_ble_eq_true rfl) (fun v' h1 hq hnt => ?_) (fun v' h1 hq hnt => WX.out0 (hq.to hnt rfl (fun f e => by rw [pFi_te, t1, ts_f e]; rfl)))
  obtain ⟨⟨L2, W2⟩, e2, rfl, X2, A2, rfl, R2, p2, rfl⟩ := hq.ok hnt
  obtain rfl := to_W e2
  have t2 := ts_go (k := 0) e2
  refine wp_putfN dX11_first_18 rfl q449 fp2_4 R2.ob rfl rfl (Nat.le_of_ble_eq_true rfl) (cH_dset R2.db) ?_
  change WP g _ _ _ _ _ _ _ _ (cH C S (X2.set b (.inr (2, bfl A2 (upd W2 0 (pTo (C.2.1 14) n 18 1 4 (.inr (L1, W2))).1))))) _ _ _
  have R2 := R2.put (W' := upd W2 0 (pTo (C.2.1 14) n 18 1 4 (.inr (L1, W2))).1) (fun z hz => by rw [upd, if_neg (by omega)]) (fun _ => ⟨ha.1.trans ht1.1.symm, ha.2.trans ht1.2.symm⟩)
  have ht2 : (upd W2 0 (pTo (C.2.1 14) n 18 1 4 (.inr (L1, W2))).1) 10 = 1 ∧ (upd W2 0 (pTo (C.2.1 14) n 18 1 4 (.inr (L1, W2))).1) 11 = 100 := ht1
  generalize (upd W2 0 (pTo (C.2.1 14) n 18 1 4 (.inr (L1, W2))).1 : Nat → Int32) = V2 at *
  generalize X2.set b (.inr (2, bfl A2 V2)) = Y2 at *
  refine wp_aload_0 dX11_first_21 rfl ?_
  refine wp_getf dX11_first_22 rfl q796 fk11_2 R2.at rfl ?_
  refine wp_aload_0 dX11_first_25 rfl ?_
  refine wp_ldcS (w := 4) dX11_first_26 rfl (List.mem_of_getElem? (i := 2) rfl) ?_
  refine wp_iconst 1 dX11_first_28 rfl rfl ?_
  refine wp_iconst 3 dX11_first_29 rfl rfl ?_
  refine wp_cvT dX11_first_30 rfl q917 mv_X11_number R2.at rfl rfl (r_to hn hT R2 (w := 4) (by decide)) rfl rfl (Nat.le_of_ble_eq_true rfl) (Nat.le_of_ble_eq_true rfl) (Nat.le_of_ble_eq_true rfl) (Nat.le_of_ble_eq_true rfl) (fun v' h1 hq hnt => ?_) (fun v' h1 hq hnt => WX.out0 (hq.to hnt rfl (fun f e => by rw [pFi_te, t1, t2, ts_f e]; rfl)))
  obtain ⟨⟨L3, W3⟩, e3, rfl, X3, A3, rfl, R3, p3, rfl⟩ := hq.ok hnt
  obtain rfl := to_W e3
  have t3 := ts_go (k := 1) e3
  refine wp_putfN dX11_first_33 rfl q452 fp2_5 R3.ob rfl rfl (Nat.le_of_ble_eq_true rfl) (cH_dset R3.db) ?_
  change WP g _ _ _ _ _ _ _ _ (cH C S (X3.set b (.inr (2, bfl A3 (upd W3 1 (pTo (C.2.1 14) n 4 1 3 (.inr (L2, W3))).1))))) _ _ _
  have R3 := R3.put (W' := upd W3 1 (pTo (C.2.1 14) n 4 1 3 (.inr (L2, W3))).1) (fun z hz => by rw [upd, if_neg (by omega)]) (fun _ => ⟨ha.1.trans ht2.1.symm, ha.2.trans ht2.2.symm⟩)
  have ht3 : (upd W3 1 (pTo (C.2.1 14) n 4 1 3 (.inr (L2, W3))).1) 10 = 1 ∧ (upd W3 1 (pTo (C.2.1 14) n 4 1 3 (.inr (L2, W3))).1) 11 = 100 := ht2
  generalize (upd W3 1 (pTo (C.2.1 14) n 4 1 3 (.inr (L2, W3))).1 : Nat → Int32) = V3 at *
  generalize X3.set b (.inr (2, bfl A3 V3)) = Y3 at *
  refine wp_aload_0 dX11_first_36 rfl ?_
  refine wp_getf dX11_first_37 rfl q796 fk11_2 R3.at rfl ?_
  refine wp_aload_0 dX11_first_40 rfl ?_
  refine wp_ldcS (w := 14) dX11_first_41 rfl (List.mem_of_getElem? (i := 3) rfl) ?_
  refine wp_iconst 1 dX11_first_43 rfl rfl ?_
  refine wp_sipush 200 dX11_first_44 rfl rfl ?_
  refine wp_cvT dX11_first_47 rfl q917 mv_X11_number R3.at rfl rfl (r_to hn hT R3 (w := 14) (by decide)) rfl rfl (Nat.le_of_ble_eq_true rfl) (Nat.le_of_ble_eq_true rfl) (Nat.le_of_ble_eq_true rfl) (Nat.le_of_ble_eq_true rfl) (fun v' h1 hq hnt => ?_) (fun v' h1 hq hnt => WX.out0 (hq.to hnt rfl (fun f e => by rw [pFi_te, t1, t2, t3, ts_f e]; rfl)))
  obtain ⟨⟨L4, W4⟩, e4, rfl, X4, A4, rfl, R4, p4, rfl⟩ := hq.ok hnt
  obtain rfl := to_W e4
  have t4 := ts_go (k := 2) e4
  refine wp_putfN dX11_first_50 rfl q456 fp2_6 R4.ob rfl rfl (Nat.le_of_ble_eq_true rfl) (cH_dset R4.db) ?_
  change WP g _ _ _ _ _ _ _ _ (cH C S (X4.set b (.inr (2, bfl A4 (upd W4 2 (pTo (C.2.1 14) n 14 1 200 (.inr (L3, W4))).1))))) _ _ _
  have R4 := R4.put (W' := upd W4 2 (pTo (C.2.1 14) n 14 1 200 (.inr (L3, W4))).1) (fun z hz => by rw [upd, if_neg (by omega)]) (fun _ => ⟨ha.1.trans ht3.1.symm, ha.2.trans ht3.2.symm⟩)
  have ht4 : (upd W4 2 (pTo (C.2.1 14) n 14 1 200 (.inr (L3, W4))).1) 10 = 1 ∧ (upd W4 2 (pTo (C.2.1 14) n 14 1 200 (.inr (L3, W4))).1) 11 = 100 := ht3
  generalize (upd W4 2 (pTo (C.2.1 14) n 14 1 200 (.inr (L3, W4))).1 : Nat → Int32) = V4 at *
  generalize X4.set b (.inr (2, bfl A4 V4)) = Y4 at *
  refine wp_aload_0 dX11_first_53 rfl ?_
  refine wp_getf dX11_first_54 rfl q796 fk11_2 R4.at rfl ?_
  refine wp_aload_0 dX11_first_57 rfl ?_
  refine wp_ldcS (w := 8) dX11_first_58 rfl (List.mem_of_getElem? (i := 4) rfl) ?_
  refine wp_iconst 0 dX11_first_60 rfl rfl ?_
  refine wp_bipush 9 dX11_first_61 rfl rfl ?_
  refine wp_cvT dX11_first_63 rfl q917 mv_X11_number R4.at rfl rfl (r_to hn hT R4 (w := 8) (by decide)) rfl rfl (Nat.le_of_ble_eq_true rfl) (Nat.le_of_ble_eq_true rfl) (Nat.le_of_ble_eq_true rfl) (Nat.le_of_ble_eq_true rfl) (fun v' h1 hq hnt => ?_) (fun v' h1 hq hnt => WX.out0 (hq.to hnt rfl (fun f e => by rw [pFi_te, t1, t2, t3, t4, ts_f e])))
  obtain ⟨⟨L5, W5⟩, e5, rfl, X5, A5, rfl, R5, p5, rfl⟩ := hq.ok hnt
  obtain rfl := to_W e5
  have t5 := ts_go (k := 3) e5
  refine wp_putfN dX11_first_66 rfl q460 fp2_7 R5.ob rfl rfl (Nat.le_of_ble_eq_true rfl) (cH_dset R5.db) ?_
  change WP g _ _ _ _ _ _ _ _ (cH C S (X5.set b (.inr (2, bfl A5 (upd W5 3 (pTo (C.2.1 14) n 8 0 9 (.inr (L4, W5))).1))))) _ _ _
  have R5 := R5.put (W' := upd W5 3 (pTo (C.2.1 14) n 8 0 9 (.inr (L4, W5))).1) (fun z hz => by rw [upd, if_neg (by omega)]) (fun _ => ⟨ha.1.trans ht4.1.symm, ha.2.trans ht4.2.symm⟩)
  have ht5 : (upd W5 3 (pTo (C.2.1 14) n 8 0 9 (.inr (L4, W5))).1) 10 = 1 ∧ (upd W5 3 (pTo (C.2.1 14) n 8 0 9 (.inr (L4, W5))).1) 11 = 100 := ht4
  generalize (upd W5 3 (pTo (C.2.1 14) n 8 0 9 (.inr (L4, W5))).1 : Nat → Int32) = V5 at *
  generalize X5.set b (.inr (2, bfl A5 V5)) = Y5 at *
  exact wp_return dX11_first_69 rfl (RDQ.mk (by rw [pFi_te, t1, t2, t3, t4, t5]) R5 trivial)
theorem r_shut {g : GW} {C : SC} {S : SM} {X0 X : AH} {r b n : Nat} {A : BA} {L : LX} {W : Nat → Int32} (hn : n ≤ 1200) (hT : TB (C.2.1 14)) (R : RDS X0 r b n X (L, W) A)  : SP g 10 12 96 yX11_shut cX11_shut 1 none [.ref r] (cH C S X) (RDQ C S X0 r b n TrX none (pShut (C.2.1 14) n (pGo (C.2.1 14) n L W))) := by
  refine SP.intro [some (.ref r)] (pfn (by decide)) rfl (Nat.le_of_ble_eq_true rfl) ?_
  rw [show pGo (C.2.1 14) n L W = .inr (lx (C.2.1 14) n (lAt L), W) from rfl]
  refine wp_aload_0 dX11_shut_0 rfl ?_
  refine wp_cv0 dX11_shut_1 rfl q781 mv_X11_next R.at rfl rfl (s_next hn hT R) rfl rfl (Nat.le_of_ble_eq_true rfl) (Nat.le_of_ble_eq_true rfl) ?_
  have R1 : RDS X0 r b n (X.set r (lxo b n (lx (C.2.1 14) n (lAt L)))) (lx (C.2.1 14) n (lAt L), W) A := R.go
  generalize X.set r (lxo b n (lx (C.2.1 14) n (lAt L))) = X1 at *
  generalize lx (C.2.1 14) n (lAt L) = L1 at *
  refine wp_aload_0 dX11_shut_4 rfl ?_
  refine wp_cvR dX11_shut_5 rfl q947 mv_X11_isHole R1.at rfl rfl (r_isHole hn hT R1) rfl rfl (Nat.le_of_ble_eq_true rfl) (Nat.le_of_ble_eq_true rfl) ?_
  refine wp_ifeq_b 48 dX11_shut_8 rfl rfl (fun c8 => ?_) (fun c8 => ?_)
  · have hg : pHoF badS (.inr (L1, W)) = .inr (L1, W) := hoF_n c8
    refine wp_aload_0 dX11_shut_48 rfl ?_
    refine wp_getf dX11_shut_49 rfl q796 fk11_2 R1.at rfl ?_
    refine wp_dup dX11_shut_52 rfl rfl ?_
    refine wp_getfN dX11_shut_53 rfl q465 fk2_9 R1.ob rfl ?_
    refine wp_iconst 1 dX11_shut_56 rfl rfl ?_
    refine wp_aload_0 dX11_shut_57 rfl ?_
    refine wp_cvT dX11_shut_58 rfl q1019 mv_X11_hole R1.at rfl rfl (r_hole hn hT R1) rfl rfl (Nat.le_of_ble_eq_true rfl) (Nat.le_of_ble_eq_true rfl) (Nat.le_of_ble_eq_true rfl) (Nat.le_of_ble_eq_true rfl) (fun v' h1 hq hnt => ?_) (fun v' h1 hq hnt => WX.out0 (hq.to hnt rfl (fun f e => by rw [pShut, pHo_n hg, e]; rfl)))
    obtain ⟨⟨L2, W2⟩, e2, rfl, X2, A2, rfl, R2, p2, rfl⟩ := hq.ok hnt
    have hw2 := nu_W e2
    subst hw2
    refine wp_ishl dX11_shut_61 rfl ?_
    refine wp_ior dX11_shut_62 rfl ?_
    refine wp_putfN dX11_shut_63 rfl q465 fp2_9 R2.ob rfl rfl (Nat.le_of_ble_eq_true rfl) (cH_dset R2.db) ?_
    exact wp_return dX11_shut_66 rfl (RDQ.mk (by rw [pShut, pHo_n hg, e2]; rfl) (R2.put (W' := upd W2 7 (W2 7 ||| ((1 : Int32) <<< ((pNu (C.2.1 14) n 0 (hoW W2 - 1) (.inr (L1, W2))).1 &&& 31)))) (fun z hz => by rw [upd, if_neg (by omega)]) (fun q => R2.bd.te q)) trivial)
  · refine wp_aload_0 dX11_shut_11 rfl ?_
    refine wp_getf dX11_shut_12 rfl q796 fk11_2 R1.at rfl ?_
    refine wp_getfN dX11_shut_15 rfl q465 fk2_9 R1.ob rfl ?_
    refine wp_aload_0 dX11_shut_18 rfl ?_
    refine wp_getf dX11_shut_19 rfl q800 fk11_6 R1.at rfl ?_
    refine wp_SNxR dX11_shut_22 rfl q955 ms_X0_isOn c_isOn rfl rfl (Nat.le_of_ble_eq_true rfl) (Nat.le_of_ble_eq_true rfl) (Nat.zero_le _) (Nat.zero_le _) ?_
    refine wp_ifne_b 42 dX11_shut_25 rfl rfl (fun c25 => ?_) (fun c25 => ?_)
    · have hb : badS L1 W = true := by rw [badS]; exact (by rw [show decide _ = true from c25]; rfl)
      refine wp_aload_0 dX11_shut_42 rfl ?_
      refine wp_iconst 2 dX11_shut_43 rfl rfl ?_
      refine wp_VxR dX11_shut_44 rfl q881 mv_X11_fault R1.at rfl rfl (s_fault hn hT R1) rfl rfl (Nat.le_of_ble_eq_true rfl) (Nat.le_of_ble_eq_true rfl) (Nat.le_of_ble_eq_true rfl) (Nat.le_of_ble_eq_true rfl) ?_
      refine wp_athrow dX11_shut_47 rfl (f_at R1) rfl (WX.out0 (R1.flt (by rw [pShut, pHo_b (hoF_b c8 hb)]; rfl)))
    · have c25 : decide ((W 7 >>> (lVa L1 &&& 31)) &&& 1 = 1) = false := c25
      refine wp_aload_0 dX11_shut_28 rfl ?_
      refine wp_getf dX11_shut_29 rfl q796 fk11_2 R1.at rfl ?_
      refine wp_aload_0 dX11_shut_32 rfl ?_
      refine wp_getf dX11_shut_33 rfl q800 fk11_6 R1.at rfl ?_
      refine wp_VeR dX11_shut_36 rfl q958 mv_X2_isComing R1.ob rfl rfl (b_isComing R1.X8 R1.bd) rfl rfl (Nat.le_of_ble_eq_true rfl) (Nat.le_of_ble_eq_true rfl) (Nat.le_of_ble_eq_true rfl) (Nat.le_of_ble_eq_true rfl) (fun h1 hq => ?_)
      obtain ⟨e0, rfl⟩ := hq
      have R1 := R1.app [e0]
      generalize X1 ++ [e0] = X9 at *
      refine wp_ifeq_b 48 dX11_shut_39 rfl rfl (fun c39 => ?_) (fun c39 => ?_)
      · have hb : badS L1 W = false := by rw [badS, c25, c39]; rfl
        have hg : pHoF badS (.inr (L1, W)) = .inr (L1, W) := hoF_g hb
        refine wp_aload_0 dX11_shut_48 rfl ?_
        refine wp_getf dX11_shut_49 rfl q796 fk11_2 R1.at rfl ?_
        refine wp_dup dX11_shut_52 rfl rfl ?_
        refine wp_getfN dX11_shut_53 rfl q465 fk2_9 R1.ob rfl ?_
        refine wp_iconst 1 dX11_shut_56 rfl rfl ?_
        refine wp_aload_0 dX11_shut_57 rfl ?_
        refine wp_cvT dX11_shut_58 rfl q1019 mv_X11_hole R1.at rfl rfl (r_hole hn hT R1) rfl rfl (Nat.le_of_ble_eq_true rfl) (Nat.le_of_ble_eq_true rfl) (Nat.le_of_ble_eq_true rfl) (Nat.le_of_ble_eq_true rfl) (fun v' h1 hq hnt => ?_) (fun v' h1 hq hnt => WX.out0 (hq.to hnt rfl (fun f e => by rw [pShut, pHo_n hg, e]; rfl)))
        obtain ⟨⟨L2, W2⟩, e2, rfl, X2, A2, rfl, R2, p2, rfl⟩ := hq.ok hnt
        have hw2 := nu_W e2
        subst hw2
        refine wp_ishl dX11_shut_61 rfl ?_
        refine wp_ior dX11_shut_62 rfl ?_
        refine wp_putfN dX11_shut_63 rfl q465 fp2_9 R2.ob rfl rfl (Nat.le_of_ble_eq_true rfl) (cH_dset R2.db) ?_
        exact wp_return dX11_shut_66 rfl (RDQ.mk (by rw [pShut, pHo_n hg, e2]; rfl) (R2.put (W' := upd W2 7 (W2 7 ||| ((1 : Int32) <<< ((pNu (C.2.1 14) n 0 (hoW W2 - 1) (.inr (L1, W2))).1 &&& 31)))) (fun z hz => by rw [upd, if_neg (by omega)]) (fun q => R2.bd.te q)) trivial)
      · have hb : badS L1 W = true := by rw [badS, c39, Bool.or_true]
        refine wp_aload_0 dX11_shut_42 rfl ?_
        refine wp_iconst 2 dX11_shut_43 rfl rfl ?_
        refine wp_VxR dX11_shut_44 rfl q881 mv_X11_fault R1.at rfl rfl (s_fault hn hT R1) rfl rfl (Nat.le_of_ble_eq_true rfl) (Nat.le_of_ble_eq_true rfl) (Nat.le_of_ble_eq_true rfl) (Nat.le_of_ble_eq_true rfl) ?_
        refine wp_athrow dX11_shut_47 rfl (f_at R1) rfl (WX.out0 (R1.flt (by rw [pShut, pHo_b (hoF_b c8 hb)]; rfl)))
