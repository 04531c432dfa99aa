/-! ===== the class: the reader: what is asked for ===== -/
set_option maxRecDepth 100000
theorem r_asks {g : GW} {C : SC} {S : SM} {X0 X : AH} {r b n : Nat} {A : BA} {L : LX} {W : Nat → Int32} (hn : n ≤ 1200) (hT : TB (C.2.1 14)) (R : RDS X0 r b n X (L, W) A) {w : Nat} (hw : w < stT.length) : SP g 7 1 8 yX11_asks cX11_asks 2 none [.ref r, .ref (1000000000 + (100 + w))] (cH C S X) (RDQ C S X0 r b n (XQ r X A) (none) (pNe (C.2.1 14) n w (.inr (L, W)))) := by
  refine SP.intro [some (.ref r), some (.ref (1000000000 + (100 + w)))] (pfn (by decide)) rfl (Nat.le_of_ble_eq_true rfl) ?_
  refine wp_aload_0 dX11_asks_0 rfl ?_
  refine wp_aload_1 dX11_asks_1 rfl ?_
  refine wp_cvR dX11_asks_2 rfl q829 mv_X11_is R.at rfl rfl (s_is hn hT R hw) rfl rfl (Nat.le_of_ble_eq_true rfl) (Nat.le_of_ble_eq_true rfl) ?_
  refine wp_ifne_b 14 dX11_asks_5 rfl rfl (fun c5 => ?_) (fun c5 => ?_)
  · refine wp_aload_0 dX11_asks_14 rfl ?_
    refine wp_cv0 dX11_asks_15 rfl q781 mv_X11_next R.at rfl rfl (s_next hn hT R) rfl rfl (Nat.le_of_ble_eq_true rfl) (Nat.le_of_ble_eq_true rfl) ?_
    exact wp_return dX11_asks_18 rfl (R.gone (if_pos c5))
  · refine wp_aload_0 dX11_asks_8 rfl ?_
    refine wp_iconst 1 dX11_asks_9 rfl rfl ?_
    refine wp_VxR dX11_asks_10 rfl q881 mv_X11_fault R.at rfl rfl (s_fault hn hT R) rfl rfl (Nat.le_of_ble_eq_true rfl) (Nat.le_of_ble_eq_true rfl) (Nat.le_of_ble_eq_true rfl) (Nat.le_of_ble_eq_true rfl) ?_
    refine wp_athrow dX11_asks_13 rfl (f_at R) rfl (WX.out0 (R.flt (if_neg (by rw [c5]; decide))))
theorem r_num {g : GW} {C : SC} {S : SM} {X0 X : AH} {r b n : Nat} {A : BA} {L : LX} {W : Nat → Int32} (hn : n ≤ 1200) (hT : TB (C.2.1 14)) (R : RDS X0 r b n X (L, W) A) {lo hi : Int32} : SP g 7 1 8 yX11_number_2 cX11_number_2 4 (some .int) [.ref r, .int lo, .int hi] (cH C S X) (RDQ C S X0 r b n (XQ r X A) (some (.int (pNu (C.2.1 14) n lo hi (.inr (L, W))).1)) ((pNu (C.2.1 14) n lo hi (.inr (L, W))).2)) := by
  refine SP.intro [some (.ref r), some (.int lo), some (.int hi), none] (pfn (by decide)) rfl (Nat.le_of_ble_eq_true rfl) ?_
  refine wp_aload_0 dX11_number_2_0 rfl ?_
  refine wp_getf dX11_number_2_1 rfl q799 fk11_5 R.at rfl ?_
  refine wp_iconst 2 dX11_number_2_4 rfl rfl ?_
  refine wp_icmp_eq 14 dX11_number_2_5 rfl rfl (fun c5 => ?_) (fun c5 => ?_)
  · have c5 : lTk L = 2 := nI_ij (b := 2) (by have := R.lk.2.2; dsimp only at this; omega) (by omega) c5
    refine wp_aload_0 dX11_number_2_14 rfl ?_
    refine wp_getf dX11_number_2_15 rfl q800 fk11_6 R.at rfl ?_
    refine wp_i2l dX11_number_2_18 rfl ?_
    refine wp_iload_1 dX11_number_2_19 rfl ?_
    refine wp_i2l dX11_number_2_20 rfl ?_
    refine wp_iload_2 dX11_number_2_21 rfl ?_
    refine wp_i2l dX11_number_2_22 rfl ?_
    refine wp_SNxR dX11_number_2_23 rfl q789 ms_X0_in c_in rfl rfl (Nat.le_of_ble_eq_true rfl) (Nat.le_of_ble_eq_true rfl) (Nat.zero_le _) (Nat.zero_le _) ?_
    rw [inL_i]
    refine wp_ifne_b 35 dX11_number_2_26 rfl rfl (fun c26 => ?_) (fun c26 => ?_)
    · refine wp_aload_0 dX11_number_2_35 rfl ?_
      refine wp_getf dX11_number_2_36 rfl q800 fk11_6 R.at rfl ?_
      refine wp_istore_3 dX11_number_2_39 rfl (by decide) rfl ?_
      refine wp_aload_0 dX11_number_2_40 rfl ?_
      refine wp_cv0 dX11_number_2_41 rfl q781 mv_X11_next R.at rfl rfl (s_next hn hT R) rfl rfl (Nat.le_of_ble_eq_true rfl) (Nat.le_of_ble_eq_true rfl) ?_
      refine wp_iload_3 dX11_number_2_44 rfl ?_
      exact wp_ireturn dX11_number_2_45 rfl (by rw [num_2 c5 c26]; exact R.gone rfl)
    · refine wp_aload_0 dX11_number_2_29 rfl ?_
      refine wp_iconst 2 dX11_number_2_30 rfl rfl ?_
      refine wp_VxR dX11_number_2_31 rfl q881 mv_X11_fault R.at rfl rfl (s_fault hn hT R) rfl rfl (Nat.le_of_ble_eq_true rfl) (Nat.le_of_ble_eq_true rfl) (Nat.le_of_ble_eq_true rfl) (Nat.le_of_ble_eq_true rfl) ?_
      refine wp_athrow dX11_number_2_34 rfl (f_at R) rfl (WX.out0 (R.flt (by rw [num_f2 c5 c26])))
  · have c5 : ¬ lTk L = 2 := fun q => c5 (by rw [q]; rfl)
    refine wp_aload_0 dX11_number_2_8 rfl ?_
    refine wp_iconst 1 dX11_number_2_9 rfl rfl ?_
    refine wp_VxR dX11_number_2_10 rfl q881 mv_X11_fault R.at rfl rfl (s_fault hn hT R) rfl rfl (Nat.le_of_ble_eq_true rfl) (Nat.le_of_ble_eq_true rfl) (Nat.le_of_ble_eq_true rfl) (Nat.le_of_ble_eq_true rfl) ?_
    refine wp_athrow dX11_number_2_13 rfl (f_at R) rfl (WX.out0 (R.flt (by rw [num_f1 c5])))
theorem r_to {g : GW} {C : SC} {S : SM} {X0 X : AH} {r b n : Nat} {A : BA} {L : LX} {W : Nat → Int32} (hn : n ≤ 1200) (hT : TB (C.2.1 14)) (R : RDS X0 r b n X (L, W) A) {w : Nat} (hw : w < stT.length) {lo hi : Int32} : SP g 8 2 16 yX11_number cX11_number 4 (some .int) [.ref r, .ref (1000000000 + (100 + w)), .int lo, .int hi] (cH C S X) (RDQ C S X0 r b n (XQ r X A) (some (.int (pTo (C.2.1 14) n w lo hi (.inr (L, W))).1)) ((pTo (C.2.1 14) n w lo hi (.inr (L, W))).2)) := by
  refine SP.intro [some (.ref r), some (.ref (1000000000 + (100 + w))), some (.int lo), some (.int hi)] (pfn (by decide)) rfl (Nat.le_of_ble_eq_true rfl) ?_
  refine wp_aload_0 dX11_number_0 rfl ?_
  refine wp_aload_1 dX11_number_1 rfl ?_
  refine wp_cvT dX11_number_2 rfl q825 mv_X11_asks R.at rfl rfl (r_asks hn hT R hw) rfl rfl (Nat.le_of_ble_eq_true rfl) (Nat.le_of_ble_eq_true rfl) (Nat.le_of_ble_eq_true rfl) (Nat.le_of_ble_eq_true rfl) (fun v' h1 hq hnt => ?_) (fun v' h1 hq hnt => WX.out0 (hq.to hnt rfl (fun f e => by rw [pTo, e]; rfl)))
  obtain ⟨⟨L1, W1⟩, e1, rfl, X1, A1, rfl, R1, p1, rfl⟩ := hq.ok hnt
  refine wp_aload_0 dX11_number_5 rfl ?_
  refine wp_iload_2 dX11_number_6 rfl ?_
  refine wp_iload_3 dX11_number_7 rfl ?_
  refine wp_cvT dX11_number_8 rfl q921 mv_X11_number_2 R1.at rfl rfl (r_num hn hT R1) rfl rfl (Nat.le_of_ble_eq_true rfl) (Nat.le_of_ble_eq_true rfl) (Nat.le_of_ble_eq_true rfl) (Nat.le_of_ble_eq_true rfl) (fun v' h1 hq hnt => ?_) (fun v' h1 hq hnt => WX.out0 (hq.to hnt rfl (fun f e => by rw [pTo, e1]; exact e)))
  obtain ⟨x2, e2, rfl, X2, A2, rfl, R2, p2, rfl⟩ := hq.ok hnt
  exact wp_ireturn dX11_number_11 rfl (by rw [pTo, e1]; exact RDQ.mk e2 R2 ⟨p1.tr p2, rfl⟩)
theorem r_room {g : GW} {C : SC} {S : SM} {X0 X : AH} {r b n : Nat} {A : BA} {L : LX} {W : Nat → Int32} (hn : n ≤ 1200) (hT : TB (C.2.1 14)) (R : RDS X0 r b n X (L, W) A) {q : Bool} : SP g 7 1 8 yX11_room cX11_room 2 none [.ref r, .int (b2i q)] (cH C S X) (RDQ C S X0 r b n (XQ r X A) (none) (pRoom (C.2.1 14) n q (.inr (L, W)))) := by
  refine SP.intro [some (.ref r), some (.int (b2i q))] (pfn (by decide)) rfl (Nat.le_of_ble_eq_true rfl) ?_
  refine wp_iload_1 dX11_room_0 rfl ?_
  refine wp_ifne_b 10 dX11_room_1 rfl rfl (fun c1 => ?_) (fun c1 => ?_)
  · refine wp_aload_0 dX11_room_10 rfl ?_
    refine wp_cv0 dX11_room_11 rfl q781 mv_X11_next R.at rfl rfl (s_next hn hT R) rfl rfl (Nat.le_of_ble_eq_true rfl) (Nat.le_of_ble_eq_true rfl) ?_
    exact wp_return dX11_room_14 rfl (R.gone (if_pos c1))
  · refine wp_aload_0 dX11_room_4 rfl ?_
    refine wp_iconst 3 dX11_room_5 rfl rfl ?_
    refine wp_VxR dX11_room_6 rfl q881 mv_X11_fault R.at rfl rfl (s_fault hn hT R) rfl rfl (Nat.le_of_ble_eq_true rfl) (Nat.le_of_ble_eq_true rfl) (Nat.le_of_ble_eq_true rfl) (Nat.le_of_ble_eq_true rfl) ?_
    refine wp_athrow dX11_room_9 rfl (f_at R) rfl (WX.out0 (R.flt (if_neg (by rw [c1]; decide))))
theorem r_isHole {g : GW} {C : SC} {S : SM} {X0 X : AH} {r b n : Nat} {A : BA} {L : LX} {W : Nat → Int32} (hn : n ≤ 1200) (hT : TB (C.2.1 14)) (R : RDS X0 r b n X (L, W) A)  : SPx g 2 0 0 yX11_isHole cX11_isHole 1 (some .boolean) [.ref r] (cH C S X) (some (.int (b2i (hoL L W)))) (cH C S X) := by
  refine SPx.intro [some (.ref r)] (pfn (by decide)) rfl (Nat.le_of_ble_eq_true rfl) ?_
  refine wp_aload_0 dX11_isHole_0 rfl ?_
  refine wp_getf dX11_isHole_1 rfl q799 fk11_5 R.at rfl ?_
  refine wp_iconst 2 dX11_isHole_4 rfl rfl ?_
  refine wp_icmp_ne 26 dX11_isHole_5 rfl rfl (fun c5 => ?_) (fun c5 => ?_)
  · have c5 : ¬ lTk L = 2 := fun q => c5 (by rw [q]; rfl)
    refine wp_iconst 0 dX11_isHole_26 rfl rfl ?_
    exact wp_zreturn dX11_isHole_27 rfl rfl ⟨bf (by rw [hoL, decide_eq_false c5]; rfl), rfl⟩
  · have c5 : lTk L = 2 := nI_ij (b := 2) (by have := R.lk.2.2; dsimp only at this; omega) (by omega) c5
    refine wp_aload_0 dX11_isHole_8 rfl ?_
    refine wp_getf dX11_isHole_9 rfl q800 fk11_6 R.at rfl ?_
    refine wp_aload_0 dX11_isHole_12 rfl ?_
    refine wp_getf dX11_isHole_13 rfl q796 fk11_2 R.at rfl ?_
    refine wp_cvR dX11_isHole_16 rfl q951 mv_X2_holes R.ob rfl rfl (b_holes R.bd) rfl rfl (Nat.le_of_ble_eq_true rfl) (Nat.le_of_ble_eq_true rfl) ?_
    refine wp_icmp_ge 26 dX11_isHole_19 rfl rfl (fun c19 => ?_) (fun c19 => ?_)
    · refine wp_iconst 0 dX11_isHole_26 rfl rfl ?_
      exact wp_zreturn dX11_isHole_27 rfl rfl ⟨bf (by rw [hoL, decide_eq_false (Int32.not_lt.mpr c19), Bool.and_false]), rfl⟩
    · refine wp_iconst 1 dX11_isHole_22 rfl rfl ?_
      refine wp_goto 27 dX11_isHole_23 rfl rfl ?_
      exact wp_zreturn dX11_isHole_27 rfl rfl ⟨bt (by rw [hoL, decide_eq_true c5, decide_eq_true (Int32.not_le.mp c19)]; rfl), rfl⟩
theorem r_hole {g : GW} {C : SC} {S : SM} {X0 X : AH} {r b n : Nat} {A : BA} {L : LX} {W : Nat → Int32} (hn : n ≤ 1200) (hT : TB (C.2.1 14)) (R : RDS X0 r b n X (L, W) A)  : SP g 8 1 8 yX11_hole cX11_hole 1 (some .int) [.ref r] (cH C S X) (RDQ C S X0 r b n (XQ r X A) (some (.int (pNu (C.2.1 14) n 0 (hoW W - 1) (.inr (L, W))).1)) ((pNu (C.2.1 14) n 0 (hoW W - 1) (.inr (L, W))).2)) := by
  refine SP.intro [some (.ref r)] (pfn (by decide)) rfl (Nat.le_of_ble_eq_true rfl) ?_
  refine wp_aload_0 dX11_hole_0 rfl ?_
  refine wp_iconst 0 dX11_hole_1 rfl rfl ?_
  refine wp_aload_0 dX11_hole_2 rfl ?_
  refine wp_getf dX11_hole_3 rfl q796 fk11_2 R.at rfl ?_
  refine wp_cvR dX11_hole_6 rfl q951 mv_X2_holes R.ob rfl rfl (b_holes R.bd) rfl rfl (Nat.le_of_ble_eq_true rfl) (Nat.le_of_ble_eq_true rfl) ?_
  refine wp_iconst 1 dX11_hole_9 rfl rfl ?_
  refine wp_isub dX11_hole_10 rfl ?_
  refine wp_cvT dX11_hole_11 rfl q921 mv_X11_number_2 R.at rfl rfl (r_num hn hT R) rfl rfl (Nat.le_of_ble_eq_true rfl) (Nat.le_of_ble_eq_true rfl) (Nat.le_of_ble_eq_true rfl) (Nat.le_of_ble_eq_true rfl) (fun v' h1 hq hnt => ?_) (fun v' h1 hq hnt => WX.out0 (hq.to hnt rfl (fun f e => e)))
  obtain ⟨x2, e2, rfl, X2, A2, rfl, R2, p2, rfl⟩ := hq.ok hnt
  exact wp_ireturn dX11_hole_14 rfl (RDQ.mk e2 R2 ⟨p2, rfl⟩)
theorem r_open {g : GW} {C : SC} {S : SM} {X0 X : AH} {r b n : Nat} {A : BA} {L : LX} {W : Nat → Int32} (hn : n ≤ 1200) (hT : TB (C.2.1 14)) (R : RDS X0 r b n X (L, W) A) {but : Int32} : SP g 9 1 8 yX11_open cX11_open 2 (some .int) [.ref r, .int but] (cH C S X) (RDQ C S X0 r b n (XQ r X A) (some (.int (pHo (C.2.1 14) n (badO but) (.inr (L, W))).1)) ((pHo (C.2.1 14) n (badO but) (.inr (L, W))).2)) := by
  refine SP.intro [some (.ref r), some (.int but)] (pfn (by decide)) rfl (Nat.le_of_ble_eq_true rfl) ?_
  refine wp_aload_0 dX11_open_0 rfl ?_
  refine wp_cvR dX11_open_1 rfl q947 mv_X11_isHole R.at rfl rfl (r_isHole hn hT R) rfl rfl (Nat.le_of_ble_eq_true rfl) (Nat.le_of_ble_eq_true rfl) ?_
  refine wp_ifeq_b 38 dX11_open_4 rfl rfl (fun c4 => ?_) (fun c4 => ?_)
  · have hb : badO but L W = false ∨ hoL L W = false := Or.inr c4
    have hg : pHoF (badO but) (.inr (L, W)) = .inr (L, W) := hoF_n c4
    refine wp_aload_0 dX11_open_38 rfl ?_
    refine wp_cvT dX11_open_39 rfl q1019 mv_X11_hole R.at rfl rfl (r_hole hn hT R) rfl rfl (Nat.le_of_ble_eq_true rfl) (Nat.le_of_ble_eq_true rfl) (Nat.le_of_ble_eq_true rfl) (Nat.le_of_ble_eq_true rfl) (fun v' h1 hq hnt => ?_) (fun v' h1 hq hnt => WX.out0 (hq.to hnt rfl (fun f e => by rw [pHo_n hg]; exact e)))
    obtain ⟨x2, e2, rfl, X2, A2, rfl, R2, p2, rfl⟩ := hq.ok hnt
    exact wp_ireturn dX11_open_42 rfl (by rw [pHo_n hg]; exact RDQ.mk e2 R2 ⟨p2, rfl⟩)
  · refine wp_aload_0 dX11_open_7 rfl ?_
    refine wp_getf dX11_open_8 rfl q796 fk11_2 R.at rfl ?_
    refine wp_getfN dX11_open_11 rfl q465 fk2_9 R.ob rfl ?_
    refine wp_aload_0 dX11_open_14 rfl ?_
    refine wp_getf dX11_open_15 rfl q800 fk11_6 R.at rfl ?_
    refine wp_SNxR dX11_open_18 rfl q955 ms_X0_isOn c_isOn rfl rfl (Nat.le_of_ble_eq_true rfl) (Nat.le_of_ble_eq_true rfl) (Nat.zero_le _) (Nat.zero_le _) ?_
    refine wp_ifne_b 32 dX11_open_21 rfl rfl (fun c21 => ?_) (fun c21 => ?_)
    · have hb : badO but L W = true := by rw [badO]; exact (by rw [show decide _ = true from c21]; rfl)
      refine wp_aload_0 dX11_open_32 rfl ?_
      refine wp_iconst 2 dX11_open_33 rfl rfl ?_
      refine wp_VxR dX11_open_34 rfl q881 mv_X11_fault R.at rfl rfl (s_fault hn hT R) rfl rfl (Nat.le_of_ble_eq_true rfl) (Nat.le_of_ble_eq_true rfl) (Nat.le_of_ble_eq_true rfl) (Nat.le_of_ble_eq_true rfl) ?_
      refine wp_athrow dX11_open_37 rfl (f_at R) rfl (WX.out0 (R.flt (by rw [pHo_b (hoF_b c4 hb)])))
    · have c21 : decide ((W 7 >>> (lVa L &&& 31)) &&& 1 = 1) = false := c21
      refine wp_aload_0 dX11_open_24 rfl ?_
      refine wp_getf dX11_open_25 rfl q800 fk11_6 R.at rfl ?_
      refine wp_iload_1 dX11_open_28 rfl ?_
      refine wp_icmp_ne 38 dX11_open_29 rfl rfl (fun c29 => ?_) (fun c29 => ?_)
      · have hb : badO but L W = false := by rw [badO, c21, decide_eq_false c29]; rfl
        have hg : pHoF (badO but) (.inr (L, W)) = .inr (L, W) := hoF_g hb
        refine wp_aload_0 dX11_open_38 rfl ?_
        refine wp_cvT dX11_open_39 rfl q1019 mv_X11_hole R.at rfl rfl (r_hole hn hT R) rfl rfl (Nat.le_of_ble_eq_true rfl) (Nat.le_of_ble_eq_true rfl) (Nat.le_of_ble_eq_true rfl) (Nat.le_of_ble_eq_true rfl) (fun v' h1 hq hnt => ?_) (fun v' h1 hq hnt => WX.out0 (hq.to hnt rfl (fun f e => by rw [pHo_n hg]; exact e)))
        obtain ⟨x2, e2, rfl, X2, A2, rfl, R2, p2, rfl⟩ := hq.ok hnt
        exact wp_ireturn dX11_open_42 rfl (by rw [pHo_n hg]; exact RDQ.mk e2 R2 ⟨p2, rfl⟩)
      · have hb : badO but L W = true := by rw [badO, decide_eq_true c29, Bool.or_true]
        refine wp_aload_0 dX11_open_32 rfl ?_
        refine wp_iconst 2 dX11_open_33 rfl rfl ?_
        refine wp_VxR dX11_open_34 rfl q881 mv_X11_fault R.at rfl rfl (s_fault hn hT R) rfl rfl (Nat.le_of_ble_eq_true rfl) (Nat.le_of_ble_eq_true rfl) (Nat.le_of_ble_eq_true rfl) (Nat.le_of_ble_eq_true rfl) ?_
        refine wp_athrow dX11_open_37 rfl (f_at R) rfl (WX.out0 (R.flt (by rw [pHo_b (hoF_b c4 hb)])))
