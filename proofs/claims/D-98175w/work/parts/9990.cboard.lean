/-! ===== the class: board ===== -/
set_option maxRecDepth 100000
theorem r_init {g : GW} {C : SC} {S : SM} {X : AH} {r n : Nat} (hX : 108 ≤ X.length) (hd : dyn r) (hn : n ≤ 1200) (hT : TB (C.2.1 14)) (hr : X[r]? = some rdr0)  : SPx g 6 7 60 yX11_init cX11_init 3 none [.ref r, .ref 14, .int (nI n)] (cH C S X) none (cH C S ((X ++ bNew X.length).set r (lxo X.length n (lx (C.2.1 14) n 0)))) := by
  refine SPx.intro [some (.ref r), some (.ref 14), some (.int (nI n))] (pfn (by decide)) rfl (Nat.le_of_ble_eq_true rfl) ?_
  have hlt := (List.getElem?_eq_some_iff.mp hr).1
  have hX2 : 108 ≤ (X ++ bNew X.length).length := by rw [List.length_append]; omega
  have hl2 : r < (X ++ bNew X.length).length := by rw [List.length_append]; omega
  refine wp_aload_0 dX11_init_0 rfl ?_
  refine wp_oinit dX11_init_1 rfl q778 q_oi q_oc (Nat.le_of_ble_eq_true rfl) (Nat.le_of_ble_eq_true rfl) ?_
  refine wp_aload_0 dX11_init_4 rfl ?_
  refine wp_new1 dX11_init_5 rfl q779 nw2 (Nat.le_of_ble_eq_true rfl) (Nat.le_of_ble_eq_true rfl) ?_
  refine wp_dup dX11_init_8 rfl rfl ?_
  refine wp_INx0 dX11_init_9 rfl q780 mi_X2_init (c_bInit (pre := cH C S X) rfl) rfl rfl (Nat.le_of_ble_eq_true rfl) (Nat.le_of_ble_eq_true rfl) (Nat.le_of_ble_eq_true rfl) (Nat.le_of_ble_eq_true rfl) ?_
  rw [cH_app hX, cH_len]
  refine wp_putfF dX11_init_12 rfl q796 fp11_2 rfl rfl ((cH_dyn hd).trans (XE.app X _ _ _ hr)) rfl rfl (Nat.le_of_ble_eq_true rfl) (cH_dset hd) ?_
  refine wp_aload_0 dX11_init_15 rfl ?_
  refine wp_aload_1 dX11_init_16 rfl ?_
  refine wp_putfF dX11_init_17 rfl q794 fp11_0 rfl rfl (rg hl2 hd) rfl rfl (Nat.le_of_ble_eq_true rfl) (rs hd) ?_
  refine wp_aload_0 dX11_init_20 rfl ?_
  refine wp_iload_2 dX11_init_21 rfl ?_
  refine wp_putfF dX11_init_22 rfl q795 fp11_1 rfl rfl (rg hl2 hd) rfl rfl (Nat.le_of_ble_eq_true rfl) (rs hd) ?_
  change WP g 6 _ _ _ _ _ _ _ (cH C S ((X ++ bNew X.length).set r (ro X.length n 0 0 0 0))) _ _ _
  refine wp_aload_0 dX11_init_25 rfl ?_
  refine wp_cv0 dX11_init_26 rfl q781 mv_X11_next (rg hl2 hd) rfl rfl (r_next hX2 hl2 hd hn hT (Nat.zero_le n)) rfl rfl (Nat.le_of_ble_eq_true rfl) (Nat.le_of_ble_eq_true rfl) ?_
  exact wp_return dX11_init_29 rfl ⟨rfl, rfl⟩
theorem r_reads {g : GW} {C : SC} {S : SM} {X0 X : AH} {r b n : Nat} {A : BA} (hn : n ≤ 1200) (hT : TB (C.2.1 14)) (R : RDS X0 r b n X (lx (C.2.1 14) n 0, fun _ => 0) A) (ht : A.tk = 1 ∧ A.ec = 100) : SP g 12 6020 54180 yX11_reads cX11_reads 1 (some (.object "MoleBoard$Board")) [.ref r] (cH C S X) (RDQ C S X0 r b n TrX (some (.ref b)) (pRead (C.2.1 14) n)) := by
  refine SP.intro [some (.ref r)] (pfn (by decide)) rfl (Nat.le_of_ble_eq_true rfl) ?_
  exact rL_reads (c := 0) (n9 := 0) hn hT 301 (n + 1) X _ _ A R (WFb.zero fun _ => rfl) (WFl.zero (fun _ => rfl) _) (fun _ => ht) (by omega) (by omega) (fun v h1 z => z)
theorem q_c_board {g : GW} {C : SC} {S : SM} {X : AH} {lo hi b : Nat} {A : BA} {W : Nat → Int32} (hE : EV C X lo hi b A W) {n : Nat} (h0 : C.1 0 = nI n) (hn : n ≤ 1200) (hT : TB (C.2.1 14)) : SPW g 14 6040 54400 yX0_board cX0_board 4 (some .int) [.ref 0] (cH C S X) (QBo C S X (pRead (C.2.1 14) n)) := by
  refine SPW.intro [some (.ref 0), none, none, none] (by decide +kernel) rfl (Nat.le_of_ble_eq_true rfl) ?_
  refine wp_new1 dX0_board_0 rfl q773 nw11 (Nat.le_of_ble_eq_true rfl) (Nat.le_of_ble_eq_true rfl) ?_
  rw [cH_app hE.X, cH_len]
  change WP g 14 _ _ _ _ _ _ _ (cH C S (X ++ [rdr0])) _ _ _
  have hl1 : (X ++ [rdr0]).length = X.length + 1 := by rw [List.length_append]; rfl
  have hE1 : EV C (X ++ [rdr0]) lo hi b A W := hE.ap
  have hr1 : (X ++ [rdr0])[X.length]? = some rdr0 := g_last
  refine wp_dup dX0_board_3 rfl rfl ?_
  refine wp_aload_0 dX0_board_4 rfl ?_
  refine wp_getf dX0_board_5 rfl q723 fk0_3 hE1.o0 rfl ?_
  refine wp_aload_0 dX0_board_8 rfl ?_
  refine wp_getf dX0_board_9 rfl q724 fk0_4 hE1.o0 rfl ?_
  rw [h0]
  refine wp_Ix0 dX0_board_12 rfl q775 mi_X11_init (r_init hE1.X (Or.inr hE.X) hn hT hr1) rfl rfl (Nat.le_of_ble_eq_true rfl) (Nat.le_of_ble_eq_true rfl) (Nat.le_of_ble_eq_true rfl) (Nat.le_of_ble_eq_true rfl) ?_
  rw [hl1]
  have R := RDS.new (n := n) (T := C.2.1 14) hE.X
  generalize ((X ++ [rdr0]) ++ bNew (X.length + 1)).set X.length (lxo (X.length + 1) n (lx (C.2.1 14) n 0)) = X2 at *
  refine wp_cvT dX0_board_15 rfl q816 mv_X11_reads R.at rfl rfl (r_reads hn hT R (A0_te _)) rfl rfl (Nat.le_of_ble_eq_true rfl) (Nat.le_of_ble_eq_true rfl) (Nat.le_of_ble_eq_true rfl) (Nat.le_of_ble_eq_true rfl) (fun v' h1 hq hnt => ?_) (fun v' h1 hq hnt => by
    obtain ⟨f, e3, X3, a, rfl, rfl, hx3, ha3, hf3⟩ := hq.no hnt rfl
    have hE3 := hE.xe hx3
    have hda : dyn a := Or.inr (Nat.le_trans hE.X ha3)
    refine WX.catch _ _ rfl (by decide) (by decide) q772 ((cH_dyn hda).trans hf3) rfl q887 ?_
    refine wp_astore_1 dX0_board_66 rfl (by decide) rfl ?_
    refine wp_aload_0 dX0_board_67 rfl ?_
    refine wp_aload_1 dX0_board_68 rfl ?_
    refine wp_getfN dX0_board_69 rfl q907 fk12_6 ((cH_dyn hda).trans hf3) rfl ?_
    refine wp_putf dX0_board_72 rfl q725 fp0_5 hE3.o0 rfl rfl (Nat.le_of_ble_eq_true rfl) hE3.s5 ?_
    refine wp_aload_0 dX0_board_75 rfl ?_
    refine wp_aload_1 dX0_board_76 rfl ?_
    refine wp_getfN dX0_board_77 rfl q909 fk12_7 ((cH_dyn hda).trans hf3) rfl ?_
    refine wp_putf dX0_board_80 rfl q726 fp0_6 hE3.o0 rfl rfl (Nat.le_of_ble_eq_true rfl) hE3.s6 ?_
    refine wp_bipush (-4) dX0_board_83 rfl rfl ?_
    refine wp_istore_2 dX0_board_85 rfl (by decide) rfl ?_
    refine wp_aload_0 dX0_board_86 rfl ?_
    refine wp_iconst 0 dX0_board_87 rfl rfl ?_
    refine wp_putf dX0_board_88 rfl q724 fp0_4 hE3.o0 rfl rfl (Nat.le_of_ble_eq_true rfl) hE3.s4 ?_
    refine wp_iload_2 dX0_board_91 rfl ?_
    exact wp_ireturn dX0_board_92 rfl (by rw [e3]; exact ⟨rfl, X3, rfl, hx3⟩))
  obtain ⟨⟨L3, W3⟩, e3, rfl, X3, A3, rfl, R3, -⟩ := hq.ok hnt
  have hw3 : WFa W3 := pRead_ok hn e3
  have hE3 := hE.xe R3.xe
  refine wp_astore_1 dX0_board_18 rfl (by decide) rfl ?_
  refine wp_aload_0 dX0_board_19 rfl ?_
  refine wp_aload_1 dX0_board_20 rfl ?_
  refine wp_cvR dX0_board_21 rfl q1167 mv_X2_is R3.ob rfl rfl (b_is R3.bd) rfl rfl (Nat.le_of_ble_eq_true rfl) (Nat.le_of_ble_eq_true rfl) ?_
  refine wp_ifeq_b 31 dX0_board_24 rfl rfl (fun c24 => ?_) (fun c24 => ?_)
  · have c24 : decide (0 < W3 9) = false := c24
    have hz : W3 9 = 0 := by
      have q := hw3.2
      obtain ⟨m, q1, q2, -⟩ := q
      rcases Nat.eq_zero_or_pos m with z | z
      · rw [q1, z]; rfl
      · exact absurd (nI_lt (a := 0) z (by omega)) (by rw [q1] at c24; exact of_decide_eq_false c24)
    refine wp_new1 dX0_board_31 rfl q400 nw2 (Nat.le_of_ble_eq_true rfl) (Nat.le_of_ble_eq_true rfl) ?_
    refine wp_dup dX0_board_34 rfl rfl ?_
    refine wp_INx0 dX0_board_35 rfl q402 mi_X2_init (c_bInit (pre := cH C S X3) rfl) rfl rfl (Nat.le_of_ble_eq_true rfl) (Nat.le_of_ble_eq_true rfl) (Nat.le_of_ble_eq_true rfl) (Nat.le_of_ble_eq_true rfl) ?_
    rw [cH_app hE3.X, cH_len]
    have hzz : ∀ k, W3 k = 0 := by
      obtain ⟨m, q1, q2, q3, -⟩ := hw3.2
      rw [hz] at q1
      exact q3 (nI_ij (a := m) (b := 0) (by omega) (by omega) q1.symm)
    have hb5 : BD (X3 ++ bNew X3.length) X.length (X3 ++ bNew X3.length).length X3.length (A0 X3.length) W3 := by
      rw [List.length_append]
      exact (BD.new hE3.X hzz).low R3.xe.len hE.X
    have hx5 : XE X (X3 ++ bNew X3.length) := R3.xe.apr _
    have hb6 : BD (X3 ++ bNew X3.length) X.length (X3 ++ bNew X3.length).length X3.length (A0 X3.length) W3 := hb5
    have hx6 : XE X (X3 ++ bNew X3.length) := hx5
    have hE6 := hE.xe hx6
    refine wp_putf dX0_board_38 rfl q721 fp0_1 hE6.o0 rfl rfl (Nat.le_of_ble_eq_true rfl) hE6.s1 ?_
    have hE7 : EV (cR 0 (some X3.length) C) (X3 ++ bNew X3.length) X.length (X3 ++ bNew X3.length).length X3.length (A0 X3.length) W3 := ⟨hE6.X, rfl, hb6, hw3⟩
    refine wp_aload_0 dX0_board_41 rfl ?_
    refine wp_iconst 0 dX0_board_42 rfl rfl ?_
    refine wp_putf dX0_board_43 rfl q725 fp0_5 hE7.o0 rfl rfl (Nat.le_of_ble_eq_true rfl) hE7.s5 ?_
    refine wp_aload_0 dX0_board_46 rfl ?_
    refine wp_iconst (-1) dX0_board_47 rfl rfl ?_
    refine wp_putf dX0_board_48 rfl q726 fp0_6 hE7.o0 rfl rfl (Nat.le_of_ble_eq_true rfl) hE7.s6 ?_
    refine wp_aload_0 dX0_board_51 rfl ?_
    refine wp_getf dX0_board_52 rfl q721 fk0_1 hE7.o0 rfl ?_
    refine wp_getfN dX0_board_55 rfl q474 fk2_12 hE7.ob rfl ?_
    refine wp_istore_2 dX0_board_58 rfl (by decide) rfl ?_
    refine wp_aload_0 dX0_board_59 rfl ?_
    refine wp_iconst 0 dX0_board_60 rfl rfl ?_
    refine wp_putf dX0_board_61 rfl q724 fp0_4 hE7.o0 rfl rfl (Nat.le_of_ble_eq_true rfl) hE7.s4 ?_
    refine wp_iload_2 dX0_board_64 rfl ?_
    exact wp_ireturn dX0_board_65 rfl (by rw [e3]; exact ⟨rfl, (X3 ++ bNew X3.length), X3.length, (A0 X3.length), rfl, hx6, hb6⟩)
  · have hnow : ∃ b4 A4, XE X X3 ∧ BD X3 X.length X3.length b4 A4 W3 ∧ b4 = X.length + 1 := ⟨_, A3, R3.xe, R3.bd, rfl⟩
    refine wp_aload_1 dX0_board_27 rfl ?_
    refine wp_goto 38 dX0_board_28 rfl rfl ?_
    have hb6 : BD X3 X.length X3.length (X.length + 1) A3 W3 := R3.bd
    have hx6 : XE X X3 := R3.xe
    have hE6 := hE.xe hx6
    refine wp_putf dX0_board_38 rfl q721 fp0_1 hE6.o0 rfl rfl (Nat.le_of_ble_eq_true rfl) hE6.s1 ?_
    have hE7 : EV (cR 0 (some (X.length + 1)) C) X3 X.length X3.length (X.length + 1) A3 W3 := ⟨hE6.X, rfl, hb6, hw3⟩
    refine wp_aload_0 dX0_board_41 rfl ?_
    refine wp_iconst 0 dX0_board_42 rfl rfl ?_
    refine wp_putf dX0_board_43 rfl q725 fp0_5 hE7.o0 rfl rfl (Nat.le_of_ble_eq_true rfl) hE7.s5 ?_
    refine wp_aload_0 dX0_board_46 rfl ?_
    refine wp_iconst (-1) dX0_board_47 rfl rfl ?_
    refine wp_putf dX0_board_48 rfl q726 fp0_6 hE7.o0 rfl rfl (Nat.le_of_ble_eq_true rfl) hE7.s6 ?_
    refine wp_aload_0 dX0_board_51 rfl ?_
    refine wp_getf dX0_board_52 rfl q721 fk0_1 hE7.o0 rfl ?_
    refine wp_getfN dX0_board_55 rfl q474 fk2_12 hE7.ob rfl ?_
    refine wp_istore_2 dX0_board_58 rfl (by decide) rfl ?_
    refine wp_aload_0 dX0_board_59 rfl ?_
    refine wp_iconst 0 dX0_board_60 rfl rfl ?_
    refine wp_putf dX0_board_61 rfl q724 fp0_4 hE7.o0 rfl rfl (Nat.le_of_ble_eq_true rfl) hE7.s4 ?_
    refine wp_iload_2 dX0_board_64 rfl ?_
    exact wp_ireturn dX0_board_65 rfl (by rw [e3]; exact ⟨rfl, X3, (X.length + 1), A3, rfl, hx6, hb6⟩)
