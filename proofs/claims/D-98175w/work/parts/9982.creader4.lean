/-! ===== the class: the reader: a stay ===== -/
set_option maxRecDepth 100000
theorem r_stay {g : GW} {C : SC} {S : SM} {X0 X : AH} {r b n : Nat} {A : BA} {L : LX} {W : Nat → Int32} (hn : n ≤ 1200) (hT : TB (C.2.1 14)) (R : RDS X0 r b n X (L, W) A) (hs : WFs W) : SP g 10 12 96 yX11_stay cX11_stay 5 none [.ref r] (cH C S X) (RDQ C S X0 r b n TrX none (pStay (C.2.1 14) n (pGo (C.2.1 14) n L W))) := by
  refine SP.intro [some (.ref r), none, none, none, none] (pfn (by decide)) rfl (Nat.le_of_ble_eq_true rfl) ?_
  rw [show pGo (C.2.1 14) n L W = .inr (lx (C.2.1 14) n (lAt L), W) from rfl]
  refine wp_aload_0 dX11_stay_0 rfl ?_
  refine wp_cv0 dX11_stay_1 rfl q781 mv_X11_next R.at rfl rfl (s_next hn hT R) rfl rfl (Nat.le_of_ble_eq_true rfl) (Nat.le_of_ble_eq_true rfl) ?_
  have R1 : RDS X0 r b n (X.set r (lxo b n (lx (C.2.1 14) n (lAt L)))) (lx (C.2.1 14) n (lAt L), W) A := R.go
  generalize X.set r (lxo b n (lx (C.2.1 14) n (lAt L))) = X1 at *
  generalize lx (C.2.1 14) n (lAt L) = L1 at *
  refine wp_aload_0 dX11_stay_4 rfl ?_
  refine wp_iconst 1 dX11_stay_5 rfl rfl ?_
  refine wp_bipush 40 dX11_stay_6 rfl rfl ?_
  refine wp_cvT dX11_stay_8 rfl q921 mv_X11_number_2 R1.at rfl rfl (r_num hn hT R1) rfl rfl (Nat.le_of_ble_eq_true rfl) (Nat.le_of_ble_eq_true rfl) (Nat.le_of_ble_eq_true rfl) (Nat.le_of_ble_eq_true rfl) (fun v' h1 hq hnt => ?_) (fun v' h1 hq hnt => WX.out0 (hq.to hnt rfl (fun f e => by rw [stay_eq, e]; rfl)))
  obtain ⟨⟨L2, W2⟩, e2, rfl, X2, A2, rfl, R2, p2, rfl⟩ := hq.ok hnt
  have hw2 := nu_W e2
  subst hw2
  refine wp_istore_1 dX11_stay_11 rfl (by decide) rfl ?_
  refine wp_aload_0 dX11_stay_12 rfl ?_
  refine wp_ldcS (w := 2) dX11_stay_13 rfl (List.mem_of_getElem? (i := 5) rfl) ?_
  refine wp_cvT dX11_stay_15 rfl q825 mv_X11_asks R2.at rfl rfl (r_asks hn hT R2 (w := 2) (by decide)) rfl rfl (Nat.le_of_ble_eq_true rfl) (Nat.le_of_ble_eq_true rfl) (Nat.le_of_ble_eq_true rfl) (Nat.le_of_ble_eq_true rfl) (fun v' h1 hq hnt => ?_) (fun v' h1 hq hnt => WX.out0 (hq.to hnt rfl (fun f e => by rw [stay_eq, e2, e]; rfl)))
  obtain ⟨⟨L3, W3⟩, e3, rfl, X3, A3, rfl, R3, p3, rfl⟩ := hq.ok hnt
  have hw3 := ne_W e3
  subst hw3
  refine wp_aload_0 dX11_stay_18 rfl ?_
  refine wp_getf dX11_stay_19 rfl q799 fk11_5 R3.at rfl ?_
  refine wp_iconst 2 dX11_stay_22 rfl rfl ?_
  refine wp_icmp_ne 52 dX11_stay_23 rfl rfl (fun c23 => ?_) (fun c23 => ?_)
  · have d23 : ¬ lTk L3 = 2 := fun q => c23 (by rw [q]; rfl)
    refine wp_iconst 0 dX11_stay_52 rfl rfl ?_
    refine wp_istore_2 dX11_stay_53 rfl (by decide) rfl ?_
    refine wp_iload_2 dX11_stay_54 rfl ?_
    refine wp_if_eq 72 dX11_stay_55 rfl rfl (fun c55 => ?_) (fun c55 => ?_)
    · refine wp_iconst (-1) dX11_stay_72 rfl rfl ?_
      refine wp_istore_3 dX11_stay_73 rfl (by decide) rfl ?_
      refine wp_iload_2 dX11_stay_74 rfl ?_
      refine wp_if_eq 101 dX11_stay_75 rfl rfl (fun c75 => ?_) (fun c75 => ?_)
      · have hg : pStF (.inr (L3, W3)) = .inr (L3, W3) := stF_g (fun q => d23 q.1)
        refine wp_aload_0 dX11_stay_101 rfl ?_
        refine wp_iconst 0 dX11_stay_102 rfl rfl ?_
        refine wp_aload_0 dX11_stay_103 rfl ?_
        refine wp_getf dX11_stay_104 rfl q796 fk11_2 R3.at rfl ?_
        refine wp_getfN dX11_stay_107 rfl q456 fk2_6 R3.ob rfl ?_
        refine wp_iconst 1 dX11_stay_110 rfl rfl ?_
        refine wp_isub dX11_stay_111 rfl ?_
        refine wp_cvT dX11_stay_112 rfl q921 mv_X11_number_2 R3.at rfl rfl (r_num hn hT R3) rfl rfl (Nat.le_of_ble_eq_true rfl) (Nat.le_of_ble_eq_true rfl) (Nat.le_of_ble_eq_true rfl) (Nat.le_of_ble_eq_true rfl) (fun v' h1 hq hnt => ?_) (fun v' h1 hq hnt => WX.out0 (hq.to hnt rfl (fun f e => by rw [stay_eq, e2, e3, hg]; show pStE _ _ (pNu (C.2.1 14) n 0 (W3 2 - 1) (.inr (L3, W3))).2 = _; rw [e]; rfl)))
        obtain ⟨⟨L4, W4⟩, e4, rfl, X4, A4, rfl, R4, p4, rfl⟩ := hq.ok hnt
        have hw4 := nu_W e4
        subst hw4
        obtain ⟨q1, q2, q4⟩ := nu_is e4
        exact absurd q1 d23
      · exact absurd (by decide) c75
    · exact absurd (by decide) c55
  · have d23 : lTk L3 = 2 := nI_ij (b := 2) (by have := R3.lk.2.2; dsimp only at this; omega) (by omega) c23
    refine wp_aload_0 dX11_stay_26 rfl ?_
    refine wp_getf dX11_stay_27 rfl q800 fk11_6 R3.at rfl ?_
    refine wp_i2l dX11_stay_30 rfl ?_
    refine wp_lconst 0 dX11_stay_31 rfl rfl ?_
    refine wp_aload_0 dX11_stay_32 rfl ?_
    refine wp_getf dX11_stay_33 rfl q796 fk11_2 R3.at rfl ?_
    refine wp_getfN dX11_stay_36 rfl q456 fk2_6 R3.ob rfl ?_
    refine wp_iconst 1 dX11_stay_39 rfl rfl ?_
    refine wp_isub dX11_stay_40 rfl ?_
    refine wp_i2l dX11_stay_41 rfl ?_
    refine wp_SNxR dX11_stay_42 rfl q789 ms_X0_in c_in rfl rfl (Nat.le_of_ble_eq_true rfl) (Nat.le_of_ble_eq_true rfl) (Nat.zero_le _) (Nat.zero_le _) ?_
    rw [inL_0]
    refine wp_ifeq_b 52 dX11_stay_45 rfl rfl (fun c45 => ?_) (fun c45 => ?_)
    · refine wp_iconst 0 dX11_stay_52 rfl rfl ?_
      refine wp_istore_2 dX11_stay_53 rfl (by decide) rfl ?_
      refine wp_iload_2 dX11_stay_54 rfl ?_
      refine wp_if_eq 72 dX11_stay_55 rfl rfl (fun c55 => ?_) (fun c55 => ?_)
      · refine wp_iconst (-1) dX11_stay_72 rfl rfl ?_
        refine wp_istore_3 dX11_stay_73 rfl (by decide) rfl ?_
        refine wp_iload_2 dX11_stay_74 rfl ?_
        refine wp_if_eq 101 dX11_stay_75 rfl rfl (fun c75 => ?_) (fun c75 => ?_)
        · have hg : pStF (.inr (L3, W3)) = .inr (L3, W3) := stF_g (fun q => by
            obtain ⟨j, hj, e⟩ := R3.va
            dsimp only at e
            rw [e] at c45 q
            exact in_ge hs hj c45 q.2.1)
          refine wp_aload_0 dX11_stay_101 rfl ?_
          refine wp_iconst 0 dX11_stay_102 rfl rfl ?_
          refine wp_aload_0 dX11_stay_103 rfl ?_
          refine wp_getf dX11_stay_104 rfl q796 fk11_2 R3.at rfl ?_
          refine wp_getfN dX11_stay_107 rfl q456 fk2_6 R3.ob rfl ?_
          refine wp_iconst 1 dX11_stay_110 rfl rfl ?_
          refine wp_isub dX11_stay_111 rfl ?_
          refine wp_cvT dX11_stay_112 rfl q921 mv_X11_number_2 R3.at rfl rfl (r_num hn hT R3) rfl rfl (Nat.le_of_ble_eq_true rfl) (Nat.le_of_ble_eq_true rfl) (Nat.le_of_ble_eq_true rfl) (Nat.le_of_ble_eq_true rfl) (fun v' h1 hq hnt => ?_) (fun v' h1 hq hnt => WX.out0 (hq.to hnt rfl (fun f e => by rw [stay_eq, e2, e3, hg]; show pStE _ _ (pNu (C.2.1 14) n 0 (W3 2 - 1) (.inr (L3, W3))).2 = _; rw [e]; rfl)))
          obtain ⟨⟨L4, W4⟩, e4, rfl, X4, A4, rfl, R4, p4, rfl⟩ := hq.ok hnt
          have hw4 := nu_W e4
          subst hw4
          obtain ⟨q1, q2, q4⟩ := nu_is e4
          rw [q2] at c45
          cases c45
        · exact absurd (by decide) c75
      · exact absurd (by decide) c55
    · refine wp_iconst 1 dX11_stay_48 rfl rfl ?_
      refine wp_goto 53 dX11_stay_49 rfl rfl ?_
      refine wp_istore_2 dX11_stay_53 rfl (by decide) rfl ?_
      refine wp_iload_2 dX11_stay_54 rfl ?_
      refine wp_if_eq 72 dX11_stay_55 rfl rfl (fun c55 => ?_) (fun c55 => ?_)
      · exact absurd c55 (by decide)
      · refine wp_aload_0 dX11_stay_58 rfl ?_
        refine wp_getf dX11_stay_59 rfl q796 fk11_2 R3.at rfl ?_
        refine wp_aload_0 dX11_stay_62 rfl ?_
        refine wp_getf dX11_stay_63 rfl q800 fk11_6 R3.at rfl ?_
        refine wp_cvR dX11_stay_66 rfl q938 mv_X2_stayOf R3.ob rfl rfl (b_stayOf R3.bd) rfl rfl (Nat.le_of_ble_eq_true rfl) (Nat.le_of_ble_eq_true rfl) ?_
        refine wp_goto 73 dX11_stay_69 rfl rfl ?_
        refine wp_istore_3 dX11_stay_73 rfl (by decide) rfl ?_
        refine wp_iload_2 dX11_stay_74 rfl ?_
        refine wp_if_eq 101 dX11_stay_75 rfl rfl (fun c75 => ?_) (fun c75 => ?_)
        · exact absurd c75 (by decide)
        · refine wp_iload_3 dX11_stay_78 rfl ?_
          refine wp_iconst (-1) dX11_stay_79 rfl rfl ?_
          refine wp_icmp_ne 101 dX11_stay_80 rfl rfl (fun c80 => ?_) (fun c80 => ?_)
          · obtain ⟨k, hk⟩ := onI_so c80
            rw [hk]
            have hg : pStF (.inr (L3, W3)) = .inr (L3, W3) := stF_g (fun q => by rw [q.2.2.2] at hk; cases hk)
            refine wp_aload_0 dX11_stay_101 rfl ?_
            refine wp_iconst 0 dX11_stay_102 rfl rfl ?_
            refine wp_aload_0 dX11_stay_103 rfl ?_
            refine wp_getf dX11_stay_104 rfl q796 fk11_2 R3.at rfl ?_
            refine wp_getfN dX11_stay_107 rfl q456 fk2_6 R3.ob rfl ?_
            refine wp_iconst 1 dX11_stay_110 rfl rfl ?_
            refine wp_isub dX11_stay_111 rfl ?_
            refine wp_cvT dX11_stay_112 rfl q921 mv_X11_number_2 R3.at rfl rfl (r_num hn hT R3) rfl rfl (Nat.le_of_ble_eq_true rfl) (Nat.le_of_ble_eq_true rfl) (Nat.le_of_ble_eq_true rfl) (Nat.le_of_ble_eq_true rfl) (fun v' h1 hq hnt => ?_) (fun v' h1 hq hnt => WX.out0 (hq.to hnt rfl (fun f e => by rw [stay_eq, e2, e3, hg]; show pStE _ _ (pNu (C.2.1 14) n 0 (W3 2 - 1) (.inr (L3, W3))).2 = _; rw [e]; rfl)))
            obtain ⟨⟨L4, W4⟩, e4, rfl, X4, A4, rfl, R4, p4, rfl⟩ := hq.ok hnt
            have hw4 := nu_W e4
            subst hw4
            obtain ⟨q1, q2, q4⟩ := nu_is e4
            refine wp_istore_4 dX11_stay_115 rfl (by decide) rfl ?_
            refine wp_iload_3 dX11_stay_117 rfl ?_
            refine wp_iconst (-1) dX11_stay_118 rfl rfl ?_
            refine wp_icmp_ne 143 dX11_stay_119 rfl rfl (fun c119 => ?_) (fun c119 => ?_)
            · refine wp_aload_0 dX11_stay_143 rfl ?_
              refine wp_getf dX11_stay_144 rfl q796 fk11_2 R4.at rfl ?_
              refine wp_getfN dX11_stay_147 rfl q445 fk2_2 R4.ob rfl ?_
              refine wp_iload_3 dX11_stay_150 rfl ?_
              refine wp_iload_4 dX11_stay_151 rfl ?_
              refine wp_iastoren k dX11_stay_153 rfl (R4.bd.of.at R4.bd.dy) rfl (by have := frS_lt hk; have := R4.bd.n4.2; dsimp only at *; omega) (by decide) (cH_dset (R4.bd.dy.dyn R4.bd.of.2.1 R4.bd.of.2.2)) ?_
              have hb6 := (cH_dyn (C := C) (S := S) (X := (X4.set A4.f (.inl (0, 6, .inl (upd A4.ff k (pNu (C.2.1 14) n 0 (W4 2 - 1) (.inr (L3, W4))).1))))) R4.db).trans ((List.getElem?_set_ne (fun z => by have h := R4.bd.of.1; rw [z, R4.bd.ob.1] at h; cases h)).trans ((cH_dyn (C := C) (S := S) (X := X4) R4.db).symm.trans R4.ob))
              have hr6 := (cH_dyn (C := C) (S := S) (X := (X4.set A4.f (.inl (0, 6, .inl (upd A4.ff k (pNu (C.2.1 14) n 0 (W4 2 - 1) (.inr (L3, W4))).1))))) R4.dr).trans ((List.getElem?_set_ne (R4.nb R4.bd.of.1 (by simp [lxo, ro]))).trans ((cH_dyn (C := C) (S := S) (X := X4) R4.dr).symm.trans R4.at))
              have hs6 : (cH C S (X4.set A4.f (.inl (0, 6, .inl (upd A4.ff k (pNu (C.2.1 14) n 0 (W4 2 - 1) (.inr (L3, W4))).1)))))[A4.s]? = some (.inl (0, 6, .inl A4.sf)) := (R4.bd.os.set R4.bd.fs).at R4.bd.dy
              refine wp_aload_0 dX11_stay_154 rfl ?_
              refine wp_getf dX11_stay_155 rfl q796 fk11_2 hr6 rfl ?_
              refine wp_getfN dX11_stay_158 rfl q447 fk2_3 hb6 rfl ?_
              refine wp_iload_3 dX11_stay_161 rfl ?_
              refine wp_iload_1 dX11_stay_162 rfl ?_
              refine wp_iastoren k dX11_stay_163 rfl hs6 rfl (by have := frS_lt hk; have := R4.bd.n4.2; dsimp only at *; omega) (by decide) (cH_dset (R4.bd.dy.dyn R4.bd.os.2.1 R4.bd.os.2.2)) ?_
              exact wp_return dX11_stay_164 rfl (RDQ.mk (by rw [stay_eq, e2, e3, hg]; show pStE _ _ (pNu (C.2.1 14) n 0 (W4 2 - 1) (.inr (L3, W4))).2 = _; rw [e4]; rfl) (R4.stay1 (by rw [q4]; exact hk)) trivial)
            · exact absurd c119 (by rw [hk] at c80; exact c80)
          · have hno := onI_n9 R3.bd.n4.2 c80
            refine wp_aload_0 dX11_stay_83 rfl ?_
            refine wp_getf dX11_stay_84 rfl q796 fk11_2 R3.at rfl ?_
            refine wp_getfN dX11_stay_87 rfl q463 fk2_8 R3.ob rfl ?_
            refine wp_bipush 6 dX11_stay_90 rfl rfl ?_
            refine wp_icmp_ne 101 dX11_stay_92 rfl rfl (fun c92 => ?_) (fun c92 => ?_)
            · have hg : pStF (.inr (L3, W3)) = .inr (L3, W3) := stF_g (fun q => c92 q.2.2.1)
              refine wp_aload_0 dX11_stay_101 rfl ?_
              refine wp_iconst 0 dX11_stay_102 rfl rfl ?_
              refine wp_aload_0 dX11_stay_103 rfl ?_
              refine wp_getf dX11_stay_104 rfl q796 fk11_2 R3.at rfl ?_
              refine wp_getfN dX11_stay_107 rfl q456 fk2_6 R3.ob rfl ?_
              refine wp_iconst 1 dX11_stay_110 rfl rfl ?_
              refine wp_isub dX11_stay_111 rfl ?_
              refine wp_cvT dX11_stay_112 rfl q921 mv_X11_number_2 R3.at rfl rfl (r_num hn hT R3) rfl rfl (Nat.le_of_ble_eq_true rfl) (Nat.le_of_ble_eq_true rfl) (Nat.le_of_ble_eq_true rfl) (Nat.le_of_ble_eq_true rfl) (fun v' h1 hq hnt => ?_) (fun v' h1 hq hnt => WX.out0 (hq.to hnt rfl (fun f e => by rw [stay_eq, e2, e3, hg]; show pStE _ _ (pNu (C.2.1 14) n 0 (W3 2 - 1) (.inr (L3, W3))).2 = _; rw [e]; rfl)))
              obtain ⟨⟨L4, W4⟩, e4, rfl, X4, A4, rfl, R4, p4, rfl⟩ := hq.ok hnt
              have hw4 := nu_W e4
              subst hw4
              obtain ⟨q1, q2, q4⟩ := nu_is e4
              refine wp_istore_4 dX11_stay_115 rfl (by decide) rfl ?_
              refine wp_iload_3 dX11_stay_117 rfl ?_
              refine wp_iconst (-1) dX11_stay_118 rfl rfl ?_
              refine wp_icmp_ne 143 dX11_stay_119 rfl rfl (fun c119 => ?_) (fun c119 => ?_)
              · exact absurd c80 c119
              · refine wp_aload_0 dX11_stay_122 rfl ?_
                refine wp_getf dX11_stay_123 rfl q796 fk11_2 R4.at rfl ?_
                refine wp_getfN dX11_stay_126 rfl q463 fk2_8 R4.ob rfl ?_
                refine wp_istore_3 dX11_stay_129 rfl (by decide) rfl ?_
                refine wp_aload_0 dX11_stay_130 rfl ?_
                refine wp_getf dX11_stay_131 rfl q796 fk11_2 R4.at rfl ?_
                refine wp_dup dX11_stay_134 rfl rfl ?_
                refine wp_getfN dX11_stay_135 rfl q463 fk2_8 R4.ob rfl ?_
                refine wp_iconst 1 dX11_stay_138 rfl rfl ?_
                refine wp_iadd dX11_stay_139 rfl ?_
                refine wp_putfN dX11_stay_140 rfl q463 fp2_8 R4.ob rfl rfl (Nat.le_of_ble_eq_true rfl) (cH_dset R4.db) ?_
                have h6 : nW W4 4 < 6 := by
                  have h1 := R4.bd.n4
                  dsimp only at h1
                  rcases Nat.lt_or_ge (nW W4 4) 6 with z | z
                  · exact z
                  · exact absurd (h1.1.trans (by rw [show nW W4 4 = 6 by omega]; rfl)) c92
                have hn4 : W4 4 = nI (nW W4 4) := R4.bd.n4.1
                have hb5 : (cH C S (X4.set b (.inr (2, (bfl A4 W4).set 8 (.int (W4 4 + 1))))))[b]? = some (.inr (2, (bfl A4 W4).set 8 (.int (W4 4 + 1)))) := (cH_dyn R4.db).trans (List.getElem?_set_self (List.getElem?_eq_some_iff.mp R4.bd.ob.1).1)
                have hr5 : (cH C S (X4.set b (.inr (2, (bfl A4 W4).set 8 (.int (W4 4 + 1))))))[r]? = some (lxo b n L4) := (cH_dyn R4.dr).trans ((List.getElem?_set_ne R4.br).trans R4.rr)
                have hf5 : (cH C S (X4.set b (.inr (2, (bfl A4 W4).set 8 (.int (W4 4 + 1))))))[A4.f]? = some (.inl (0, 6, .inl A4.ff)) := ((R4.bd.of.other R4.bd.ob.1 (by simp)).at R4.bd.dy)
                refine wp_aload_0 dX11_stay_143 rfl ?_
                refine wp_getf dX11_stay_144 rfl q796 fk11_2 hr5 rfl ?_
                refine wp_getfN dX11_stay_147 rfl q445 fk2_2 hb5 rfl ?_
                refine wp_iload_3 dX11_stay_150 rfl ?_
                refine wp_iload_4 dX11_stay_151 rfl ?_
                refine wp_iastoren (nW W4 4) dX11_stay_153 rfl hf5 hn4 h6 (by decide) (cH_dset (R4.bd.dy.dyn R4.bd.of.2.1 R4.bd.of.2.2)) ?_
                have hb6 := (cH_dyn (C := C) (S := S) (X := ((X4.set b (.inr (2, (bfl A4 W4).set 8 (.int (W4 4 + 1))))).set A4.f (.inl (0, 6, .inl (upd A4.ff (nW W4 4) (pNu (C.2.1 14) n 0 (W4 2 - 1) (.inr (L3, W4))).1))))) R4.db).trans ((List.getElem?_set_ne (fun z => by have h := R4.bd.of.1; rw [z, R4.bd.ob.1] at h; cases h)).trans ((cH_dyn (C := C) (S := S) (X := (X4.set b (.inr (2, (bfl A4 W4).set 8 (.int (W4 4 + 1)))))) R4.db).symm.trans hb5))
                have hr6 := (cH_dyn (C := C) (S := S) (X := ((X4.set b (.inr (2, (bfl A4 W4).set 8 (.int (W4 4 + 1))))).set A4.f (.inl (0, 6, .inl (upd A4.ff (nW W4 4) (pNu (C.2.1 14) n 0 (W4 2 - 1) (.inr (L3, W4))).1))))) R4.dr).trans ((List.getElem?_set_ne (R4.nb R4.bd.of.1 (by simp [lxo, ro]))).trans ((cH_dyn (C := C) (S := S) (X := (X4.set b (.inr (2, (bfl A4 W4).set 8 (.int (W4 4 + 1)))))) R4.dr).symm.trans hr5))
                have hs6 : (cH C S ((X4.set b (.inr (2, (bfl A4 W4).set 8 (.int (W4 4 + 1))))).set A4.f (.inl (0, 6, .inl (upd A4.ff (nW W4 4) (pNu (C.2.1 14) n 0 (W4 2 - 1) (.inr (L3, W4))).1)))))[A4.s]? = some (.inl (0, 6, .inl A4.sf)) := ((R4.bd.os.other R4.bd.ob.1 (by simp)).set R4.bd.fs).at R4.bd.dy
                refine wp_aload_0 dX11_stay_154 rfl ?_
                refine wp_getf dX11_stay_155 rfl q796 fk11_2 hr6 rfl ?_
                refine wp_getfN dX11_stay_158 rfl q447 fk2_3 hb6 rfl ?_
                refine wp_iload_3 dX11_stay_161 rfl ?_
                refine wp_iload_1 dX11_stay_162 rfl ?_
                refine wp_iastoren (nW W4 4) dX11_stay_163 rfl hs6 hn4 h6 (by decide) (cH_dset (R4.bd.dy.dyn R4.bd.os.2.1 R4.bd.os.2.2)) ?_
                exact wp_return dX11_stay_164 rfl (RDQ.mk (by rw [stay_eq, e2, e3, hg]; show pStE _ _ (pNu (C.2.1 14) n 0 (W4 2 - 1) (.inr (L3, W4))).2 = _; rw [e4]; rfl) (R4.stay2 (by rw [q4]; exact hno) h6) trivial)
            · refine wp_aload_0 dX11_stay_95 rfl ?_
              refine wp_iconst 3 dX11_stay_96 rfl rfl ?_
              refine wp_VxR dX11_stay_97 rfl q881 mv_X11_fault R3.at rfl rfl (s_fault hn hT R3) rfl rfl (Nat.le_of_ble_eq_true rfl) (Nat.le_of_ble_eq_true rfl) (Nat.le_of_ble_eq_true rfl) (Nat.le_of_ble_eq_true rfl) ?_
              refine wp_athrow dX11_stay_100 rfl (f_at R3) rfl (WX.out0 (R3.flt (by rw [stay_eq, e2, e3, stF_b d23 (in_lt hs c45) c92 hno]; rfl)))
