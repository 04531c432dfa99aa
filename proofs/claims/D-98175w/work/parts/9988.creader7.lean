/-! ===== the class: the reader: lines ===== -/
set_option maxRecDepth 100000
theorem r_line {g : GW} {C : SC} {S : SM} {X0 X : AH} {r b n : Nat} {A : BA} {L : LX} {W : Nat → Int32} (hn : n ≤ 1200) (hT : TB (C.2.1 14)) (R : RDS X0 r b n X (L, W) A) (hs : WFs W) : SP g 11 16 160 yX11_line cX11_line 3 none [.ref r] (cH C S X) (RDQ C S X0 r b n TrX none (pLin (C.2.1 14) n (.inr (L, W)))) := by
  refine SP.intro [some (.ref r), none, none] (pfn (by decide)) rfl (Nat.le_of_ble_eq_true rfl) ?_
  refine wp_aload_0 dX11_line_0 rfl ?_
  refine wp_ldcS (w := 12) dX11_line_1 rfl (List.mem_of_getElem? (i := 11) rfl) ?_
  refine wp_cvR dX11_line_3 rfl q829 mv_X11_is R.at rfl rfl (s_is hn hT R (w := 12) (by decide)) rfl rfl (Nat.le_of_ble_eq_true rfl) (Nat.le_of_ble_eq_true rfl) ?_
  refine wp_ifeq_b 16 dX11_line_6 rfl rfl (fun c6 => ?_) (fun c6 => ?_)
  · refine wp_aload_0 dX11_line_16 rfl ?_
    refine wp_ldcS (w := 11) dX11_line_17 rfl (List.mem_of_getElem? (i := 12) rfl) ?_
    refine wp_cvR dX11_line_19 rfl q829 mv_X11_is R.at rfl rfl (s_is hn hT R (w := 11) (by decide)) rfl rfl (Nat.le_of_ble_eq_true rfl) (Nat.le_of_ble_eq_true rfl) ?_
    refine wp_ifeq_b 32 dX11_line_22 rfl rfl (fun c22 => ?_) (fun c22 => ?_)
    · refine wp_aload_0 dX11_line_32 rfl ?_
      refine wp_ldcS (w := 3) dX11_line_33 rfl (List.mem_of_getElem? (i := 13) rfl) ?_
      refine wp_cvR dX11_line_35 rfl q829 mv_X11_is R.at rfl rfl (s_is hn hT R (w := 3) (by decide)) rfl rfl (Nat.le_of_ble_eq_true rfl) (Nat.le_of_ble_eq_true rfl) ?_
      refine wp_ifne_b 59 dX11_line_38 rfl rfl (fun c38 => ?_) (fun c38 => ?_)
      · have h3 : isB (C.2.1 14) 3 L = true ∨ isB (C.2.1 14) 10 L = true ∨ isB (C.2.1 14) 16 L = true := Or.inl c38
        refine wp_aload_0 dX11_line_59 rfl ?_
        refine wp_aload_0 dX11_line_60 rfl ?_
        refine wp_ldcS (w := 10) dX11_line_61 rfl (List.mem_of_getElem? (i := 14) rfl) ?_
        refine wp_cvR dX11_line_63 rfl q829 mv_X11_is R.at rfl rfl (s_is hn hT R (w := 10) (by decide)) rfl rfl (Nat.le_of_ble_eq_true rfl) (Nat.le_of_ble_eq_true rfl) ?_
        refine wp_aload_0 dX11_line_66 rfl ?_
        refine wp_ldcS (w := 16) dX11_line_67 rfl (List.mem_of_getElem? (i := 15) rfl) ?_
        refine wp_cvR dX11_line_69 rfl q829 mv_X11_is R.at rfl rfl (s_is hn hT R (w := 16) (by decide)) rfl rfl (Nat.le_of_ble_eq_true rfl) (Nat.le_of_ble_eq_true rfl) ?_
        refine wp_cvT dX11_line_72 rfl q1026 mv_X11_mole R.at rfl rfl (r_mole hn hT R (red := isB (C.2.1 14) 10 L) (tw := isB (C.2.1 14) 16 L)) rfl rfl (Nat.le_of_ble_eq_true rfl) (Nat.le_of_ble_eq_true rfl) (Nat.le_of_ble_eq_true rfl) (Nat.le_of_ble_eq_true rfl) (fun v' h1 hq hnt => ?_) (fun v' h1 hq hnt => WX.out0 (hq.to hnt rfl (fun f e => by rw [lin_3 c6 c22 h3]; exact e)))
        obtain ⟨⟨L1, W1⟩, e1, rfl, X1, A1, rfl, R1, -⟩ := hq.ok hnt
        refine wp_goto 135 dX11_line_75 rfl rfl ?_
        exact wp_return dX11_line_135 rfl (RDQ.mk (by rw [lin_3 c6 c22 h3]; exact e1) R1 trivial)
      · refine wp_aload_0 dX11_line_41 rfl ?_
        refine wp_ldcS (w := 10) dX11_line_42 rfl (List.mem_of_getElem? (i := 14) rfl) ?_
        refine wp_cvR dX11_line_44 rfl q829 mv_X11_is R.at rfl rfl (s_is hn hT R (w := 10) (by decide)) rfl rfl (Nat.le_of_ble_eq_true rfl) (Nat.le_of_ble_eq_true rfl) ?_
        refine wp_ifne_b 59 dX11_line_47 rfl rfl (fun c47 => ?_) (fun c47 => ?_)
        · have h3 : isB (C.2.1 14) 3 L = true ∨ isB (C.2.1 14) 10 L = true ∨ isB (C.2.1 14) 16 L = true := Or.inr (Or.inl c47)
          refine wp_aload_0 dX11_line_59 rfl ?_
          refine wp_aload_0 dX11_line_60 rfl ?_
          refine wp_ldcS (w := 10) dX11_line_61 rfl (List.mem_of_getElem? (i := 14) rfl) ?_
          refine wp_cvR dX11_line_63 rfl q829 mv_X11_is R.at rfl rfl (s_is hn hT R (w := 10) (by decide)) rfl rfl (Nat.le_of_ble_eq_true rfl) (Nat.le_of_ble_eq_true rfl) ?_
          refine wp_aload_0 dX11_line_66 rfl ?_
          refine wp_ldcS (w := 16) dX11_line_67 rfl (List.mem_of_getElem? (i := 15) rfl) ?_
          refine wp_cvR dX11_line_69 rfl q829 mv_X11_is R.at rfl rfl (s_is hn hT R (w := 16) (by decide)) rfl rfl (Nat.le_of_ble_eq_true rfl) (Nat.le_of_ble_eq_true rfl) ?_
          refine wp_cvT dX11_line_72 rfl q1026 mv_X11_mole R.at rfl rfl (r_mole hn hT R (red := isB (C.2.1 14) 10 L) (tw := isB (C.2.1 14) 16 L)) rfl rfl (Nat.le_of_ble_eq_true rfl) (Nat.le_of_ble_eq_true rfl) (Nat.le_of_ble_eq_true rfl) (Nat.le_of_ble_eq_true rfl) (fun v' h1 hq hnt => ?_) (fun v' h1 hq hnt => WX.out0 (hq.to hnt rfl (fun f e => by rw [lin_3 c6 c22 h3]; exact e)))
          obtain ⟨⟨L1, W1⟩, e1, rfl, X1, A1, rfl, R1, -⟩ := hq.ok hnt
          refine wp_goto 135 dX11_line_75 rfl rfl ?_
          exact wp_return dX11_line_135 rfl (RDQ.mk (by rw [lin_3 c6 c22 h3]; exact e1) R1 trivial)
        · refine wp_aload_0 dX11_line_50 rfl ?_
          refine wp_ldcS (w := 16) dX11_line_51 rfl (List.mem_of_getElem? (i := 15) rfl) ?_
          refine wp_cvR dX11_line_53 rfl q829 mv_X11_is R.at rfl rfl (s_is hn hT R (w := 16) (by decide)) rfl rfl (Nat.le_of_ble_eq_true rfl) (Nat.le_of_ble_eq_true rfl) ?_
          refine wp_ifeq_b 78 dX11_line_56 rfl rfl (fun c56 => ?_) (fun c56 => ?_)
          · refine wp_aload_0 dX11_line_78 rfl ?_
            refine wp_ldcS (w := 9) dX11_line_79 rfl (List.mem_of_getElem? (i := 16) rfl) ?_
            refine wp_cvR dX11_line_81 rfl q829 mv_X11_is R.at rfl rfl (s_is hn hT R (w := 9) (by decide)) rfl rfl (Nat.le_of_ble_eq_true rfl) (Nat.le_of_ble_eq_true rfl) ?_
            refine wp_ifeq_b 94 dX11_line_84 rfl rfl (fun c84 => ?_) (fun c84 => ?_)
            · refine wp_aload_0 dX11_line_94 rfl ?_
              refine wp_ldcS (w := 13) dX11_line_95 rfl (List.mem_of_getElem? (i := 17) rfl) ?_
              refine wp_cvT dX11_line_97 rfl q825 mv_X11_asks R.at rfl rfl (r_asks hn hT R (w := 13) (by decide)) rfl rfl (Nat.le_of_ble_eq_true rfl) (Nat.le_of_ble_eq_true rfl) (Nat.le_of_ble_eq_true rfl) (Nat.le_of_ble_eq_true rfl) (fun v' h1 hq hnt => ?_) (fun v' h1 hq hnt => WX.out0 (hq.to hnt rfl (fun f e => by rw [lin_5 c6 c22 c38 c47 c56 c84, e]; rfl)))
              obtain ⟨⟨L1, W1⟩, e1, rfl, X1, A1, rfl, R1, p1, rfl⟩ := hq.ok hnt
              have hw1 := ne_W e1
              subst hw1
              refine wp_aload_0 dX11_line_100 rfl ?_
              refine wp_iconst 1 dX11_line_101 rfl rfl ?_
              refine wp_bipush 99 dX11_line_102 rfl rfl ?_
              refine wp_cvT dX11_line_104 rfl q921 mv_X11_number_2 R1.at rfl rfl (r_num hn hT R1) rfl rfl (Nat.le_of_ble_eq_true rfl) (Nat.le_of_ble_eq_true rfl) (Nat.le_of_ble_eq_true rfl) (Nat.le_of_ble_eq_true rfl) (fun v' h1 hq hnt => ?_) (fun v' h1 hq hnt => WX.out0 (hq.to hnt rfl (fun f e => by rw [lin_5 c6 c22 c38 c47 c56 c84, e1]; exact tic_f1 e)))
              obtain ⟨⟨L2, W2⟩, e2, rfl, X2, A2, rfl, R2, p2, rfl⟩ := hq.ok hnt
              have hw2 := nu_W e2
              subst hw2
              refine wp_istore_1 dX11_line_107 rfl (by decide) rfl ?_
              refine wp_aload_0 dX11_line_108 rfl ?_
              refine wp_ldcS (w := 1) dX11_line_109 rfl (List.mem_of_getElem? (i := 18) rfl) ?_
              refine wp_iconst 1 dX11_line_111 rfl rfl ?_
              refine wp_sipush 500 dX11_line_112 rfl rfl ?_
              refine wp_cvT dX11_line_115 rfl q917 mv_X11_number R2.at rfl rfl (r_to hn hT R2 (w := 1) (by decide)) rfl rfl (Nat.le_of_ble_eq_true rfl) (Nat.le_of_ble_eq_true rfl) (Nat.le_of_ble_eq_true rfl) (Nat.le_of_ble_eq_true rfl) (fun v' h1 hq hnt => ?_) (fun v' h1 hq hnt => WX.out0 (hq.to hnt rfl (fun f e => by rw [lin_5 c6 c22 c38 c47 c56 c84, e1]; exact tic_f2 e2 e)))
              obtain ⟨⟨L3, W3⟩, e3, rfl, X3, A3, rfl, R3, p3, rfl⟩ := hq.ok hnt
              have hw3 := to_W e3
              subst hw3
              refine wp_istore_2 dX11_line_118 rfl (by decide) rfl ?_
              refine wp_aload_0 dX11_line_119 rfl ?_
              refine wp_getf dX11_line_120 rfl q796 fk11_2 R3.at rfl ?_
              refine wp_iload_1 dX11_line_123 rfl ?_
              refine wp_putfN dX11_line_124 rfl q468 fp2_10 R3.ob rfl rfl (Nat.le_of_ble_eq_true rfl) (cH_dset R3.db) ?_
              have hr4 := fun E => (cH_dyn (C := C) (S := S) (X := X3.set b E) R3.dr).trans ((List.getElem?_set_ne R3.br).trans R3.rr)
              have hb4 := fun E => (cH_dyn (C := C) (S := S) (X := X3.set b E) R3.db).trans (List.getElem?_set_self (List.getElem?_eq_some_iff.mp R3.bd.ob.1).1)
              refine wp_aload_0 dX11_line_127 rfl ?_
              refine wp_getf dX11_line_128 rfl q796 fk11_2 (hr4 _) rfl ?_
              refine wp_iload_2 dX11_line_131 rfl ?_
              refine wp_putfN dX11_line_132 rfl q471 fp2_11 (hb4 _) rfl rfl (Nat.le_of_ble_eq_true rfl) (rs R3.db) ?_
              exact wp_return dX11_line_135 rfl (RDQ.mk (by rw [lin_5 c6 c22 c38 c47 c56 c84, e1, tic_n e2 e3]) (R3.tke _ _) trivial)
            · refine wp_aload_0 dX11_line_87 rfl ?_
              refine wp_cvT dX11_line_88 rfl q1142 mv_X11_player R.at rfl rfl (r_player hn hT R) rfl rfl (Nat.le_of_ble_eq_true rfl) (Nat.le_of_ble_eq_true rfl) (Nat.le_of_ble_eq_true rfl) (Nat.le_of_ble_eq_true rfl) (fun v' h1 hq hnt => ?_) (fun v' h1 hq hnt => WX.out0 (hq.to hnt rfl (fun f e => by rw [lin_4 c6 c22 c38 c47 c56 c84]; exact e)))
              obtain ⟨⟨L1, W1⟩, e1, rfl, X1, A1, rfl, R1, -⟩ := hq.ok hnt
              refine wp_goto 135 dX11_line_91 rfl rfl ?_
              exact wp_return dX11_line_135 rfl (RDQ.mk (by rw [lin_4 c6 c22 c38 c47 c56 c84]; exact e1) R1 trivial)
          · have h3 : isB (C.2.1 14) 3 L = true ∨ isB (C.2.1 14) 10 L = true ∨ isB (C.2.1 14) 16 L = true := Or.inr (Or.inr c56)
            refine wp_aload_0 dX11_line_59 rfl ?_
            refine wp_aload_0 dX11_line_60 rfl ?_
            refine wp_ldcS (w := 10) dX11_line_61 rfl (List.mem_of_getElem? (i := 14) rfl) ?_
            refine wp_cvR dX11_line_63 rfl q829 mv_X11_is R.at rfl rfl (s_is hn hT R (w := 10) (by decide)) rfl rfl (Nat.le_of_ble_eq_true rfl) (Nat.le_of_ble_eq_true rfl) ?_
            refine wp_aload_0 dX11_line_66 rfl ?_
            refine wp_ldcS (w := 16) dX11_line_67 rfl (List.mem_of_getElem? (i := 15) rfl) ?_
            refine wp_cvR dX11_line_69 rfl q829 mv_X11_is R.at rfl rfl (s_is hn hT R (w := 16) (by decide)) rfl rfl (Nat.le_of_ble_eq_true rfl) (Nat.le_of_ble_eq_true rfl) ?_
            refine wp_cvT dX11_line_72 rfl q1026 mv_X11_mole R.at rfl rfl (r_mole hn hT R (red := isB (C.2.1 14) 10 L) (tw := isB (C.2.1 14) 16 L)) rfl rfl (Nat.le_of_ble_eq_true rfl) (Nat.le_of_ble_eq_true rfl) (Nat.le_of_ble_eq_true rfl) (Nat.le_of_ble_eq_true rfl) (fun v' h1 hq hnt => ?_) (fun v' h1 hq hnt => WX.out0 (hq.to hnt rfl (fun f e => by rw [lin_3 c6 c22 h3]; exact e)))
            obtain ⟨⟨L1, W1⟩, e1, rfl, X1, A1, rfl, R1, -⟩ := hq.ok hnt
            refine wp_goto 135 dX11_line_75 rfl rfl ?_
            exact wp_return dX11_line_135 rfl (RDQ.mk (by rw [lin_3 c6 c22 h3]; exact e1) R1 trivial)
    · refine wp_aload_0 dX11_line_25 rfl ?_
      refine wp_cvT dX11_line_26 rfl q943 mv_X11_shut R.at rfl rfl (r_shut hn hT R) rfl rfl (Nat.le_of_ble_eq_true rfl) (Nat.le_of_ble_eq_true rfl) (Nat.le_of_ble_eq_true rfl) (Nat.le_of_ble_eq_true rfl) (fun v' h1 hq hnt => ?_) (fun v' h1 hq hnt => WX.out0 (hq.to hnt rfl (fun f e => by rw [lin_2 c6 c22]; exact e)))
      obtain ⟨⟨L1, W1⟩, e1, rfl, X1, A1, rfl, R1, -⟩ := hq.ok hnt
      refine wp_goto 135 dX11_line_29 rfl rfl ?_
      exact wp_return dX11_line_135 rfl (RDQ.mk (by rw [lin_2 c6 c22]; exact e1) R1 trivial)
  · refine wp_aload_0 dX11_line_9 rfl ?_
    refine wp_cvT dX11_line_10 rfl q933 mv_X11_stay R.at rfl rfl (r_stay hn hT R hs) rfl rfl (Nat.le_of_ble_eq_true rfl) (Nat.le_of_ble_eq_true rfl) (Nat.le_of_ble_eq_true rfl) (Nat.le_of_ble_eq_true rfl) (fun v' h1 hq hnt => ?_) (fun v' h1 hq hnt => WX.out0 (hq.to hnt rfl (fun f e => by rw [lin_1 c6]; exact e)))
    obtain ⟨⟨L1, W1⟩, e1, rfl, X1, A1, rfl, R1, -⟩ := hq.ok hnt
    refine wp_goto 135 dX11_line_13 rfl rfl ?_
    exact wp_return dX11_line_135 rfl (RDQ.mk (by rw [lin_1 c6]; exact e1) R1 trivial)
theorem rL_reads {g : GW} {C : SC} {S : SM} {X0 : AH} {r b n : Nat} (hn : n ≤ 1200) (hT : TB (C.2.1 14)) {c n9 : Nat} {Q : Option Value → AH → Prop} : ∀ (k m : Nat) (X : AH) (L : LX) (W : Nat → Int32) (A : BA), RDS X0 r b n X (L, W) A → WFb W → WFl W (lAt L) → (W 9 = 0 → A.tk = 1 ∧ A.ec = 100) → n + 4 ≤ 4 * k + lFr L → n + 1 ≤ m + lAt L → (∀ v h1, RDQ C S X0 r b n TrX (some (.ref b)) (pAll (C.2.1 14) n m (.inr (L, W))) v h1 → Q v h1) → WP g 12 yX11_reads cX11_reads 1 (some (.object "MoleBoard$Board")) 0 [some (.ref r)] [] (cH C S X) (20 * k + c) (180 * k + n9) Q := by
  intro k
  induction k with
  | zero =>
    intro m X L W A R hb hl ht h4 h1 hq
    have h5 := R.lk
    dsimp only at h5
    omega
  | succ k ih =>
    intro m X L W A R hb hl ht h4 h1 hq
    have h5 := R.lk
    dsimp only at h5
    obtain ⟨m, rfl⟩ : ∃ m2, m = m2 + 1 := ⟨m - 1, by omega⟩
    refine wp_aload_0 dX11_reads_0 rfl ?_
    refine wp_getf dX11_reads_1 rfl q799 fk11_5 R.at rfl ?_
    refine wp_if_eq 62 dX11_reads_4 rfl rfl (fun c4 => ?_) (fun c4 => ?_)
    · have d4 : lTk L = 0 := nI_ij (b := 0) (by omega) (by omega) c4
      refine wp_aload_0 dX11_reads_62 rfl ?_
      refine wp_getf dX11_reads_63 rfl q796 fk11_2 R.at rfl ?_
      exact wp_areturn_r dX11_reads_66 rfl (Or.inl ⟨_, rfl⟩) (hq _ _ (RDQ.mk (all_0 d4) R trivial))
    · have d4 : ¬ lTk L = 0 := fun q => c4 (show nI (lTk L) = 0 by rw [q]; rfl)
      refine wp_aload_0 dX11_reads_7 rfl ?_
      refine wp_getf dX11_reads_8 rfl q796 fk11_2 R.at rfl ?_
      refine wp_getfN dX11_reads_11 rfl q475 fk2_12 R.ob rfl ?_
      refine wp_if_ne 24 dX11_reads_14 rfl rfl (fun c14 => ?_) (fun c14 => ?_)
      · refine wp_aload_0 dX11_reads_24 rfl ?_
        refine wp_cvT dX11_reads_25 rfl q928 mv_X11_line R.at rfl rfl (r_line hn hT R hb.1) rfl rfl (Nat.le_of_ble_eq_true rfl) (Nat.le_of_ble_eq_true rfl) (by omega) (by omega) (fun v' h1 hq2 hnt => ?_) (fun v' h1 hq2 hnt => WX.out0 (hq _ _ (hq2.to hnt rfl (fun f e => by rw [all_1 d4, one_f ((if_neg c14).trans e), pAll_f]))))
        obtain ⟨⟨L1, W1⟩, e1, rfl, X1, A1, rfl, R1, -⟩ := hq2.ok hnt
        have hl1 : pLn (C.2.1 14) n L W = .inr (L1, W1) := (if_neg c14).trans e1
        refine wp_aload_0 dX11_reads_28 rfl ?_
        refine wp_getf dX11_reads_29 rfl q799 fk11_5 R1.at rfl ?_
        refine wp_iconst 3 dX11_reads_32 rfl rfl ?_
        refine wp_icmp_eq 42 dX11_reads_33 rfl rfl (fun c33 => ?_) (fun c33 => ?_)
        · have d33 : lTk L1 = 3 := nI_ij (b := 3) (by have := R1.lk.2.2; dsimp only at this; omega) (by omega) c33
          refine wp_aload_0 dX11_reads_42 rfl ?_
          refine wp_cv0 dX11_reads_43 rfl q781 mv_X11_next R1.at rfl rfl (s_next hn hT R1) rfl rfl (Nat.le_of_ble_eq_true rfl) (Nat.le_of_ble_eq_true rfl) ?_
          have R2 : RDS X0 r b n (X1.set r (lxo b n (lx (C.2.1 14) n (lAt L1)))) (lx (C.2.1 14) n (lAt L1), W1) A1 := R1.go
          have hy := one_n hl1 d33
          have hfr := ln_fr h5.2.1 hb hl hl1 d33
          have h9 := ln_9 h5.2.1 hn hb hl hl1
          have h5a := h5.2.1
          obtain ⟨q1, q2, q3, q4⟩ := pOne_c (x := (L, W)) h5a hn hb hl hy
          generalize X1.set r (lxo b n (lx (C.2.1 14) n (lAt L1))) = X2 at *
          generalize lx (C.2.1 14) n (lAt L1) = L2 at *
          refine wp_aload_0 dX11_reads_46 rfl ?_
          refine wp_getf dX11_reads_47 rfl q796 fk11_2 R2.at rfl ?_
          refine wp_dup dX11_reads_50 rfl rfl ?_
          refine wp_getfN dX11_reads_51 rfl q475 fk2_12 R2.ob rfl ?_
          refine wp_iconst 1 dX11_reads_54 rfl rfl ?_
          refine wp_iadd dX11_reads_55 rfl ?_
          refine wp_putfN dX11_reads_56 rfl q475 fp2_12 R2.ob rfl rfl (Nat.le_of_ble_eq_true rfl) (cH_dset R2.db) ?_
          have R3 := R2.put (W' := upd W1 9 (W1 9 + 1)) (fun z hz => by rw [upd, if_neg (by omega)]) (fun q => R2.bd.te q)
          refine wp_goto 0 dX11_reads_59 rfl rfl ?_
          dsimp only at q1 q2 q3 q4
          exact WP.mono (by omega) (by omega) (ih m _ _ _ _ R3 q3 q4 (fun z => absurd z h9) (by omega) (by omega) (fun v h2 z => hq v h2 (by rw [all_1 d4, hy]; exact z)))
        · have d33 : ¬ lTk L1 = 3 := fun q => c33 (show nI (lTk L1) = 3 by rw [q]; rfl)
          refine wp_aload_0 dX11_reads_36 rfl ?_
          refine wp_iconst 1 dX11_reads_37 rfl rfl ?_
          refine wp_VxR dX11_reads_38 rfl q881 mv_X11_fault R1.at rfl rfl (s_fault hn hT R1) rfl rfl (Nat.le_of_ble_eq_true rfl) (Nat.le_of_ble_eq_true rfl) (by omega) (by omega) ?_
          refine wp_athrow dX11_reads_41 rfl (f_at R1) rfl (WX.out0 (hq _ _ (R1.flt (by rw [all_1 d4, one_s hl1 d33, pAll_f]))))
      · refine wp_aload_0 dX11_reads_17 rfl ?_
        refine wp_cvT dX11_reads_18 rfl q820 mv_X11_first R.at rfl rfl (r_first hn hT R (ht c14)) rfl rfl (Nat.le_of_ble_eq_true rfl) (Nat.le_of_ble_eq_true rfl) (by omega) (by omega) (fun v' h1 hq2 hnt => ?_) (fun v' h1 hq2 hnt => WX.out0 (hq _ _ (hq2.to hnt rfl (fun f e => by rw [all_1 d4, one_f ((if_pos c14).trans e), pAll_f]))))
        obtain ⟨⟨L1, W1⟩, e1, rfl, X1, A1, rfl, R1, -⟩ := hq2.ok hnt
        have hl1 : pLn (C.2.1 14) n L W = .inr (L1, W1) := (if_pos c14).trans e1
        refine wp_goto 28 dX11_reads_21 rfl rfl ?_
        refine wp_aload_0 dX11_reads_28 rfl ?_
        refine wp_getf dX11_reads_29 rfl q799 fk11_5 R1.at rfl ?_
        refine wp_iconst 3 dX11_reads_32 rfl rfl ?_
        refine wp_icmp_eq 42 dX11_reads_33 rfl rfl (fun c33 => ?_) (fun c33 => ?_)
        · have d33 : lTk L1 = 3 := nI_ij (b := 3) (by have := R1.lk.2.2; dsimp only at this; omega) (by omega) c33
          refine wp_aload_0 dX11_reads_42 rfl ?_
          refine wp_cv0 dX11_reads_43 rfl q781 mv_X11_next R1.at rfl rfl (s_next hn hT R1) rfl rfl (Nat.le_of_ble_eq_true rfl) (Nat.le_of_ble_eq_true rfl) ?_
          have R2 : RDS X0 r b n (X1.set r (lxo b n (lx (C.2.1 14) n (lAt L1)))) (lx (C.2.1 14) n (lAt L1), W1) A1 := R1.go
          have hy := one_n hl1 d33
          have hfr := ln_fr h5.2.1 hb hl hl1 d33
          have h9 := ln_9 h5.2.1 hn hb hl hl1
          have h5a := h5.2.1
          obtain ⟨q1, q2, q3, q4⟩ := pOne_c (x := (L, W)) h5a hn hb hl hy
          generalize X1.set r (lxo b n (lx (C.2.1 14) n (lAt L1))) = X2 at *
          generalize lx (C.2.1 14) n (lAt L1) = L2 at *
          refine wp_aload_0 dX11_reads_46 rfl ?_
          refine wp_getf dX11_reads_47 rfl q796 fk11_2 R2.at rfl ?_
          refine wp_dup dX11_reads_50 rfl rfl ?_
          refine wp_getfN dX11_reads_51 rfl q475 fk2_12 R2.ob rfl ?_
          refine wp_iconst 1 dX11_reads_54 rfl rfl ?_
          refine wp_iadd dX11_reads_55 rfl ?_
          refine wp_putfN dX11_reads_56 rfl q475 fp2_12 R2.ob rfl rfl (Nat.le_of_ble_eq_true rfl) (cH_dset R2.db) ?_
          have R3 := R2.put (W' := upd W1 9 (W1 9 + 1)) (fun z hz => by rw [upd, if_neg (by omega)]) (fun q => R2.bd.te q)
          refine wp_goto 0 dX11_reads_59 rfl rfl ?_
          dsimp only at q1 q2 q3 q4
          exact WP.mono (by omega) (by omega) (ih m _ _ _ _ R3 q3 q4 (fun z => absurd z h9) (by omega) (by omega) (fun v h2 z => hq v h2 (by rw [all_1 d4, hy]; exact z)))
        · have d33 : ¬ lTk L1 = 3 := fun q => c33 (show nI (lTk L1) = 3 by rw [q]; rfl)
          refine wp_aload_0 dX11_reads_36 rfl ?_
          refine wp_iconst 1 dX11_reads_37 rfl rfl ?_
          refine wp_VxR dX11_reads_38 rfl q881 mv_X11_fault R1.at rfl rfl (s_fault hn hT R1) rfl rfl (Nat.le_of_ble_eq_true rfl) (Nat.le_of_ble_eq_true rfl) (by omega) (by omega) ?_
          refine wp_athrow dX11_reads_41 rfl (f_at R1) rfl (WX.out0 (hq _ _ (R1.flt (by rw [all_1 d4, one_s hl1 d33, pAll_f]))))
