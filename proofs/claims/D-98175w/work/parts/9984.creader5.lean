/-! ===== the class: the reader: a coming ===== -/
set_option maxRecDepth 100000
theorem r_mole {g : GW} {C : SC} {S : SM} {X0 X : AH} {r b n : Nat} {A : BA} {L : LX} {W : Nat → Int32} (hn : n ≤ 1200) (hT : TB (C.2.1 14)) (R : RDS X0 r b n X (L, W) A) {red tw : Bool} : SP g 10 12 96 yX11_mole cX11_mole 4 none [.ref r, .int (b2i red), .int (b2i tw)] (cH C S X) (RDQ C S X0 r b n TrX none ((if W 5 = 24 then .inl (3, nI (lFr L)) else pCom (C.2.1 14) n red tw (pGo (C.2.1 14) n L W)))) := by
  refine SP.intro [some (.ref r), some (.int (b2i red)), some (.int (b2i tw)), none] (pfn (by decide)) rfl (Nat.le_of_ble_eq_true rfl) ?_
  have hn5 := R.bd.n5
  dsimp only at hn5
  refine wp_aload_0 dX11_mole_0 rfl ?_
  refine wp_aload_0 dX11_mole_1 rfl ?_
  refine wp_getf dX11_mole_2 rfl q796 fk11_2 R.at rfl ?_
  refine wp_getfN dX11_mole_5 rfl q440 fk2_0 R.ob rfl ?_
  refine wp_FxR dX11_mole_8 rfl q1031 mf_J2_size (R.bd.od.at R.bd.dy) rfl rfl (j_size (m := nW W 5) R.bd.drum) rfl rfl (Nat.le_of_ble_eq_true rfl) (Nat.le_of_ble_eq_true rfl) (Nat.zero_le _) (Nat.zero_le _) ?_
  refine wp_bipush 24 dX11_mole_13 rfl rfl ?_
  change WP g 10 _ _ _ _ _ _ (Value.int (nI 24) :: _) _ _ _ _
  refine wp_icmp_ge_k 22 dX11_mole_15 rfl rfl (by omega) (by omega) (fun c15 => ?_) (fun c15 => ?_)
  · have h24 : W 5 = 24 := hn5.1.trans (by rw [show nW W 5 = 24 by omega]; rfl)
    refine wp_iconst 0 dX11_mole_22 rfl rfl ?_
    refine wp_cvT dX11_mole_23 rfl q1039 mv_X11_room R.at rfl rfl (r_room hn hT R (q := false)) rfl rfl (Nat.le_of_ble_eq_true rfl) (Nat.le_of_ble_eq_true rfl) (Nat.le_of_ble_eq_true rfl) (Nat.le_of_ble_eq_true rfl) (fun v' h1 hq hnt => ?_) (fun v' h1 hq hnt => WX.out0 (hq.to hnt rfl (fun f e => by first | (rw [if_pos h24]; exact e) | (rw [room_t] at e; cases e))))
    obtain ⟨⟨L1, W1⟩, e1, rfl, X1, A1, rfl, R1, p1, rfl⟩ := hq.ok hnt
    obtain ⟨hq1, hL1, hw1⟩ := room_W e1
    cases hq1
  · have h24 : ¬ W 5 = 24 := fun q => absurd (nW_n (j := 5) (k := 24) q (by omega)) (by omega)
    refine wp_iconst 1 dX11_mole_18 rfl rfl ?_
    refine wp_goto 23 dX11_mole_19 rfl rfl ?_
    refine wp_cvT dX11_mole_23 rfl q1039 mv_X11_room R.at rfl rfl (r_room hn hT R (q := true)) rfl rfl (Nat.le_of_ble_eq_true rfl) (Nat.le_of_ble_eq_true rfl) (Nat.le_of_ble_eq_true rfl) (Nat.le_of_ble_eq_true rfl) (fun v' h1 hq hnt => ?_) (fun v' h1 hq hnt => WX.out0 (hq.to hnt rfl (fun f e => by first | (rw [if_pos h24]; exact e) | (rw [room_t] at e; cases e))))
    obtain ⟨⟨L1, W1⟩, e1, rfl, X1, A1, rfl, R1, p1, rfl⟩ := hq.ok hnt
    obtain ⟨hq1, hL1, hw1⟩ := room_W e1
    subst hw1
    have hgo : pGo (C.2.1 14) n L W1 = .inr (L1, W1) := by rw [hL1]; rfl
    refine wp_aload_0 dX11_mole_26 rfl ?_
    refine wp_iconst (-1) dX11_mole_27 rfl rfl ?_
    refine wp_cvT dX11_mole_28 rfl q1043 mv_X11_open R1.at rfl rfl (r_open hn hT R1 (but := -1)) rfl rfl (Nat.le_of_ble_eq_true rfl) (Nat.le_of_ble_eq_true rfl) (Nat.le_of_ble_eq_true rfl) (Nat.le_of_ble_eq_true rfl) (fun v' h1 hq hnt => ?_) (fun v' h1 hq hnt => WX.out0 (hq.to hnt rfl (fun f e => by rw [if_neg h24, hgo]; exact com_f1 e)))
    obtain ⟨⟨L2, W2⟩, e2, rfl, X2, A2, rfl, R2, p2, rfl⟩ := hq.ok hnt
    have hw2 := ho_W e2
    subst hw2
    refine wp_istore_3 dX11_mole_31 rfl (by decide) rfl ?_
    refine wp_aload_0 dX11_mole_32 rfl ?_
    refine wp_getf dX11_mole_33 rfl q796 fk11_2 R2.at rfl ?_
    refine wp_getfN dX11_mole_36 rfl q440 fk2_0 R2.ob rfl ?_
    refine wp_new1 dX11_mole_39 rfl q1047 nw14 (Nat.le_of_ble_eq_true rfl) (Nat.le_of_ble_eq_true rfl) ?_
    rw [cH_app R2.X8, cH_len]
    have hold : ∀ k, k < nW W2 5 → A2.mo k ≠ X2.length := fun k hk z => by
      have q := (R2.bd.mo k hk).2.2.2
      omega
    have hx0 : X0.length ≤ X2.length := R2.xe.len
    have hm2 : (X2 ++ [(.inr (14, [.int 0, .int 0, .int 0]))])[X2.length]? = some (.inr (14, [.int 0, .int 0, .int 0])) := g_last
    have R2 := R2.app [(.inr (14, [.int 0, .int 0, .int 0]))]
    generalize X2 ++ [(.inr (14, [.int 0, .int 0, .int 0]))] = X9 at *
    generalize X2.length = t at *
    refine wp_dup dX11_mole_42 rfl rfl ?_
    refine wp_iload_3 dX11_mole_43 rfl ?_
    refine wp_iload_2 dX11_mole_44 rfl ?_
    refine wp_ifeq_b 56 dX11_mole_45 rfl rfl (fun c45 => ?_) (fun c45 => ?_)
    · refine wp_iconst (-1) dX11_mole_56 rfl rfl ?_
      refine wp_iload_1 dX11_mole_57 rfl ?_
      refine wp_Ix0 dX11_mole_58 rfl q1049 mi_X13_init (c_mInit (r := red) ((cH_dyn (Or.inr (by have := R2.x0; omega))).trans hm2)) rfl rfl (Nat.le_of_ble_eq_true rfl) (Nat.le_of_ble_eq_true rfl) (Nat.le_of_ble_eq_true rfl) (Nat.le_of_ble_eq_true rfl) ?_
      rw [cH_dset (Or.inr (by have := R2.x0; omega))]
      have R4 := R2.fr14 (e' := (.inr (14, [.int (pHo (C.2.1 14) n (badO (-1)) (.inr (L1, W2))).1, .int (-1), .int (b2i red)]))) hm2 hx0 hold
      have hm4 : (X9.set t (.inr (14, [.int (pHo (C.2.1 14) n (badO (-1)) (.inr (L1, W2))).1, .int (-1), .int (b2i red)])))[t]? = some (.inr (14, [.int (pHo (C.2.1 14) n (badO (-1)) (.inr (L1, W2))).1, .int (-1), .int (b2i red)])) := List.getElem?_set_self (List.getElem?_eq_some_iff.mp hm2).1
      generalize X9.set t (.inr (14, [.int (pHo (C.2.1 14) n (badO (-1)) (.inr (L1, W2))).1, .int (-1), .int (b2i red)])) = X4 at *
      refine wp_FxR dX11_mole_61 rfl q1074 mf_J2_add (R4.bd.od.at R4.bd.dy) rfl rfl (j_add14 R4.bd.drum (by dsimp only; omega) ((cH_dyn (Or.inr (by have := R2.x0; omega))).trans hm4)) rfl rfl (Nat.le_of_ble_eq_true rfl) (Nat.le_of_ble_eq_true rfl) (Nat.zero_le _) (Nat.zero_le _) ?_
      rw [cH_dset (R4.bd.dy.dyn R4.bd.oq.2.1 R4.bd.oq.2.2), cH_dset (R4.bd.dy.dyn R4.bd.od.2.1 R4.bd.od.2.2)]
      refine wp_pop dX11_mole_66 rfl rfl ?_
      exact wp_return dX11_mole_67 rfl (RDQ.mk (by rw [if_neg h24, hgo, c45]; exact com_n e2) (R4.addm hm4 hx0 hold (by omega)) trivial)
    · refine wp_aload_0 dX11_mole_48 rfl ?_
      refine wp_iload_3 dX11_mole_49 rfl ?_
      refine wp_cvT dX11_mole_50 rfl q1043 mv_X11_open R2.at rfl rfl (r_open hn hT R2) rfl rfl (Nat.le_of_ble_eq_true rfl) (Nat.le_of_ble_eq_true rfl) (Nat.le_of_ble_eq_true rfl) (Nat.le_of_ble_eq_true rfl) (fun v' h1 hq hnt => ?_) (fun v' h1 hq hnt => WX.out0 (hq.to hnt rfl (fun f e => by rw [if_neg h24, hgo, c45]; exact com_f2 e2 e)))
      obtain ⟨⟨L3, W3⟩, e3, rfl, X3, A3, rfl, R3, p3, rfl⟩ := hq.ok hnt
      have hw3 := ho_W e3
      subst hw3
      have hm3 := p3 t _ hm2 (R2.nb hm2 (by simp [lxo, ro]))
      refine wp_goto 57 dX11_mole_53 rfl rfl ?_
      refine wp_iload_1 dX11_mole_57 rfl ?_
      refine wp_Ix0 dX11_mole_58 rfl q1049 mi_X13_init (c_mInit (r := red) ((cH_dyn (Or.inr (by have := R2.x0; omega))).trans hm3)) rfl rfl (Nat.le_of_ble_eq_true rfl) (Nat.le_of_ble_eq_true rfl) (Nat.le_of_ble_eq_true rfl) (Nat.le_of_ble_eq_true rfl) ?_
      rw [cH_dset (Or.inr (by have := R2.x0; omega))]
      have R4 := R3.fr14 (e' := (.inr (14, [.int (pHo (C.2.1 14) n (badO (-1)) (.inr (L1, W3))).1, .int (pHo (C.2.1 14) n (badO (pHo (C.2.1 14) n (badO (-1)) (.inr (L1, W3))).1) (.inr (L2, W3))).1, .int (b2i red)]))) hm3 hx0 hold
      have hm4 : (X3.set t (.inr (14, [.int (pHo (C.2.1 14) n (badO (-1)) (.inr (L1, W3))).1, .int (pHo (C.2.1 14) n (badO (pHo (C.2.1 14) n (badO (-1)) (.inr (L1, W3))).1) (.inr (L2, W3))).1, .int (b2i red)])))[t]? = some (.inr (14, [.int (pHo (C.2.1 14) n (badO (-1)) (.inr (L1, W3))).1, .int (pHo (C.2.1 14) n (badO (pHo (C.2.1 14) n (badO (-1)) (.inr (L1, W3))).1) (.inr (L2, W3))).1, .int (b2i red)])) := List.getElem?_set_self (List.getElem?_eq_some_iff.mp hm3).1
      generalize X3.set t (.inr (14, [.int (pHo (C.2.1 14) n (badO (-1)) (.inr (L1, W3))).1, .int (pHo (C.2.1 14) n (badO (pHo (C.2.1 14) n (badO (-1)) (.inr (L1, W3))).1) (.inr (L2, W3))).1, .int (b2i red)])) = X4 at *
      refine wp_FxR dX11_mole_61 rfl q1074 mf_J2_add (R4.bd.od.at R4.bd.dy) rfl rfl (j_add14 R4.bd.drum (by dsimp only; omega) ((cH_dyn (Or.inr (by have := R2.x0; omega))).trans hm4)) rfl rfl (Nat.le_of_ble_eq_true rfl) (Nat.le_of_ble_eq_true rfl) (Nat.zero_le _) (Nat.zero_le _) ?_
      rw [cH_dset (R4.bd.dy.dyn R4.bd.oq.2.1 R4.bd.oq.2.2), cH_dset (R4.bd.dy.dyn R4.bd.od.2.1 R4.bd.od.2.2)]
      refine wp_pop dX11_mole_66 rfl rfl ?_
      exact wp_return dX11_mole_67 rfl (RDQ.mk (by rw [if_neg h24, hgo, c45]; exact com_t e2 e3) (R4.addm hm4 hx0 hold (by omega)) trivial)
