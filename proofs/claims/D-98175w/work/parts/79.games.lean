/-! ===== the class: games laid ===== -/
set_option maxRecDepth 100000
theorem c_nextD0 {g : GW} {C : SC} {S : SM} {X : AH} {lo hi b : Nat} {A : BA} {W : Nat → Int32} (hE : EV C X lo hi b A W) (h5 : nW W 5 = 0) : SPx g 3 0 0 yX4_next cX4_next 1 (some (.object "MoleBoard$Mole")) [.ref 15] (cH C S X) (some (.null)) (cH C S X) := by
  refine SPx.intro [some (.ref 15)] (pfn (by decide)) rfl (Nat.le_of_ble_eq_true rfl) ?_
  refine wp_aload_0 dX4_next_0 rfl ?_
  refine wp_getf dX4_next_1 rfl q520 fk4_5 (cg_15 hE.X) rfl ?_
  refine wp_VNxR dX4_next_4 rfl q1262 mv_X0_comingsOfDrum hE.o0 rfl rfl (c_comingsOfDrum hE) rfl rfl (Nat.le_of_ble_eq_true rfl) (Nat.le_of_ble_eq_true rfl) (Nat.zero_le _) (Nat.zero_le _) ?_
  rw [h5]
  refine wp_if_ne 14 dX4_next_7 rfl rfl (fun c7 => ?_) (fun c7 => ?_)
  · exact absurd rfl c7
  · refine wp_null dX4_next_10 rfl ?_
    refine wp_goto 55 dX4_next_11 rfl rfl ?_
    exact wp_areturn_n dX4_next_55 rfl (Or.inl ⟨_, rfl⟩) ⟨rfl, rfl⟩
theorem c_nextD1 {g : GW} {C : SC} {S : SM} {X : AH} {lo hi b : Nat} {A : BA} {W : Nat → Int32} (hE : EV C X lo hi b A W) {m : Nat} (h5 : 0 < nW W 5) (hm : C.1 3 = nI m) (hb : m < 1000) : SPx g 4 0 0 yX4_next cX4_next 1 (some (.object "MoleBoard$Mole")) [.ref 15] (cH C S X) (some (.ref (A.mo (dgI W m)))) (cH C S X) := by
  refine SPx.intro [some (.ref 15)] (pfn (by decide)) rfl (Nat.le_of_ble_eq_true rfl) ?_
  refine wp_aload_0 dX4_next_0 rfl ?_
  refine wp_getf dX4_next_1 rfl q520 fk4_5 (cg_15 hE.X) rfl ?_
  refine wp_VNxR dX4_next_4 rfl q1262 mv_X0_comingsOfDrum hE.o0 rfl rfl (c_comingsOfDrum hE) rfl rfl (Nat.le_of_ble_eq_true rfl) (Nat.le_of_ble_eq_true rfl) (Nat.zero_le _) (Nat.zero_le _) ?_
  refine wp_if_ne_k 14 dX4_next_7 rfl rfl (by have := hE.B.n5.2; omega) (fun c7 => ?_) (fun c7 => ?_)
  · refine wp_aload_0 dX4_next_14 rfl ?_
    refine wp_getf dX4_next_15 rfl q520 fk4_5 (cg_15 hE.X) rfl ?_
    refine wp_getfN dX4_next_18 rfl q716 fk0_1 hE.o0 rfl ?_
    refine wp_getfN dX4_next_21 rfl q438 fk2_0 hE.ob rfl ?_
    refine wp_aload_0 dX4_next_24 rfl ?_
    refine wp_getf dX4_next_25 rfl q520 fk4_5 (cg_15 hE.X) rfl ?_
    refine wp_getfN dX4_next_28 rfl q716 fk0_1 hE.o0 rfl ?_
    refine wp_getfN dX4_next_31 rfl q476 fk2_13 hE.ob rfl ?_
    rw [hE.s.sd.1]
    refine wp_aload_0 dX4_next_34 rfl ?_
    refine wp_getf dX4_next_35 rfl q531 fks4_3 (cg_15 hE.X) rfl ?_
    rw [hm]
    refine wp_iadd dX4_next_38 rfl ?_
    rw [nI_add]
    refine wp_aload_0 dX4_next_39 rfl ?_
    refine wp_getf dX4_next_40 rfl q520 fk4_5 (cg_15 hE.X) rfl ?_
    refine wp_VNxR dX4_next_43 rfl q1262 mv_X0_comingsOfDrum hE.o0 rfl rfl (c_comingsOfDrum hE) rfl rfl (Nat.le_of_ble_eq_true rfl) (Nat.le_of_ble_eq_true rfl) (Nat.zero_le _) (Nat.zero_le _) ?_
    refine wp_irem dX4_next_46 rfl (nI_ne0 h5 (by have := hE.B.n5.2; omega)) ?_
    have hj : dgI W m < nW W 5 := Nat.mod_lt _ h5
    rw [pk_rem (by have := hE.s.sd.2; omega) h5 (by have := hE.B.n5.2; omega)]
    change WP _ _ _ _ _ _ _ _ (.int (nI (dgI W m)) :: _) _ _ _ _
    refine wp_FxR dX4_next_47 rfl q1264 mf_J2_get (hE.B.od.at hE.B.dy) rfl rfl (j_get hE.B.drum hj (hE.B.mo _ hj).1) rfl rfl (Nat.le_of_ble_eq_true rfl) (Nat.le_of_ble_eq_true rfl) (Nat.zero_le _) (Nat.zero_le _) ?_
    refine wp_castO (r := (RX13, TX13, 3)) dX4_next_52 rfl q1265 (hE.mol hj) rfl ?_
    exact wp_areturn_r dX4_next_55 rfl (Or.inl ⟨_, rfl⟩) ⟨rfl, rfl⟩
  · omega
theorem cA_s (j i : Nat) (v : Int32) (C : SC) : (cA j i v C).2.1 j i = v := by
  show va_up C.2.1 j (upd (C.2.1 j) i v) j i = v
  rw [va_up_self, pk_us]
theorem lay_end {W : Nat → Int32} {k m : Nat} (hs : WFs W) (hN : (0 < nW W 5 ∧ cntK (mayK W) k m = dgM W) ∨ (nW W 5 = 0 ∧ m = 0)) (h : mayK W m = false ∨ nW W 5 = 0) : dgW W = (m, dgF W) := by
  unfold dgW
  rcases hN with ⟨h1, h2⟩ | ⟨h1, h2⟩
  · rcases h with h | h
    · rw [← h2, cnt_0 h]
    · omega
  · unfold dgM
    rw [hs.nc.1, h1, h2, if_neg (by decide)]
theorem cL_layD {g : GW} {S : SM} {X : AH} {lo hi b : Nat} {A : BA} {W : Nat → Int32} {C0 : SC} {c n : Nat} {Q : Option Value → AH → Prop} : ∀ (k : Nat) (C : SC) (m : Nat) (v2 : Option Value), m + k = 60 → EV C X lo hi b A W → GM 3 16 17 18 C X (m, dgF W) → CK [3] [17, 18] [] [] [16] C0 C → (∀ j, j < m → mayK W j = true) → ((0 < nW W 5 ∧ cntK (mayK W) k m = dgM W) ∨ (nW W 5 = 0 ∧ m = 0)) → (∀ C', GM 3 16 17 18 C' X (dgW W) → CK [3] [17, 18] [] [] [16] C0 C' → Q (some (.ref 15)) (cH C' S X)) → WP g 6 yX3_lays cX3_lays 3 (some (.object "MoleBoard$Game")) 9 [some (.ref 15), some (.int (gT W m)), v2] [] (cH C S X) c n Q := by
  intro k
  induction k with
  | zero =>
    intro C m v2 hi hE hG hK hM hN hq
    obtain ⟨t, et, t1⟩ := gT_n hE.s hE.t m hM
    obtain ⟨s, es, s1, s2⟩ := stay_n hE.t (nI t)
    have hk := mayK_n hE.s et t1 es s1 s2
    have hn : C.1 3 = nI m := hG.1
    have h12 := hE.s.tk.2
    rw [et]
    refine wp_aload_0 dX3_lays_9 rfl ?_
    refine wp_getf dX3_lays_10 rfl q534 fk4_3 (cg_15 hE.X) rfl ?_
    rw [show C.1 3 = nI m from hn]
    refine wp_bipush 60 dX3_lays_13 rfl rfl ?_
    refine wp_icmp_ge_k 147 dX3_lays_15 rfl rfl (b := 60) (by omega) (by omega) (fun c15 => ?_) (fun c15 => ?_)
    · refine wp_aload_0 dX3_lays_147 rfl ?_
      exact wp_areturn_r dX3_lays_148 rfl (Or.inl ⟨_, rfl⟩) (hq C (by rw [lay_end hE.s hN (Or.inl (by rw [hk]; simp; omega))]; exact hG) hK)
    · exact absurd c15 (by omega)
  | succ k ih =>
    intro C m v2 hi hE hG hK hM hN hq
    obtain ⟨t, et, t1⟩ := gT_n hE.s hE.t m hM
    obtain ⟨s, es, s1, s2⟩ := stay_n hE.t (nI t)
    have hk := mayK_n hE.s et t1 es s1 s2
    have hn : C.1 3 = nI m := hG.1
    have h12 := hE.s.tk.2
    rw [et]
    refine wp_aload_0 dX3_lays_9 rfl ?_
    refine wp_getf dX3_lays_10 rfl q534 fk4_3 (cg_15 hE.X) rfl ?_
    rw [show C.1 3 = nI m from hn]
    refine wp_bipush 60 dX3_lays_13 rfl rfl ?_
    refine wp_icmp_ge_k 147 dX3_lays_15 rfl rfl (b := 60) (by omega) (by omega) (fun c15 => ?_) (fun c15 => ?_)
    · exact absurd c15 (by omega)
    · refine wp_iload_1 dX3_lays_18 rfl ?_
      refine wp_aload_0 dX3_lays_19 rfl ?_
      refine wp_getf dX3_lays_20 rfl q540 fk4_4 (cg_15 hE.X) rfl ?_
      refine wp_getfN dX3_lays_23 rfl q718 fk0_1 hE.o0 rfl ?_
      refine wp_getfN dX3_lays_26 rfl q454 fk2_6 hE.ob rfl ?_
      rw [hE.s.tk.1]
      refine wp_icmp_ge_k 147 dX3_lays_29 rfl rfl (by omega) (by omega) (fun c29 => ?_) (fun c29 => ?_)
      · refine wp_aload_0 dX3_lays_147 rfl ?_
        exact wp_areturn_r dX3_lays_148 rfl (Or.inl ⟨_, rfl⟩) (hq C (by rw [lay_end hE.s hN (Or.inl (by rw [hk]; simp; omega))]; exact hG) hK)
      · refine wp_iload_1 dX3_lays_32 rfl ?_
        refine wp_aload_0 dX3_lays_33 rfl ?_
        refine wp_getf dX3_lays_34 rfl q540 fk4_4 (cg_15 hE.X) rfl ?_
        refine wp_getfN dX3_lays_37 rfl q718 fk0_1 hE.o0 rfl ?_
        refine wp_iload_1 dX3_lays_40 rfl ?_
        refine wp_cvR dX3_lays_41 rfl q1255 mv_X2_stay hE.ob rfl rfl (b_stay hE.B hE.t hE.s) rfl rfl (Nat.le_of_ble_eq_true rfl) (Nat.le_of_ble_eq_true rfl) ?_
        rw [es]
        refine wp_iadd dX3_lays_44 rfl ?_
        rw [nI_add]
        refine wp_aload_0 dX3_lays_45 rfl ?_
        refine wp_getf dX3_lays_46 rfl q540 fk4_4 (cg_15 hE.X) rfl ?_
        refine wp_getfN dX3_lays_49 rfl q718 fk0_1 hE.o0 rfl ?_
        refine wp_getfN dX3_lays_52 rfl q454 fk2_6 hE.ob rfl ?_
        rw [hE.s.tk.1]
        refine wp_icmp_gt_k 147 dX3_lays_55 rfl rfl (by omega) (by omega) (fun c55 => ?_) (fun c55 => ?_)
        · refine wp_aload_0 dX3_lays_147 rfl ?_
          exact wp_areturn_r dX3_lays_148 rfl (Or.inl ⟨_, rfl⟩) (hq C (by rw [lay_end hE.s hN (Or.inl (by rw [hk]; simp; omega))]; exact hG) hK)
        · rcases Nat.eq_zero_or_pos (nW W 5) with h5 | h5
          · refine wp_aload_0 dX3_lays_58 rfl ?_
            refine wp_UxR dX3_lays_59 rfl q1256 mu_X4_next_X4 (cg_15 hE.X) rfl rfl (c_nextD0 hE h5) rfl rfl (Nat.le_of_ble_eq_true rfl) (Nat.le_of_ble_eq_true rfl) (Nat.zero_le _) (Nat.zero_le _) ?_
            refine wp_dup dX3_lays_62 rfl rfl ?_
            refine wp_astoreN_2 dX3_lays_63 rfl (by decide) rfl ?_
            refine wp_ifnull_n 147 dX3_lays_64 rfl rfl ?_
            refine wp_aload_0 dX3_lays_147 rfl ?_
            exact wp_areturn_r dX3_lays_148 rfl (Or.inl ⟨_, rfl⟩) (hq C (by rw [lay_end hE.s hN (Or.inr h5)]; exact hG) hK)
          · refine wp_aload_0 dX3_lays_58 rfl ?_
            refine wp_UxR dX3_lays_59 rfl q1256 mu_X4_next_X4 (cg_15 hE.X) rfl rfl (c_nextD1 hE h5 hG.1 (by omega)) rfl rfl (Nat.le_of_ble_eq_true rfl) (Nat.le_of_ble_eq_true rfl) (Nat.zero_le _) (Nat.zero_le _) ?_
            have hj : dgI W m < nW W 5 := Nat.mod_lt _ h5
            refine wp_dup dX3_lays_62 rfl rfl ?_
            refine wp_astore_2 dX3_lays_63 rfl (by decide) rfl ?_
            refine wp_ifnull_r dX3_lays_64 rfl ?_
            refine wp_aload_0 dX3_lays_67 rfl ?_
            refine wp_getf dX3_lays_68 rfl q521 fk4_0 (cg_15 hE.X) rfl ?_
            refine wp_aload_0 dX3_lays_71 rfl ?_
            refine wp_getf dX3_lays_72 rfl q534 fk4_3 (cg_15 hE.X) rfl ?_
            rw [show C.1 3 = nI m from hn]
            refine wp_aload_2 dX3_lays_75 rfl ?_
            refine wp_aastore m dX3_lays_76 rfl rfl  rfl (cg_16 hE.X) (hE.mol hj) (nI_clamp (by omega)) (vp_in_nI (show m < 60 by omega) (by omega)) cs_16 ?_
            refine wp_aload_0 dX3_lays_77 rfl ?_
            refine wp_getf dX3_lays_78 rfl q522 fk4_1 (cg_15 hE.X) rfl ?_
            refine wp_aload_0 dX3_lays_81 rfl ?_
            refine wp_getf dX3_lays_82 rfl q534 fk4_3 (cg_15 hE.X) rfl ?_
            rw [show (cM 16 m (some (A.mo (dgI W m))) C).1 3 = nI m from hn]
            refine wp_iload_1 dX3_lays_85 rfl ?_
            refine wp_iastoren m dX3_lays_86 rfl (cg_17 hE.X) rfl (by omega) (by decide) cs_17 ?_
            refine wp_aload_0 dX3_lays_87 rfl ?_
            refine wp_getf dX3_lays_88 rfl q527 fk4_2 (cg_15 hE.X) rfl ?_
            refine wp_aload_0 dX3_lays_91 rfl ?_
            refine wp_getf dX3_lays_92 rfl q534 fk4_3 (cg_15 hE.X) rfl ?_
            rw [show (cA 17 m (nI t) (cM 16 m (some (A.mo (dgI W m))) C)).1 3 = nI m from hn]
            refine wp_iload_1 dX3_lays_95 rfl ?_
            refine wp_aload_0 dX3_lays_96 rfl ?_
            refine wp_getf dX3_lays_97 rfl q540 fk4_4 (cg_15 hE.X) rfl ?_
            refine wp_getfN dX3_lays_100 rfl q718 fk0_1 hE.o0 rfl ?_
            refine wp_iload_1 dX3_lays_103 rfl ?_
            refine wp_cvR dX3_lays_104 rfl q1255 mv_X2_stay hE.ob rfl rfl (b_stay hE.B hE.t hE.s) rfl rfl (Nat.le_of_ble_eq_true rfl) (Nat.le_of_ble_eq_true rfl) ?_
            rw [es]
            refine wp_iadd dX3_lays_107 rfl ?_
            rw [nI_add]
            refine wp_iconst 1 dX3_lays_108 rfl rfl ?_
            refine wp_isub dX3_lays_109 rfl ?_
            refine wp_iastoren m dX3_lays_110 rfl (cg_18 hE.X) rfl (by omega) (by decide) cs_18 ?_
            refine wp_aload_0 dX3_lays_111 rfl ?_
            refine wp_getf dX3_lays_112 rfl q527 fk4_2 (cg_15 hE.X) rfl ?_
            refine wp_aload_0 dX3_lays_115 rfl ?_
            refine wp_getf dX3_lays_116 rfl q534 fk4_3 (cg_15 hE.X) rfl ?_
            rw [show (cA 18 m (nI (t + s) - 1) (cA 17 m (nI t) (cM 16 m (some (A.mo (dgI W m))) C))).1 3 = nI m from hn]
            refine wp_ialoadn m dX3_lays_119 rfl (cg_18 hE.X) rfl (by omega) (by decide) ?_
            rw [cA_s]
            refine wp_aload_0 dX3_lays_120 rfl ?_
            refine wp_getf dX3_lays_121 rfl q540 fk4_4 (cg_15 hE.X) rfl ?_
            refine wp_getfN dX3_lays_124 rfl q718 fk0_1 hE.o0 rfl ?_
            refine wp_getfN dX3_lays_127 rfl q458 fk2_7 hE.ob rfl ?_
            refine wp_iadd dX3_lays_130 rfl ?_
            refine wp_iconst 1 dX3_lays_131 rfl rfl ?_
            refine wp_iadd dX3_lays_132 rfl ?_
            refine wp_istore_1 dX3_lays_133 rfl (by decide) rfl ?_
            refine wp_aload_0 dX3_lays_134 rfl ?_
            refine wp_dup dX3_lays_135 rfl rfl ?_
            refine wp_getf dX3_lays_136 rfl q534 fk4_3 (cg_15 hE.X) rfl ?_
            rw [show (cA 18 m (nI (t + s) - 1) (cA 17 m (nI t) (cM 16 m (some (A.mo (dgI W m))) C))).1 3 = nI m from hn]
            refine wp_iconst 1 dX3_lays_139 rfl rfl ?_
            refine wp_iadd dX3_lays_140 rfl ?_
            refine wp_putfG dX3_lays_141 rfl q534 fg4_3 (cg_15 hE.X) rfl rfl (Nat.le_of_ble_eq_true rfl) cs_15_3 ?_
            refine wp_goto 9 dX3_lays_144 rfl rfl ?_
            have hm : mayK W m = true := by rw [hk]; simp; omega
            exact WP.cast (by rw [gT, et, es, nI_add]) (ih _ (m + 1) _ (by omega) (hE.to rfl) (hG.up (by decide) (by omega) ⟨hE.B.dy.dyn (hE.B.mo _ hj).2.2.1 (hE.B.mo _ hj).2.2.2, (hE.B.mo _ hj).2.1⟩ et.symm (by show _ = gTe W m; unfold gTe; rw [et, es, nI_add])) ((((hK.M _ _ (by decide)).A _ _ (by decide)).A _ _ (by decide)).F _ (by decide)) (fun j hj => by rcases Nat.lt_succ_iff_lt_or_eq.mp hj with q | q; exact hM j q; rw [q]; exact hm) (hN.elim (fun q => Or.inl ⟨q.1, by rw [← q.2, itr_c hm]⟩) (fun q => absurd h5 (by omega))) hq)
theorem lay_ini {W : Nat → Int32} (hs : WFs W) : (0 < nW W 5 ∧ cntK (mayK W) 60 0 = dgM W) ∨ (nW W 5 = 0 ∧ 0 = 0) := by
  rcases Nat.eq_zero_or_pos (nW W 5) with q | q
  · exact Or.inr ⟨q, rfl⟩
  · refine Or.inl ⟨q, ?_⟩
    unfold dgM
    rw [hs.nc.1, if_pos (show (0 : Int32) < nI (nW W 5) from nI_lt (a := 0) q (by have := hs.nc.2; omega))]
theorem GM.nil {mi ma fi la : Nat} {C : SC} {X : AH} {G : GF} (h : C.1 mi = 0) : GM mi ma fi la C X (0, G) := ⟨h, Nat.zero_le 60, fun i hi => absurd hi (Nat.not_lt_zero i)⟩
theorem c_layD {g : GW} {C : SC} {S : SM} {X : AH} {lo hi b : Nat} {A : BA} {W : Nat → Int32} (hE : EV C X lo hi b A W)  : SP g 6 0 0 yX3_lays cX3_lays 3 (some (.object "MoleBoard$Game")) [.ref 15] (cH C S X) (fun v h1 => v = some (.ref 15) ∧ LD C S X W h1) := by
  refine SP.intro [some (.ref 15), none, none] (pfn (by decide)) rfl (Nat.le_of_ble_eq_true rfl) ?_
  refine wp_aload_0 dX3_lays_0 rfl ?_
  refine wp_iconst 0 dX3_lays_1 rfl rfl ?_
  refine wp_putfG dX3_lays_2 rfl q534 fg4_3 (cg_15 hE.X) rfl rfl (Nat.le_of_ble_eq_true rfl) cs_15_3 ?_
  refine wp_iconst 0 dX3_lays_5 rfl rfl ?_
  refine wp_istore_1 dX3_lays_6 rfl (by decide) rfl ?_
  refine wp_null dX3_lays_7 rfl ?_
  refine wp_astoreN_2 dX3_lays_8 rfl (by decide) rfl ?_
  exact cL_layD 60 (cF 3 0 C) 0 (some .null) rfl (hE.to rfl) (GM.nil rfl) ((CK.rf _ _ _ _ _ C).F _ (by decide)) (fun j hj => absurd hj (Nat.not_lt_zero j)) (lay_ini hE.s) (fun C1 h1 h2 => ⟨rfl, C1, rfl, h1, h2⟩)
theorem c_game {g : GW} {C : SC} {S : SM} {X : AH} {lo hi b : Nat} {A : BA} {W : Nat → Int32} (hE : EV C X lo hi b A W)  : SP g 7 0 0 yX0_game cX0_game 1 (some (.object "MoleBoard$Game")) [.ref 0] (cH C S X) (fun v h1 => v = some (.ref 15) ∧ LD C S X W h1) := by
  refine SP.intro [some (.ref 0)] (pfn (by decide)) rfl (Nat.le_of_ble_eq_true rfl) ?_
  refine wp_aload_0 dX0_game_0 rfl ?_
  refine wp_getf dX0_game_1 rfl q727 fk0_7 hE.o0 rfl ?_
  refine wp_UeR dX0_game_4 rfl q1249 mu_X3_lays_X4 (cg_15 hE.X) rfl rfl (c_layD hE) rfl rfl (Nat.le_of_ble_eq_true rfl) (Nat.le_of_ble_eq_true rfl) (Nat.zero_le _) (Nat.zero_le _) (fun h1 hq => ?_)
  obtain ⟨C, rfl, hG, hK⟩ := hq
  exact wp_areturn_r dX0_game_7 rfl (Or.inl ⟨_, rfl⟩) ⟨rfl, C, rfl, hG, hK⟩
theorem c_gmole4 {g : GW} {C : SC} {S : SM} {X : AH} (hX : 108 ≤ X.length) {i m : Nat} (hi : i < 60) (hm : C.2.2.2.2.1 16 i = some m) : SPx g 1 0 0 yX3_mole cX3_mole 2 (some (.object "MoleBoard$Mole")) [.ref 15, .int (nI i)] (cH C S X) (some (.ref m)) (cH C S X) := by
  refine SPx.intro [some (.ref 15), some (.int (nI i))] (pfn (by decide)) rfl (Nat.le_of_ble_eq_true rfl) ?_
  refine wp_aload_0 dX3_mole_0 rfl ?_
  refine wp_getf dX3_mole_1 rfl q521 fk4_0 (cg_15 hX) rfl ?_
  refine wp_iload_1 dX3_mole_4 rfl ?_
  refine wp_aaload i dX3_mole_5 rfl rfl rfl (cg_16 hX) (nI_clamp (by omega)) (vp_in_nI hi (by omega)) ?_
  rw [hm]
  exact wp_areturn_r dX3_mole_6 rfl (Or.inl ⟨_, rfl⟩) ⟨rfl, rfl⟩
theorem c_isUp4 {g : GW} {C : SC} {S : SM} {X : AH} (hX : 108 ≤ X.length) {G : GA} (hG : GM 3 16 17 18 C X G) {i : Nat} (hi : i < G.1) {t : Int32} : SPx g 2 0 0 yX3_isUp cX3_isUp 3 (some .boolean) [.ref 15, .int (nI i), .int t] (cH C S X) (some (.int (b2i (inL t.toInt64 (gF G.2 i).toInt64 (gE G.2 i).toInt64)))) (cH C S X) := by
  refine SPx.intro [some (.ref 15), some (.int (nI i)), some (.int t)] (pfn (by decide)) rfl (Nat.le_of_ble_eq_true rfl) ?_
  have h60 := hG.2.1
  refine wp_iload_2 dX3_isUp_0 rfl ?_
  refine wp_i2l dX3_isUp_1 rfl ?_
  refine wp_aload_0 dX3_isUp_2 rfl ?_
  refine wp_getf dX3_isUp_3 rfl q522 fk4_1 (cg_15 hX) rfl ?_
  refine wp_iload_1 dX3_isUp_6 rfl ?_
  refine wp_ialoadn i dX3_isUp_7 rfl (cg_17 hX) rfl (by omega) (by decide) ?_
  rw [hG.f hi]
  refine wp_i2l dX3_isUp_8 rfl ?_
  refine wp_aload_0 dX3_isUp_9 rfl ?_
  refine wp_getf dX3_isUp_10 rfl q527 fk4_2 (cg_15 hX) rfl ?_
  refine wp_iload_1 dX3_isUp_13 rfl ?_
  refine wp_ialoadn i dX3_isUp_14 rfl (cg_18 hX) rfl (by omega) (by decide) ?_
  rw [hG.e hi]
  refine wp_i2l dX3_isUp_15 rfl ?_
  refine wp_SNxR dX3_isUp_16 rfl q1312 ms_X0_in c_in rfl rfl (Nat.le_of_ble_eq_true rfl) (Nat.le_of_ble_eq_true rfl) (Nat.zero_le _) (Nat.zero_le _) ?_
  exact wp_zreturn dX3_isUp_19 rfl (nz_b2i _) ⟨rfl, rfl⟩
theorem c_awareOf4 {g : GW} {C : SC} {S : SM} {X : AH} (hX : 108 ≤ X.length) {G : GA} (hG : GM 3 16 17 18 C X G) {i w p : Nat} (hi : i < G.1) (hw : w < 1000) {lag : Int32} {z : Int32 × Int32 × Int32} : SPx g 2 0 0 yX0_awareOf cX0_awareOf 5 (some .int) [.ref 15, .int lag, .int (nI w), .int (nI i)] (cH C S X) (some (.int (awR G.2 ((p, w), lag, z) i))) (cH C S X) := by
  refine SPx.intro [some (.ref 15), some (.int lag), some (.int (nI w)), some (.int (nI i)), none] (pfn (by decide)) rfl (Nat.le_of_ble_eq_true rfl) ?_
  have h60 := hG.2.1
  refine wp_aload_0 dX0_awareOf_0 rfl ?_
  refine wp_getf dX0_awareOf_1 rfl q526 fk4_1 (cg_15 hX) rfl ?_
  refine wp_iload_3 dX0_awareOf_4 rfl ?_
  refine wp_ialoadn i dX0_awareOf_5 rfl (cg_17 hX) rfl (by omega) (by decide) ?_
  rw [hG.f hi]
  refine wp_iload_1 dX0_awareOf_6 rfl ?_
  refine wp_iadd dX0_awareOf_7 rfl ?_
  refine wp_istore_4 dX0_awareOf_8 rfl (by decide) rfl ?_
  refine wp_iload_2 dX0_awareOf_10 rfl ?_
  refine wp_if_ne_k 19 dX0_awareOf_11 rfl rfl (by omega) (fun c11 => ?_) (fun c11 => ?_)
  · refine wp_iload_4 dX0_awareOf_19 rfl ?_
    refine wp_iload_3 dX0_awareOf_21 rfl ?_
    refine wp_iload_2 dX0_awareOf_22 rfl ?_
    refine wp_icmp_ge_k 30 dX0_awareOf_23 rfl rfl (by omega) (by omega) (fun c23 => ?_) (fun c23 => ?_)
    · refine wp_aload_0 dX0_awareOf_30 rfl ?_
      refine wp_getf dX0_awareOf_31 rfl q526 fk4_1 (cg_15 hX) rfl ?_
      refine wp_iload_3 dX0_awareOf_34 rfl ?_
      refine wp_iload_2 dX0_awareOf_35 rfl ?_
      refine wp_isub dX0_awareOf_36 rfl ?_
      rw [pk_sub (show w ≤ i by omega)]
      refine wp_ialoadn (i - w) dX0_awareOf_37 rfl (cg_17 hX) rfl (by omega) (by decide) ?_
      rw [hG.f (show i - w < G.1 by omega)]
      refine wp_csR dX0_awareOf_38 rfl q1345 ms_J3_min j_min rfl rfl (Nat.le_of_ble_eq_true rfl) (Nat.le_of_ble_eq_true rfl) ?_
      exact wp_ireturn dX0_awareOf_41 rfl ⟨by first | (simp [awR, *]; done) | (simp [awR, *, Nat.not_lt.mpr c23]; done) | (simp [awR, *, Nat.not_le.mp c23]), rfl⟩
    · refine wp_iconst 0 dX0_awareOf_26 rfl rfl ?_
      refine wp_goto 38 dX0_awareOf_27 rfl rfl ?_
      refine wp_csR dX0_awareOf_38 rfl q1345 ms_J3_min j_min rfl rfl (Nat.le_of_ble_eq_true rfl) (Nat.le_of_ble_eq_true rfl) ?_
      exact wp_ireturn dX0_awareOf_41 rfl ⟨by first | (simp [awR, *]; done) | (simp [awR, *, Nat.not_lt.mpr c23]; done) | (simp [awR, *, Nat.not_le.mp c23]), rfl⟩
  · refine wp_iload_4 dX0_awareOf_14 rfl ?_
    refine wp_goto 41 dX0_awareOf_16 rfl rfl ?_
    exact wp_ireturn dX0_awareOf_41 rfl ⟨by first | (simp [awR, *]; done) | (simp [awR, *, Nat.not_lt.mpr c23]; done) | (simp [awR, *, Nat.not_le.mp c23]), rfl⟩
theorem c_gmole5 {g : GW} {C : SC} {S : SM} {X : AH} (hX : 108 ≤ X.length) {i m : Nat} (hi : i < 60) (hm : C.2.2.2.2.1 20 i = some m) : SPx g 1 0 0 yX3_mole cX3_mole 2 (some (.object "MoleBoard$Mole")) [.ref 19, .int (nI i)] (cH C S X) (some (.ref m)) (cH C S X) := by
  refine SPx.intro [some (.ref 19), some (.int (nI i))] (pfn (by decide)) rfl (Nat.le_of_ble_eq_true rfl) ?_
  refine wp_aload_0 dX3_mole_0 rfl ?_
  refine wp_getf dX3_mole_1 rfl q521 fk5_0 (cg_19 hX) rfl ?_
  refine wp_iload_1 dX3_mole_4 rfl ?_
  refine wp_aaload i dX3_mole_5 rfl rfl rfl (cg_20 hX) (nI_clamp (by omega)) (vp_in_nI hi (by omega)) ?_
  rw [hm]
  exact wp_areturn_r dX3_mole_6 rfl (Or.inl ⟨_, rfl⟩) ⟨rfl, rfl⟩
theorem c_isUp5 {g : GW} {C : SC} {S : SM} {X : AH} (hX : 108 ≤ X.length) {G : GA} (hG : GM 4 20 21 22 C X G) {i : Nat} (hi : i < G.1) {t : Int32} : SPx g 2 0 0 yX3_isUp cX3_isUp 3 (some .boolean) [.ref 19, .int (nI i), .int t] (cH C S X) (some (.int (b2i (inL t.toInt64 (gF G.2 i).toInt64 (gE G.2 i).toInt64)))) (cH C S X) := by
  refine SPx.intro [some (.ref 19), some (.int (nI i)), some (.int t)] (pfn (by decide)) rfl (Nat.le_of_ble_eq_true rfl) ?_
  have h60 := hG.2.1
  refine wp_iload_2 dX3_isUp_0 rfl ?_
  refine wp_i2l dX3_isUp_1 rfl ?_
  refine wp_aload_0 dX3_isUp_2 rfl ?_
  refine wp_getf dX3_isUp_3 rfl q522 fk5_1 (cg_19 hX) rfl ?_
  refine wp_iload_1 dX3_isUp_6 rfl ?_
  refine wp_ialoadn i dX3_isUp_7 rfl (cg_21 hX) rfl (by omega) (by decide) ?_
  rw [hG.f hi]
  refine wp_i2l dX3_isUp_8 rfl ?_
  refine wp_aload_0 dX3_isUp_9 rfl ?_
  refine wp_getf dX3_isUp_10 rfl q527 fk5_2 (cg_19 hX) rfl ?_
  refine wp_iload_1 dX3_isUp_13 rfl ?_
  refine wp_ialoadn i dX3_isUp_14 rfl (cg_22 hX) rfl (by omega) (by decide) ?_
  rw [hG.e hi]
  refine wp_i2l dX3_isUp_15 rfl ?_
  refine wp_SNxR dX3_isUp_16 rfl q1312 ms_X0_in c_in rfl rfl (Nat.le_of_ble_eq_true rfl) (Nat.le_of_ble_eq_true rfl) (Nat.zero_le _) (Nat.zero_le _) ?_
  exact wp_zreturn dX3_isUp_19 rfl (nz_b2i _) ⟨rfl, rfl⟩
theorem c_awareOf5 {g : GW} {C : SC} {S : SM} {X : AH} (hX : 108 ≤ X.length) {G : GA} (hG : GM 4 20 21 22 C X G) {i w p : Nat} (hi : i < G.1) (hw : w < 1000) {lag : Int32} {z : Int32 × Int32 × Int32} : SPx g 2 0 0 yX0_awareOf cX0_awareOf 5 (some .int) [.ref 19, .int lag, .int (nI w), .int (nI i)] (cH C S X) (some (.int (awR G.2 ((p, w), lag, z) i))) (cH C S X) := by
  refine SPx.intro [some (.ref 19), some (.int lag), some (.int (nI w)), some (.int (nI i)), none] (pfn (by decide)) rfl (Nat.le_of_ble_eq_true rfl) ?_
  have h60 := hG.2.1
  refine wp_aload_0 dX0_awareOf_0 rfl ?_
  refine wp_getf dX0_awareOf_1 rfl q526 fk5_1 (cg_19 hX) rfl ?_
  refine wp_iload_3 dX0_awareOf_4 rfl ?_
  refine wp_ialoadn i dX0_awareOf_5 rfl (cg_21 hX) rfl (by omega) (by decide) ?_
  rw [hG.f hi]
  refine wp_iload_1 dX0_awareOf_6 rfl ?_
  refine wp_iadd dX0_awareOf_7 rfl ?_
  refine wp_istore_4 dX0_awareOf_8 rfl (by decide) rfl ?_
  refine wp_iload_2 dX0_awareOf_10 rfl ?_
  refine wp_if_ne_k 19 dX0_awareOf_11 rfl rfl (by omega) (fun c11 => ?_) (fun c11 => ?_)
  · refine wp_iload_4 dX0_awareOf_19 rfl ?_
    refine wp_iload_3 dX0_awareOf_21 rfl ?_
    refine wp_iload_2 dX0_awareOf_22 rfl ?_
    refine wp_icmp_ge_k 30 dX0_awareOf_23 rfl rfl (by omega) (by omega) (fun c23 => ?_) (fun c23 => ?_)
    · refine wp_aload_0 dX0_awareOf_30 rfl ?_
      refine wp_getf dX0_awareOf_31 rfl q526 fk5_1 (cg_19 hX) rfl ?_
      refine wp_iload_3 dX0_awareOf_34 rfl ?_
      refine wp_iload_2 dX0_awareOf_35 rfl ?_
      refine wp_isub dX0_awareOf_36 rfl ?_
      rw [pk_sub (show w ≤ i by omega)]
      refine wp_ialoadn (i - w) dX0_awareOf_37 rfl (cg_21 hX) rfl (by omega) (by decide) ?_
      rw [hG.f (show i - w < G.1 by omega)]
      refine wp_csR dX0_awareOf_38 rfl q1345 ms_J3_min j_min rfl rfl (Nat.le_of_ble_eq_true rfl) (Nat.le_of_ble_eq_true rfl) ?_
      exact wp_ireturn dX0_awareOf_41 rfl ⟨by first | (simp [awR, *]; done) | (simp [awR, *, Nat.not_lt.mpr c23]; done) | (simp [awR, *, Nat.not_le.mp c23]), rfl⟩
    · refine wp_iconst 0 dX0_awareOf_26 rfl rfl ?_
      refine wp_goto 38 dX0_awareOf_27 rfl rfl ?_
      refine wp_csR dX0_awareOf_38 rfl q1345 ms_J3_min j_min rfl rfl (Nat.le_of_ble_eq_true rfl) (Nat.le_of_ble_eq_true rfl) ?_
      exact wp_ireturn dX0_awareOf_41 rfl ⟨by first | (simp [awR, *]; done) | (simp [awR, *, Nat.not_lt.mpr c23]; done) | (simp [awR, *, Nat.not_le.mp c23]), rfl⟩
  · refine wp_iload_4 dX0_awareOf_14 rfl ?_
    refine wp_goto 41 dX0_awareOf_16 rfl rfl ?_
    exact wp_ireturn dX0_awareOf_41 rfl ⟨by first | (simp [awR, *]; done) | (simp [awR, *, Nat.not_lt.mpr c23]; done) | (simp [awR, *, Nat.not_le.mp c23]), rfl⟩
