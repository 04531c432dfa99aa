/-! ===== the class: nights ===== -/
set_option maxRecDepth 100000
theorem c_mInit {g : GW} {h : AH} {a : Nat} (ha : h[a]? = some (.inr (14, [.int 0, .int 0, .int 0]))) {x z : Int32} {r : Bool}  : SPx g 2 0 0 yX13_init cX13_init 4 none [.ref a, .int x, .int z, .int (b2i r)] h none (h.set a (.inr (14, [.int x, .int z, .int (b2i r)]))) := by
  refine SPx.intro [some (.ref a), some (.int x), some (.int z), some (.int (b2i r))] (pfn (by decide)) rfl (Nat.le_of_ble_eq_true rfl) ?_
  refine wp_aload_0 dX13_init_0 rfl ?_
  refine wp_oinit dX13_init_1 rfl q1052 q_oi q_oc (Nat.le_of_ble_eq_true rfl) (Nat.le_of_ble_eq_true rfl) ?_
  refine wp_aload_0 dX13_init_4 rfl ?_
  refine wp_iload_1 dX13_init_5 rfl ?_
  refine wp_putfF dX13_init_6 rfl q1053 fp14_0 rfl rfl ha rfl rfl (Nat.le_of_ble_eq_true rfl) rfl ?_
  change WP g 2 _ _ _ _ _ _ _ (h.set a (.inr (14, [.int x, .int 0, .int 0]))) _ _ _
  refine wp_aload_0 dX13_init_9 rfl ?_
  refine wp_iload_2 dX13_init_10 rfl ?_
  refine wp_putfF dX13_init_11 rfl q1057 fp14_1 rfl rfl (List.getElem?_set_self (List.getElem?_eq_some_iff.mp ha).1) rfl rfl (Nat.le_of_ble_eq_true rfl) (List.set_set _) ?_
  change WP g 2 _ _ _ _ _ _ _ (h.set a (.inr (14, [.int x, .int z, .int 0]))) _ _ _
  refine wp_aload_0 dX13_init_14 rfl ?_
  refine wp_iload_3 dX13_init_15 rfl ?_
  refine wp_putf dX13_init_16 rfl q1061 fp14_2 (List.getElem?_set_self (List.getElem?_eq_some_iff.mp ha).1) (nz_b2i _) (by cases r <;> rfl) (Nat.le_of_ble_eq_true rfl) (List.set_set _) ?_
  exact wp_return dX13_init_19 rfl ⟨rfl, rfl⟩
set_option maxHeartbeats 4000000
theorem cL_nx1 {g : GW} {C : SC} {S : SM} {X : AH} {lo hi b : Nat} {A : BA} {W : Nat → Int32} (hE : EV C X lo hi b A W) {law : Int32} {m : Nat} {f : Nat → Int32} (hm : m ≤ 60) (h0 : ¬ W 0 = 0) (hn : C.1 4 = nI m) (hlw : C.1 5 = law) (hrw : ∀ j, j < m → C.2.1 23 j = f j) (hf : ∀ j, j < m → ¬ f j = -1) {c n : Nat} {Q : Option Value → AH → Prop} : ∀ (k : Nat) (i : Nat) (a : Int32) (v3 : Option Value), i + k = hoN W → (∀ v2 v3, WP g 5 yX5_next cX5_next 4 (some (.object "MoleBoard$Mole")) 92 [some (.ref 19), some (.int (itr (ctF (leP W law (onN f m) (twN f m))) k i a)), v2, v3] [] (cH C S X) c n Q) → WP g 5 yX5_next cX5_next 4 (some (.object "MoleBoard$Mole")) 4 [some (.ref 19), some (.int a), some (.int (nI i)), v3] [] (cH C S X) c n Q := by
  intro k
  induction k with
  | zero =>
    intro i a v3 hi hq
    refine wp_iload_2 dX5_next_4 rfl ?_
    refine wp_aload_0 dX5_next_5 rfl ?_
    refine wp_getf dX5_next_6 rfl q563 fk5_8 (cg_19 hE.X) rfl ?_
    refine wp_getfN dX5_next_9 rfl q717 fk0_1 hE.o0 rfl ?_
    refine wp_cvR dX5_next_12 rfl q1269 mv_X2_holes hE.ob rfl rfl (b_holes hE.B) rfl rfl (Nat.le_of_ble_eq_true rfl) (Nat.le_of_ble_eq_true rfl) ?_
    rw [hE.s.ho]
    refine wp_icmp_ge_k 92 dX5_next_15 rfl rfl (by have := hE.s.ho12; omega) (by have := hE.s.ho12; omega) (fun c15 => ?_) (fun c15 => ?_)
    · exact hq _ _
    · exact absurd c15 (by omega)
  | succ k ih =>
    intro i a v3 hi hq
    refine wp_iload_2 dX5_next_4 rfl ?_
    refine wp_aload_0 dX5_next_5 rfl ?_
    refine wp_getf dX5_next_6 rfl q563 fk5_8 (cg_19 hE.X) rfl ?_
    refine wp_getfN dX5_next_9 rfl q717 fk0_1 hE.o0 rfl ?_
    refine wp_cvR dX5_next_12 rfl q1269 mv_X2_holes hE.ob rfl rfl (b_holes hE.B) rfl rfl (Nat.le_of_ble_eq_true rfl) (Nat.le_of_ble_eq_true rfl) ?_
    rw [hE.s.ho]
    refine wp_icmp_ge_k 92 dX5_next_15 rfl rfl (by have := hE.s.ho12; omega) (by have := hE.s.ho12; omega) (fun c15 => ?_) (fun c15 => ?_)
    · exact absurd c15 (by omega)
    · refine wp_iload_1 dX5_next_18 rfl ?_
      refine wp_aload_0 dX5_next_19 rfl ?_
      refine wp_getf dX5_next_20 rfl q563 fk5_8 (cg_19 hE.X) rfl ?_
      refine wp_iload_2 dX5_next_23 rfl ?_
      refine wp_aload_0 dX5_next_24 rfl ?_
      refine wp_getf dX5_next_25 rfl q561 fk5_6 (cg_19 hE.X) rfl ?_
      rw [hlw]
      refine wp_aload_0 dX5_next_28 rfl ?_
      refine wp_getf dX5_next_29 rfl q536 fks5_3 (cg_19 hE.X) rfl ?_
      rw [hn]
      refine wp_if_le 49 dX5_next_32 rfl rfl (fun c32 => ?_) (fun c32 => ?_)
      · have c32 : m = 0 := (le0_n hm).mp c32
        refine wp_iconst (-1) dX5_next_49 rfl rfl ?_
        refine wp_aload_0 dX5_next_50 rfl ?_
        refine wp_getf dX5_next_51 rfl q536 fks5_3 (cg_19 hE.X) rfl ?_
        rw [hn]
        refine wp_iconst 1 dX5_next_54 rfl rfl ?_
        refine wp_icmp_le 72 dX5_next_55 rfl rfl (fun c55 => ?_) (fun c55 => ?_)
        · have c55 : m ≤ 1 := (le1_n hm).mp c55
          refine wp_iconst (-1) dX5_next_72 rfl rfl ?_
          refine wp_VNxR dX5_next_73 rfl q1270 mv_X0_mayFollow hE.o0 rfl rfl (c_mayFollow hE h0 (nI_m1 (by have := hE.s.ho12; omega)) (fun _ => nI_m1 (by have := hE.s.ho12; omega))) rfl rfl (Nat.le_of_ble_eq_true rfl) (Nat.le_of_ble_eq_true rfl) (Nat.zero_le _) (Nat.zero_le _) ?_
          refine wp_ifeq_b 83 dX5_next_76 rfl rfl (fun c76 => ?_) (fun c76 => ?_)
          · have c76 : (leP W law (onN f m) (twN f m)) i = false := by rw [leP, show (onN f m) = -1 from if_pos (by omega), show (twN f m) = -1 from if_pos (by omega)]; exact c76
            refine wp_iconst 0 dX5_next_83 rfl rfl ?_
            refine wp_iadd dX5_next_84 rfl ?_
            refine wp_istore_1 dX5_next_85 rfl (by decide) rfl ?_
            refine wp_iinc_2 1 dX5_next_86 rfl rfl (by decide) rfl ?_
            refine wp_goto 4 dX5_next_89 rfl rfl ?_
            have e9 : ctF (leP W law (onN f m) (twN f m)) i a = a + 0 := by rw [ctF, c76]; rfl
            exact WP.cast (by rw [e9, nI_1]) (ih (i + 1) (ctF (leP W law (onN f m) (twN f m)) i a) _ (by omega) hq)
          · have c76 : (leP W law (onN f m) (twN f m)) i = true := by rw [leP, show (onN f m) = -1 from if_pos (by omega), show (twN f m) = -1 from if_pos (by omega)]; exact c76
            refine wp_iconst 1 dX5_next_79 rfl rfl ?_
            refine wp_goto 84 dX5_next_80 rfl rfl ?_
            refine wp_iadd dX5_next_84 rfl ?_
            refine wp_istore_1 dX5_next_85 rfl (by decide) rfl ?_
            refine wp_iinc_2 1 dX5_next_86 rfl rfl (by decide) rfl ?_
            refine wp_goto 4 dX5_next_89 rfl rfl ?_
            have e9 : ctF (leP W law (onN f m) (twN f m)) i a = a + 1 := by rw [ctF, c76]; rfl
            exact WP.cast (by rw [e9, nI_1]) (ih (i + 1) (ctF (leP W law (onN f m) (twN f m)) i a) _ (by omega) hq)
        · exact absurd ((le1_n hm).mpr (by omega)) c55
      · have c32 : 0 < m := Nat.pos_of_ne_zero (fun q => c32 ((le0_n hm).mpr q))
        refine wp_aload_0 dX5_next_35 rfl ?_
        refine wp_getf dX5_next_36 rfl q560 fk5_5 (cg_19 hE.X) rfl ?_
        refine wp_aload_0 dX5_next_39 rfl ?_
        refine wp_getf dX5_next_40 rfl q536 fks5_3 (cg_19 hE.X) rfl ?_
        rw [hn]
        refine wp_iconst 1 dX5_next_43 rfl rfl ?_
        refine wp_isub dX5_next_44 rfl ?_
        rw [show nI m - 1 = nI (m - 1) from pk_sub (b := 1) (by omega)]
        refine wp_ialoadn (m - 1) dX5_next_45 rfl (cg_23 hE.X) rfl (by omega) (by decide) ?_
        rw [hrw (m - 1) (by omega)]
        refine wp_goto 50 dX5_next_46 rfl rfl ?_
        refine wp_aload_0 dX5_next_50 rfl ?_
        refine wp_getf dX5_next_51 rfl q536 fks5_3 (cg_19 hE.X) rfl ?_
        rw [hn]
        refine wp_iconst 1 dX5_next_54 rfl rfl ?_
        refine wp_icmp_le 72 dX5_next_55 rfl rfl (fun c55 => ?_) (fun c55 => ?_)
        · have c55 : m ≤ 1 := (le1_n hm).mp c55
          refine wp_iconst (-1) dX5_next_72 rfl rfl ?_
          refine wp_VNxR dX5_next_73 rfl q1270 mv_X0_mayFollow hE.o0 rfl rfl (c_mayFollow hE h0 (nI_m1 (by have := hE.s.ho12; omega)) (fun q => absurd q (hf _ (by omega)))) rfl rfl (Nat.le_of_ble_eq_true rfl) (Nat.le_of_ble_eq_true rfl) (Nat.zero_le _) (Nat.zero_le _) ?_
          refine wp_ifeq_b 83 dX5_next_76 rfl rfl (fun c76 => ?_) (fun c76 => ?_)
          · have c76 : (leP W law (onN f m) (twN f m)) i = false := by rw [leP, show (onN f m) = f (m - 1) from if_neg (by omega), show (twN f m) = -1 from if_pos (by omega)]; exact c76
            refine wp_iconst 0 dX5_next_83 rfl rfl ?_
            refine wp_iadd dX5_next_84 rfl ?_
            refine wp_istore_1 dX5_next_85 rfl (by decide) rfl ?_
            refine wp_iinc_2 1 dX5_next_86 rfl rfl (by decide) rfl ?_
            refine wp_goto 4 dX5_next_89 rfl rfl ?_
            have e9 : ctF (leP W law (onN f m) (twN f m)) i a = a + 0 := by rw [ctF, c76]; rfl
            exact WP.cast (by rw [e9, nI_1]) (ih (i + 1) (ctF (leP W law (onN f m) (twN f m)) i a) _ (by omega) hq)
          · have c76 : (leP W law (onN f m) (twN f m)) i = true := by rw [leP, show (onN f m) = f (m - 1) from if_neg (by omega), show (twN f m) = -1 from if_pos (by omega)]; exact c76
            refine wp_iconst 1 dX5_next_79 rfl rfl ?_
            refine wp_goto 84 dX5_next_80 rfl rfl ?_
            refine wp_iadd dX5_next_84 rfl ?_
            refine wp_istore_1 dX5_next_85 rfl (by decide) rfl ?_
            refine wp_iinc_2 1 dX5_next_86 rfl rfl (by decide) rfl ?_
            refine wp_goto 4 dX5_next_89 rfl rfl ?_
            have e9 : ctF (leP W law (onN f m) (twN f m)) i a = a + 1 := by rw [ctF, c76]; rfl
            exact WP.cast (by rw [e9, nI_1]) (ih (i + 1) (ctF (leP W law (onN f m) (twN f m)) i a) _ (by omega) hq)
        · have c55 : 1 < m := Nat.not_le.mp (fun q => c55 ((le1_n hm).mpr q))
          refine wp_aload_0 dX5_next_58 rfl ?_
          refine wp_getf dX5_next_59 rfl q560 fk5_5 (cg_19 hE.X) rfl ?_
          refine wp_aload_0 dX5_next_62 rfl ?_
          refine wp_getf dX5_next_63 rfl q536 fks5_3 (cg_19 hE.X) rfl ?_
          rw [hn]
          refine wp_iconst 2 dX5_next_66 rfl rfl ?_
          refine wp_isub dX5_next_67 rfl ?_
          rw [show nI m - 2 = nI (m - 2) from pk_sub (b := 2) (by omega)]
          refine wp_ialoadn (m - 2) dX5_next_68 rfl (cg_23 hE.X) rfl (by omega) (by decide) ?_
          rw [hrw (m - 2) (by omega)]
          refine wp_goto 73 dX5_next_69 rfl rfl ?_
          refine wp_VNxR dX5_next_73 rfl q1270 mv_X0_mayFollow hE.o0 rfl rfl (c_mayFollow hE h0 (nI_m1 (by have := hE.s.ho12; omega)) (fun q => absurd q (hf _ (by omega)))) rfl rfl (Nat.le_of_ble_eq_true rfl) (Nat.le_of_ble_eq_true rfl) (Nat.zero_le _) (Nat.zero_le _) ?_
          refine wp_ifeq_b 83 dX5_next_76 rfl rfl (fun c76 => ?_) (fun c76 => ?_)
          · have c76 : (leP W law (onN f m) (twN f m)) i = false := by rw [leP, show (onN f m) = f (m - 1) from if_neg (by omega), show (twN f m) = f (m - 2) from if_neg (by omega)]; exact c76
            refine wp_iconst 0 dX5_next_83 rfl rfl ?_
            refine wp_iadd dX5_next_84 rfl ?_
            refine wp_istore_1 dX5_next_85 rfl (by decide) rfl ?_
            refine wp_iinc_2 1 dX5_next_86 rfl rfl (by decide) rfl ?_
            refine wp_goto 4 dX5_next_89 rfl rfl ?_
            have e9 : ctF (leP W law (onN f m) (twN f m)) i a = a + 0 := by rw [ctF, c76]; rfl
            exact WP.cast (by rw [e9, nI_1]) (ih (i + 1) (ctF (leP W law (onN f m) (twN f m)) i a) _ (by omega) hq)
          · have c76 : (leP W law (onN f m) (twN f m)) i = true := by rw [leP, show (onN f m) = f (m - 1) from if_neg (by omega), show (twN f m) = f (m - 2) from if_neg (by omega)]; exact c76
            refine wp_iconst 1 dX5_next_79 rfl rfl ?_
            refine wp_goto 84 dX5_next_80 rfl rfl ?_
            refine wp_iadd dX5_next_84 rfl ?_
            refine wp_istore_1 dX5_next_85 rfl (by decide) rfl ?_
            refine wp_iinc_2 1 dX5_next_86 rfl rfl (by decide) rfl ?_
            refine wp_goto 4 dX5_next_89 rfl rfl ?_
            have e9 : ctF (leP W law (onN f m) (twN f m)) i a = a + 1 := by rw [ctF, c76]; rfl
            exact WP.cast (by rw [e9, nI_1]) (ih (i + 1) (ctF (leP W law (onN f m) (twN f m)) i a) _ (by omega) hq)
theorem cL_nx2 {g : GW} {C : SC} {S : SM} {X : AH} {lo hi b : Nat} {A : BA} {W : Nat → Int32} (hE : EV C X lo hi b A W) {law : Int32} {m : Nat} {f : Nat → Int32} (hm : m ≤ 60) (h0 : ¬ W 0 = 0) (hn : C.1 4 = nI m) (hlw : C.1 5 = law) (hrw : ∀ j, j < m → C.2.1 23 j = f j) (hf : ∀ j, j < m → ¬ f j = -1) {v1 : Int32} {c n : Nat} {Q : Option Value → AH → Prop} : ∀ (k i l : Nat), i + k = hoN W → l < cN (leP W law (onN f m) (twN f m)) k i → (∀ l' j, j < hoN W → (leP W law (onN f m) (twN f m)) j = true → pkK (leP W law (onN f m) (twN f m)) k i (nI l) = nI j → WP g 5 yX5_next cX5_next 4 (some (.object "MoleBoard$Mole")) 266 [some (.ref 19), some (.int v1), some (.int (nI l')), some (.int (nI j))] [] (cH C S X) c n Q) → WP g 5 yX5_next cX5_next 4 (some (.object "MoleBoard$Mole")) 133 [some (.ref 19), some (.int v1), some (.int (nI l)), some (.int (nI i))] [] (cH C S X) c n Q := by
  intro k
  induction k with
  | zero => intro i l _ hl; exact absurd hl (Nat.not_lt_zero l)
  | succ k ih =>
    intro i l hi hl hq
    have h12 := hE.s.ho12
    have hl60 : l < 1000 := by have := cN_le (leP W law (onN f m) (twN f m)) (k + 1) i; omega
    refine wp_iload_2 dX5_next_133 rfl ?_
    refine wp_if_gt 197 dX5_next_134 rfl rfl (fun c134 => ?_) (fun c134 => ?_)
    · have c134 : 0 < l := Nat.pos_of_ne_zero (fun q => by rw [q] at c134; exact absurd c134 (by decide))
      refine wp_aload_0 dX5_next_197 rfl ?_
      refine wp_getf dX5_next_198 rfl q563 fk5_8 (cg_19 hE.X) rfl ?_
      refine wp_iload_3 dX5_next_201 rfl ?_
      refine wp_aload_0 dX5_next_202 rfl ?_
      refine wp_getf dX5_next_203 rfl q561 fk5_6 (cg_19 hE.X) rfl ?_
      rw [hlw]
      refine wp_aload_0 dX5_next_206 rfl ?_
      refine wp_getf dX5_next_207 rfl q536 fks5_3 (cg_19 hE.X) rfl ?_
      rw [hn]
      refine wp_if_le 227 dX5_next_210 rfl rfl (fun c210 => ?_) (fun c210 => ?_)
      · have c210 : m = 0 := (le0_n hm).mp c210
        refine wp_iconst (-1) dX5_next_227 rfl rfl ?_
        refine wp_aload_0 dX5_next_228 rfl ?_
        refine wp_getf dX5_next_229 rfl q536 fks5_3 (cg_19 hE.X) rfl ?_
        rw [hn]
        refine wp_iconst 1 dX5_next_232 rfl rfl ?_
        refine wp_icmp_le 250 dX5_next_233 rfl rfl (fun c233 => ?_) (fun c233 => ?_)
        · have c233 : m ≤ 1 := (le1_n hm).mp c233
          refine wp_iconst (-1) dX5_next_250 rfl rfl ?_
          refine wp_VNxR dX5_next_251 rfl q1270 mv_X0_mayFollow hE.o0 rfl rfl (c_mayFollow hE h0 (nI_m1 (by have := hE.s.ho12; omega)) (fun _ => nI_m1 (by have := hE.s.ho12; omega))) rfl rfl (Nat.le_of_ble_eq_true rfl) (Nat.le_of_ble_eq_true rfl) (Nat.zero_le _) (Nat.zero_le _) ?_
          refine wp_ifeq_b 260 dX5_next_254 rfl rfl (fun c254 => ?_) (fun c254 => ?_)
          · have c254 : (leP W law (onN f m) (twN f m)) i = false := by rw [leP, show (onN f m) = -1 from if_pos (by omega), show (twN f m) = -1 from if_pos (by omega)]; exact c254
            refine wp_iinc_3 1 dX5_next_260 rfl rfl (by decide) rfl ?_
            refine wp_goto 133 dX5_next_263 rfl rfl ?_
            exact WP.cast (by rw [nI_1]) (ih (i + 1) l (by omega) (by rw [cN, if_neg (by rw [c254]; decide), Nat.zero_add] at hl; exact hl) (fun l9 j9 a1 a2 a3 => hq l9 j9 a1 a2 (by rw [pkK, if_neg (by rw [c254]; decide)]; exact a3)))
          · have c254 : (leP W law (onN f m) (twN f m)) i = true := by rw [leP, show (onN f m) = -1 from if_pos (by omega), show (twN f m) = -1 from if_pos (by omega)]; exact c254
            refine wp_iinc_2 (-1) dX5_next_257 rfl rfl (by decide) rfl ?_
            refine wp_iinc_3 1 dX5_next_260 rfl rfl (by decide) rfl ?_
            refine wp_goto 133 dX5_next_263 rfl rfl ?_
            exact WP.cast (by rw [nI_1, show nI l + -1 = nI (l - 1) by rw [← show nI l - 1 = nI (l - 1) from pk_sub (b := 1) (by omega), Int32.sub_eq_add_neg]]) (ih (i + 1) (l - 1) (by omega) (by rw [cN, if_pos c254] at hl; omega) (fun l9 j9 a1 a2 a3 => hq l9 j9 a1 a2 (by rw [pkK, if_pos c254, if_neg (nI_ne0 c134 (by omega)), show nI l - 1 = nI (l - 1) from pk_sub (b := 1) (by omega)]; exact a3)))
        · exact absurd ((le1_n hm).mpr (by omega)) c233
      · have c210 : 0 < m := Nat.pos_of_ne_zero (fun q => c210 ((le0_n hm).mpr q))
        refine wp_aload_0 dX5_next_213 rfl ?_
        refine wp_getf dX5_next_214 rfl q560 fk5_5 (cg_19 hE.X) rfl ?_
        refine wp_aload_0 dX5_next_217 rfl ?_
        refine wp_getf dX5_next_218 rfl q536 fks5_3 (cg_19 hE.X) rfl ?_
        rw [hn]
        refine wp_iconst 1 dX5_next_221 rfl rfl ?_
        refine wp_isub dX5_next_222 rfl ?_
        rw [show nI m - 1 = nI (m - 1) from pk_sub (b := 1) (by omega)]
        refine wp_ialoadn (m - 1) dX5_next_223 rfl (cg_23 hE.X) rfl (by omega) (by decide) ?_
        rw [hrw (m - 1) (by omega)]
        refine wp_goto 228 dX5_next_224 rfl rfl ?_
        refine wp_aload_0 dX5_next_228 rfl ?_
        refine wp_getf dX5_next_229 rfl q536 fks5_3 (cg_19 hE.X) rfl ?_
        rw [hn]
        refine wp_iconst 1 dX5_next_232 rfl rfl ?_
        refine wp_icmp_le 250 dX5_next_233 rfl rfl (fun c233 => ?_) (fun c233 => ?_)
        · have c233 : m ≤ 1 := (le1_n hm).mp c233
          refine wp_iconst (-1) dX5_next_250 rfl rfl ?_
          refine wp_VNxR dX5_next_251 rfl q1270 mv_X0_mayFollow hE.o0 rfl rfl (c_mayFollow hE h0 (nI_m1 (by have := hE.s.ho12; omega)) (fun q => absurd q (hf _ (by omega)))) rfl rfl (Nat.le_of_ble_eq_true rfl) (Nat.le_of_ble_eq_true rfl) (Nat.zero_le _) (Nat.zero_le _) ?_
          refine wp_ifeq_b 260 dX5_next_254 rfl rfl (fun c254 => ?_) (fun c254 => ?_)
          · have c254 : (leP W law (onN f m) (twN f m)) i = false := by rw [leP, show (onN f m) = f (m - 1) from if_neg (by omega), show (twN f m) = -1 from if_pos (by omega)]; exact c254
            refine wp_iinc_3 1 dX5_next_260 rfl rfl (by decide) rfl ?_
            refine wp_goto 133 dX5_next_263 rfl rfl ?_
            exact WP.cast (by rw [nI_1]) (ih (i + 1) l (by omega) (by rw [cN, if_neg (by rw [c254]; decide), Nat.zero_add] at hl; exact hl) (fun l9 j9 a1 a2 a3 => hq l9 j9 a1 a2 (by rw [pkK, if_neg (by rw [c254]; decide)]; exact a3)))
          · have c254 : (leP W law (onN f m) (twN f m)) i = true := by rw [leP, show (onN f m) = f (m - 1) from if_neg (by omega), show (twN f m) = -1 from if_pos (by omega)]; exact c254
            refine wp_iinc_2 (-1) dX5_next_257 rfl rfl (by decide) rfl ?_
            refine wp_iinc_3 1 dX5_next_260 rfl rfl (by decide) rfl ?_
            refine wp_goto 133 dX5_next_263 rfl rfl ?_
            exact WP.cast (by rw [nI_1, show nI l + -1 = nI (l - 1) by rw [← show nI l - 1 = nI (l - 1) from pk_sub (b := 1) (by omega), Int32.sub_eq_add_neg]]) (ih (i + 1) (l - 1) (by omega) (by rw [cN, if_pos c254] at hl; omega) (fun l9 j9 a1 a2 a3 => hq l9 j9 a1 a2 (by rw [pkK, if_pos c254, if_neg (nI_ne0 c134 (by omega)), show nI l - 1 = nI (l - 1) from pk_sub (b := 1) (by omega)]; exact a3)))
        · have c233 : 1 < m := Nat.not_le.mp (fun q => c233 ((le1_n hm).mpr q))
          refine wp_aload_0 dX5_next_236 rfl ?_
          refine wp_getf dX5_next_237 rfl q560 fk5_5 (cg_19 hE.X) rfl ?_
          refine wp_aload_0 dX5_next_240 rfl ?_
          refine wp_getf dX5_next_241 rfl q536 fks5_3 (cg_19 hE.X) rfl ?_
          rw [hn]
          refine wp_iconst 2 dX5_next_244 rfl rfl ?_
          refine wp_isub dX5_next_245 rfl ?_
          rw [show nI m - 2 = nI (m - 2) from pk_sub (b := 2) (by omega)]
          refine wp_ialoadn (m - 2) dX5_next_246 rfl (cg_23 hE.X) rfl (by omega) (by decide) ?_
          rw [hrw (m - 2) (by omega)]
          refine wp_goto 251 dX5_next_247 rfl rfl ?_
          refine wp_VNxR dX5_next_251 rfl q1270 mv_X0_mayFollow hE.o0 rfl rfl (c_mayFollow hE h0 (nI_m1 (by have := hE.s.ho12; omega)) (fun q => absurd q (hf _ (by omega)))) rfl rfl (Nat.le_of_ble_eq_true rfl) (Nat.le_of_ble_eq_true rfl) (Nat.zero_le _) (Nat.zero_le _) ?_
          refine wp_ifeq_b 260 dX5_next_254 rfl rfl (fun c254 => ?_) (fun c254 => ?_)
          · have c254 : (leP W law (onN f m) (twN f m)) i = false := by rw [leP, show (onN f m) = f (m - 1) from if_neg (by omega), show (twN f m) = f (m - 2) from if_neg (by omega)]; exact c254
            refine wp_iinc_3 1 dX5_next_260 rfl rfl (by decide) rfl ?_
            refine wp_goto 133 dX5_next_263 rfl rfl ?_
            exact WP.cast (by rw [nI_1]) (ih (i + 1) l (by omega) (by rw [cN, if_neg (by rw [c254]; decide), Nat.zero_add] at hl; exact hl) (fun l9 j9 a1 a2 a3 => hq l9 j9 a1 a2 (by rw [pkK, if_neg (by rw [c254]; decide)]; exact a3)))
          · have c254 : (leP W law (onN f m) (twN f m)) i = true := by rw [leP, show (onN f m) = f (m - 1) from if_neg (by omega), show (twN f m) = f (m - 2) from if_neg (by omega)]; exact c254
            refine wp_iinc_2 (-1) dX5_next_257 rfl rfl (by decide) rfl ?_
            refine wp_iinc_3 1 dX5_next_260 rfl rfl (by decide) rfl ?_
            refine wp_goto 133 dX5_next_263 rfl rfl ?_
            exact WP.cast (by rw [nI_1, show nI l + -1 = nI (l - 1) by rw [← show nI l - 1 = nI (l - 1) from pk_sub (b := 1) (by omega), Int32.sub_eq_add_neg]]) (ih (i + 1) (l - 1) (by omega) (by rw [cN, if_pos c254] at hl; omega) (fun l9 j9 a1 a2 a3 => hq l9 j9 a1 a2 (by rw [pkK, if_pos c254, if_neg (nI_ne0 c134 (by omega)), show nI l - 1 = nI (l - 1) from pk_sub (b := 1) (by omega)]; exact a3)))
    · have c134 : l = 0 := by
        rcases Nat.eq_zero_or_pos l with q | q
        · exact q
        · exact absurd (nI_lt (a := 0) q (by omega)) c134
      refine wp_aload_0 dX5_next_137 rfl ?_
      refine wp_getf dX5_next_138 rfl q563 fk5_8 (cg_19 hE.X) rfl ?_
      refine wp_iload_3 dX5_next_141 rfl ?_
      refine wp_aload_0 dX5_next_142 rfl ?_
      refine wp_getf dX5_next_143 rfl q561 fk5_6 (cg_19 hE.X) rfl ?_
      rw [hlw]
      refine wp_aload_0 dX5_next_146 rfl ?_
      refine wp_getf dX5_next_147 rfl q536 fks5_3 (cg_19 hE.X) rfl ?_
      rw [hn]
      refine wp_if_le 167 dX5_next_150 rfl rfl (fun c150 => ?_) (fun c150 => ?_)
      · have c150 : m = 0 := (le0_n hm).mp c150
        refine wp_iconst (-1) dX5_next_167 rfl rfl ?_
        refine wp_aload_0 dX5_next_168 rfl ?_
        refine wp_getf dX5_next_169 rfl q536 fks5_3 (cg_19 hE.X) rfl ?_
        rw [hn]
        refine wp_iconst 1 dX5_next_172 rfl rfl ?_
        refine wp_icmp_le 190 dX5_next_173 rfl rfl (fun c173 => ?_) (fun c173 => ?_)
        · have c173 : m ≤ 1 := (le1_n hm).mp c173
          refine wp_iconst (-1) dX5_next_190 rfl rfl ?_
          refine wp_VNxR dX5_next_191 rfl q1270 mv_X0_mayFollow hE.o0 rfl rfl (c_mayFollow hE h0 (nI_m1 (by have := hE.s.ho12; omega)) (fun _ => nI_m1 (by have := hE.s.ho12; omega))) rfl rfl (Nat.le_of_ble_eq_true rfl) (Nat.le_of_ble_eq_true rfl) (Nat.zero_le _) (Nat.zero_le _) ?_
          refine wp_ifne_b 266 dX5_next_194 rfl rfl (fun c194 => ?_) (fun c194 => ?_)
          · have c194 : (leP W law (onN f m) (twN f m)) i = true := by rw [leP, show (onN f m) = -1 from if_pos (by omega), show (twN f m) = -1 from if_pos (by omega)]; exact c194
            exact hq l i (by omega) c194 (by rw [pkK, if_pos c194, if_pos (by rw [c134]; rfl)])
          · have c194 : (leP W law (onN f m) (twN f m)) i = false := by rw [leP, show (onN f m) = -1 from if_pos (by omega), show (twN f m) = -1 from if_pos (by omega)]; exact c194
            refine wp_aload_0 dX5_next_197 rfl ?_
            refine wp_getf dX5_next_198 rfl q563 fk5_8 (cg_19 hE.X) rfl ?_
            refine wp_iload_3 dX5_next_201 rfl ?_
            refine wp_aload_0 dX5_next_202 rfl ?_
            refine wp_getf dX5_next_203 rfl q561 fk5_6 (cg_19 hE.X) rfl ?_
            rw [hlw]
            refine wp_aload_0 dX5_next_206 rfl ?_
            refine wp_getf dX5_next_207 rfl q536 fks5_3 (cg_19 hE.X) rfl ?_
            rw [hn]
            refine wp_if_le 227 dX5_next_210 rfl rfl (fun c210 => ?_) (fun c210 => ?_)
            · have c210 : m = 0 := (le0_n hm).mp c210
              refine wp_iconst (-1) dX5_next_227 rfl rfl ?_
              refine wp_aload_0 dX5_next_228 rfl ?_
              refine wp_getf dX5_next_229 rfl q536 fks5_3 (cg_19 hE.X) rfl ?_
              rw [hn]
              refine wp_iconst 1 dX5_next_232 rfl rfl ?_
              refine wp_icmp_le 250 dX5_next_233 rfl rfl (fun c233 => ?_) (fun c233 => ?_)
              · have c233 : m ≤ 1 := (le1_n hm).mp c233
                refine wp_iconst (-1) dX5_next_250 rfl rfl ?_
                refine wp_VNxR dX5_next_251 rfl q1270 mv_X0_mayFollow hE.o0 rfl rfl (c_mayFollow hE h0 (nI_m1 (by have := hE.s.ho12; omega)) (fun _ => nI_m1 (by have := hE.s.ho12; omega))) rfl rfl (Nat.le_of_ble_eq_true rfl) (Nat.le_of_ble_eq_true rfl) (Nat.zero_le _) (Nat.zero_le _) ?_
                refine wp_ifeq_b 260 dX5_next_254 rfl rfl (fun c254 => ?_) (fun c254 => ?_)
                · have c254 : (leP W law (onN f m) (twN f m)) i = false := by rw [leP, show (onN f m) = -1 from if_pos (by omega), show (twN f m) = -1 from if_pos (by omega)]; exact c254
                  refine wp_iinc_3 1 dX5_next_260 rfl rfl (by decide) rfl ?_
                  refine wp_goto 133 dX5_next_263 rfl rfl ?_
                  exact WP.cast (by rw [nI_1]) (ih (i + 1) l (by omega) (by rw [cN, if_neg (by rw [c254]; decide), Nat.zero_add] at hl; exact hl) (fun l9 j9 a1 a2 a3 => hq l9 j9 a1 a2 (by rw [pkK, if_neg (by rw [c254]; decide)]; exact a3)))
                · have c254 : (leP W law (onN f m) (twN f m)) i = true := by rw [leP, show (onN f m) = -1 from if_pos (by omega), show (twN f m) = -1 from if_pos (by omega)]; exact c254
                  refine wp_iinc_2 (-1) dX5_next_257 rfl rfl (by decide) rfl ?_
                  refine wp_iinc_3 1 dX5_next_260 rfl rfl (by decide) rfl ?_
                  refine wp_goto 133 dX5_next_263 rfl rfl ?_
                  rw [c194] at c254; exact absurd c254 (by decide)
              · exact absurd ((le1_n hm).mpr (by omega)) c233
            · exact absurd ((le0_n hm).mpr (by omega)) c210
        · exact absurd ((le1_n hm).mpr (by omega)) c173
      · have c150 : 0 < m := Nat.pos_of_ne_zero (fun q => c150 ((le0_n hm).mpr q))
        refine wp_aload_0 dX5_next_153 rfl ?_
        refine wp_getf dX5_next_154 rfl q560 fk5_5 (cg_19 hE.X) rfl ?_
        refine wp_aload_0 dX5_next_157 rfl ?_
        refine wp_getf dX5_next_158 rfl q536 fks5_3 (cg_19 hE.X) rfl ?_
        rw [hn]
        refine wp_iconst 1 dX5_next_161 rfl rfl ?_
        refine wp_isub dX5_next_162 rfl ?_
        rw [show nI m - 1 = nI (m - 1) from pk_sub (b := 1) (by omega)]
        refine wp_ialoadn (m - 1) dX5_next_163 rfl (cg_23 hE.X) rfl (by omega) (by decide) ?_
        rw [hrw (m - 1) (by omega)]
        refine wp_goto 168 dX5_next_164 rfl rfl ?_
        refine wp_aload_0 dX5_next_168 rfl ?_
        refine wp_getf dX5_next_169 rfl q536 fks5_3 (cg_19 hE.X) rfl ?_
        rw [hn]
        refine wp_iconst 1 dX5_next_172 rfl rfl ?_
        refine wp_icmp_le 190 dX5_next_173 rfl rfl (fun c173 => ?_) (fun c173 => ?_)
        · have c173 : m ≤ 1 := (le1_n hm).mp c173
          refine wp_iconst (-1) dX5_next_190 rfl rfl ?_
          refine wp_VNxR dX5_next_191 rfl q1270 mv_X0_mayFollow hE.o0 rfl rfl (c_mayFollow hE h0 (nI_m1 (by have := hE.s.ho12; omega)) (fun q => absurd q (hf _ (by omega)))) rfl rfl (Nat.le_of_ble_eq_true rfl) (Nat.le_of_ble_eq_true rfl) (Nat.zero_le _) (Nat.zero_le _) ?_
          refine wp_ifne_b 266 dX5_next_194 rfl rfl (fun c194 => ?_) (fun c194 => ?_)
          · have c194 : (leP W law (onN f m) (twN f m)) i = true := by rw [leP, show (onN f m) = f (m - 1) from if_neg (by omega), show (twN f m) = -1 from if_pos (by omega)]; exact c194
            exact hq l i (by omega) c194 (by rw [pkK, if_pos c194, if_pos (by rw [c134]; rfl)])
          · have c194 : (leP W law (onN f m) (twN f m)) i = false := by rw [leP, show (onN f m) = f (m - 1) from if_neg (by omega), show (twN f m) = -1 from if_pos (by omega)]; exact c194
            refine wp_aload_0 dX5_next_197 rfl ?_
            refine wp_getf dX5_next_198 rfl q563 fk5_8 (cg_19 hE.X) rfl ?_
            refine wp_iload_3 dX5_next_201 rfl ?_
            refine wp_aload_0 dX5_next_202 rfl ?_
            refine wp_getf dX5_next_203 rfl q561 fk5_6 (cg_19 hE.X) rfl ?_
            rw [hlw]
            refine wp_aload_0 dX5_next_206 rfl ?_
            refine wp_getf dX5_next_207 rfl q536 fks5_3 (cg_19 hE.X) rfl ?_
            rw [hn]
            refine wp_if_le 227 dX5_next_210 rfl rfl (fun c210 => ?_) (fun c210 => ?_)
            · exact absurd ((le0_n hm).mp c210) (by omega)
            · have c210 : 0 < m := Nat.pos_of_ne_zero (fun q => c210 ((le0_n hm).mpr q))
              refine wp_aload_0 dX5_next_213 rfl ?_
              refine wp_getf dX5_next_214 rfl q560 fk5_5 (cg_19 hE.X) rfl ?_
              refine wp_aload_0 dX5_next_217 rfl ?_
              refine wp_getf dX5_next_218 rfl q536 fks5_3 (cg_19 hE.X) rfl ?_
              rw [hn]
              refine wp_iconst 1 dX5_next_221 rfl rfl ?_
              refine wp_isub dX5_next_222 rfl ?_
              rw [show nI m - 1 = nI (m - 1) from pk_sub (b := 1) (by omega)]
              refine wp_ialoadn (m - 1) dX5_next_223 rfl (cg_23 hE.X) rfl (by omega) (by decide) ?_
              rw [hrw (m - 1) (by omega)]
              refine wp_goto 228 dX5_next_224 rfl rfl ?_
              refine wp_aload_0 dX5_next_228 rfl ?_
              refine wp_getf dX5_next_229 rfl q536 fks5_3 (cg_19 hE.X) rfl ?_
              rw [hn]
              refine wp_iconst 1 dX5_next_232 rfl rfl ?_
              refine wp_icmp_le 250 dX5_next_233 rfl rfl (fun c233 => ?_) (fun c233 => ?_)
              · have c233 : m ≤ 1 := (le1_n hm).mp c233
                refine wp_iconst (-1) dX5_next_250 rfl rfl ?_
                refine wp_VNxR dX5_next_251 rfl q1270 mv_X0_mayFollow hE.o0 rfl rfl (c_mayFollow hE h0 (nI_m1 (by have := hE.s.ho12; omega)) (fun q => absurd q (hf _ (by omega)))) rfl rfl (Nat.le_of_ble_eq_true rfl) (Nat.le_of_ble_eq_true rfl) (Nat.zero_le _) (Nat.zero_le _) ?_
                refine wp_ifeq_b 260 dX5_next_254 rfl rfl (fun c254 => ?_) (fun c254 => ?_)
                · have c254 : (leP W law (onN f m) (twN f m)) i = false := by rw [leP, show (onN f m) = f (m - 1) from if_neg (by omega), show (twN f m) = -1 from if_pos (by omega)]; exact c254
                  refine wp_iinc_3 1 dX5_next_260 rfl rfl (by decide) rfl ?_
                  refine wp_goto 133 dX5_next_263 rfl rfl ?_
                  exact WP.cast (by rw [nI_1]) (ih (i + 1) l (by omega) (by rw [cN, if_neg (by rw [c254]; decide), Nat.zero_add] at hl; exact hl) (fun l9 j9 a1 a2 a3 => hq l9 j9 a1 a2 (by rw [pkK, if_neg (by rw [c254]; decide)]; exact a3)))
                · have c254 : (leP W law (onN f m) (twN f m)) i = true := by rw [leP, show (onN f m) = f (m - 1) from if_neg (by omega), show (twN f m) = -1 from if_pos (by omega)]; exact c254
                  refine wp_iinc_2 (-1) dX5_next_257 rfl rfl (by decide) rfl ?_
                  refine wp_iinc_3 1 dX5_next_260 rfl rfl (by decide) rfl ?_
                  refine wp_goto 133 dX5_next_263 rfl rfl ?_
                  rw [c194] at c254; exact absurd c254 (by decide)
              · exact absurd ((le1_n hm).mpr (by omega)) c233
        · have c173 : 1 < m := Nat.not_le.mp (fun q => c173 ((le1_n hm).mpr q))
          refine wp_aload_0 dX5_next_176 rfl ?_
          refine wp_getf dX5_next_177 rfl q560 fk5_5 (cg_19 hE.X) rfl ?_
          refine wp_aload_0 dX5_next_180 rfl ?_
          refine wp_getf dX5_next_181 rfl q536 fks5_3 (cg_19 hE.X) rfl ?_
          rw [hn]
          refine wp_iconst 2 dX5_next_184 rfl rfl ?_
          refine wp_isub dX5_next_185 rfl ?_
          rw [show nI m - 2 = nI (m - 2) from pk_sub (b := 2) (by omega)]
          refine wp_ialoadn (m - 2) dX5_next_186 rfl (cg_23 hE.X) rfl (by omega) (by decide) ?_
          rw [hrw (m - 2) (by omega)]
          refine wp_goto 191 dX5_next_187 rfl rfl ?_
          refine wp_VNxR dX5_next_191 rfl q1270 mv_X0_mayFollow hE.o0 rfl rfl (c_mayFollow hE h0 (nI_m1 (by have := hE.s.ho12; omega)) (fun q => absurd q (hf _ (by omega)))) rfl rfl (Nat.le_of_ble_eq_true rfl) (Nat.le_of_ble_eq_true rfl) (Nat.zero_le _) (Nat.zero_le _) ?_
          refine wp_ifne_b 266 dX5_next_194 rfl rfl (fun c194 => ?_) (fun c194 => ?_)
          · have c194 : (leP W law (onN f m) (twN f m)) i = true := by rw [leP, show (onN f m) = f (m - 1) from if_neg (by omega), show (twN f m) = f (m - 2) from if_neg (by omega)]; exact c194
            exact hq l i (by omega) c194 (by rw [pkK, if_pos c194, if_pos (by rw [c134]; rfl)])
          · have c194 : (leP W law (onN f m) (twN f m)) i = false := by rw [leP, show (onN f m) = f (m - 1) from if_neg (by omega), show (twN f m) = f (m - 2) from if_neg (by omega)]; exact c194
            refine wp_aload_0 dX5_next_197 rfl ?_
            refine wp_getf dX5_next_198 rfl q563 fk5_8 (cg_19 hE.X) rfl ?_
            refine wp_iload_3 dX5_next_201 rfl ?_
            refine wp_aload_0 dX5_next_202 rfl ?_
            refine wp_getf dX5_next_203 rfl q561 fk5_6 (cg_19 hE.X) rfl ?_
            rw [hlw]
            refine wp_aload_0 dX5_next_206 rfl ?_
            refine wp_getf dX5_next_207 rfl q536 fks5_3 (cg_19 hE.X) rfl ?_
            rw [hn]
            refine wp_if_le 227 dX5_next_210 rfl rfl (fun c210 => ?_) (fun c210 => ?_)
            · exact absurd ((le0_n hm).mp c210) (by omega)
            · have c210 : 0 < m := Nat.pos_of_ne_zero (fun q => c210 ((le0_n hm).mpr q))
              refine wp_aload_0 dX5_next_213 rfl ?_
              refine wp_getf dX5_next_214 rfl q560 fk5_5 (cg_19 hE.X) rfl ?_
              refine wp_aload_0 dX5_next_217 rfl ?_
              refine wp_getf dX5_next_218 rfl q536 fks5_3 (cg_19 hE.X) rfl ?_
              rw [hn]
              refine wp_iconst 1 dX5_next_221 rfl rfl ?_
              refine wp_isub dX5_next_222 rfl ?_
              rw [show nI m - 1 = nI (m - 1) from pk_sub (b := 1) (by omega)]
              refine wp_ialoadn (m - 1) dX5_next_223 rfl (cg_23 hE.X) rfl (by omega) (by decide) ?_
              rw [hrw (m - 1) (by omega)]
              refine wp_goto 228 dX5_next_224 rfl rfl ?_
              refine wp_aload_0 dX5_next_228 rfl ?_
              refine wp_getf dX5_next_229 rfl q536 fks5_3 (cg_19 hE.X) rfl ?_
              rw [hn]
              refine wp_iconst 1 dX5_next_232 rfl rfl ?_
              refine wp_icmp_le 250 dX5_next_233 rfl rfl (fun c233 => ?_) (fun c233 => ?_)
              · exact absurd ((le1_n hm).mp c233) (by omega)
              · have c233 : 1 < m := Nat.not_le.mp (fun q => c233 ((le1_n hm).mpr q))
                refine wp_aload_0 dX5_next_236 rfl ?_
                refine wp_getf dX5_next_237 rfl q560 fk5_5 (cg_19 hE.X) rfl ?_
                refine wp_aload_0 dX5_next_240 rfl ?_
                refine wp_getf dX5_next_241 rfl q536 fks5_3 (cg_19 hE.X) rfl ?_
                rw [hn]
                refine wp_iconst 2 dX5_next_244 rfl rfl ?_
                refine wp_isub dX5_next_245 rfl ?_
                rw [show nI m - 2 = nI (m - 2) from pk_sub (b := 2) (by omega)]
                refine wp_ialoadn (m - 2) dX5_next_246 rfl (cg_23 hE.X) rfl (by omega) (by decide) ?_
                rw [hrw (m - 2) (by omega)]
                refine wp_goto 251 dX5_next_247 rfl rfl ?_
                refine wp_VNxR dX5_next_251 rfl q1270 mv_X0_mayFollow hE.o0 rfl rfl (c_mayFollow hE h0 (nI_m1 (by have := hE.s.ho12; omega)) (fun q => absurd q (hf _ (by omega)))) rfl rfl (Nat.le_of_ble_eq_true rfl) (Nat.le_of_ble_eq_true rfl) (Nat.zero_le _) (Nat.zero_le _) ?_
                refine wp_ifeq_b 260 dX5_next_254 rfl rfl (fun c254 => ?_) (fun c254 => ?_)
                · have c254 : (leP W law (onN f m) (twN f m)) i = false := by rw [leP, show (onN f m) = f (m - 1) from if_neg (by omega), show (twN f m) = f (m - 2) from if_neg (by omega)]; exact c254
                  refine wp_iinc_3 1 dX5_next_260 rfl rfl (by decide) rfl ?_
                  refine wp_goto 133 dX5_next_263 rfl rfl ?_
                  exact WP.cast (by rw [nI_1]) (ih (i + 1) l (by omega) (by rw [cN, if_neg (by rw [c254]; decide), Nat.zero_add] at hl; exact hl) (fun l9 j9 a1 a2 a3 => hq l9 j9 a1 a2 (by rw [pkK, if_neg (by rw [c254]; decide)]; exact a3)))
                · have c254 : (leP W law (onN f m) (twN f m)) i = true := by rw [leP, show (onN f m) = f (m - 1) from if_neg (by omega), show (twN f m) = f (m - 2) from if_neg (by omega)]; exact c254
                  refine wp_iinc_2 (-1) dX5_next_257 rfl rfl (by decide) rfl ?_
                  refine wp_iinc_3 1 dX5_next_260 rfl rfl (by decide) rfl ?_
                  refine wp_goto 133 dX5_next_263 rfl rfl ?_
                  rw [c194] at c254; exact absurd c254 (by decide)
theorem c_nextN0 {g : GW} {C : SC} {S : SM} {X : AH} {lo hi b : Nat} {A : BA} {W : Nat → Int32} (hE : EV C X lo hi b A W) {law : Int32} {m : Nat} {f : Nat → Int32} (hm : m ≤ 60) (h0 : ¬ W 0 = 0) (hn : C.1 4 = nI m) (hlw : C.1 5 = law) (hrw : ∀ j, j < m → C.2.1 23 j = f j) (hf : ∀ j, j < m → ¬ f j = -1) (hc : (cN (leP W law (onN f m) (twN f m)) (hoN W) 0) = 0) : SPx g 5 0 0 yX5_next cX5_next 4 (some (.object "MoleBoard$Mole")) [.ref 19] (cH C S X) (some (.null)) (cH C S X) := by
  refine SPx.intro [some (.ref 19), none, none, none] (pfn (by decide)) rfl (Nat.le_of_ble_eq_true rfl) ?_
  refine wp_iconst 0 dX5_next_0 rfl rfl ?_
  refine wp_istore_1 dX5_next_1 rfl (by decide) rfl ?_
  refine wp_iconst 0 dX5_next_2 rfl rfl ?_
  refine wp_istore_2 dX5_next_3 rfl (by decide) rfl ?_
  refine cL_nx1 hE hm h0 hn hlw hrw hf (hoN W) 0 0 _ (Nat.zero_add _) (fun v2 v3 => ?_)
  have ec : itr (ctF (leP W law (onN f m) (twN f m))) (hoN W) 0 0 = nI (cN (leP W law (onN f m) (twN f m)) (hoN W) 0) := by
    have := ct_n (leP W law (onN f m) (twN f m)) (hoN W) 0 0
    rw [Nat.zero_add] at this
    exact this
  have hle := cN_le (leP W law (onN f m) (twN f m)) (hoN W) 0
  have h12 := hE.s.ho12
  rw [ec, hc]
  refine wp_iload_1 dX5_next_92 rfl ?_
  refine wp_if_ne 98 dX5_next_93 rfl rfl (fun c93 => ?_) (fun c93 => ?_)
  · exact absurd rfl c93
  · refine wp_null dX5_next_96 rfl ?_
    exact wp_areturn_n dX5_next_97 rfl (Or.inl ⟨_, rfl⟩) ⟨rfl, rfl⟩
theorem c_nextN1 {g : GW} {C : SC} {S : SM} {X : AH} {lo hi b : Nat} {A : BA} {W : Nat → Int32} (hE : EV C X lo hi b A W) {law : Int32} {m : Nat} {f : Nat → Int32} (hm : m ≤ 60) (h0 : ¬ W 0 = 0) (hn : C.1 4 = nI m) (hlw : C.1 5 = law) (hrw : ∀ j, j < m → C.2.1 23 j = f j) (hf : ∀ j, j < m → ¬ f j = -1) (hm60 : m < 60) {u : Nat} (hu : u < 2147483648) (hv : C.2.2.2.2.2 = lN u) (hc : 0 < (cN (leP W law (onN f m) (twN f m)) (hoN W) 0)) : SP g 5 1 3 yX5_next cX5_next 4 (some (.object "MoleBoard$Mole")) [.ref 19] (cH C S X) (fun v h1 => v = some (.ref X.length) ∧ ∃ j, j < hoN W ∧ hbV W law (onN f m) (twN f m) (lN u) = nI j ∧ h1 = cH (nxC m j (lN (dU u)) C) S (X ++ [.inr (14, [.int (nI j), .int (-1), .int 0])])) := by
  refine SP.intro [some (.ref 19), none, none, none] (pfn (by decide)) rfl (Nat.le_of_ble_eq_true rfl) ?_
  refine wp_iconst 0 dX5_next_0 rfl rfl ?_
  refine wp_istore_1 dX5_next_1 rfl (by decide) rfl ?_
  refine wp_iconst 0 dX5_next_2 rfl rfl ?_
  refine wp_istore_2 dX5_next_3 rfl (by decide) rfl ?_
  refine cL_nx1 hE hm h0 hn hlw hrw hf (hoN W) 0 0 _ (Nat.zero_add _) (fun v2 v3 => ?_)
  have ec : itr (ctF (leP W law (onN f m) (twN f m))) (hoN W) 0 0 = nI (cN (leP W law (onN f m) (twN f m)) (hoN W) 0) := by
    have := ct_n (leP W law (onN f m) (twN f m)) (hoN W) 0 0
    rw [Nat.zero_add] at this
    exact this
  have hle := cN_le (leP W law (onN f m) (twN f m)) (hoN W) 0
  have h12 := hE.s.ho12
  rw [ec]
  refine wp_iload_1 dX5_next_92 rfl ?_
  refine wp_if_ne 98 dX5_next_93 rfl rfl (fun c93 => ?_) (fun c93 => ?_)
  · refine wp_aload_0 dX5_next_98 rfl ?_
    refine wp_ldc2_w dX5_next_99 rfl q1286 ?_
    refine wp_aload_0 dX5_next_102 rfl ?_
    refine wp_getf dX5_next_103 rfl q562 fk5_7 (cg_19 hE.X) rfl ?_
    rw [hv]
    refine wp_lmul dX5_next_106 rfl ?_
    refine wp_ldc2_w dX5_next_107 rfl q1287 ?_
    refine wp_ladd dX5_next_110 rfl ?_
    refine wp_ldc2_w dX5_next_111 rfl q1288 ?_
    refine wp_lrem dX5_next_114 rfl (by decide) ?_
    change WP g 5 _ _ _ _ _ _ (.long (drD (lN u)) :: _) _ _ _ _
    rw [drD_n hu]
    refine wp_putfG dX5_next_115 rfl q562 fg5_7 (cg_19 hE.X) rfl rfl (Nat.le_of_ble_eq_true rfl) cs_19_7 ?_
    refine wp_aload_0 dX5_next_118 rfl ?_
    refine wp_getf dX5_next_119 rfl q562 fk5_7 (cg_19 hE.X) rfl ?_
    change WP g 5 _ _ _ _ _ _ (.long (lN (dU u)) :: _) _ _ _ _
    refine wp_ldc2_w dX5_next_122 rfl q1289 ?_
    refine wp_ldiv dX5_next_125 rfl (by decide) ?_
    refine wp_iload_1 dX5_next_126 rfl ?_
    refine wp_i2l dX5_next_127 rfl ?_
    refine wp_lrem dX5_next_128 rfl (n64_0 (nI_ne0 hc (by omega))) ?_
    refine wp_l2i dX5_next_129 rfl ?_
    have e9 := drN_n (c := (cN (leP W law (onN f m) (twN f m)) (hoN W) 0)) hu hc (by omega)
    unfold drN rm64 at e9
    rw [drD_n hu] at e9
    rw [e9]
    refine wp_istore_2 dX5_next_130 rfl (by decide) rfl ?_
    refine wp_iconst 0 dX5_next_131 rfl rfl ?_
    refine wp_istore_3 dX5_next_132 rfl (by decide) rfl ?_
    have hE1 : EV (cX (lN (dU u)) C) X lo hi b A W := hE.to rfl
    refine cL_nx2 hE1 hm h0 (by exact hn) (by exact hlw) (by exact hrw) hf (hoN W) 0 (dU u / 65536 % (cN (leP W law (onN f m) (twN f m)) (hoN W) 0)) (Nat.zero_add _) (Nat.mod_lt _ hc) (fun l j hj hpj hpk => ?_)
    have hE := hE1
    have hn : (cX (lN (dU u)) C).1 4 = nI m := hn
    refine wp_aload_0 dX5_next_266 rfl ?_
    refine wp_getf dX5_next_267 rfl q560 fk5_5 (cg_19 hE.X) rfl ?_
    refine wp_aload_0 dX5_next_270 rfl ?_
    refine wp_getf dX5_next_271 rfl q536 fks5_3 (cg_19 hE.X) rfl ?_
    rw [hn]
    refine wp_iload_3 dX5_next_274 rfl ?_
    refine wp_iastoren m dX5_next_275 rfl (cg_23 hE.X) rfl (by omega) (by decide) cs_23 ?_
    refine wp_new1 dX5_next_276 rfl q1290 nw14 (by omega) (Nat.le_of_ble_eq_true rfl) ?_
    refine wp_dup dX5_next_279 rfl rfl ?_
    refine wp_iload_3 dX5_next_280 rfl ?_
    refine wp_iconst (-1) dX5_next_281 rfl rfl ?_
    refine wp_iconst 0 dX5_next_282 rfl rfl ?_
    refine wp_Ix0 dX5_next_283 rfl q1291 mi_X13_init (c_mInit (r := false) g_last) rfl rfl (Nat.le_of_ble_eq_true rfl) (Nat.le_of_ble_eq_true rfl) (Nat.zero_le _) (Nat.zero_le _) ?_
    rw [set_last, cH_app hE.X, cH_len]
    exact wp_areturn_r dX5_next_286 rfl (Or.inl ⟨_, rfl⟩) ⟨rfl, j, hj, by rw [hbV, if_neg (by rw [show leC W law (onN f m) (twN f m) = nI (cN (leP W law (onN f m) (twN f m)) (hoN W) 0) from ec]; exact nI_ne0 hc (by omega)), show leC W law (onN f m) (twN f m) = nI (cN (leP W law (onN f m) (twN f m)) (hoN W) 0) from ec, drN_n hu hc (by omega), hpk], rfl⟩
  · exact absurd c93 (nI_ne0 hc (by omega))
theorem cL_layN {g : GW} {S : SM} {lo hi b : Nat} {A : BA} {W : Nat → Int32} {C0 : SC} {law : Int32} (h0 : ¬ W 0 = 0) {Q : Option Value → AH → Prop} : ∀ (k : Nat) (C : SC) (X : AH) (m : Nat) (f : Nat → Int32) (v : Int64) (u : Nat) (v2 : Option Value), m + k = 60 → EV C X lo hi b A W → NL W law C X m f v → u < 2147483648 → v = lN u → CNt C0 C → (∀ j, j < m → mayK W j = true) → (∀ C' X' Z, X' = X ++ Z → Z.length ≤ k → GM 4 20 21 22 C' X' ((niR W law k (m, f, v)).1, niF W (niR W law k (m, f, v)).2) → WG2 ((niR W law k (m, f, v)).1, niF W (niR W law k (m, f, v)).2) → CNt C0 C' → Q (some (.ref 19)) (cH C' S X')) → WP g 7 yX3_lays cX3_lays 3 (some (.object "MoleBoard$Game")) 9 [some (.ref 19), some (.int (gT W m)), v2] [] (cH C S X) k (3 * k) Q := by
  intro k
  induction k with
  | zero =>
    intro C X m f v u v2 hi0 hE hNL hu hv hK hM hq
    obtain ⟨t, et, t1⟩ := gT_n hE.s hE.t m hM
    obtain ⟨s, es, s1, s2⟩ := stay_n hE.t (nI t)
    have hk := mayK_n hE.s et t1 es s1 s2
    have hn : C.1 4 = nI m := hNL.1.1
    have h12 := hE.s.tk.2
    have hm60 : m ≤ 60 := by omega
    rw [et]
    refine wp_aload_0 dX3_lays_9 rfl ?_
    refine wp_getf dX3_lays_10 rfl q534 fk5_3 (cg_19 hE.X) rfl ?_
    rw [show C.1 4 = nI m from hn]
    refine wp_bipush 60 dX3_lays_13 rfl rfl ?_
    refine wp_icmp_ge_k 147 dX3_lays_15 rfl rfl (b := 60) (by omega) (by omega) (fun c15 => ?_) (fun c15 => ?_)
    · refine wp_aload_0 dX3_lays_147 rfl ?_
      exact wp_areturn_r dX3_lays_148 rfl (Or.inl ⟨_, rfl⟩) (hq C X [] (List.append_nil X).symm (Nat.zero_le _) hNL.1 hNL.wg hK)
    · exact absurd c15 (by omega)
  | succ k ih =>
    intro C X m f v u v2 hi0 hE hNL hu hv hK hM hq
    obtain ⟨t, et, t1⟩ := gT_n hE.s hE.t m hM
    obtain ⟨s, es, s1, s2⟩ := stay_n hE.t (nI t)
    have hk := mayK_n hE.s et t1 es s1 s2
    have hn : C.1 4 = nI m := hNL.1.1
    have h12 := hE.s.tk.2
    have hm60 : m ≤ 60 := by omega
    rw [et]
    refine wp_aload_0 dX3_lays_9 rfl ?_
    refine wp_getf dX3_lays_10 rfl q534 fk5_3 (cg_19 hE.X) rfl ?_
    rw [show C.1 4 = nI m from hn]
    refine wp_bipush 60 dX3_lays_13 rfl rfl ?_
    refine wp_icmp_ge_k 147 dX3_lays_15 rfl rfl (b := 60) (by omega) (by omega) (fun c15 => ?_) (fun c15 => ?_)
    · exact absurd c15 (by omega)
    · refine wp_iload_1 dX3_lays_18 rfl ?_
      refine wp_aload_0 dX3_lays_19 rfl ?_
      refine wp_getf dX3_lays_20 rfl q540 fk5_4 (cg_19 hE.X) rfl ?_
      refine wp_getfN dX3_lays_23 rfl q718 fk0_1 hE.o0 rfl ?_
      refine wp_getfN dX3_lays_26 rfl q454 fk2_6 hE.ob rfl ?_
      rw [hE.s.tk.1]
      refine wp_icmp_ge_k 147 dX3_lays_29 rfl rfl (by omega) (by omega) (fun c29 => ?_) (fun c29 => ?_)
      · refine wp_aload_0 dX3_lays_147 rfl ?_
        exact wp_areturn_r dX3_lays_148 rfl (Or.inl ⟨_, rfl⟩) (hq C X [] (List.append_nil X).symm (Nat.zero_le _) (by rw [niR, if_neg (by rw [hk]; simp; omega)]; exact hNL.1) (by rw [niR, if_neg (by rw [hk]; simp; omega)]; exact hNL.wg) hK)
      · have hmlt : m < 60 := by omega
        refine wp_iload_1 dX3_lays_32 rfl ?_
        refine wp_aload_0 dX3_lays_33 rfl ?_
        refine wp_getf dX3_lays_34 rfl q540 fk5_4 (cg_19 hE.X) rfl ?_
        refine wp_getfN dX3_lays_37 rfl q718 fk0_1 hE.o0 rfl ?_
        refine wp_iload_1 dX3_lays_40 rfl ?_
        refine wp_cvR dX3_lays_41 rfl q1255 mv_X2_stay hE.ob rfl rfl (b_stay hE.B hE.t hE.s) rfl rfl (Nat.le_of_ble_eq_true rfl) (Nat.le_of_ble_eq_true rfl) ?_
        rw [es]
        refine wp_iadd dX3_lays_44 rfl ?_
        rw [nI_add]
        refine wp_aload_0 dX3_lays_45 rfl ?_
        refine wp_getf dX3_lays_46 rfl q540 fk5_4 (cg_19 hE.X) rfl ?_
        refine wp_getfN dX3_lays_49 rfl q718 fk0_1 hE.o0 rfl ?_
        refine wp_getfN dX3_lays_52 rfl q454 fk2_6 hE.ob rfl ?_
        rw [hE.s.tk.1]
        refine wp_icmp_gt_k 147 dX3_lays_55 rfl rfl (by omega) (by omega) (fun c55 => ?_) (fun c55 => ?_)
        · refine wp_aload_0 dX3_lays_147 rfl ?_
          exact wp_areturn_r dX3_lays_148 rfl (Or.inl ⟨_, rfl⟩) (hq C X [] (List.append_nil X).symm (Nat.zero_le _) (by rw [niR, if_neg (by rw [hk]; simp; omega)]; exact hNL.1) (by rw [niR, if_neg (by rw [hk]; simp; omega)]; exact hNL.wg) hK)
        · rcases Nat.eq_zero_or_pos (cN (leP W law (onN f m) (twN f m)) (hoN W) 0) with hc0 | hc0
          · refine wp_aload_0 dX3_lays_58 rfl ?_
            refine wp_UxR dX3_lays_59 rfl q1256 mu_X5_next_X5 (cg_19 hE.X) rfl rfl (c_nextN0 hE hm60 h0 hn hNL.2.1 hNL.2.2.2.1 hNL.2.2.2.2 hc0) rfl rfl (Nat.le_of_ble_eq_true rfl) (Nat.le_of_ble_eq_true rfl) (Nat.zero_le _) (Nat.zero_le _) ?_
            refine wp_dup dX3_lays_62 rfl rfl ?_
            refine wp_astoreN_2 dX3_lays_63 rfl (by decide) rfl ?_
            refine wp_ifnull_n 147 dX3_lays_64 rfl rfl ?_
            refine wp_aload_0 dX3_lays_147 rfl ?_
            exact wp_areturn_r dX3_lays_148 rfl (Or.inl ⟨_, rfl⟩) (by
            have hmay : mayK W m = true := by rw [hk]; simp; omega
            have hb9 : hbV W law (onN f m) (twN f m) v = -1 := hb_0 hc0
            exact hq C X [] (List.append_nil X).symm (Nat.zero_le _) (by rw [niR, if_pos hmay, if_pos hb9]; exact hNL.1) (by rw [niR, if_pos hmay, if_pos hb9]; exact hNL.wg) hK)
          · refine wp_aload_0 dX3_lays_58 rfl ?_
            refine wp_UeR dX3_lays_59 rfl q1256 mu_X5_next_X5 (cg_19 hE.X) rfl rfl (c_nextN1 hE hm60 h0 hn hNL.2.1 hNL.2.2.2.1 hNL.2.2.2.2 hmlt hu (hNL.2.2.1.trans hv) hc0) rfl rfl (Nat.le_of_ble_eq_true rfl) (Nat.le_of_ble_eq_true rfl) (by omega) (by omega) (fun h1 hq => ?_)
            obtain ⟨j, hj, hbj, rfl⟩ := hq
            have hjk : j < 1000 := by have := hE.s.ho12; omega
            have hNU := fun t9 e9 => hNL.up (v2 := lN (dU u)) (t := t9) (e := e9) hmlt hjk hE.X
            have kx := nxC_k m j (lN (dU u)) C
            have hE1 : EV (nxC m j (lN (dU u)) C) (X ++ [.inr (14, [.int (nI j), .int (-1), .int 0])]) lo hi b A W := (kx.ev hE).ap
            have hn1 : (nxC m j (lN (dU u)) C).1 4 = nI m := hn
            have hxl := hE.X
            generalize nxC m j (lN (dU u)) C = C1 at *
            have hE := hE1
            refine wp_dup dX3_lays_62 rfl rfl ?_
            refine wp_astore_2 dX3_lays_63 rfl (by decide) rfl ?_
            refine wp_ifnull_r dX3_lays_64 rfl ?_
            refine wp_aload_0 dX3_lays_67 rfl ?_
            refine wp_getf dX3_lays_68 rfl q521 fk5_0 (cg_19 hE.X) rfl ?_
            refine wp_aload_0 dX3_lays_71 rfl ?_
            refine wp_getf dX3_lays_72 rfl q534 fk5_3 (cg_19 hE.X) rfl ?_
            rw [show C1.1 4 = nI m from hn1]
            refine wp_aload_2 dX3_lays_75 rfl ?_
            refine wp_aastore m dX3_lays_76 rfl rfl  rfl (cg_20 hE.X) (itat hxl) (nI_clamp (by omega)) (vp_in_nI (show m < 60 by omega) (by omega)) cs_20 ?_
            refine wp_aload_0 dX3_lays_77 rfl ?_
            refine wp_getf dX3_lays_78 rfl q522 fk5_1 (cg_19 hE.X) rfl ?_
            refine wp_aload_0 dX3_lays_81 rfl ?_
            refine wp_getf dX3_lays_82 rfl q534 fk5_3 (cg_19 hE.X) rfl ?_
            rw [show (cM 20 m (some X.length) C1).1 4 = nI m from hn1]
            refine wp_iload_1 dX3_lays_85 rfl ?_
            refine wp_iastoren m dX3_lays_86 rfl (cg_21 hE.X) rfl (by omega) (by decide) cs_21 ?_
            refine wp_aload_0 dX3_lays_87 rfl ?_
            refine wp_getf dX3_lays_88 rfl q527 fk5_2 (cg_19 hE.X) rfl ?_
            refine wp_aload_0 dX3_lays_91 rfl ?_
            refine wp_getf dX3_lays_92 rfl q534 fk5_3 (cg_19 hE.X) rfl ?_
            rw [show (cA 21 m (nI t) (cM 20 m (some X.length) C1)).1 4 = nI m from hn1]
            refine wp_iload_1 dX3_lays_95 rfl ?_
            refine wp_aload_0 dX3_lays_96 rfl ?_
            refine wp_getf dX3_lays_97 rfl q540 fk5_4 (cg_19 hE.X) rfl ?_
            refine wp_getfN dX3_lays_100 rfl q718 fk0_1 hE.o0 rfl ?_
            refine wp_iload_1 dX3_lays_103 rfl ?_
            refine wp_cvR dX3_lays_104 rfl q1255 mv_X2_stay hE.ob rfl rfl (b_stay hE.B hE.t hE.s) rfl rfl (Nat.le_of_ble_eq_true rfl) (Nat.le_of_ble_eq_true rfl) ?_
            rw [es]
            refine wp_iadd dX3_lays_107 rfl ?_
            rw [nI_add]
            refine wp_iconst 1 dX3_lays_108 rfl rfl ?_
            refine wp_isub dX3_lays_109 rfl ?_
            refine wp_iastoren m dX3_lays_110 rfl (cg_22 hE.X) rfl (by omega) (by decide) cs_22 ?_
            refine wp_aload_0 dX3_lays_111 rfl ?_
            refine wp_getf dX3_lays_112 rfl q527 fk5_2 (cg_19 hE.X) rfl ?_
            refine wp_aload_0 dX3_lays_115 rfl ?_
            refine wp_getf dX3_lays_116 rfl q534 fk5_3 (cg_19 hE.X) rfl ?_
            rw [show (cA 22 m (nI (t + s) - 1) (cA 21 m (nI t) (cM 20 m (some X.length) C1))).1 4 = nI m from hn1]
            refine wp_ialoadn m dX3_lays_119 rfl (cg_22 hE.X) rfl (by omega) (by decide) ?_
            rw [cA_s]
            refine wp_aload_0 dX3_lays_120 rfl ?_
            refine wp_getf dX3_lays_121 rfl q540 fk5_4 (cg_19 hE.X) rfl ?_
            refine wp_getfN dX3_lays_124 rfl q718 fk0_1 hE.o0 rfl ?_
            refine wp_getfN dX3_lays_127 rfl q458 fk2_7 hE.ob rfl ?_
            refine wp_iadd dX3_lays_130 rfl ?_
            refine wp_iconst 1 dX3_lays_131 rfl rfl ?_
            refine wp_iadd dX3_lays_132 rfl ?_
            refine wp_istore_1 dX3_lays_133 rfl (by decide) rfl ?_
            refine wp_aload_0 dX3_lays_134 rfl ?_
            refine wp_dup dX3_lays_135 rfl rfl ?_
            refine wp_getf dX3_lays_136 rfl q534 fk5_3 (cg_19 hE.X) rfl ?_
            rw [show (cA 22 m (nI (t + s) - 1) (cA 21 m (nI t) (cM 20 m (some X.length) C1))).1 4 = nI m from hn1]
            refine wp_iconst 1 dX3_lays_139 rfl rfl ?_
            refine wp_iadd dX3_lays_140 rfl ?_
            refine wp_putfG dX3_lays_141 rfl q534 fg5_3 (cg_19 hE.X) rfl rfl (Nat.le_of_ble_eq_true rfl) cs_19_3 ?_
            refine wp_goto 9 dX3_lays_144 rfl rfl ?_
            have hmay : mayK W m = true := by rw [hk]; simp; omega
            have hbn : ¬ hbV W law (onN f m) (twN f m) v = -1 := by rw [hv, hbj]; exact nI_m1 (by omega)
            have e9 : niR W law (k + 1) (m, f, v) = niR W law k (m + 1, upd f m (nI j), lN (dU u)) := by
              rw [niR, if_pos hmay, if_neg hbn, hv, hbj]
              obtain ⟨j2, hj2, hb2, hd2⟩ := hb_n (law := law) (one := (onN f m)) (two := (twN f m)) hE.s hu hc0
              rw [hd2]
            exact WP.mono (by omega) (by omega) (WP.cast (by rw [gT, et, es, nI_add]) (ih (upC m X.length (nI t) (nI (t + s) - 1) C1) (X ++ [.inr (14, [.int (nI j), .int (-1), .int 0])]) (m + 1) (upd f m (nI j)) (lN (dU u)) (dU u) _ (by omega) ((upC_k m X.length (nI t) (nI (t + s) - 1) C1).ev hE) (hNU _ _ et.symm (by unfold gTe; rw [et, es, nI_add])) (dU_lt u) rfl ((hK.tr kx).tr (upC_k m X.length (nI t) (nI (t + s) - 1) C1)) (fun q hq => by rcases Nat.lt_succ_iff_lt_or_eq.mp hq with q2 | q2; exact hM q q2; rw [q2]; exact hmay) (fun C' X' Z hz hl g1 g2 k9 => hq C' X' (.inr (14, [.int (nI j), .int (-1), .int 0]) :: Z) (by rw [hz, List.append_assoc]; rfl) (by rw [List.length_cons]; omega) (by rw [e9]; exact g1) (by rw [e9]; exact g2) k9)))
theorem c_layN0 {g : GW} {C : SC} {S : SM} {X : AH} {lo hi b : Nat} {A : BA} {W : Nat → Int32} (hE : EV C X lo hi b A W) (h0 : ¬ W 0 = 0) {u : Nat} (hu : u < 2147483648) (hv : C.2.2.2.2.2 = lN u) : SP g 7 60 180 yX3_lays cX3_lays 3 (some (.object "MoleBoard$Game")) [.ref 19] (cH C S X) (fun v h1 => v = some (.ref 19) ∧ LN C S X W (C.1 5) (lN u) h1) := by
  refine SP.intro [some (.ref 19), none, none] (pfn (by decide)) rfl (Nat.le_of_ble_eq_true rfl) ?_
  refine wp_aload_0 dX3_lays_0 rfl ?_
  refine wp_iconst 0 dX3_lays_1 rfl rfl ?_
  refine wp_putfG dX3_lays_2 rfl q534 fg5_3 (cg_19 hE.X) rfl rfl (Nat.le_of_ble_eq_true rfl) cs_19_3 ?_
  refine wp_iconst 0 dX3_lays_5 rfl rfl ?_
  refine wp_istore_1 dX3_lays_6 rfl (by decide) rfl ?_
  refine wp_null dX3_lays_7 rfl ?_
  refine wp_astoreN_2 dX3_lays_8 rfl (by decide) rfl ?_
  exact cL_layN (law := C.1 5) h0 60 (cF 4 0 C) X 0 (fun _ => 0) (lN u) u (some .null) rfl (hE.to rfl) ⟨GM.nil rfl, rfl, hv, fun j hj => absurd hj (Nat.not_lt_zero j), fun j hj => absurd hj (Nat.not_lt_zero j)⟩ hu rfl ((CK.rf _ _ _ _ _ C).F _ (by decide)) (fun j hj => absurd hj (Nat.not_lt_zero j)) (fun C' X' Z hz hl g1 g2 k9 => ⟨rfl, C', Z, by rw [hz], by rw [← hz]; exact g1, g2, k9⟩)
theorem c_layN {g : GW} {C : SC} {S : SM} {X : AH} {lo hi b : Nat} {A : BA} {W : Nat → Int32} (hE : EV C X lo hi b A W) (h0 : ¬ W 0 = 0) {u : Nat} (hu : u < 2147483648) {law : Int32} : SP g 8 60 180 yX5_lays cX5_lays 4 (some (.object "MoleBoard$Game")) [.ref 19, .long (lN u), .int law] (cH C S X) (fun v h1 => v = some (.ref 19) ∧ LN C S X W law (lN u) h1) := by
  refine SP.intro [some (.ref 19), some (.long (lN u)), none, some (.int law)] (pfn (by decide)) rfl (Nat.le_of_ble_eq_true rfl) ?_
  refine wp_aload_0 dX5_lays_0 rfl ?_
  refine wp_lload_1 dX5_lays_1 rfl ?_
  refine wp_putfG dX5_lays_2 rfl q562 fg5_7 (cg_19 hE.X) rfl rfl (Nat.le_of_ble_eq_true rfl) cs_19_7 ?_
  refine wp_aload_0 dX5_lays_5 rfl ?_
  refine wp_iload_3 dX5_lays_6 rfl ?_
  refine wp_putfG dX5_lays_7 rfl q561 fg5_6 (cg_19 hE.X) rfl rfl (Nat.le_of_ble_eq_true rfl) cs_19_6 ?_
  change WP g 8 _ _ _ _ _ _ _ (cH (cF 5 law (cX (lN u) C)) S X) _ _ _
  have hE1 : EV (cF 5 law (cX (lN u) C)) X lo hi b A W := hE.to rfl
  refine wp_aload_0 dX5_lays_10 rfl ?_
  refine wp_UeR dX5_lays_11 rfl q1780 mu_X3_lays_X5 (cg_19 hE.X) rfl rfl (c_layN0 hE1 h0 hu rfl) rfl rfl (Nat.le_of_ble_eq_true rfl) (Nat.le_of_ble_eq_true rfl) (Nat.le_refl _) (Nat.le_refl _) (fun h1 hq => ?_)
  obtain ⟨C, Z, rfl, hG, hg, hN⟩ := hq
  exact wp_areturn_r dX5_lays_14 rfl (Or.inl ⟨_, rfl⟩) ⟨rfl, _, _, rfl, hG, hg, CNt.tr (((CK.rf [4, 5] [21, 22, 23] [] [] [20] _).X _).F _ (by decide)) hN⟩
theorem c_isNight {g : GW} {C : SC} {S : SM} {X : AH} {lo hi b : Nat} {A : BA} {W : Nat → Int32} (hE : EV C X lo hi b A W) {x w : Int32} : SPx g 3 0 0 yX0_isNight cX0_isNight 3 (some .boolean) [.ref 0, .int x, .int w] (cH C S X) (some (.int (b2i (bdW W && (seB x && laL w))))) (cH C S X) := by
  refine SPx.intro [some (.ref 0), some (.int x), some (.int w)] (pfn (by decide)) rfl (Nat.le_of_ble_eq_true rfl) ?_
  refine wp_aload_0 dX0_isNight_0 rfl ?_
  refine wp_getf dX0_isNight_1 rfl q721 fk0_1 hE.o0 rfl ?_
  refine wp_cvR dX0_isNight_4 rfl q1167 mv_X2_is hE.ob rfl rfl (c_is hE) rfl rfl (Nat.le_of_ble_eq_true rfl) (Nat.le_of_ble_eq_true rfl) ?_
  refine wp_ifeq_b 33 dX0_isNight_7 rfl rfl (fun c7 => ?_) (fun c7 => ?_)
  · refine wp_iconst 0 dX0_isNight_33 rfl rfl ?_
    exact wp_zreturn dX0_isNight_34 rfl rfl ⟨by simp [b2i, *], rfl⟩
  · refine wp_iload_1 dX0_isNight_10 rfl ?_
    refine wp_i2l dX0_isNight_11 rfl ?_
    refine wp_lconst 0 dX0_isNight_12 rfl rfl ?_
    refine wp_ldc2_w dX0_isNight_13 rfl q1775 ?_
    refine wp_csR dX0_isNight_16 rfl q190 ms_X0_in c_in rfl rfl (Nat.le_of_ble_eq_true rfl) (Nat.le_of_ble_eq_true rfl) ?_
    rw [show inL x.toInt64 0 2000000000 = seB x from inL_i x 0 2000000000]
    refine wp_ifeq_b 33 dX0_isNight_19 rfl rfl (fun c19 => ?_) (fun c19 => ?_)
    · refine wp_iconst 0 dX0_isNight_33 rfl rfl ?_
      exact wp_zreturn dX0_isNight_34 rfl rfl ⟨by simp [b2i, *], rfl⟩
    · refine wp_iload_2 dX0_isNight_22 rfl ?_
      refine wp_csR dX0_isNight_23 rfl q1502 ms_X0_isLaw c_isLaw rfl rfl (Nat.le_of_ble_eq_true rfl) (Nat.le_of_ble_eq_true rfl) ?_
      refine wp_ifeq_b 33 dX0_isNight_26 rfl rfl (fun c26 => ?_) (fun c26 => ?_)
      · refine wp_iconst 0 dX0_isNight_33 rfl rfl ?_
        exact wp_zreturn dX0_isNight_34 rfl rfl ⟨by simp [b2i, *], rfl⟩
      · refine wp_iconst 1 dX0_isNight_29 rfl rfl ?_
        refine wp_goto 34 dX0_isNight_30 rfl rfl ?_
        exact wp_zreturn dX0_isNight_34 rfl rfl ⟨by simp [b2i, *], rfl⟩
theorem isN_of {W : Nat → Int32} {x w : Int32} (h : (bdW W && (seB x && laL w)) = true) : (bdW W = true ∧ seB x = true ∧ laL w = true) ∧ ∃ u, u ≤ 2000000000 ∧ x = nI u ∧ x.toInt64 = lN u := by
  rw [Bool.and_eq_true, Bool.and_eq_true] at h
  refine ⟨h, ?_⟩
  have h2 := h.2.1
  unfold seB inI at h2
  rw [Bool.and_eq_true, decide_eq_true_eq, decide_eq_true_eq] at h2
  obtain ⟨u, hu, rfl⟩ := nI_of (x := x) (Int32.not_lt.mpr h2.1)
  exact ⟨u, (nI_leI (b := 2000000000) hu (by omega)).mp h2.2, rfl, nI_l hu⟩
theorem isN_no {W : Nat → Int32} {x w : Int32} (h : (bdW W && (seB x && laL w)) = false) : ¬ (bdW W = true ∧ (seB x = true ∧ laL w = true)) := fun q => by
  rw [q.1, q.2.1, q.2.2] at h
  exact absurd h (by decide)
theorem q_c_drawn {g : GW} {C : SC} {S : SM} {X : AH} {lo hi b : Nat} {A : BA} {W : Nat → Int32} (hE : EV C X lo hi b A W) {x w z : Int32} : SP g 9 60 180 yX0_drawn cX0_drawn 5 (some .int) [.ref 0, .int x, .int w, .int z] (cH C S X) (QC C S X (.int (qdrawn W x w z))) := by
  refine SP.intro [some (.ref 0), some (.int x), some (.int w), some (.int z), none] (pfn (by decide)) rfl (Nat.le_of_ble_eq_true rfl) ?_
  refine wp_aload_0 dX0_drawn_0 rfl ?_
  refine wp_iload_1 dX0_drawn_1 rfl ?_
  refine wp_iload_2 dX0_drawn_2 rfl ?_
  refine wp_cvR dX0_drawn_3 rfl q1771 mv_X0_isNight hE.o0 rfl rfl (c_isNight hE) rfl rfl (Nat.le_of_ble_eq_true rfl) (Nat.le_of_ble_eq_true rfl) ?_
  refine wp_ifne_b 12 dX0_drawn_6 rfl rfl (fun c6 => ?_) (fun c6 => ?_)
  · obtain ⟨⟨hbd, hse, hla⟩, u, hu, eu, ex⟩ := isN_of c6
    have h0 := bd_w0 hE.w hbd
    refine wp_aload_0 dX0_drawn_12 rfl ?_
    refine wp_getf dX0_drawn_13 rfl q728 fk0_8 hE.o0 rfl ?_
    refine wp_iload_1 dX0_drawn_16 rfl ?_
    refine wp_i2l dX0_drawn_17 rfl ?_
    rw [ex]
    refine wp_iload_2 dX0_drawn_18 rfl ?_
    refine wp_VeR dX0_drawn_19 rfl q1776 mv_X5_lays (cg_19 hE.X) rfl rfl (c_layN hE h0 (u := u) (by omega)) rfl rfl (Nat.le_of_ble_eq_true rfl) (Nat.le_of_ble_eq_true rfl) (Nat.le_refl _) (Nat.le_refl _) (fun h1 hq => ?_)
    obtain ⟨C, Z, rfl, hG, hg, hN⟩ := hq
    have hE := (hN.ev hE).ap (Z := Z)
    have hn : C.1 4 = nI (niW W w (lN u)).1 := hG.1
    have h60 : (niW W w (lN u)).1 ≤ 60 := hG.2.1
    have hL := hN.kc
    refine wp_astore_4 dX0_drawn_22 rfl (by decide) rfl ?_
    refine wp_iload_3 dX0_drawn_24 rfl ?_
    refine wp_i2l dX0_drawn_25 rfl ?_
    refine wp_lconst 0 dX0_drawn_26 rfl rfl ?_
    refine wp_aload_4 dX0_drawn_27 rfl ?_
    refine wp_getf dX0_drawn_29 rfl q539 fk5_3 (cg_19 hE.X) rfl ?_
    rw [hn]
    refine wp_iconst 1 dX0_drawn_32 rfl rfl ?_
    refine wp_isub dX0_drawn_33 rfl ?_
    refine wp_i2l dX0_drawn_34 rfl ?_
    refine wp_csR dX0_drawn_35 rfl q190 ms_X0_in c_in rfl rfl (Nat.le_of_ble_eq_true rfl) (Nat.le_of_ble_eq_true rfl) ?_
    refine wp_ifeq_b 53 dX0_drawn_38 rfl rfl (fun c38 => ?_) (fun c38 => ?_)
    · rw [inL_0] at c38
      refine wp_iconst (-1) dX0_drawn_53 rfl rfl ?_
      exact wp_ireturn dX0_drawn_54 rfl ⟨by rw [qdrawn, if_pos ⟨hbd, hse, hla⟩, ex, if_neg (by rw [c38]; decide)], QC0.mkz hL⟩
    · rw [inL_0] at c38
      obtain ⟨i, hi, rfl⟩ := in_of (n := (niW W w (lN u)).1) (by omega) c38
      obtain ⟨m, hm, hM⟩ := hG.m (S := S) hi
      refine wp_aload_4 dX0_drawn_41 rfl ?_
      refine wp_iload_3 dX0_drawn_43 rfl ?_
      refine wp_UxR dX0_drawn_44 rfl q1296 mu_X3_mole_X5 (cg_19 hE.X) rfl rfl (c_gmole5 hE.X (by omega) hm) rfl rfl (Nat.le_of_ble_eq_true rfl) (Nat.le_of_ble_eq_true rfl) (Nat.zero_le _) (Nat.zero_le _) ?_
      refine wp_getfN dX0_drawn_47 rfl q1056 fk14_0 hM rfl ?_
      refine wp_goto 54 dX0_drawn_50 rfl rfl ?_
      exact wp_ireturn dX0_drawn_54 rfl ⟨by rw [qdrawn, if_pos ⟨hbd, hse, hla⟩, ex, if_pos c38, nI_clamp (by omega)], QC0.mkz hL⟩
  · refine wp_bipush (-2) dX0_drawn_9 rfl rfl ?_
    exact wp_ireturn dX0_drawn_11 rfl ⟨by rw [qdrawn, if_neg (isN_no c6)], QC0.rf⟩
theorem plW_bd {W : Nat → Int32} (h : WFa W) {p : Int32} (q : plW W p = true) : bdW W = true := by
  obtain ⟨j, hj, -⟩ := plW_of h.1.1 q
  exact h.bd (j := 6) (Or.inr trivial) (by rw [h.1.1.np.1]; exact nI_ne0 (by omega) (by have := h.1.1.np.2; omega))
theorem q_c_night {g : GW} {C : SC} {S : SM} {X : AH} {lo hi b : Nat} {A : BA} {W : Nat → Int32} (hE : EV C X lo hi b A W) {x w z : Int32} : SP g 9 60 180 yX0_night cX0_night 4 (some .int) [.ref 0, .int x, .int w, .int z] (cH C S X) (QC C S X (.int (qnight W x w z))) := by
  refine SP.intro [some (.ref 0), some (.int x), some (.int w), some (.int z)] (pfn (by decide)) rfl (Nat.le_of_ble_eq_true rfl) ?_
  refine wp_aload_0 dX0_night_0 rfl ?_
  refine wp_iload_1 dX0_night_1 rfl ?_
  refine wp_iload_2 dX0_night_2 rfl ?_
  refine wp_cvR dX0_night_3 rfl q1771 mv_X0_isNight hE.o0 rfl rfl (c_isNight hE) rfl rfl (Nat.le_of_ble_eq_true rfl) (Nat.le_of_ble_eq_true rfl) ?_
  refine wp_ifeq_b 44 dX0_night_6 rfl rfl (fun c6 => ?_) (fun c6 => ?_)
  · refine wp_bipush (-2) dX0_night_44 rfl rfl ?_
    exact wp_ireturn dX0_night_46 rfl ⟨by rw [qnight, if_neg (fun q => isN_no c6 ⟨plW_bd hE.w q.2.2, q.1, q.2.1⟩)], QC0.rf⟩
  · obtain ⟨⟨hbd, hse, hla⟩, u, hu, eu, ex⟩ := isN_of c6
    have h0 := bd_w0 hE.w hbd
    refine wp_aload_0 dX0_night_9 rfl ?_
    refine wp_iload_3 dX0_night_10 rfl ?_
    refine wp_cvR dX0_night_11 rfl q1219 mv_X0_isPlayer hE.o0 rfl rfl (c_isPlayer hE) rfl rfl (Nat.le_of_ble_eq_true rfl) (Nat.le_of_ble_eq_true rfl) ?_
    refine wp_ifeq_b 44 dX0_night_14 rfl rfl (fun c14 => ?_) (fun c14 => ?_)
    · refine wp_bipush (-2) dX0_night_44 rfl rfl ?_
      exact wp_ireturn dX0_night_46 rfl ⟨by rw [qnight, if_neg (fun q => by rw [c14] at q; exact absurd q.2.2 (by decide))], QC0.rf⟩
    · obtain ⟨p, hp, rfl⟩ := plW_of hE.s c14
      have hp4 : p < 4 := by have := hE.s.np.2; omega
      have hk := (pl1 hE.p hp).2
      refine wp_aload_0 dX0_night_17 rfl ?_
      refine wp_getf dX0_night_18 rfl q729 fk0_9 hE.o0 rfl ?_
      refine wp_iload_3 dX0_night_21 rfl ?_
      refine wp_cvEi dX0_night_22 rfl q1354 mv_X6_plain (cg_24 hE.X) rfl rfl (c_plain hE hp) rfl rfl (Nat.le_of_ble_eq_true rfl) (Nat.le_of_ble_eq_true rfl) (fun h1 hq => ?_)
      obtain ⟨C, rfl, hP, hc⟩ := hq
      have hE := hc.ev hE
      have hL := hc.kc
      refine wp_aload_0 dX0_night_25 rfl ?_
      refine wp_getf dX0_night_26 rfl q728 fk0_8 hE.o0 rfl ?_
      refine wp_iload_1 dX0_night_29 rfl ?_
      refine wp_i2l dX0_night_30 rfl ?_
      rw [ex]
      refine wp_iload_2 dX0_night_31 rfl ?_
      refine wp_VeR dX0_night_32 rfl q1776 mv_X5_lays (cg_19 hE.X) rfl rfl (c_layN hE h0 (u := u) (by omega)) rfl rfl (Nat.le_of_ble_eq_true rfl) (Nat.le_of_ble_eq_true rfl) (Nat.le_refl _) (Nat.le_refl _) (fun h1 hq => ?_)
      obtain ⟨C, Z, rfl, hG, hg, hN⟩ := hq
      have hE := (hN.ev hE).ap (Z := Z)
      have hP := hN.pc hP
      have hL := hL.tr hN.kc
      refine wp_cvEi dX0_night_35 rfl q1359 mv_X6_goes (cg_24 hE.X) rfl rfl (c_goes5 hE hG hP hp hk hg) rfl rfl (Nat.le_of_ble_eq_true rfl) (Nat.le_of_ble_eq_true rfl) (fun h1 hq => ?_)
      obtain ⟨C, rfl, hR, hr⟩ := hq
      have hE := hr.ev hE
      have hL := hL.tr hr.kc
      refine wp_getfN dX0_night_38 rfl q604 fk6_11 (cg_24 hE.X) rfl ?_
      rw [hR.hits rfl]
      refine wp_goto 46 dX0_night_41 rfl rfl ?_
      exact wp_ireturn dX0_night_46 rfl ⟨by rw [qnight, if_pos ⟨hse, hla, c14⟩, nI_clamp (by omega), ex]; rfl, QC0.mkz hL⟩
theorem XT.ap {X0 X : AH} (h : XT X0 X) (Z : AH) : XT X0 (X ++ Z) := by
  obtain ⟨Y, rfl⟩ := h
  exact ⟨Y ++ Z, by rw [List.append_assoc]⟩
theorem cL_years {g : GW} {S : SM} {lo hi b : Nat} {A : BA} {W : Nat → Int32} {C0 : SC} {X0 : AH} {x w : Int32} {u n2 p : Nat} (hu : u ≤ 2000000000) (ex : x.toInt64 = lN u) (hn2 : n2 ≤ 20) (hp : p < nW W 6) (h0 : ¬ W 0 = 0)  {Q : Option Value → AH → Prop} : ∀ (k : Nat) (C : SC) (X : AH) (i : Nat) (a : Int32), i + k = n2 → EV C X lo hi b A W → KC C0 C → XT X0 X → (∀ C' X', KC C0 C' → XT X0 X' → Q (some (.int (itr (yeF W w p x) k i a))) (cH C' S X')) → WP g 9 yX0_years cX0_years 7 (some .int) 39 [some (.ref 0), some (.int x), some (.int (nI n2)), some (.int w), some (.int (nI p)), some (.int a), some (.int (nI i))] [] (cH C S X) (60 * k) (180 * k) Q := by
  intro k
  induction k with
  | zero =>
    intro C X i a hi0 hE hL hX0 hq
    refine wp_iload_6 dX0_years_39 rfl ?_
    refine wp_iload_2 dX0_years_41 rfl ?_
    refine wp_icmp_ge_k 85 dX0_years_42 rfl rfl (by omega) (by omega) (fun c42 => ?_) (fun c42 => ?_)
    · refine wp_iload_5 dX0_years_85 rfl ?_
      exact wp_ireturn dX0_years_87 rfl (hq C X hL hX0)
    · exact absurd c42 (by omega)
  | succ k ih =>
    intro C X i a hi0 hE hL hX0 hq
    refine wp_iload_6 dX0_years_39 rfl ?_
    refine wp_iload_2 dX0_years_41 rfl ?_
    refine wp_icmp_ge_k 85 dX0_years_42 rfl rfl (by omega) (by omega) (fun c42 => ?_) (fun c42 => ?_)
    · exact absurd c42 (by omega)
    · have hk := (pl1 hE.p hp).2
      refine wp_iload_5 dX0_years_45 rfl ?_
      refine wp_aload_0 dX0_years_47 rfl ?_
      refine wp_getf dX0_years_48 rfl q729 fk0_9 hE.o0 rfl ?_
      refine wp_iload_4 dX0_years_51 rfl ?_
      refine wp_cvEi dX0_years_53 rfl q1354 mv_X6_plain (cg_24 hE.X) rfl rfl (c_plain hE hp) rfl rfl (Nat.le_of_ble_eq_true rfl) (Nat.le_of_ble_eq_true rfl) (fun h1 hq => ?_)
      obtain ⟨C, rfl, hP, hc⟩ := hq
      have hE := hc.ev hE
      have hL := hL.tr hc.kc
      refine wp_aload_0 dX0_years_56 rfl ?_
      refine wp_getf dX0_years_57 rfl q728 fk0_8 hE.o0 rfl ?_
      refine wp_iload_1 dX0_years_60 rfl ?_
      refine wp_i2l dX0_years_61 rfl ?_
      rw [ex]
      refine wp_iload_6 dX0_years_62 rfl ?_
      refine wp_i2l dX0_years_64 rfl ?_
      rw [nI_l (by omega)]
      refine wp_ladd dX0_years_65 rfl ?_
      rw [lN_add]
      refine wp_iload_3 dX0_years_66 rfl ?_
      refine wp_VeR dX0_years_67 rfl q1776 mv_X5_lays (cg_19 hE.X) rfl rfl (c_layN hE h0 (u := u + i) (by omega)) rfl rfl (Nat.le_of_ble_eq_true rfl) (Nat.le_of_ble_eq_true rfl) (by omega) (by omega) (fun h1 hq => ?_)
      obtain ⟨C, Z, rfl, hG, hg, hN⟩ := hq
      have hE := (hN.ev hE).ap (Z := Z)
      have hP := hN.pc hP
      have hL := hL.tr hN.kc
      refine wp_cvEi dX0_years_70 rfl q1359 mv_X6_goes (cg_24 hE.X) rfl rfl (c_goes5 hE hG hP hp hk hg) rfl rfl (Nat.le_of_ble_eq_true rfl) (Nat.le_of_ble_eq_true rfl) (fun h1 hq => ?_)
      obtain ⟨C, rfl, hR, hr⟩ := hq
      have hE := hr.ev hE
      have hL := hL.tr hr.kc
      refine wp_getfN dX0_years_73 rfl q604 fk6_11 (cg_24 hE.X) rfl ?_
      rw [hR.hits rfl]
      refine wp_iadd dX0_years_76 rfl ?_
      refine wp_istore_5 dX0_years_77 rfl (by decide) rfl ?_
      refine wp_iinc_6 1 dX0_years_79 rfl rfl (by decide) rfl ?_
      refine wp_goto 39 dX0_years_82 rfl rfl ?_
      have e9 : yeF W w p x i a = a + ngV W w p (lN (u + i)) := by rw [yeF, ex, nI_l (by omega), lN_add]
      exact WP.mono (by omega) (by omega) (WP.cast (by rw [e9, nI_1]; rfl) (ih C _ (i + 1) (yeF W w p x i a) (by omega) hE hL (hX0.ap Z) hq))
theorem q_c_years {g : GW} {C : SC} {S : SM} {X : AH} {lo hi b : Nat} {A : BA} {W : Nat → Int32} (hE : EV C X lo hi b A W) {x y w z : Int32} : SP g 9 1200 3600 yX0_years cX0_years 7 (some .int) [.ref 0, .int x, .int y, .int w, .int z] (cH C S X) (QC C S X (.int (qyears W x y w z))) := by
  refine SP.intro [some (.ref 0), some (.int x), some (.int y), some (.int w), some (.int z), none, none] (pfn (by decide)) rfl (Nat.le_of_ble_eq_true rfl) ?_
  refine wp_aload_0 dX0_years_0 rfl ?_
  refine wp_iload_1 dX0_years_1 rfl ?_
  refine wp_iload_3 dX0_years_2 rfl ?_
  refine wp_cvR dX0_years_3 rfl q1771 mv_X0_isNight hE.o0 rfl rfl (c_isNight hE) rfl rfl (Nat.le_of_ble_eq_true rfl) (Nat.le_of_ble_eq_true rfl) ?_
  refine wp_ifeq_b 30 dX0_years_6 rfl rfl (fun c6 => ?_) (fun c6 => ?_)
  · refine wp_bipush (-2) dX0_years_30 rfl rfl ?_
    exact wp_ireturn dX0_years_32 rfl ⟨by rw [qyears, if_neg (fun q => isN_no c6 ⟨plW_bd hE.w q.2.2.2, q.1, q.2.2.1⟩)], QC0.rf⟩
  · obtain ⟨⟨hbd, hse, hla⟩, u, hu, eu, ex⟩ := isN_of c6
    have h0 := bd_w0 hE.w hbd
    refine wp_iload_2 dX0_years_9 rfl ?_
    refine wp_i2l dX0_years_10 rfl ?_
    refine wp_lconst 1 dX0_years_11 rfl rfl ?_
    refine wp_ldc2_w dX0_years_12 rfl q1633 ?_
    refine wp_csR dX0_years_15 rfl q190 ms_X0_in c_in rfl rfl (Nat.le_of_ble_eq_true rfl) (Nat.le_of_ble_eq_true rfl) ?_
    refine wp_ifeq_b 30 dX0_years_18 rfl rfl (fun c18 => ?_) (fun c18 => ?_)
    · refine wp_bipush (-2) dX0_years_30 rfl rfl ?_
      exact wp_ireturn dX0_years_32 rfl ⟨by rw [qyears, if_neg (fun q => by rw [c18] at q; exact absurd q.2.1 (by decide))], QC0.rf⟩
    · obtain ⟨n2, hn2, rfl⟩ := in120_of c18
      refine wp_aload_0 dX0_years_21 rfl ?_
      refine wp_iload_4 dX0_years_22 rfl ?_
      refine wp_cvR dX0_years_24 rfl q1219 mv_X0_isPlayer hE.o0 rfl rfl (c_isPlayer hE) rfl rfl (Nat.le_of_ble_eq_true rfl) (Nat.le_of_ble_eq_true rfl) ?_
      refine wp_ifne_b 33 dX0_years_27 rfl rfl (fun c27 => ?_) (fun c27 => ?_)
      · obtain ⟨p, hp, rfl⟩ := plW_of hE.s c27
        have hp4 : p < 4 := by have := hE.s.np.2; omega
        refine wp_iconst 0 dX0_years_33 rfl rfl ?_
        refine wp_istore_5 dX0_years_34 rfl (by decide) rfl ?_
        refine wp_iconst 0 dX0_years_36 rfl rfl ?_
        refine wp_istore_6 dX0_years_37 rfl (by decide) rfl ?_
        refine WP.mono (by omega) (by omega) (cL_years (C0 := C) (X0 := X) hu ex hn2 hp h0 n2 C X 0 0 (Nat.zero_add _) hE (KC.rf C) (XT.rf X) (fun C1 X1 hL hX1 => ?_))
        obtain ⟨Z, rfl⟩ := hX1
        exact ⟨by rw [qyears, if_pos ⟨hse, c18, hla, c27⟩, nI_clamp (by omega), nI_clamp (by omega)], QC0.mkz hL⟩
      · refine wp_bipush (-2) dX0_years_30 rfl rfl ?_
        exact wp_ireturn dX0_years_32 rfl ⟨by rw [qyears, if_neg (fun q => by rw [c27] at q; exact absurd q.2.2.2 (by decide))], QC0.rf⟩
