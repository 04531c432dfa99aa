/-! ===== the class: blows ===== -/
set_option maxRecDepth 100000
theorem j_fillIL {g : GW} {h : AH} {a len : Nat} {v : Int32} (ha : a < h.length) (hl : len < 1000000000) {c n : Nat} {Q : Option Value → AH → Prop} : ∀ (k i : Nat) (F : Nat → Int32), i + k = len → Q none (h.set a (.inl (0, len, .inl (itr (fun i F => upd F i v) k i F)))) → WP g 1 yJ13_fill cJ13_fill 4 none 5 [some (.ref a), some (.int v), some (.int (nI i)), some (.int (nI len))] [] (h.set a (.inl (0, len, .inl F))) c n Q := by
  intro k
  induction k with
  | zero =>
    intro i F hi hq
    refine wp_iload_2 dJ13_fill_5 rfl ?_
    refine wp_iload_3 dJ13_fill_6 rfl ?_
    refine wp_icmp_ge_k 20 dJ13_fill_7 rfl rfl (by omega) (by omega) (fun c7 => ?_) (fun c7 => ?_)
    · exact wp_return dJ13_fill_20 rfl hq
    · exact absurd c7 (by omega)
  | succ k ih =>
    intro i F hi hq
    refine wp_iload_2 dJ13_fill_5 rfl ?_
    refine wp_iload_3 dJ13_fill_6 rfl ?_
    refine wp_icmp_ge_k 20 dJ13_fill_7 rfl rfl (by omega) (by omega) (fun c7 => ?_) (fun c7 => ?_)
    · exact absurd c7 (by omega)
    · refine wp_aload_0 dJ13_fill_10 rfl ?_
      refine wp_iload_2 dJ13_fill_11 rfl ?_
      refine wp_iload_1 dJ13_fill_12 rfl ?_
      refine wp_iastoren i dJ13_fill_13 rfl (List.getElem?_set_self ha) rfl (by omega) (by omega) (List.set_set _) ?_
      refine wp_iinc_2 1 dJ13_fill_14 rfl rfl (by decide) rfl ?_
      refine wp_goto 5 dJ13_fill_17 rfl rfl ?_
      exact WP.cast (by rw [nI_1]) (ih (i + 1) _ (by omega) hq)
theorem j_fillI {g : GW} {h : AH} {a len : Nat} {f : Nat → Int32} {v : Int32} (ha : h[a]? = some (.inl (0, len, .inl f))) (hl : len < 1000000000) : SPx g 1 0 0 yJ13_fill cJ13_fill 4 none [.ref a, .int v] h none (h.set a (.inl (0, len, .inl (fiI v len f)))) := by
  refine SPx.intro [some (.ref a), some (.int v), none, none] (pfn (by decide)) rfl (Nat.le_of_ble_eq_true rfl) ?_
  refine wp_iconst 0 dJ13_fill_0 rfl rfl ?_
  refine wp_istore_2 dJ13_fill_1 rfl (by decide) rfl ?_
  refine wp_aload_0 dJ13_fill_2 rfl ?_
  refine wp_alen (nI len) dJ13_fill_3 rfl rfl ha rfl ?_
  refine wp_istore_3 dJ13_fill_4 rfl (by decide) rfl ?_
  have e0 : h.set a (.inl (0, len, .inl f)) = h := set_me ha
  have hlt := (List.getElem?_eq_some_iff.mp ha).1
  rw [← e0]
  exact j_fillIL hlt hl len 0 f (Nat.zero_add _) ⟨rfl, by rw [e0]; rfl⟩
theorem j_fillLL {g : GW} {h : AH} {a len : Nat} {v : Int64} (ha : a < h.length) (hl : len < 1000000000) {c n : Nat} {Q : Option Value → AH → Prop} : ∀ (k i : Nat) (F : Nat → Int64), i + k = len → Q none (h.set a (.inl (3, len, .inr (.inl (itr (fun i F => vp_updL F i v) k i F))))) → WP g 1 yJ13_fill_2 cJ13_fill_2 5 none 6 [some (.ref a), some (.long v), none, some (.int (nI i)), some (.int (nI len))] [] (h.set a (.inl (3, len, .inr (.inl F)))) c n Q := by
  intro k
  induction k with
  | zero =>
    intro i F hi hq
    refine wp_iload_3 dJ13_fill_2_6 rfl ?_
    refine wp_iload_4 dJ13_fill_2_7 rfl ?_
    refine wp_icmp_ge_k 22 dJ13_fill_2_9 rfl rfl (by omega) (by omega) (fun c9 => ?_) (fun c9 => ?_)
    · exact wp_return dJ13_fill_2_22 rfl hq
    · exact absurd c9 (by omega)
  | succ k ih =>
    intro i F hi hq
    refine wp_iload_3 dJ13_fill_2_6 rfl ?_
    refine wp_iload_4 dJ13_fill_2_7 rfl ?_
    refine wp_icmp_ge_k 22 dJ13_fill_2_9 rfl rfl (by omega) (by omega) (fun c9 => ?_) (fun c9 => ?_)
    · exact absurd c9 (by omega)
    · refine wp_aload_0 dJ13_fill_2_12 rfl ?_
      refine wp_iload_3 dJ13_fill_2_13 rfl ?_
      refine wp_lload_1 dJ13_fill_2_14 rfl ?_
      refine wp_lastoren i dJ13_fill_2_15 rfl (List.getElem?_set_self ha) rfl (by omega) (by omega) (List.set_set _) ?_
      refine wp_iinc_3 1 dJ13_fill_2_16 rfl rfl (by decide) rfl ?_
      refine wp_goto 6 dJ13_fill_2_19 rfl rfl ?_
      exact WP.cast (by rw [nI_1]) (ih (i + 1) _ (by omega) hq)
theorem j_fillL {g : GW} {h : AH} {a len : Nat} {f : Nat → Int64} {v : Int64} (ha : h[a]? = some (.inl (3, len, .inr (.inl f)))) (hl : len < 1000000000) : SPx g 1 0 0 yJ13_fill_2 cJ13_fill_2 5 none [.ref a, .long v] h none (h.set a (.inl (3, len, .inr (.inl (fiL v len f))))) := by
  refine SPx.intro [some (.ref a), some (.long v), none, none, none] (pfn (by decide)) rfl (Nat.le_of_ble_eq_true rfl) ?_
  refine wp_iconst 0 dJ13_fill_2_0 rfl rfl ?_
  refine wp_istore_3 dJ13_fill_2_1 rfl (by decide) rfl ?_
  refine wp_aload_0 dJ13_fill_2_2 rfl ?_
  refine wp_alen (nI len) dJ13_fill_2_3 rfl rfl ha rfl ?_
  refine wp_istore_4 dJ13_fill_2_4 rfl (by decide) rfl ?_
  have e0 : h.set a (.inl (3, len, .inr (.inl f))) = h := set_me ha
  have hlt := (List.getElem?_eq_some_iff.mp ha).1
  rw [← e0]
  exact j_fillLL hlt hl len 0 f (Nat.zero_add _) ⟨rfl, by rw [e0]; rfl⟩
theorem cL_bstrikes {g : GW} {S : SM} {X : AH} {lo hi b : Nat} {A : BA} {W : Nat → Int32} {C0 : SC} {x z lag : Int32} (hw : WG2 (dgW W)) {c n : Nat} {Q : Option Value → AH → Prop} : ∀ (k : Nat) (C : SC) (i : Nat) (t : BT), i + k = dgM W → EV C X lo hi b A W → GM 3 16 17 18 C X (dgW W) → CB C0 C → BC C t (dgW W).1 → (∀ C', BC C' (itr (skF (dgF W) x z lag) k i t) (dgW W).1 → CB C0 C' → Q none (cH C' S X)) → WP g 6 yX9_strikes cX9_strikes 6 none 3 [some (.ref 83), some (.ref 15), some (.int x), some (.int z), some (.int lag), some (.int (nI i))] [] (cH C S X) c n Q := by
  intro k
  induction k with
  | zero =>
    intro C i t hi hE hG hcr hb hq
    have hn : C.1 3 = nI (dgM W) := hG.1
    have h60 : dgM W ≤ 60 := hG.2.1
    refine wp_iload_5 dX9_strikes_3 rfl ?_
    refine wp_aload_1 dX9_strikes_5 rfl ?_
    refine wp_getf dX9_strikes_6 rfl q535 fk4_3 (cg_15 hE.X) rfl ?_
    rw [hn]
    refine wp_icmp_ge_k 134 dX9_strikes_9 rfl rfl (by omega) (by omega) (fun c9 => ?_) (fun c9 => ?_)
    · exact wp_return dX9_strikes_134 rfl (hq C hb hcr)
    · exact absurd c9 (by omega)
  | succ k ih =>
    intro C i t hi hE hG hcr hb hq
    have hn : C.1 3 = nI (dgM W) := hG.1
    have h60 : dgM W ≤ 60 := hG.2.1
    refine wp_iload_5 dX9_strikes_3 rfl ?_
    refine wp_aload_1 dX9_strikes_5 rfl ?_
    refine wp_getf dX9_strikes_6 rfl q535 fk4_3 (cg_15 hE.X) rfl ?_
    rw [hn]
    refine wp_icmp_ge_k 134 dX9_strikes_9 rfl rfl (by omega) (by omega) (fun c9 => ?_) (fun c9 => ?_)
    · exact absurd c9 (by omega)
    · have hi2 : i < (dgW W).1 := by show i < dgM W; omega
      obtain ⟨m, hm, hM⟩ : ∃ m, C.2.2.2.2.1 16 i = some m ∧ (cH C S X)[m]? = some (.inr (14, [.int (gH (dgF W) i), .int (gO (dgF W) i), .int (gR (dgF W) i)])) := hG.m hi2
      obtain ⟨⟨m', hm', hmd, hmx⟩, -⟩ := hG.2.2 i hi2
      obtain rfl : m = m' := Option.some.inj (hm.symm.trans hm')
      have hmx : X[m]? = some (.inr (14, [.int (gH (dgF W) i), .int (gO (dgF W) i), .int (gR (dgF W) i)])) := hmx
      refine wp_aload_1 dX9_strikes_12 rfl ?_
      refine wp_iload_5 dX9_strikes_13 rfl ?_
      refine wp_iload_3 dX9_strikes_15 rfl ?_
      refine wp_UxR dX9_strikes_16 rfl q1682 mu_X3_isUp_X4 (cg_15 hE.X) rfl rfl (c_isUp4 hE.X hG hi2) rfl rfl (Nat.le_of_ble_eq_true rfl) (Nat.le_of_ble_eq_true rfl) (Nat.zero_le _) (Nat.zero_le _) ?_
      refine wp_ifeq_b 128 dX9_strikes_19 rfl rfl (fun c19 => ?_) (fun c19 => ?_)
      · have c19 : inL z.toInt64 (gF (dgF W) i).toInt64 (gE (dgF W) i).toInt64 = false := c19
        refine wp_iinc_5 1 dX9_strikes_128 rfl rfl (by decide) rfl ?_
        refine wp_goto 3 dX9_strikes_131 rfl rfl ?_
        have e9 : skF (dgF W) x z lag i t = t := by
          rw [skF, if_pos (by rw [misC, c19]; rfl)]
        exact WP.cast (by rw [nI_1]) (ih C (i + 1) (skF (dgF W) x z lag i t) (by omega) hE hG hcr (by rw [e9]; exact hb) hq)
      · have c19 : inL z.toInt64 (gF (dgF W) i).toInt64 (gE (dgF W) i).toInt64 = true := c19
        refine wp_aload_1 dX9_strikes_22 rfl ?_
        refine wp_iload_5 dX9_strikes_23 rfl ?_
        refine wp_UxR dX9_strikes_25 rfl q1683 mu_X3_mole_X4 (cg_15 hE.X) rfl rfl (c_gmole4 hE.X (by omega) hm) rfl rfl (Nat.le_of_ble_eq_true rfl) (Nat.le_of_ble_eq_true rfl) (Nat.zero_le _) (Nat.zero_le _) ?_
        refine wp_iload_2 dX9_strikes_28 rfl ?_
        refine wp_cvR dX9_strikes_29 rfl q1684 mv_X13_isAt hM rfl rfl (c_isAt hM) rfl rfl (Nat.le_of_ble_eq_true rfl) (Nat.le_of_ble_eq_true rfl) ?_
        refine wp_ifeq_b 128 dX9_strikes_32 rfl rfl (fun c32 => ?_) (fun c32 => ?_)
        · refine wp_iinc_5 1 dX9_strikes_128 rfl rfl (by decide) rfl ?_
          refine wp_goto 3 dX9_strikes_131 rfl rfl ?_
          have e9 : skF (dgF W) x z lag i t = t := by
            rw [skF, if_pos (by rw [misC, c19, c32]; rfl)]
          exact WP.cast (by rw [nI_1]) (ih C (i + 1) (skF (dgF W) x z lag i t) (by omega) hE hG hcr (by rw [e9]; exact hb) hq)
        · refine wp_aload_0 dX9_strikes_35 rfl ?_
          refine wp_getf dX9_strikes_36 rfl q696 fk9_0 (cg_83 hE.X) rfl ?_
          refine wp_iload_5 dX9_strikes_39 rfl ?_
          refine wp_ialoadn i dX9_strikes_41 rfl (cg_84 hE.X) rfl (by omega) (by decide) ?_
          rw [hb.2.2.2 i hi2]
          refine wp_iload_2 dX9_strikes_42 rfl ?_
          refine wp_SNxR dX9_strikes_43 rfl q1685 ms_X0_isOn c_isOn rfl rfl (Nat.le_of_ble_eq_true rfl) (Nat.le_of_ble_eq_true rfl) (Nat.zero_le _) (Nat.zero_le _) ?_
          refine wp_ifeq_b 52 dX9_strikes_46 rfl rfl (fun c46 => ?_) (fun c46 => ?_)
          · refine wp_aload_0 dX9_strikes_52 rfl ?_
            refine wp_getf dX9_strikes_53 rfl q696 fk9_0 (cg_83 hE.X) rfl ?_
            refine wp_iload_5 dX9_strikes_56 rfl ?_
            refine wp_dup2 dX9_strikes_58 rfl rfl rfl ?_
            refine wp_ialoadn i dX9_strikes_59 rfl (cg_84 hE.X) rfl (by omega) (by decide) ?_
            refine wp_iconst 1 dX9_strikes_60 rfl rfl ?_
            refine wp_iload_2 dX9_strikes_61 rfl ?_
            refine wp_ishl dX9_strikes_62 rfl ?_
            refine wp_ior dX9_strikes_63 rfl ?_
            refine wp_iastoren i dX9_strikes_64 rfl (cg_84 hE.X) rfl (by omega) (by decide) cs_84 ?_
            refine wp_aload_0 dX9_strikes_65 rfl ?_
            refine wp_dup dX9_strikes_66 rfl rfl ?_
            refine wp_getf dX9_strikes_67 rfl q701 fk9_3 (cg_83 hE.X) rfl ?_
            refine wp_iload_3 dX9_strikes_70 rfl ?_
            refine wp_aload_1 dX9_strikes_71 rfl ?_
            refine wp_getf dX9_strikes_72 rfl q523 fk4_1 (cg_15 hE.X) rfl ?_
            refine wp_iload_5 dX9_strikes_75 rfl ?_
            refine wp_ialoadn i dX9_strikes_77 rfl (cg_17 hE.X) rfl (by omega) (by decide) ?_
            rw [show (cA 84 i (C.2.1 84 i ||| ((1 : Int32) <<< (x &&& 31))) C).2.1 17 i = gF (dgF W) i from hG.f hi2]
            refine wp_isub dX9_strikes_78 rfl ?_
            refine wp_iload_4 dX9_strikes_79 rfl ?_
            refine wp_icmp_ge 88 dX9_strikes_81 rfl rfl (fun c81 => ?_) (fun c81 => ?_)
            · refine wp_iconst 0 dX9_strikes_88 rfl rfl ?_
              refine wp_iadd dX9_strikes_89 rfl ?_
              refine wp_putf dX9_strikes_90 rfl q701 fp9_3 (cg_83 hE.X) rfl rfl (Nat.le_of_ble_eq_true rfl) cs_83_3 ?_
              refine wp_aload_1 dX9_strikes_93 rfl ?_
              refine wp_iload_5 dX9_strikes_94 rfl ?_
              refine wp_UxR dX9_strikes_96 rfl q1683 mu_X3_mole_X4 (cg_15 hE.X) rfl rfl (c_gmole4 hE.X (by omega) hm) rfl rfl (Nat.le_of_ble_eq_true rfl) (Nat.le_of_ble_eq_true rfl) (Nat.zero_le _) (Nat.zero_le _) ?_
              refine wp_getfN dX9_strikes_99 rfl q1064 fk14_2 ((cH_dyn hmd).trans hmx) rfl ?_
              refine wp_if_eq 118 dX9_strikes_102 rfl rfl (fun c102 => ?_) (fun c102 => ?_)
              · refine wp_aload_0 dX9_strikes_118 rfl ?_
                refine wp_dup dX9_strikes_119 rfl rfl ?_
                refine wp_getf dX9_strikes_120 rfl q697 fk9_1 (cg_83 hE.X) rfl ?_
                refine wp_iconst 1 dX9_strikes_123 rfl rfl ?_
                refine wp_iadd dX9_strikes_124 rfl ?_
                refine wp_putf dX9_strikes_125 rfl q697 fp9_1 (cg_83 hE.X) rfl rfl (Nat.le_of_ble_eq_true rfl) cs_83_1 ?_
                refine wp_iinc_5 1 dX9_strikes_128 rfl rfl (by decide) rfl ?_
                refine wp_goto 3 dX9_strikes_131 rfl rfl ?_
                have e9 : skF (dgF W) x z lag i t = hitC (dgF W) x z lag i t := by
                  rw [skF, if_neg (by rw [misC, c19, c32, c46]; decide)]
                have hc1 : CB C (cF 17 (C.1 17 + 1) (cF 19 (C.1 19 + 0) (cA 84 i (C.2.1 84 i ||| ((1 : Int32) <<< (x &&& 31))) C))) := ((CK.rf [17, 18, 19] [84] [] [] [] C).A _ _ (by decide)).F _ (by decide) |>.F _ (by decide)
                have er : gR (dgF W) i = 0 := c102
                have hb1 : BC (cF 17 (C.1 17 + 1) (cF 19 (C.1 19 + 0) (cA 84 i (C.2.1 84 i ||| ((1 : Int32) <<< (x &&& 31))) C))) (hitC (dgF W) x z lag i t) (dgW W).1 := hitC_BC (G := dgW W) hb (by show _ = C.1 17 + (1 - gR (dgF W) i); rw [er]; rfl) (by show _ = C.1 18 + gR (dgF W) i; rw [er]; show C.1 18 = _; simp) (by show C.1 19 + _ = C.1 19 + (if z - gF (dgF W) i < lag then 1 else 0); rw [if_neg (Int32.not_lt.mpr c81)]) rfl hi2
                exact WP.cast (by rw [nI_1]) (ih (cF 17 (C.1 17 + 1) (cF 19 (C.1 19 + 0) (cA 84 i (C.2.1 84 i ||| ((1 : Int32) <<< (x &&& 31))) C))) (i + 1) (skF (dgF W) x z lag i t) (by omega) (hc1.ev hE) (hc1.g4 hG) (hcr.tr hc1) (by rw [e9]; exact hb1) hq)
              · refine wp_aload_0 dX9_strikes_105 rfl ?_
                refine wp_dup dX9_strikes_106 rfl rfl ?_
                refine wp_getf dX9_strikes_107 rfl q699 fk9_2 (cg_83 hE.X) rfl ?_
                refine wp_iconst 1 dX9_strikes_110 rfl rfl ?_
                refine wp_iadd dX9_strikes_111 rfl ?_
                refine wp_putf dX9_strikes_112 rfl q699 fp9_2 (cg_83 hE.X) rfl rfl (Nat.le_of_ble_eq_true rfl) cs_83_2 ?_
                refine wp_goto 128 dX9_strikes_115 rfl rfl ?_
                refine wp_iinc_5 1 dX9_strikes_128 rfl rfl (by decide) rfl ?_
                refine wp_goto 3 dX9_strikes_131 rfl rfl ?_
                have e9 : skF (dgF W) x z lag i t = hitC (dgF W) x z lag i t := by
                  rw [skF, if_neg (by rw [misC, c19, c32, c46]; decide)]
                have hc1 : CB C (cF 18 (C.1 18 + 1) (cF 19 (C.1 19 + 0) (cA 84 i (C.2.1 84 i ||| ((1 : Int32) <<< (x &&& 31))) C))) := ((CK.rf [17, 18, 19] [84] [] [] [] C).A _ _ (by decide)).F _ (by decide) |>.F _ (by decide)
                have er : gR (dgF W) i = 1 := (hw.1 i hi2).resolve_left c102
                have hb1 : BC (cF 18 (C.1 18 + 1) (cF 19 (C.1 19 + 0) (cA 84 i (C.2.1 84 i ||| ((1 : Int32) <<< (x &&& 31))) C))) (hitC (dgF W) x z lag i t) (dgW W).1 := hitC_BC (G := dgW W) hb (by show _ = C.1 17 + (1 - gR (dgF W) i); rw [er]; show C.1 17 = _; simp) (by show _ = C.1 18 + gR (dgF W) i; rw [er]; rfl) (by show C.1 19 + _ = C.1 19 + (if z - gF (dgF W) i < lag then 1 else 0); rw [if_neg (Int32.not_lt.mpr c81)]) rfl hi2
                exact WP.cast (by rw [nI_1]) (ih (cF 18 (C.1 18 + 1) (cF 19 (C.1 19 + 0) (cA 84 i (C.2.1 84 i ||| ((1 : Int32) <<< (x &&& 31))) C))) (i + 1) (skF (dgF W) x z lag i t) (by omega) (hc1.ev hE) (hc1.g4 hG) (hcr.tr hc1) (by rw [e9]; exact hb1) hq)
            · refine wp_iconst 1 dX9_strikes_84 rfl rfl ?_
              refine wp_goto 89 dX9_strikes_85 rfl rfl ?_
              refine wp_iadd dX9_strikes_89 rfl ?_
              refine wp_putf dX9_strikes_90 rfl q701 fp9_3 (cg_83 hE.X) rfl rfl (Nat.le_of_ble_eq_true rfl) cs_83_3 ?_
              refine wp_aload_1 dX9_strikes_93 rfl ?_
              refine wp_iload_5 dX9_strikes_94 rfl ?_
              refine wp_UxR dX9_strikes_96 rfl q1683 mu_X3_mole_X4 (cg_15 hE.X) rfl rfl (c_gmole4 hE.X (by omega) hm) rfl rfl (Nat.le_of_ble_eq_true rfl) (Nat.le_of_ble_eq_true rfl) (Nat.zero_le _) (Nat.zero_le _) ?_
              refine wp_getfN dX9_strikes_99 rfl q1064 fk14_2 ((cH_dyn hmd).trans hmx) rfl ?_
              refine wp_if_eq 118 dX9_strikes_102 rfl rfl (fun c102 => ?_) (fun c102 => ?_)
              · refine wp_aload_0 dX9_strikes_118 rfl ?_
                refine wp_dup dX9_strikes_119 rfl rfl ?_
                refine wp_getf dX9_strikes_120 rfl q697 fk9_1 (cg_83 hE.X) rfl ?_
                refine wp_iconst 1 dX9_strikes_123 rfl rfl ?_
                refine wp_iadd dX9_strikes_124 rfl ?_
                refine wp_putf dX9_strikes_125 rfl q697 fp9_1 (cg_83 hE.X) rfl rfl (Nat.le_of_ble_eq_true rfl) cs_83_1 ?_
                refine wp_iinc_5 1 dX9_strikes_128 rfl rfl (by decide) rfl ?_
                refine wp_goto 3 dX9_strikes_131 rfl rfl ?_
                have e9 : skF (dgF W) x z lag i t = hitC (dgF W) x z lag i t := by
                  rw [skF, if_neg (by rw [misC, c19, c32, c46]; decide)]
                have hc1 : CB C (cF 17 (C.1 17 + 1) (cF 19 (C.1 19 + 1) (cA 84 i (C.2.1 84 i ||| ((1 : Int32) <<< (x &&& 31))) C))) := ((CK.rf [17, 18, 19] [84] [] [] [] C).A _ _ (by decide)).F _ (by decide) |>.F _ (by decide)
                have er : gR (dgF W) i = 0 := c102
                have hb1 : BC (cF 17 (C.1 17 + 1) (cF 19 (C.1 19 + 1) (cA 84 i (C.2.1 84 i ||| ((1 : Int32) <<< (x &&& 31))) C))) (hitC (dgF W) x z lag i t) (dgW W).1 := hitC_BC (G := dgW W) hb (by show _ = C.1 17 + (1 - gR (dgF W) i); rw [er]; rfl) (by show _ = C.1 18 + gR (dgF W) i; rw [er]; show C.1 18 = _; simp) (by show C.1 19 + _ = C.1 19 + (if z - gF (dgF W) i < lag then 1 else 0); rw [if_pos (Int32.not_le.mp c81)]) rfl hi2
                exact WP.cast (by rw [nI_1]) (ih (cF 17 (C.1 17 + 1) (cF 19 (C.1 19 + 1) (cA 84 i (C.2.1 84 i ||| ((1 : Int32) <<< (x &&& 31))) C))) (i + 1) (skF (dgF W) x z lag i t) (by omega) (hc1.ev hE) (hc1.g4 hG) (hcr.tr hc1) (by rw [e9]; exact hb1) hq)
              · refine wp_aload_0 dX9_strikes_105 rfl ?_
                refine wp_dup dX9_strikes_106 rfl rfl ?_
                refine wp_getf dX9_strikes_107 rfl q699 fk9_2 (cg_83 hE.X) rfl ?_
                refine wp_iconst 1 dX9_strikes_110 rfl rfl ?_
                refine wp_iadd dX9_strikes_111 rfl ?_
                refine wp_putf dX9_strikes_112 rfl q699 fp9_2 (cg_83 hE.X) rfl rfl (Nat.le_of_ble_eq_true rfl) cs_83_2 ?_
                refine wp_goto 128 dX9_strikes_115 rfl rfl ?_
                refine wp_iinc_5 1 dX9_strikes_128 rfl rfl (by decide) rfl ?_
                refine wp_goto 3 dX9_strikes_131 rfl rfl ?_
                have e9 : skF (dgF W) x z lag i t = hitC (dgF W) x z lag i t := by
                  rw [skF, if_neg (by rw [misC, c19, c32, c46]; decide)]
                have hc1 : CB C (cF 18 (C.1 18 + 1) (cF 19 (C.1 19 + 1) (cA 84 i (C.2.1 84 i ||| ((1 : Int32) <<< (x &&& 31))) C))) := ((CK.rf [17, 18, 19] [84] [] [] [] C).A _ _ (by decide)).F _ (by decide) |>.F _ (by decide)
                have er : gR (dgF W) i = 1 := (hw.1 i hi2).resolve_left c102
                have hb1 : BC (cF 18 (C.1 18 + 1) (cF 19 (C.1 19 + 1) (cA 84 i (C.2.1 84 i ||| ((1 : Int32) <<< (x &&& 31))) C))) (hitC (dgF W) x z lag i t) (dgW W).1 := hitC_BC (G := dgW W) hb (by show _ = C.1 17 + (1 - gR (dgF W) i); rw [er]; show C.1 17 = _; simp) (by show _ = C.1 18 + gR (dgF W) i; rw [er]; rfl) (by show C.1 19 + _ = C.1 19 + (if z - gF (dgF W) i < lag then 1 else 0); rw [if_pos (Int32.not_le.mp c81)]) rfl hi2
                exact WP.cast (by rw [nI_1]) (ih (cF 18 (C.1 18 + 1) (cF 19 (C.1 19 + 1) (cA 84 i (C.2.1 84 i ||| ((1 : Int32) <<< (x &&& 31))) C))) (i + 1) (skF (dgF W) x z lag i t) (by omega) (hc1.ev hE) (hc1.g4 hG) (hcr.tr hc1) (by rw [e9]; exact hb1) hq)
          · refine wp_goto 128 dX9_strikes_49 rfl rfl ?_
            refine wp_iinc_5 1 dX9_strikes_128 rfl rfl (by decide) rfl ?_
            refine wp_goto 3 dX9_strikes_131 rfl rfl ?_
            have e9 : skF (dgF W) x z lag i t = t := by
              rw [skF, if_pos (by rw [misC, c19, c32, c46]; rfl)]
            exact WP.cast (by rw [nI_1]) (ih C (i + 1) (skF (dgF W) x z lag i t) (by omega) hE hG hcr (by rw [e9]; exact hb) hq)
theorem c_bstrikes {g : GW} {C : SC} {S : SM} {X : AH} {lo hi b : Nat} {A : BA} {W : Nat → Int32} (hE : EV C X lo hi b A W) {x z lag : Int32} {t : BT} (hG : GM 3 16 17 18 C X (dgW W)) (hb : BC C t (dgW W).1) : SP g 6 0 0 yX9_strikes cX9_strikes 6 none [.ref 83, .ref 15, .int x, .int z, .int lag] (cH C S X) (fun v h1 => v = none ∧ ∃ C', h1 = cH C' S X ∧ BC C' (skC (dgW W) x z lag t) (dgW W).1 ∧ CB C C') := by
  refine SP.intro [some (.ref 83), some (.ref 15), some (.int x), some (.int z), some (.int lag), none] (pfn (by decide)) rfl (Nat.le_of_ble_eq_true rfl) ?_
  refine wp_iconst 0 dX9_strikes_0 rfl rfl ?_
  refine wp_istore_5 dX9_strikes_1 rfl (by decide) rfl ?_
  exact cL_bstrikes (dg_wg hE.s hE.c) (dgM W) C 0 t (Nat.zero_add _) hE hG (CK.rf _ _ _ _ _ C) hb (fun C1 h1 h2 => ⟨rfl, C1, rfl, h1, h2⟩)
theorem cL_whyNotB {g : GW} {C : SC} {S : SM} {X : AH} {lo hi b : Nat} {A : BA} {W : Nat → Int32} (hE : EV C X lo hi b A W) {s : Nat} (hs : s < 4) {a m : Nat} {w : Int32} {nu : LT} (hr : C.2.2.2.1 (2 + s) = some a) (hh : HE X a m w (fun i => nu (60 * s + i))) (hev : m = 2 * (m / 2)) {c n : Nat} {Q : Option Value → AH → Prop} : ∀ (k : Nat) (j : Nat), j + k = m / 2 → Q (some (.int (if alK (abP W nu s) k j = true then 0 else -2))) (cH C S X) → WP g 4 yX0_whyNotBlows cX0_whyNotBlows 4 (some .int) 51 [some (.ref 0), some (.int (nI s)), some (.ref (2 + s)), some (.int (nI (2 * j)))] [] (cH C S X) c n Q := by
  intro k
  induction k with
  | zero =>
    intro j hi hq
    refine wp_iload_3 dX0_whyNotBlows_51 rfl ?_
    refine wp_aload_2 dX0_whyNotBlows_52 rfl ?_
    refine wp_cvR dX0_whyNotBlows_53 rfl q1565 mv_X1_many (cgs hE.X hs) rfl rfl (c_many hE.X hs hr hh) rfl rfl (Nat.le_of_ble_eq_true rfl) (Nat.le_of_ble_eq_true rfl) ?_
    refine wp_icmp_ge_k 94 dX0_whyNotBlows_56 rfl rfl (by have := hh.2.1; omega) (by have := hh.2.1; omega) (fun c56 => ?_) (fun c56 => ?_)
    · refine wp_iconst 0 dX0_whyNotBlows_94 rfl rfl ?_
      exact wp_ireturn dX0_whyNotBlows_95 rfl hq
    · exact absurd c56 (by omega)
  | succ k ih =>
    intro j hi hq
    refine wp_iload_3 dX0_whyNotBlows_51 rfl ?_
    refine wp_aload_2 dX0_whyNotBlows_52 rfl ?_
    refine wp_cvR dX0_whyNotBlows_53 rfl q1565 mv_X1_many (cgs hE.X hs) rfl rfl (c_many hE.X hs hr hh) rfl rfl (Nat.le_of_ble_eq_true rfl) (Nat.le_of_ble_eq_true rfl) ?_
    refine wp_icmp_ge_k 94 dX0_whyNotBlows_56 rfl rfl (by have := hh.2.1; omega) (by have := hh.2.1; omega) (fun c56 => ?_) (fun c56 => ?_)
    · exact absurd c56 (by omega)
    · refine wp_aload_0 dX0_whyNotBlows_59 rfl ?_
      refine wp_aload_2 dX0_whyNotBlows_60 rfl ?_
      refine wp_iload_3 dX0_whyNotBlows_61 rfl ?_
      refine wp_cvR dX0_whyNotBlows_62 rfl q1569 mv_X1_number (cgs hE.X hs) rfl rfl (c_number (nu := fun i => nu (60 * s + i)) hE.X hs hr hh (i := (2 * j)) (by omega)) rfl rfl (Nat.le_of_ble_eq_true rfl) (Nat.le_of_ble_eq_true rfl) ?_
      refine wp_cvR dX0_whyNotBlows_65 rfl q1325 mv_X0_isHole hE.o0 rfl rfl (c_isHole hE) rfl rfl (Nat.le_of_ble_eq_true rfl) (Nat.le_of_ble_eq_true rfl) ?_
      refine wp_ifeq_b 85 dX0_whyNotBlows_68 rfl rfl (fun c68 => ?_) (fun c68 => ?_)
      · refine wp_bipush (-2) dX0_whyNotBlows_85 rfl rfl ?_
        exact wp_ireturn dX0_whyNotBlows_87 rfl (by first | (rw [al_f (by rw [abP, c68]; rfl)] at hq; exact hq) | (rw [al_f (by rw [abP, c68, c82]; rfl)] at hq; exact hq))
      · refine wp_aload_0 dX0_whyNotBlows_71 rfl ?_
        refine wp_aload_2 dX0_whyNotBlows_72 rfl ?_
        refine wp_iload_3 dX0_whyNotBlows_73 rfl ?_
        refine wp_iconst 1 dX0_whyNotBlows_74 rfl rfl ?_
        refine wp_iadd dX0_whyNotBlows_75 rfl ?_
        rw [nI_1]
        refine wp_cvR dX0_whyNotBlows_76 rfl q1569 mv_X1_number (cgs hE.X hs) rfl rfl (c_number (nu := fun i => nu (60 * s + i)) hE.X hs hr hh (i := (2 * j + 1)) (by omega)) rfl rfl (Nat.le_of_ble_eq_true rfl) (Nat.le_of_ble_eq_true rfl) ?_
        refine wp_cvR dX0_whyNotBlows_79 rfl q1233 mv_X0_isTick hE.o0 rfl rfl (c_isTick hE) rfl rfl (Nat.le_of_ble_eq_true rfl) (Nat.le_of_ble_eq_true rfl) ?_
        refine wp_ifne_b 88 dX0_whyNotBlows_82 rfl rfl (fun c82 => ?_) (fun c82 => ?_)
        · refine wp_iinc_3 2 dX0_whyNotBlows_88 rfl rfl (by decide) rfl ?_
          refine wp_goto 51 dX0_whyNotBlows_91 rfl rfl ?_
          exact WP.cast (by rw [show nI (2 * j) + 2 = nI (2 * (j + 1)) by rw [show (2 : Int32) = nI 2 from rfl, nI_add]; rfl]) (ih (j + 1) (by omega) (by rw [al_t (by rw [abP, c68, c82]; rfl)] at hq; exact hq))
        · refine wp_bipush (-2) dX0_whyNotBlows_85 rfl rfl ?_
          exact wp_ireturn dX0_whyNotBlows_87 rfl (by first | (rw [al_f (by rw [abP, c68]; rfl)] at hq; exact hq) | (rw [al_f (by rw [abP, c68, c82]; rfl)] at hq; exact hq))
theorem rm_ev {m : Nat} (h : m ≤ 60) : rm32 (nI m) 2 = nI (m % 2) := by
  unfold rm32
  rw [show (2 : Int32) = nI 2 from rfl, pk_rem (by omega) (by omega) (by omega)]
theorem c_whyNotB {g : GW} {C : SC} {S : SM} {X : AH} {lo hi b : Nat} {A : BA} {W : Nat → Int32} (hE : EV C X lo hi b A W) {sl : SLt} (hS : HSS C X sl) {x : Int32} : SPx g 4 0 0 yX0_whyNotBlows cX0_whyNotBlows 4 (some .int) [.ref 0, .int x] (cH C S X) (some (.int (abV W sl.1 sl.2.2 x))) (cH C S X) := by
  refine SPx.intro [some (.ref 0), some (.int x), none, none] (pfn (by decide)) rfl (Nat.le_of_ble_eq_true rfl) ?_
  refine wp_iload_1 dX0_whyNotBlows_0 rfl ?_
  refine wp_csR dX0_whyNotBlows_1 rfl q186 ms_X0_isSlot c_isSlot rfl rfl (Nat.le_of_ble_eq_true rfl) (Nat.le_of_ble_eq_true rfl) ?_
  refine wp_ifeq_b 17 dX0_whyNotBlows_4 rfl rfl (fun c4 => ?_) (fun c4 => ?_)
  · refine wp_bipush (-2) dX0_whyNotBlows_17 rfl rfl ?_
    exact wp_ireturn dX0_whyNotBlows_19 rfl ⟨by simp (disch := omega) [abV, nI_clamp, *], rfl⟩
  · obtain ⟨s, hs, rfl⟩ := la_of c4
    refine wp_aload_0 dX0_whyNotBlows_7 rfl ?_
    refine wp_getf dX0_whyNotBlows_8 rfl q721 fk0_1 hE.o0 rfl ?_
    refine wp_cvR dX0_whyNotBlows_11 rfl q1167 mv_X2_is hE.ob rfl rfl (c_is hE) rfl rfl (Nat.le_of_ble_eq_true rfl) (Nat.le_of_ble_eq_true rfl) ?_
    refine wp_ifne_b 20 dX0_whyNotBlows_14 rfl rfl (fun c14 => ?_) (fun c14 => ?_)
    · refine wp_aload_0 dX0_whyNotBlows_20 rfl ?_
      refine wp_getf dX0_whyNotBlows_21 rfl q715 fk0_0 hE.o0 rfl ?_
      refine wp_iload_1 dX0_whyNotBlows_24 rfl ?_
      refine wp_aaload s dX0_whyNotBlows_25 rfl rfl rfl (cg_1 hE.X) (nI_clamp (by omega)) (vp_in_nI hs (by omega)) ?_
      rw [show va_rf (cn_ 4 2 s) = .ref (2 + s) by rw [show cn_ 4 2 s = some (2 + s) from if_pos hs]; rfl]
      refine wp_astore_2 dX0_whyNotBlows_26 rfl (by decide) rfl ?_
      rcases hS s hs with ⟨hm, hr⟩ | ⟨a, m, hm, hr, hh⟩
      · refine wp_aload_2 dX0_whyNotBlows_27 rfl ?_
        refine wp_getfN dX0_whyNotBlows_28 rfl q396 fk1_0 (cgs hE.X hs) rfl ?_
        rw [hr]
        refine wp_ifnonnull_n dX0_whyNotBlows_31 rfl ?_
        refine wp_bipush (-6) dX0_whyNotBlows_34 rfl rfl ?_
        exact wp_ireturn dX0_whyNotBlows_36 rfl ⟨by simp (disch := omega) [abV, nI_clamp, *], rfl⟩
      · have h60 := hh.2.1
        refine wp_aload_2 dX0_whyNotBlows_27 rfl ?_
        refine wp_getfN dX0_whyNotBlows_28 rfl q396 fk1_0 (cgs hE.X hs) rfl ?_
        rw [hr]
        refine wp_ifnonnull_r 37 dX0_whyNotBlows_31 rfl rfl ?_
        refine wp_aload_2 dX0_whyNotBlows_37 rfl ?_
        refine wp_cvR dX0_whyNotBlows_38 rfl q1565 mv_X1_many (cgs hE.X hs) rfl rfl (c_many hE.X hs hr hh) rfl rfl (Nat.le_of_ble_eq_true rfl) (Nat.le_of_ble_eq_true rfl) ?_
        refine wp_iconst 2 dX0_whyNotBlows_41 rfl rfl ?_
        refine wp_irem dX0_whyNotBlows_42 rfl (by decide) ?_
        rw [show nI m - nI m / 2 * 2 = nI (m % 2) from rm_ev h60]
        refine wp_if_eq_k 49 dX0_whyNotBlows_43 rfl rfl (by omega) (fun c43 => ?_) (fun c43 => ?_)
        · refine wp_iconst 0 dX0_whyNotBlows_49 rfl rfl ?_
          refine wp_istore_3 dX0_whyNotBlows_50 rfl (by decide) rfl ?_
          have e9 : nI (m % 2) = 0 := by rw [c43]; rfl
          exact cL_whyNotB hE hs hr hh (show m = 2 * (m / 2) by omega) (m / 2) 0 (Nat.zero_add _) ⟨by simp (disch := omega) [abV, mN, nI_clamp, nI_m1, rm_ev h60, hm, show nI 0 = 0 from rfl, *], rfl⟩
        · refine wp_bipush (-2) dX0_whyNotBlows_46 rfl rfl ?_
          exact wp_ireturn dX0_whyNotBlows_48 rfl ⟨by have e9 : ¬ nI (m % 2) = 0 := nI_ne0 (by omega) (by omega); simp (disch := omega) [abV, nI_clamp, nI_m1, rm_ev h60, *], rfl⟩
    · refine wp_bipush (-2) dX0_whyNotBlows_17 rfl rfl ?_
      exact wp_ireturn dX0_whyNotBlows_19 rfl ⟨by simp (disch := omega) [abV, nI_clamp, *], rfl⟩
theorem cL_bgoes {g : GW} {S : SM} {X : AH} {lo hi b : Nat} {A : BA} {W : Nat → Int32} {C0 : SC} {s : Nat} (hs : s < 4) {a m : Nat} {w lag : Int32} {nu : LT} (hh : HE X a m w (fun i => nu (60 * s + i))) (hev : m = 2 * (m / 2)) {c n : Nat} {Q : Option Value → AH → Prop} : ∀ (k : Nat) (C : SC) (j : Nat) (t : BT), j + k = m / 2 → EV C X lo hi b A W → C.2.2.2.1 (2 + s) = some a → GM 3 16 17 18 C X (dgW W) → KC C0 C → BC C t (dgW W).1 → (∀ C', BC C' (itr (blC (dgW W) nu s lag) k j t) (dgW W).1 → KC C0 C' → Q (some (.ref 83)) (cH C' S X)) → WP g 8 yX9_goes cX9_goes 5 (some (.object "MoleBoard$Blows")) 34 [some (.ref 83), some (.ref (2 + s)), some (.int lag), some (.ref 15), some (.int (nI (2 * j)))] [] (cH C S X) c n Q := by
  intro k
  induction k with
  | zero =>
    intro C j t hj hE hr hG hL hb hq
    refine wp_iload_4 dX9_goes_34 rfl ?_
    refine wp_aload_1 dX9_goes_36 rfl ?_
    refine wp_cvR dX9_goes_37 rfl q1676 mv_X1_many (cgs hE.X hs) rfl rfl (c_many hE.X hs hr hh) rfl rfl (Nat.le_of_ble_eq_true rfl) (Nat.le_of_ble_eq_true rfl) ?_
    refine wp_icmp_ge_k 71 dX9_goes_40 rfl rfl (by have := hh.2.1; omega) (by have := hh.2.1; omega) (fun c40 => ?_) (fun c40 => ?_)
    · refine wp_aload_0 dX9_goes_71 rfl ?_
      exact wp_areturn_r dX9_goes_72 rfl (Or.inl ⟨_, rfl⟩) (hq C hb hL)
    · exact absurd c40 (by omega)
  | succ k ih =>
    intro C j t hj hE hr hG hL hb hq
    refine wp_iload_4 dX9_goes_34 rfl ?_
    refine wp_aload_1 dX9_goes_36 rfl ?_
    refine wp_cvR dX9_goes_37 rfl q1676 mv_X1_many (cgs hE.X hs) rfl rfl (c_many hE.X hs hr hh) rfl rfl (Nat.le_of_ble_eq_true rfl) (Nat.le_of_ble_eq_true rfl) ?_
    refine wp_icmp_ge_k 71 dX9_goes_40 rfl rfl (by have := hh.2.1; omega) (by have := hh.2.1; omega) (fun c40 => ?_) (fun c40 => ?_)
    · exact absurd c40 (by omega)
    · refine wp_aload_0 dX9_goes_43 rfl ?_
      refine wp_aload_3 dX9_goes_44 rfl ?_
      refine wp_aload_1 dX9_goes_45 rfl ?_
      refine wp_iload_4 dX9_goes_46 rfl ?_
      refine wp_cvR dX9_goes_48 rfl q1677 mv_X1_number (cgs hE.X hs) rfl rfl (c_number (nu := fun i => nu (60 * s + i)) hE.X hs hr hh (i := (2 * j)) (by omega)) rfl rfl (Nat.le_of_ble_eq_true rfl) (Nat.le_of_ble_eq_true rfl) ?_
      refine wp_l2i dX9_goes_51 rfl ?_
      refine wp_aload_1 dX9_goes_52 rfl ?_
      refine wp_iload_4 dX9_goes_53 rfl ?_
      refine wp_iconst 1 dX9_goes_55 rfl rfl ?_
      refine wp_iadd dX9_goes_56 rfl ?_
      rw [nI_1]
      refine wp_cvR dX9_goes_57 rfl q1677 mv_X1_number (cgs hE.X hs) rfl rfl (c_number (nu := fun i => nu (60 * s + i)) hE.X hs hr hh (i := (2 * j + 1)) (by omega)) rfl rfl (Nat.le_of_ble_eq_true rfl) (Nat.le_of_ble_eq_true rfl) ?_
      refine wp_l2i dX9_goes_60 rfl ?_
      refine wp_iload_2 dX9_goes_61 rfl ?_
      refine wp_cvE dX9_goes_62 rfl q1678 mv_X9_strikes (cg_83 hE.X) rfl rfl (c_bstrikes (x := (nu (60 * s + 2 * j)).toInt32) (z := (nu (60 * s + (2 * j + 1))).toInt32) hE hG hb) rfl rfl (Nat.le_of_ble_eq_true rfl) (Nat.le_of_ble_eq_true rfl) (fun h1 hq => ?_)
      obtain ⟨C, rfl, hb, hcr⟩ := hq
      have hE := hcr.ev hE
      have hG := hcr.g4 hG
      have hL := hL.tr hcr.kc
      have hr := (hcr.2.2.2.1 (2 + s) (by simp)).trans hr
      refine wp_iinc_4 2 dX9_goes_65 rfl rfl (by decide) rfl ?_
      refine wp_goto 34 dX9_goes_68 rfl rfl ?_
      exact WP.cast (by rw [show nI (2 * j) + 2 = nI (2 * (j + 1)) by rw [show (2 : Int32) = nI 2 from rfl, nI_add]; rfl]) (ih C (j + 1) (blC (dgW W) nu s lag j t) (by omega) hE hr hG hL hb hq)
theorem c_bgoes {g : GW} {C : SC} {S : SM} {X : AH} {lo hi b : Nat} {A : BA} {W : Nat → Int32} (hE : EV C X lo hi b A W) {s : Nat} (hs : s < 4) {a m : Nat} {w : Int32} {nu : LT} (hr : C.2.2.2.1 (2 + s) = some a) (hh : HE X a m w (fun i => nu (60 * s + i))) (hev : m = 2 * (m / 2)) {lag : Int32} : SP g 8 0 0 yX9_goes cX9_goes 5 (some (.object "MoleBoard$Blows")) [.ref 83, .ref (2 + s), .int lag] (cH C S X) (fun v h1 => v = some (.ref 83) ∧ ∃ C', h1 = cH C' S X ∧ BC C' (blV (dgW W) nu s m lag) (dgW W).1 ∧ KC C C') := by
  refine SP.intro [some (.ref 83), some (.ref (2 + s)), some (.int lag), none, none] (pfn (by decide)) rfl (Nat.le_of_ble_eq_true rfl) ?_
  refine wp_aload_0 dX9_goes_0 rfl ?_
  refine wp_getf dX9_goes_1 rfl q703 fk9_4 (cg_83 hE.X) rfl ?_
  refine wp_VNeR dX9_goes_4 rfl q1674 mv_X0_game hE.o0 rfl rfl (c_game hE) rfl rfl (Nat.le_of_ble_eq_true rfl) (Nat.le_of_ble_eq_true rfl) (Nat.zero_le _) (Nat.zero_le _) (fun h1 hq => ?_)
  obtain ⟨C, rfl, hG, hK⟩ := hq
  have hE := hK.ev (by decide) hE
  have hL := LD.kc hK
  have hn : C.1 3 = nI (dgM W) := hG.1
  have h60 : dgM W ≤ 60 := hG.2.1
  have hr := (hK.2.2.2.1 (2 + s) (by simp)).trans hr
  refine wp_astore_3 dX9_goes_7 rfl (by decide) rfl ?_
  refine wp_aload_0 dX9_goes_8 rfl ?_
  refine wp_getf dX9_goes_9 rfl q696 fk9_0 (cg_83 hE.X) rfl ?_
  refine wp_iconst 0 dX9_goes_12 rfl rfl ?_
  refine wp_cs0 dX9_goes_13 rfl q1675 ms_J13_fill (j_fillI (v := 0) (cg_84 hE.X) (by decide)) rfl rfl (Nat.le_of_ble_eq_true rfl) (Nat.le_of_ble_eq_true rfl) ?_
  rw [ct_84]
  refine wp_aload_0 dX9_goes_16 rfl ?_
  refine wp_iconst 0 dX9_goes_17 rfl rfl ?_
  refine wp_putf dX9_goes_18 rfl q697 fp9_1 (cg_83 hE.X) rfl rfl (Nat.le_of_ble_eq_true rfl) cs_83_1 ?_
  refine wp_aload_0 dX9_goes_21 rfl ?_
  refine wp_iconst 0 dX9_goes_22 rfl rfl ?_
  refine wp_putf dX9_goes_23 rfl q699 fp9_2 (cg_83 hE.X) rfl rfl (Nat.le_of_ble_eq_true rfl) cs_83_2 ?_
  refine wp_aload_0 dX9_goes_26 rfl ?_
  refine wp_iconst 0 dX9_goes_27 rfl rfl ?_
  refine wp_putf dX9_goes_28 rfl q701 fp9_3 (cg_83 hE.X) rfl rfl (Nat.le_of_ble_eq_true rfl) cs_83_3 ?_
  refine wp_iconst 0 dX9_goes_31 rfl rfl ?_
  refine wp_istore_4 dX9_goes_32 rfl (by decide) rfl ?_
  exact cL_bgoes hs hh hev (m / 2) _ 0 bl0 (Nat.zero_add _) (hE.to rfl) hr (hG.to rfl rfl rfl rfl) (hL.tr (show KC C (cF 19 0 (cF 18 0 (cF 17 0 (cAs 84 (fiI 0 60 (C.2.1 84)) C)))) from CB.kc (((((CK.rf [17, 18, 19] [84] [] [] [] C).As _ (by decide)).F _ (by decide)).F _ (by decide)).F _ (by decide)))) ⟨rfl, rfl, rfl, fun i hi => fiI_at (show i < 60 by have := hG.2.1; omega)⟩ (fun C1 h1 h2 => ⟨rfl, C1, rfl, h1, h2⟩)
theorem abV_3 {W my : Nat → Int32} {nu : LT} {slot : Int32} : abV W my nu slot = 0 ∨ abV W my nu slot = -2 ∨ abV W my nu slot = -6 := by
  unfold abV
  split
  · split
    · exact Or.inr (Or.inr rfl)
    · split
      · split
        · exact Or.inl rfl
        · exact Or.inr (Or.inl rfl)
      · exact Or.inr (Or.inl rfl)
  · exact Or.inr (Or.inl rfl)
theorem abV_lt {W my : Nat → Int32} {nu : LT} {slot : Int32} (h : ¬ abV W my nu slot = 0) : abV W my nu slot < 0 := by
  rcases abV_3 (W := W) (my := my) (nu := nu) (slot := slot) with q | q | q
  · exact absurd q h
  · rw [q]; decide
  · rw [q]; decide
theorem abV_held {C : SC} {X : AH} {sl : SLt} (hS : HSS C X sl) {W : Nat → Int32} {slot : Int32} (h : abV W sl.1 sl.2.2 slot = 0) : ∃ s, s < 4 ∧ slot = nI s ∧ bdW W = true ∧ ∃ a m w, sl.1 s = nI m ∧ m ≤ 60 ∧ mN sl.1 s = m ∧ C.2.2.2.1 (2 + s) = some a ∧ HE X a m w (fun i => sl.2.2 (60 * s + i)) ∧ m = 2 * (m / 2) := by
  unfold abV at h
  split at h
  · rename_i q1
    obtain ⟨s, hs, rfl⟩ := la_of q1.1
    rw [nI_clamp (by omega)] at h
    rcases hS s hs with ⟨hm, hr⟩ | ⟨a, m, hm, hr, hh⟩
    · rw [if_pos hm] at h
      exact absurd h (by decide)
    · have h60 := hh.2.1
      split at h
      · exact absurd h (by decide)
      · split at h
        · rename_i q3
          rw [hm, rm_ev h60] at q3
          have := (nI_eq (a := m % 2) (b := 0) (by omega) (by omega)).mp q3
          exact ⟨s, hs, rfl, q1.2, a, m, _, hm, h60, by unfold mN; rw [hm, nI_clamp (by omega)], hr, hh, by omega⟩
        · exact absurd h (by decide)
  · exact absurd h (by decide)
theorem hrb_z {W my : Nat → Int32} {nu : LT} {slot : Int32} {f : Nat → Nat → Int32} (h : abV W my nu slot = 0) : hrb W my nu slot f = f slot.toNatClampNeg (mN my slot.toNatClampNeg) := if_neg (by rw [h]; decide)
def cou0 (W my : Nat → Int32) (nu : LT) (slot : Int32) : Int32 := hrb W my nu slot (fun s m => (blV (dgW W) nu s m 0).1.1)
def sco0 (W my : Nat → Int32) (nu : LT) (slot : Int32) : Int32 := if abV W my nu slot < 0 then 1000 * abV W my nu slot else hrb W my nu slot (fun s m => 10 * (blV (dgW W) nu s m 0).1.1 - 20 * (blV (dgW W) nu s m 0).1.2.1)
def ear0 (W my : Nat → Int32) (nu : LT) (slot lag : Int32) : Int32 := if inL lag.toInt64 0 20 = true then hrb W my nu slot (fun s m => (blV (dgW W) nu s m lag).1.2.2) else -2
theorem q_c_counted0 {g : GW} {C : SC} {S : SM} {X : AH} {lo hi b : Nat} {A : BA} {W : Nat → Int32} (hE : EV C X lo hi b A W) {x : Int32} {sl : SLt} (hS : HSS C X sl) : SP g 9 0 0 yX0_counted cX0_counted 3 (some .int) [.ref 0, .int x] (cH C S X) (QC C S X (.int (cou0 W sl.1 sl.2.2 x))) := by
  refine SP.intro [some (.ref 0), some (.int x), none] (pfn (by decide)) rfl (Nat.le_of_ble_eq_true rfl) ?_
  refine wp_aload_0 dX0_counted_0 rfl ?_
  refine wp_iload_1 dX0_counted_1 rfl ?_
  refine wp_cvR dX0_counted_2 rfl q1666 mv_X0_whyNotBlows hE.o0 rfl rfl (c_whyNotB hE hS) rfl rfl (Nat.le_of_ble_eq_true rfl) (Nat.le_of_ble_eq_true rfl) ?_
  refine wp_istore_2 dX0_counted_5 rfl (by decide) rfl ?_
  refine wp_iload_2 dX0_counted_6 rfl ?_
  refine wp_if_eq 14 dX0_counted_7 rfl rfl (fun c7 => ?_) (fun c7 => ?_)
  · obtain ⟨s, hs, rfl, hbd, a, m, w, hm, h60, hmn, hr, hh, hev⟩ := abV_held hS c7
    refine wp_aload_0 dX0_counted_14 rfl ?_
    refine wp_getf dX0_counted_15 rfl q732 fk0_12 hE.o0 rfl ?_
    refine wp_aload_0 dX0_counted_18 rfl ?_
    refine wp_getf dX0_counted_19 rfl q715 fk0_0 hE.o0 rfl ?_
    refine wp_iload_1 dX0_counted_22 rfl ?_
    refine wp_aaload s dX0_counted_23 rfl rfl rfl (cg_1 hE.X) (nI_clamp (by omega)) (vp_in_nI hs (by omega)) ?_
    rw [show va_rf (cn_ 4 2 s) = .ref (2 + s) by rw [show cn_ 4 2 s = some (2 + s) from if_pos hs]; rfl]
    refine wp_iconst 0 dX0_counted_24 rfl rfl ?_
    refine wp_cvEi dX0_counted_25 rfl q1670 mv_X9_goes (cg_83 hE.X) rfl rfl (c_bgoes (lag := 0) hE hs hr hh hev) rfl rfl (Nat.le_of_ble_eq_true rfl) (Nat.le_of_ble_eq_true rfl) (fun h1 hq => ?_)
    obtain ⟨C, rfl, hb, hL⟩ := hq
    have hE := hL.ev hE
    refine wp_getfN dX0_counted_28 rfl q698 fk9_1 (cg_83 hE.X) rfl ?_
    rw [hb.1]
    exact wp_ireturn dX0_counted_31 rfl ⟨by first | (rw [cou0, hrb_n (abV_lt c7)]; done) | (rw [cou0, hrb_z c7, nI_clamp (by omega), hmn]; done), by first | exact QC0.mk hL | exact QC0.rf⟩
  · refine wp_iload_2 dX0_counted_10 rfl ?_
    refine wp_goto 31 dX0_counted_11 rfl rfl ?_
    exact wp_ireturn dX0_counted_31 rfl ⟨by first | (rw [cou0, hrb_n (abV_lt c7)]; done) | (rw [cou0, hrb_z c7, nI_clamp (by omega), hmn]; done), by first | exact QC0.mk hL | exact QC0.rf⟩
theorem q_c_scored0 {g : GW} {C : SC} {S : SM} {X : AH} {lo hi b : Nat} {A : BA} {W : Nat → Int32} (hE : EV C X lo hi b A W) {x : Int32} {sl : SLt} (hS : HSS C X sl) : SP g 9 0 0 yX0_scored cX0_scored 3 (some .int) [.ref 0, .int x] (cH C S X) (QC C S X (.int (sco0 W sl.1 sl.2.2 x))) := by
  refine SP.intro [some (.ref 0), some (.int x), none] (pfn (by decide)) rfl (Nat.le_of_ble_eq_true rfl) ?_
  refine wp_aload_0 dX0_scored_0 rfl ?_
  refine wp_iload_1 dX0_scored_1 rfl ?_
  refine wp_cvR dX0_scored_2 rfl q1666 mv_X0_whyNotBlows hE.o0 rfl rfl (c_whyNotB hE hS) rfl rfl (Nat.le_of_ble_eq_true rfl) (Nat.le_of_ble_eq_true rfl) ?_
  refine wp_istore_2 dX0_scored_5 rfl (by decide) rfl ?_
  refine wp_iload_2 dX0_scored_6 rfl ?_
  refine wp_if_eq 26 dX0_scored_7 rfl rfl (fun c7 => ?_) (fun c7 => ?_)
  · obtain ⟨s, hs, rfl, hbd, a, m, w, hm, h60, hmn, hr, hh, hev⟩ := abV_held hS c7
    refine wp_aload_0 dX0_scored_26 rfl ?_
    refine wp_getf dX0_scored_27 rfl q732 fk0_12 hE.o0 rfl ?_
    refine wp_aload_0 dX0_scored_30 rfl ?_
    refine wp_getf dX0_scored_31 rfl q715 fk0_0 hE.o0 rfl ?_
    refine wp_iload_1 dX0_scored_34 rfl ?_
    refine wp_aaload s dX0_scored_35 rfl rfl rfl (cg_1 hE.X) (nI_clamp (by omega)) (vp_in_nI hs (by omega)) ?_
    rw [show va_rf (cn_ 4 2 s) = .ref (2 + s) by rw [show cn_ 4 2 s = some (2 + s) from if_pos hs]; rfl]
    refine wp_iconst 0 dX0_scored_36 rfl rfl ?_
    refine wp_cvEi dX0_scored_37 rfl q1670 mv_X9_goes (cg_83 hE.X) rfl rfl (c_bgoes (lag := 0) hE hs hr hh hev) rfl rfl (Nat.le_of_ble_eq_true rfl) (Nat.le_of_ble_eq_true rfl) (fun h1 hq => ?_)
    obtain ⟨C, rfl, hb, hL⟩ := hq
    have hE := hL.ev hE
    refine wp_pop dX0_scored_40 rfl rfl ?_
    refine wp_bipush 10 dX0_scored_41 rfl rfl ?_
    refine wp_aload_0 dX0_scored_43 rfl ?_
    refine wp_getf dX0_scored_44 rfl q732 fk0_12 hE.o0 rfl ?_
    refine wp_getfN dX0_scored_47 rfl q698 fk9_1 (cg_83 hE.X) rfl ?_
    rw [hb.1]
    refine wp_imul dX0_scored_50 rfl ?_
    refine wp_bipush 20 dX0_scored_51 rfl rfl ?_
    refine wp_aload_0 dX0_scored_53 rfl ?_
    refine wp_getf dX0_scored_54 rfl q732 fk0_12 hE.o0 rfl ?_
    refine wp_getfN dX0_scored_57 rfl q700 fk9_2 (cg_83 hE.X) rfl ?_
    rw [hb.2.1]
    refine wp_imul dX0_scored_60 rfl ?_
    refine wp_isub dX0_scored_61 rfl ?_
    exact wp_ireturn dX0_scored_62 rfl ⟨by first | (rw [sco0, if_pos (abV_lt c7), c13]; rfl) | (rw [sco0, if_pos (abV_lt c7), (abV_3.resolve_left c7).resolve_left c13]; rfl) | (rw [sco0, if_neg (by rw [c7]; decide), hrb_z c7, nI_clamp (by omega), hmn]; done), by first | exact QC0.mk hL | exact QC0.rf⟩
  · refine wp_iload_2 dX0_scored_10 rfl ?_
    refine wp_bipush (-2) dX0_scored_11 rfl rfl ?_
    refine wp_icmp_ne 22 dX0_scored_13 rfl rfl (fun c13 => ?_) (fun c13 => ?_)
    · refine wp_sipush (-6000) dX0_scored_22 rfl rfl ?_
      exact wp_ireturn dX0_scored_25 rfl ⟨by first | (rw [sco0, if_pos (abV_lt c7), c13]; rfl) | (rw [sco0, if_pos (abV_lt c7), (abV_3.resolve_left c7).resolve_left c13]; rfl) | (rw [sco0, if_neg (by rw [c7]; decide), hrb_z c7, nI_clamp (by omega), hmn]; done), by first | exact QC0.mk hL | exact QC0.rf⟩
    · refine wp_sipush (-2000) dX0_scored_16 rfl rfl ?_
      refine wp_goto 25 dX0_scored_19 rfl rfl ?_
      exact wp_ireturn dX0_scored_25 rfl ⟨by first | (rw [sco0, if_pos (abV_lt c7), c13]; rfl) | (rw [sco0, if_pos (abV_lt c7), (abV_3.resolve_left c7).resolve_left c13]; rfl) | (rw [sco0, if_neg (by rw [c7]; decide), hrb_z c7, nI_clamp (by omega), hmn]; done), by first | exact QC0.mk hL | exact QC0.rf⟩
theorem q_c_early0 {g : GW} {C : SC} {S : SM} {X : AH} {lo hi b : Nat} {A : BA} {W : Nat → Int32} (hE : EV C X lo hi b A W) {x z : Int32} {sl : SLt} (hS : HSS C X sl) : SP g 9 0 0 yX0_early cX0_early 4 (some .int) [.ref 0, .int x, .int z] (cH C S X) (QC C S X (.int (ear0 W sl.1 sl.2.2 x z))) := by
  refine SP.intro [some (.ref 0), some (.int x), some (.int z), none] (pfn (by decide)) rfl (Nat.le_of_ble_eq_true rfl) ?_
  refine wp_iload_2 dX0_early_0 rfl ?_
  refine wp_i2l dX0_early_1 rfl ?_
  refine wp_lconst 0 dX0_early_2 rfl rfl ?_
  refine wp_ldc2_w dX0_early_3 rfl q1633 ?_
  refine wp_csR dX0_early_6 rfl q190 ms_X0_in c_in rfl rfl (Nat.le_of_ble_eq_true rfl) (Nat.le_of_ble_eq_true rfl) ?_
  refine wp_ifeq_b 20 dX0_early_9 rfl rfl (fun c9 => ?_) (fun c9 => ?_)
  · refine wp_bipush (-2) dX0_early_20 rfl rfl ?_
    refine wp_istore_3 dX0_early_22 rfl (by decide) rfl ?_
    refine wp_iload_3 dX0_early_23 rfl ?_
    refine wp_if_eq 31 dX0_early_24 rfl rfl (fun c24 => ?_) (fun c24 => ?_)
    · exact absurd c24 (by decide)
    · refine wp_iload_3 dX0_early_27 rfl ?_
      refine wp_goto 48 dX0_early_28 rfl rfl ?_
      exact wp_ireturn dX0_early_48 rfl ⟨by first | (rw [ear0, c9]; rfl) | (rw [ear0, if_pos c9, hrb_n (abV_lt c24)]; done) | (rw [ear0, if_pos c9, hrb_z c24, nI_clamp (by omega), hmn]; done), by first | exact QC0.mk hL | exact QC0.rf⟩
  · refine wp_aload_0 dX0_early_12 rfl ?_
    refine wp_iload_1 dX0_early_13 rfl ?_
    refine wp_cvR dX0_early_14 rfl q1666 mv_X0_whyNotBlows hE.o0 rfl rfl (c_whyNotB hE hS) rfl rfl (Nat.le_of_ble_eq_true rfl) (Nat.le_of_ble_eq_true rfl) ?_
    refine wp_goto 22 dX0_early_17 rfl rfl ?_
    refine wp_istore_3 dX0_early_22 rfl (by decide) rfl ?_
    refine wp_iload_3 dX0_early_23 rfl ?_
    refine wp_if_eq 31 dX0_early_24 rfl rfl (fun c24 => ?_) (fun c24 => ?_)
    · obtain ⟨s, hs, rfl, hbd, a, m, w, hm, h60, hmn, hr, hh, hev⟩ := abV_held hS c24
      refine wp_aload_0 dX0_early_31 rfl ?_
      refine wp_getf dX0_early_32 rfl q732 fk0_12 hE.o0 rfl ?_
      refine wp_aload_0 dX0_early_35 rfl ?_
      refine wp_getf dX0_early_36 rfl q715 fk0_0 hE.o0 rfl ?_
      refine wp_iload_1 dX0_early_39 rfl ?_
      refine wp_aaload s dX0_early_40 rfl rfl rfl (cg_1 hE.X) (nI_clamp (by omega)) (vp_in_nI hs (by omega)) ?_
      rw [show va_rf (cn_ 4 2 s) = .ref (2 + s) by rw [show cn_ 4 2 s = some (2 + s) from if_pos hs]; rfl]
      refine wp_iload_2 dX0_early_41 rfl ?_
      refine wp_cvEi dX0_early_42 rfl q1670 mv_X9_goes (cg_83 hE.X) rfl rfl (c_bgoes (lag := z) hE hs hr hh hev) rfl rfl (Nat.le_of_ble_eq_true rfl) (Nat.le_of_ble_eq_true rfl) (fun h1 hq => ?_)
      obtain ⟨C, rfl, hb, hL⟩ := hq
      have hE := hL.ev hE
      refine wp_getfN dX0_early_45 rfl q702 fk9_3 (cg_83 hE.X) rfl ?_
      rw [hb.2.2.1]
      exact wp_ireturn dX0_early_48 rfl ⟨by first | (rw [ear0, c9]; rfl) | (rw [ear0, if_pos c9, hrb_n (abV_lt c24)]; done) | (rw [ear0, if_pos c9, hrb_z c24, nI_clamp (by omega), hmn]; done), by first | exact QC0.mk hL | exact QC0.rf⟩
    · refine wp_iload_3 dX0_early_27 rfl ?_
      refine wp_goto 48 dX0_early_28 rfl rfl ?_
      exact wp_ireturn dX0_early_48 rfl ⟨by first | (rw [ear0, c9]; rfl) | (rw [ear0, if_pos c9, hrb_n (abV_lt c24)]; done) | (rw [ear0, if_pos c9, hrb_z c24, nI_clamp (by omega), hmn]; done), by first | exact QC0.mk hL | exact QC0.rf⟩
