/-! ===== the reference: nights ===== -/
set_option maxRecDepth 100000
/-- all but the game and the draw is as it was -/
def KN (S S' : SM) : Prop := (∀ k, k ≠ 18 → S'.1 k = S.1 k) ∧ (∀ j, j ≠ 7 → j ≠ 8 → j ≠ 9 → S'.2.1 j = S.2.1 j) ∧ S'.2.2.1 = S.2.2.1
theorem KN.rf (S : SM) : KN S S := ⟨fun _ _ => rfl, fun _ _ _ _ => rfl, rfl⟩
theorem KN.tr {S S' S'' : SM} (h : KN S S') (h' : KN S' S'') : KN S S'' := ⟨fun k q => (h'.1 k q).trans (h.1 k q), fun j a b c => (h'.2.1 j a b c).trans (h.2.1 j a b c), h'.2.2.trans h.2.2⟩
theorem KN.of {S S' : SM} (h : KG S S') : KN S S' := ⟨h.1, h.2.1, congrArg Prod.fst h.2.2⟩
theorem KN.sD (v : Int64) (S : SM) : KN S (sD v S) := ⟨fun _ _ => rfl, fun _ _ _ _ => rfl, rfl⟩
theorem KN.wd {S S' : SM} (h : KN S S') : wd S' = wd S := h.2.1 1 (by decide) (by decide) (by decide)
theorem KN.KP {S S' : SM} (h : KN S S') : KP S S' := ⟨⟨h.1 5 (by decide), h.1 12 (by decide), h.1 13 (by decide)⟩, fun j q => h.2.1 j (by omega) (by omega) (by omega), by rw [h.2.2]⟩
theorem m_isSeed {g : GW} {h : AH} {x : Int32} : SPx g 2 0 0 yX10_isSeed cX10_isSeed 1 (some .boolean) [.int x] h (some (.int (b2i (seB x)))) h := by
  refine SPx.intro [some (.int x)] (pfn (by decide)) rfl (Nat.le_of_ble_eq_true rfl) ?_
  refine wp_iload_0 dX10_isSeed_0 rfl ?_
  refine wp_i2l dX10_isSeed_1 rfl ?_
  refine wp_lconst 0 dX10_isSeed_2 rfl rfl ?_
  refine wp_ldc2_w dX10_isSeed_3 rfl q2604 ?_
  refine wp_csR dX10_isSeed_6 rfl q1979 ms_X10_in m_in rfl rfl (Nat.le_of_ble_eq_true rfl) (Nat.le_of_ble_eq_true rfl) ?_
  exact wp_zreturn dX10_isSeed_9 rfl (nz_b2i _) ⟨by rw [show inL x.toInt64 0 2000000000 = seB x from inL_i x 0 2000000000], rfl⟩
theorem m_draw {g : GW} {M : Nat} {pre post : AH} {S : SM} (hm : pre.length = M) {x : Int32} (h0 : ¬ x = 0) : SPx g 1 0 0 yX10_draw cX10_draw 2 (some .int) [.ref M, .int x] (mH M pre S post) (some (.int (drN S.2.2.2 x))) (mH M pre (sD (drD S.2.2.2) S) post) := by
  refine SPx.intro [some (.ref M), some (.int x)] (pfn (by decide)) rfl (Nat.le_of_ble_eq_true rfl) ?_
  refine wp_aload_0 dX10_draw_0 rfl ?_
  refine wp_ldc2_w dX10_draw_1 rfl q2617 ?_
  refine wp_aload_0 dX10_draw_4 rfl ?_
  refine wp_getf dX10_draw_5 rfl q1873 fk10_42 (mg_0 hm) rfl ?_
  refine wp_lmul dX10_draw_8 rfl ?_
  refine wp_ldc2_w dX10_draw_9 rfl q2618 ?_
  refine wp_ladd dX10_draw_12 rfl ?_
  refine wp_ldc2_w dX10_draw_13 rfl q2619 ?_
  refine wp_lrem dX10_draw_16 rfl (by decide) ?_
  refine wp_putf dX10_draw_17 rfl q1873 fp10_42 (mg_0 hm) rfl rfl (Nat.le_of_ble_eq_true rfl) (ms_F42 hm) ?_
  refine wp_aload_0 dX10_draw_20 rfl ?_
  refine wp_getf dX10_draw_21 rfl q1873 fk10_42 (mg_0 hm) rfl ?_
  refine wp_ldc2_w dX10_draw_24 rfl q2620 ?_
  refine wp_ldiv dX10_draw_27 rfl (by decide) ?_
  refine wp_iload_1 dX10_draw_28 rfl ?_
  refine wp_i2l dX10_draw_29 rfl ?_
  refine wp_lrem dX10_draw_30 rfl (n64_0 h0) ?_
  refine wp_l2i dX10_draw_31 rfl ?_
  exact wp_ireturn dX10_draw_32 rfl ⟨rfl, rfl⟩
theorem mL_hole1 {g : GW} {M : Nat} {pre post : AH} (hm : pre.length = M) {S : SM} (hs : WFs (wd S)) (h0 : ¬ wd S 0 = 0) {law one two : Int32} {c n : Nat} {Q : Option Value → AH → Prop} : ∀ (k : Nat)  (i : Nat) (a : Int32), i + k = hoN (wd S) → (∀ i', WP g 4 yX10_holeByLot cX10_holeByLot 7 (some .int) 91 [some (.ref M), some (.int law), some (.int one), some (.int two), some (.int (itr (ctF (leP (wd S) law one two)) k i a)), i', none] [] (mH M pre S post) c n Q) → WP g 4 yX10_holeByLot cX10_holeByLot 7 (some .int) 54 [some (.ref M), some (.int law), some (.int one), some (.int two), some (.int a), some (.int (nI i)), none] [] (mH M pre S post) c n Q := by
  intro k
  induction k with
  | zero =>
    intro  i a hi hq
    have b12 := hs.ho12
    have e0 : hoW (wd S) = nI (hoN (wd S)) := hs.ho
    refine wp_iload_5 dX10_holeByLot_54 rfl ?_
    refine wp_aload_0 dX10_holeByLot_56 rfl ?_
    refine wp_cvR dX10_holeByLot_57 rfl q2206 mv_X10_holes (mg_0 hm) rfl rfl (m_holes hm) rfl rfl (Nat.le_of_ble_eq_true rfl) (Nat.le_of_ble_eq_true rfl) ?_
    refine wp_icmp_ge 91 dX10_holeByLot_60 rfl rfl (fun c60 => ?_) (fun c60 => ?_)
    · exact hq _
    · exact absurd (show hoW (wd S) ≤ nI i by rw [e0]; exact nI_le (by omega) (by omega)) c60
  | succ k ih =>
    intro  i a hi hq
    have b12 := hs.ho12
    have e0 : hoW (wd S) = nI (hoN (wd S)) := hs.ho
    refine wp_iload_5 dX10_holeByLot_54 rfl ?_
    refine wp_aload_0 dX10_holeByLot_56 rfl ?_
    refine wp_cvR dX10_holeByLot_57 rfl q2206 mv_X10_holes (mg_0 hm) rfl rfl (m_holes hm) rfl rfl (Nat.le_of_ble_eq_true rfl) (Nat.le_of_ble_eq_true rfl) ?_
    refine wp_icmp_ge 91 dX10_holeByLot_60 rfl rfl (fun c60 => ?_) (fun c60 => ?_)
    · exact absurd c60 (show ¬ (hoW (wd S) ≤ nI i) by rw [e0]; exact nI_ge (by omega) (by omega))
    · refine wp_iload_4 dX10_holeByLot_63 rfl ?_
      refine wp_aload_0 dX10_holeByLot_65 rfl ?_
      refine wp_iload_1 dX10_holeByLot_66 rfl ?_
      refine wp_iload_5 dX10_holeByLot_67 rfl ?_
      refine wp_iload_2 dX10_holeByLot_69 rfl ?_
      refine wp_iload_3 dX10_holeByLot_70 rfl ?_
      refine wp_cvR dX10_holeByLot_71 rfl q2390 mv_X10_lets (mg_0 hm) rfl rfl (m_lets hm h0) rfl rfl (Nat.le_of_ble_eq_true rfl) (Nat.le_of_ble_eq_true rfl) ?_
      refine wp_ifeq_b 81 dX10_holeByLot_74 rfl rfl (fun c74 => ?_) (fun c74 => ?_)
      · refine wp_iconst 0 dX10_holeByLot_81 rfl rfl ?_
        refine wp_iadd dX10_holeByLot_82 rfl ?_
        refine wp_istore_4 dX10_holeByLot_83 rfl (by decide) rfl ?_
        refine wp_iinc_5 1 dX10_holeByLot_85 rfl rfl (by decide) rfl ?_
        refine wp_goto 54 dX10_holeByLot_88 rfl rfl ?_
        have c74 : (leP (wd S) law one two) i = false := c74
        exact WP.cast (by simp [ctF, nI_1, c74]) (ih (i + 1) (ctF (leP (wd S) law one two) i a) (by omega) hq)
      · refine wp_iconst 1 dX10_holeByLot_77 rfl rfl ?_
        refine wp_goto 82 dX10_holeByLot_78 rfl rfl ?_
        refine wp_iadd dX10_holeByLot_82 rfl ?_
        refine wp_istore_4 dX10_holeByLot_83 rfl (by decide) rfl ?_
        refine wp_iinc_5 1 dX10_holeByLot_85 rfl rfl (by decide) rfl ?_
        refine wp_goto 54 dX10_holeByLot_88 rfl rfl ?_
        have c74 : (leP (wd S) law one two) i = true := c74
        exact WP.cast (by simp [ctF, nI_1, c74]) (ih (i + 1) (ctF (leP (wd S) law one two) i a) (by omega) hq)
theorem mL_hole2 {g : GW} {M : Nat} {pre post : AH} (hm : pre.length = M) {S : SM} (hs : WFs (wd S)) (h0 : ¬ wd S 0 = 0) {law one two : Int32} {v4 : Int32} {c n : Nat} {Q : Option Value → AH → Prop} : ∀ (k : Nat)  (i : Nat) (a : Int32), i + k = hoN (wd S) → Q (some (.int (pkK (leP (wd S) law one two) k i a))) (mH M pre S post) → WP g 4 yX10_holeByLot cX10_holeByLot 7 (some .int) 109 [some (.ref M), some (.int law), some (.int one), some (.int two), some (.int v4), some (.int a), some (.int (nI i))] [] (mH M pre S post) c n Q := by
  intro k
  induction k with
  | zero =>
    intro  i a hi hq
    have b12 := hs.ho12
    have e0 : hoW (wd S) = nI (hoN (wd S)) := hs.ho
    refine wp_iload_6 dX10_holeByLot_109 rfl ?_
    refine wp_aload_0 dX10_holeByLot_111 rfl ?_
    refine wp_cvR dX10_holeByLot_112 rfl q2206 mv_X10_holes (mg_0 hm) rfl rfl (m_holes hm) rfl rfl (Nat.le_of_ble_eq_true rfl) (Nat.le_of_ble_eq_true rfl) ?_
    refine wp_icmp_ge 150 dX10_holeByLot_115 rfl rfl (fun c115 => ?_) (fun c115 => ?_)
    · refine wp_iconst (-1) dX10_holeByLot_150 rfl rfl ?_
      exact wp_ireturn dX10_holeByLot_151 rfl hq
    · exact absurd (show hoW (wd S) ≤ nI i by rw [e0]; exact nI_le (by omega) (by omega)) c115
  | succ k ih =>
    intro  i a hi hq
    have b12 := hs.ho12
    have e0 : hoW (wd S) = nI (hoN (wd S)) := hs.ho
    refine wp_iload_6 dX10_holeByLot_109 rfl ?_
    refine wp_aload_0 dX10_holeByLot_111 rfl ?_
    refine wp_cvR dX10_holeByLot_112 rfl q2206 mv_X10_holes (mg_0 hm) rfl rfl (m_holes hm) rfl rfl (Nat.le_of_ble_eq_true rfl) (Nat.le_of_ble_eq_true rfl) ?_
    refine wp_icmp_ge 150 dX10_holeByLot_115 rfl rfl (fun c115 => ?_) (fun c115 => ?_)
    · exact absurd c115 (show ¬ (hoW (wd S) ≤ nI i) by rw [e0]; exact nI_ge (by omega) (by omega))
    · refine wp_aload_0 dX10_holeByLot_118 rfl ?_
      refine wp_iload_1 dX10_holeByLot_119 rfl ?_
      refine wp_iload_6 dX10_holeByLot_120 rfl ?_
      refine wp_iload_2 dX10_holeByLot_122 rfl ?_
      refine wp_iload_3 dX10_holeByLot_123 rfl ?_
      refine wp_cvR dX10_holeByLot_124 rfl q2390 mv_X10_lets (mg_0 hm) rfl rfl (m_lets hm h0) rfl rfl (Nat.le_of_ble_eq_true rfl) (Nat.le_of_ble_eq_true rfl) ?_
      refine wp_ifne_b 133 dX10_holeByLot_127 rfl rfl (fun c127 => ?_) (fun c127 => ?_)
      · have c127 : (leP (wd S) law one two) i = true := c127
        refine wp_iload_5 dX10_holeByLot_133 rfl ?_
        refine wp_if_ne 141 dX10_holeByLot_135 rfl rfl (fun c135 => ?_) (fun c135 => ?_)
        · refine wp_iinc_5 (-1) dX10_holeByLot_141 rfl rfl (by decide) rfl ?_
          refine wp_iinc_6 1 dX10_holeByLot_144 rfl rfl (by decide) rfl ?_
          refine wp_goto 109 dX10_holeByLot_147 rfl rfl ?_
          first
          | exact WP.cast (by rw [nI_1, Int32.sub_eq_add_neg]) (ih (i + 1) (a - 1) (by omega) (by rw [pkK, if_pos c127, if_neg c135] at hq; exact hq))
          | exact WP.cast (by rw [nI_1]) (ih (i + 1) a (by omega) (by rw [pkK, if_neg (by rw [c127]; decide)] at hq; exact hq))
        · refine wp_iload_6 dX10_holeByLot_138 rfl ?_
          exact wp_ireturn dX10_holeByLot_140 rfl (by rw [pkK, if_pos c127, if_pos c135] at hq; exact hq)
      · have c127 : (leP (wd S) law one two) i = false := c127
        refine wp_goto 144 dX10_holeByLot_130 rfl rfl ?_
        refine wp_iinc_6 1 dX10_holeByLot_144 rfl rfl (by decide) rfl ?_
        refine wp_goto 109 dX10_holeByLot_147 rfl rfl ?_
        first
        | exact WP.cast (by rw [nI_1, Int32.sub_eq_add_neg]) (ih (i + 1) (a - 1) (by omega) (by rw [pkK, if_pos c127, if_neg c135] at hq; exact hq))
        | exact WP.cast (by rw [nI_1]) (ih (i + 1) a (by omega) (by rw [pkK, if_neg (by rw [c127]; decide)] at hq; exact hq))
/-- the same, the draw being told (v a variable: the kernel must not look into it) -/
theorem mL_hole3 {g : GW} {M : Nat} {pre post : AH} (hm : pre.length = M) {S : SM} {w : Int64} (hs : WFs (wd S)) (h0 : ¬ wd S 0 = 0) {law one two : Int32} {v4 a : Int32} {Q : Option Value → AH → Prop} (hq : Q (some (.int (pkK (leP (wd S) law one two) (hoN (wd S)) 0 a))) (mH M pre (sD w S) post)) : WP g 4 yX10_holeByLot cX10_holeByLot 7 (some .int) 109 [some (.ref M), some (.int law), some (.int one), some (.int two), some (.int v4), some (.int a), some (.int 0)] [] (mH M pre (sD w S) post) 0 0 Q :=
  mL_hole2 (S := sD w S) hm hs h0 (hoN (wd S)) 0 a (Nat.zero_add _) hq
theorem m_holeByLot {g : GW} {M : Nat} {pre post : AH} {S : SM} (hm : pre.length = M) {law : Int32} {m : Nat} {G : GF} (hg : GS S (m, G)) (hs : WFs (wd S)) (h0 : ¬ wd S 0 = 0) : SPx g 4 0 0 yX10_holeByLot cX10_holeByLot 7 (some .int) [.ref M, .int law] (mH M pre S post) (some (.int (hbV (wd S) law (onN (gH G) m) (twN (gH G) m) S.2.2.2))) (mH M pre (sD (hbD (wd S) law (onN (gH G) m) (twN (gH G) m) S.2.2.2) S) post) := by
  refine SPx.intro [some (.ref M), some (.int law), none, none, none, none, none] (pfn (by decide)) rfl (Nat.le_of_ble_eq_true rfl) ?_
  refine wp_aload_0 dX10_holeByLot_0 rfl ?_
  refine wp_getf dX10_holeByLot_1 rfl q1849 fk10_18 (mg_0 hm) rfl ?_
  refine wp_iconst 1 dX10_holeByLot_4 rfl rfl ?_
  refine wp_icmp_ge 12 dX10_holeByLot_5 rfl rfl (fun c5 => ?_) (fun c5 => ?_)
  · have m1 : ¬ m < 1 := fun q => by rw [hg.1, show (m, G).1 = m from rfl, show m = 0 by omega] at c5; exact absurd c5 (by decide)
    have eo : (onN (gH G) m) = gH G (m - 1) := if_neg m1
    refine wp_aload_0 dX10_holeByLot_12 rfl ?_
    refine wp_aload_0 dX10_holeByLot_13 rfl ?_
    refine wp_getf dX10_holeByLot_14 rfl q1849 fk10_18 (mg_0 hm) rfl ?_
    refine wp_iconst 1 dX10_holeByLot_17 rfl rfl ?_
    refine wp_isub dX10_holeByLot_18 rfl ?_
    rw [show S.1 18 - 1 = nI (m - 1) by rw [hg.1]; exact pk_sub (b := 1) (by omega)]
    refine wp_iconst 0 dX10_holeByLot_19 rfl rfl ?_
    refine wp_cvR dX10_holeByLot_20 rfl q2182 mv_X10_inGame (mg_0 hm) rfl rfl (m_inGame (i := m - 1) (w := 0) hm (by have := hg.2.1; have : m ≤ 60 := this; omega) (by omega)) rfl rfl (Nat.le_of_ble_eq_true rfl) (Nat.le_of_ble_eq_true rfl) ?_
    rw [show S.2.1 7 (3 * (m - 1) + 0) = gH G (m - 1) from hg.at (w := 0) (show m - 1 < m by omega) (by omega), ← eo]
    refine wp_istore_2 dX10_holeByLot_23 rfl (by decide) rfl ?_
    refine wp_aload_0 dX10_holeByLot_24 rfl ?_
    refine wp_getf dX10_holeByLot_25 rfl q1849 fk10_18 (mg_0 hm) rfl ?_
    refine wp_iconst 2 dX10_holeByLot_28 rfl rfl ?_
    refine wp_icmp_ge 36 dX10_holeByLot_29 rfl rfl (fun c29 => ?_) (fun c29 => ?_)
    · have m2 : ¬ m < 2 := fun q => by
        rw [hg.1] at c29
        exact absurd ((nI_leI (a := 2) (by omega) (by have := hg.2.1; have : m ≤ 60 := this; omega)).mp c29) (by show ¬ 2 ≤ m; omega)
      have et : (twN (gH G) m) = gH G (m - 2) := if_neg m2
      refine wp_aload_0 dX10_holeByLot_36 rfl ?_
      refine wp_aload_0 dX10_holeByLot_37 rfl ?_
      refine wp_getf dX10_holeByLot_38 rfl q1849 fk10_18 (mg_0 hm) rfl ?_
      refine wp_iconst 2 dX10_holeByLot_41 rfl rfl ?_
      refine wp_isub dX10_holeByLot_42 rfl ?_
      rw [show S.1 18 - 2 = nI (m - 2) by rw [hg.1]; exact pk_sub (b := 2) (by omega)]
      refine wp_iconst 0 dX10_holeByLot_43 rfl rfl ?_
      refine wp_cvR dX10_holeByLot_44 rfl q2182 mv_X10_inGame (mg_0 hm) rfl rfl (m_inGame (i := m - 2) (w := 0) hm (by have := hg.2.1; have : m ≤ 60 := this; omega) (by omega)) rfl rfl (Nat.le_of_ble_eq_true rfl) (Nat.le_of_ble_eq_true rfl) ?_
      rw [show S.2.1 7 (3 * (m - 2) + 0) = gH G (m - 2) from hg.at (w := 0) (show m - 2 < m by omega) (by omega), ← et]
      refine wp_istore_3 dX10_holeByLot_47 rfl (by decide) rfl ?_
      refine wp_iconst 0 dX10_holeByLot_48 rfl rfl ?_
      refine wp_istore_4 dX10_holeByLot_49 rfl (by decide) rfl ?_
      refine wp_iconst 0 dX10_holeByLot_51 rfl rfl ?_
      refine wp_istore_5 dX10_holeByLot_52 rfl (by decide) rfl ?_
      refine WP.cast (by first | rfl | (rw [eo, et]; rfl) | (rw [et]; rfl) | (rw [eo]; rfl)) (mL_hole1 (law := law) (one := (onN (gH G) m)) (two := (twN (gH G) m)) hm hs h0 (hoN (wd S)) 0 0 (Nat.zero_add _) (fun i5 => ?_))
      rw [show itr (ctF (leP (wd S) law (onN (gH G) m) (twN (gH G) m))) (hoN (wd S)) 0 0 = leC (wd S) law (onN (gH G) m) (twN (gH G) m) from rfl]
      refine wp_iload_4 dX10_holeByLot_91 rfl ?_
      refine wp_if_ne 98 dX10_holeByLot_93 rfl rfl (fun c93 => ?_) (fun c93 => ?_)
      · have h0n := c93
        refine wp_aload_0 dX10_holeByLot_98 rfl ?_
        refine wp_iload_4 dX10_holeByLot_99 rfl ?_
        refine wp_cvR dX10_holeByLot_101 rfl q2613 mv_X10_draw (mg_0 hm) rfl rfl (m_draw hm h0n) rfl rfl (Nat.le_of_ble_eq_true rfl) (Nat.le_of_ble_eq_true rfl) ?_
        refine wp_istore_5 dX10_holeByLot_104 rfl (by decide) rfl ?_
        refine wp_iconst 0 dX10_holeByLot_106 rfl rfl ?_
        refine wp_istore_6 dX10_holeByLot_107 rfl (by decide) rfl ?_
        refine mL_hole3 (law := law) (S := S) (w := drD S.2.2.2) (one := (onN (gH G) m)) (two := (twN (gH G) m)) hm hs h0 ⟨?_, ?_⟩
        · rw [hbV, if_neg c93]
        · rw [hbD, if_neg c93]
      · refine wp_iconst (-1) dX10_holeByLot_96 rfl rfl ?_
        exact wp_ireturn dX10_holeByLot_97 rfl ⟨by rw [hbV, if_pos c93], by rw [hbD, if_pos c93]; rfl⟩
    · have m2 : m < 2 := by
        rw [hg.1] at c29
        exact Nat.not_le.mp (fun q => c29 (nI_le (a := 2) q (by have := hg.2.1; have : m ≤ 60 := this; omega)))
      have et : (twN (gH G) m) = -1 := if_pos m2
      refine wp_iconst (-1) dX10_holeByLot_32 rfl rfl ?_
      refine wp_goto 47 dX10_holeByLot_33 rfl rfl ?_
      refine wp_istore_3 dX10_holeByLot_47 rfl (by decide) rfl ?_
      refine wp_iconst 0 dX10_holeByLot_48 rfl rfl ?_
      refine wp_istore_4 dX10_holeByLot_49 rfl (by decide) rfl ?_
      refine wp_iconst 0 dX10_holeByLot_51 rfl rfl ?_
      refine wp_istore_5 dX10_holeByLot_52 rfl (by decide) rfl ?_
      refine WP.cast (by first | rfl | (rw [eo, et]; rfl) | (rw [et]; rfl) | (rw [eo]; rfl)) (mL_hole1 (law := law) (one := (onN (gH G) m)) (two := (twN (gH G) m)) hm hs h0 (hoN (wd S)) 0 0 (Nat.zero_add _) (fun i5 => ?_))
      rw [show itr (ctF (leP (wd S) law (onN (gH G) m) (twN (gH G) m))) (hoN (wd S)) 0 0 = leC (wd S) law (onN (gH G) m) (twN (gH G) m) from rfl]
      refine wp_iload_4 dX10_holeByLot_91 rfl ?_
      refine wp_if_ne 98 dX10_holeByLot_93 rfl rfl (fun c93 => ?_) (fun c93 => ?_)
      · have h0n := c93
        refine wp_aload_0 dX10_holeByLot_98 rfl ?_
        refine wp_iload_4 dX10_holeByLot_99 rfl ?_
        refine wp_cvR dX10_holeByLot_101 rfl q2613 mv_X10_draw (mg_0 hm) rfl rfl (m_draw hm h0n) rfl rfl (Nat.le_of_ble_eq_true rfl) (Nat.le_of_ble_eq_true rfl) ?_
        refine wp_istore_5 dX10_holeByLot_104 rfl (by decide) rfl ?_
        refine wp_iconst 0 dX10_holeByLot_106 rfl rfl ?_
        refine wp_istore_6 dX10_holeByLot_107 rfl (by decide) rfl ?_
        refine mL_hole3 (law := law) (S := S) (w := drD S.2.2.2) (one := (onN (gH G) m)) (two := (twN (gH G) m)) hm hs h0 ⟨?_, ?_⟩
        · rw [hbV, if_neg c93]
        · rw [hbD, if_neg c93]
      · refine wp_iconst (-1) dX10_holeByLot_96 rfl rfl ?_
        exact wp_ireturn dX10_holeByLot_97 rfl ⟨by rw [hbV, if_pos c93], by rw [hbD, if_pos c93]; rfl⟩
  · have m1 : m < 1 := by
      rw [hg.1] at c5
      exact Nat.not_le.mp (fun q => c5 (nI_le (a := 1) q (by have := hg.2.1; have : m ≤ 60 := this; omega)))
    have eo : (onN (gH G) m) = -1 := if_pos m1
    refine wp_iconst (-1) dX10_holeByLot_8 rfl rfl ?_
    refine wp_goto 23 dX10_holeByLot_9 rfl rfl ?_
    refine wp_istore_2 dX10_holeByLot_23 rfl (by decide) rfl ?_
    refine wp_aload_0 dX10_holeByLot_24 rfl ?_
    refine wp_getf dX10_holeByLot_25 rfl q1849 fk10_18 (mg_0 hm) rfl ?_
    refine wp_iconst 2 dX10_holeByLot_28 rfl rfl ?_
    refine wp_icmp_ge 36 dX10_holeByLot_29 rfl rfl (fun c29 => ?_) (fun c29 => ?_)
    · have m2 : ¬ m < 2 := fun q => by
        rw [hg.1] at c29
        exact absurd ((nI_leI (a := 2) (by omega) (by have := hg.2.1; have : m ≤ 60 := this; omega)).mp c29) (by show ¬ 2 ≤ m; omega)
      have et : (twN (gH G) m) = gH G (m - 2) := if_neg m2
      refine wp_aload_0 dX10_holeByLot_36 rfl ?_
      refine wp_aload_0 dX10_holeByLot_37 rfl ?_
      refine wp_getf dX10_holeByLot_38 rfl q1849 fk10_18 (mg_0 hm) rfl ?_
      refine wp_iconst 2 dX10_holeByLot_41 rfl rfl ?_
      refine wp_isub dX10_holeByLot_42 rfl ?_
      rw [show S.1 18 - 2 = nI (m - 2) by rw [hg.1]; exact pk_sub (b := 2) (by omega)]
      refine wp_iconst 0 dX10_holeByLot_43 rfl rfl ?_
      refine wp_cvR dX10_holeByLot_44 rfl q2182 mv_X10_inGame (mg_0 hm) rfl rfl (m_inGame (i := m - 2) (w := 0) hm (by have := hg.2.1; have : m ≤ 60 := this; omega) (by omega)) rfl rfl (Nat.le_of_ble_eq_true rfl) (Nat.le_of_ble_eq_true rfl) ?_
      rw [show S.2.1 7 (3 * (m - 2) + 0) = gH G (m - 2) from hg.at (w := 0) (show m - 2 < m by omega) (by omega), ← et]
      refine wp_istore_3 dX10_holeByLot_47 rfl (by decide) rfl ?_
      refine wp_iconst 0 dX10_holeByLot_48 rfl rfl ?_
      refine wp_istore_4 dX10_holeByLot_49 rfl (by decide) rfl ?_
      refine wp_iconst 0 dX10_holeByLot_51 rfl rfl ?_
      refine wp_istore_5 dX10_holeByLot_52 rfl (by decide) rfl ?_
      refine WP.cast (by first | rfl | (rw [eo, et]; rfl) | (rw [et]; rfl) | (rw [eo]; rfl)) (mL_hole1 (law := law) (one := (onN (gH G) m)) (two := (twN (gH G) m)) hm hs h0 (hoN (wd S)) 0 0 (Nat.zero_add _) (fun i5 => ?_))
      rw [show itr (ctF (leP (wd S) law (onN (gH G) m) (twN (gH G) m))) (hoN (wd S)) 0 0 = leC (wd S) law (onN (gH G) m) (twN (gH G) m) from rfl]
      refine wp_iload_4 dX10_holeByLot_91 rfl ?_
      refine wp_if_ne 98 dX10_holeByLot_93 rfl rfl (fun c93 => ?_) (fun c93 => ?_)
      · have h0n := c93
        refine wp_aload_0 dX10_holeByLot_98 rfl ?_
        refine wp_iload_4 dX10_holeByLot_99 rfl ?_
        refine wp_cvR dX10_holeByLot_101 rfl q2613 mv_X10_draw (mg_0 hm) rfl rfl (m_draw hm h0n) rfl rfl (Nat.le_of_ble_eq_true rfl) (Nat.le_of_ble_eq_true rfl) ?_
        refine wp_istore_5 dX10_holeByLot_104 rfl (by decide) rfl ?_
        refine wp_iconst 0 dX10_holeByLot_106 rfl rfl ?_
        refine wp_istore_6 dX10_holeByLot_107 rfl (by decide) rfl ?_
        refine mL_hole3 (law := law) (S := S) (w := drD S.2.2.2) (one := (onN (gH G) m)) (two := (twN (gH G) m)) hm hs h0 ⟨?_, ?_⟩
        · rw [hbV, if_neg c93]
        · rw [hbD, if_neg c93]
      · refine wp_iconst (-1) dX10_holeByLot_96 rfl rfl ?_
        exact wp_ireturn dX10_holeByLot_97 rfl ⟨by rw [hbV, if_pos c93], by rw [hbD, if_pos c93]; rfl⟩
    · have m2 : m < 2 := by
        rw [hg.1] at c29
        exact Nat.not_le.mp (fun q => c29 (nI_le (a := 2) q (by have := hg.2.1; have : m ≤ 60 := this; omega)))
      have et : (twN (gH G) m) = -1 := if_pos m2
      refine wp_iconst (-1) dX10_holeByLot_32 rfl rfl ?_
      refine wp_goto 47 dX10_holeByLot_33 rfl rfl ?_
      refine wp_istore_3 dX10_holeByLot_47 rfl (by decide) rfl ?_
      refine wp_iconst 0 dX10_holeByLot_48 rfl rfl ?_
      refine wp_istore_4 dX10_holeByLot_49 rfl (by decide) rfl ?_
      refine wp_iconst 0 dX10_holeByLot_51 rfl rfl ?_
      refine wp_istore_5 dX10_holeByLot_52 rfl (by decide) rfl ?_
      refine WP.cast (by first | rfl | (rw [eo, et]; rfl) | (rw [et]; rfl) | (rw [eo]; rfl)) (mL_hole1 (law := law) (one := (onN (gH G) m)) (two := (twN (gH G) m)) hm hs h0 (hoN (wd S)) 0 0 (Nat.zero_add _) (fun i5 => ?_))
      rw [show itr (ctF (leP (wd S) law (onN (gH G) m) (twN (gH G) m))) (hoN (wd S)) 0 0 = leC (wd S) law (onN (gH G) m) (twN (gH G) m) from rfl]
      refine wp_iload_4 dX10_holeByLot_91 rfl ?_
      refine wp_if_ne 98 dX10_holeByLot_93 rfl rfl (fun c93 => ?_) (fun c93 => ?_)
      · have h0n := c93
        refine wp_aload_0 dX10_holeByLot_98 rfl ?_
        refine wp_iload_4 dX10_holeByLot_99 rfl ?_
        refine wp_cvR dX10_holeByLot_101 rfl q2613 mv_X10_draw (mg_0 hm) rfl rfl (m_draw hm h0n) rfl rfl (Nat.le_of_ble_eq_true rfl) (Nat.le_of_ble_eq_true rfl) ?_
        refine wp_istore_5 dX10_holeByLot_104 rfl (by decide) rfl ?_
        refine wp_iconst 0 dX10_holeByLot_106 rfl rfl ?_
        refine wp_istore_6 dX10_holeByLot_107 rfl (by decide) rfl ?_
        refine mL_hole3 (law := law) (S := S) (w := drD S.2.2.2) (one := (onN (gH G) m)) (two := (twN (gH G) m)) hm hs h0 ⟨?_, ?_⟩
        · rw [hbV, if_neg c93]
        · rw [hbD, if_neg c93]
      · refine wp_iconst (-1) dX10_holeByLot_96 rfl rfl ?_
        exact wp_ireturn dX10_holeByLot_97 rfl ⟨by rw [hbV, if_pos c93], by rw [hbD, if_pos c93]; rfl⟩
theorem mL_night {g : GW} {M : Nat} {pre post : AH} (hm : pre.length = M) {Wd : Nat → Int32} (hs : WFs Wd) (h0 : ¬ Wd 0 = 0) {law : Int32} {v : Int64} {c n : Nat} {Q : Option Value → AH → Prop} : ∀ (k : Nat) (S : SM) (m : Nat) (f : Nat → Int32) (u : Int64) (v4 : Option Value), m + k = 60 → wd S = Wd → S.2.2.2 = u → GS S (m, niF Wd f) → (∀ S', KN S S' → GS S' ((niR Wd law k (m, f, u)).1, niF Wd (niR Wd law k (m, f, u)).2) → Q none (mH M pre S' post)) → WP g 5 yX10_layNight cX10_layNight 5 none 10 [some (.ref M), some (.long v), none, some (.int law), v4] [] (mH M pre S post) c n Q := by
  intro k
  induction k with
  | zero =>
    intro S m f u v4 hi hw hu hg hq
    refine wp_aload_0 dX10_layNight_10 rfl ?_
    have hmk := mayS_N hg hw
    refine wp_cvR dX10_layNight_11 rfl q2162 mv_X10_mayCome (mg_0 hm) rfl rfl (m_mayCome hm hg.1 hg.2.1 (hw.symm ▸ hs)) rfl rfl (Nat.le_of_ble_eq_true rfl) (Nat.le_of_ble_eq_true rfl) ?_
    refine wp_ifeq_b 42 dX10_layNight_14 rfl rfl (fun c14 => ?_) (fun c14 => ?_)
    · have hc : mayK Wd m = false := by rw [← hmk]; exact c14
      exact wp_return dX10_layNight_42 rfl (hq S (KN.rf S) hg)
    · exact absurd c14 (by rw [hmk]; simp [mayK, show m = 60 by omega])
  | succ k ih =>
    intro S m f u v4 hi hw hu hg hq
    refine wp_aload_0 dX10_layNight_10 rfl ?_
    have hmk := mayS_N hg hw
    refine wp_cvR dX10_layNight_11 rfl q2162 mv_X10_mayCome (mg_0 hm) rfl rfl (m_mayCome hm hg.1 hg.2.1 (hw.symm ▸ hs)) rfl rfl (Nat.le_of_ble_eq_true rfl) (Nat.le_of_ble_eq_true rfl) ?_
    refine wp_ifeq_b 42 dX10_layNight_14 rfl rfl (fun c14 => ?_) (fun c14 => ?_)
    · have hc : mayK Wd m = false := by rw [← hmk]; exact c14
      exact wp_return dX10_layNight_42 rfl (hq S (KN.rf S) (by rw [niR, if_neg (by rw [hc]; decide)]; exact hg))
    · have hc : mayK Wd m = true := by rw [← hmk]; exact c14
      have hm60 : m < 60 := by
        have q := hc
        rw [mayK, Bool.and_eq_true, decide_eq_true_eq] at q
        exact q.1
      refine wp_aload_0 dX10_layNight_17 rfl ?_
      refine wp_iload_3 dX10_layNight_18 rfl ?_
      refine wp_cvR dX10_layNight_19 rfl q2609 mv_X10_holeByLot (mg_0 hm) rfl rfl (m_holeByLot hm hg (hw.symm ▸ hs) (by rw [hw]; exact h0)) rfl rfl (Nat.le_of_ble_eq_true rfl) (Nat.le_of_ble_eq_true rfl) ?_
      rw [hw, hu, show gH (niF Wd f) = f from rfl]
      generalize hvw : hbD Wd law (onN f m) (twN f m) u = vw
      have hgn := hg.sD vw
      refine wp_istore_4 dX10_layNight_22 rfl (by decide) rfl ?_
      refine wp_iload_4 dX10_layNight_24 rfl ?_
      refine wp_iconst (-1) dX10_layNight_26 rfl rfl ?_
      refine wp_icmp_ne 31 dX10_layNight_27 rfl rfl (fun c27 => ?_) (fun c27 => ?_)
      · refine wp_aload_0 dX10_layNight_31 rfl ?_
        refine wp_iload_4 dX10_layNight_32 rfl ?_
        refine wp_iconst (-1) dX10_layNight_34 rfl rfl ?_
        refine wp_iconst 0 dX10_layNight_35 rfl rfl ?_
        refine wp_cv0 dX10_layNight_36 rfl q2170 mv_X10_come (mg_0 hm) rfl rfl (m_come hm hgn.1 hm60 (show WFs (wd S) from hw.symm ▸ hs)) rfl rfl (Nat.le_of_ble_eq_true rfl) (Nat.le_of_ble_eq_true rfl) ?_
        refine wp_goto 10 dX10_layNight_39 rfl rfl ?_
        refine ih (comeS m (hbV Wd law (onN f m) (twN f m) u) (-1) 0 (sD vw S)) (m + 1) (upd f m (hbV Wd law (onN f m) (twN f m) u)) vw (some (.int (hbV Wd law (onN f m) (twN f m) u))) (by omega) hw rfl (comeS_GS (hgn.up (hbV Wd law (onN f m) (twN f m) u)) hm60 (by show _ = upd f m _ m; rw [pk_us]) rfl rfl (hgn.nt2 hw) (by rw [hgn.nt2 hw, show wd (sD vw S) = Wd from hw]; rfl)) (fun S2 k2 g2 => hq S2 (((KN.sD _ S).tr (KN.of (comeS_KG m _ _ _ _))).tr k2) (by rw [niR, if_pos hc, if_neg (show ¬ (hbV Wd law (onN f m) (twN f m) u) = -1 from c27), hvw]; exact g2))
      · exact wp_return dX10_layNight_30 rfl (hq (sD vw S) (KN.sD _ S) (by rw [niR, if_pos hc, if_pos (show (hbV Wd law (onN f m) (twN f m) u) = -1 from c27)]; exact hgn))
theorem m_layNight {g : GW} {M : Nat} {pre post : AH} {S : SM} (hm : pre.length = M) {Wd : Nat → Int32} (hs : WFs Wd) (h0 : ¬ Wd 0 = 0) {law : Int32} {sd : Int64} (hw : wd S = Wd) : SP g 5 0 0 yX10_layNight cX10_layNight 5 none [.ref M, .long sd, .int law] (mH M pre S post) (fun v h1 => v = none ∧ ∃ S', h1 = mH M pre S' post ∧ KN S S' ∧ GS S' (niW Wd law sd)) := by
  refine SP.intro [some (.ref M), some (.long sd), none, some (.int law), none] (pfn (by decide)) rfl (Nat.le_of_ble_eq_true rfl) ?_
  refine wp_aload_0 dX10_layNight_0 rfl ?_
  refine wp_lload_1 dX10_layNight_1 rfl ?_
  refine wp_putf dX10_layNight_2 rfl q1873 fp10_42 (mg_0 hm) rfl rfl (Nat.le_of_ble_eq_true rfl) (ms_F42 hm) ?_
  refine wp_aload_0 dX10_layNight_5 rfl ?_
  refine wp_iconst 0 dX10_layNight_6 rfl rfl ?_
  refine wp_putf dX10_layNight_7 rfl q1849 fp10_18 (mg_0 hm) rfl rfl (Nat.le_of_ble_eq_true rfl) (ms_F18 hm) ?_
  exact mL_night hm hs h0 60 (sF 18 0 (sD sd S)) 0 (fun _ => 0) sd none (Nat.zero_add _) hw rfl (lay_GS0 _) (fun S2 k2 g2 => ⟨rfl, S2, rfl, ((KN.sD sd S).tr (KN.of (lay_KG0 _))).tr k2, g2⟩)
theorem q_m_drawn {g : GW} {M : Nat} {pre post : AH} {S : SM} (hm : pre.length = M) {x w z : Int32} (hs : WFs (wd S)) : SP g 6 0 0 yX10_drawn cX10_drawn 4 (some .int) [.ref M, .int x, .int w, .int z] (mH M pre S post) (QM M pre post S (.int (qdrawn (wd S) x w z))) := by
  refine SP.intro [some (.ref M), some (.int x), some (.int w), some (.int z)] (pfn (by decide)) rfl (Nat.le_of_ble_eq_true rfl) ?_
  refine wp_aload_0 dX10_drawn_0 rfl ?_
  refine wp_cvR dX10_drawn_1 rfl q2154 mv_X10_isBoard (mg_0 hm) rfl rfl (m_isBoard hm) rfl rfl (Nat.le_of_ble_eq_true rfl) (Nat.le_of_ble_eq_true rfl) ?_
  refine wp_ifeq_b 21 dX10_drawn_4 rfl rfl (fun c4 => ?_) (fun c4 => ?_)
  · refine wp_bipush (-2) dX10_drawn_21 rfl rfl ?_
    exact wp_ireturn dX10_drawn_23 rfl ⟨by rw [qdrawn, if_neg (by simp [*])], S, rfl, KP.rf S⟩
  · refine wp_iload_1 dX10_drawn_7 rfl ?_
    refine wp_csR dX10_drawn_8 rfl q2601 ms_X10_isSeed m_isSeed rfl rfl (Nat.le_of_ble_eq_true rfl) (Nat.le_of_ble_eq_true rfl) ?_
    refine wp_ifeq_b 21 dX10_drawn_11 rfl rfl (fun c11 => ?_) (fun c11 => ?_)
    · refine wp_bipush (-2) dX10_drawn_21 rfl rfl ?_
      exact wp_ireturn dX10_drawn_23 rfl ⟨by rw [qdrawn, if_neg (by simp [*])], S, rfl, KP.rf S⟩
    · refine wp_iload_2 dX10_drawn_14 rfl ?_
      refine wp_csR dX10_drawn_15 rfl q2380 ms_X10_isLaw m_isLaw rfl rfl (Nat.le_of_ble_eq_true rfl) (Nat.le_of_ble_eq_true rfl) ?_
      refine wp_ifne_b 24 dX10_drawn_18 rfl rfl (fun c18 => ?_) (fun c18 => ?_)
      · refine wp_aload_0 dX10_drawn_24 rfl ?_
        refine wp_iload_1 dX10_drawn_25 rfl ?_
        refine wp_i2l dX10_drawn_26 rfl ?_
        refine wp_iload_2 dX10_drawn_27 rfl ?_
        refine wp_cvE dX10_drawn_28 rfl q2605 mv_X10_layNight (mg_0 hm) rfl rfl (m_layNight hm hs (bd_0 c4) rfl) rfl rfl (Nat.le_of_ble_eq_true rfl) (Nat.le_of_ble_eq_true rfl) (fun h1 hq => ?_)
        obtain ⟨S1, rfl, hk1, hg1⟩ := hq
        refine wp_aload_0 dX10_drawn_31 rfl ?_
        refine wp_iload_3 dX10_drawn_32 rfl ?_
        refine wp_cvR dX10_drawn_33 rfl q2178 mv_X10_isInGame (mg_0 hm) rfl rfl (m_isInGame hm) rfl rfl (Nat.le_of_ble_eq_true rfl) (Nat.le_of_ble_eq_true rfl) ?_
        refine wp_ifeq_b 48 dX10_drawn_36 rfl rfl (fun c36 => ?_) (fun c36 => ?_)
        · have c36 : inI z 0 (nI (niW (wd S) w x.toInt64).1 - 1) = false := by rw [← show S1.1 18 = nI (niW (wd S) w x.toInt64).1 from hg1.1]; exact c36
          refine wp_iconst (-1) dX10_drawn_48 rfl rfl ?_
          exact wp_ireturn dX10_drawn_49 rfl ⟨by rw [qdrawn, if_pos ⟨c4, c11, c18⟩, if_neg (by rw [c36]; decide)], S1, rfl, hk1.KP⟩
        · obtain ⟨i, hi, rfl⟩ := hg1.in c36
          have c36 : inI (nI i) 0 (nI (niW (wd S) w x.toInt64).1 - 1) = true := by rw [← show S1.1 18 = nI (niW (wd S) w x.toInt64).1 from hg1.1]; exact c36
          refine wp_aload_0 dX10_drawn_39 rfl ?_
          refine wp_iload_3 dX10_drawn_40 rfl ?_
          refine wp_iconst 0 dX10_drawn_41 rfl rfl ?_
          refine wp_cvR dX10_drawn_42 rfl q2182 mv_X10_inGame (mg_0 hm) rfl rfl (m_inGame (w := 0) hm (Nat.lt_of_lt_of_le hi hg1.2.1) (by omega)) rfl rfl (Nat.le_of_ble_eq_true rfl) (Nat.le_of_ble_eq_true rfl) ?_
          refine wp_goto 49 dX10_drawn_45 rfl rfl ?_
          exact wp_ireturn dX10_drawn_49 rfl ⟨by rw [qdrawn, if_pos ⟨c4, c11, c18⟩, if_pos c36, nI_clamp (by have := hg1.2.1; omega), hg1.at (w := 0) hi (by omega)]; rfl, S1, rfl, hk1.KP⟩
      · refine wp_bipush (-2) dX10_drawn_21 rfl rfl ?_
        exact wp_ireturn dX10_drawn_23 rfl ⟨by rw [qdrawn, if_neg (by simp [*])], S, rfl, KP.rf S⟩
theorem m_nightOf {g : GW} {M : Nat} {pre post : AH} {S : SM} (hm : pre.length = M) {sd : Int64} {law : Int32} {p : Nat} (hp : p < nW (wd S) 6) (hs : WFs (wd S)) (hpl : WFp (wd S)) : SP g 6 0 0 yX10_nightOf cX10_nightOf 5 (some .int) [.ref M, .long sd, .int law, .int (nI p)] (mH M pre S post) (fun v h1 => v = some (.int (ngV (wd S) law p sd)) ∧ ∃ S', h1 = mH M pre S' post ∧ KP S S') := by
  refine SP.intro [some (.ref M), some (.long sd), none, some (.int law), some (.int (nI p))] (pfn (by decide)) rfl (Nat.le_of_ble_eq_true rfl) ?_
  have hp4 : p < 4 := Nat.lt_of_lt_of_le hp hs.np.2
  have h0 : ¬ wd S 0 = 0 := hpl.w0 hs hp
  have hkn : nW (wd S) (96 + 5 * p + 3) ≤ 9 := (hpl p hp).2.2.2.1.2
  have hps := atS_PS (hpl p hp).2.2.2.1.1
  refine wp_aload_0 dX10_nightOf_0 rfl ?_
  refine wp_lload_1 dX10_nightOf_1 rfl ?_
  refine wp_iload_3 dX10_nightOf_2 rfl ?_
  refine wp_cvE dX10_nightOf_3 rfl q2605 mv_X10_layNight (mg_0 hm) rfl rfl (m_layNight (sd := sd) hm hs h0 rfl) rfl rfl (Nat.le_of_ble_eq_true rfl) (Nat.le_of_ble_eq_true rfl) (fun h1 hq => ?_)
  obtain ⟨S1, rfl, hk1, hg1⟩ := hq
  have hw1 := hk1.wd
  refine wp_aload_0 dX10_nightOf_6 rfl ?_
  refine wp_iload_4 dX10_nightOf_7 rfl ?_
  refine wp_cv0 dX10_nightOf_9 rfl q2227 mv_X10_asTold (mg_0 hm) rfl rfl (m_asTold hm hp4) rfl rfl (Nat.le_of_ble_eq_true rfl) (Nat.le_of_ble_eq_true rfl) ?_
  refine wp_aload_0 dX10_nightOf_12 rfl ?_
  refine wp_cvE dX10_nightOf_13 rfl q2243 mv_X10_run (mg_0 hm) rfl rfl (m_run hm ((atS_KX p S1).gs (by decide) (by decide) hg1) (P := tpW (wd S1) p) (atS_PS (by rw [hw1]; exact (hpl p hp).2.2.2.1.1)) (by rw [hw1]; exact hkn) hp4 rfl (by show ¬ wd S1 0 = 0; rw [hw1]; exact h0)) rfl rfl (Nat.le_of_ble_eq_true rfl) (Nat.le_of_ble_eq_true rfl) (fun h1 hq => ?_)
  obtain ⟨S2, rfl, hk2, hr2⟩ := hq
  refine wp_aload_0 dX10_nightOf_16 rfl ?_
  refine wp_getf dX10_nightOf_17 rfl q1860 fk10_29 (mg_0 hm) rfl ?_
  exact wp_ireturn dX10_nightOf_20 rfl (by
  have e : wd (atS p S1) = wd S := hw1
  rw [e, hw1] at hr2
  exact ⟨by rw [hr2.2.2.1]; rfl, S2, rfl, (hk1.KP.tr ((atS_KX p S1).KP (by decide) (by decide))).tr (hk2.KP (by decide) (by decide))⟩)
theorem q_m_night {g : GW} {M : Nat} {pre post : AH} {S : SM} (hm : pre.length = M) {x w z : Int32} (hs : WFs (wd S)) (hpl : WFp (wd S)) : SP g 7 0 0 yX10_night cX10_night 4 (some .int) [.ref M, .int x, .int w, .int z] (mH M pre S post) (QM M pre post S (.int (qnight (wd S) x w z))) := by
  refine SP.intro [some (.ref M), some (.int x), some (.int w), some (.int z)] (pfn (by decide)) rfl (Nat.le_of_ble_eq_true rfl) ?_
  refine wp_iload_1 dX10_night_0 rfl ?_
  refine wp_csR dX10_night_1 rfl q2601 ms_X10_isSeed m_isSeed rfl rfl (Nat.le_of_ble_eq_true rfl) (Nat.le_of_ble_eq_true rfl) ?_
  refine wp_ifeq_b 33 dX10_night_4 rfl rfl (fun c4 => ?_) (fun c4 => ?_)
  · refine wp_bipush (-2) dX10_night_33 rfl rfl ?_
    exact wp_ireturn dX10_night_35 rfl ⟨by rw [qnight, if_neg (by simp [*])], S, rfl, KP.rf S⟩
  · refine wp_iload_2 dX10_night_7 rfl ?_
    refine wp_csR dX10_night_8 rfl q2380 ms_X10_isLaw m_isLaw rfl rfl (Nat.le_of_ble_eq_true rfl) (Nat.le_of_ble_eq_true rfl) ?_
    refine wp_ifeq_b 33 dX10_night_11 rfl rfl (fun c11 => ?_) (fun c11 => ?_)
    · refine wp_bipush (-2) dX10_night_33 rfl rfl ?_
      exact wp_ireturn dX10_night_35 rfl ⟨by rw [qnight, if_neg (by simp [*])], S, rfl, KP.rf S⟩
    · refine wp_aload_0 dX10_night_14 rfl ?_
      refine wp_iload_3 dX10_night_15 rfl ?_
      refine wp_cvR dX10_night_16 rfl q2129 mv_X10_isPlayer (mg_0 hm) rfl rfl (m_isPlayer hm) rfl rfl (Nat.le_of_ble_eq_true rfl) (Nat.le_of_ble_eq_true rfl) ?_
      refine wp_ifeq_b 33 dX10_night_19 rfl rfl (fun c19 => ?_) (fun c19 => ?_)
      · refine wp_bipush (-2) dX10_night_33 rfl rfl ?_
        exact wp_ireturn dX10_night_35 rfl ⟨by rw [qnight, if_neg (by simp [*])], S, rfl, KP.rf S⟩
      · obtain ⟨p, hp, rfl⟩ := plW_of hs c19
        refine wp_aload_0 dX10_night_22 rfl ?_
        refine wp_iload_1 dX10_night_23 rfl ?_
        refine wp_i2l dX10_night_24 rfl ?_
        refine wp_iload_2 dX10_night_25 rfl ?_
        refine wp_iload_3 dX10_night_26 rfl ?_
        refine wp_cvEi dX10_night_27 rfl q2625 mv_X10_nightOf (mg_0 hm) rfl rfl (m_nightOf hm hp hs hpl) rfl rfl (Nat.le_of_ble_eq_true rfl) (Nat.le_of_ble_eq_true rfl) (fun h1 hq => ?_)
        obtain ⟨S1, rfl, hk1⟩ := hq
        refine wp_goto 35 dX10_night_30 rfl rfl ?_
        exact wp_ireturn dX10_night_35 rfl ⟨by rw [qnight, if_pos ⟨c4, c11, c19⟩, nI_clamp (show p < 2147483648 by have := hs.np.2; omega)], S1, rfl, hk1⟩
theorem mL_years {g : GW} {M : Nat} {pre post : AH} (hm : pre.length = M) {S0 : SM} {Wd : Nat → Int32} (hw0 : wd S0 = Wd) {x law : Int32} {n2 p : Nat} (n20 : n2 ≤ 20) (hp : p < nW Wd 6) (hs : WFs Wd) (hpl : WFp Wd) {c n : Nat} {Q : Option Value → AH → Prop} : ∀ (k : Nat) (S : SM) (i : Nat) (a : Int32), i + k = n2 → KP S0 S → (∀ S', KP S0 S' → Q (some (.int (itr (yeF Wd law p x) k i a))) (mH M pre S' post)) → WP g 7 yX10_years cX10_years 7 (some .int) 44 [some (.ref M), some (.int x), some (.int (nI n2)), some (.int law), some (.int (nI p)), some (.int a), some (.int (nI i))] [] (mH M pre S post) c n Q := by
  intro k
  induction k with
  | zero =>
    intro S i a hi kp hq
    have hw : wd S = Wd := kp.wd.trans hw0
    refine wp_iload_6 dX10_years_44 rfl ?_
    refine wp_iload_2 dX10_years_46 rfl ?_
    refine wp_icmp_ge 74 dX10_years_47 rfl rfl (fun c47 => ?_) (fun c47 => ?_)
    · refine wp_iload_5 dX10_years_74 rfl ?_
      exact wp_ireturn dX10_years_76 rfl (hq S kp)
    · exact absurd (nI_le (show n2 ≤ i by omega) (by omega)) c47
  | succ k ih =>
    intro S i a hi kp hq
    have hw : wd S = Wd := kp.wd.trans hw0
    refine wp_iload_6 dX10_years_44 rfl ?_
    refine wp_iload_2 dX10_years_46 rfl ?_
    refine wp_icmp_ge 74 dX10_years_47 rfl rfl (fun c47 => ?_) (fun c47 => ?_)
    · exact absurd c47 (nI_ge (by omega) (by omega))
    · refine wp_iload_5 dX10_years_50 rfl ?_
      refine wp_aload_0 dX10_years_52 rfl ?_
      refine wp_iload_1 dX10_years_53 rfl ?_
      refine wp_i2l dX10_years_54 rfl ?_
      refine wp_iload_6 dX10_years_55 rfl ?_
      refine wp_i2l dX10_years_57 rfl ?_
      refine wp_ladd dX10_years_58 rfl ?_
      refine wp_iload_3 dX10_years_59 rfl ?_
      refine wp_iload_4 dX10_years_60 rfl ?_
      refine wp_cvEi dX10_years_62 rfl q2625 mv_X10_nightOf (mg_0 hm) rfl rfl (m_nightOf hm (hw.symm ▸ hp) (hw.symm ▸ hs) (hw.symm ▸ hpl)) rfl rfl (Nat.le_of_ble_eq_true rfl) (Nat.le_of_ble_eq_true rfl) (fun h1 hq => ?_)
      obtain ⟨S1, rfl, hk1⟩ := hq
      rw [hw]
      refine wp_iadd dX10_years_65 rfl ?_
      refine wp_istore_5 dX10_years_66 rfl (by decide) rfl ?_
      refine wp_iinc_6 1 dX10_years_68 rfl rfl (by decide) rfl ?_
      refine wp_goto 44 dX10_years_71 rfl rfl ?_
      exact WP.cast (by rw [nI_1]; rfl) (ih S1 (i + 1) (yeF Wd law p x i a) (by omega) (kp.tr hk1) hq)
theorem in120_of {x : Int32} (h : inL x.toInt64 1 20 = true) : ∃ j : Nat, j ≤ 20 ∧ x = nI j := by
  have h : inI x 1 20 = true := by rw [← inL_i]; exact h
  unfold inI at h
  rw [Bool.and_eq_true, decide_eq_true_eq, decide_eq_true_eq] at h
  obtain ⟨j, hj, rfl⟩ := nI_of (Int32.not_lt.mpr (Int32.le_trans (by decide) h.1))
  exact ⟨j, (nI_leI (b := 20) hj (by omega)).mp h.2, rfl⟩
theorem q_m_years {g : GW} {M : Nat} {pre post : AH} {S : SM} (hm : pre.length = M) {x y w z : Int32} (hs : WFs (wd S)) (hpl : WFp (wd S)) : SP g 7 0 0 yX10_years cX10_years 7 (some .int) [.ref M, .int x, .int y, .int w, .int z] (mH M pre S post) (QM M pre post S (.int (qyears (wd S) x y w z))) := by
  refine SP.intro [some (.ref M), some (.int x), some (.int y), some (.int w), some (.int z), none, none] (pfn (by decide)) rfl (Nat.le_of_ble_eq_true rfl) ?_
  refine wp_iload_1 dX10_years_0 rfl ?_
  refine wp_csR dX10_years_1 rfl q2601 ms_X10_isSeed m_isSeed rfl rfl (Nat.le_of_ble_eq_true rfl) (Nat.le_of_ble_eq_true rfl) ?_
  refine wp_ifeq_b 35 dX10_years_4 rfl rfl (fun c4 => ?_) (fun c4 => ?_)
  · refine wp_bipush (-2) dX10_years_35 rfl rfl ?_
    exact wp_ireturn dX10_years_37 rfl ⟨by rw [qyears, if_neg (by simp [*])], S, rfl, KP.rf S⟩
  · refine wp_iload_2 dX10_years_7 rfl ?_
    refine wp_i2l dX10_years_8 rfl ?_
    refine wp_lconst 1 dX10_years_9 rfl rfl ?_
    refine wp_ldc2_w dX10_years_10 rfl q2491 ?_
    refine wp_csR dX10_years_13 rfl q1979 ms_X10_in m_in rfl rfl (Nat.le_of_ble_eq_true rfl) (Nat.le_of_ble_eq_true rfl) ?_
    refine wp_ifeq_b 35 dX10_years_16 rfl rfl (fun c16 => ?_) (fun c16 => ?_)
    · refine wp_bipush (-2) dX10_years_35 rfl rfl ?_
      exact wp_ireturn dX10_years_37 rfl ⟨by rw [qyears, if_neg (by simp [*])], S, rfl, KP.rf S⟩
    · obtain ⟨n2, n20, rfl⟩ := in120_of c16
      refine wp_iload_3 dX10_years_19 rfl ?_
      refine wp_csR dX10_years_20 rfl q2380 ms_X10_isLaw m_isLaw rfl rfl (Nat.le_of_ble_eq_true rfl) (Nat.le_of_ble_eq_true rfl) ?_
      refine wp_ifeq_b 35 dX10_years_23 rfl rfl (fun c23 => ?_) (fun c23 => ?_)
      · refine wp_bipush (-2) dX10_years_35 rfl rfl ?_
        exact wp_ireturn dX10_years_37 rfl ⟨by rw [qyears, if_neg (by simp [*])], S, rfl, KP.rf S⟩
      · refine wp_aload_0 dX10_years_26 rfl ?_
        refine wp_iload_4 dX10_years_27 rfl ?_
        refine wp_cvR dX10_years_29 rfl q2129 mv_X10_isPlayer (mg_0 hm) rfl rfl (m_isPlayer hm) rfl rfl (Nat.le_of_ble_eq_true rfl) (Nat.le_of_ble_eq_true rfl) ?_
        refine wp_ifne_b 38 dX10_years_32 rfl rfl (fun c32 => ?_) (fun c32 => ?_)
        · obtain ⟨p, hp, rfl⟩ := plW_of hs c32
          refine wp_iconst 0 dX10_years_38 rfl rfl ?_
          refine wp_istore_5 dX10_years_39 rfl (by decide) rfl ?_
          refine wp_iconst 0 dX10_years_41 rfl rfl ?_
          refine wp_istore_6 dX10_years_42 rfl (by decide) rfl ?_
          exact mL_years hm rfl n20 hp hs hpl n2 S 0 0 (Nat.zero_add _) (KP.rf S) (fun S2 k2 => ⟨by rw [qyears, if_pos ⟨c4, c16, c23, c32⟩, nI_clamp (show n2 < 2147483648 by omega), nI_clamp (show p < 2147483648 by have := hs.np.2; omega)], S2, rfl, k2⟩)
        · refine wp_bipush (-2) dX10_years_35 rfl rfl ?_
          exact wp_ireturn dX10_years_37 rfl ⟨by rw [qyears, if_neg (by simp [*])], S, rfl, KP.rf S⟩
