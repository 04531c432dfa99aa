/-! ===== the reference: blows ===== -/
set_option maxRecDepth 100000
theorem mL_asksBlows {g : GW} {M : Nat} {pre post : AH} {S : SM} (hm : pre.length = M) {s m : Nat} (h4 : s < 4) (hmy : S.2.1 19 s = nI m) (m60 : m ≤ 60) {q : Nat} (hq2 : m = 2 * q) {c n : Nat} {Q : Option Value → AH → Prop} : ∀ (k : Nat) (j : Nat), j + k = q → Q (some (.int (if alK (abP (wd S) (S.2.2.1 21) s) k j = true then 0 else -2))) (mH M pre S post) → WP g 3 yX10_asksBlows cX10_asksBlows 3 (some .int) 46 [some (.ref M), some (.int (nI s)), some (.int (nI (2 * j)))] [] (mH M pre S post) c n Q := by
  intro k
  induction k with
  | zero =>
    intro j hi hq
    refine wp_iload_2 dX10_asksBlows_46 rfl ?_
    refine wp_aload_0 dX10_asksBlows_47 rfl ?_
    refine wp_getf dX10_asksBlows_48 rfl q1874 fk10_43 (mg_0 hm) rfl ?_
    refine wp_iload_1 dX10_asksBlows_51 rfl ?_
    refine wp_ialoadn s dX10_asksBlows_52 rfl (mg_19 hm) rfl (by omega) (by decide) ?_
    refine wp_icmp_ge 93 dX10_asksBlows_53 rfl rfl (fun c53 => ?_) (fun c53 => ?_)
    · refine wp_iconst 0 dX10_asksBlows_93 rfl rfl ?_
      exact wp_ireturn dX10_asksBlows_94 rfl hq
    · exact absurd (show S.2.1 19 s ≤ nI (2 * j) by rw [hmy]; exact nI_le (by omega) (by omega)) c53
  | succ k ih =>
    intro j hi hq
    refine wp_iload_2 dX10_asksBlows_46 rfl ?_
    refine wp_aload_0 dX10_asksBlows_47 rfl ?_
    refine wp_getf dX10_asksBlows_48 rfl q1874 fk10_43 (mg_0 hm) rfl ?_
    refine wp_iload_1 dX10_asksBlows_51 rfl ?_
    refine wp_ialoadn s dX10_asksBlows_52 rfl (mg_19 hm) rfl (by omega) (by decide) ?_
    refine wp_icmp_ge 93 dX10_asksBlows_53 rfl rfl (fun c53 => ?_) (fun c53 => ?_)
    · exact absurd c53 (show ¬ (S.2.1 19 s ≤ nI (2 * j)) by rw [hmy]; exact nI_ge (by omega) (by omega))
    · refine wp_aload_0 dX10_asksBlows_56 rfl ?_
      refine wp_aload_0 dX10_asksBlows_57 rfl ?_
      refine wp_iload_1 dX10_asksBlows_58 rfl ?_
      refine wp_iload_2 dX10_asksBlows_59 rfl ?_
      refine wp_cvR dX10_asksBlows_60 rfl q2426 mv_X10_numberAt (mg_0 hm) rfl rfl (m_numberAt (i := 2 * j) hm h4 (by omega)) rfl rfl (Nat.le_of_ble_eq_true rfl) (Nat.le_of_ble_eq_true rfl) ?_
      refine wp_cvR dX10_asksBlows_63 rfl q2202 mv_X10_isHole (mg_0 hm) rfl rfl (m_isHole hm) rfl rfl (Nat.le_of_ble_eq_true rfl) (Nat.le_of_ble_eq_true rfl) ?_
      refine wp_ifeq_b 84 dX10_asksBlows_66 rfl rfl (fun c66 => ?_) (fun c66 => ?_)
      · refine wp_bipush (-2) dX10_asksBlows_84 rfl rfl ?_
        exact wp_ireturn dX10_asksBlows_86 rfl (by rw [al_f (by unfold abP; first | (rw [c66]; rfl) | (rw [c81]; simp))] at hq; exact hq)
      · refine wp_aload_0 dX10_asksBlows_69 rfl ?_
        refine wp_aload_0 dX10_asksBlows_70 rfl ?_
        refine wp_iload_1 dX10_asksBlows_71 rfl ?_
        refine wp_iload_2 dX10_asksBlows_72 rfl ?_
        refine wp_iconst 1 dX10_asksBlows_73 rfl rfl ?_
        refine wp_iadd dX10_asksBlows_74 rfl ?_
        rw [nI_1]
        refine wp_cvR dX10_asksBlows_75 rfl q2426 mv_X10_numberAt (mg_0 hm) rfl rfl (m_numberAt (i := 2 * j + 1) hm h4 (by omega)) rfl rfl (Nat.le_of_ble_eq_true rfl) (Nat.le_of_ble_eq_true rfl) ?_
        refine wp_cvR dX10_asksBlows_78 rfl q2142 mv_X10_isTick (mg_0 hm) rfl rfl (m_isTick hm) rfl rfl (Nat.le_of_ble_eq_true rfl) (Nat.le_of_ble_eq_true rfl) ?_
        refine wp_ifne_b 87 dX10_asksBlows_81 rfl rfl (fun c81 => ?_) (fun c81 => ?_)
        · refine wp_iinc_2 2 dX10_asksBlows_87 rfl rfl (by decide) rfl ?_
          refine wp_goto 46 dX10_asksBlows_90 rfl rfl ?_
          exact WP.cast (by rw [(show nI (2 * (j + 1)) = nI (2 * j) + 2 by rw [show (2 : Int32) = nI 2 from rfl, nI_add]; rfl)]) (ih (j + 1) (by omega) (by rw [al_t (by unfold abP; rw [c66, c81]; rfl)] at hq; exact hq))
        · refine wp_bipush (-2) dX10_asksBlows_84 rfl rfl ?_
          exact wp_ireturn dX10_asksBlows_86 rfl (by rw [al_f (by unfold abP; first | (rw [c66]; rfl) | (rw [c81]; simp))] at hq; exact hq)
theorem m_asksBlows {g : GW} {M : Nat} {pre post : AH} {S : SM} (hm : pre.length = M) {x : Int32} (hwm : WFm (S.2.1 19)) : SPx g 3 0 0 yX10_asksBlows cX10_asksBlows 3 (some .int) [.ref M, .int x] (mH M pre S post) (some (.int (abV (wd S) (S.2.1 19) (S.2.2.1 21) x))) (mH M pre S post) := by
  refine SPx.intro [some (.ref M), some (.int x), none] (pfn (by decide)) rfl (Nat.le_of_ble_eq_true rfl) ?_
  refine wp_iload_1 dX10_asksBlows_0 rfl ?_
  refine wp_csR dX10_asksBlows_1 rfl q2423 ms_X10_isSlot m_isSlot rfl rfl (Nat.le_of_ble_eq_true rfl) (Nat.le_of_ble_eq_true rfl) ?_
  refine wp_ifeq_b 14 dX10_asksBlows_4 rfl rfl (fun c4 => ?_) (fun c4 => ?_)
  · refine wp_bipush (-2) dX10_asksBlows_14 rfl rfl ?_
    exact wp_ireturn dX10_asksBlows_16 rfl ⟨by rw [abV, if_neg (by simp [*])], rfl⟩
  · refine wp_aload_0 dX10_asksBlows_7 rfl ?_
    refine wp_cvR dX10_asksBlows_8 rfl q2154 mv_X10_isBoard (mg_0 hm) rfl rfl (m_isBoard hm) rfl rfl (Nat.le_of_ble_eq_true rfl) (Nat.le_of_ble_eq_true rfl) ?_
    refine wp_ifne_b 17 dX10_asksBlows_11 rfl rfl (fun c11 => ?_) (fun c11 => ?_)
    · obtain ⟨s, h4, rfl⟩ := la_of c4
      refine wp_aload_0 dX10_asksBlows_17 rfl ?_
      refine wp_getf dX10_asksBlows_18 rfl q1874 fk10_43 (mg_0 hm) rfl ?_
      refine wp_iload_1 dX10_asksBlows_21 rfl ?_
      refine wp_ialoadn s dX10_asksBlows_22 rfl (mg_19 hm) rfl h4 (by decide) ?_
      refine wp_iconst (-1) dX10_asksBlows_23 rfl rfl ?_
      refine wp_icmp_ne 30 dX10_asksBlows_24 rfl rfl (fun c24 => ?_) (fun c24 => ?_)
      · have hmy : S.2.1 19 s = nI (mN (S.2.1 19) s) ∧ mN (S.2.1 19) s ≤ 60 := (hwm s h4).resolve_left c24
        refine wp_aload_0 dX10_asksBlows_30 rfl ?_
        refine wp_getf dX10_asksBlows_31 rfl q1874 fk10_43 (mg_0 hm) rfl ?_
        refine wp_iload_1 dX10_asksBlows_34 rfl ?_
        refine wp_ialoadn s dX10_asksBlows_35 rfl (mg_19 hm) rfl h4 (by decide) ?_
        refine wp_iconst 2 dX10_asksBlows_36 rfl rfl ?_
        refine wp_irem dX10_asksBlows_37 rfl (by decide) ?_
        refine wp_if_eq 44 dX10_asksBlows_38 rfl rfl (fun c38 => ?_) (fun c38 => ?_)
        · obtain ⟨q, hq2⟩ := ev_of hmy.1 hmy.2 c38
          refine wp_iconst 0 dX10_asksBlows_44 rfl rfl ?_
          refine wp_istore_2 dX10_asksBlows_45 rfl (by decide) rfl ?_
          refine mL_asksBlows hm h4 hmy.1 hmy.2 hq2 q 0 (Nat.zero_add _) ⟨?_, rfl⟩
          rw [abV, if_pos (show laL (nI s) = true ∧ bdW (wd S) = true from ⟨c4, c11⟩), nI_clamp (by omega), if_neg c24, if_pos (show rm32 (S.2.1 19 s) 2 = 0 from c38), show mN (S.2.1 19) s / 2 = q by omega]
        · refine wp_bipush (-2) dX10_asksBlows_41 rfl rfl ?_
          exact wp_ireturn dX10_asksBlows_43 rfl ⟨by rw [abV, if_pos (show laL (nI s) = true ∧ bdW (wd S) = true from ⟨c4, c11⟩), nI_clamp (by omega), if_neg c24, if_neg (show ¬ rm32 (S.2.1 19 s) 2 = 0 from c38)], rfl⟩
      · refine wp_bipush (-6) dX10_asksBlows_27 rfl rfl ?_
        exact wp_ireturn dX10_asksBlows_29 rfl ⟨by rw [abV, if_pos (show laL (nI s) = true ∧ bdW (wd S) = true from ⟨c4, c11⟩), nI_clamp (by omega), if_pos c24], rfl⟩
    · refine wp_bipush (-2) dX10_asksBlows_14 rfl rfl ?_
      exact wp_ireturn dX10_asksBlows_16 rfl ⟨by rw [abV, if_neg (by simp [*])], rfl⟩
theorem mL_strike {g : GW} {M : Nat} {pre post : AH} {S : SM} (hm : pre.length = M) {G : GA} {t : BT} {x z lag : Int32} (hg : GS S G) (hb : BS S t G.1) {c n : Nat} {Q : Option Value → AH → Prop} : ∀ (k : Nat) (i : Nat) (v5 : Option Value), i + k = G.1 → (∀ S', KX [39, 40, 41] [18] S S' → BS S' (skK G.2 x z lag k i t) G.1 → Q none (mH M pre S' post)) → WP g 2 yX10_strike cX10_strike 6 none 3 [some (.ref M), some (.int x), some (.int z), some (.int lag), some (.int (nI i)), v5] [] (mH M pre S post) c n Q := by
  intro k
  induction k with
  | zero =>
    intro i v5 hi hq
    refine wp_iload_4 dX10_strike_3 rfl ?_
    refine wp_aload_0 dX10_strike_5 rfl ?_
    refine wp_getf dX10_strike_6 rfl q1849 fk10_18 (mg_0 hm) rfl ?_
    refine wp_icmp_ge 170 dX10_strike_9 rfl rfl (fun c9 => ?_) (fun c9 => ?_)
    · exact wp_return dX10_strike_170 rfl (hq S (KX.rf _ _ S) hb)
    · exact absurd (show S.1 18 ≤ nI i by rw [hg.1]; exact nI_le (by omega) (by have := hg.2.1; omega)) c9
  | succ k ih =>
    intro i v5 hi hq
    refine wp_iload_4 dX10_strike_3 rfl ?_
    refine wp_aload_0 dX10_strike_5 rfl ?_
    refine wp_getf dX10_strike_6 rfl q1849 fk10_18 (mg_0 hm) rfl ?_
    refine wp_icmp_ge 170 dX10_strike_9 rfl rfl (fun c9 => ?_) (fun c9 => ?_)
    · exact absurd c9 (show ¬ (S.1 18 ≤ nI i) by rw [hg.1]; exact nI_ge (by omega) (by have := hg.2.1; omega))
    · have hi : i < G.1 := by omega
      have hi60 : i < 60 := Nat.lt_of_lt_of_le hi hg.2.1
      refine wp_aload_0 dX10_strike_12 rfl ?_
      refine wp_iload_4 dX10_strike_13 rfl ?_
      refine wp_iconst 0 dX10_strike_15 rfl rfl ?_
      refine wp_cvR dX10_strike_16 rfl q2182 mv_X10_inGame (mg_0 hm) rfl rfl (m_inGame (w := 0) hm hi60 (by omega)) rfl rfl (Nat.le_of_ble_eq_true rfl) (Nat.le_of_ble_eq_true rfl) ?_
      rw [show S.2.1 7 (3 * i + 0) = gH G.2 i from hg.at (w := 0) hi (by omega)]
      refine wp_iload_1 dX10_strike_19 rfl ?_
      refine wp_icmp_ne 27 dX10_strike_20 rfl rfl (fun c20 => ?_) (fun c20 => ?_)
      · refine wp_aload_0 dX10_strike_27 rfl ?_
        refine wp_iload_4 dX10_strike_28 rfl ?_
        refine wp_iconst 1 dX10_strike_30 rfl rfl ?_
        refine wp_cvR dX10_strike_31 rfl q2182 mv_X10_inGame (mg_0 hm) rfl rfl (m_inGame (w := 1) hm hi60 (by omega)) rfl rfl (Nat.le_of_ble_eq_true rfl) (Nat.le_of_ble_eq_true rfl) ?_
        rw [show S.2.1 7 (3 * i + 1) = gO G.2 i from hg.at (w := 1) hi (by omega)]
        refine wp_iload_1 dX10_strike_34 rfl ?_
        refine wp_icmp_ne 42 dX10_strike_35 rfl rfl (fun c35 => ?_) (fun c35 => ?_)
        · have hsd : sideB G.2 i x = 0 := by rw [sideB, if_neg c20, if_neg c35]
          refine wp_iconst 0 dX10_strike_42 rfl rfl ?_
          refine wp_istore_5 dX10_strike_43 rfl (by decide) rfl ?_
          refine wp_iload_5 dX10_strike_45 rfl ?_
          refine wp_if_eq 164 dX10_strike_47 rfl rfl (fun c47 => ?_) (fun c47 => ?_)
          · refine wp_iinc_4 1 dX10_strike_164 rfl rfl (by decide) rfl ?_
            refine wp_goto 3 dX10_strike_167 rfl rfl ?_
            have hmi : misB G.2 x z i t = true := by unfold misB; rw [hsd]; first | (rw [c71]; simp; done) | (rw [decide_eq_false c84]; simp; done) | rfl | simp
            exact WP.cast (by rw [nI_1, hsd]) (ih (i + 1) (some (.int (sideB G.2 i x))) (by omega) (fun S2 k2 b2 => hq S2 k2 (by rw [sk_m hmi]; exact b2)))
          · exact absurd (by decide) c47
        · have hsd : sideB G.2 i x = 2 := by rw [sideB, if_neg c20, if_pos c35]
          refine wp_iconst 2 dX10_strike_38 rfl rfl ?_
          refine wp_goto 43 dX10_strike_39 rfl rfl ?_
          refine wp_istore_5 dX10_strike_43 rfl (by decide) rfl ?_
          refine wp_iload_5 dX10_strike_45 rfl ?_
          refine wp_if_eq 164 dX10_strike_47 rfl rfl (fun c47 => ?_) (fun c47 => ?_)
          · exact absurd c47 (by decide)
          · refine wp_iload_2 dX10_strike_50 rfl ?_
            refine wp_i2l dX10_strike_51 rfl ?_
            refine wp_aload_0 dX10_strike_52 rfl ?_
            refine wp_getf dX10_strike_53 rfl q1847 fk10_16 (mg_0 hm) rfl ?_
            refine wp_iload_4 dX10_strike_56 rfl ?_
            refine wp_ialoadn i dX10_strike_58 rfl (mg_8 hm) rfl hi60 (by decide) ?_
            rw [show S.2.1 8 i = gF G.2 i from hg.f hi]
            refine wp_i2l dX10_strike_59 rfl ?_
            refine wp_aload_0 dX10_strike_60 rfl ?_
            refine wp_getf dX10_strike_61 rfl q1848 fk10_17 (mg_0 hm) rfl ?_
            refine wp_iload_4 dX10_strike_64 rfl ?_
            refine wp_ialoadn i dX10_strike_66 rfl (mg_9 hm) rfl hi60 (by decide) ?_
            rw [show S.2.1 9 i = gE G.2 i from hg.e hi]
            refine wp_i2l dX10_strike_67 rfl ?_
            refine wp_csR dX10_strike_68 rfl q1979 ms_X10_in m_in rfl rfl (Nat.le_of_ble_eq_true rfl) (Nat.le_of_ble_eq_true rfl) ?_
            refine wp_ifeq_b 164 dX10_strike_71 rfl rfl (fun c71 => ?_) (fun c71 => ?_)
            · refine wp_iinc_4 1 dX10_strike_164 rfl rfl (by decide) rfl ?_
              refine wp_goto 3 dX10_strike_167 rfl rfl ?_
              have hmi : misB G.2 x z i t = true := by unfold misB; rw [hsd]; first | (rw [c71]; simp; done) | (rw [decide_eq_false c84]; simp; done) | rfl | simp
              exact WP.cast (by rw [nI_1, hsd]) (ih (i + 1) (some (.int (sideB G.2 i x))) (by omega) (fun S2 k2 b2 => hq S2 k2 (by rw [sk_m hmi]; exact b2)))
            · refine wp_aload_0 dX10_strike_74 rfl ?_
              refine wp_getf dX10_strike_75 rfl q1869 fk10_38 (mg_0 hm) rfl ?_
              refine wp_iload_4 dX10_strike_78 rfl ?_
              refine wp_ialoadn i dX10_strike_80 rfl (mg_18 hm) rfl hi60 (by decide) ?_
              rw [show S.2.1 18 i = t.2 i from hb.2.2.2 i hi]
              refine wp_iload_5 dX10_strike_81 rfl ?_
              refine wp_iand dX10_strike_83 rfl ?_
              refine wp_if_eq 90 dX10_strike_84 rfl rfl (fun c84 => ?_) (fun c84 => ?_)
              · have hmi : misB G.2 x z i t = false := by unfold misB; rw [hsd, c71, decide_eq_true c84]; rfl
                refine wp_aload_0 dX10_strike_90 rfl ?_
                refine wp_getf dX10_strike_91 rfl q1869 fk10_38 (mg_0 hm) rfl ?_
                refine wp_iload_4 dX10_strike_94 rfl ?_
                refine wp_dup2 dX10_strike_96 rfl rfl rfl ?_
                refine wp_ialoadn i dX10_strike_97 rfl (mg_18 hm) rfl hi60 (by decide) ?_
                refine wp_iload_5 dX10_strike_98 rfl ?_
                refine wp_ior dX10_strike_100 rfl ?_
                refine wp_iastoren i dX10_strike_101 rfl (mg_18 hm) rfl hi60 (by decide) (ms_A18 hm) ?_
                refine wp_aload_0 dX10_strike_102 rfl ?_
                refine wp_dup dX10_strike_103 rfl rfl ?_
                refine wp_getf dX10_strike_104 rfl q1870 fk10_39 (mg_0 hm) rfl ?_
                refine wp_iconst 1 dX10_strike_107 rfl rfl ?_
                refine wp_aload_0 dX10_strike_108 rfl ?_
                refine wp_iload_4 dX10_strike_109 rfl ?_
                refine wp_iconst 2 dX10_strike_111 rfl rfl ?_
                refine wp_cvR dX10_strike_112 rfl q2182 mv_X10_inGame (mg_0 hm) rfl rfl (m_inGame (w := 2) hm hi60 (by omega)) rfl rfl (Nat.le_of_ble_eq_true rfl) (Nat.le_of_ble_eq_true rfl) ?_
                refine wp_isub dX10_strike_115 rfl ?_
                refine wp_iadd dX10_strike_116 rfl ?_
                refine wp_putf dX10_strike_117 rfl q1870 fp10_39 (mg_0 hm) rfl rfl (Nat.le_of_ble_eq_true rfl) (ms_F39 hm) ?_
                refine wp_aload_0 dX10_strike_120 rfl ?_
                refine wp_dup dX10_strike_121 rfl rfl ?_
                refine wp_getf dX10_strike_122 rfl q1871 fk10_40 (mg_0 hm) rfl ?_
                refine wp_aload_0 dX10_strike_125 rfl ?_
                refine wp_iload_4 dX10_strike_126 rfl ?_
                refine wp_iconst 2 dX10_strike_128 rfl rfl ?_
                refine wp_cvR dX10_strike_129 rfl q2182 mv_X10_inGame (mg_0 hm) rfl rfl (m_inGame (w := 2) hm hi60 (by omega)) rfl rfl (Nat.le_of_ble_eq_true rfl) (Nat.le_of_ble_eq_true rfl) ?_
                refine wp_iadd dX10_strike_132 rfl ?_
                refine wp_putf dX10_strike_133 rfl q1871 fp10_40 (mg_0 hm) rfl rfl (Nat.le_of_ble_eq_true rfl) (ms_F40 hm) ?_
                refine wp_aload_0 dX10_strike_136 rfl ?_
                refine wp_dup dX10_strike_137 rfl rfl ?_
                refine wp_getf dX10_strike_138 rfl q1872 fk10_41 (mg_0 hm) rfl ?_
                refine wp_iload_2 dX10_strike_141 rfl ?_
                refine wp_aload_0 dX10_strike_142 rfl ?_
                refine wp_getf dX10_strike_143 rfl q1847 fk10_16 (mg_0 hm) rfl ?_
                refine wp_iload_4 dX10_strike_146 rfl ?_
                refine wp_ialoadn i dX10_strike_148 rfl (mg_8 hm) rfl hi60 (by decide) ?_
                refine wp_isub dX10_strike_149 rfl ?_
                refine wp_iload_3 dX10_strike_150 rfl ?_
                refine wp_icmp_ge 158 dX10_strike_151 rfl rfl (fun c151 => ?_) (fun c151 => ?_)
                · have c151 : lag ≤ z - gF G.2 i := by rw [← show S.2.1 8 i = gF G.2 i from hg.f hi]; exact c151
                  have hE : (if z - gF G.2 i < lag then (1 : Int32) else 0) = 0 := if_neg (Int32.not_lt.mpr c151)
                  refine wp_iconst 0 dX10_strike_158 rfl rfl ?_
                  refine wp_iadd dX10_strike_159 rfl ?_
                  refine wp_putf dX10_strike_160 rfl q1872 fp10_41 (mg_0 hm) rfl rfl (Nat.le_of_ble_eq_true rfl) (ms_F41 hm) ?_
                  have hr := hq (hitS i (sideB G.2 i x) (if z - gF G.2 i < lag then 1 else 0) S) (hitS_KX _ _ _ S) (by rw [sk_h hmi]; exact hitS_BS hg hb hi)
                  rw [hsd, hE] at hr
                  exact wp_return dX10_strike_163 rfl hr
                · have c151 : ¬ lag ≤ z - gF G.2 i := by rw [← show S.2.1 8 i = gF G.2 i from hg.f hi]; exact c151
                  have hE : (if z - gF G.2 i < lag then (1 : Int32) else 0) = 1 := if_pos (Int32.not_le.mp c151)
                  refine wp_iconst 1 dX10_strike_154 rfl rfl ?_
                  refine wp_goto 159 dX10_strike_155 rfl rfl ?_
                  refine wp_iadd dX10_strike_159 rfl ?_
                  refine wp_putf dX10_strike_160 rfl q1872 fp10_41 (mg_0 hm) rfl rfl (Nat.le_of_ble_eq_true rfl) (ms_F41 hm) ?_
                  have hr := hq (hitS i (sideB G.2 i x) (if z - gF G.2 i < lag then 1 else 0) S) (hitS_KX _ _ _ S) (by rw [sk_h hmi]; exact hitS_BS hg hb hi)
                  rw [hsd, hE] at hr
                  exact wp_return dX10_strike_163 rfl hr
              · refine wp_goto 164 dX10_strike_87 rfl rfl ?_
                refine wp_iinc_4 1 dX10_strike_164 rfl rfl (by decide) rfl ?_
                refine wp_goto 3 dX10_strike_167 rfl rfl ?_
                have hmi : misB G.2 x z i t = true := by unfold misB; rw [hsd]; first | (rw [c71]; simp; done) | (rw [decide_eq_false c84]; simp; done) | rfl | simp
                exact WP.cast (by rw [nI_1, hsd]) (ih (i + 1) (some (.int (sideB G.2 i x))) (by omega) (fun S2 k2 b2 => hq S2 k2 (by rw [sk_m hmi]; exact b2)))
      · have hsd : sideB G.2 i x = 1 := if_pos c20
        refine wp_iconst 1 dX10_strike_23 rfl rfl ?_
        refine wp_goto 43 dX10_strike_24 rfl rfl ?_
        refine wp_istore_5 dX10_strike_43 rfl (by decide) rfl ?_
        refine wp_iload_5 dX10_strike_45 rfl ?_
        refine wp_if_eq 164 dX10_strike_47 rfl rfl (fun c47 => ?_) (fun c47 => ?_)
        · exact absurd c47 (by decide)
        · refine wp_iload_2 dX10_strike_50 rfl ?_
          refine wp_i2l dX10_strike_51 rfl ?_
          refine wp_aload_0 dX10_strike_52 rfl ?_
          refine wp_getf dX10_strike_53 rfl q1847 fk10_16 (mg_0 hm) rfl ?_
          refine wp_iload_4 dX10_strike_56 rfl ?_
          refine wp_ialoadn i dX10_strike_58 rfl (mg_8 hm) rfl hi60 (by decide) ?_
          rw [show S.2.1 8 i = gF G.2 i from hg.f hi]
          refine wp_i2l dX10_strike_59 rfl ?_
          refine wp_aload_0 dX10_strike_60 rfl ?_
          refine wp_getf dX10_strike_61 rfl q1848 fk10_17 (mg_0 hm) rfl ?_
          refine wp_iload_4 dX10_strike_64 rfl ?_
          refine wp_ialoadn i dX10_strike_66 rfl (mg_9 hm) rfl hi60 (by decide) ?_
          rw [show S.2.1 9 i = gE G.2 i from hg.e hi]
          refine wp_i2l dX10_strike_67 rfl ?_
          refine wp_csR dX10_strike_68 rfl q1979 ms_X10_in m_in rfl rfl (Nat.le_of_ble_eq_true rfl) (Nat.le_of_ble_eq_true rfl) ?_
          refine wp_ifeq_b 164 dX10_strike_71 rfl rfl (fun c71 => ?_) (fun c71 => ?_)
          · refine wp_iinc_4 1 dX10_strike_164 rfl rfl (by decide) rfl ?_
            refine wp_goto 3 dX10_strike_167 rfl rfl ?_
            have hmi : misB G.2 x z i t = true := by unfold misB; rw [hsd]; first | (rw [c71]; simp; done) | (rw [decide_eq_false c84]; simp; done) | rfl | simp
            exact WP.cast (by rw [nI_1, hsd]) (ih (i + 1) (some (.int (sideB G.2 i x))) (by omega) (fun S2 k2 b2 => hq S2 k2 (by rw [sk_m hmi]; exact b2)))
          · refine wp_aload_0 dX10_strike_74 rfl ?_
            refine wp_getf dX10_strike_75 rfl q1869 fk10_38 (mg_0 hm) rfl ?_
            refine wp_iload_4 dX10_strike_78 rfl ?_
            refine wp_ialoadn i dX10_strike_80 rfl (mg_18 hm) rfl hi60 (by decide) ?_
            rw [show S.2.1 18 i = t.2 i from hb.2.2.2 i hi]
            refine wp_iload_5 dX10_strike_81 rfl ?_
            refine wp_iand dX10_strike_83 rfl ?_
            refine wp_if_eq 90 dX10_strike_84 rfl rfl (fun c84 => ?_) (fun c84 => ?_)
            · have hmi : misB G.2 x z i t = false := by unfold misB; rw [hsd, c71, decide_eq_true c84]; rfl
              refine wp_aload_0 dX10_strike_90 rfl ?_
              refine wp_getf dX10_strike_91 rfl q1869 fk10_38 (mg_0 hm) rfl ?_
              refine wp_iload_4 dX10_strike_94 rfl ?_
              refine wp_dup2 dX10_strike_96 rfl rfl rfl ?_
              refine wp_ialoadn i dX10_strike_97 rfl (mg_18 hm) rfl hi60 (by decide) ?_
              refine wp_iload_5 dX10_strike_98 rfl ?_
              refine wp_ior dX10_strike_100 rfl ?_
              refine wp_iastoren i dX10_strike_101 rfl (mg_18 hm) rfl hi60 (by decide) (ms_A18 hm) ?_
              refine wp_aload_0 dX10_strike_102 rfl ?_
              refine wp_dup dX10_strike_103 rfl rfl ?_
              refine wp_getf dX10_strike_104 rfl q1870 fk10_39 (mg_0 hm) rfl ?_
              refine wp_iconst 1 dX10_strike_107 rfl rfl ?_
              refine wp_aload_0 dX10_strike_108 rfl ?_
              refine wp_iload_4 dX10_strike_109 rfl ?_
              refine wp_iconst 2 dX10_strike_111 rfl rfl ?_
              refine wp_cvR dX10_strike_112 rfl q2182 mv_X10_inGame (mg_0 hm) rfl rfl (m_inGame (w := 2) hm hi60 (by omega)) rfl rfl (Nat.le_of_ble_eq_true rfl) (Nat.le_of_ble_eq_true rfl) ?_
              refine wp_isub dX10_strike_115 rfl ?_
              refine wp_iadd dX10_strike_116 rfl ?_
              refine wp_putf dX10_strike_117 rfl q1870 fp10_39 (mg_0 hm) rfl rfl (Nat.le_of_ble_eq_true rfl) (ms_F39 hm) ?_
              refine wp_aload_0 dX10_strike_120 rfl ?_
              refine wp_dup dX10_strike_121 rfl rfl ?_
              refine wp_getf dX10_strike_122 rfl q1871 fk10_40 (mg_0 hm) rfl ?_
              refine wp_aload_0 dX10_strike_125 rfl ?_
              refine wp_iload_4 dX10_strike_126 rfl ?_
              refine wp_iconst 2 dX10_strike_128 rfl rfl ?_
              refine wp_cvR dX10_strike_129 rfl q2182 mv_X10_inGame (mg_0 hm) rfl rfl (m_inGame (w := 2) hm hi60 (by omega)) rfl rfl (Nat.le_of_ble_eq_true rfl) (Nat.le_of_ble_eq_true rfl) ?_
              refine wp_iadd dX10_strike_132 rfl ?_
              refine wp_putf dX10_strike_133 rfl q1871 fp10_40 (mg_0 hm) rfl rfl (Nat.le_of_ble_eq_true rfl) (ms_F40 hm) ?_
              refine wp_aload_0 dX10_strike_136 rfl ?_
              refine wp_dup dX10_strike_137 rfl rfl ?_
              refine wp_getf dX10_strike_138 rfl q1872 fk10_41 (mg_0 hm) rfl ?_
              refine wp_iload_2 dX10_strike_141 rfl ?_
              refine wp_aload_0 dX10_strike_142 rfl ?_
              refine wp_getf dX10_strike_143 rfl q1847 fk10_16 (mg_0 hm) rfl ?_
              refine wp_iload_4 dX10_strike_146 rfl ?_
              refine wp_ialoadn i dX10_strike_148 rfl (mg_8 hm) rfl hi60 (by decide) ?_
              refine wp_isub dX10_strike_149 rfl ?_
              refine wp_iload_3 dX10_strike_150 rfl ?_
              refine wp_icmp_ge 158 dX10_strike_151 rfl rfl (fun c151 => ?_) (fun c151 => ?_)
              · have c151 : lag ≤ z - gF G.2 i := by rw [← show S.2.1 8 i = gF G.2 i from hg.f hi]; exact c151
                have hE : (if z - gF G.2 i < lag then (1 : Int32) else 0) = 0 := if_neg (Int32.not_lt.mpr c151)
                refine wp_iconst 0 dX10_strike_158 rfl rfl ?_
                refine wp_iadd dX10_strike_159 rfl ?_
                refine wp_putf dX10_strike_160 rfl q1872 fp10_41 (mg_0 hm) rfl rfl (Nat.le_of_ble_eq_true rfl) (ms_F41 hm) ?_
                have hr := hq (hitS i (sideB G.2 i x) (if z - gF G.2 i < lag then 1 else 0) S) (hitS_KX _ _ _ S) (by rw [sk_h hmi]; exact hitS_BS hg hb hi)
                rw [hsd, hE] at hr
                exact wp_return dX10_strike_163 rfl hr
              · have c151 : ¬ lag ≤ z - gF G.2 i := by rw [← show S.2.1 8 i = gF G.2 i from hg.f hi]; exact c151
                have hE : (if z - gF G.2 i < lag then (1 : Int32) else 0) = 1 := if_pos (Int32.not_le.mp c151)
                refine wp_iconst 1 dX10_strike_154 rfl rfl ?_
                refine wp_goto 159 dX10_strike_155 rfl rfl ?_
                refine wp_iadd dX10_strike_159 rfl ?_
                refine wp_putf dX10_strike_160 rfl q1872 fp10_41 (mg_0 hm) rfl rfl (Nat.le_of_ble_eq_true rfl) (ms_F41 hm) ?_
                have hr := hq (hitS i (sideB G.2 i x) (if z - gF G.2 i < lag then 1 else 0) S) (hitS_KX _ _ _ S) (by rw [sk_h hmi]; exact hitS_BS hg hb hi)
                rw [hsd, hE] at hr
                exact wp_return dX10_strike_163 rfl hr
            · refine wp_goto 164 dX10_strike_87 rfl rfl ?_
              refine wp_iinc_4 1 dX10_strike_164 rfl rfl (by decide) rfl ?_
              refine wp_goto 3 dX10_strike_167 rfl rfl ?_
              have hmi : misB G.2 x z i t = true := by unfold misB; rw [hsd]; first | (rw [c71]; simp; done) | (rw [decide_eq_false c84]; simp; done) | rfl | simp
              exact WP.cast (by rw [nI_1, hsd]) (ih (i + 1) (some (.int (sideB G.2 i x))) (by omega) (fun S2 k2 b2 => hq S2 k2 (by rw [sk_m hmi]; exact b2)))
theorem m_strike {g : GW} {M : Nat} {pre post : AH} {S : SM} (hm : pre.length = M) {G : GA} {t : BT} {x z lag : Int32} (hg : GS S G) (hb : BS S t G.1) : SP g 2 0 0 yX10_strike cX10_strike 6 none [.ref M, .int x, .int z, .int lag] (mH M pre S post) (fun v h1 => v = none ∧ ∃ S', h1 = mH M pre S' post ∧ KX [39, 40, 41] [18] S S' ∧ BS S' (skK G.2 x z lag G.1 0 t) G.1) := by
  refine SP.intro [some (.ref M), some (.int x), some (.int z), some (.int lag), none, none] (pfn (by decide)) rfl (Nat.le_of_ble_eq_true rfl) ?_
  refine wp_iconst 0 dX10_strike_0 rfl rfl ?_
  refine wp_istore_4 dX10_strike_1 rfl (by decide) rfl ?_
  exact mL_strike hm hg hb G.1 0 none (Nat.zero_add _) (fun S2 k2 b2 => ⟨rfl, S2, rfl, k2, b2⟩)
theorem mL_lay1 {g : GW} {M : Nat} {pre post : AH} (hm : pre.length = M) {S0 : SM} {G : GA} {s : Nat} {lag : Int32} {c n : Nat} {Q : Option Value → AH → Prop} : ∀ (k : Nat) (S : SM) (i : Nat), i + k = G.1 → GS S G → KX [] [18] S0 S → (∀ j, j < i → S.2.1 18 j = 0) → (∀ S', GS S' G → KX [] [18] S0 S' → (∀ j, j < G.1 → S'.2.1 18 j = 0) → WP g 4 yX10_layBlows cX10_layBlows 4 none 42 [some (.ref M), some (.int (nI s)), some (.int lag), some (.int (nI G.1))] [] (mH M pre S' post) c n Q) → WP g 4 yX10_layBlows cX10_layBlows 4 none 21 [some (.ref M), some (.int (nI s)), some (.int lag), some (.int (nI i))] [] (mH M pre S post) c n Q := by
  intro k
  induction k with
  | zero =>
    intro S i hi hg kx ha hq
    refine wp_iload_3 dX10_layBlows_21 rfl ?_
    refine wp_aload_0 dX10_layBlows_22 rfl ?_
    refine wp_getf dX10_layBlows_23 rfl q1849 fk10_18 (mg_0 hm) rfl ?_
    refine wp_icmp_ge 42 dX10_layBlows_26 rfl rfl (fun c26 => ?_) (fun c26 => ?_)
    · obtain rfl : i = G.1 := by omega
      exact hq S hg kx ha
    · exact absurd (show S.1 18 ≤ nI i by rw [hg.1]; exact nI_le (by omega) (by have := hg.2.1; omega)) c26
  | succ k ih =>
    intro S i hi hg kx ha hq
    refine wp_iload_3 dX10_layBlows_21 rfl ?_
    refine wp_aload_0 dX10_layBlows_22 rfl ?_
    refine wp_getf dX10_layBlows_23 rfl q1849 fk10_18 (mg_0 hm) rfl ?_
    refine wp_icmp_ge 42 dX10_layBlows_26 rfl rfl (fun c26 => ?_) (fun c26 => ?_)
    · exact absurd c26 (show ¬ (S.1 18 ≤ nI i) by rw [hg.1]; exact nI_ge (by omega) (by have := hg.2.1; omega))
    · refine wp_aload_0 dX10_layBlows_29 rfl ?_
      refine wp_getf dX10_layBlows_30 rfl q1869 fk10_38 (mg_0 hm) rfl ?_
      refine wp_iload_3 dX10_layBlows_33 rfl ?_
      refine wp_iconst 0 dX10_layBlows_34 rfl rfl ?_
      refine wp_iastoren i dX10_layBlows_35 rfl (mg_18 hm) rfl (by have := hg.2.1; omega) (by decide) (ms_A18 hm) ?_
      refine wp_iinc_3 1 dX10_layBlows_36 rfl rfl (by decide) rfl ?_
      refine wp_goto 21 dX10_layBlows_39 rfl rfl ?_
      exact WP.cast (by rw [nI_1]) (ih (sA 18 i 0 S) (i + 1) (by omega) ((KX.s18 i 0 S).gs (by decide) (by decide) hg) ((kx.tr (KX.s18 i 0 S)).sub (by decide) (by decide)) (fun j hj => by
        rw [sA18_s]
        by_cases q : j = i
        · rw [q, pk_us]
        · rw [pk_un q]; exact ha j (by omega)) hq)
theorem mL_lay2 {g : GW} {M : Nat} {pre post : AH} (hm : pre.length = M) {S0 : SM} {G : GA} {s m q : Nat} {lag : Int32} {nu : LT} (h4 : s < 4) (hm2 : m = 2 * q) (m60 : m ≤ 60) {c n : Nat} {Q : Option Value → AH → Prop} : ∀ (k : Nat) (S : SM) (j : Nat) (t : BT), j + k = q → GS S G → S.2.1 19 s = nI m → S.2.2.1 21 = nu → BS S t G.1 → KX [39, 40, 41] [18] S0 S → (∀ S', KX [39, 40, 41] [18] S0 S' → BS S' (itr (blF G nu s lag) k j t) G.1 → Q none (mH M pre S' post)) → WP g 4 yX10_layBlows cX10_layBlows 4 none 44 [some (.ref M), some (.int (nI s)), some (.int lag), some (.int (nI (2 * j)))] [] (mH M pre S post) c n Q := by
  intro k
  induction k with
  | zero =>
    intro S j t hi hg hmy hnu hb kx hq
    refine wp_iload_3 dX10_layBlows_44 rfl ?_
    refine wp_aload_0 dX10_layBlows_45 rfl ?_
    refine wp_getf dX10_layBlows_46 rfl q1874 fk10_43 (mg_0 hm) rfl ?_
    refine wp_iload_1 dX10_layBlows_49 rfl ?_
    refine wp_ialoadn s dX10_layBlows_50 rfl (mg_19 hm) rfl h4 (by decide) ?_
    refine wp_icmp_ge 81 dX10_layBlows_51 rfl rfl (fun c51 => ?_) (fun c51 => ?_)
    · exact wp_return dX10_layBlows_81 rfl (hq S kx hb)
    · exact absurd (show S.2.1 19 s ≤ nI (2 * j) by rw [hmy]; exact nI_le (by omega) (by omega)) c51
  | succ k ih =>
    intro S j t hi hg hmy hnu hb kx hq
    refine wp_iload_3 dX10_layBlows_44 rfl ?_
    refine wp_aload_0 dX10_layBlows_45 rfl ?_
    refine wp_getf dX10_layBlows_46 rfl q1874 fk10_43 (mg_0 hm) rfl ?_
    refine wp_iload_1 dX10_layBlows_49 rfl ?_
    refine wp_ialoadn s dX10_layBlows_50 rfl (mg_19 hm) rfl h4 (by decide) ?_
    refine wp_icmp_ge 81 dX10_layBlows_51 rfl rfl (fun c51 => ?_) (fun c51 => ?_)
    · exact absurd c51 (show ¬ (S.2.1 19 s ≤ nI (2 * j)) by rw [hmy]; exact nI_ge (by omega) (by omega))
    · refine wp_aload_0 dX10_layBlows_54 rfl ?_
      refine wp_aload_0 dX10_layBlows_55 rfl ?_
      refine wp_iload_1 dX10_layBlows_56 rfl ?_
      refine wp_iload_3 dX10_layBlows_57 rfl ?_
      refine wp_cvR dX10_layBlows_58 rfl q2426 mv_X10_numberAt (mg_0 hm) rfl rfl (m_numberAt (i := 2 * j) hm h4 (by omega)) rfl rfl (Nat.le_of_ble_eq_true rfl) (Nat.le_of_ble_eq_true rfl) ?_
      rw [hnu]
      refine wp_l2i dX10_layBlows_61 rfl ?_
      refine wp_aload_0 dX10_layBlows_62 rfl ?_
      refine wp_iload_1 dX10_layBlows_63 rfl ?_
      refine wp_iload_3 dX10_layBlows_64 rfl ?_
      refine wp_iconst 1 dX10_layBlows_65 rfl rfl ?_
      refine wp_iadd dX10_layBlows_66 rfl ?_
      rw [nI_1]
      refine wp_cvR dX10_layBlows_67 rfl q2426 mv_X10_numberAt (mg_0 hm) rfl rfl (m_numberAt (i := 2 * j + 1) hm h4 (by omega)) rfl rfl (Nat.le_of_ble_eq_true rfl) (Nat.le_of_ble_eq_true rfl) ?_
      rw [hnu]
      refine wp_l2i dX10_layBlows_70 rfl ?_
      refine wp_iload_2 dX10_layBlows_71 rfl ?_
      refine wp_cvE dX10_layBlows_72 rfl q2532 mv_X10_strike (mg_0 hm) rfl rfl (m_strike hm hg hb) rfl rfl (Nat.le_of_ble_eq_true rfl) (Nat.le_of_ble_eq_true rfl) (fun h1 hq => ?_)
      obtain ⟨S1, rfl, hk1, hb1⟩ := hq
      refine wp_iinc_3 2 dX10_layBlows_75 rfl rfl (by decide) rfl ?_
      refine wp_goto 44 dX10_layBlows_78 rfl rfl ?_
      exact WP.cast (by rw [(show nI (2 * (j + 1)) = nI (2 * j) + 2 by rw [show (2 : Int32) = nI 2 from rfl, nI_add]; rfl)]) (ih S1 (j + 1) (blF G nu s lag j t) (by omega) (hk1.gs (by decide) (by decide) hg) (by rw [hk1.2.1 19 (by decide)]; exact hmy) (by rw [hk1.2.2]; exact hnu) hb1 ((kx.tr hk1).sub (by decide) (by decide)) hq)
theorem m_layBlows {g : GW} {M : Nat} {pre post : AH} {S : SM} (hm : pre.length = M) {s m q : Nat} {lag : Int32} (h4 : s < 4) (hmy : S.2.1 19 s = nI m) (m60 : m ≤ 60) (hm2 : m = 2 * q) (hs : WFs (wd S)) : SP g 4 0 0 yX10_layBlows cX10_layBlows 4 none [.ref M, .int (nI s), .int lag] (mH M pre S post) (fun v h1 => v = none ∧ ∃ S', h1 = mH M pre S' post ∧ KP S S' ∧ BS S' (blW (dgW (wd S)) (S.2.2.1 21) s m lag) (dgW (wd S)).1) := by
  refine SP.intro [some (.ref M), some (.int (nI s)), some (.int lag), none] (pfn (by decide)) rfl (Nat.le_of_ble_eq_true rfl) ?_
  refine wp_aload_0 dX10_layBlows_0 rfl ?_
  refine wp_cvE dX10_layBlows_1 rfl q2158 mv_X10_lay (mg_0 hm) rfl rfl (m_lay hm hs) rfl rfl (Nat.le_of_ble_eq_true rfl) (Nat.le_of_ble_eq_true rfl) (fun h1 hq => ?_)
  obtain ⟨S1, rfl, hk1, hg1⟩ := hq
  refine wp_aload_0 dX10_layBlows_4 rfl ?_
  refine wp_iconst 0 dX10_layBlows_5 rfl rfl ?_
  refine wp_putf dX10_layBlows_6 rfl q1870 fp10_39 (mg_0 hm) rfl rfl (Nat.le_of_ble_eq_true rfl) (ms_F39 hm) ?_
  refine wp_aload_0 dX10_layBlows_9 rfl ?_
  refine wp_iconst 0 dX10_layBlows_10 rfl rfl ?_
  refine wp_putf dX10_layBlows_11 rfl q1871 fp10_40 (mg_0 hm) rfl rfl (Nat.le_of_ble_eq_true rfl) (ms_F40 hm) ?_
  refine wp_aload_0 dX10_layBlows_14 rfl ?_
  refine wp_iconst 0 dX10_layBlows_15 rfl rfl ?_
  refine wp_putf dX10_layBlows_16 rfl q1872 fp10_41 (mg_0 hm) rfl rfl (Nat.le_of_ble_eq_true rfl) (ms_F41 hm) ?_
  refine wp_iconst 0 dX10_layBlows_19 rfl rfl ?_
  refine wp_istore_3 dX10_layBlows_20 rfl (by decide) rfl ?_
  have kg0 := bl0S_KX S1
  refine mL_lay1 (S0 := bl0S S1) (G := dgW (wd S)) (s := s) (lag := lag) hm (dgW (wd S)).1 (bl0S S1) 0 (Nat.zero_add _) (kg0.gs (by decide) (by decide) hg1) (KX.rf _ _ _) (fun j hj => absurd hj (Nat.not_lt_zero j)) (fun S2 hg2 kx2 ha2 => ?_)
  refine wp_iconst 0 dX10_layBlows_42 rfl rfl ?_
  refine wp_istore_3 dX10_layBlows_43 rfl (by decide) rfl ?_
  have e19 : S2.2.1 19 = S.2.1 19 := (kx2.2.1 19 (by decide)).trans ((kg0.2.1 19 (by decide)).trans (hk1.2.1 19 (by decide) (by decide) (by decide)))
  have e21 : S2.2.2 = S.2.2 := kx2.2.2.trans (kg0.2.2.trans hk1.2.2)
  have b2 : BS S2 bl0 (dgW (wd S)).1 := ⟨(kx2.1 39 (by decide)).trans rfl, (kx2.1 40 (by decide)).trans rfl, (kx2.1 41 (by decide)).trans rfl, ha2⟩
  exact mL_lay2 (nu := S.2.2.1 21) hm h4 hm2 m60 q S2 0 bl0 (Nat.zero_add _) hg2 (by rw [e19]; exact hmy) (by rw [e21]) b2 (KX.rf _ _ _) (fun S3 kx3 b3 => ⟨rfl, S3, rfl, ((hk1.KP.tr (kg0.KP (by decide) (by decide))).tr (kx2.KP (by decide) (by decide))).tr (kx3.KP (by decide) (by decide)), by rw [blW, show m / 2 = q by omega]; exact b3⟩)
theorem q_m_counted {g : GW} {M : Nat} {pre post : AH} {S : SM} (hm : pre.length = M) {x : Int32} (hwm : WFm (S.2.1 19)) (hs : WFs (wd S)) : SP g 5 0 0 yX10_counted cX10_counted 3 (some .int) [.ref M, .int x] (mH M pre S post) (QM M pre post S (.int (qcounted (wd S) (S.2.1 19) (S.2.2.1 21) x))) := by
  refine SP.intro [some (.ref M), some (.int x), none] (pfn (by decide)) rfl (Nat.le_of_ble_eq_true rfl) ?_
  refine wp_aload_0 dX10_counted_0 rfl ?_
  refine wp_iload_1 dX10_counted_1 rfl ?_
  refine wp_cvR dX10_counted_2 rfl q2524 mv_X10_asksBlows (mg_0 hm) rfl rfl (m_asksBlows hm hwm) rfl rfl (Nat.le_of_ble_eq_true rfl) (Nat.le_of_ble_eq_true rfl) ?_
  refine wp_istore_2 dX10_counted_5 rfl (by decide) rfl ?_
  refine wp_iload_2 dX10_counted_6 rfl ?_
  refine wp_if_ge 12 dX10_counted_7 rfl rfl (fun c7 => ?_) (fun c7 => ?_)
  · obtain ⟨s, h4, rfl, hmy, m60, hbd, q, hm2⟩ := ab_of hwm (Int32.not_lt.mpr c7)
    have hcl : (nI s).toNatClampNeg = s := nI_clamp (by omega)
    refine wp_aload_0 dX10_counted_12 rfl ?_
    refine wp_iload_1 dX10_counted_13 rfl ?_
    refine wp_iconst 0 dX10_counted_14 rfl rfl ?_
    refine wp_cvE dX10_counted_15 rfl q2528 mv_X10_layBlows (mg_0 hm) rfl rfl (m_layBlows hm h4 hmy m60 hm2 hs) rfl rfl (Nat.le_of_ble_eq_true rfl) (Nat.le_of_ble_eq_true rfl) (fun h1 hq => ?_)
    obtain ⟨S1, rfl, hk1, hb1⟩ := hq
    refine wp_aload_0 dX10_counted_18 rfl ?_
    refine wp_getf dX10_counted_19 rfl q1870 fk10_39 (mg_0 hm) rfl ?_
    exact wp_ireturn dX10_counted_22 rfl ⟨by rw [qcounted, hrb_p (Int32.not_lt.mpr c7), hcl, hb1.1], S1, rfl, hk1⟩
  · refine wp_iload_2 dX10_counted_10 rfl ?_
    exact wp_ireturn dX10_counted_11 rfl ⟨by rw [qcounted, hrb_n (Int32.not_le.mp c7)], S, rfl, KP.rf S⟩
theorem q_m_scored {g : GW} {M : Nat} {pre post : AH} {S : SM} (hm : pre.length = M) {x : Int32} (hwm : WFm (S.2.1 19)) (hs : WFs (wd S)) : SP g 5 0 0 yX10_scored cX10_scored 3 (some .int) [.ref M, .int x] (mH M pre S post) (QM M pre post S (.int (qscored (wd S) (S.2.1 19) (S.2.2.1 21) x))) := by
  refine SP.intro [some (.ref M), some (.int x), none] (pfn (by decide)) rfl (Nat.le_of_ble_eq_true rfl) ?_
  refine wp_aload_0 dX10_scored_0 rfl ?_
  refine wp_iload_1 dX10_scored_1 rfl ?_
  refine wp_cvR dX10_scored_2 rfl q2524 mv_X10_asksBlows (mg_0 hm) rfl rfl (m_asksBlows hm hwm) rfl rfl (Nat.le_of_ble_eq_true rfl) (Nat.le_of_ble_eq_true rfl) ?_
  refine wp_istore_2 dX10_scored_5 rfl (by decide) rfl ?_
  refine wp_iload_2 dX10_scored_6 rfl ?_
  refine wp_if_ge 16 dX10_scored_7 rfl rfl (fun c7 => ?_) (fun c7 => ?_)
  · obtain ⟨s, h4, rfl, hmy, m60, hbd, q, hm2⟩ := ab_of hwm (Int32.not_lt.mpr c7)
    have hcl : (nI s).toNatClampNeg = s := nI_clamp (by omega)
    refine wp_aload_0 dX10_scored_16 rfl ?_
    refine wp_iload_1 dX10_scored_17 rfl ?_
    refine wp_iconst 0 dX10_scored_18 rfl rfl ?_
    refine wp_cvE dX10_scored_19 rfl q2528 mv_X10_layBlows (mg_0 hm) rfl rfl (m_layBlows hm h4 hmy m60 hm2 hs) rfl rfl (Nat.le_of_ble_eq_true rfl) (Nat.le_of_ble_eq_true rfl) (fun h1 hq => ?_)
    obtain ⟨S1, rfl, hk1, hb1⟩ := hq
    refine wp_bipush 10 dX10_scored_22 rfl rfl ?_
    refine wp_aload_0 dX10_scored_24 rfl ?_
    refine wp_getf dX10_scored_25 rfl q1870 fk10_39 (mg_0 hm) rfl ?_
    refine wp_imul dX10_scored_28 rfl ?_
    refine wp_bipush 20 dX10_scored_29 rfl rfl ?_
    refine wp_aload_0 dX10_scored_31 rfl ?_
    refine wp_getf dX10_scored_32 rfl q1871 fk10_40 (mg_0 hm) rfl ?_
    refine wp_imul dX10_scored_35 rfl ?_
    refine wp_isub dX10_scored_36 rfl ?_
    exact wp_ireturn dX10_scored_37 rfl ⟨by rw [qscored, if_neg (Int32.not_lt.mpr c7), hrb_p (Int32.not_lt.mpr c7), hcl, hb1.1, hb1.2.1], S1, rfl, hk1⟩
  · refine wp_sipush 1000 dX10_scored_10 rfl rfl ?_
    refine wp_iload_2 dX10_scored_13 rfl ?_
    refine wp_imul dX10_scored_14 rfl ?_
    exact wp_ireturn dX10_scored_15 rfl ⟨by rw [qscored, if_pos (Int32.not_le.mp c7)], S, rfl, KP.rf S⟩
theorem q_m_early {g : GW} {M : Nat} {pre post : AH} {S : SM} (hm : pre.length = M) {x z : Int32} (hwm : WFm (S.2.1 19)) (hs : WFs (wd S)) : SP g 5 0 0 yX10_early cX10_early 4 (some .int) [.ref M, .int x, .int z] (mH M pre S post) (QM M pre post S (.int (qearly (wd S) (S.2.1 19) (S.2.2.1 21) x z))) := by
  refine SP.intro [some (.ref M), some (.int x), some (.int z), none] (pfn (by decide)) rfl (Nat.le_of_ble_eq_true rfl) ?_
  refine wp_iload_2 dX10_early_0 rfl ?_
  refine wp_i2l dX10_early_1 rfl ?_
  refine wp_lconst 0 dX10_early_2 rfl rfl ?_
  refine wp_ldc2_w dX10_early_3 rfl q2491 ?_
  refine wp_csR dX10_early_6 rfl q1979 ms_X10_in m_in rfl rfl (Nat.le_of_ble_eq_true rfl) (Nat.le_of_ble_eq_true rfl) ?_
  refine wp_ifne_b 15 dX10_early_9 rfl rfl (fun c9 => ?_) (fun c9 => ?_)
  · refine wp_aload_0 dX10_early_15 rfl ?_
    refine wp_iload_1 dX10_early_16 rfl ?_
    refine wp_cvR dX10_early_17 rfl q2524 mv_X10_asksBlows (mg_0 hm) rfl rfl (m_asksBlows hm hwm) rfl rfl (Nat.le_of_ble_eq_true rfl) (Nat.le_of_ble_eq_true rfl) ?_
    refine wp_istore_3 dX10_early_20 rfl (by decide) rfl ?_
    refine wp_iload_3 dX10_early_21 rfl ?_
    refine wp_if_ge 27 dX10_early_22 rfl rfl (fun c22 => ?_) (fun c22 => ?_)
    · obtain ⟨s, h4, rfl, hmy, m60, hbd, q, hm2⟩ := ab_of hwm (Int32.not_lt.mpr c22)
      have hcl : (nI s).toNatClampNeg = s := nI_clamp (by omega)
      refine wp_aload_0 dX10_early_27 rfl ?_
      refine wp_iload_1 dX10_early_28 rfl ?_
      refine wp_iload_2 dX10_early_29 rfl ?_
      refine wp_cvE dX10_early_30 rfl q2528 mv_X10_layBlows (mg_0 hm) rfl rfl (m_layBlows hm h4 hmy m60 hm2 hs) rfl rfl (Nat.le_of_ble_eq_true rfl) (Nat.le_of_ble_eq_true rfl) (fun h1 hq => ?_)
      obtain ⟨S1, rfl, hk1, hb1⟩ := hq
      refine wp_aload_0 dX10_early_33 rfl ?_
      refine wp_getf dX10_early_34 rfl q1872 fk10_41 (mg_0 hm) rfl ?_
      exact wp_ireturn dX10_early_37 rfl ⟨by rw [qearly, if_pos c9, hrb_p (Int32.not_lt.mpr c22), hcl, hb1.2.2.1], S1, rfl, hk1⟩
    · refine wp_iload_3 dX10_early_25 rfl ?_
      exact wp_ireturn dX10_early_26 rfl ⟨by rw [qearly, if_pos c9, hrb_n (Int32.not_le.mp c22)], S, rfl, KP.rf S⟩
  · refine wp_bipush (-2) dX10_early_12 rfl rfl ?_
    exact wp_ireturn dX10_early_14 rfl ⟨by rw [qearly, if_neg (by simp [*])], S, rfl, KP.rf S⟩
