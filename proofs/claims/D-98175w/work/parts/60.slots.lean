/-! ===== the reference: slots, images, tape ===== -/
set_option maxRecDepth 100000
theorem out10 {x : Int32} (h : ¬ inI x 0 10 = true) : x.toInt < 0 ∨ 10 < x.toInt := by
  rcases Int.lt_or_le x.toInt 0 with q | q
  · exact Or.inl q
  · rcases Int.lt_or_le 10 x.toInt with r | r
    · exact Or.inr r
    · refine absurd ?_ h
      unfold inI
      rw [decide_eq_true (show (0 : Int32) ≤ x from Int32.le_iff_toInt_le.mpr q), decide_eq_true (show x ≤ (10 : Int32) from Int32.le_iff_toInt_le.mpr r)]
      rfl
theorem nar_b (x : Int32) : vp_nar .byte x.toInt8.toInt32 = x.toInt8.toInt32 := by
  show x.toInt8.toInt32.toInt8.toInt32 = _
  rw [Int8.toInt8_toInt32]
def fiv (a b c d e : Int32) : Nat → Int32 := fun i => if i = 0 then a else if i = 1 then b else if i = 2 then c else if i = 3 then d else e
theorem itr_cg {α : Type} {f g : Nat → α → α} (N : Nat) (h : ∀ i a, i < N → f i a = g i a) : ∀ (k i : Nat) (a : α), i + k ≤ N → itr f k i a = itr g k i a := by
  intro k
  induction k with
  | zero => intro i a _; rfl
  | succ k ih =>
    intro i a hi
    show itr f k (i + 1) (f i a) = itr g k (i + 1) (g i a)
    rw [h i a (by omega)]
    exact ih (i + 1) _ (by omega)
theorem te_eq {f g : Nat → Int32} (h : ∀ i, i < 5 → f i = g i) (a : Nat) (T : Nat → Int32) : itr (teF f a) 20 0 T = itr (teF g a) 20 0 T := itr_cg 20 (fun i T hi => by
  have e := h (i / 4) (by omega)
  simp only [teF, bit8, e]) 20 0 T (by omega)
def qfeed (ta : Int32) : Int32 := if ta + 20 ≤ 1200 then ta + 20 else -1
theorem m_cut {g : GW} {h : AH} {v : Int64} {w : Int32} : SPx g 1 0 0 yX10_cut cX10_cut 4 (some .long) [.long v, .int w] h (some (.long (cutV v w))) h := by
  refine SPx.intro [some (.long v), none, some (.int w), none] (pfn (by decide)) rfl (Nat.le_of_ble_eq_true rfl) ?_
  refine wp_bipush 64 dX10_cut_0 rfl rfl ?_
  refine wp_bipush 8 dX10_cut_2 rfl rfl ?_
  refine wp_iload_2 dX10_cut_4 rfl ?_
  refine wp_ishl dX10_cut_5 rfl ?_
  refine wp_isub dX10_cut_6 rfl ?_
  refine wp_istore_3 dX10_cut_7 rfl (by decide) rfl ?_
  refine wp_lload_0 dX10_cut_8 rfl ?_
  refine wp_iload_3 dX10_cut_9 rfl ?_
  refine wp_lshl dX10_cut_10 rfl ?_
  refine wp_iload_3 dX10_cut_11 rfl ?_
  refine wp_lshr dX10_cut_12 rfl ?_
  exact wp_lreturn dX10_cut_13 rfl ⟨rfl, rfl⟩
theorem mL_row {g : GW} {M : Nat} {pre post : AH} (hm : pre.length = M) {S0 : SM} {s : Nat} {w n2 : Int32} (h4 : s < 4) {c n : Nat} {Q : Option Value → AH → Prop} : ∀ (k : Nat) (S : SM) (i : Nat), i + k = 60 → KA [] [19, 20] [1] S0 S → (∀ S', KA [] [19, 20] [1] S0 S' → slS S' = ((slS S).1, (slS S).2.1, itr (z60 s) k i (slS S).2.2) → Q (some (.int 0)) (mH M pre S' post)) → WP g 3 yX10_row cX10_row 5 (some .int) 52 [some (.ref M), some (.int (nI s)), some (.int w), some (.int n2), some (.int (nI i))] [] (mH M pre S post) c n Q := by
  intro k
  induction k with
  | zero =>
    intro S i hi ka hq
    refine wp_iload_4 dX10_row_52 rfl ?_
    refine wp_bipush 60 dX10_row_54 rfl rfl ?_
    refine wp_icmp_ge 78 dX10_row_56 rfl rfl (fun c56 => ?_) (fun c56 => ?_)
    · refine wp_iconst 0 dX10_row_78 rfl rfl ?_
      exact wp_ireturn dX10_row_79 rfl (hq S ka rfl)
    · exact absurd (show (60 : Int32) ≤ nI i by rw [show i = 60 by omega]; decide) c56
  | succ k ih =>
    intro S i hi ka hq
    refine wp_iload_4 dX10_row_52 rfl ?_
    refine wp_bipush 60 dX10_row_54 rfl rfl ?_
    refine wp_icmp_ge 78 dX10_row_56 rfl rfl (fun c56 => ?_) (fun c56 => ?_)
    · exact absurd c56 (show ¬ ((60 : Int32) ≤ nI i) from nI_ge (a := i) (b := 60) (by omega) (by omega))
    · refine wp_aload_0 dX10_row_59 rfl ?_
      refine wp_getf dX10_row_60 rfl q1876 fk10_45 (mg_0 hm) rfl ?_
      refine wp_bipush 60 dX10_row_63 rfl rfl ?_
      refine wp_iload_1 dX10_row_65 rfl ?_
      refine wp_imul dX10_row_66 rfl ?_
      refine wp_iload_4 dX10_row_67 rfl ?_
      refine wp_iadd dX10_row_69 rfl ?_
      refine wp_lconst 0 dX10_row_70 rfl rfl ?_
      refine wp_lastoren (60 * s + i) dX10_row_71 rfl (mg_21 hm) (by simp only [nI_lit, pk_mul, nI_add]) (by omega) (by decide) (ms_A21 hm) ?_
      refine wp_iinc_4 1 dX10_row_72 rfl rfl (by decide) rfl ?_
      refine wp_goto 52 dX10_row_75 rfl rfl ?_
      exact WP.cast (by rw [nI_1]) (ih (sL 21 (60 * s + i) 0 S) (i + 1) (by omega) (ka.tr (KA.lng _ _ _ _ (Or.inl (by decide)))) (fun S2 k2 e2 => hq S2 k2 (by rw [e2]; show (_, _, itr _ _ _ ((sL 21 (60 * s + i) 0 S).2.2.1 21)) = _; rw [sL_s]; rfl)))
theorem q_m_row {g : GW} {M : Nat} {pre post : AH} {S : SM} (hm : pre.length = M) {x w z : Int32} : SP g 3 0 0 yX10_row cX10_row 5 (some .int) [.ref M, .int x, .int w, .int z] (mH M pre S post) (QV M pre post (.int (qrow x w z)) (fun S' => KA [] [19, 20] [1] S S' ∧ slS S' = wrow (slS S) x w z)) := by
  refine SP.intro [some (.ref M), some (.int x), some (.int w), some (.int z), none] (pfn (by decide)) rfl (Nat.le_of_ble_eq_true rfl) ?_
  refine wp_iload_1 dX10_row_0 rfl ?_
  refine wp_csR dX10_row_1 rfl q2423 ms_X10_isSlot m_isSlot rfl rfl (Nat.le_of_ble_eq_true rfl) (Nat.le_of_ble_eq_true rfl) ?_
  refine wp_ifeq_b 25 dX10_row_4 rfl rfl (fun c4 => ?_) (fun c4 => ?_)
  · refine wp_bipush (-2) dX10_row_25 rfl rfl ?_
    exact wp_ireturn dX10_row_27 rfl ⟨by rw [qrow, if_neg (fun q => by first | exact absurd q.1 (by rw [c4]; decide) | exact absurd q.2.1 (by rw [c16]; decide) | exact c22 q.2.2)], S, rfl, KA.rf _ _ _ S, by rw [wrow, if_neg (fun q => by first | exact absurd q.1.1 (by rw [c4]; decide) | exact absurd q.1.2.1 (by rw [c16]; decide) | exact c22 q.1.2.2)]⟩
  · refine wp_iload_2 dX10_row_7 rfl ?_
    refine wp_i2l dX10_row_8 rfl ?_
    refine wp_lconst 0 dX10_row_9 rfl rfl ?_
    refine wp_ldc2_w dX10_row_10 rfl q2383 ?_
    refine wp_csR dX10_row_13 rfl q1979 ms_X10_in m_in rfl rfl (Nat.le_of_ble_eq_true rfl) (Nat.le_of_ble_eq_true rfl) ?_
    rw [show inL w.toInt64 0 3 = laL w from inL_i w 0 3]
    refine wp_ifeq_b 25 dX10_row_16 rfl rfl (fun c16 => ?_) (fun c16 => ?_)
    · refine wp_bipush (-2) dX10_row_25 rfl rfl ?_
      exact wp_ireturn dX10_row_27 rfl ⟨by rw [qrow, if_neg (fun q => by first | exact absurd q.1 (by rw [c4]; decide) | exact absurd q.2.1 (by rw [c16]; decide) | exact c22 q.2.2)], S, rfl, KA.rf _ _ _ S, by rw [wrow, if_neg (fun q => by first | exact absurd q.1.1 (by rw [c4]; decide) | exact absurd q.1.2.1 (by rw [c16]; decide) | exact c22 q.1.2.2)]⟩
    · refine wp_iload_3 dX10_row_19 rfl ?_
      refine wp_bipush 60 dX10_row_20 rfl rfl ?_
      refine wp_icmp_le 28 dX10_row_22 rfl rfl (fun c22 => ?_) (fun c22 => ?_)
      · refine wp_iload_3 dX10_row_28 rfl ?_
        refine wp_if_ge 35 dX10_row_29 rfl rfl (fun c29 => ?_) (fun c29 => ?_)
        · obtain ⟨s, h4, rfl⟩ := la_of c4
          refine wp_aload_0 dX10_row_35 rfl ?_
          refine wp_getf dX10_row_36 rfl q1874 fk10_43 (mg_0 hm) rfl ?_
          refine wp_iload_1 dX10_row_39 rfl ?_
          refine wp_iload_3 dX10_row_40 rfl ?_
          refine wp_iastoren s dX10_row_41 rfl (mg_19 hm) rfl h4 (by decide) (ms_A19 hm) ?_
          refine wp_aload_0 dX10_row_42 rfl ?_
          refine wp_getf dX10_row_43 rfl q1875 fk10_44 (mg_0 hm) rfl ?_
          refine wp_iload_1 dX10_row_46 rfl ?_
          refine wp_iload_2 dX10_row_47 rfl ?_
          refine wp_iastoren s dX10_row_48 rfl (mg_20 hm) rfl h4 (by decide) (ms_A20 hm) ?_
          refine wp_iconst 0 dX10_row_49 rfl rfl ?_
          refine wp_istore_4 dX10_row_50 rfl (by decide) rfl ?_
          refine mL_row (S0 := S) hm h4 60 _ 0 rfl ((KA.arr 19 s z S (Or.inl (by decide))).tr (KA.arr 20 s w _ (Or.inl (by decide)))) (fun S2 k2 e2 => ?_)
          refine ⟨by rw [qrow, if_pos ⟨c4, c16, c22⟩, if_neg (Int32.not_lt.mpr c29)], S2, rfl, k2, ?_⟩
          rw [e2, wrow, if_pos ⟨⟨c4, c16, c22⟩, Int32.not_lt.mpr c29⟩, nI_clamp (by omega)]
          simp only [slS, sA_s, sA_o (show (19 : Nat) ≠ 20 by decide), sA_o (show (20 : Nat) ≠ 19 by decide)]
          rfl
        · refine wp_bipush (-3) dX10_row_32 rfl rfl ?_
          exact wp_ireturn dX10_row_34 rfl ⟨by rw [qrow, if_pos ⟨c4, c16, c22⟩, if_pos (Int32.not_le.mp c29)], S, rfl, KA.rf _ _ _ S, by rw [wrow, if_neg (fun q => q.2 (Int32.not_le.mp c29))]⟩
      · refine wp_bipush (-2) dX10_row_25 rfl rfl ?_
        exact wp_ireturn dX10_row_27 rfl ⟨by rw [qrow, if_neg (fun q => by first | exact absurd q.1 (by rw [c4]; decide) | exact absurd q.2.1 (by rw [c16]; decide) | exact c22 q.2.2)], S, rfl, KA.rf _ _ _ S, by rw [wrow, if_neg (fun q => by first | exact absurd q.1.1 (by rw [c4]; decide) | exact absurd q.1.2.1 (by rw [c16]; decide) | exact c22 q.1.2.2)]⟩
theorem q_m_write {g : GW} {M : Nat} {pre post : AH} {S : SM} (hm : pre.length = M) {x z : Int32} {v : Int64} (hwm : WFm (S.2.1 19)) : SP g 3 0 0 yX10_write cX10_write 5 (some .int) [.ref M, .int x, .int z, .long v] (mH M pre S post) (QV M pre post (.int (qwrite (slS S) x z)) (fun S' => KA [] [] [1] S S' ∧ slS S' = wwrite (slS S) x z v)) := by
  refine SP.intro [some (.ref M), some (.int x), some (.int z), some (.long v), none] (pfn (by decide)) rfl (Nat.le_of_ble_eq_true rfl) ?_
  refine wp_iload_1 dX10_write_0 rfl ?_
  refine wp_csR dX10_write_1 rfl q2423 ms_X10_isSlot m_isSlot rfl rfl (Nat.le_of_ble_eq_true rfl) (Nat.le_of_ble_eq_true rfl) ?_
  refine wp_ifne_b 10 dX10_write_4 rfl rfl (fun c4 => ?_) (fun c4 => ?_)
  · obtain ⟨s, h4, rfl⟩ := la_of c4
    have hcl : (nI s).toNatClampNeg = s := nI_clamp (by omega)
    refine wp_aload_0 dX10_write_10 rfl ?_
    refine wp_getf dX10_write_11 rfl q1874 fk10_43 (mg_0 hm) rfl ?_
    refine wp_iload_1 dX10_write_14 rfl ?_
    refine wp_ialoadn s dX10_write_15 rfl (mg_19 hm) rfl h4 (by decide) ?_
    refine wp_iconst (-1) dX10_write_16 rfl rfl ?_
    refine wp_icmp_ne 23 dX10_write_17 rfl rfl (fun c17 => ?_) (fun c17 => ?_)
    · obtain ⟨hmy, m60⟩ := (hwm s h4).resolve_left c17
      refine wp_iload_2 dX10_write_23 rfl ?_
      refine wp_i2l dX10_write_24 rfl ?_
      refine wp_lconst 0 dX10_write_25 rfl rfl ?_
      refine wp_aload_0 dX10_write_26 rfl ?_
      refine wp_getf dX10_write_27 rfl q1874 fk10_43 (mg_0 hm) rfl ?_
      refine wp_iload_1 dX10_write_30 rfl ?_
      refine wp_ialoadn s dX10_write_31 rfl (mg_19 hm) rfl h4 (by decide) ?_
      refine wp_iconst 1 dX10_write_32 rfl rfl ?_
      refine wp_isub dX10_write_33 rfl ?_
      refine wp_i2l dX10_write_34 rfl ?_
      refine wp_csR dX10_write_35 rfl q1979 ms_X10_in m_in rfl rfl (Nat.le_of_ble_eq_true rfl) (Nat.le_of_ble_eq_true rfl) ?_
      rw [show inL z.toInt64 0 (S.2.1 19 s - 1).toInt64 = inI z 0 (S.2.1 19 s - 1) from inL_i z 0 _]
      refine wp_ifne_b 44 dX10_write_38 rfl rfl (fun c38 => ?_) (fun c38 => ?_)
      · obtain ⟨i, hi, rfl⟩ := in_of (n := mN (S.2.1 19) s) (by omega) (by rw [← hmy]; exact c38)
        refine wp_aload_0 dX10_write_44 rfl ?_
        refine wp_getf dX10_write_45 rfl q1876 fk10_45 (mg_0 hm) rfl ?_
        refine wp_bipush 60 dX10_write_48 rfl rfl ?_
        refine wp_iload_1 dX10_write_50 rfl ?_
        refine wp_imul dX10_write_51 rfl ?_
        refine wp_iload_2 dX10_write_52 rfl ?_
        refine wp_iadd dX10_write_53 rfl ?_
        refine wp_lload_3 dX10_write_54 rfl ?_
        refine wp_aload_0 dX10_write_55 rfl ?_
        refine wp_getf dX10_write_56 rfl q1875 fk10_44 (mg_0 hm) rfl ?_
        refine wp_iload_1 dX10_write_59 rfl ?_
        refine wp_ialoadn s dX10_write_60 rfl (mg_20 hm) rfl h4 (by decide) ?_
        refine wp_csR dX10_write_61 rfl q2645 ms_X10_cut m_cut rfl rfl (Nat.le_of_ble_eq_true rfl) (Nat.le_of_ble_eq_true rfl) ?_
        refine wp_lastoren (60 * s + i) dX10_write_64 rfl (mg_21 hm) (by simp only [nI_lit, pk_mul, nI_add]) (by omega) (by decide) (ms_A21 hm) ?_
        refine wp_iconst 0 dX10_write_65 rfl rfl ?_
        exact wp_ireturn dX10_write_66 rfl (by
  have hz : qwrite (slS S) (nI s) (nI i) = 0 := by rw [qwrite, if_pos c4, hcl, if_neg (show ¬ (slS S).1 s = -1 from c17), if_pos (show inI (nI i) 0 ((slS S).1 s - 1) = true from c38)]
  refine ⟨by rw [hz], _, rfl, KA.lng _ _ _ S (Or.inl (by decide)), ?_⟩
  rw [wwrite, if_pos hz, hcl, nI_clamp (by omega)]
  simp only [slS, sL_s]
  rfl)
      · refine wp_bipush (-7) dX10_write_41 rfl rfl ?_
        exact wp_ireturn dX10_write_43 rfl ⟨by rw [qwrite, if_pos c4, hcl, if_neg (show ¬ (slS S).1 s = -1 from c17), if_neg (show ¬ inI z 0 ((slS S).1 s - 1) = true from fun q => absurd (c38.symm.trans q) (by decide))], S, rfl, KA.rf _ _ _ S, by rw [wwrite, qwrite, if_pos c4, hcl, if_neg (show ¬ (slS S).1 s = -1 from c17), if_neg (show ¬ inI z 0 ((slS S).1 s - 1) = true from fun q => absurd (c38.symm.trans q) (by decide)), if_neg (by decide)]⟩
    · refine wp_bipush (-6) dX10_write_20 rfl rfl ?_
      exact wp_ireturn dX10_write_22 rfl ⟨by rw [qwrite, if_pos c4, hcl, if_pos (show (slS S).1 s = -1 from c17)], S, rfl, KA.rf _ _ _ S, by rw [wwrite, qwrite, if_pos c4, hcl, if_pos (show (slS S).1 s = -1 from c17), if_neg (by decide)]⟩
  · refine wp_bipush (-2) dX10_write_7 rfl rfl ?_
    exact wp_ireturn dX10_write_9 rfl ⟨by rw [qwrite, if_neg (by rw [c4]; decide)], S, rfl, KA.rf _ _ _ S, by rw [wwrite, qwrite, if_neg (show ¬ laL x = true by rw [c4]; decide), if_neg (by decide)]⟩
theorem mL_paste1 {g : GW} {M : Nat} {pre post : AH} (hm : pre.length = M) {S0 : SM} {s i t k2 n2 : Nat} (h4 : s < 4) (t4 : t < 4) (n31 : n2 ≤ 60) (hin : i + n2 ≤ 60) (hkn : k2 + n2 ≤ 60) {c n : Nat} {Q : Option Value → AH → Prop} : ∀ (k : Nat) (S : SM) (x : Nat), x + k = n2 → KA [] [] [] S0 S → (∀ y, y < x → S.2.2.1 22 y = S0.2.2.1 21 (60 * s + i + y)) → (∀ S', KA [] [] [] S0 S' → (∀ y, y < n2 → S'.2.2.1 22 y = S0.2.2.1 21 (60 * s + i + y)) → WP g 3 yX10_paste cX10_paste 7 (some .int) 147 [some (.ref M), some (.int (nI s)), some (.int (nI i)), some (.int (nI t)), some (.int (nI k2)), some (.int (nI n2)), some (.int (nI n2))] [] (mH M pre S' post) c n Q) → WP g 3 yX10_paste cX10_paste 7 (some .int) 113 [some (.ref M), some (.int (nI s)), some (.int (nI i)), some (.int (nI t)), some (.int (nI k2)), some (.int (nI n2)), some (.int (nI x))] [] (mH M pre S post) c n Q := by
  intro k
  induction k with
  | zero =>
    intro S x hi ka ha hq
    refine wp_iload_6 dX10_paste_113 rfl ?_
    refine wp_iload_5 dX10_paste_115 rfl ?_
    refine wp_icmp_ge 147 dX10_paste_117 rfl rfl (fun c117 => ?_) (fun c117 => ?_)
    · obtain rfl : x = n2 := by omega
      exact hq S ka ha
    · exact absurd (nI_le (show n2 ≤ x by omega) (by omega)) c117
  | succ k ih =>
    intro S x hi ka ha hq
    refine wp_iload_6 dX10_paste_113 rfl ?_
    refine wp_iload_5 dX10_paste_115 rfl ?_
    refine wp_icmp_ge 147 dX10_paste_117 rfl rfl (fun c117 => ?_) (fun c117 => ?_)
    · exact absurd c117 (nI_ge (by omega) (by omega))
    · refine wp_aload_0 dX10_paste_120 rfl ?_
      refine wp_getf dX10_paste_121 rfl q1877 fk10_46 (mg_0 hm) rfl ?_
      refine wp_iload_6 dX10_paste_124 rfl ?_
      refine wp_aload_0 dX10_paste_126 rfl ?_
      refine wp_getf dX10_paste_127 rfl q1876 fk10_45 (mg_0 hm) rfl ?_
      refine wp_bipush 60 dX10_paste_130 rfl rfl ?_
      refine wp_iload_1 dX10_paste_132 rfl ?_
      refine wp_imul dX10_paste_133 rfl ?_
      refine wp_iload_2 dX10_paste_134 rfl ?_
      refine wp_iadd dX10_paste_135 rfl ?_
      refine wp_iload_6 dX10_paste_136 rfl ?_
      refine wp_iadd dX10_paste_138 rfl ?_
      refine wp_laloadn (60 * s + i + x) dX10_paste_139 rfl (mg_21 hm) (by simp only [nI_lit, pk_mul, nI_add]) (by omega) (by decide) ?_
      refine wp_lastoren x dX10_paste_140 rfl (mg_22 hm) rfl (by omega) (by decide) (ms_A22 hm) ?_
      refine wp_iinc_6 1 dX10_paste_141 rfl rfl (by decide) rfl ?_
      refine wp_goto 113 dX10_paste_144 rfl rfl ?_
      exact WP.cast (by rw [nI_1]) (ih (sL 22 x (S.2.2.1 21 (60 * s + i + x)) S) (x + 1) (by omega) (ka.tr (KA.lng _ _ _ _ (Or.inr (by decide)))) (fun y hy => by
        rw [sL_s]
        simp only [vp_updL]
        by_cases q : y = x
        · rw [if_pos q, q]; exact congrFun (ka.2.2 rfl) _
        · rw [if_neg q]; exact ha y (by omega)) hq)
theorem mL_paste2 {g : GW} {M : Nat} {pre post : AH} (hm : pre.length = M) {S0 : SM} {s i t k2 n2 : Nat} (h4 : s < 4) (t4 : t < 4) (n31 : n2 ≤ 60) (hin : i + n2 ≤ 60) (hkn : k2 + n2 ≤ 60) {nu : LT} {c n : Nat} {Q : Option Value → AH → Prop} : ∀ (k : Nat) (S : SM) (x : Nat), x + k = n2 → KA [] [] [1] S0 S → (∀ y, y < n2 → S.2.2.1 22 y = nu (60 * s + i + y)) → S.2.2.1 21 = paN nu s i t k2 x → (∀ S', KA [] [] [1] S0 S' → S'.2.2.1 21 = paN nu s i t k2 n2 → Q (some (.int 0)) (mH M pre S' post)) → WP g 3 yX10_paste cX10_paste 7 (some .int) 150 [some (.ref M), some (.int (nI s)), some (.int (nI i)), some (.int (nI t)), some (.int (nI k2)), some (.int (nI n2)), some (.int (nI x))] [] (mH M pre S post) c n Q := by
  intro k
  induction k with
  | zero =>
    intro S x hi ka ha hb hq
    refine wp_iload_6 dX10_paste_150 rfl ?_
    refine wp_iload_5 dX10_paste_152 rfl ?_
    refine wp_icmp_ge 185 dX10_paste_154 rfl rfl (fun c154 => ?_) (fun c154 => ?_)
    · refine wp_iconst 0 dX10_paste_185 rfl rfl ?_
      exact wp_ireturn dX10_paste_186 rfl (hq S ka (by rw [hb, show x = n2 by omega]))
    · exact absurd (nI_le (show n2 ≤ x by omega) (by omega)) c154
  | succ k ih =>
    intro S x hi ka ha hb hq
    refine wp_iload_6 dX10_paste_150 rfl ?_
    refine wp_iload_5 dX10_paste_152 rfl ?_
    refine wp_icmp_ge 185 dX10_paste_154 rfl rfl (fun c154 => ?_) (fun c154 => ?_)
    · exact absurd c154 (nI_ge (by omega) (by omega))
    · refine wp_aload_0 dX10_paste_157 rfl ?_
      refine wp_getf dX10_paste_158 rfl q1876 fk10_45 (mg_0 hm) rfl ?_
      refine wp_bipush 60 dX10_paste_161 rfl rfl ?_
      refine wp_iload_3 dX10_paste_163 rfl ?_
      refine wp_imul dX10_paste_164 rfl ?_
      refine wp_iload_4 dX10_paste_165 rfl ?_
      refine wp_iadd dX10_paste_167 rfl ?_
      refine wp_iload_6 dX10_paste_168 rfl ?_
      refine wp_iadd dX10_paste_170 rfl ?_
      refine wp_aload_0 dX10_paste_171 rfl ?_
      refine wp_getf dX10_paste_172 rfl q1877 fk10_46 (mg_0 hm) rfl ?_
      refine wp_iload_6 dX10_paste_175 rfl ?_
      refine wp_laloadn x dX10_paste_177 rfl (mg_22 hm) rfl (by omega) (by decide) ?_
      refine wp_lastoren (60 * t + k2 + x) dX10_paste_178 rfl (mg_21 hm) (by simp only [nI_lit, pk_mul, nI_add]) (by omega) (by decide) (ms_A21 hm) ?_
      refine wp_iinc_6 1 dX10_paste_179 rfl rfl (by decide) rfl ?_
      refine wp_goto 150 dX10_paste_182 rfl rfl ?_
      exact WP.cast (by rw [nI_1]) (ih (sL 21 (60 * t + k2 + x) (S.2.2.1 22 x) S) (x + 1) (by omega) (ka.tr (KA.lng _ _ _ _ (Or.inl (by decide)))) (fun y hy => by rw [sL_o (by decide)]; exact ha y hy) (by
        rw [sL_s, hb, ha x (by omega)]
        funext j
        simp only [vp_updL, paN]
        by_cases q : j = 60 * t + k2 + x
        · rw [if_pos q, if_pos (by omega), q]; congr 1; omega
        · rw [if_neg q]; repeat' split
          all_goals first | rfl | (exfalso; omega)) hq)
theorem q_m_paste {g : GW} {M : Nat} {pre post : AH} {S : SM} (hm : pre.length = M) {x y v z w : Int32} (hwm : WFm (S.2.1 19)) : SP g 3 0 0 yX10_paste cX10_paste 7 (some .int) [.ref M, .int x, .int y, .int v, .int z, .int w] (mH M pre S post) (QV M pre post (.int (qpaste (slS S) x y v z w)) (fun S' => KA [] [] [1] S S' ∧ slS S' = wpaste (slS S) x y v z w)) := by
  refine SP.intro [some (.ref M), some (.int x), some (.int y), some (.int v), some (.int z), some (.int w), none] (pfn (by decide)) rfl (Nat.le_of_ble_eq_true rfl) ?_
  refine wp_iload_1 dX10_paste_0 rfl ?_
  refine wp_csR dX10_paste_1 rfl q2423 ms_X10_isSlot m_isSlot rfl rfl (Nat.le_of_ble_eq_true rfl) (Nat.le_of_ble_eq_true rfl) ?_
  refine wp_ifeq_b 14 dX10_paste_4 rfl rfl (fun c4 => ?_) (fun c4 => ?_)
  · refine wp_bipush (-2) dX10_paste_14 rfl rfl ?_
    exact wp_ireturn dX10_paste_16 rfl ⟨by rw [qpaste, if_neg (by simp [*])], S, rfl, KA.rf _ _ _ S, by rw [wpaste, if_neg (by rw [qpaste]; simp [*])]⟩
  · refine wp_iload_3 dX10_paste_7 rfl ?_
    refine wp_csR dX10_paste_8 rfl q2423 ms_X10_isSlot m_isSlot rfl rfl (Nat.le_of_ble_eq_true rfl) (Nat.le_of_ble_eq_true rfl) ?_
    refine wp_ifne_b 17 dX10_paste_11 rfl rfl (fun c11 => ?_) (fun c11 => ?_)
    · obtain ⟨s, h4, rfl⟩ := la_of c4
      obtain ⟨t, t4, rfl⟩ := la_of c11
      have hcs : (nI s).toNatClampNeg = s := nI_clamp (by omega)
      have hct : (nI t).toNatClampNeg = t := nI_clamp (by omega)
      refine wp_aload_0 dX10_paste_17 rfl ?_
      refine wp_getf dX10_paste_18 rfl q1874 fk10_43 (mg_0 hm) rfl ?_
      refine wp_iload_1 dX10_paste_21 rfl ?_
      refine wp_ialoadn s dX10_paste_22 rfl (mg_19 hm) rfl h4 (by decide) ?_
      refine wp_iconst (-1) dX10_paste_23 rfl rfl ?_
      refine wp_icmp_eq 37 dX10_paste_24 rfl rfl (fun c24 => ?_) (fun c24 => ?_)
      · have h6 : (slS S).1 s = -1 ∨ (slS S).1 t = -1 := by first | exact Or.inl c24 | exact Or.inr c34
        refine wp_bipush (-6) dX10_paste_37 rfl rfl ?_
        exact wp_ireturn dX10_paste_39 rfl ⟨by rw [qpaste, if_pos (show laL (nI s) = true ∧ laL (nI t) = true from ⟨c4, c11⟩), hcs, hct, if_pos h6], S, rfl, KA.rf _ _ _ S, by rw [wpaste, qpaste, if_pos (show laL (nI s) = true ∧ laL (nI t) = true from ⟨c4, c11⟩), hcs, hct, if_pos h6, if_neg (by decide)]⟩
      · refine wp_aload_0 dX10_paste_27 rfl ?_
        refine wp_getf dX10_paste_28 rfl q1874 fk10_43 (mg_0 hm) rfl ?_
        refine wp_iload_3 dX10_paste_31 rfl ?_
        refine wp_ialoadn t dX10_paste_32 rfl (mg_19 hm) rfl t4 (by decide) ?_
        refine wp_iconst (-1) dX10_paste_33 rfl rfl ?_
        refine wp_icmp_ne 40 dX10_paste_34 rfl rfl (fun c34 => ?_) (fun c34 => ?_)
        · refine wp_aload_0 dX10_paste_40 rfl ?_
          refine wp_getf dX10_paste_41 rfl q1875 fk10_44 (mg_0 hm) rfl ?_
          refine wp_iload_1 dX10_paste_44 rfl ?_
          refine wp_ialoadn s dX10_paste_45 rfl (mg_20 hm) rfl h4 (by decide) ?_
          refine wp_aload_0 dX10_paste_46 rfl ?_
          refine wp_getf dX10_paste_47 rfl q1875 fk10_44 (mg_0 hm) rfl ?_
          refine wp_iload_3 dX10_paste_50 rfl ?_
          refine wp_ialoadn t dX10_paste_51 rfl (mg_20 hm) rfl t4 (by decide) ?_
          refine wp_icmp_eq 58 dX10_paste_52 rfl rfl (fun c52 => ?_) (fun c52 => ?_)
          · refine wp_iload_2 dX10_paste_58 rfl ?_
            refine wp_if_lt 107 dX10_paste_59 rfl rfl (fun c59 => ?_) (fun c59 => ?_)
            · have pb : pbB (S.2.1 19) s t y z w = true := by unfold pbB; first | (rw [decide_eq_true c59]; rfl) | (rw [decide_eq_true c64]; simp; done) | (rw [decide_eq_true c69]; simp; done) | (rw [decide_eq_true ((lg_cmp_gt _ _).mp c86)]; simp; done) | (rw [decide_eq_true ((lg_cmp_gt _ _).mp (Int32.not_le.mp c104))]; simp; done)
              refine wp_bipush (-7) dX10_paste_107 rfl rfl ?_
              exact wp_ireturn dX10_paste_109 rfl ⟨by rw [qpaste, if_pos (show laL (nI s) = true ∧ laL (nI t) = true from ⟨c4, c11⟩), hcs, hct, if_neg (show ¬ ((slS S).1 s = -1 ∨ (slS S).1 t = -1) from fun q => q.elim c24 c34), if_pos (show (slS S).2.1 s = (slS S).2.1 t from c52), if_pos (show pbB (slS S).1 s t y z w = true from pb)], S, rfl, KA.rf _ _ _ S, by rw [wpaste, qpaste, if_pos (show laL (nI s) = true ∧ laL (nI t) = true from ⟨c4, c11⟩), hcs, hct, if_neg (show ¬ ((slS S).1 s = -1 ∨ (slS S).1 t = -1) from fun q => q.elim c24 c34), if_pos (show (slS S).2.1 s = (slS S).2.1 t from c52), if_pos (show pbB (slS S).1 s t y z w = true from pb), if_neg (by decide)]⟩
            · refine wp_iload_4 dX10_paste_62 rfl ?_
              refine wp_if_lt 107 dX10_paste_64 rfl rfl (fun c64 => ?_) (fun c64 => ?_)
              · have pb : pbB (S.2.1 19) s t y z w = true := by unfold pbB; first | (rw [decide_eq_true c59]; rfl) | (rw [decide_eq_true c64]; simp; done) | (rw [decide_eq_true c69]; simp; done) | (rw [decide_eq_true ((lg_cmp_gt _ _).mp c86)]; simp; done) | (rw [decide_eq_true ((lg_cmp_gt _ _).mp (Int32.not_le.mp c104))]; simp; done)
                refine wp_bipush (-7) dX10_paste_107 rfl rfl ?_
                exact wp_ireturn dX10_paste_109 rfl ⟨by rw [qpaste, if_pos (show laL (nI s) = true ∧ laL (nI t) = true from ⟨c4, c11⟩), hcs, hct, if_neg (show ¬ ((slS S).1 s = -1 ∨ (slS S).1 t = -1) from fun q => q.elim c24 c34), if_pos (show (slS S).2.1 s = (slS S).2.1 t from c52), if_pos (show pbB (slS S).1 s t y z w = true from pb)], S, rfl, KA.rf _ _ _ S, by rw [wpaste, qpaste, if_pos (show laL (nI s) = true ∧ laL (nI t) = true from ⟨c4, c11⟩), hcs, hct, if_neg (show ¬ ((slS S).1 s = -1 ∨ (slS S).1 t = -1) from fun q => q.elim c24 c34), if_pos (show (slS S).2.1 s = (slS S).2.1 t from c52), if_pos (show pbB (slS S).1 s t y z w = true from pb), if_neg (by decide)]⟩
              · refine wp_iload_5 dX10_paste_67 rfl ?_
                refine wp_if_lt 107 dX10_paste_69 rfl rfl (fun c69 => ?_) (fun c69 => ?_)
                · have pb : pbB (S.2.1 19) s t y z w = true := by unfold pbB; first | (rw [decide_eq_true c59]; rfl) | (rw [decide_eq_true c64]; simp; done) | (rw [decide_eq_true c69]; simp; done) | (rw [decide_eq_true ((lg_cmp_gt _ _).mp c86)]; simp; done) | (rw [decide_eq_true ((lg_cmp_gt _ _).mp (Int32.not_le.mp c104))]; simp; done)
                  refine wp_bipush (-7) dX10_paste_107 rfl rfl ?_
                  exact wp_ireturn dX10_paste_109 rfl ⟨by rw [qpaste, if_pos (show laL (nI s) = true ∧ laL (nI t) = true from ⟨c4, c11⟩), hcs, hct, if_neg (show ¬ ((slS S).1 s = -1 ∨ (slS S).1 t = -1) from fun q => q.elim c24 c34), if_pos (show (slS S).2.1 s = (slS S).2.1 t from c52), if_pos (show pbB (slS S).1 s t y z w = true from pb)], S, rfl, KA.rf _ _ _ S, by rw [wpaste, qpaste, if_pos (show laL (nI s) = true ∧ laL (nI t) = true from ⟨c4, c11⟩), hcs, hct, if_neg (show ¬ ((slS S).1 s = -1 ∨ (slS S).1 t = -1) from fun q => q.elim c24 c34), if_pos (show (slS S).2.1 s = (slS S).2.1 t from c52), if_pos (show pbB (slS S).1 s t y z w = true from pb), if_neg (by decide)]⟩
                · refine wp_iload_2 dX10_paste_72 rfl ?_
                  refine wp_i2l dX10_paste_73 rfl ?_
                  refine wp_iload_5 dX10_paste_74 rfl ?_
                  refine wp_i2l dX10_paste_76 rfl ?_
                  refine wp_ladd dX10_paste_77 rfl ?_
                  refine wp_aload_0 dX10_paste_78 rfl ?_
                  refine wp_getf dX10_paste_79 rfl q1874 fk10_43 (mg_0 hm) rfl ?_
                  refine wp_iload_1 dX10_paste_82 rfl ?_
                  refine wp_ialoadn s dX10_paste_83 rfl (mg_19 hm) rfl h4 (by decide) ?_
                  refine wp_i2l dX10_paste_84 rfl ?_
                  refine wp_lcmp dX10_paste_85 rfl ?_
                  refine wp_if_gt 107 dX10_paste_86 rfl rfl (fun c86 => ?_) (fun c86 => ?_)
                  · have pb : pbB (S.2.1 19) s t y z w = true := by unfold pbB; first | (rw [decide_eq_true c59]; rfl) | (rw [decide_eq_true c64]; simp; done) | (rw [decide_eq_true c69]; simp; done) | (rw [decide_eq_true ((lg_cmp_gt _ _).mp c86)]; simp; done) | (rw [decide_eq_true ((lg_cmp_gt _ _).mp (Int32.not_le.mp c104))]; simp; done)
                    refine wp_bipush (-7) dX10_paste_107 rfl rfl ?_
                    exact wp_ireturn dX10_paste_109 rfl ⟨by rw [qpaste, if_pos (show laL (nI s) = true ∧ laL (nI t) = true from ⟨c4, c11⟩), hcs, hct, if_neg (show ¬ ((slS S).1 s = -1 ∨ (slS S).1 t = -1) from fun q => q.elim c24 c34), if_pos (show (slS S).2.1 s = (slS S).2.1 t from c52), if_pos (show pbB (slS S).1 s t y z w = true from pb)], S, rfl, KA.rf _ _ _ S, by rw [wpaste, qpaste, if_pos (show laL (nI s) = true ∧ laL (nI t) = true from ⟨c4, c11⟩), hcs, hct, if_neg (show ¬ ((slS S).1 s = -1 ∨ (slS S).1 t = -1) from fun q => q.elim c24 c34), if_pos (show (slS S).2.1 s = (slS S).2.1 t from c52), if_pos (show pbB (slS S).1 s t y z w = true from pb), if_neg (by decide)]⟩
                  · refine wp_iload_4 dX10_paste_89 rfl ?_
                    refine wp_i2l dX10_paste_91 rfl ?_
                    refine wp_iload_5 dX10_paste_92 rfl ?_
                    refine wp_i2l dX10_paste_94 rfl ?_
                    refine wp_ladd dX10_paste_95 rfl ?_
                    refine wp_aload_0 dX10_paste_96 rfl ?_
                    refine wp_getf dX10_paste_97 rfl q1874 fk10_43 (mg_0 hm) rfl ?_
                    refine wp_iload_3 dX10_paste_100 rfl ?_
                    refine wp_ialoadn t dX10_paste_101 rfl (mg_19 hm) rfl t4 (by decide) ?_
                    refine wp_i2l dX10_paste_102 rfl ?_
                    refine wp_lcmp dX10_paste_103 rfl ?_
                    refine wp_if_le 110 dX10_paste_104 rfl rfl (fun c104 => ?_) (fun c104 => ?_)
                    · have pbf : pbB (S.2.1 19) s t y z w = false := by unfold pbB; rw [decide_eq_false c59, decide_eq_false c64, decide_eq_false c69, decide_eq_false (fun q => c86 ((lg_cmp_gt _ _).mpr q)), decide_eq_false (fun q => absurd c104 (Int32.not_le.mpr ((lg_cmp_gt _ _).mpr q)))]; rfl
                      obtain ⟨i, hi31, rfl⟩ := nI_of c59
                      obtain ⟨k2, hk31, rfl⟩ := nI_of c64
                      obtain ⟨n2, hn31, rfl⟩ := nI_of c69
                      obtain ⟨hmy, m60⟩ := (hwm s h4).resolve_left c24
                      obtain ⟨hty, t60⟩ := (hwm t t4).resolve_left c34
                      have h1 : i + n2 ≤ mN (S.2.1 19) s := (n64_le hi31 hn31 (by omega)).mp (by rw [← hmy]; exact Int64.not_lt.mp (fun q => c86 ((lg_cmp_gt _ _).mpr q)))
                      have h2 : k2 + n2 ≤ mN (S.2.1 19) t := (n64_le hk31 hn31 (by omega)).mp (by rw [← hty]; exact Int64.not_lt.mp (fun q => absurd c104 (Int32.not_le.mpr ((lg_cmp_gt _ _).mpr q))))
                      refine wp_iconst 0 dX10_paste_110 rfl rfl ?_
                      refine wp_istore_6 dX10_paste_111 rfl (by decide) rfl ?_
                      refine mL_paste1 (S0 := S) (i := i) (k2 := k2) hm h4 t4 (by omega) (by omega) (by omega) n2 S 0 (Nat.zero_add _) (KA.rf _ _ _ S) (fun y hy => absurd hy (Nat.not_lt_zero y)) (fun S1 k1 e1 => ?_)
                      refine wp_iconst 0 dX10_paste_147 rfl rfl ?_
                      refine wp_istore_6 dX10_paste_148 rfl (by decide) rfl ?_
                      refine mL_paste2 (S0 := S) (nu := S.2.2.1 21) (i := i) (k2 := k2) hm h4 t4 (by omega) (by omega) (by omega) n2 S1 0 (Nat.zero_add _) ⟨k1.1, k1.2.1, fun q => absurd q (by decide)⟩ e1 (by rw [k1.2.2 rfl]; funext j; simp only [paN]; rw [if_neg (by omega)]) (fun S3 k3 e3 => ?_)
                      exact (by
                        have hz : qpaste (slS S) (nI s) (nI i) (nI t) (nI k2) (nI n2) = 0 := by rw [qpaste, if_pos (show laL (nI s) = true ∧ laL (nI t) = true from ⟨c4, c11⟩), hcs, hct, if_neg (show ¬ ((slS S).1 s = -1 ∨ (slS S).1 t = -1) from fun q => q.elim c24 c34), if_pos (show (slS S).2.1 s = (slS S).2.1 t from c52), if_neg (by rw [show pbB (slS S).1 s t (nI i) (nI k2) (nI n2) = false from pbf]; decide)]
                        refine ⟨by rw [hz], S3, rfl, k3, ?_⟩
                        rw [wpaste, if_pos hz, hcs, hct, nI_clamp (by omega), nI_clamp (by omega), nI_clamp (by omega)]
                        show slS S3 = (S.2.1 19, S.2.1 20, paN (S.2.2.1 21) s i t k2 n2)
                        rw [← e3, ← k3.2.1 19 (by decide) (by decide), ← k3.2.1 20 (by decide) (by decide)]
                        rfl)
                    · have pb : pbB (S.2.1 19) s t y z w = true := by unfold pbB; first | (rw [decide_eq_true c59]; rfl) | (rw [decide_eq_true c64]; simp; done) | (rw [decide_eq_true c69]; simp; done) | (rw [decide_eq_true ((lg_cmp_gt _ _).mp c86)]; simp; done) | (rw [decide_eq_true ((lg_cmp_gt _ _).mp (Int32.not_le.mp c104))]; simp; done)
                      refine wp_bipush (-7) dX10_paste_107 rfl rfl ?_
                      exact wp_ireturn dX10_paste_109 rfl ⟨by rw [qpaste, if_pos (show laL (nI s) = true ∧ laL (nI t) = true from ⟨c4, c11⟩), hcs, hct, if_neg (show ¬ ((slS S).1 s = -1 ∨ (slS S).1 t = -1) from fun q => q.elim c24 c34), if_pos (show (slS S).2.1 s = (slS S).2.1 t from c52), if_pos (show pbB (slS S).1 s t y z w = true from pb)], S, rfl, KA.rf _ _ _ S, by rw [wpaste, qpaste, if_pos (show laL (nI s) = true ∧ laL (nI t) = true from ⟨c4, c11⟩), hcs, hct, if_neg (show ¬ ((slS S).1 s = -1 ∨ (slS S).1 t = -1) from fun q => q.elim c24 c34), if_pos (show (slS S).2.1 s = (slS S).2.1 t from c52), if_pos (show pbB (slS S).1 s t y z w = true from pb), if_neg (by decide)]⟩
          · refine wp_bipush (-8) dX10_paste_55 rfl rfl ?_
            exact wp_ireturn dX10_paste_57 rfl ⟨by rw [qpaste, if_pos (show laL (nI s) = true ∧ laL (nI t) = true from ⟨c4, c11⟩), hcs, hct, if_neg (show ¬ ((slS S).1 s = -1 ∨ (slS S).1 t = -1) from fun q => q.elim c24 c34), if_neg (show ¬ (slS S).2.1 s = (slS S).2.1 t from c52)], S, rfl, KA.rf _ _ _ S, by rw [wpaste, qpaste, if_pos (show laL (nI s) = true ∧ laL (nI t) = true from ⟨c4, c11⟩), hcs, hct, if_neg (show ¬ ((slS S).1 s = -1 ∨ (slS S).1 t = -1) from fun q => q.elim c24 c34), if_neg (show ¬ (slS S).2.1 s = (slS S).2.1 t from c52), if_neg (by decide)]⟩
        · have h6 : (slS S).1 s = -1 ∨ (slS S).1 t = -1 := by first | exact Or.inl c24 | exact Or.inr c34
          refine wp_bipush (-6) dX10_paste_37 rfl rfl ?_
          exact wp_ireturn dX10_paste_39 rfl ⟨by rw [qpaste, if_pos (show laL (nI s) = true ∧ laL (nI t) = true from ⟨c4, c11⟩), hcs, hct, if_pos h6], S, rfl, KA.rf _ _ _ S, by rw [wpaste, qpaste, if_pos (show laL (nI s) = true ∧ laL (nI t) = true from ⟨c4, c11⟩), hcs, hct, if_pos h6, if_neg (by decide)]⟩
    · refine wp_bipush (-2) dX10_paste_14 rfl rfl ?_
      exact wp_ireturn dX10_paste_16 rfl ⟨by rw [qpaste, if_neg (by simp [*])], S, rfl, KA.rf _ _ _ S, by rw [wpaste, if_neg (by rw [qpaste]; simp [*])]⟩
theorem mL_image {g : GW} {M : Nat} {pre post : AH} (hm : pre.length = M) {S0 : SM} {p : Nat} (hp : p ≤ 2) {c n : Nat} {Q : Option Value → AH → Prop} : ∀ (k : Nat) (S : SM) (i : Nat), i + k = 116 → KA [] [2] [] S0 S → (∀ S', KA [] [2] [] S0 S' → S'.2.1 2 = itr (imF (wd S0) p) k i (S.2.1 2) → WP g 3 yX10_image cX10_image 3 (some .int) 46 [some (.ref M), some (.int (nI p)), some (.int (nI 116))] [] (mH M pre S' post) c n Q) → WP g 3 yX10_image cX10_image 3 (some .int) 17 [some (.ref M), some (.int (nI p)), some (.int (nI i))] [] (mH M pre S post) c n Q := by
  intro k
  induction k with
  | zero =>
    intro S i hi ka hq
    refine wp_iload_2 dX10_image_17 rfl ?_
    refine wp_bipush 116 dX10_image_18 rfl rfl ?_
    refine wp_icmp_ge 46 dX10_image_20 rfl rfl (fun c20 => ?_) (fun c20 => ?_)
    · obtain rfl : i = 116 := by omega
      exact hq S ka rfl
    · exact absurd (show (116 : Int32) ≤ nI i by rw [show i = 116 by omega]; decide) c20
  | succ k ih =>
    intro S i hi ka hq
    refine wp_iload_2 dX10_image_17 rfl ?_
    refine wp_bipush 116 dX10_image_18 rfl rfl ?_
    refine wp_icmp_ge 46 dX10_image_20 rfl rfl (fun c20 => ?_) (fun c20 => ?_)
    · exact absurd c20 (show ¬ ((116 : Int32) ≤ nI i) from nI_ge (a := i) (b := 116) (by omega) (by omega))
    · refine wp_aload_0 dX10_image_23 rfl ?_
      refine wp_getf dX10_image_24 rfl q1833 fk10_2 (mg_0 hm) rfl ?_
      refine wp_bipush 116 dX10_image_27 rfl rfl ?_
      refine wp_iload_1 dX10_image_29 rfl ?_
      refine wp_imul dX10_image_30 rfl ?_
      refine wp_iload_2 dX10_image_31 rfl ?_
      refine wp_iadd dX10_image_32 rfl ?_
      refine wp_aload_0 dX10_image_33 rfl ?_
      refine wp_getf dX10_image_34 rfl q1832 fk10_1 (mg_0 hm) rfl ?_
      refine wp_iload_2 dX10_image_37 rfl ?_
      refine wp_ialoadn i dX10_image_38 rfl (mg_1 hm) rfl (by omega) (by decide) ?_
      refine wp_iastoren (116 * p + i) dX10_image_39 rfl (mg_2 hm) (by simp only [nI_lit, pk_mul, nI_add]) (by omega) (by decide) (ms_A2 hm) ?_
      refine wp_iinc_2 1 dX10_image_40 rfl rfl (by decide) rfl ?_
      refine wp_goto 17 dX10_image_43 rfl rfl ?_
      exact WP.cast (by rw [nI_1]) (ih (sA 2 (116 * p + i) (S.2.1 1 i) S) (i + 1) (by omega) (ka.tr (KA.arr _ _ _ _ (Or.inl (by decide)))) (fun S2 k2 e2 => hq S2 k2 (by rw [e2, sA_s, show S.2.1 1 i = wd S0 i from congrFun (ka.2.1 1 (by decide) (by decide)) i]; rfl)))
theorem q_m_image {g : GW} {M : Nat} {pre post : AH} {S : SM} (hm : pre.length = M) {x : Int32} : SP g 3 0 0 yX10_image cX10_image 3 (some .int) [.ref M, .int x] (mH M pre S post) (QV M pre post (.int (qimage x)) (fun S' => KA [] [2, 3] [] S S' ∧ (if qimage x = 0 then (S'.2.1 2 = itr (imF (wd S) x.toNatClampNeg) 116 0 (S.2.1 2) ∧ S'.2.1 3 = upd (S.2.1 3) x.toNatClampNeg 1) else (S'.2.1 2 = S.2.1 2 ∧ S'.2.1 3 = S.2.1 3)))) := by
  refine SP.intro [some (.ref M), some (.int x), none] (pfn (by decide)) rfl (Nat.le_of_ble_eq_true rfl) ?_
  refine wp_iload_1 dX10_image_0 rfl ?_
  refine wp_i2l dX10_image_1 rfl ?_
  refine wp_lconst 0 dX10_image_2 rfl rfl ?_
  refine wp_ldc2_w dX10_image_3 rfl q1978 ?_
  refine wp_csR dX10_image_6 rfl q1979 ms_X10_in m_in rfl rfl (Nat.le_of_ble_eq_true rfl) (Nat.le_of_ble_eq_true rfl) ?_
  refine wp_ifne_b 15 dX10_image_9 rfl rfl (fun c9 => ?_) (fun c9 => ?_)
  · obtain ⟨p, hp, rfl⟩ := in2_of c9
    refine wp_iconst 0 dX10_image_15 rfl rfl ?_
    refine wp_istore_2 dX10_image_16 rfl (by decide) rfl ?_
    refine mL_image hm hp 116 S 0 rfl (KA.rf _ _ _ S) (fun S1 k1 e1 => ?_)
    refine wp_aload_0 dX10_image_46 rfl ?_
    refine wp_getf dX10_image_47 rfl q1834 fk10_3 (mg_0 hm) rfl ?_
    refine wp_iload_1 dX10_image_50 rfl ?_
    refine wp_iconst 1 dX10_image_51 rfl rfl ?_
    refine wp_zastoren p dX10_image_52 rfl (mg_3 hm) rfl (by omega) (by decide) (ms_A3 hm) ?_
    refine wp_iconst 0 dX10_image_53 rfl rfl ?_
    exact wp_ireturn dX10_image_54 rfl ⟨by rw [qimage, if_pos c9], _, rfl, KA.tr ⟨k1.1, fun j a b => k1.2.1 j a (fun q => b (by simp only [List.mem_cons, List.not_mem_nil, or_false] at q; subst q; decide)), k1.2.2⟩ (KA.arr 3 p _ S1 (Or.inl (by decide))), by rw [if_pos (by rw [qimage, if_pos c9])]; rw [nI_clamp (by omega), sA_s, sA_o (by decide), e1, k1.2.1 3 (by decide) (by decide)]; exact ⟨rfl, rfl⟩⟩
  · refine wp_bipush (-2) dX10_image_12 rfl rfl ?_
    exact wp_ireturn dX10_image_14 rfl ⟨by rw [qimage, if_neg (by simp [*])], S, rfl, KA.rf _ _ _ S, by rw [if_neg (by rw [qimage]; simp [*])]; exact ⟨rfl, rfl⟩⟩
theorem mL_back {g : GW} {M : Nat} {pre post : AH} (hm : pre.length = M) {S0 : SM} {p : Nat} (hp : p ≤ 2) {c n : Nat} {Q : Option Value → AH → Prop} : ∀ (k : Nat) (S : SM) (i : Nat), i + k = 116 → KA [] [1] [] S0 S → (∀ S', KA [] [1] [] S0 S' → wd S' = itr (baF2 (S0.2.1 2) p) k i (wd S) → Q (some (.int 0)) (mH M pre S' post)) → WP g 3 yX10_back cX10_back 3 (some .int) 29 [some (.ref M), some (.int (nI p)), some (.int (nI i))] [] (mH M pre S post) c n Q := by
  intro k
  induction k with
  | zero =>
    intro S i hi ka hq
    refine wp_iload_2 dX10_back_29 rfl ?_
    refine wp_bipush 116 dX10_back_30 rfl rfl ?_
    refine wp_icmp_ge 58 dX10_back_32 rfl rfl (fun c32 => ?_) (fun c32 => ?_)
    · refine wp_iconst 0 dX10_back_58 rfl rfl ?_
      exact wp_ireturn dX10_back_59 rfl (hq S ka rfl)
    · exact absurd (show (116 : Int32) ≤ nI i by rw [show i = 116 by omega]; decide) c32
  | succ k ih =>
    intro S i hi ka hq
    refine wp_iload_2 dX10_back_29 rfl ?_
    refine wp_bipush 116 dX10_back_30 rfl rfl ?_
    refine wp_icmp_ge 58 dX10_back_32 rfl rfl (fun c32 => ?_) (fun c32 => ?_)
    · exact absurd c32 (show ¬ ((116 : Int32) ≤ nI i) from nI_ge (a := i) (b := 116) (by omega) (by omega))
    · refine wp_aload_0 dX10_back_35 rfl ?_
      refine wp_getf dX10_back_36 rfl q1832 fk10_1 (mg_0 hm) rfl ?_
      refine wp_iload_2 dX10_back_39 rfl ?_
      refine wp_aload_0 dX10_back_40 rfl ?_
      refine wp_getf dX10_back_41 rfl q1833 fk10_2 (mg_0 hm) rfl ?_
      refine wp_bipush 116 dX10_back_44 rfl rfl ?_
      refine wp_iload_1 dX10_back_46 rfl ?_
      refine wp_imul dX10_back_47 rfl ?_
      refine wp_iload_2 dX10_back_48 rfl ?_
      refine wp_iadd dX10_back_49 rfl ?_
      refine wp_ialoadn (116 * p + i) dX10_back_50 rfl (mg_2 hm) (by simp only [nI_lit, pk_mul, nI_add]) (by omega) (by decide) ?_
      refine wp_iastoren i dX10_back_51 rfl (mg_1 hm) rfl (by omega) (by decide) (ms_A1 hm) ?_
      refine wp_iinc_2 1 dX10_back_52 rfl rfl (by decide) rfl ?_
      refine wp_goto 29 dX10_back_55 rfl rfl ?_
      exact WP.cast (by rw [nI_1]) (ih (sA 1 i (S.2.1 2 (116 * p + i)) S) (i + 1) (by omega) (ka.tr (KA.arr _ _ _ _ (Or.inl (by decide)))) (fun S2 k2 e2 => hq S2 k2 (by rw [e2, wd_sA, show S.2.1 2 (116 * p + i) = S0.2.1 2 (116 * p + i) from congrFun (ka.2.1 2 (by decide) (by decide)) _]; rfl)))
theorem q_m_back {g : GW} {M : Nat} {pre post : AH} {S : SM} (hm : pre.length = M) {x : Int32} : SP g 3 0 0 yX10_back cX10_back 3 (some .int) [.ref M, .int x] (mH M pre S post) (QV M pre post (.int (qback (S.2.1 3) x)) (fun S' => KA [] [1] [] S S' ∧ wd S' = if qback (S.2.1 3) x = 0 then itr (baF2 (S.2.1 2) x.toNatClampNeg) 116 0 (wd S) else wd S)) := by
  refine SP.intro [some (.ref M), some (.int x), none] (pfn (by decide)) rfl (Nat.le_of_ble_eq_true rfl) ?_
  refine wp_iload_1 dX10_back_0 rfl ?_
  refine wp_i2l dX10_back_1 rfl ?_
  refine wp_lconst 0 dX10_back_2 rfl rfl ?_
  refine wp_ldc2_w dX10_back_3 rfl q1978 ?_
  refine wp_csR dX10_back_6 rfl q1979 ms_X10_in m_in rfl rfl (Nat.le_of_ble_eq_true rfl) (Nat.le_of_ble_eq_true rfl) ?_
  refine wp_ifne_b 15 dX10_back_9 rfl rfl (fun c9 => ?_) (fun c9 => ?_)
  · obtain ⟨p, hp, rfl⟩ := in2_of c9
    refine wp_aload_0 dX10_back_15 rfl ?_
    refine wp_getf dX10_back_16 rfl q1834 fk10_3 (mg_0 hm) rfl ?_
    refine wp_iload_1 dX10_back_19 rfl ?_
    refine wp_zaloadn p dX10_back_20 rfl (mg_3 hm) rfl (by omega) (by decide) ?_
    refine wp_if_ne 27 dX10_back_21 rfl rfl (fun c21 => ?_) (fun c21 => ?_)
    · refine wp_iconst 0 dX10_back_27 rfl rfl ?_
      refine wp_istore_2 dX10_back_28 rfl (by decide) rfl ?_
      refine mL_back hm hp 116 S 0 rfl (KA.rf _ _ _ S) (fun S1 k1 e1 => ?_)
      have hz : qback (S.2.1 3) (nI p) = 0 := by rw [qback, if_pos c9, nI_clamp (by omega), if_neg c21]
      exact ⟨by rw [hz], S1, rfl, k1, by rw [if_pos hz, nI_clamp (by omega), e1]⟩
    · refine wp_bipush (-6) dX10_back_24 rfl rfl ?_
      exact wp_ireturn dX10_back_26 rfl ⟨by rw [qback, if_pos c9, nI_clamp (by omega), if_pos c21], S, rfl, KA.rf _ _ _ S, by rw [if_neg (by rw [qback, if_pos c9, nI_clamp (by omega), if_pos c21]; decide)]⟩
  · refine wp_bipush (-2) dX10_back_12 rfl rfl ?_
    exact wp_ireturn dX10_back_14 rfl ⟨by rw [qback, if_neg (by simp [*])], S, rfl, KA.rf _ _ _ S, by rw [if_neg (by rw [qback]; simp [*])]⟩
theorem mL_feed {g : GW} {M : Nat} {pre post : AH} (hm : pre.length = M) {S0 : SM} {x1 x2 x3 x4 x5 : Int32} {ta : Nat} (hta : ta + 20 ≤ 1200) (h50 : S0.1 5 = nI ta) {c n : Nat} {Q : Option Value → AH → Prop} : ∀ (k : Nat) (S : SM) (i : Nat), i + k = 20 → KA [] [4] [] S0 S → S.2.1 5 = S0.2.1 5 → (∀ S', KA [] [4] [] S0 S' → S'.2.1 4 = itr (teF (S0.2.1 5) ta) k i (S.2.1 4) → WP g 1 yX10_feed cX10_feed 7 (some .int) 101 [some (.ref M), some (.int x1), some (.int x2), some (.int x3), some (.int x4), some (.int x5), some (.int (nI 20))] [] (mH M pre S' post) c n Q) → WP g 1 yX10_feed cX10_feed 7 (some .int) 55 [some (.ref M), some (.int x1), some (.int x2), some (.int x3), some (.int x4), some (.int x5), some (.int (nI i))] [] (mH M pre S post) c n Q := by
  intro k
  induction k with
  | zero =>
    intro S i hi ka h55 hq
    have h5 : S.1 5 = nI ta := (ka.1 5 (by decide) (by decide)).trans h50
    refine wp_iload_6 dX10_feed_55 rfl ?_
    refine wp_bipush 20 dX10_feed_57 rfl rfl ?_
    refine wp_icmp_ge 101 dX10_feed_59 rfl rfl (fun c59 => ?_) (fun c59 => ?_)
    · obtain rfl : i = 20 := by omega
      exact hq S ka rfl
    · exact absurd (show (20 : Int32) ≤ nI i by rw [show i = 20 by omega]; decide) c59
  | succ k ih =>
    intro S i hi ka h55 hq
    have h5 : S.1 5 = nI ta := (ka.1 5 (by decide) (by decide)).trans h50
    refine wp_iload_6 dX10_feed_55 rfl ?_
    refine wp_bipush 20 dX10_feed_57 rfl rfl ?_
    refine wp_icmp_ge 101 dX10_feed_59 rfl rfl (fun c59 => ?_) (fun c59 => ?_)
    · exact absurd c59 (show ¬ ((20 : Int32) ≤ nI i) from nI_ge (a := i) (b := 20) (by omega) (by omega))
    · refine wp_aload_0 dX10_feed_62 rfl ?_
      refine wp_getf dX10_feed_63 rfl q1835 fk10_4 (mg_0 hm) rfl ?_
      refine wp_aload_0 dX10_feed_66 rfl ?_
      refine wp_getf dX10_feed_67 rfl q1836 fk10_5 (mg_0 hm) rfl ?_
      refine wp_iload_6 dX10_feed_70 rfl ?_
      refine wp_iadd dX10_feed_72 rfl ?_
      refine wp_aload_0 dX10_feed_73 rfl ?_
      refine wp_getf dX10_feed_74 rfl q1837 fk10_6 (mg_0 hm) rfl ?_
      refine wp_iload_6 dX10_feed_77 rfl ?_
      refine wp_iconst 4 dX10_feed_79 rfl rfl ?_
      refine wp_idiv dX10_feed_80 rfl (by decide) ?_
      rw [show nI i / 4 = nI (i / 4) from pk_div (d := 4) (by omega) (by omega) (by omega)]
      refine wp_ialoadn (i / 4) dX10_feed_81 rfl (mg_5 hm) rfl (by omega) (by decide) ?_
      refine wp_bipush 24 dX10_feed_82 rfl rfl ?_
      refine wp_bipush 8 dX10_feed_84 rfl rfl ?_
      refine wp_iload_6 dX10_feed_86 rfl ?_
      refine wp_iconst 4 dX10_feed_88 rfl rfl ?_
      refine wp_irem dX10_feed_89 rfl (by decide) ?_
      rw [show nI i - nI i / 4 * 4 = nI (i % 4) from pk_rem (d := 4) (by omega) (by omega) (by omega)]
      refine wp_imul dX10_feed_90 rfl ?_
      refine wp_isub dX10_feed_91 rfl ?_
      refine wp_ishr dX10_feed_92 rfl ?_
      refine wp_i2b dX10_feed_93 rfl ?_
      refine wp_bastoren (ta + i) dX10_feed_94 rfl (mg_4 hm) (by rw [h5]; exact nI_add _ _) (by omega) (by decide) (ms_A4 hm) ?_
      refine wp_iinc_6 1 dX10_feed_95 rfl rfl (by decide) rfl ?_
      refine wp_goto 55 dX10_feed_98 rfl rfl ?_
      exact WP.cast (by rw [nI_1]) (ih (sA 4 (ta + i) _ S) (i + 1) (by omega) (ka.tr (KA.arr _ _ _ _ (Or.inl (by decide)))) (by rw [sA_o (by decide)]; exact h55) (fun S2 k2 e2 => hq S2 k2 (by rw [e2, sA_s, h55]; show itr _ k (i + 1) (upd _ _ _) = itr _ k (i + 1) (teF _ _ _ _); rw [teF, bit8, nar_b])))
theorem q_m_feed {g : GW} {M : Nat} {pre post : AH} {S : SM} (hm : pre.length = M) {x1 x2 x3 x4 x5 : Int32} {ta : Nat} (h50 : S.1 5 = nI ta) (hta : ta ≤ 1200) : SP g 1 0 0 yX10_feed cX10_feed 7 (some .int) [.ref M, .int x1, .int x2, .int x3, .int x4, .int x5] (mH M pre S post) (QV M pre post (.int (qfeed (S.1 5))) (fun S' => KA [5] [4] [] S S' ∧ S'.1 5 = (if S.1 5 + 20 ≤ 1200 then S.1 5 + 20 else S.1 5) ∧ S'.2.1 4 = if S.1 5 + 20 ≤ 1200 then itr (teF (fiv x1 x2 x3 x4 x5) ta) 20 0 (S.2.1 4) else S.2.1 4)) := by
  refine SP.intro [some (.ref M), some (.int x1), some (.int x2), some (.int x3), some (.int x4), some (.int x5), none] (pfn (by decide)) rfl (Nat.le_of_ble_eq_true rfl) ?_
  refine wp_aload_0 dX10_feed_0 rfl ?_
  refine wp_getf dX10_feed_1 rfl q1836 fk10_5 (mg_0 hm) rfl ?_
  refine wp_bipush 20 dX10_feed_4 rfl rfl ?_
  refine wp_iadd dX10_feed_6 rfl ?_
  refine wp_sipush 1200 dX10_feed_7 rfl rfl ?_
  refine wp_icmp_le 15 dX10_feed_10 rfl rfl (fun c10 => ?_) (fun c10 => ?_)
  · refine wp_aload_0 dX10_feed_15 rfl ?_
    refine wp_getf dX10_feed_16 rfl q1837 fk10_6 (mg_0 hm) rfl ?_
    refine wp_iconst 0 dX10_feed_19 rfl rfl ?_
    refine wp_iload_1 dX10_feed_20 rfl ?_
    refine wp_iastoren 0 dX10_feed_21 rfl (mg_5 hm) rfl (by decide) (by decide) (ms_A5 hm) ?_
    refine wp_aload_0 dX10_feed_22 rfl ?_
    refine wp_getf dX10_feed_23 rfl q1837 fk10_6 (mg_0 hm) rfl ?_
    refine wp_iconst 1 dX10_feed_26 rfl rfl ?_
    refine wp_iload_2 dX10_feed_27 rfl ?_
    refine wp_iastoren 1 dX10_feed_28 rfl (mg_5 hm) rfl (by decide) (by decide) (ms_A5 hm) ?_
    refine wp_aload_0 dX10_feed_29 rfl ?_
    refine wp_getf dX10_feed_30 rfl q1837 fk10_6 (mg_0 hm) rfl ?_
    refine wp_iconst 2 dX10_feed_33 rfl rfl ?_
    refine wp_iload_3 dX10_feed_34 rfl ?_
    refine wp_iastoren 2 dX10_feed_35 rfl (mg_5 hm) rfl (by decide) (by decide) (ms_A5 hm) ?_
    refine wp_aload_0 dX10_feed_36 rfl ?_
    refine wp_getf dX10_feed_37 rfl q1837 fk10_6 (mg_0 hm) rfl ?_
    refine wp_iconst 3 dX10_feed_40 rfl rfl ?_
    refine wp_iload_4 dX10_feed_41 rfl ?_
    refine wp_iastoren 3 dX10_feed_43 rfl (mg_5 hm) rfl (by decide) (by decide) (ms_A5 hm) ?_
    refine wp_aload_0 dX10_feed_44 rfl ?_
    refine wp_getf dX10_feed_45 rfl q1837 fk10_6 (mg_0 hm) rfl ?_
    refine wp_iconst 4 dX10_feed_48 rfl rfl ?_
    refine wp_iload_5 dX10_feed_49 rfl ?_
    refine wp_iastoren 4 dX10_feed_51 rfl (mg_5 hm) rfl (by decide) (by decide) (ms_A5 hm) ?_
    refine wp_iconst 0 dX10_feed_52 rfl rfl ?_
    refine wp_istore_6 dX10_feed_53 rfl (by decide) rfl ?_
    have h20 : ta + 20 ≤ 1200 := by
      rw [h50, show (20 : Int32) = nI 20 from rfl, nI_add] at c10
      exact (nI_leI (b := 1200) (by omega) (by omega)).mp c10
    refine mL_feed (S0 := (sA 5 4 x5 (sA 5 3 x4 (sA 5 2 x3 (sA 5 1 x2 (sA 5 0 x1 S)))))) hm h20 h50 20 (sA 5 4 x5 (sA 5 3 x4 (sA 5 2 x3 (sA 5 1 x2 (sA 5 0 x1 S))))) 0 rfl (KA.rf _ _ _ _) rfl (fun S1 k1' e1 => ?_)
    have k1 : KA [] [4] [] S S1 := KA.tr (((((KA.arr 5 0 x1 S (Or.inr (by decide))).tr (KA.arr 5 1 x2 _ (Or.inr (by decide)))).tr (KA.arr 5 2 x3 _ (Or.inr (by decide)))).tr (KA.arr 5 3 x4 _ (Or.inr (by decide)))).tr (KA.arr 5 4 x5 _ (Or.inr (by decide)))) k1'
    refine wp_aload_0 dX10_feed_101 rfl ?_
    refine wp_dup dX10_feed_102 rfl rfl ?_
    refine wp_getf dX10_feed_103 rfl q1836 fk10_5 (mg_0 hm) rfl ?_
    refine wp_bipush 20 dX10_feed_106 rfl rfl ?_
    refine wp_iadd dX10_feed_108 rfl ?_
    refine wp_putf dX10_feed_109 rfl q1836 fp10_5 (mg_0 hm) rfl rfl (Nat.le_of_ble_eq_true rfl) (ms_F5 hm) ?_
    refine wp_aload_0 dX10_feed_112 rfl ?_
    refine wp_getf dX10_feed_113 rfl q1836 fk10_5 (mg_0 hm) rfl ?_
    exact wp_ireturn dX10_feed_116 rfl (by
  have e5 : S1.1 5 = S.1 5 := k1.1 5 (by decide) (by decide)
  refine ⟨by rw [qfeed, if_pos c10]; simp [sF, upd, e5], _, rfl, KA.tr ⟨fun k a _ => k1.1 k a (by simp), k1.2.1, k1.2.2⟩ (KA.fld 5 _ S1 (Or.inl (by decide))), by rw [if_pos c10]; simp [sF, upd, e5], ?_⟩
  rw [if_pos c10]
  show S1.2.1 4 = _
  rw [e1]
  exact te_eq (fun i hi => by
    match i, hi with
    | 0, _ => rfl
    | 1, _ => rfl
    | 2, _ => rfl
    | 3, _ => rfl
    | 4, _ => rfl) ta _)
  · refine wp_iconst (-1) dX10_feed_13 rfl rfl ?_
    exact wp_ireturn dX10_feed_14 rfl ⟨by rw [qfeed, if_neg c10], S, rfl, KA.rf _ _ _ S, by rw [if_neg c10], by rw [if_neg c10]⟩
theorem q_m_end {g : GW} {M : Nat} {pre post : AH} {S : SM} (hm : pre.length = M) {x : Int32} : SP g 2 0 0 yX10_end cX10_end 2 (some .int) [.ref M, .int x] (mH M pre S post) (QV M pre post (.int ((if inI x 0 (S.1 5) = true then x else -1))) (fun S' => KA [5] [] [] S S' ∧ S'.1 5 = if inI x 0 (S.1 5) = true then x else S.1 5)) := by
  refine SP.intro [some (.ref M), some (.int x)] (pfn (by decide)) rfl (Nat.le_of_ble_eq_true rfl) ?_
  refine wp_iload_1 dX10_end_0 rfl ?_
  refine wp_i2l dX10_end_1 rfl ?_
  refine wp_lconst 0 dX10_end_2 rfl rfl ?_
  refine wp_aload_0 dX10_end_3 rfl ?_
  refine wp_getf dX10_end_4 rfl q1836 fk10_5 (mg_0 hm) rfl ?_
  refine wp_i2l dX10_end_7 rfl ?_
  refine wp_csR dX10_end_8 rfl q1979 ms_X10_in m_in rfl rfl (Nat.le_of_ble_eq_true rfl) (Nat.le_of_ble_eq_true rfl) ?_
  rw [show inL x.toInt64 0 (S.1 5).toInt64 = inI x 0 (S.1 5) from inL_i x 0 _]
  refine wp_ifne_b 16 dX10_end_11 rfl rfl (fun c11 => ?_) (fun c11 => ?_)
  · refine wp_aload_0 dX10_end_16 rfl ?_
    refine wp_iload_1 dX10_end_17 rfl ?_
    refine wp_putf dX10_end_18 rfl q1836 fp10_5 (mg_0 hm) rfl rfl (Nat.le_of_ble_eq_true rfl) (ms_F5 hm) ?_
    refine wp_iload_1 dX10_end_21 rfl ?_
    exact wp_ireturn dX10_end_22 rfl ⟨by rw [if_pos c11], _, rfl, KA.fld 5 x S (Or.inl (by decide)), by rw [if_pos c11]; rfl⟩
  · refine wp_iconst (-1) dX10_end_14 rfl rfl ?_
    exact wp_ireturn dX10_end_15 rfl ⟨by rw [if_neg (by rw [c11]; decide)], S, rfl, KA.rf _ _ _ S, by rw [if_neg (by rw [c11]; decide)]⟩
theorem q_m_fault {g : GW} {M : Nat} {pre post : AH} {S : SM} (hm : pre.length = M) {x : Int32} : SP g 1 0 0 yX10_fault cX10_fault 2 (some .int) [.ref M, .int x] (mH M pre S post) (QM M pre post S (.int ((if x = 0 then S.1 12 else if x = 1 then S.1 13 else -1)))) := by
  refine SP.intro [some (.ref M), some (.int x)] (pfn (by decide)) rfl (Nat.le_of_ble_eq_true rfl) ?_
  refine wp_iload_1 dX10_fault_0 rfl ?_
  refine wp_if_ne 11 dX10_fault_1 rfl rfl (fun c1 => ?_) (fun c1 => ?_)
  · refine wp_iload_1 dX10_fault_11 rfl ?_
    refine wp_iconst 1 dX10_fault_12 rfl rfl ?_
    refine wp_icmp_ne 23 dX10_fault_13 rfl rfl (fun c13 => ?_) (fun c13 => ?_)
    · refine wp_iconst (-1) dX10_fault_23 rfl rfl ?_
      exact wp_ireturn dX10_fault_24 rfl ⟨by simp [*], S, rfl, KP.rf S⟩
    · refine wp_aload_0 dX10_fault_16 rfl ?_
      refine wp_getf dX10_fault_17 rfl q1844 fk10_13 (mg_0 hm) rfl ?_
      refine wp_goto 24 dX10_fault_20 rfl rfl ?_
      exact wp_ireturn dX10_fault_24 rfl ⟨by simp [*], S, rfl, KP.rf S⟩
  · refine wp_aload_0 dX10_fault_4 rfl ?_
    refine wp_getf dX10_fault_5 rfl q1843 fk10_12 (mg_0 hm) rfl ?_
    refine wp_goto 24 dX10_fault_8 rfl rfl ?_
    exact wp_ireturn dX10_fault_24 rfl ⟨by simp [*], S, rfl, KP.rf S⟩
theorem mL_count {g : GW} {M : Nat} {pre post : AH} {S : SM} (hm : pre.length = M) {x : Int32} {c n : Nat} {Q : Option Value → AH → Prop} : ∀ (k : Nat) (i : Nat) (a : Int32), i + k = 4 → Q (some (.int (itr (fun s n => n + (if S.2.1 19 s = -1 then 0 else 1)) k i a))) (mH M pre S post) → WP g 1 yX10_count cX10_count 4 (some .int) 134 [some (.ref M), some (.int x), some (.int a), some (.int (nI i))] [] (mH M pre S post) c n Q := by
  intro k
  induction k with
  | zero =>
    intro i a hi hq
    refine wp_iload_3 dX10_count_134 rfl ?_
    refine wp_iconst 4 dX10_count_135 rfl rfl ?_
    refine wp_icmp_ge 163 dX10_count_136 rfl rfl (fun c136 => ?_) (fun c136 => ?_)
    · refine wp_iload_2 dX10_count_163 rfl ?_
      exact wp_ireturn dX10_count_164 rfl hq
    · exact absurd (show (4 : Int32) ≤ nI i by rw [show i = 4 by omega]; decide) c136
  | succ k ih =>
    intro i a hi hq
    refine wp_iload_3 dX10_count_134 rfl ?_
    refine wp_iconst 4 dX10_count_135 rfl rfl ?_
    refine wp_icmp_ge 163 dX10_count_136 rfl rfl (fun c136 => ?_) (fun c136 => ?_)
    · exact absurd c136 (show ¬ ((4 : Int32) ≤ nI i) from nI_ge (a := i) (b := 4) (by omega) (by omega))
    · refine wp_iload_2 dX10_count_139 rfl ?_
      refine wp_aload_0 dX10_count_140 rfl ?_
      refine wp_getf dX10_count_141 rfl q1874 fk10_43 (mg_0 hm) rfl ?_
      refine wp_iload_3 dX10_count_144 rfl ?_
      refine wp_ialoadn i dX10_count_145 rfl (mg_19 hm) rfl (by omega) (by decide) ?_
      refine wp_iconst (-1) dX10_count_146 rfl rfl ?_
      refine wp_icmp_ne 154 dX10_count_147 rfl rfl (fun c147 => ?_) (fun c147 => ?_)
      · refine wp_iconst 1 dX10_count_154 rfl rfl ?_
        refine wp_iadd dX10_count_155 rfl ?_
        refine wp_istore_2 dX10_count_156 rfl (by decide) rfl ?_
        refine wp_iinc_3 1 dX10_count_157 rfl rfl (by decide) rfl ?_
        refine wp_goto 134 dX10_count_160 rfl rfl ?_
        exact WP.cast (by simp only [nI_1]; first | rw [if_pos c147] | rw [if_neg c147]) (ih (i + 1) ((fun s n => n + (if S.2.1 19 s = -1 then 0 else 1)) i a) (by omega) hq)
      · refine wp_iconst 0 dX10_count_150 rfl rfl ?_
        refine wp_goto 155 dX10_count_151 rfl rfl ?_
        refine wp_iadd dX10_count_155 rfl ?_
        refine wp_istore_2 dX10_count_156 rfl (by decide) rfl ?_
        refine wp_iinc_3 1 dX10_count_157 rfl rfl (by decide) rfl ?_
        refine wp_goto 134 dX10_count_160 rfl rfl ?_
        exact WP.cast (by simp only [nI_1]; first | rw [if_pos c147] | rw [if_neg c147]) (ih (i + 1) ((fun s n => n + (if S.2.1 19 s = -1 then 0 else 1)) i a) (by omega) hq)
theorem q_m_count {g : GW} {M : Nat} {pre post : AH} {S : SM} (hm : pre.length = M) {x : Int32} : SP g 1 0 0 yX10_count cX10_count 4 (some .int) [.ref M, .int x] (mH M pre S post) (QM M pre post S (.int (qcount (wd S) (S.2.1 19) (S.1 5) x))) := by
  refine SP.intro [some (.ref M), some (.int x), none, none] (pfn (by decide)) rfl (Nat.le_of_ble_eq_true rfl) ?_
  refine wp_iconst 0 dX10_count_0 rfl rfl ?_
  refine wp_istore_2 dX10_count_1 rfl (by decide) rfl ?_
  refine wp_iload_1 dX10_count_2 rfl ?_
  by_cases hx : inI x 0 10 = true
  · obtain ⟨j, hj, rfl⟩ := in_ofk (n := 10) (by omega) (show inL x.toInt64 0 (nI 10).toInt64 = true by rw [inL_0]; exact hx)
    match j, hj with
    | 0, _ =>
      refine wp_swIn 60 dX10_count_3 rfl (by decide) (by decide) rfl rfl ?_
      refine wp_aload_0 dX10_count_60 rfl ?_
      refine wp_getf dX10_count_61 rfl q1832 fk10_1 (mg_0 hm) rfl ?_
      refine wp_iconst 0 dX10_count_64 rfl rfl ?_
      refine wp_ialoadn 0 dX10_count_65 rfl (mg_1 hm) rfl (by decide) (by decide) ?_
      exact wp_ireturn dX10_count_66 rfl ⟨rfl, S, rfl, KP.rf S⟩
    | 1, _ =>
      refine wp_swIn 67 dX10_count_3 rfl (by decide) (by decide) rfl rfl ?_
      refine wp_aload_0 dX10_count_67 rfl ?_
      refine wp_getf dX10_count_68 rfl q1832 fk10_1 (mg_0 hm) rfl ?_
      refine wp_iconst 1 dX10_count_71 rfl rfl ?_
      refine wp_ialoadn 1 dX10_count_72 rfl (mg_1 hm) rfl (by decide) (by decide) ?_
      exact wp_ireturn dX10_count_73 rfl ⟨rfl, S, rfl, KP.rf S⟩
    | 2, _ =>
      refine wp_swIn 74 dX10_count_3 rfl (by decide) (by decide) rfl rfl ?_
      refine wp_aload_0 dX10_count_74 rfl ?_
      refine wp_getf dX10_count_75 rfl q1832 fk10_1 (mg_0 hm) rfl ?_
      refine wp_iconst 2 dX10_count_78 rfl rfl ?_
      refine wp_ialoadn 2 dX10_count_79 rfl (mg_1 hm) rfl (by decide) (by decide) ?_
      exact wp_ireturn dX10_count_80 rfl ⟨rfl, S, rfl, KP.rf S⟩
    | 3, _ =>
      refine wp_swIn 81 dX10_count_3 rfl (by decide) (by decide) rfl rfl ?_
      refine wp_aload_0 dX10_count_81 rfl ?_
      refine wp_getf dX10_count_82 rfl q1832 fk10_1 (mg_0 hm) rfl ?_
      refine wp_iconst 3 dX10_count_85 rfl rfl ?_
      refine wp_ialoadn 3 dX10_count_86 rfl (mg_1 hm) rfl (by decide) (by decide) ?_
      exact wp_ireturn dX10_count_87 rfl ⟨rfl, S, rfl, KP.rf S⟩
    | 4, _ =>
      refine wp_swIn 88 dX10_count_3 rfl (by decide) (by decide) rfl rfl ?_
      refine wp_aload_0 dX10_count_88 rfl ?_
      refine wp_getf dX10_count_89 rfl q1832 fk10_1 (mg_0 hm) rfl ?_
      refine wp_iconst 5 dX10_count_92 rfl rfl ?_
      refine wp_ialoadn 5 dX10_count_93 rfl (mg_1 hm) rfl (by decide) (by decide) ?_
      exact wp_ireturn dX10_count_94 rfl ⟨rfl, S, rfl, KP.rf S⟩
    | 5, _ =>
      refine wp_swIn 95 dX10_count_3 rfl (by decide) (by decide) rfl rfl ?_
      refine wp_aload_0 dX10_count_95 rfl ?_
      refine wp_getf dX10_count_96 rfl q1832 fk10_1 (mg_0 hm) rfl ?_
      refine wp_bipush 6 dX10_count_99 rfl rfl ?_
      refine wp_ialoadn 6 dX10_count_101 rfl (mg_1 hm) rfl (by decide) (by decide) ?_
      exact wp_ireturn dX10_count_102 rfl ⟨rfl, S, rfl, KP.rf S⟩
    | 6, _ =>
      refine wp_swIn 103 dX10_count_3 rfl (by decide) (by decide) rfl rfl ?_
      refine wp_aload_0 dX10_count_103 rfl ?_
      refine wp_getf dX10_count_104 rfl q1832 fk10_1 (mg_0 hm) rfl ?_
      refine wp_bipush 7 dX10_count_107 rfl rfl ?_
      refine wp_ialoadn 7 dX10_count_109 rfl (mg_1 hm) rfl (by decide) (by decide) ?_
      exact wp_ireturn dX10_count_110 rfl ⟨rfl, S, rfl, KP.rf S⟩
    | 7, _ =>
      refine wp_swIn 111 dX10_count_3 rfl (by decide) (by decide) rfl rfl ?_
      refine wp_aload_0 dX10_count_111 rfl ?_
      refine wp_getf dX10_count_112 rfl q1832 fk10_1 (mg_0 hm) rfl ?_
      refine wp_bipush 8 dX10_count_115 rfl rfl ?_
      refine wp_ialoadn 8 dX10_count_117 rfl (mg_1 hm) rfl (by decide) (by decide) ?_
      exact wp_ireturn dX10_count_118 rfl ⟨rfl, S, rfl, KP.rf S⟩
    | 8, _ =>
      refine wp_swIn 119 dX10_count_3 rfl (by decide) (by decide) rfl rfl ?_
      refine wp_aload_0 dX10_count_119 rfl ?_
      refine wp_getf dX10_count_120 rfl q1832 fk10_1 (mg_0 hm) rfl ?_
      refine wp_bipush 9 dX10_count_123 rfl rfl ?_
      refine wp_ialoadn 9 dX10_count_125 rfl (mg_1 hm) rfl (by decide) (by decide) ?_
      exact wp_ireturn dX10_count_126 rfl ⟨rfl, S, rfl, KP.rf S⟩
    | 9, _ =>
      refine wp_swIn 127 dX10_count_3 rfl (by decide) (by decide) rfl rfl ?_
      refine wp_aload_0 dX10_count_127 rfl ?_
      refine wp_getf dX10_count_128 rfl q1836 fk10_5 (mg_0 hm) rfl ?_
      exact wp_ireturn dX10_count_131 rfl ⟨rfl, S, rfl, KP.rf S⟩
    | 10, _ =>
      refine wp_swIn 132 dX10_count_3 rfl (by decide) (by decide) rfl rfl ?_
      refine wp_iconst 0 dX10_count_132 rfl rfl ?_
      refine wp_istore_3 dX10_count_133 rfl (by decide) rfl ?_
      exact mL_count hm 4 0 0 rfl ⟨rfl, S, rfl, KP.rf S⟩
    | j + 11, h => exact absurd h (by omega)
  · have hk : ∀ k, inI k 0 10 = true → ¬ x = k := fun k hk e => hx (e ▸ hk)
    refine wp_swOut 165 dX10_count_3 rfl (out10 hx) rfl ?_
    refine wp_iconst (-1) dX10_count_165 rfl rfl ?_
    exact wp_ireturn dX10_count_166 rfl ⟨by rw [qcount, if_neg (hk 0 (by decide)), if_neg (hk 1 (by decide)), if_neg (hk 2 (by decide)), if_neg (hk 3 (by decide)), if_neg (hk 4 (by decide)), if_neg (hk 5 (by decide)), if_neg (hk 6 (by decide)), if_neg (hk 7 (by decide)), if_neg (hk 8 (by decide)), if_neg (hk 9 (by decide)), if_neg (hk 10 (by decide))], S, rfl, KP.rf S⟩
