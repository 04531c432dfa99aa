/-! ===== the reference: more questions about runs ===== -/
set_option maxRecDepth 100000
theorem mL_slack {g : GW} {M : Nat} {pre post : AH} (hm : pre.length = M) {S0 : SM} {Wd : Nat → Int32} (hs : WFs Wd) (hpl : WFp Wd) {p : Nat} (hp : p < nW Wd 6) {c n : Nat} {Q : Option Value → AH → Prop} : ∀ (k : Nat) (S : SM) (i b : Nat), LSt S0 S (dgW Wd) Wd → i + k = 21 → (∀ S', KP S0 S' → Q (some (.int (nI (itr (beF (slB Wd p)) k i b)))) (mH M pre S' post)) → WP g 7 yX10_slack cX10_slack 5 (some .int) 27 [some (.ref M), some (.int (nI p)), some (.int (nI (stG Wd (lgP Wd p 0)))), some (.int (nI b)), some (.int (nI i))] [] (mH M pre S post) c n Q := by
  intro k
  induction k with
  | zero =>
    intro S i b l hi hq
    refine wp_iload_4 dX10_slack_27 rfl ?_
    refine wp_bipush 20 dX10_slack_29 rfl rfl ?_
    refine wp_icmp_gt 58 dX10_slack_31 rfl rfl (fun c31 => ?_) (fun c31 => ?_)
    · refine wp_iload_3 dX10_slack_58 rfl ?_
      exact wp_ireturn dX10_slack_59 rfl (hq S l.2.2)
    · exact absurd (show (20 : Int32) < nI i by rw [show i = 21 by omega]; decide) c31
  | succ k ih =>
    intro S i b l hi hq
    refine wp_iload_4 dX10_slack_27 rfl ?_
    refine wp_bipush 20 dX10_slack_29 rfl rfl ?_
    refine wp_icmp_gt 58 dX10_slack_31 rfl rfl (fun c31 => ?_) (fun c31 => ?_)
    · exact absurd c31 (Int32.not_lt.mpr (show nI i ≤ (20 : Int32) from nI_le (b := 20) (by omega) (by omega)))
    · refine wp_aload_0 dX10_slack_34 rfl ?_
      refine wp_iload_1 dX10_slack_35 rfl ?_
      refine wp_iload_4 dX10_slack_36 rfl ?_
      refine wp_cvEi dX10_slack_38 rfl q2372 mv_X10_lagging (mg_0 hm) rfl rfl (m_lagging hm l.1 l.2.1 hp hs hpl) rfl rfl (Nat.le_of_ble_eq_true rfl) (Nat.le_of_ble_eq_true rfl) (fun h1 hq => ?_)
      obtain ⟨S1, rfl, hk1⟩ := hq
      have l1 := l.on hk1 (by decide) (by decide) (by decide) (by decide)
      refine wp_iload_2 dX10_slack_41 rfl ?_
      refine wp_icmp_ne_k 50 dX10_slack_42 rfl rfl (by have := stG_le Wd (lgP Wd p (nI i)); show stG _ _ < _; omega) (by have := stG_le Wd (lgP Wd p 0); show stG _ _ < _; omega) (fun c42 => ?_) (fun c42 => ?_)
      · refine wp_iload_3 dX10_slack_50 rfl ?_
        refine wp_istore_3 dX10_slack_51 rfl (by decide) rfl ?_
        refine wp_iinc_4 1 dX10_slack_52 rfl rfl (by decide) rfl ?_
        refine wp_goto 27 dX10_slack_55 rfl rfl ?_
        exact WP.cast (by simp only [beF, slB, nI_1, decide_eq_true_eq]; (try split) <;> first | rfl | (exfalso; simp only [stG] at *; omega)) (ih S1 (i + 1) (beF (slB Wd p) i b) l1 (by omega) hq)
      · refine wp_iload_4 dX10_slack_45 rfl ?_
        refine wp_goto 51 dX10_slack_47 rfl rfl ?_
        refine wp_istore_3 dX10_slack_51 rfl (by decide) rfl ?_
        refine wp_iinc_4 1 dX10_slack_52 rfl rfl (by decide) rfl ?_
        refine wp_goto 27 dX10_slack_55 rfl rfl ?_
        exact WP.cast (by simp only [beF, slB, nI_1, decide_eq_true_eq]; (try split) <;> first | rfl | (exfalso; simp only [stG] at *; omega)) (ih S1 (i + 1) (beF (slB Wd p) i b) l1 (by omega) hq)
theorem q_m_slack {g : GW} {M : Nat} {pre post : AH} {S : SM} (hm : pre.length = M) {x : Int32} (hs : WFs (wd S)) (hpl : WFp (wd S)) : SP g 7 0 0 yX10_slack cX10_slack 5 (some .int) [.ref M, .int x] (mH M pre S post) (QM M pre post S (.int (qslack (wd S) x))) := by
  refine SP.intro [some (.ref M), some (.int x), none, none, none] (pfn (by decide)) rfl (Nat.le_of_ble_eq_true rfl) ?_
  refine wp_aload_0 dX10_slack_0 rfl ?_
  refine wp_iload_1 dX10_slack_1 rfl ?_
  refine wp_cvR dX10_slack_2 rfl q2129 mv_X10_isPlayer (mg_0 hm) rfl rfl (m_isPlayer hm) rfl rfl (Nat.le_of_ble_eq_true rfl) (Nat.le_of_ble_eq_true rfl) ?_
  refine wp_ifne_b 11 dX10_slack_5 rfl rfl (fun c5 => ?_) (fun c5 => ?_)
  · obtain ⟨p, hp, rfl⟩ := plW_of hs c5
    refine wp_aload_0 dX10_slack_11 rfl ?_
    refine wp_cvE dX10_slack_12 rfl q2158 mv_X10_lay (mg_0 hm) rfl rfl (m_lay hm hs) rfl rfl (Nat.le_of_ble_eq_true rfl) (Nat.le_of_ble_eq_true rfl) (fun h1 hq => ?_)
    obtain ⟨S0, rfl, hk0, hg0⟩ := hq
    have l : LSt S S0 (dgW (wd S)) (wd S) := ⟨hg0, hk0.wd, hk0.KP⟩
    refine wp_aload_0 dX10_slack_15 rfl ?_
    refine wp_iload_1 dX10_slack_16 rfl ?_
    refine wp_iconst 0 dX10_slack_17 rfl rfl ?_
    refine wp_cvEi dX10_slack_18 rfl q2372 mv_X10_lagging (mg_0 hm) rfl rfl (m_lagging hm l.1 l.2.1 hp hs hpl) rfl rfl (Nat.le_of_ble_eq_true rfl) (Nat.le_of_ble_eq_true rfl) (fun h1 hq => ?_)
    obtain ⟨S1, rfl, hk1⟩ := hq
    have l1 := l.on hk1 (by decide) (by decide) (by decide) (by decide)
    refine wp_istore_2 dX10_slack_21 rfl (by decide) rfl ?_
    refine wp_iconst 0 dX10_slack_22 rfl rfl ?_
    refine wp_istore_3 dX10_slack_23 rfl (by decide) rfl ?_
    refine wp_iconst 1 dX10_slack_24 rfl rfl ?_
    refine wp_istore_4 dX10_slack_25 rfl (by decide) rfl ?_
    exact mL_slack hm hs hpl hp 20 S1 1 0 l1 (by omega) (fun S2 k2 => ⟨by rw [qslack, if_pos c5, nI_clamp (show p < 2147483648 by have := hs.np.2; omega)], S2, rfl, k2⟩)
  · refine wp_bipush (-2) dX10_slack_8 rfl rfl ?_
    exact wp_ireturn dX10_slack_10 rfl ⟨by simp [qslack, *], S, rfl, KP.rf S⟩
theorem mL_line {g : GW} {M : Nat} {pre post : AH} (hm : pre.length = M) {S0 : SM} {Wd : Nat → Int32} (hs : WFs Wd) (hpl : WFp Wd) {p : Nat} (hp : p < nW Wd 6) {c n : Nat} {Q : Option Value → AH → Prop} : ∀ (k : Nat) (S : SM) (x : Int32), LSt S0 S (dgW Wd) Wd → x = nI k - 1 → k ≤ 21 → (∀ S', KP S0 S' → Q (some (.int (onI (dnK (fun i => decide (raV Wd p ≤ lkV Wd p (nI i))) k)))) (mH M pre S' post)) → WP g 7 yX10_line cX10_line 4 (some .int) 24 [some (.ref M), some (.int (nI p)), some (.int (raV Wd p)), some (.int x)] [] (mH M pre S post) c n Q := by
  intro k
  induction k with
  | zero =>
    intro S x l hx hk hq
    obtain rfl : x = -1 := hx
    refine wp_iload_3 dX10_line_24 rfl ?_
    refine wp_if_lt 46 dX10_line_25 rfl rfl (fun c25 => ?_) (fun c25 => ?_)
    · refine wp_iconst (-1) dX10_line_46 rfl rfl ?_
      exact wp_ireturn dX10_line_47 rfl (hq S l.2.2)
    · exact absurd (by decide) c25
  | succ k ih =>
    intro S x l hx hk hq
    obtain rfl : x = nI k := by rw [hx, nI_pred]
    refine wp_iload_3 dX10_line_24 rfl ?_
    refine wp_if_lt 46 dX10_line_25 rfl rfl (fun c25 => ?_) (fun c25 => ?_)
    · exact absurd c25 (Int32.not_lt.mpr (nI_pos' (by omega)))
    · refine wp_aload_0 dX10_line_28 rfl ?_
      refine wp_iload_1 dX10_line_29 rfl ?_
      refine wp_iload_3 dX10_line_30 rfl ?_
      refine wp_cvEi dX10_line_31 rfl q2492 mv_X10_lookOf (mg_0 hm) rfl rfl (m_lookOf hm l.1 l.2.1 hp hs hpl) rfl rfl (Nat.le_of_ble_eq_true rfl) (Nat.le_of_ble_eq_true rfl) (fun h1 hq => ?_)
      obtain ⟨S1, rfl, hk1⟩ := hq
      have l1 := l.on hk1 (by decide) (by decide) (by decide) (by decide)
      refine wp_iload_2 dX10_line_34 rfl ?_
      refine wp_icmp_lt 40 dX10_line_35 rfl rfl (fun c35 => ?_) (fun c35 => ?_)
      · refine wp_iinc_3 (-1) dX10_line_40 rfl rfl (by decide) rfl ?_
        refine wp_goto 24 dX10_line_43 rfl rfl ?_
        exact ih S1 (nI k + -1) l1 (by rw [Int32.sub_eq_add_neg]) (by omega) (by intro S2 k2; have := hq S2 k2; rw [dn_f (decide_eq_false (Int32.not_le.mpr c35))] at this; exact this)
      · refine wp_iload_3 dX10_line_38 rfl ?_
        exact wp_ireturn dX10_line_39 rfl (by have := hq S1 l1.2.2; rw [dn_t (decide_eq_true (Int32.not_lt.mp c35))] at this; exact this)
theorem q_m_line {g : GW} {M : Nat} {pre post : AH} {S : SM} (hm : pre.length = M) {x : Int32} (hs : WFs (wd S)) (hpl : WFp (wd S)) : SP g 7 0 0 yX10_line cX10_line 4 (some .int) [.ref M, .int x] (mH M pre S post) (QM M pre post S (.int (qline (wd S) x))) := by
  refine SP.intro [some (.ref M), some (.int x), none, none] (pfn (by decide)) rfl (Nat.le_of_ble_eq_true rfl) ?_
  refine wp_aload_0 dX10_line_0 rfl ?_
  refine wp_iload_1 dX10_line_1 rfl ?_
  refine wp_cvR dX10_line_2 rfl q2129 mv_X10_isPlayer (mg_0 hm) rfl rfl (m_isPlayer hm) rfl rfl (Nat.le_of_ble_eq_true rfl) (Nat.le_of_ble_eq_true rfl) ?_
  refine wp_ifne_b 11 dX10_line_5 rfl rfl (fun c5 => ?_) (fun c5 => ?_)
  · obtain ⟨p, hp, rfl⟩ := plW_of hs c5
    refine wp_aload_0 dX10_line_11 rfl ?_
    refine wp_cvE dX10_line_12 rfl q2158 mv_X10_lay (mg_0 hm) rfl rfl (m_lay hm hs) rfl rfl (Nat.le_of_ble_eq_true rfl) (Nat.le_of_ble_eq_true rfl) (fun h1 hq => ?_)
    obtain ⟨S0, rfl, hk0, hg0⟩ := hq
    have l : LSt S S0 (dgW (wd S)) (wd S) := ⟨hg0, hk0.wd, hk0.KP⟩
    refine wp_aload_0 dX10_line_15 rfl ?_
    refine wp_iload_1 dX10_line_16 rfl ?_
    refine wp_cvEi dX10_line_17 rfl q2483 mv_X10_rashOf (mg_0 hm) rfl rfl (m_rashOf hm l.1 l.2.1 hp hs hpl) rfl rfl (Nat.le_of_ble_eq_true rfl) (Nat.le_of_ble_eq_true rfl) (fun h1 hq => ?_)
    obtain ⟨S1, rfl, hk1⟩ := hq
    have l1 := l.on hk1 (by decide) (by decide) (by decide) (by decide)
    refine wp_istore_2 dX10_line_20 rfl (by decide) rfl ?_
    refine wp_bipush 20 dX10_line_21 rfl rfl ?_
    refine wp_istore_3 dX10_line_23 rfl (by decide) rfl ?_
    exact mL_line hm hs hpl hp 21 S1 20 l1 (by decide) (by omega) (fun S2 k2 => ⟨by rw [qline, if_pos c5, nI_clamp (show p < 2147483648 by have := hs.np.2; omega)], S2, rfl, k2⟩)
  · refine wp_bipush (-2) dX10_line_8 rfl rfl ?_
    exact wp_ireturn dX10_line_10 rfl ⟨by simp [qline, *], S, rfl, KP.rf S⟩
theorem mL_two {g : GW} {M : Nat} {pre post : AH} (hm : pre.length = M) {S0 : SM} {Wd : Nat → Int32} (hs : WFs Wd) (hpl : WFp Wd) {p o : Nat} (hp : p < nW Wd 6) (ho : o < nW Wd 6) {z : Int32} {c n : Nat} {Q : Option Value → AH → Prop} : ∀ (k : Nat) (S : SM) (i : Nat) (a : Int32 × Int32) (v8 : Option Value), LSt S0 S (dgW Wd) Wd → i + k = 2 ^ hoN Wd → (∀ S', KP S0 S' → Q (some (.int (if z = 0 then (itr (twF Wd p o) k i a).2 else (itr (twF Wd p o) k i a).1))) (mH M pre S' post)) → WP g 7 yX10_two cX10_two 9 (some .int) 57 [some (.ref M), some (.int (nI p)), some (.int (nI o)), some (.int z), some (.int (allW Wd)), some (.int a.1), some (.int a.2), some (.int (nI i)), v8] [] (mH M pre S post) c n Q := by
  intro k
  induction k with
  | zero =>
    intro S i a v8 l hi hq
    have h4 := two_lt hs
    refine wp_iload_7 dX10_two_57 rfl ?_
    refine wp_iload_4 dX10_two_59 rfl ?_
    refine wp_icmp_gt 110 dX10_two_61 rfl rfl (fun c61 => ?_) (fun c61 => ?_)
    · refine wp_iload_3 dX10_two_110 rfl ?_
      refine wp_if_ne 119 dX10_two_111 rfl rfl (fun c111 => ?_) (fun c111 => ?_)
      · refine wp_iload_5 dX10_two_119 rfl ?_
        exact wp_ireturn dX10_two_121 rfl (by have := hq S l.2.2; rw [if_neg c111] at this; exact this)
      · refine wp_iload_6 dX10_two_114 rfl ?_
        refine wp_goto 121 dX10_two_116 rfl rfl ?_
        exact wp_ireturn dX10_two_121 rfl (by have := hq S l.2.2; rw [if_pos c111] at this; exact this)
    · exact absurd (show allW Wd < nI i by rw [all_n hs]; exact (nI_ltI (by omega) (by omega)).mpr (by omega)) c61
  | succ k ih =>
    intro S i a v8 l hi hq
    have h4 := two_lt hs
    refine wp_iload_7 dX10_two_57 rfl ?_
    refine wp_iload_4 dX10_two_59 rfl ?_
    refine wp_icmp_gt 110 dX10_two_61 rfl rfl (fun c61 => ?_) (fun c61 => ?_)
    · exact absurd c61 (Int32.not_lt.mpr (by rw [all_n hs]; exact nI_le (by omega) (by omega)))
    · refine wp_aload_0 dX10_two_64 rfl ?_
      refine wp_iload_1 dX10_two_65 rfl ?_
      refine wp_iload_7 dX10_two_66 rfl ?_
      refine wp_cvEi dX10_two_68 rfl q2504 mv_X10_hitsOn (mg_0 hm) rfl rfl (m_hitsOn hm l.1 l.2.1 hp hs hpl) rfl rfl (Nat.le_of_ble_eq_true rfl) (Nat.le_of_ble_eq_true rfl) (fun h1 hq => ?_)
      obtain ⟨S1, rfl, hk1⟩ := hq
      have l1 := l.on hk1 (by decide) (by decide) (by decide) (by decide)
      refine wp_aload_0 dX10_two_71 rfl ?_
      refine wp_iload_2 dX10_two_72 rfl ?_
      refine wp_iload_4 dX10_two_73 rfl ?_
      refine wp_iload_7 dX10_two_75 rfl ?_
      refine wp_iconst (-1) dX10_two_77 rfl rfl ?_
      refine wp_ixor dX10_two_78 rfl ?_
      refine wp_iand dX10_two_79 rfl ?_
      refine wp_cvEi dX10_two_80 rfl q2504 mv_X10_hitsOn (mg_0 hm) rfl rfl (m_hitsOn hm l1.1 l1.2.1 ho hs hpl) rfl rfl (Nat.le_of_ble_eq_true rfl) (Nat.le_of_ble_eq_true rfl) (fun h1 hq => ?_)
      obtain ⟨S2, rfl, hk2⟩ := hq
      have l2 := l1.on hk2 (by decide) (by decide) (by decide) (by decide)
      refine wp_iadd dX10_two_83 rfl ?_
      refine wp_istore_8 dX10_two_84 rfl (by decide) rfl ?_
      refine wp_iload_8 dX10_two_86 rfl ?_
      refine wp_iload_6 dX10_two_88 rfl ?_
      refine wp_icmp_gt 96 dX10_two_90 rfl rfl (fun c90 => ?_) (fun c90 => ?_)
      · refine wp_iload_8 dX10_two_96 rfl ?_
        refine wp_istore_6 dX10_two_98 rfl (by decide) rfl ?_
        refine wp_iload_7 dX10_two_100 rfl ?_
        refine wp_istore_5 dX10_two_102 rfl (by decide) rfl ?_
        refine wp_iinc_7 1 dX10_two_104 rfl rfl (by decide) rfl ?_
        refine wp_goto 57 dX10_two_107 rfl rfl ?_
        exact WP.cast (by first | (have c : twV Wd p o i ≤ a.2 := Int32.not_lt.mp c90; simp only [twF, if_pos c, nI_1] <;> rfl) | (have c : ¬ twV Wd p o i ≤ a.2 := Int32.not_le.mpr c90; simp only [twF, if_neg c, nI_1] <;> rfl)) (ih S2 (i + 1) (twF Wd p o i a) (some (.int (twV Wd p o i))) l2 (by omega) hq)
      · refine wp_goto 104 dX10_two_93 rfl rfl ?_
        refine wp_iinc_7 1 dX10_two_104 rfl rfl (by decide) rfl ?_
        refine wp_goto 57 dX10_two_107 rfl rfl ?_
        exact WP.cast (by first | (have c : twV Wd p o i ≤ a.2 := Int32.not_lt.mp c90; simp only [twF, if_pos c, nI_1] <;> rfl) | (have c : ¬ twV Wd p o i ≤ a.2 := Int32.not_le.mpr c90; simp only [twF, if_neg c, nI_1] <;> rfl)) (ih S2 (i + 1) (twF Wd p o i a) (some (.int (twV Wd p o i))) l2 (by omega) hq)
theorem q_m_two {g : GW} {M : Nat} {pre post : AH} {S : SM} (hm : pre.length = M) {x y z : Int32} (hs : WFs (wd S)) (hpl : WFp (wd S)) : SP g 7 0 0 yX10_two cX10_two 9 (some .int) [.ref M, .int x, .int y, .int z] (mH M pre S post) (QM M pre post S (.int (qtwo (wd S) x y z))) := by
  refine SP.intro [some (.ref M), some (.int x), some (.int y), some (.int z), none, none, none, none, none] (pfn (by decide)) rfl (Nat.le_of_ble_eq_true rfl) ?_
  refine wp_aload_0 dX10_two_0 rfl ?_
  refine wp_iload_1 dX10_two_1 rfl ?_
  refine wp_cvR dX10_two_2 rfl q2129 mv_X10_isPlayer (mg_0 hm) rfl rfl (m_isPlayer hm) rfl rfl (Nat.le_of_ble_eq_true rfl) (Nat.le_of_ble_eq_true rfl) ?_
  refine wp_ifeq_b 31 dX10_two_5 rfl rfl (fun c5 => ?_) (fun c5 => ?_)
  · refine wp_bipush (-2) dX10_two_31 rfl rfl ?_
    exact wp_ireturn dX10_two_33 rfl ⟨by simp [qtwo, *], S, rfl, KP.rf S⟩
  · obtain ⟨p, hp, rfl⟩ := plW_of hs c5
    refine wp_aload_0 dX10_two_8 rfl ?_
    refine wp_iload_2 dX10_two_9 rfl ?_
    refine wp_cvR dX10_two_10 rfl q2129 mv_X10_isPlayer (mg_0 hm) rfl rfl (m_isPlayer hm) rfl rfl (Nat.le_of_ble_eq_true rfl) (Nat.le_of_ble_eq_true rfl) ?_
    refine wp_ifeq_b 31 dX10_two_13 rfl rfl (fun c13 => ?_) (fun c13 => ?_)
    · refine wp_bipush (-2) dX10_two_31 rfl rfl ?_
      exact wp_ireturn dX10_two_33 rfl ⟨by simp [qtwo, *], S, rfl, KP.rf S⟩
    · obtain ⟨o, ho, rfl⟩ := plW_of hs c13
      refine wp_iload_1 dX10_two_16 rfl ?_
      refine wp_iload_2 dX10_two_17 rfl ?_
      refine wp_icmp_eq 31 dX10_two_18 rfl rfl (fun c18 => ?_) (fun c18 => ?_)
      · refine wp_bipush (-2) dX10_two_31 rfl rfl ?_
        exact wp_ireturn dX10_two_33 rfl ⟨by simp [qtwo, *], S, rfl, KP.rf S⟩
      · refine wp_iload_3 dX10_two_21 rfl ?_
        refine wp_i2l dX10_two_22 rfl ?_
        refine wp_lconst 0 dX10_two_23 rfl rfl ?_
        refine wp_lconst 1 dX10_two_24 rfl rfl ?_
        refine wp_csR dX10_two_25 rfl q1979 ms_X10_in m_in rfl rfl (Nat.le_of_ble_eq_true rfl) (Nat.le_of_ble_eq_true rfl) ?_
        refine wp_ifne_b 34 dX10_two_28 rfl rfl (fun c28 => ?_) (fun c28 => ?_)
        · refine wp_aload_0 dX10_two_34 rfl ?_
          refine wp_cvE dX10_two_35 rfl q2158 mv_X10_lay (mg_0 hm) rfl rfl (m_lay hm hs) rfl rfl (Nat.le_of_ble_eq_true rfl) (Nat.le_of_ble_eq_true rfl) (fun h1 hq => ?_)
          obtain ⟨S0, rfl, hk0, hg0⟩ := hq
          have l : LSt S S0 (dgW (wd S)) (wd S) := ⟨hg0, hk0.wd, hk0.KP⟩
          refine wp_iconst 1 dX10_two_38 rfl rfl ?_
          refine wp_aload_0 dX10_two_39 rfl ?_
          refine wp_cvR dX10_two_40 rfl q2206 mv_X10_holes (mg_0 hm) rfl rfl (m_holes hm) rfl rfl (Nat.le_of_ble_eq_true rfl) (Nat.le_of_ble_eq_true rfl) ?_
          refine wp_ishl dX10_two_43 rfl ?_
          refine wp_iconst 1 dX10_two_44 rfl rfl ?_
          refine wp_isub dX10_two_45 rfl ?_
          refine wp_istore_4 dX10_two_46 rfl (by decide) rfl ?_
          refine wp_iconst 0 dX10_two_48 rfl rfl ?_
          refine wp_istore_5 dX10_two_49 rfl (by decide) rfl ?_
          refine wp_iconst (-1) dX10_two_51 rfl rfl ?_
          refine wp_istore_6 dX10_two_52 rfl (by decide) rfl ?_
          refine wp_iconst 0 dX10_two_54 rfl rfl ?_
          refine wp_istore_7 dX10_two_55 rfl (by decide) rfl ?_
          exact WP.cast (by rw [show wd S0 = wd S from l.2.1]; rfl) (mL_two hm hs hpl hp ho (2 ^ hoN (wd S)) S0 0 (0, -1) none l (Nat.zero_add _) (fun S2 k2 => ⟨by rw [qtwo, if_pos (show (plW (wd S) (nI p) = true ∧ plW (wd S) (nI o) = true) ∧ (¬ nI p = nI o ∧ inL z.toInt64 0 1 = true) from ⟨⟨c5, c13⟩, c18, c28⟩), nI_clamp (show p < 2147483648 by have := hs.np.2; omega), nI_clamp (show o < 2147483648 by have := hs.np.2; omega)], S2, rfl, k2⟩))
        · refine wp_bipush (-2) dX10_two_31 rfl rfl ?_
          exact wp_ireturn dX10_two_33 rfl ⟨by simp [qtwo, *], S, rfl, KP.rf S⟩
theorem m_ticketsOf {g : GW} {M : Nat} {pre post : AH} {S : SM} (hm : pre.length = M) {p : Nat} (hp : p < nW (wd S) 6) (hs : WFs (wd S)) (hpl : WFp (wd S)) (h11 : ∀ p, p < nW (wd S) 6 → ¬ wd S 11 = 0) : SP g 7 0 0 yX10_ticketsOf cX10_ticketsOf 2 (some .int) [.ref M, .int (nI p)] (mH M pre S post) (fun v h1 => v = some (.int (tiW (wd S) p)) ∧ ∃ S', h1 = mH M pre S' post ∧ KX [18, 19, 20, 21, 22, 23, 24, 29, 30, 31, 32, 33] [7, 8, 9, 10, 11, 12, 13] S S') := by
  refine SP.intro [some (.ref M), some (.int (nI p))] (pfn (by decide)) rfl (Nat.le_of_ble_eq_true rfl) ?_
  refine wp_aload_0 dX10_ticketsOf_0 rfl ?_
  refine wp_iload_1 dX10_ticketsOf_1 rfl ?_
  refine wp_cvE dX10_ticketsOf_2 rfl q2239 mv_X10_runAsTold (mg_0 hm) rfl rfl (m_runAsTold hm hp hs hpl) rfl rfl (Nat.le_of_ble_eq_true rfl) (Nat.le_of_ble_eq_true rfl) (fun h1 hq => ?_)
  obtain ⟨S1, rfl, hk1, hg1, hp1, hr1⟩ := hq
  refine wp_bipush 10 dX10_ticketsOf_5 rfl rfl ?_
  refine wp_aload_0 dX10_ticketsOf_7 rfl ?_
  refine wp_getf dX10_ticketsOf_8 rfl q1860 fk10_29 (mg_0 hm) rfl ?_
  refine wp_imul dX10_ticketsOf_11 rfl ?_
  refine wp_aload_0 dX10_ticketsOf_12 rfl ?_
  refine wp_getf dX10_ticketsOf_13 rfl q1832 fk10_1 (mg_0 hm) rfl ?_
  refine wp_bipush 11 dX10_ticketsOf_16 rfl rfl ?_
  refine wp_ialoadn 11 dX10_ticketsOf_18 rfl (mg_1 hm) rfl (by decide) (by decide) ?_
  refine wp_idiv dX10_ticketsOf_19 rfl (by have e := hk1.wd (by decide); show ¬ wd S1 11 = 0; rw [e]; exact h11 p hp) ?_
  exact wp_ireturn dX10_ticketsOf_20 rfl ⟨by have e := hk1.wd (by decide); rw [hr1.2.2.1, show S1.2.1 1 11 = wd S 11 from congrFun e 11]; rfl, S1, rfl, hk1⟩
theorem q_m_tickets {g : GW} {M : Nat} {pre post : AH} {S : SM} (hm : pre.length = M) {x : Int32} (hs : WFs (wd S)) (hpl : WFp (wd S)) (h11 : ∀ p, p < nW (wd S) 6 → ¬ wd S 11 = 0) : SP g 8 0 0 yX10_tickets cX10_tickets 2 (some .int) [.ref M, .int x] (mH M pre S post) (QM M pre post S (.int (qtickets (wd S) x))) := by
  refine SP.intro [some (.ref M), some (.int x)] (pfn (by decide)) rfl (Nat.le_of_ble_eq_true rfl) ?_
  refine wp_aload_0 dX10_tickets_0 rfl ?_
  refine wp_iload_1 dX10_tickets_1 rfl ?_
  refine wp_cvR dX10_tickets_2 rfl q2129 mv_X10_isPlayer (mg_0 hm) rfl rfl (m_isPlayer hm) rfl rfl (Nat.le_of_ble_eq_true rfl) (Nat.le_of_ble_eq_true rfl) ?_
  refine wp_ifeq_b 16 dX10_tickets_5 rfl rfl (fun c5 => ?_) (fun c5 => ?_)
  · refine wp_bipush (-2) dX10_tickets_16 rfl rfl ?_
    exact wp_ireturn dX10_tickets_18 rfl ⟨by simp [qtickets, *], S, rfl, KP.rf S⟩
  · obtain ⟨p, hp, rfl⟩ := plW_of hs c5
    refine wp_aload_0 dX10_tickets_8 rfl ?_
    refine wp_iload_1 dX10_tickets_9 rfl ?_
    refine wp_cvEi dX10_tickets_10 rfl q2512 mv_X10_ticketsOf (mg_0 hm) rfl rfl (m_ticketsOf hm hp hs hpl h11) rfl rfl (Nat.le_of_ble_eq_true rfl) (Nat.le_of_ble_eq_true rfl) (fun h1 hq => ?_)
    obtain ⟨S1, rfl, hk1⟩ := hq
    refine wp_goto 18 dX10_tickets_13 rfl rfl ?_
    exact wp_ireturn dX10_tickets_18 rfl ⟨by rw [qtickets, if_pos c5, nI_clamp (show p < 2147483648 by have := hs.np.2; omega)], S1, rfl, (hk1.KP (by decide) (by decide))⟩
theorem q_m_prize {g : GW} {M : Nat} {pre post : AH} {S : SM} (hm : pre.length = M) {x : Int32} (hs : WFs (wd S)) (hpl : WFp (wd S)) (h11 : ∀ p, p < nW (wd S) 6 → ¬ wd S 11 = 0) : SP g 8 0 0 yX10_prize cX10_prize 3 (some .int) [.ref M, .int x] (mH M pre S post) (QM M pre post S (.int (qprize (wd S) x))) := by
  refine SP.intro [some (.ref M), some (.int x), none] (pfn (by decide)) rfl (Nat.le_of_ble_eq_true rfl) ?_
  refine wp_aload_0 dX10_prize_0 rfl ?_
  refine wp_iload_1 dX10_prize_1 rfl ?_
  refine wp_cvR dX10_prize_2 rfl q2129 mv_X10_isPlayer (mg_0 hm) rfl rfl (m_isPlayer hm) rfl rfl (Nat.le_of_ble_eq_true rfl) (Nat.le_of_ble_eq_true rfl) ?_
  refine wp_ifne_b 11 dX10_prize_5 rfl rfl (fun c5 => ?_) (fun c5 => ?_)
  · obtain ⟨p, hp, rfl⟩ := plW_of hs c5
    refine wp_aload_0 dX10_prize_11 rfl ?_
    refine wp_iload_1 dX10_prize_12 rfl ?_
    refine wp_cvEi dX10_prize_13 rfl q2512 mv_X10_ticketsOf (mg_0 hm) rfl rfl (m_ticketsOf hm hp hs hpl h11) rfl rfl (Nat.le_of_ble_eq_true rfl) (Nat.le_of_ble_eq_true rfl) (fun h1 hq => ?_)
    obtain ⟨S1, rfl, hk1⟩ := hq
    refine wp_istore_2 dX10_prize_16 rfl (by decide) rfl ?_
    refine wp_iload_2 dX10_prize_17 rfl ?_
    refine wp_if_ne 25 dX10_prize_18 rfl rfl (fun c18 => ?_) (fun c18 => ?_)
    · refine wp_aload_0 dX10_prize_25 rfl ?_
      refine wp_getf dX10_prize_26 rfl q1832 fk10_1 (mg_0 hm) rfl ?_
      refine wp_bipush 10 dX10_prize_29 rfl rfl ?_
      refine wp_ialoadn 10 dX10_prize_31 rfl (mg_1 hm) rfl (by decide) (by decide) ?_
      refine wp_iload_2 dX10_prize_32 rfl ?_
      refine wp_iadd dX10_prize_33 rfl ?_
      refine wp_iconst 1 dX10_prize_34 rfl rfl ?_
      refine wp_isub dX10_prize_35 rfl ?_
      refine wp_iload_2 dX10_prize_36 rfl ?_
      refine wp_idiv dX10_prize_37 rfl c18 ?_
      exact wp_ireturn dX10_prize_38 rfl ⟨by rw [qprize, if_pos c5, nI_clamp (show p < 2147483648 by have := hs.np.2; omega), if_neg c18, show S1.2.1 1 10 = wd S 10 from congrFun (hk1.wd (by decide)) 10], S1, rfl, (hk1.KP (by decide) (by decide))⟩
    · refine wp_iconst (-1) dX10_prize_21 rfl rfl ?_
      refine wp_goto 38 dX10_prize_22 rfl rfl ?_
      exact wp_ireturn dX10_prize_38 rfl ⟨by rw [qprize, if_pos c5, nI_clamp (show p < 2147483648 by have := hs.np.2; omega), if_pos c18], S1, rfl, (hk1.KP (by decide) (by decide))⟩
  · refine wp_bipush (-2) dX10_prize_8 rfl rfl ?_
    exact wp_ireturn dX10_prize_10 rfl ⟨by simp [qprize, *], S, rfl, KP.rf S⟩
theorem mL_lucky {g : GW} {M : Nat} {pre post : AH} (hm : pre.length = M) {S0 : SM} (hs : WFs (wd S0)) (hpl : WFp (wd S0)) {p : Nat} (hp : p < nW (wd S0) 6) {c n : Nat} {Q : Option Value → AH → Prop} : ∀ (k : Nat) (S : SM) (i : Nat) (a : Int32 × Int32), L8 S0 S → i + k = nW (wd S0) 5 → (∀ S', KP S0 S' → Q (some (.int ((itr (luF (wd S0) p) k i a).1))) (mH M pre S' post)) → WP g 8 yX10_lucky cX10_lucky 6 (some .int) 27 [some (.ref M), some (.int (nI p)), some (.int (wd S0 8)), some (.int a.1), some (.int a.2), some (.int (nI i))] [] (mH M pre S post) c n Q := by
  intro k
  induction k with
  | zero =>
    intro S i a l hi hq
    have e5 : S.2.1 1 5 = nI (nW (wd S0) 5) := (l.2.2.2 5 (by decide)).trans hs.nc.1
    have b5 := hs.nc.2
    refine wp_iload_5 dX10_lucky_27 rfl ?_
    refine wp_aload_0 dX10_lucky_29 rfl ?_
    refine wp_getf dX10_lucky_30 rfl q1832 fk10_1 (mg_0 hm) rfl ?_
    refine wp_iconst 5 dX10_lucky_33 rfl rfl ?_
    refine wp_ialoadn 5 dX10_lucky_34 rfl (mg_1 hm) rfl (by decide) (by decide) ?_
    refine wp_icmp_ge 79 dX10_lucky_35 rfl rfl (fun c35 => ?_) (fun c35 => ?_)
    · refine wp_aload_0 dX10_lucky_79 rfl ?_
      refine wp_getf dX10_lucky_80 rfl q1832 fk10_1 (mg_0 hm) rfl ?_
      refine wp_bipush 8 dX10_lucky_83 rfl rfl ?_
      refine wp_iload_2 dX10_lucky_85 rfl ?_
      refine wp_iastoren 8 dX10_lucky_86 rfl (mg_1 hm) rfl (by decide) (by decide) (ms_A1 hm) ?_
      refine wp_iload_3 dX10_lucky_87 rfl ?_
      exact wp_ireturn dX10_lucky_88 rfl (hq _ l.back)
    · exact absurd (show S.2.1 1 5 ≤ nI i by rw [e5]; exact nI_le (by omega) (by omega)) c35
  | succ k ih =>
    intro S i a l hi hq
    have e5 : S.2.1 1 5 = nI (nW (wd S0) 5) := (l.2.2.2 5 (by decide)).trans hs.nc.1
    have b5 := hs.nc.2
    refine wp_iload_5 dX10_lucky_27 rfl ?_
    refine wp_aload_0 dX10_lucky_29 rfl ?_
    refine wp_getf dX10_lucky_30 rfl q1832 fk10_1 (mg_0 hm) rfl ?_
    refine wp_iconst 5 dX10_lucky_33 rfl rfl ?_
    refine wp_ialoadn 5 dX10_lucky_34 rfl (mg_1 hm) rfl (by decide) (by decide) ?_
    refine wp_icmp_ge 79 dX10_lucky_35 rfl rfl (fun c35 => ?_) (fun c35 => ?_)
    · exact absurd c35 (show ¬ (S.2.1 1 5 ≤ nI i) by rw [e5]; exact nI_ge (by omega) (by omega))
    · refine wp_aload_0 dX10_lucky_38 rfl ?_
      refine wp_getf dX10_lucky_39 rfl q1832 fk10_1 (mg_0 hm) rfl ?_
      refine wp_bipush 8 dX10_lucky_42 rfl rfl ?_
      refine wp_iload_5 dX10_lucky_44 rfl ?_
      refine wp_iastoren 8 dX10_lucky_46 rfl (mg_1 hm) rfl (by decide) (by decide) (ms_A1 hm) ?_
      refine wp_aload_0 dX10_lucky_47 rfl ?_
      refine wp_iload_1 dX10_lucky_48 rfl ?_
      have e8 := l.wdv (nI i)
      have hs8 : WFs (wd (sA 1 8 (nI i) S)) := e8 ▸ hs.u8 (by have := hs.nc.2; omega)
      have hpl8 : WFp (wd (sA 1 8 (nI i) S)) := e8 ▸ hpl.u8 (nI i)
      have hp8 : p < nW (wd (sA 1 8 (nI i) S)) 6 := by rw [e8]; unfold nW; rw [pk_un (by decide)]; exact hp
      refine wp_cvE dX10_lucky_49 rfl q2239 mv_X10_runAsTold (mg_0 hm) rfl rfl (m_runAsTold (S := sA 1 8 (nI i) S) hm hp8 hs8 hpl8) rfl rfl (Nat.le_of_ble_eq_true rfl) (Nat.le_of_ble_eq_true rfl) (fun h1 hq => ?_)
      obtain ⟨S1, rfl, hk1, hg1, hp1, hr1⟩ := hq
      refine wp_aload_0 dX10_lucky_52 rfl ?_
      refine wp_getf dX10_lucky_53 rfl q1860 fk10_29 (mg_0 hm) rfl ?_
      refine wp_iload_4 dX10_lucky_56 rfl ?_
      refine wp_icmp_gt 64 dX10_lucky_58 rfl rfl (fun c58 => ?_) (fun c58 => ?_)
      · refine wp_iload_5 dX10_lucky_64 rfl ?_
        refine wp_istore_3 dX10_lucky_66 rfl (by decide) rfl ?_
        refine wp_aload_0 dX10_lucky_67 rfl ?_
        refine wp_getf dX10_lucky_68 rfl q1860 fk10_29 (mg_0 hm) rfl ?_
        refine wp_istore_4 dX10_lucky_71 rfl (by decide) rfl ?_
        refine wp_iinc_5 1 dX10_lucky_73 rfl rfl (by decide) rfl ?_
        refine wp_goto 27 dX10_lucky_76 rfl rfl ?_
        rw [hr1.2.2.1, e8] at c58
        exact WP.cast (by simp only [luF, nI_1]; first | (rw [if_pos (Int32.not_lt.mp c58)]) | (rw [if_neg (Int32.not_le.mpr c58), hr1.2.2.1, e8])) (ih S1 (i + 1) (luF (wd S0) p i a) ((l.set (nI i)).on (hk1.KP (by decide) (by decide))) (by omega) hq)
      · refine wp_goto 73 dX10_lucky_61 rfl rfl ?_
        refine wp_iinc_5 1 dX10_lucky_73 rfl rfl (by decide) rfl ?_
        refine wp_goto 27 dX10_lucky_76 rfl rfl ?_
        rw [hr1.2.2.1, e8] at c58
        exact WP.cast (by simp only [luF, nI_1]; first | (rw [if_pos (Int32.not_lt.mp c58)]) | (rw [if_neg (Int32.not_le.mpr c58), hr1.2.2.1, e8])) (ih S1 (i + 1) (luF (wd S0) p i a) ((l.set (nI i)).on (hk1.KP (by decide) (by decide))) (by omega) hq)
theorem q_m_lucky {g : GW} {M : Nat} {pre post : AH} {S : SM} (hm : pre.length = M) {x : Int32} (hs : WFs (wd S)) (hpl : WFp (wd S)) : SP g 8 0 0 yX10_lucky cX10_lucky 6 (some .int) [.ref M, .int x] (mH M pre S post) (QM M pre post S (.int (qlucky (wd S) x))) := by
  refine SP.intro [some (.ref M), some (.int x), none, none, none, none] (pfn (by decide)) rfl (Nat.le_of_ble_eq_true rfl) ?_
  refine wp_aload_0 dX10_lucky_0 rfl ?_
  refine wp_iload_1 dX10_lucky_1 rfl ?_
  refine wp_cvR dX10_lucky_2 rfl q2129 mv_X10_isPlayer (mg_0 hm) rfl rfl (m_isPlayer hm) rfl rfl (Nat.le_of_ble_eq_true rfl) (Nat.le_of_ble_eq_true rfl) ?_
  refine wp_ifne_b 11 dX10_lucky_5 rfl rfl (fun c5 => ?_) (fun c5 => ?_)
  · obtain ⟨p, hp, rfl⟩ := plW_of hs c5
    refine wp_aload_0 dX10_lucky_11 rfl ?_
    refine wp_getf dX10_lucky_12 rfl q1832 fk10_1 (mg_0 hm) rfl ?_
    refine wp_bipush 8 dX10_lucky_15 rfl rfl ?_
    refine wp_ialoadn 8 dX10_lucky_17 rfl (mg_1 hm) rfl (by decide) (by decide) ?_
    refine wp_istore_2 dX10_lucky_18 rfl (by decide) rfl ?_
    refine wp_iconst (-1) dX10_lucky_19 rfl rfl ?_
    refine wp_istore_3 dX10_lucky_20 rfl (by decide) rfl ?_
    refine wp_iconst (-1) dX10_lucky_21 rfl rfl ?_
    refine wp_istore_4 dX10_lucky_22 rfl (by decide) rfl ?_
    refine wp_iconst 0 dX10_lucky_24 rfl rfl ?_
    refine wp_istore_5 dX10_lucky_25 rfl (by decide) rfl ?_
    exact mL_lucky hm hs hpl hp (nW (wd S) 5) S 0 (-1, -1) (L8.rf S) (Nat.zero_add _) (fun S2 k2 => ⟨by rw [qlucky, if_pos c5, nI_clamp (show p < 2147483648 by have := hs.np.2; omega)], S2, rfl, k2⟩)
  · refine wp_bipush (-2) dX10_lucky_8 rfl rfl ?_
    exact wp_ireturn dX10_lucky_10 rfl ⟨by simp [qlucky, *], S, rfl, KP.rf S⟩
