/-! ===== the reference: board ===== -/
set_option maxRecDepth 100000
/-- what a reading leaves of what lasts-/
def KB (S S' : SM) : Prop := (∀ j, j = 2 ∨ j = 3 ∨ j = 4 ∨ j = 19 ∨ j = 20 → S'.2.1 j = S.2.1 j) ∧ S'.2.2.1 21 = S.2.2.1 21 ∧ S'.1 5 = 0 ∧ ∀ k, 116 ≤ k → S'.2.1 6 k = 0
/-- what it says and what it lays-/
def RB (v : Option Value) (S S' : SM) (s : PX) : Prop := match s with
  | .inl f => v = some (.int (-4)) ∧ S'.1 12 = f.1 ∧ S'.1 13 = f.2 ∧ wd S' = wd S
  | .inr x => v = some (.int (x.2 9)) ∧ S'.1 12 = 0 ∧ S'.1 13 = -1 ∧ wd S' = x.2
theorem KX.s1 (i : Nat) (v : Int32) (S : SM) : KX [] [1] S (sA 1 i v S) := by
  refine ⟨fun q h => rfl, fun j h => ?_, rfl⟩
  simp only [List.mem_cons, List.not_mem_nil, or_false] at h
  simp [sA, va_up, h]
theorem pAll_f {T : Nat → Int32} {N k : Nat} {f : FT} : pAll T N k (.inl f) = .inl f := by
  cases k with
  | zero => rfl
  | succ k => exact if_neg (show ¬ false = true by decide)
theorem pAll_ok {T : Nat → Int32} {N : Nat} (hn : N ≤ 1200) : ∀ (k : Nat) (x y : LX × (Nat → Int32)), lAt x.1 ≤ N → WFb x.2 → WFl x.2 (lAt x.1) → pAll T N k (.inr x) = .inr y → WFb y.2 ∧ WFl y.2 1200 := by
  intro k
  induction k with
  | zero =>
    intro x y h1 h2 h3 h4
    cases h4
    obtain ⟨m, a, b, c⟩ := h3
    exact ⟨h2, m, a, by omega, c⟩
  | succ k ih =>
    intro x y h1 h2 h3 h4
    unfold pAll at h4
    split at h4
    · cases hp : pOne T N (.inr x) with
      | inl f => rw [hp, pAll_f] at h4; cases h4
      | inr z =>
        rw [hp] at h4
        obtain ⟨q1, q2, q3, q4⟩ := pOne_c h1 hn h2 h3 hp
        exact ih z y q2 q3 q4 h4
    · cases h4
      obtain ⟨m, a, b, c⟩ := h3
      exact ⟨h2, m, a, by omega, c⟩
theorem WFl.zero {W : Nat → Int32} (h : ∀ k, W k = 0) (L : Nat) : WFl W L := ⟨0, h 9, Nat.zero_le _, fun _ => h, fun q => absurd q (Nat.lt_irrefl 0)⟩
/-- what is read is a board-/
theorem pRead_ok {T : Nat → Int32} {N : Nat} (hn : N ≤ 1200) {y : LX × (Nat → Int32)} (h : pRead T N = .inr y) : WFa y.2 :=
  pAll_ok hn (N + 1) _ y (lx_ok (T := T) (Nat.zero_le N)).2.1 (WFb.zero fun _ => rfl) (WFl.zero (fun _ => rfl) _) h
theorem mL_bd0 {g : GW} {M : Nat} {pre post : AH} (hm : pre.length = M) {S0 : SM} {c n : Nat} {Q : Option Value → AH → Prop} : ∀ (k : Nat) (S : SM) (k2 : Nat), k2 + k = 116 → KX [] [6] S0 S → (∀ j, j < k2 ∨ 116 ≤ j → S.2.1 6 j = 0) → (∀ S' v', KX [] [6] S0 S' → (∀ j, S'.2.1 6 j = 0) → WP g 12 yX10_board cX10_board 2 (some .int) 49 [some (.ref M), v'] [] (mH M pre S' post) c n Q) → WP g 12 yX10_board cX10_board 2 (some .int) 30 [some (.ref M), some (.int (nI k2))] [] (mH M pre S post) c n Q := by
  intro k
  induction k with
  | zero =>
    intro S k2 hi kx ha hq
    refine wp_iload_1 dX10_board_30 rfl ?_
    refine wp_bipush 116 dX10_board_31 rfl rfl ?_
    refine wp_icmp_ge 49 dX10_board_33 rfl rfl (fun c33 => ?_) (fun c33 => ?_)
    · exact hq S _ kx (fun j => ha j (by omega))
    · exact absurd (show (116 : Int32) ≤ nI k2 by rw [show k2 = 116 by omega]; decide) c33
  | succ k ih =>
    intro S k2 hi kx ha hq
    refine wp_iload_1 dX10_board_30 rfl ?_
    refine wp_bipush 116 dX10_board_31 rfl rfl ?_
    refine wp_icmp_ge 49 dX10_board_33 rfl rfl (fun c33 => ?_) (fun c33 => ?_)
    · exact absurd c33 (show ¬ ((116 : Int32) ≤ nI k2) from nI_ge (a := k2) (b := 116) (by omega) (by omega))
    · refine wp_aload_0 dX10_board_36 rfl ?_
      refine wp_getf dX10_board_37 rfl q1845 fk10_14 (mg_0 hm) rfl ?_
      refine wp_iload_1 dX10_board_40 rfl ?_
      refine wp_iconst 0 dX10_board_41 rfl rfl ?_
      refine wp_iastoren k2 dX10_board_42 rfl (mg_6 hm) rfl (by omega) (by decide) (ms_A6 hm) ?_
      refine wp_iinc_1 1 dX10_board_43 rfl rfl (by decide) rfl ?_
      refine wp_goto 30 dX10_board_46 rfl rfl ?_
      exact WP.cast (by rw [nI_1]) (ih _ (k2 + 1) (by omega) ((kx.tr (KX.s6 _ _ _)).sub (by decide) (by decide)) (fun j hj => by
        by_cases q : j = k2
        · simp [sA, va_up, upd, q]
        · simp [sA, va_up, upd, q]
          exact ha j (by omega)) hq)
theorem mL_bd2 {g : GW} {M : Nat} {pre post : AH} (hm : pre.length = M) {S0 : SM} (hz : ∀ j, 116 ≤ j → S0.2.1 1 j = S0.2.1 6 j) {c n : Nat} {Q : Option Value → AH → Prop} : ∀ (k : Nat) (S : SM) (k2 : Nat), k2 + k = 116 → KX [] [1] S0 S → (∀ j, j < k2 ∨ 116 ≤ j → S.2.1 1 j = S0.2.1 6 j) → (∀ S' v', KX [] [1] S0 S' → (∀ j, S'.2.1 1 j = S0.2.1 6 j) → WP g 12 yX10_board cX10_board 2 (some .int) 110 [some (.ref M), v'] [] (mH M pre S' post) c n Q) → WP g 12 yX10_board cX10_board 2 (some .int) 86 [some (.ref M), some (.int (nI k2))] [] (mH M pre S post) c n Q := by
  intro k
  induction k with
  | zero =>
    intro S k2 hi kx ha hq
    refine wp_iload_1 dX10_board_86 rfl ?_
    refine wp_bipush 116 dX10_board_87 rfl rfl ?_
    refine wp_icmp_ge 110 dX10_board_89 rfl rfl (fun c89 => ?_) (fun c89 => ?_)
    · exact hq S _ kx (fun j => ha j (by omega))
    · exact absurd (show (116 : Int32) ≤ nI k2 by rw [show k2 = 116 by omega]; decide) c89
  | succ k ih =>
    intro S k2 hi kx ha hq
    refine wp_iload_1 dX10_board_86 rfl ?_
    refine wp_bipush 116 dX10_board_87 rfl rfl ?_
    refine wp_icmp_ge 110 dX10_board_89 rfl rfl (fun c89 => ?_) (fun c89 => ?_)
    · exact absurd c89 (show ¬ ((116 : Int32) ≤ nI k2) from nI_ge (a := k2) (b := 116) (by omega) (by omega))
    · refine wp_aload_0 dX10_board_92 rfl ?_
      refine wp_getf dX10_board_93 rfl q1832 fk10_1 (mg_0 hm) rfl ?_
      refine wp_iload_1 dX10_board_96 rfl ?_
      refine wp_aload_0 dX10_board_97 rfl ?_
      refine wp_getf dX10_board_98 rfl q1845 fk10_14 (mg_0 hm) rfl ?_
      refine wp_iload_1 dX10_board_101 rfl ?_
      refine wp_ialoadn k2 dX10_board_102 rfl (mg_6 hm) rfl (by omega) (by decide) ?_
      rw [show S.2.1 6 k2 = S0.2.1 6 k2 by rw [kx.2.1 6 (by decide)]]
      refine wp_iastoren k2 dX10_board_103 rfl (mg_1 hm) rfl (by omega) (by decide) (ms_A1 hm) ?_
      refine wp_iinc_1 1 dX10_board_104 rfl rfl (by decide) rfl ?_
      refine wp_goto 86 dX10_board_107 rfl rfl ?_
      exact WP.cast (by rw [nI_1]) (ih _ (k2 + 1) (by omega) ((kx.tr (KX.s1 _ _ _)).sub (by decide) (by decide)) (fun j hj => by
        by_cases q : j = k2
        · simp [sA, va_up, upd, q]
        · simp [sA, va_up, upd, q]
          exact ha j (by omega)) hq)
theorem mL_bd1 {g : GW} {M : Nat} {pre post : AH} (hm : pre.length = M) {T : Nat → Int32} {N : Nat} {S0 : SM} (hn : N ≤ 1200) {c n9 : Nat} {Q : Option Value → AH → Prop} {v1 : Option Value} : ∀ (k : Nat) (S : SM) (s : PX), (∀ x, s = .inr x → WFb x.2 ∧ WFl x.2 (lAt x.1) ∧ N + 1 ≤ k + lAt x.1 ∧ lAt x.1 ≤ N) → KR S0 S → PI T N S s → (∀ S', KR S0 S' → PI T N S' (pAll T N k s) → WP g 12 yX10_board cX10_board 2 (some .int) 74 [some (.ref M), v1] [] (mH M pre S' post) c n9 Q) → WP g 12 yX10_board cX10_board 2 (some .int) 53 [some (.ref M), v1] [] (mH M pre S post) c n9 Q := by
  intro k
  induction k with
  | zero =>
    intro S s hs kr hP hq
    rcases s with f | x
    · refine wp_aload_0 dX10_board_53 rfl ?_
      refine wp_cvR dX10_board_54 rfl q2016 mv_X10_good (mg_0 hm) rfl rfl (m_good hm) rfl rfl (Nat.le_of_ble_eq_true rfl) (Nat.le_of_ble_eq_true rfl) ?_
      refine wp_ifeq_b 74 dX10_board_57 rfl rfl (fun c57 => ?_) (fun c57 => ?_)
      · exact hq S kr (by rw [pAll_f]; exact hP)
      · exact absurd c57 (by rw [hP.bad]; decide)
    · have q := hs x rfl
      omega
  | succ k ih =>
    intro S s hs kr hP hq
    rcases s with f | x
    · refine wp_aload_0 dX10_board_53 rfl ?_
      refine wp_cvR dX10_board_54 rfl q2016 mv_X10_good (mg_0 hm) rfl rfl (m_good hm) rfl rfl (Nat.le_of_ble_eq_true rfl) (Nat.le_of_ble_eq_true rfl) ?_
      refine wp_ifeq_b 74 dX10_board_57 rfl rfl (fun c57 => ?_) (fun c57 => ?_)
      · exact hq S kr (by rw [pAll_f]; exact hP)
      · exact absurd c57 (by rw [hP.bad]; decide)
    · have hx := hs x rfl
      refine wp_aload_0 dX10_board_53 rfl ?_
      refine wp_cvR dX10_board_54 rfl q2016 mv_X10_good (mg_0 hm) rfl rfl (m_good hm) rfl rfl (Nat.le_of_ble_eq_true rfl) (Nat.le_of_ble_eq_true rfl) ?_
      refine wp_ifeq_b 74 dX10_board_57 rfl rfl (fun c57 => ?_) (fun c57 => ?_)
      · exact absurd c57 (by rw [hP.ok]; decide)
      · refine wp_aload_0 dX10_board_60 rfl ?_
        refine wp_getf dX10_board_61 rfl q1841 fk10_10 (mg_0 hm) rfl ?_
        rw [hP.ls.2.2.1]
        refine wp_if_eq_k 74 dX10_board_64 rfl rfl (by have := hP.bd; omega) (fun c64 => ?_) (fun c64 => ?_)
        · exact hq S kr (by rw [show pAll T N (k + 1) (.inr x) = .inr x from if_neg (by show ¬ (!decide (lTk x.1 = 0)) = true; rw [decide_eq_true c64]; decide)]; exact hP)
        · refine wp_aload_0 dX10_board_67 rfl ?_
          refine wp_cvE dX10_board_68 rfl q2020 mv_X10_readLine (mg_0 hm) rfl rfl (m_readLine hm hP hx.1.1) rfl rfl (Nat.le_of_ble_eq_true rfl) (Nat.le_of_ble_eq_true rfl) (fun h1 hq => ?_)
          obtain ⟨S1, rfl, hk1, hP1⟩ := hq
          refine wp_goto 53 dX10_board_71 rfl rfl ?_
          exact ih S1 (pOne T N (.inr x)) (fun y hy => by obtain ⟨q1, q2, q3, q4⟩ := pOne_c hx.2.2.2 hn hx.1 hx.2.1 hy; exact ⟨q3, q4, by omega, q2⟩) (kr.tr hk1) hP1 (fun S9 k9 p9 => hq S9 k9 (by rw [show pAll T N (k + 1) (.inr x) = pAll T N k (pOne T N (.inr x)) from if_pos (by show (!decide (lTk x.1 = 0)) = true; rw [decide_eq_false c64]; rfl)]; exact p9))
theorem q_m_board {g : GW} {M : Nat} {pre post : AH} {S : SM} (hm : pre.length = M) {N : Nat} (h5 : S.1 5 = nI N) (hn : N ≤ 1200) (hz1 : ∀ k, 116 ≤ k → wd S k = 0) (hz6 : ∀ k, 116 ≤ k → S.2.1 6 k = 0) : SP g 12 0 0 yX10_board cX10_board 2 (some .int) [.ref M] (mH M pre S post) (fun v h1 => ∃ S', h1 = mH M pre S' post ∧ KB S S' ∧ RB v S S' (pRead (S.2.1 4) N)) := by
  refine SP.intro [some (.ref M), none] (pfn (by decide)) rfl (Nat.le_of_ble_eq_true rfl) ?_
  refine wp_aload_0 dX10_board_0 rfl ?_
  refine wp_aload_0 dX10_board_1 rfl ?_
  refine wp_getf dX10_board_2 rfl q1836 fk10_5 (mg_0 hm) rfl ?_
  refine wp_putf dX10_board_5 rfl q1838 fp10_7 (mg_0 hm) rfl rfl (Nat.le_of_ble_eq_true rfl) (ms_F7 hm) ?_
  refine wp_aload_0 dX10_board_8 rfl ?_
  refine wp_iconst 0 dX10_board_9 rfl rfl ?_
  refine wp_putf dX10_board_10 rfl q1836 fp10_5 (mg_0 hm) rfl rfl (Nat.le_of_ble_eq_true rfl) (ms_F5 hm) ?_
  refine wp_aload_0 dX10_board_13 rfl ?_
  refine wp_iconst 0 dX10_board_14 rfl rfl ?_
  refine wp_putf dX10_board_15 rfl q1839 fp10_8 (mg_0 hm) rfl rfl (Nat.le_of_ble_eq_true rfl) (ms_F8 hm) ?_
  refine wp_aload_0 dX10_board_18 rfl ?_
  refine wp_iconst 0 dX10_board_19 rfl rfl ?_
  refine wp_putf dX10_board_20 rfl q1843 fp10_12 (mg_0 hm) rfl rfl (Nat.le_of_ble_eq_true rfl) (ms_F12 hm) ?_
  refine wp_aload_0 dX10_board_23 rfl ?_
  refine wp_iconst (-1) dX10_board_24 rfl rfl ?_
  refine wp_putf dX10_board_25 rfl q1844 fp10_13 (mg_0 hm) rfl rfl (Nat.le_of_ble_eq_true rfl) (ms_F13 hm) ?_
  refine wp_iconst 0 dX10_board_28 rfl rfl ?_
  refine wp_istore_1 dX10_board_29 rfl (by decide) rfl ?_
  refine mL_bd0 hm 116 (sF 13 (-1) (sF 12 0 (sF 8 0 (sF 5 0 (sF 7 (S.1 5) S))))) 0 (Nat.zero_add _) (KX.rf _ _ _) (fun j hj => hz6 j (by omega)) (fun S1 v1 k1 z1 => ?_)
  refine wp_aload_0 dX10_board_49 rfl ?_
  refine wp_cvE dX10_board_50 rfl q2002 mv_X10_advance (mg_0 hm) rfl rfl (m_advance (T := S.2.1 4) (i := 0) hm (k1.2.1 4 (by decide)) ((k1.1 7 (by decide)).trans h5) hn (k1.1 8 (by decide)) (Nat.zero_le _)) rfl rfl (Nat.le_of_ble_eq_true rfl) (Nat.le_of_ble_eq_true rfl) (fun h1 hq => ?_)
  obtain ⟨S2, rfl, hk2, hl2⟩ := hq
  have hP2 : PI (S.2.1 4) N S2 (.inr (lx (S.2.1 4) N 0, fun _ => 0)) := ⟨⟨(hk2.2.1 4 (by decide)).trans (k1.2.1 4 (by decide)), (hk2.1 7 (by decide)).trans ((k1.1 7 (by decide)).trans h5), hn⟩, (hk2.1 12 (by decide)).trans (k1.1 12 (by decide)), (hk2.1 13 (by decide)).trans (k1.1 13 (by decide)), hl2, lx_ok (Nat.zero_le N), (hk2.2.1 6 (by decide)).trans (funext z1)⟩
  refine mL_bd1 hm hn (N + 1) S2 _ (fun x hx => by cases hx; exact ⟨WFb.zero fun _ => rfl, WFl.zero (fun _ => rfl) _, by omega, (lx_ok (Nat.zero_le N)).2.1⟩) (KR.rf S2) hP2 (fun S3 k3 hP3 => ?_)
  have hP3 : PI (S.2.1 4) N S3 (pRead (S.2.1 4) N) := hP3
  have hz3 : ∀ k, 116 ≤ k → S2.2.1 6 k = 0 := fun k _ => by rw [hk2.2.1 6 (by decide)]; exact z1 k
  have hkb : (∀ j, j = 1 ∨ j = 2 ∨ j = 3 ∨ j = 4 ∨ j = 19 ∨ j = 20 → S3.2.1 j = S.2.1 j) ∧ S3.2.2 = S.2.2 ∧ S3.1 5 = 0 := by
    refine ⟨fun j hj => ?_, (k3.1.2.2.trans hk2.2.2).trans k1.2.2, (k3.1.1 5 (by decide)).trans ((hk2.1 5 (by decide)).trans (k1.1 5 (by decide)))⟩
    rcases hj with rfl | rfl | rfl | rfl | rfl | rfl <;> exact (k3.1.2.1 _ (by decide)).trans ((hk2.2.1 _ (by decide)).trans (k1.2.1 _ (by decide)))
  cases hr : pRead (S.2.1 4) N with
  | inl f =>
    rw [hr] at hP3
    refine wp_aload_0 dX10_board_74 rfl ?_
    refine wp_cvR dX10_board_75 rfl q2016 mv_X10_good (mg_0 hm) rfl rfl (m_good hm) rfl rfl (Nat.le_of_ble_eq_true rfl) (Nat.le_of_ble_eq_true rfl) ?_
    refine wp_ifne_b 84 dX10_board_78 rfl rfl (fun c78 => ?_) (fun c78 => ?_)
    · exact absurd c78 (by rw [hP3.bad]; decide)
    · refine wp_bipush (-4) dX10_board_81 rfl rfl ?_
      exact wp_ireturn dX10_board_83 rfl ⟨S3, rfl, ⟨fun j hj => hkb.1 j (by omega), congrArg (fun u => u.1 21) hkb.2.1, hkb.2.2, fun k hk => (k3.2 k hk).trans (hz3 k hk)⟩, ⟨rfl, hP3.2.1, hP3.2.2.1, hkb.1 1 (Or.inl rfl)⟩⟩
  | inr x =>
    rw [hr] at hP3
    have hwf := pRead_ok hn hr
    refine wp_aload_0 dX10_board_74 rfl ?_
    refine wp_cvR dX10_board_75 rfl q2016 mv_X10_good (mg_0 hm) rfl rfl (m_good hm) rfl rfl (Nat.le_of_ble_eq_true rfl) (Nat.le_of_ble_eq_true rfl) ?_
    refine wp_ifne_b 84 dX10_board_78 rfl rfl (fun c78 => ?_) (fun c78 => ?_)
    · refine wp_iconst 0 dX10_board_84 rfl rfl ?_
      refine wp_istore_1 dX10_board_85 rfl (by decide) rfl ?_
      refine mL_bd2 (S0 := S3) hm (fun j hj => by rw [hkb.1 1 (Or.inl rfl), hP3.fr]; exact (hz1 j hj).trans (hwf.1.2.2.2.2.1 j hj).symm) 116 S3 0 (Nat.zero_add _) (KX.rf _ _ _) (fun j hj => by rw [hkb.1 1 (Or.inl rfl), hP3.fr]; exact (hz1 j (by omega)).trans (hwf.1.2.2.2.2.1 j (by omega)).symm) (fun S4 v4 k4 z4 => ?_)
      refine wp_aload_0 dX10_board_110 rfl ?_
      refine wp_getf dX10_board_111 rfl q1832 fk10_1 (mg_0 hm) rfl ?_
      refine wp_bipush 9 dX10_board_114 rfl rfl ?_
      refine wp_ialoadn 9 dX10_board_116 rfl (mg_1 hm) rfl (by decide) (by decide) ?_
      rw [show S4.2.1 1 9 = x.2 9 by rw [z4, hP3.fr]]
      exact wp_ireturn dX10_board_117 rfl ⟨S4, rfl, ⟨fun j hj => by rw [k4.2.1 j (by simp; omega)]; exact hkb.1 j (by omega), by rw [k4.2.2]; exact congrArg (fun u => u.1 21) hkb.2.1, (k4.1 5 (by decide)).trans hkb.2.2, fun k hk => by rw [k4.2.1 6 (by decide), hP3.fr]; exact hwf.1.2.2.2.2.1 k hk⟩, ⟨rfl, (k4.1 12 (by decide)).trans hP3.2.1, (k4.1 13 (by decide)).trans hP3.2.2.1, by show S4.2.1 1 = _; rw [funext z4]; exact hP3.fr⟩⟩
    · exact absurd c78 (by rw [hP3.ok]; decide)
