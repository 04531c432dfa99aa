/-! ===== Math; the reference: small ones ===== -/
set_option maxRecDepth 100000
theorem j_abs {g : GW} {h : AH} {x : Int32} : SPx g 1 0 0 yJ3_abs cJ3_abs 1 (some .int) [.int x] h (some (.int (ab32 x))) h := by
  refine SPx.intro [some (.int x)] (by decide +kernel) rfl (Nat.le_of_ble_eq_true rfl) ?_
  refine wp_iload_0 dJ3_abs_0 rfl ?_
  refine wp_if_ge 9 dJ3_abs_1 rfl rfl (fun c1 => ?_) (fun c1 => ?_)
  · refine wp_iload_0 dJ3_abs_9 rfl ?_
    exact wp_ireturn dJ3_abs_10 rfl ⟨by simp [ab32, *], rfl⟩
  · refine wp_iload_0 dJ3_abs_4 rfl ?_
    refine wp_ineg dJ3_abs_5 rfl ?_
    refine wp_goto 10 dJ3_abs_6 rfl rfl ?_
    exact wp_ireturn dJ3_abs_10 rfl ⟨by simp [ab32, *], rfl⟩
theorem j_max {g : GW} {h : AH} {x z : Int32} : SPx g 1 0 0 yJ3_max cJ3_max 2 (some .int) [.int x, .int z] h (some (.int (mx32 x z))) h := by
  refine SPx.intro [some (.int x), some (.int z)] (by decide +kernel) rfl (Nat.le_of_ble_eq_true rfl) ?_
  refine wp_iload_0 dJ3_max_0 rfl ?_
  refine wp_iload_1 dJ3_max_1 rfl ?_
  refine wp_icmp_lt 9 dJ3_max_2 rfl rfl (fun c2 => ?_) (fun c2 => ?_)
  · refine wp_iload_1 dJ3_max_9 rfl ?_
    exact wp_ireturn dJ3_max_10 rfl ⟨by simp [mx32, *], rfl⟩
  · refine wp_iload_0 dJ3_max_5 rfl ?_
    refine wp_goto 10 dJ3_max_6 rfl rfl ?_
    exact wp_ireturn dJ3_max_10 rfl ⟨by simp [mx32, *], rfl⟩
theorem j_min {g : GW} {h : AH} {x z : Int32} : SPx g 1 0 0 yJ3_min cJ3_min 2 (some .int) [.int x, .int z] h (some (.int (mn32 x z))) h := by
  refine SPx.intro [some (.int x), some (.int z)] (by decide +kernel) rfl (Nat.le_of_ble_eq_true rfl) ?_
  refine wp_iload_0 dJ3_min_0 rfl ?_
  refine wp_iload_1 dJ3_min_1 rfl ?_
  refine wp_icmp_gt 9 dJ3_min_2 rfl rfl (fun c2 => ?_) (fun c2 => ?_)
  · refine wp_iload_1 dJ3_min_9 rfl ?_
    exact wp_ireturn dJ3_min_10 rfl ⟨by simp [mn32, *], rfl⟩
  · refine wp_iload_0 dJ3_min_5 rfl ?_
    refine wp_goto 10 dJ3_min_6 rfl rfl ?_
    exact wp_ireturn dJ3_min_10 rfl ⟨by simp [mn32, *], rfl⟩
theorem m_in {g : GW} {h : AH} {x a z : Int64} : SPx g 1 0 0 yX10_in cX10_in 6 (some .boolean) [.long x, .long a, .long z] h (some (.int (b2i (inL x a z)))) h := by
  refine SPx.intro [some (.long x), none, some (.long a), none, some (.long z), none] (pfn (by decide)) rfl (Nat.le_of_ble_eq_true rfl) ?_
  refine wp_lload_0 dX10_in_0 rfl ?_
  refine wp_lload_2 dX10_in_1 rfl ?_
  refine wp_lcmp dX10_in_2 rfl ?_
  refine wp_if_lt 17 dX10_in_3 rfl rfl (fun c3 => ?_) (fun c3 => ?_)
  · refine wp_iconst 0 dX10_in_17 rfl rfl ?_
    exact wp_zreturn dX10_in_18 rfl rfl ⟨by simp only [lg_lt, lg_gt] at *; simp [b2i, inL, ← Int64.not_lt, *], rfl⟩
  · refine wp_lload_0 dX10_in_6 rfl ?_
    refine wp_lload_4 dX10_in_7 rfl ?_
    refine wp_lcmp dX10_in_9 rfl ?_
    refine wp_if_gt 17 dX10_in_10 rfl rfl (fun c10 => ?_) (fun c10 => ?_)
    · refine wp_iconst 0 dX10_in_17 rfl rfl ?_
      exact wp_zreturn dX10_in_18 rfl rfl ⟨by simp only [lg_lt, lg_gt] at *; simp [b2i, inL, ← Int64.not_lt, *], rfl⟩
    · refine wp_iconst 1 dX10_in_13 rfl rfl ?_
      refine wp_goto 18 dX10_in_14 rfl rfl ?_
      exact wp_zreturn dX10_in_18 rfl rfl ⟨by simp only [lg_lt, lg_gt] at *; simp [b2i, inL, ← Int64.not_lt, *], rfl⟩
theorem m_isBoard {g : GW} {M : Nat} {pre post : AH} {S : SM} (hm : pre.length = M)  : SPx g 1 0 0 yX10_isBoard cX10_isBoard 1 (some .boolean) [.ref M] (mH M pre S post) (some (.int (b2i (bdW (wd S))))) (mH M pre S post) := by
  refine SPx.intro [some (.ref M)] (pfn (by decide)) rfl (Nat.le_of_ble_eq_true rfl) ?_
  refine wp_aload_0 dX10_isBoard_0 rfl ?_
  refine wp_getf dX10_isBoard_1 rfl q1832 fk10_1 (mg_0 hm) rfl ?_
  refine wp_iconst 0 dX10_isBoard_4 rfl rfl ?_
  refine wp_ialoadn 0 dX10_isBoard_5 rfl (mg_1 hm) rfl (by decide) (by decide) ?_
  refine wp_if_le 13 dX10_isBoard_6 rfl rfl (fun c6 => ?_) (fun c6 => ?_)
  · refine wp_iconst 0 dX10_isBoard_13 rfl rfl ?_
    exact wp_zreturn dX10_isBoard_14 rfl rfl ⟨bf (decide_eq_false (Int32.not_lt.mpr c6)), rfl⟩
  · refine wp_iconst 1 dX10_isBoard_9 rfl rfl ?_
    refine wp_goto 14 dX10_isBoard_10 rfl rfl ?_
    exact wp_zreturn dX10_isBoard_14 rfl rfl ⟨bt (decide_eq_true (Int32.not_le.mp c6)), rfl⟩
theorem m_holes {g : GW} {M : Nat} {pre post : AH} {S : SM} (hm : pre.length = M)  : SPx g 1 0 0 yX10_holes cX10_holes 1 (some .int) [.ref M] (mH M pre S post) (some (.int (hoW (wd S)))) (mH M pre S post) := by
  refine SPx.intro [some (.ref M)] (pfn (by decide)) rfl (Nat.le_of_ble_eq_true rfl) ?_
  refine wp_aload_0 dX10_holes_0 rfl ?_
  refine wp_getf dX10_holes_1 rfl q1832 fk10_1 (mg_0 hm) rfl ?_
  refine wp_iconst 0 dX10_holes_4 rfl rfl ?_
  refine wp_ialoadn 0 dX10_holes_5 rfl (mg_1 hm) rfl (by decide) (by decide) ?_
  refine wp_aload_0 dX10_holes_6 rfl ?_
  refine wp_getf dX10_holes_7 rfl q1832 fk10_1 (mg_0 hm) rfl ?_
  refine wp_iconst 1 dX10_holes_10 rfl rfl ?_
  refine wp_ialoadn 1 dX10_holes_11 rfl (mg_1 hm) rfl (by decide) (by decide) ?_
  refine wp_imul dX10_holes_12 rfl ?_
  exact wp_ireturn dX10_holes_13 rfl ⟨rfl, rfl⟩
theorem m_isHole {g : GW} {M : Nat} {pre post : AH} {S : SM} (hm : pre.length = M) {x : Int64} : SPx g 2 0 0 yX10_isHole cX10_isHole 3 (some .boolean) [.ref M, .long x] (mH M pre S post) (some (.int (b2i (hlL (wd S) x)))) (mH M pre S post) := by
  refine SPx.intro [some (.ref M), some (.long x), none] (pfn (by decide)) rfl (Nat.le_of_ble_eq_true rfl) ?_
  refine wp_lload_1 dX10_isHole_0 rfl ?_
  refine wp_lconst 0 dX10_isHole_1 rfl rfl ?_
  refine wp_aload_0 dX10_isHole_2 rfl ?_
  refine wp_cvR dX10_isHole_3 rfl q2206 mv_X10_holes (mg_0 hm) rfl rfl (m_holes hm) rfl rfl (Nat.le_of_ble_eq_true rfl) (Nat.le_of_ble_eq_true rfl) ?_
  refine wp_iconst 1 dX10_isHole_6 rfl rfl ?_
  refine wp_isub dX10_isHole_7 rfl ?_
  refine wp_i2l dX10_isHole_8 rfl ?_
  refine wp_csR dX10_isHole_9 rfl q1979 ms_X10_in m_in rfl rfl (Nat.le_of_ble_eq_true rfl) (Nat.le_of_ble_eq_true rfl) ?_
  exact wp_zreturn dX10_isHole_12 rfl (nz_b2i _) ⟨rfl, rfl⟩
theorem m_isShut {g : GW} {M : Nat} {pre post : AH} {S : SM} (hm : pre.length = M) {x : Int32} : SPx g 1 0 0 yX10_isShut cX10_isShut 2 (some .boolean) [.ref M, .int x] (mH M pre S post) (some (.int (b2i (shW (wd S) x)))) (mH M pre S post) := by
  refine SPx.intro [some (.ref M), some (.int x)] (pfn (by decide)) rfl (Nat.le_of_ble_eq_true rfl) ?_
  refine wp_aload_0 dX10_isShut_0 rfl ?_
  refine wp_getf dX10_isShut_1 rfl q1832 fk10_1 (mg_0 hm) rfl ?_
  refine wp_bipush 7 dX10_isShut_4 rfl rfl ?_
  refine wp_ialoadn 7 dX10_isShut_6 rfl (mg_1 hm) rfl (by decide) (by decide) ?_
  refine wp_iload_1 dX10_isShut_7 rfl ?_
  refine wp_ishr dX10_isShut_8 rfl ?_
  refine wp_iconst 1 dX10_isShut_9 rfl rfl ?_
  refine wp_iand dX10_isShut_10 rfl ?_
  refine wp_iconst 1 dX10_isShut_11 rfl rfl ?_
  refine wp_icmp_ne 19 dX10_isShut_12 rfl rfl (fun c12 => ?_) (fun c12 => ?_)
  · refine wp_iconst 0 dX10_isShut_19 rfl rfl ?_
    exact wp_zreturn dX10_isShut_20 rfl rfl ⟨bf (decide_eq_false c12), rfl⟩
  · refine wp_iconst 1 dX10_isShut_15 rfl rfl ?_
    refine wp_goto 20 dX10_isShut_16 rfl rfl ?_
    exact wp_zreturn dX10_isShut_20 rfl rfl ⟨bt (decide_eq_true c12), rfl⟩
theorem m_isTick {g : GW} {M : Nat} {pre post : AH} {S : SM} (hm : pre.length = M) {x : Int64} : SPx g 2 0 0 yX10_isTick cX10_isTick 3 (some .boolean) [.ref M, .long x] (mH M pre S post) (some (.int (b2i (tkL (wd S) x)))) (mH M pre S post) := by
  refine SPx.intro [some (.ref M), some (.long x), none] (pfn (by decide)) rfl (Nat.le_of_ble_eq_true rfl) ?_
  refine wp_lload_1 dX10_isTick_0 rfl ?_
  refine wp_lconst 0 dX10_isTick_1 rfl rfl ?_
  refine wp_aload_0 dX10_isTick_2 rfl ?_
  refine wp_getf dX10_isTick_3 rfl q1832 fk10_1 (mg_0 hm) rfl ?_
  refine wp_iconst 2 dX10_isTick_6 rfl rfl ?_
  refine wp_ialoadn 2 dX10_isTick_7 rfl (mg_1 hm) rfl (by decide) (by decide) ?_
  refine wp_iconst 1 dX10_isTick_8 rfl rfl ?_
  refine wp_isub dX10_isTick_9 rfl ?_
  refine wp_i2l dX10_isTick_10 rfl ?_
  refine wp_csR dX10_isTick_11 rfl q1979 ms_X10_in m_in rfl rfl (Nat.le_of_ble_eq_true rfl) (Nat.le_of_ble_eq_true rfl) ?_
  exact wp_zreturn dX10_isTick_14 rfl (nz_b2i _) ⟨rfl, rfl⟩
theorem m_isComing {g : GW} {M : Nat} {pre post : AH} {S : SM} (hm : pre.length = M) {x : Int32} : SPx g 2 0 0 yX10_isComing cX10_isComing 2 (some .boolean) [.ref M, .int x] (mH M pre S post) (some (.int (b2i (cmW (wd S) x)))) (mH M pre S post) := by
  refine SPx.intro [some (.ref M), some (.int x)] (pfn (by decide)) rfl (Nat.le_of_ble_eq_true rfl) ?_
  refine wp_iload_1 dX10_isComing_0 rfl ?_
  refine wp_i2l dX10_isComing_1 rfl ?_
  refine wp_lconst 0 dX10_isComing_2 rfl rfl ?_
  refine wp_aload_0 dX10_isComing_3 rfl ?_
  refine wp_getf dX10_isComing_4 rfl q1832 fk10_1 (mg_0 hm) rfl ?_
  refine wp_iconst 5 dX10_isComing_7 rfl rfl ?_
  refine wp_ialoadn 5 dX10_isComing_8 rfl (mg_1 hm) rfl (by decide) (by decide) ?_
  refine wp_iconst 1 dX10_isComing_9 rfl rfl ?_
  refine wp_isub dX10_isComing_10 rfl ?_
  refine wp_i2l dX10_isComing_11 rfl ?_
  refine wp_csR dX10_isComing_12 rfl q1979 ms_X10_in m_in rfl rfl (Nat.le_of_ble_eq_true rfl) (Nat.le_of_ble_eq_true rfl) ?_
  exact wp_zreturn dX10_isComing_15 rfl (nz_b2i _) ⟨by rw [inL_0]; rfl, rfl⟩
theorem m_isPlayer {g : GW} {M : Nat} {pre post : AH} {S : SM} (hm : pre.length = M) {x : Int32} : SPx g 2 0 0 yX10_isPlayer cX10_isPlayer 2 (some .boolean) [.ref M, .int x] (mH M pre S post) (some (.int (b2i (plW (wd S) x)))) (mH M pre S post) := by
  refine SPx.intro [some (.ref M), some (.int x)] (pfn (by decide)) rfl (Nat.le_of_ble_eq_true rfl) ?_
  refine wp_iload_1 dX10_isPlayer_0 rfl ?_
  refine wp_i2l dX10_isPlayer_1 rfl ?_
  refine wp_lconst 0 dX10_isPlayer_2 rfl rfl ?_
  refine wp_aload_0 dX10_isPlayer_3 rfl ?_
  refine wp_getf dX10_isPlayer_4 rfl q1832 fk10_1 (mg_0 hm) rfl ?_
  refine wp_bipush 6 dX10_isPlayer_7 rfl rfl ?_
  refine wp_ialoadn 6 dX10_isPlayer_9 rfl (mg_1 hm) rfl (by decide) (by decide) ?_
  refine wp_iconst 1 dX10_isPlayer_10 rfl rfl ?_
  refine wp_isub dX10_isPlayer_11 rfl ?_
  refine wp_i2l dX10_isPlayer_12 rfl ?_
  refine wp_csR dX10_isPlayer_13 rfl q1979 ms_X10_in m_in rfl rfl (Nat.le_of_ble_eq_true rfl) (Nat.le_of_ble_eq_true rfl) ?_
  exact wp_zreturn dX10_isPlayer_16 rfl (nz_b2i _) ⟨by rw [inL_0]; rfl, rfl⟩
theorem m_ofComing {g : GW} {M : Nat} {pre post : AH} {S : SM} (hm : pre.length = M) {k w : Nat} (hk : k < 24) (hw : w < 3) : SPx g 1 0 0 yX10_ofComing cX10_ofComing 3 (some .int) [.ref M, .int (nI k), .int (nI w)] (mH M pre S post) (some (.int (wd S (24 + 3 * k + w)))) (mH M pre S post) := by
  refine SPx.intro [some (.ref M), some (.int (nI k)), some (.int (nI w))] (pfn (by decide)) rfl (Nat.le_of_ble_eq_true rfl) ?_
  refine wp_aload_0 dX10_ofComing_0 rfl ?_
  refine wp_getf dX10_ofComing_1 rfl q1832 fk10_1 (mg_0 hm) rfl ?_
  refine wp_bipush 24 dX10_ofComing_4 rfl rfl ?_
  refine wp_iconst 3 dX10_ofComing_6 rfl rfl ?_
  refine wp_iload_1 dX10_ofComing_7 rfl ?_
  refine wp_imul dX10_ofComing_8 rfl ?_
  refine wp_iadd dX10_ofComing_9 rfl ?_
  refine wp_iload_2 dX10_ofComing_10 rfl ?_
  refine wp_iadd dX10_ofComing_11 rfl ?_
  refine wp_ialoadn (24 + 3 * k + w) dX10_ofComing_12 rfl (mg_1 hm) (by rw [show (24 : Int32) = nI 24 from rfl, show (3 : Int32) = nI 3 from rfl, pk_mul, nI_add, nI_add]) (by omega) (by decide) ?_
  exact wp_ireturn dX10_ofComing_13 rfl ⟨rfl, rfl⟩
theorem m_of {g : GW} {M : Nat} {pre post : AH} {S : SM} (hm : pre.length = M) {k w : Nat} (hk : k < 4) (hw : w < 5) : SPx g 1 0 0 yX10_of cX10_of 3 (some .int) [.ref M, .int (nI k), .int (nI w)] (mH M pre S post) (some (.int (wd S (96 + 5 * k + w)))) (mH M pre S post) := by
  refine SPx.intro [some (.ref M), some (.int (nI k)), some (.int (nI w))] (pfn (by decide)) rfl (Nat.le_of_ble_eq_true rfl) ?_
  refine wp_aload_0 dX10_of_0 rfl ?_
  refine wp_getf dX10_of_1 rfl q1832 fk10_1 (mg_0 hm) rfl ?_
  refine wp_bipush 96 dX10_of_4 rfl rfl ?_
  refine wp_iconst 5 dX10_of_6 rfl rfl ?_
  refine wp_iload_1 dX10_of_7 rfl ?_
  refine wp_imul dX10_of_8 rfl ?_
  refine wp_iadd dX10_of_9 rfl ?_
  refine wp_iload_2 dX10_of_10 rfl ?_
  refine wp_iadd dX10_of_11 rfl ?_
  refine wp_ialoadn (96 + 5 * k + w) dX10_of_12 rfl (mg_1 hm) (by rw [show (96 : Int32) = nI 96 from rfl, show (5 : Int32) = nI 5 from rfl, pk_mul, nI_add, nI_add]) (by omega) (by decide) ?_
  exact wp_ireturn dX10_of_13 rfl ⟨rfl, rfl⟩
theorem m_stepsOf {g : GW} {M : Nat} {pre post : AH} {S : SM} (hm : pre.length = M) (h0 : ¬ wd S 0 = 0) {x z : Int32} : SPx g 2 0 0 yX10_stepsOf cX10_stepsOf 3 (some .int) [.ref M, .int x, .int z] (mH M pre S post) (some (.int (stW (wd S) x z))) (mH M pre S post) := by
  refine SPx.intro [some (.ref M), some (.int x), some (.int z)] (pfn (by decide)) rfl (Nat.le_of_ble_eq_true rfl) ?_
  refine wp_iload_1 dX10_stepsOf_0 rfl ?_
  refine wp_aload_0 dX10_stepsOf_1 rfl ?_
  refine wp_getf dX10_stepsOf_2 rfl q1832 fk10_1 (mg_0 hm) rfl ?_
  refine wp_iconst 0 dX10_stepsOf_5 rfl rfl ?_
  refine wp_ialoadn 0 dX10_stepsOf_6 rfl (mg_1 hm) rfl (by decide) (by decide) ?_
  refine wp_irem dX10_stepsOf_7 rfl h0 ?_
  refine wp_iload_2 dX10_stepsOf_8 rfl ?_
  refine wp_aload_0 dX10_stepsOf_9 rfl ?_
  refine wp_getf dX10_stepsOf_10 rfl q1832 fk10_1 (mg_0 hm) rfl ?_
  refine wp_iconst 0 dX10_stepsOf_13 rfl rfl ?_
  refine wp_ialoadn 0 dX10_stepsOf_14 rfl (mg_1 hm) rfl (by decide) (by decide) ?_
  refine wp_irem dX10_stepsOf_15 rfl h0 ?_
  refine wp_isub dX10_stepsOf_16 rfl ?_
  refine wp_csR dX10_stepsOf_17 rfl q2214 ms_J3_abs j_abs rfl rfl (Nat.le_of_ble_eq_true rfl) (Nat.le_of_ble_eq_true rfl) ?_
  refine wp_iload_1 dX10_stepsOf_20 rfl ?_
  refine wp_aload_0 dX10_stepsOf_21 rfl ?_
  refine wp_getf dX10_stepsOf_22 rfl q1832 fk10_1 (mg_0 hm) rfl ?_
  refine wp_iconst 0 dX10_stepsOf_25 rfl rfl ?_
  refine wp_ialoadn 0 dX10_stepsOf_26 rfl (mg_1 hm) rfl (by decide) (by decide) ?_
  refine wp_idiv dX10_stepsOf_27 rfl h0 ?_
  refine wp_iload_2 dX10_stepsOf_28 rfl ?_
  refine wp_aload_0 dX10_stepsOf_29 rfl ?_
  refine wp_getf dX10_stepsOf_30 rfl q1832 fk10_1 (mg_0 hm) rfl ?_
  refine wp_iconst 0 dX10_stepsOf_33 rfl rfl ?_
  refine wp_ialoadn 0 dX10_stepsOf_34 rfl (mg_1 hm) rfl (by decide) (by decide) ?_
  refine wp_idiv dX10_stepsOf_35 rfl h0 ?_
  refine wp_isub dX10_stepsOf_36 rfl ?_
  refine wp_csR dX10_stepsOf_37 rfl q2214 ms_J3_abs j_abs rfl rfl (Nat.le_of_ble_eq_true rfl) (Nat.le_of_ble_eq_true rfl) ?_
  refine wp_iadd dX10_stepsOf_40 rfl ?_
  exact wp_ireturn dX10_stepsOf_41 rfl ⟨rfl, rfl⟩
