/-! ===== the class: small ones ===== -/
set_option maxRecDepth 100000
theorem c_in {g : GW} {h : AH}  {x a z : Int64} : SPx g 1 0 0 yX0_in cX0_in 6 (some .boolean) [.long x, .long a, .long z] h (some (.int (b2i (inL x a z)))) h := by
  refine SPx.intro [some (.long x), none, some (.long a), none, some (.long z), none] (pfn (by decide)) rfl (Nat.le_of_ble_eq_true rfl) ?_
  refine wp_lload_0 dX0_in_0 rfl ?_
  refine wp_lload_2 dX0_in_1 rfl ?_
  refine wp_lcmp dX0_in_2 rfl ?_
  refine wp_if_lt 17 dX0_in_3 rfl rfl (fun c3 => ?_) (fun c3 => ?_)
  · refine wp_iconst 0 dX0_in_17 rfl rfl ?_
    exact wp_zreturn dX0_in_18 rfl rfl ⟨by simp only [lg_lt, lg_gt] at *; simp [b2i, inL, ← Int64.not_lt, *], rfl⟩
  · refine wp_lload_0 dX0_in_6 rfl ?_
    refine wp_lload_4 dX0_in_7 rfl ?_
    refine wp_lcmp dX0_in_9 rfl ?_
    refine wp_if_gt 17 dX0_in_10 rfl rfl (fun c10 => ?_) (fun c10 => ?_)
    · refine wp_iconst 0 dX0_in_17 rfl rfl ?_
      exact wp_zreturn dX0_in_18 rfl rfl ⟨by simp only [lg_lt, lg_gt] at *; simp [b2i, inL, ← Int64.not_lt, *], rfl⟩
    · refine wp_iconst 1 dX0_in_13 rfl rfl ?_
      refine wp_goto 18 dX0_in_14 rfl rfl ?_
      exact wp_zreturn dX0_in_18 rfl rfl ⟨by simp only [lg_lt, lg_gt] at *; simp [b2i, inL, ← Int64.not_lt, *], rfl⟩
def onB (x k : Int32) : Bool := decide ((x >>> (k &&& 31)) &&& 1 = 1)
theorem c_isOn {g : GW} {h : AH}  {x z : Int32} : SPx g 1 0 0 yX0_isOn cX0_isOn 2 (some .boolean) [.int x, .int z] h (some (.int (b2i (onB x z)))) h := by
  refine SPx.intro [some (.int x), some (.int z)] (pfn (by decide)) rfl (Nat.le_of_ble_eq_true rfl) ?_
  refine wp_iload_0 dX0_isOn_0 rfl ?_
  refine wp_iload_1 dX0_isOn_1 rfl ?_
  refine wp_ishr dX0_isOn_2 rfl ?_
  refine wp_iconst 1 dX0_isOn_3 rfl rfl ?_
  refine wp_iand dX0_isOn_4 rfl ?_
  refine wp_iconst 1 dX0_isOn_5 rfl rfl ?_
  refine wp_icmp_ne 13 dX0_isOn_6 rfl rfl (fun c6 => ?_) (fun c6 => ?_)
  · refine wp_iconst 0 dX0_isOn_13 rfl rfl ?_
    exact wp_zreturn dX0_isOn_14 rfl rfl ⟨bf (decide_eq_false c6), rfl⟩
  · refine wp_iconst 1 dX0_isOn_9 rfl rfl ?_
    refine wp_goto 14 dX0_isOn_10 rfl rfl ?_
    exact wp_zreturn dX0_isOn_14 rfl rfl ⟨bt (decide_eq_true c6), rfl⟩
theorem c_isSlot {g : GW} {h : AH}  {x : Int32} : SPx g 2 0 0 yX0_isSlot cX0_isSlot 1 (some .boolean) [.int x] h (some (.int (b2i (laL x)))) h := by
  refine SPx.intro [some (.int x)] (pfn (by decide)) rfl (Nat.le_of_ble_eq_true rfl) ?_
  refine wp_iload_0 dX0_isSlot_0 rfl ?_
  refine wp_i2l dX0_isSlot_1 rfl ?_
  refine wp_lconst 0 dX0_isSlot_2 rfl rfl ?_
  refine wp_ldc2_w dX0_isSlot_3 rfl q189 ?_
  refine wp_csR dX0_isSlot_6 rfl q190 ms_X0_in c_in rfl rfl (Nat.le_of_ble_eq_true rfl) (Nat.le_of_ble_eq_true rfl) ?_
  exact wp_zreturn dX0_isSlot_9 rfl (nz_b2i _) ⟨by rw [show inL x.toInt64 0 3 = laL x from inL_0 x 3], rfl⟩
theorem c_isLaw {g : GW} {h : AH}  {x : Int32} : SPx g 2 0 0 yX0_isLaw cX0_isLaw 1 (some .boolean) [.int x] h (some (.int (b2i (laL x)))) h := by
  refine SPx.intro [some (.int x)] (pfn (by decide)) rfl (Nat.le_of_ble_eq_true rfl) ?_
  refine wp_iload_0 dX0_isLaw_0 rfl ?_
  refine wp_i2l dX0_isLaw_1 rfl ?_
  refine wp_lconst 0 dX0_isLaw_2 rfl rfl ?_
  refine wp_ldc2_w dX0_isLaw_3 rfl q189 ?_
  refine wp_csR dX0_isLaw_6 rfl q190 ms_X0_in c_in rfl rfl (Nat.le_of_ble_eq_true rfl) (Nat.le_of_ble_eq_true rfl) ?_
  exact wp_zreturn dX0_isLaw_9 rfl (nz_b2i _) ⟨by rw [show inL x.toInt64 0 3 = laL x from inL_0 x 3], rfl⟩
theorem c_high {g : GW} {h : AH}  {x : Int32} : SPx g 1 0 0 yX14_high cX14_high 1 (some .int) [.int x] h (some (.int (if x = 0 then 9 else if x = 1 then 20 else if x = 2 then 99 else 9))) h := by
  refine SPx.intro [some (.int x)] (pfn (by decide)) rfl (Nat.le_of_ble_eq_true rfl) ?_
  refine wp_iload_0 dX14_high_0 rfl ?_
  refine wp_if_ne 9 dX14_high_1 rfl rfl (fun c1 => ?_) (fun c1 => ?_)
  · refine wp_iload_0 dX14_high_9 rfl ?_
    refine wp_iconst 1 dX14_high_10 rfl rfl ?_
    refine wp_icmp_ne 19 dX14_high_11 rfl rfl (fun c11 => ?_) (fun c11 => ?_)
    · refine wp_iload_0 dX14_high_19 rfl ?_
      refine wp_iconst 2 dX14_high_20 rfl rfl ?_
      refine wp_icmp_ne 29 dX14_high_21 rfl rfl (fun c21 => ?_) (fun c21 => ?_)
      · refine wp_bipush 9 dX14_high_29 rfl rfl ?_
        exact wp_ireturn dX14_high_31 rfl ⟨by simp [*], rfl⟩
      · refine wp_bipush 99 dX14_high_24 rfl rfl ?_
        refine wp_goto 31 dX14_high_26 rfl rfl ?_
        exact wp_ireturn dX14_high_31 rfl ⟨by simp [*], rfl⟩
    · refine wp_bipush 20 dX14_high_14 rfl rfl ?_
      refine wp_goto 31 dX14_high_16 rfl rfl ?_
      exact wp_ireturn dX14_high_31 rfl ⟨by simp [*], rfl⟩
  · refine wp_bipush 9 dX14_high_4 rfl rfl ?_
    refine wp_goto 31 dX14_high_6 rfl rfl ?_
    exact wp_ireturn dX14_high_31 rfl ⟨by simp [*], rfl⟩
theorem c_isTwin {g : GW} {h : AH} {a : Nat} {x z w : Int32} (ha : h[a]? = some (.inr (14, [.int x, .int z, .int w])))  : SPx g 1 0 0 yX13_isTwin cX13_isTwin 1 (some .boolean) [.ref a] h (some (.int (b2i (!decide (z = -1))))) h := by
  refine SPx.intro [some (.ref a)] (pfn (by decide)) rfl (Nat.le_of_ble_eq_true rfl) ?_
  refine wp_aload_0 dX13_isTwin_0 rfl ?_
  refine wp_getf dX13_isTwin_1 rfl q1057 fk14_1 ha rfl ?_
  refine wp_iconst (-1) dX13_isTwin_4 rfl rfl ?_
  refine wp_icmp_eq 12 dX13_isTwin_5 rfl rfl (fun c5 => ?_) (fun c5 => ?_)
  · refine wp_iconst 0 dX13_isTwin_12 rfl rfl ?_
    exact wp_zreturn dX13_isTwin_13 rfl rfl ⟨by simp [b2i, *], rfl⟩
  · refine wp_iconst 1 dX13_isTwin_8 rfl rfl ?_
    refine wp_goto 13 dX13_isTwin_9 rfl rfl ?_
    exact wp_zreturn dX13_isTwin_13 rfl rfl ⟨by simp [b2i, *], rfl⟩
theorem c_isAt {g : GW} {h : AH} {a : Nat} {x z w : Int32} (ha : h[a]? = some (.inr (14, [.int x, .int z, .int w]))) {k : Int32} : SPx g 1 0 0 yX13_isAt cX13_isAt 2 (some .boolean) [.ref a, .int k] h (some (.int (b2i (decide (k = x) || decide (k = z))))) h := by
  refine SPx.intro [some (.ref a), some (.int k)] (pfn (by decide)) rfl (Nat.le_of_ble_eq_true rfl) ?_
  refine wp_iload_1 dX13_isAt_0 rfl ?_
  refine wp_aload_0 dX13_isAt_1 rfl ?_
  refine wp_getf dX13_isAt_2 rfl q1053 fk14_0 ha rfl ?_
  refine wp_icmp_eq 16 dX13_isAt_5 rfl rfl (fun c5 => ?_) (fun c5 => ?_)
  · refine wp_iconst 1 dX13_isAt_16 rfl rfl ?_
    refine wp_goto 21 dX13_isAt_17 rfl rfl ?_
    exact wp_zreturn dX13_isAt_21 rfl rfl ⟨by simp [b2i, *], rfl⟩
  · refine wp_iload_1 dX13_isAt_8 rfl ?_
    refine wp_aload_0 dX13_isAt_9 rfl ?_
    refine wp_getf dX13_isAt_10 rfl q1057 fk14_1 ha rfl ?_
    refine wp_icmp_ne 20 dX13_isAt_13 rfl rfl (fun c13 => ?_) (fun c13 => ?_)
    · refine wp_iconst 0 dX13_isAt_20 rfl rfl ?_
      exact wp_zreturn dX13_isAt_21 rfl rfl ⟨by simp [b2i, *], rfl⟩
    · refine wp_iconst 1 dX13_isAt_16 rfl rfl ?_
      refine wp_goto 21 dX13_isAt_17 rfl rfl ?_
      exact wp_zreturn dX13_isAt_21 rfl rfl ⟨by simp [b2i, *], rfl⟩
theorem c_told {g : GW} {h : AH} {a : Nat} {x z w : Int32} (ha : h[a]? = some (.inr (14, [.int x, .int z, .int w]))) {k : Int32} : SPx g 1 0 0 yX0_told cX0_told 2 (some .int) [.ref a, .int k] h (some (.int (if k = 0 then x else if k = 1 then z else if w = 0 then 0 else 1))) h := by
  refine SPx.intro [some (.ref a), some (.int k)] (pfn (by decide)) rfl (Nat.le_of_ble_eq_true rfl) ?_
  refine wp_iload_1 dX0_told_0 rfl ?_
  refine wp_if_ne 11 dX0_told_1 rfl rfl (fun c1 => ?_) (fun c1 => ?_)
  · refine wp_iload_1 dX0_told_11 rfl ?_
    refine wp_iconst 1 dX0_told_12 rfl rfl ?_
    refine wp_icmp_ne 23 dX0_told_13 rfl rfl (fun c13 => ?_) (fun c13 => ?_)
    · refine wp_aload_0 dX0_told_23 rfl ?_
      refine wp_getfN dX0_told_24 rfl q1065 fk14_2 ha rfl ?_
      refine wp_if_eq 34 dX0_told_27 rfl rfl (fun c27 => ?_) (fun c27 => ?_)
      · refine wp_iconst 0 dX0_told_34 rfl rfl ?_
        exact wp_ireturn dX0_told_35 rfl ⟨by simp [*], rfl⟩
      · refine wp_iconst 1 dX0_told_30 rfl rfl ?_
        refine wp_goto 35 dX0_told_31 rfl rfl ?_
        exact wp_ireturn dX0_told_35 rfl ⟨by simp [*], rfl⟩
    · refine wp_aload_0 dX0_told_16 rfl ?_
      refine wp_getfN dX0_told_17 rfl q1060 fk14_1 ha rfl ?_
      refine wp_goto 35 dX0_told_20 rfl rfl ?_
      exact wp_ireturn dX0_told_35 rfl ⟨by simp [*], rfl⟩
  · refine wp_aload_0 dX0_told_4 rfl ?_
    refine wp_getfN dX0_told_5 rfl q1056 fk14_0 ha rfl ?_
    refine wp_goto 35 dX0_told_8 rfl rfl ?_
    exact wp_ireturn dX0_told_35 rfl ⟨by simp [*], rfl⟩
theorem c_pace {g : GW} {h : AH} {a q : Nat} {f : Nat → Int32} (ha : h[a]? = some (.inr (15, [.ref q]))) (hq : h[q]? = some (.inl (0, 5, .inl f))) {x : Int32} : SPx g 1 0 0 yX14_pace cX14_pace 2 (some .int) [.ref a, .int x] h (some (.int (f 0 + (if f 2 = 0 then 0 else x / f 2)))) h := by
  refine SPx.intro [some (.ref a), some (.int x)] (pfn (by decide)) rfl (Nat.le_of_ble_eq_true rfl) ?_
  refine wp_aload_0 dX14_pace_0 rfl ?_
  refine wp_getf dX14_pace_1 rfl q1152 fk15_0 ha rfl ?_
  refine wp_iconst 0 dX14_pace_4 rfl rfl ?_
  refine wp_ialoadn 0 dX14_pace_5 rfl hq rfl (by decide) (by decide) ?_
  refine wp_aload_0 dX14_pace_6 rfl ?_
  refine wp_getf dX14_pace_7 rfl q1152 fk15_0 ha rfl ?_
  refine wp_iconst 2 dX14_pace_10 rfl rfl ?_
  refine wp_ialoadn 2 dX14_pace_11 rfl hq rfl (by decide) (by decide) ?_
  refine wp_if_ne 19 dX14_pace_12 rfl rfl (fun c12 => ?_) (fun c12 => ?_)
  · refine wp_iload_1 dX14_pace_19 rfl ?_
    refine wp_aload_0 dX14_pace_20 rfl ?_
    refine wp_getf dX14_pace_21 rfl q1152 fk15_0 ha rfl ?_
    refine wp_iconst 2 dX14_pace_24 rfl rfl ?_
    refine wp_ialoadn 2 dX14_pace_25 rfl hq rfl (by decide) (by decide) ?_
    refine wp_idiv dX14_pace_26 rfl c12 ?_
    refine wp_iadd dX14_pace_27 rfl ?_
    exact wp_ireturn dX14_pace_28 rfl ⟨by simp [*], rfl⟩
  · refine wp_iconst 0 dX14_pace_15 rfl rfl ?_
    refine wp_goto 27 dX14_pace_16 rfl rfl ?_
    refine wp_iadd dX14_pace_27 rfl ?_
    exact wp_ireturn dX14_pace_28 rfl ⟨by simp [*], rfl⟩
theorem b_is {g : GW} {C : SC} {S : SM} {X : AH} {lo hi b : Nat} {A : BA} {W : Nat → Int32} (hB : BD X lo hi b A W)  : SPx g 1 0 0 yX2_is cX2_is 1 (some .boolean) [.ref b] (cH C S X) (some (.int (b2i (decide (0 < W 9))))) (cH C S X) := by
  refine SPx.intro [some (.ref b)] (pfn (by decide)) rfl (Nat.le_of_ble_eq_true rfl) ?_
  refine wp_aload_0 dX2_is_0 rfl ?_
  refine wp_getf dX2_is_1 rfl q473 fk2_12 (hB.ob.at hB.dy) rfl ?_
  refine wp_if_le 11 dX2_is_4 rfl rfl (fun c4 => ?_) (fun c4 => ?_)
  · refine wp_iconst 0 dX2_is_11 rfl rfl ?_
    exact wp_zreturn dX2_is_12 rfl rfl ⟨by simp [b2i, ← Int32.not_le, *], rfl⟩
  · refine wp_iconst 1 dX2_is_7 rfl rfl ?_
    refine wp_goto 12 dX2_is_8 rfl rfl ?_
    exact wp_zreturn dX2_is_12 rfl rfl ⟨by simp [b2i, ← Int32.not_le, *], rfl⟩
theorem b_holes {g : GW} {C : SC} {S : SM} {X : AH} {lo hi b : Nat} {A : BA} {W : Nat → Int32} (hB : BD X lo hi b A W)  : SPx g 1 0 0 yX2_holes cX2_holes 1 (some .int) [.ref b] (cH C S X) (some (.int (hoW W))) (cH C S X) := by
  refine SPx.intro [some (.ref b)] (pfn (by decide)) rfl (Nat.le_of_ble_eq_true rfl) ?_
  refine wp_aload_0 dX2_holes_0 rfl ?_
  refine wp_getf dX2_holes_1 rfl q448 fk2_4 (hB.ob.at hB.dy) rfl ?_
  refine wp_aload_0 dX2_holes_4 rfl ?_
  refine wp_getf dX2_holes_5 rfl q451 fk2_5 (hB.ob.at hB.dy) rfl ?_
  refine wp_imul dX2_holes_8 rfl ?_
  exact wp_ireturn dX2_holes_9 rfl ⟨rfl, rfl⟩
theorem bL_stayOf {g : GW} {C : SC} {S : SM} {X : AH} {lo hi b : Nat} {A : BA} {W : Nat → Int32} (hB : BD X lo hi b A W) {t : Int32} {c n : Nat} {Q : Option Value → AH → Prop} : ∀ (k : Nat) (i : Nat), i + k = nW W 4 → Q (some (.int (onI (frI W t k i)))) (cH C S X) → WP g 1 yX2_stayOf cX2_stayOf 3 (some .int) 2 [some (.ref b), some (.int t), some (.int (nI i))] [] (cH C S X) c n Q := by
  intro k
  induction k with
  | zero =>
    intro i hi hq
    refine wp_iload_2 dX2_stayOf_2 rfl ?_
    refine wp_aload_0 dX2_stayOf_3 rfl ?_
    refine wp_getf dX2_stayOf_4 rfl q462 fk2_8 (hB.ob.at hB.dy) rfl ?_
    rw [hB.n4.1]
    refine wp_icmp_ge_k 28 dX2_stayOf_7 rfl rfl (by have := hB.n4.2; omega) (by have := hB.n4.2; omega) (fun c7 => ?_) (fun c7 => ?_)
    · refine wp_iconst (-1) dX2_stayOf_28 rfl rfl ?_
      exact wp_ireturn dX2_stayOf_29 rfl hq
    · exact absurd c7 (by omega)
  | succ k ih =>
    intro i hi hq
    refine wp_iload_2 dX2_stayOf_2 rfl ?_
    refine wp_aload_0 dX2_stayOf_3 rfl ?_
    refine wp_getf dX2_stayOf_4 rfl q462 fk2_8 (hB.ob.at hB.dy) rfl ?_
    rw [hB.n4.1]
    refine wp_icmp_ge_k 28 dX2_stayOf_7 rfl rfl (by have := hB.n4.2; omega) (by have := hB.n4.2; omega) (fun c7 => ?_) (fun c7 => ?_)
    · exact absurd c7 (by omega)
    · refine wp_aload_0 dX2_stayOf_10 rfl ?_
      refine wp_getf dX2_stayOf_11 rfl q444 fk2_2 (hB.ob.at hB.dy) rfl ?_
      refine wp_iload_2 dX2_stayOf_14 rfl ?_
      refine wp_ialoadn i dX2_stayOf_15 rfl (hB.of.at hB.dy) rfl (by have := hB.n4.2; omega) (by decide) ?_
      rw [(hB.st i (by omega)).1]
      refine wp_iload_1 dX2_stayOf_16 rfl ?_
      refine wp_icmp_ne 22 dX2_stayOf_17 rfl rfl (fun c17 => ?_) (fun c17 => ?_)
      · refine wp_iinc_2 1 dX2_stayOf_22 rfl rfl (by decide) rfl ?_
        refine wp_goto 2 dX2_stayOf_25 rfl rfl ?_
        exact WP.cast (by rw [nI_1]) (ih (i + 1) (by omega) (by rw [frI, if_neg c17] at hq; exact hq))
      · refine wp_iload_2 dX2_stayOf_20 rfl ?_
        exact wp_ireturn dX2_stayOf_21 rfl (by rw [frI, if_pos c17] at hq; exact hq)
theorem b_stayOf {g : GW} {C : SC} {S : SM} {X : AH} {lo hi b : Nat} {A : BA} {W : Nat → Int32} (hB : BD X lo hi b A W) {t : Int32} : SPx g 1 0 0 yX2_stayOf cX2_stayOf 3 (some .int) [.ref b, .int t] (cH C S X) (some (.int (onI (frS W t)))) (cH C S X) := by
  refine SPx.intro [some (.ref b), some (.int t), none] (pfn (by decide)) rfl (Nat.le_of_ble_eq_true rfl) ?_
  refine wp_iconst 0 dX2_stayOf_0 rfl rfl ?_
  refine wp_istore_2 dX2_stayOf_1 rfl (by decide) rfl ?_
  exact bL_stayOf hB (nW W 4) 0 (Nat.zero_add _) ⟨rfl, rfl⟩
def bestR (W : Nat → Int32) (i : Nat) (v : Int32) (a : Int32 × Int32) : Prop := (v = -1 ∧ a = (-1, 7)) ∨ ∃ j, j < i ∧ v = nI j ∧ a = (W (12 + 2 * j), W (12 + 2 * j + 1))
theorem bestR.up {W : Nat → Int32} {i : Nat} {v : Int32} {a : Int32 × Int32} (h : bestR W i v a) : bestR W (i + 1) v a := h.elim Or.inl (fun ⟨j, h1, h2⟩ => Or.inr ⟨j, by omega, h2⟩)
theorem nI_m1 {k : Nat} (hk : k < 2147483648) : ¬ nI k = -1 := fun h => by
  have := congrArg Int32.toInt h
  rw [nI_toInt hk] at this
  exact absurd this (by show ¬ ((k : Int) = -1); omega)
theorem nI_ltm {k : Nat} (hk : k < 2147483648) : ¬ nI k < -1 := by
  rw [Int32.lt_iff_toInt_lt, nI_toInt hk]
  show ¬ ((k : Int) < -1)
  omega
theorem siF_new {W : Nat → Int32} {t : Int32} {i : Nat} {a : Int32 × Int32} (h1 : ¬ t < W (12 + 2 * i)) (h2 : ¬ W (12 + 2 * i) < a.1) : siF W t i a = (W (12 + 2 * i), W (12 + 2 * i + 1)) := by
  unfold siF
  rw [if_neg (fun q => q.elim h1 h2)]
theorem siF_old {W : Nat → Int32} {t : Int32} {i : Nat} {a : Int32 × Int32} (h : t < W (12 + 2 * i) ∨ W (12 + 2 * i) < a.1) : siF W t i a = a := by
  unfold siF
  rw [if_pos h]
theorem bL_stay {g : GW} {C : SC} {S : SM} {X : AH} {lo hi b : Nat} {A : BA} {W : Nat → Int32} (hB : BD X lo hi b A W) {t : Int32} (ht : WFt W) (hS : WFs W) {c n : Nat} {Q : Option Value → AH → Prop} : ∀ (k : Nat) (i : Nat) (v : Int32) (a : Int32 × Int32), i + k = nW W 4 → bestR W i v a → Q (some (.int (itr (siF W t) k i a).2)) (cH C S X) → WP g 1 yX2_stay cX2_stay 4 (some .int) 4 [some (.ref b), some (.int t), some (.int v), some (.int (nI i))] [] (cH C S X) c n Q := by
  intro k
  induction k with
  | zero =>
    intro i v a hi hr hq
    refine wp_iload_3 dX2_stay_4 rfl ?_
    refine wp_aload_0 dX2_stay_5 rfl ?_
    refine wp_getf dX2_stay_6 rfl q462 fk2_8 (hB.ob.at hB.dy) rfl ?_
    rw [hB.n4.1]
    refine wp_icmp_ge_k 50 dX2_stay_9 rfl rfl (by have := hB.n4.2; omega) (by have := hB.n4.2; omega) (fun c9 => ?_) (fun c9 => ?_)
    · refine wp_iload_2 dX2_stay_50 rfl ?_
      refine wp_iconst (-1) dX2_stay_51 rfl rfl ?_
      refine wp_icmp_ne 60 dX2_stay_52 rfl rfl (fun c52 => ?_) (fun c52 => ?_)
      · obtain ⟨j, hj, rfl, rfl⟩ : ∃ j, j < i ∧ v = nI j ∧ a = (W (12 + 2 * j), W (12 + 2 * j + 1)) := hr.resolve_left (fun q => c52 q.1)
        refine wp_aload_0 dX2_stay_60 rfl ?_
        refine wp_getf dX2_stay_61 rfl q446 fk2_3 (hB.ob.at hB.dy) rfl ?_
        refine wp_iload_2 dX2_stay_64 rfl ?_
        refine wp_ialoadn j dX2_stay_65 rfl (hB.os.at hB.dy) rfl (by have := hB.n4.2; omega) (by decide) ?_
        rw [(hB.st j (by omega)).2]
        exact wp_ireturn dX2_stay_66 rfl hq
      · obtain ⟨rfl, rfl⟩ : v = -1 ∧ a = (-1, 7) := by
          rcases hr with q | ⟨j, hj, q, -⟩
          · exact q
          · exact absurd (q.symm.trans c52) (nI_m1 (by have := hB.n4.2; omega))
        refine wp_bipush 7 dX2_stay_55 rfl rfl ?_
        refine wp_goto 66 dX2_stay_57 rfl rfl ?_
        exact wp_ireturn dX2_stay_66 rfl hq
    · exact absurd c9 (by omega)
  | succ k ih =>
    intro i v a hi hr hq
    refine wp_iload_3 dX2_stay_4 rfl ?_
    refine wp_aload_0 dX2_stay_5 rfl ?_
    refine wp_getf dX2_stay_6 rfl q462 fk2_8 (hB.ob.at hB.dy) rfl ?_
    rw [hB.n4.1]
    refine wp_icmp_ge_k 50 dX2_stay_9 rfl rfl (by have := hB.n4.2; omega) (by have := hB.n4.2; omega) (fun c9 => ?_) (fun c9 => ?_)
    · exact absurd c9 (by omega)
    · refine wp_aload_0 dX2_stay_12 rfl ?_
      refine wp_getf dX2_stay_13 rfl q444 fk2_2 (hB.ob.at hB.dy) rfl ?_
      refine wp_iload_3 dX2_stay_16 rfl ?_
      refine wp_ialoadn i dX2_stay_17 rfl (hB.of.at hB.dy) rfl (by have := hB.n4.2; omega) (by decide) ?_
      rw [(hB.st i (by omega)).1]
      refine wp_iload_1 dX2_stay_18 rfl ?_
      refine wp_icmp_gt 44 dX2_stay_19 rfl rfl (fun c19 => ?_) (fun c19 => ?_)
      · refine wp_iinc_3 1 dX2_stay_44 rfl rfl (by decide) rfl ?_
        refine wp_goto 4 dX2_stay_47 rfl rfl ?_
        have hs2 : siF W t i a = a := siF_old (Or.inl c19)
        exact WP.cast (by rw [nI_1]) (ih (i + 1) _ a (by omega) hr.up (by rw [itr, hs2] at hq; exact hq))
      · refine wp_iload_2 dX2_stay_22 rfl ?_
        refine wp_iconst (-1) dX2_stay_23 rfl rfl ?_
        refine wp_icmp_eq 42 dX2_stay_24 rfl rfl (fun c24 => ?_) (fun c24 => ?_)
        · have hs2 : siF W t i a = (W (12 + 2 * i), W (12 + 2 * i + 1)) := by
            rcases hr with ⟨-, q⟩ | ⟨j, hj, q, -⟩
            · obtain ⟨⟨t0, m0, e0, h0, -⟩, -⟩ := ht i (by omega)
              exact siF_new c19 (by rw [q, e0]; exact nI_ltm (by have := hS.tk.2; omega))
            · exact absurd (q.symm.trans c24) (nI_m1 (by have := hB.n4.2; omega))
          refine wp_iload_3 dX2_stay_42 rfl ?_
          refine wp_istore_2 dX2_stay_43 rfl (by decide) rfl ?_
          refine wp_iinc_3 1 dX2_stay_44 rfl rfl (by decide) rfl ?_
          refine wp_goto 4 dX2_stay_47 rfl rfl ?_
          exact WP.cast (by rw [nI_1]) (ih (i + 1) (nI i) (siF W t i a) (by omega) (Or.inr ⟨i, by omega, rfl, hs2⟩) hq)
        · obtain ⟨j, hj, rfl, ej⟩ : ∃ j, j < i ∧ v = nI j ∧ a = (W (12 + 2 * j), W (12 + 2 * j + 1)) := hr.resolve_left (fun q => c24 q.1)
          refine wp_aload_0 dX2_stay_27 rfl ?_
          refine wp_getf dX2_stay_28 rfl q444 fk2_2 (hB.ob.at hB.dy) rfl ?_
          refine wp_iload_3 dX2_stay_31 rfl ?_
          refine wp_ialoadn i dX2_stay_32 rfl (hB.of.at hB.dy) rfl (by have := hB.n4.2; omega) (by decide) ?_
          rw [(hB.st i (by omega)).1]
          refine wp_aload_0 dX2_stay_33 rfl ?_
          refine wp_getf dX2_stay_34 rfl q444 fk2_2 (hB.ob.at hB.dy) rfl ?_
          refine wp_iload_2 dX2_stay_37 rfl ?_
          refine wp_ialoadn j dX2_stay_38 rfl (hB.of.at hB.dy) rfl (by have := hB.n4.2; omega) (by decide) ?_
          rw [(hB.st j (by omega)).1]
          refine wp_icmp_le 44 dX2_stay_39 rfl rfl (fun c39 => ?_) (fun c39 => ?_)
          · refine wp_iinc_3 1 dX2_stay_44 rfl rfl (by decide) rfl ?_
            refine wp_goto 4 dX2_stay_47 rfl rfl ?_
            have hs2 : siF W t i a = a := siF_old (Or.inr (by rw [ej]; exact Int32.lt_of_le_of_ne c39 (fun q => absurd ((ht j (by omega)).2 i (by omega) q) (by omega))))
            exact WP.cast (by rw [nI_1]) (ih (i + 1) _ a (by omega) hr.up (by rw [itr, hs2] at hq; exact hq))
          · have hs2 : siF W t i a = (W (12 + 2 * i), W (12 + 2 * i + 1)) := siF_new c19 (by rw [ej]; exact Int32.not_lt.mpr (Int32.le_of_lt (Int32.not_le.mp c39)))
            refine wp_iload_3 dX2_stay_42 rfl ?_
            refine wp_istore_2 dX2_stay_43 rfl (by decide) rfl ?_
            refine wp_iinc_3 1 dX2_stay_44 rfl rfl (by decide) rfl ?_
            refine wp_goto 4 dX2_stay_47 rfl rfl ?_
            exact WP.cast (by rw [nI_1]) (ih (i + 1) (nI i) (siF W t i a) (by omega) (Or.inr ⟨i, by omega, rfl, hs2⟩) hq)
theorem b_stay {g : GW} {C : SC} {S : SM} {X : AH} {lo hi b : Nat} {A : BA} {W : Nat → Int32} (hB : BD X lo hi b A W) (ht : WFt W) (hS : WFs W) {t : Int32} : SPx g 1 0 0 yX2_stay cX2_stay 4 (some .int) [.ref b, .int t] (cH C S X) (some (.int (stayW W t))) (cH C S X) := by
  refine SPx.intro [some (.ref b), some (.int t), none, none] (pfn (by decide)) rfl (Nat.le_of_ble_eq_true rfl) ?_
  refine wp_iconst (-1) dX2_stay_0 rfl rfl ?_
  refine wp_istore_2 dX2_stay_1 rfl (by decide) rfl ?_
  refine wp_iconst 0 dX2_stay_2 rfl rfl ?_
  refine wp_istore_3 dX2_stay_3 rfl (by decide) rfl ?_
  exact bL_stay hB ht hS (nW W 4) 0 (-1) (-1, 7) (Nat.zero_add _) (Or.inl ⟨rfl, rfl⟩) ⟨rfl, rfl⟩
