/-! ===== the class: the best, asked ===== -/
set_option maxRecDepth 100000
theorem mn_n {a b : Nat} (ha : a < 2147483648) (hb : b < 2147483648) : mn32 (nI a) (nI b) = nI (min a b) := by
  unfold mn32
  by_cases h : b < a
  · rw [if_pos ((nI_ltI hb ha).mpr h), Nat.min_eq_right (by omega)]
  · rw [if_neg (fun q => h ((nI_ltI hb ha).mp q)), Nat.min_eq_left (by omega)]
theorem cL_bg1 {g : GW} {S : SM} {X : AH} {lo hi b : Nat} {A : BA} {W : Nat → Int32} {C0 : SC} {p n : Nat} {v8 v9 : Option Value} {c n9 : Nat} {Q : Option Value → AH → Prop} : ∀ (k : Nat) (C : SC) (q : Nat) (v7 : Option Value), q + k = 12 → EV C X lo hi b A W → CBt C0 C → (∀ r, r < q → ∀ j, j < 121 → C.2.1 (31 + r) j = 1000000) → (∀ C' v6 v7, EV C' X lo hi b A W → CBt C0 C' → IC 31 C' (fun _ _ => 1000000) → WP g 6 yX7_goes cX7_goes 10 (some .int) 58 [some (.ref 29), some (.int (nI p)), some (.ref 15), some (.int (nI n)), some (.ref 30), some (.int 12), v6, v7, v8, v9] [] (cH C' S X) c n9 Q) → WP g 6 yX7_goes cX7_goes 10 (some .int) 31 [some (.ref 29), some (.int (nI p)), some (.ref 15), some (.int (nI n)), some (.ref 30), some (.int 12), some (.int (nI q)), v7, v8, v9] [] (cH C S X) c n9 Q := by
  intro k
  induction k with
  | zero =>
    intro C q v7 hi0 hE hL hz hq
    refine wp_iload_6 dX7_goes_31 rfl ?_
    refine wp_iload_5 dX7_goes_33 rfl ?_
    refine wp_icmp_ge_k 58 dX7_goes_35 rfl rfl (b := 12) (by omega) (by omega) (fun c35 => ?_) (fun c35 => ?_)
    · exact hq C _ _ hE hL (fun h hh j hj => hz h (by omega) j hj)
    · exact absurd c35 (by omega)
  | succ k ih =>
    intro C q v7 hi0 hE hL hz hq
    refine wp_iload_6 dX7_goes_31 rfl ?_
    refine wp_iload_5 dX7_goes_33 rfl ?_
    refine wp_icmp_ge_k 58 dX7_goes_35 rfl rfl (b := 12) (by omega) (by omega) (fun c35 => ?_) (fun c35 => ?_)
    · exact absurd c35 (by omega)
    · refine wp_aload_4 dX7_goes_38 rfl ?_
      refine wp_iload_6 dX7_goes_40 rfl ?_
      refine wp_aaload q dX7_goes_42 rfl rfl rfl (cg_30 hE.X) (nI_clamp (by omega)) (vp_in_nI (show q < 12 from (by omega)) (by omega)) ?_
      rw [cn_at (show q < 12 from (by omega))]
      refine wp_astore_7 dX7_goes_43 rfl (by decide) rfl ?_
      refine wp_aload_7 dX7_goes_45 rfl ?_
      refine wp_ldc dX7_goes_47 rfl q1403 ?_
      refine wp_cs0 dX7_goes_49 rfl q1404 ms_J13_fill (j_fillI (v := 1000000) (cgr_31 hE.X (show q < 12 by omega)) (by decide)) rfl rfl (Nat.le_of_ble_eq_true rfl) (Nat.le_of_ble_eq_true rfl) ?_
      rw [ctr_31 (show q < 12 by omega)]
      refine wp_iinc_6 1 dX7_goes_52 rfl rfl (by decide) rfl ?_
      refine wp_goto 31 dX7_goes_55 rfl rfl ?_
      have k1 := CBt.As1 (show q < 12 by omega) (fiI 1000000 121 (C.2.1 (31 + q))) C
      have hE1 := k1.ev hE
      have hz1 : ∀ r, r < q + 1 → ∀ j, j < 121 → (cAs (31 + q) (fiI 1000000 121 (C.2.1 (31 + q))) C).2.1 (31 + r) j = 1000000 := fun r hr j hj => by
        rw [cAs_at]
        by_cases e : r = q
        · rw [if_pos (by omega)]; exact fiI_at hj
        · rw [if_neg (by omega)]; exact hz r (by omega) j hj
      exact WP.cast (by rw [nI_1]) (ih _ (q + 1) _ (by omega) hE1 (hL.tr k1) hz1 hq)
theorem cL_bg2 {g : GW} {S : SM} {X : AH} {lo hi b : Nat} {A : BA} {W : Nat → Int32} {C0 : SC} {p n : Nat} (hn : n ≤ 60) (hp : p < nW W 6) (h0 : ¬ W 0 = 0) {c n9 : Nat} {Q : Option Value → AH → Prop} : ∀ (k : Nat) (C : SC) (i : Nat) (T : IQ) (v5 v6 v7 v8 v9 : Option Value), i + k = min n (dgM W) → EV C X lo hi b A W → GM 3 16 17 18 C X (dgW W) → C.2.2.2.1 29 = some (A.pl p) → C.2.2.2.1 30 = some 15 → KC C0 C → IC 31 C T → (∀ C' v4 v5 v6 v7 v8 v9, EV C' X lo hi b A W → KC C0 C' → IC 31 C' (itr (bR W (dgF W) p) k i T) → WP g 6 yX7_goes cX7_goes 10 (some .int) 121 [some (.ref 29), some (.int (nI p)), some (.ref 15), some (.int (nI n)), v4, v5, v6, v7, v8, v9] [] (cH C' S X) c n9 Q) → WP g 6 yX7_goes cX7_goes 10 (some .int) 78 [some (.ref 29), some (.int (nI p)), some (.ref 15), some (.int (nI n)), some (.int (nI i)), v5, v6, v7, v8, v9] [] (cH C S X) c n9 Q := by
  intro k
  induction k with
  | zero =>
    intro C i T v5 v6 v7 v8 v9 hi0 hE hG hwho hg hL hT hq
    have h60 : dgM W ≤ 60 := hG.2.1
    refine wp_iload_4 dX7_goes_78 rfl ?_
    refine wp_iload_3 dX7_goes_80 rfl ?_
    refine wp_aload_0 dX7_goes_81 rfl ?_
    refine wp_getf dX7_goes_82 rfl q659 fk7_3 (cg_29 hE.X) rfl ?_
    rw [hg]
    refine wp_getf dX7_goes_85 rfl q533 fk4_3 (cg_15 hE.X) rfl ?_
    rw [show C.1 3 = nI (dgM W) from hG.1]
    refine wp_csR dX7_goes_88 rfl q1407 ms_J3_min j_min rfl rfl (Nat.le_of_ble_eq_true rfl) (Nat.le_of_ble_eq_true rfl) ?_
    rw [mn_n (by omega) (by omega)]
    refine wp_icmp_ge_k 121 dX7_goes_91 rfl rfl (by omega) (by omega) (fun c91 => ?_) (fun c91 => ?_)
    · exact hq C _ _ _ _ _ _ hE hL hT
    · exact absurd c91 (by omega)
  | succ k ih =>
    intro C i T v5 v6 v7 v8 v9 hi0 hE hG hwho hg hL hT hq
    have h60 : dgM W ≤ 60 := hG.2.1
    refine wp_iload_4 dX7_goes_78 rfl ?_
    refine wp_iload_3 dX7_goes_80 rfl ?_
    refine wp_aload_0 dX7_goes_81 rfl ?_
    refine wp_getf dX7_goes_82 rfl q659 fk7_3 (cg_29 hE.X) rfl ?_
    rw [hg]
    refine wp_getf dX7_goes_85 rfl q533 fk4_3 (cg_15 hE.X) rfl ?_
    rw [show C.1 3 = nI (dgM W) from hG.1]
    refine wp_csR dX7_goes_88 rfl q1407 ms_J3_min j_min rfl rfl (Nat.le_of_ble_eq_true rfl) (Nat.le_of_ble_eq_true rfl) ?_
    rw [mn_n (by omega) (by omega)]
    refine wp_icmp_ge_k 121 dX7_goes_91 rfl rfl (by omega) (by omega) (fun c91 => ?_) (fun c91 => ?_)
    · exact absurd c91 (by omega)
    · refine wp_aload_0 dX7_goes_94 rfl ?_
      have hiG : i < (dgW W).1 := by show i < dgM W; omega
      obtain ⟨m, hm, hM⟩ : ∃ m, C.2.2.2.2.1 16 i = some m ∧ (cH C S X)[m]? = some (.inr (14, [.int (gH (dgF W) i), .int (gO (dgF W) i), .int (gR (dgF W) i)])) := hG.m hiG
      refine wp_getf dX7_goes_95 rfl q659 fk7_3 (cg_29 hE.X) rfl ?_
      rw [hg]
      refine wp_iload_4 dX7_goes_98 rfl ?_
      refine wp_UxR dX7_goes_100 rfl q1408 mu_X3_mole_X4 (cg_15 hE.X) rfl rfl (c_gmole4 hE.X (by omega) hm) rfl rfl (Nat.le_of_ble_eq_true rfl) (Nat.le_of_ble_eq_true rfl) (Nat.zero_le _) (Nat.zero_le _) ?_
      refine wp_getfN dX7_goes_103 rfl q1062 fk14_2 hM rfl ?_
      refine wp_if_ne 115 dX7_goes_106 rfl rfl (fun c106 => ?_) (fun c106 => ?_)
      · refine wp_iinc_4 1 dX7_goes_115 rfl rfl (by decide) rfl ?_
        refine wp_goto 78 dX7_goes_118 rfl rfl ?_
        have e9 : bR W (dgF W) p i T = T := if_neg c106
        exact WP.cast (by rw [nI_1]) (ih C (i + 1) (bR W (dgF W) p i T) _ _ _ _ _ (by omega) hE hG hwho hg hL (by rw [e9]; exact hT) hq)
      · refine wp_aload_0 dX7_goes_109 rfl ?_
        refine wp_iload_4 dX7_goes_110 rfl ?_
        refine wp_cvE dX7_goes_112 rfl q1409 mv_X7_step (cg_29 hE.X) rfl rfl (c_bStep hE hG hp hwho hg h0 hiG (dg_WG hE.s hE.c) hT) rfl rfl (Nat.le_of_ble_eq_true rfl) (Nat.le_of_ble_eq_true rfl) (fun h1 hq => ?_)
        obtain ⟨C1, rfl, k1, hT1⟩ := hq
        refine wp_iinc_4 1 dX7_goes_115 rfl rfl (by decide) rfl ?_
        refine wp_goto 78 dX7_goes_118 rfl rfl ?_
        have e9 : bR W (dgF W) p i T = bT W (dgF W) p i T := if_pos c106
        exact WP.cast (by rw [nI_1]) (ih C1 (i + 1) (bR W (dgF W) p i T) _ _ _ _ _ (by omega) (k1.ev hE) (k1.g4 hG) ((k1.r 29).trans hwho) ((k1.r 30).trans hg) (hL.tr k1.kc) (by rw [e9]; exact hT1) hq)
theorem cL_bg4 {g : GW} {C : SC} {S : SM} {X : AH} {lo hi b : Nat} {A : BA} {W : Nat → Int32} (hE : EV C X lo hi b A W) {p n h : Nat} (hh : h < 12) {T : IQ} (hT : IC 31 C T) {c n9 : Nat} {Q : Option Value → AH → Prop} : ∀ (k : Nat) (q : Nat) (a : Int32), q + k = 121 → (∀ v8 v9, WP g 6 yX7_goes cX7_goes 10 (some .int) 187 [some (.ref 29), some (.int (nI p)), some (.ref 15), some (.int (nI n)), some (.int (itr (moC T h) k q a)), some (.ref 30), some (.int 12), some (.int (nI h)), v8, v9] [] (cH C S X) c n9 Q) → WP g 6 yX7_goes cX7_goes 10 (some .int) 155 [some (.ref 29), some (.int (nI p)), some (.ref 15), some (.int (nI n)), some (.int a), some (.ref 30), some (.int 12), some (.int (nI h)), some (.ref (31 + h)), some (.int (nI q))] [] (cH C S X) c n9 Q := by
  intro k
  induction k with
  | zero =>
    intro q a hi0 hq
    refine wp_iload_9 dX7_goes_155 rfl ?_
    refine wp_bipush 120 dX7_goes_157 rfl rfl ?_
    refine wp_icmp_gt_k 187 dX7_goes_159 rfl rfl (b := 120) (by omega) (by omega) (fun c159 => ?_) (fun c159 => ?_)
    · exact hq _ _
    · exact absurd c159 (by omega)
  | succ k ih =>
    intro q a hi0 hq
    refine wp_iload_9 dX7_goes_155 rfl ?_
    refine wp_bipush 120 dX7_goes_157 rfl rfl ?_
    refine wp_icmp_gt_k 187 dX7_goes_159 rfl rfl (b := 120) (by omega) (by omega) (fun c159 => ?_) (fun c159 => ?_)
    · exact absurd c159 (by omega)
    · refine wp_aload_8 dX7_goes_162 rfl ?_
      refine wp_iload_9 dX7_goes_164 rfl ?_
      refine wp_ialoadn q dX7_goes_166 rfl (cgr_31 hE.X hh) rfl (by omega) (by decide) ?_
      rw [hT h hh q (by omega)]
      refine wp_ldc dX7_goes_167 rfl q1403 ?_
      refine wp_icmp_ge 181 dX7_goes_169 rfl rfl (fun c169 => ?_) (fun c169 => ?_)
      · refine wp_iinc_9 1 dX7_goes_181 rfl rfl (by decide) rfl ?_
        refine wp_goto 155 dX7_goes_184 rfl rfl ?_
        have e9 : moC T h q a = a := if_neg (Int32.not_lt.mpr c169)
        exact WP.cast (by rw [nI_1, e9]) (ih (q + 1) (moC T h q a) (by omega) hq)
      · refine wp_iload_4 dX7_goes_172 rfl ?_
        refine wp_iload_9 dX7_goes_174 rfl ?_
        refine wp_csR dX7_goes_176 rfl q1425 ms_J3_max j_max rfl rfl (Nat.le_of_ble_eq_true rfl) (Nat.le_of_ble_eq_true rfl) ?_
        refine wp_istore_4 dX7_goes_179 rfl (by decide) rfl ?_
        refine wp_iinc_9 1 dX7_goes_181 rfl rfl (by decide) rfl ?_
        refine wp_goto 155 dX7_goes_184 rfl rfl ?_
        have e9 : moC T h q a = mx32 a (nI q) := if_pos (Int32.not_le.mp c169)
        exact WP.cast (by rw [nI_1, e9]) (ih (q + 1) (moC T h q a) (by omega) hq)
theorem cL_bg3 {g : GW} {C : SC} {S : SM} {X : AH} {lo hi b : Nat} {A : BA} {W : Nat → Int32} (hE : EV C X lo hi b A W) {p n : Nat} {T : IQ} (hT : IC 31 C T) {c n9 : Nat} {Q : Option Value → AH → Prop} : ∀ (k : Nat) (h : Nat) (a : Int32) (v8 v9 : Option Value), h + k = 12 → Q (some (.int (itr (fun h m => itr (moC T h) 121 0 m) k h a))) (cH C S X) → WP g 6 yX7_goes cX7_goes 10 (some .int) 138 [some (.ref 29), some (.int (nI p)), some (.ref 15), some (.int (nI n)), some (.int a), some (.ref 30), some (.int 12), some (.int (nI h)), v8, v9] [] (cH C S X) c n9 Q := by
  intro k
  induction k with
  | zero =>
    intro h a v8 v9 hi0 hq
    refine wp_iload_7 dX7_goes_138 rfl ?_
    refine wp_iload_6 dX7_goes_140 rfl ?_
    refine wp_icmp_ge_k 193 dX7_goes_142 rfl rfl (b := 12) (by omega) (by omega) (fun c142 => ?_) (fun c142 => ?_)
    · refine wp_iload_4 dX7_goes_193 rfl ?_
      exact wp_ireturn dX7_goes_195 rfl hq
    · exact absurd c142 (by omega)
  | succ k ih =>
    intro h a v8 v9 hi0 hq
    refine wp_iload_7 dX7_goes_138 rfl ?_
    refine wp_iload_6 dX7_goes_140 rfl ?_
    refine wp_icmp_ge_k 193 dX7_goes_142 rfl rfl (b := 12) (by omega) (by omega) (fun c142 => ?_) (fun c142 => ?_)
    · exact absurd c142 (by omega)
    · refine wp_aload_5 dX7_goes_145 rfl ?_
      refine wp_iload_7 dX7_goes_147 rfl ?_
      refine wp_aaload h dX7_goes_149 rfl rfl rfl (cg_30 hE.X) (nI_clamp (by omega)) (vp_in_nI (show h < 12 from (by omega)) (by omega)) ?_
      rw [cn_at (show h < 12 from (by omega))]
      refine wp_astore_8 dX7_goes_150 rfl (by decide) rfl ?_
      refine wp_iconst 0 dX7_goes_152 rfl rfl ?_
      refine wp_istore_9 dX7_goes_153 rfl (by decide) rfl ?_
      refine cL_bg4 hE (show h < 12 by omega) hT 121 0 a (Nat.zero_add _) (fun v8 v9 => ?_)
      refine wp_iinc_7 1 dX7_goes_187 rfl rfl (by decide) rfl ?_
      refine wp_goto 138 dX7_goes_190 rfl rfl ?_
      exact WP.cast (by rw [nI_1]) (ih (h + 1) (itr (moC T h) 121 0 a) _ _ (by omega) hq)
theorem c_bGoes {g : GW} {C : SC} {S : SM} {X : AH} {lo hi b : Nat} {A : BA} {W : Nat → Int32} (hE : EV C X lo hi b A W) {p n : Nat} (hn : n ≤ 60) (hp : p < nW W 6) (h0 : ¬ W 0 = 0) (hG : GM 3 16 17 18 C X (dgW W)) : SP g 6 0 0 yX7_goes cX7_goes 10 (some .int) [.ref 29, .int (nI p), .ref 15, .int (nI n)] (cH C S X) (fun v h1 => v = some (.int (boC W p n)) ∧ ∃ C', h1 = cH C' S X ∧ KC C C') := by
  refine SP.intro [some (.ref 29), some (.int (nI p)), some (.ref 15), some (.int (nI n)), none, none, none, none, none, none] (pfn (by decide)) rfl (Nat.le_of_ble_eq_true rfl) ?_
  obtain ⟨ww1, ww2⟩ := (hE.p p hp).2.2.2.2
  have h12 := hE.s.ho12
  have hw12 : (nW W (96 + 5 * p + 4)) < 12 := by omega
  refine wp_aload_0 dX7_goes_0 rfl ?_
  refine wp_aload_0 dX7_goes_1 rfl ?_
  refine wp_getf dX7_goes_2 rfl q660 fk7_4 (cg_29 hE.X) rfl ?_
  refine wp_iload_1 dX7_goes_5 rfl ?_
  refine wp_VNxR dX7_goes_6 rfl q1402 mv_X0_one hE.o0 rfl rfl (c_one hE hp) rfl rfl (Nat.le_of_ble_eq_true rfl) (Nat.le_of_ble_eq_true rfl) (Nat.zero_le _) (Nat.zero_le _) ?_
  refine wp_putf dX7_goes_9 rfl q658 fp7_2 (cg_29 hE.X) rfl rfl (Nat.le_of_ble_eq_true rfl) cs_29_2 ?_
  refine wp_aload_0 dX7_goes_12 rfl ?_
  refine wp_aload_2 dX7_goes_13 rfl ?_
  refine wp_putf dX7_goes_14 rfl q659 fp7_3 (cg_29 hE.X) rfl rfl (Nat.le_of_ble_eq_true rfl) cs_29_3 ?_
  have hE1 : EV (cR 30 (some 15) (cR 29 (some (A.pl p)) C)) X lo hi b A W := hE.to rfl
  have hG1 : GM 3 16 17 18 (cR 30 (some 15) (cR 29 (some (A.pl p)) C)) X (dgW W) := hG.to rfl rfl rfl rfl
  have hw1 : (cR 30 (some 15) (cR 29 (some (A.pl p)) C)).2.2.2.1 29 = some (A.pl p) := rfl
  have hg1 : (cR 30 (some 15) (cR 29 (some (A.pl p)) C)).2.2.2.1 30 = some 15 := rfl
  have hL1 : KC C (cR 30 (some 15) (cR 29 (some (A.pl p)) C)) := CK.kc (((CK.rf [] [] [] [29, 30] [] C).R _ (by decide)).R _ (by decide)) (by decide) (by decide) (by decide) (by decide)
  generalize cR 30 (some 15) (cR 29 (some (A.pl p)) C) = C1 at *
  have hE := hE1
  have hG := hG1
  refine wp_aload_0 dX7_goes_17 rfl ?_
  refine wp_getf dX7_goes_18 rfl q656 fk7_0 (cg_29 hE.X) rfl ?_
  refine wp_astore_4 dX7_goes_21 rfl (by decide) rfl ?_
  refine wp_aload_4 dX7_goes_23 rfl ?_
  refine wp_alen 12 dX7_goes_25 rfl rfl (cg_30 hE.X) rfl ?_
  refine wp_istore_5 dX7_goes_26 rfl (by decide) rfl ?_
  refine wp_iconst 0 dX7_goes_28 rfl rfl ?_
  refine wp_istore_6 dX7_goes_29 rfl (by decide) rfl ?_
  refine cL_bg1 12 C1 0 _ (Nat.zero_add _) hE1 (CBt.rf C1) (fun q hq => absurd hq (Nat.not_lt_zero q)) (fun C v6 v7 hE hK hT => ?_)
  refine wp_aload_0 dX7_goes_58 rfl ?_
  refine wp_getf dX7_goes_59 rfl q656 fk7_0 (cg_29 hE.X) rfl ?_
  refine wp_aload_0 dX7_goes_62 rfl ?_
  refine wp_getf dX7_goes_63 rfl q658 fk7_2 (cg_29 hE.X) rfl ?_
  rw [(hK.r 29).trans hw1]
  refine wp_getfN dX7_goes_66 rfl q1154 fk15_0 (hE.pla hp) rfl ?_
  refine wp_iconst 4 dX7_goes_69 rfl rfl ?_
  refine wp_ialoadn 4 dX7_goes_70 rfl (hE.pis hp) rfl (by omega) (by decide) ?_
  rw [(hE.B.pl p hp).2.2.2 4 (by omega), ww1]
  refine wp_aaload (nW W (96 + 5 * p + 4)) dX7_goes_71 rfl rfl rfl (cg_30 hE.X) (nI_clamp (by omega)) (vp_in_nI (show (nW W (96 + 5 * p + 4)) < 12 from hw12) (by omega)) ?_
  rw [cn_at (show (nW W (96 + 5 * p + 4)) < 12 from hw12)]
  refine wp_iconst 0 dX7_goes_72 rfl rfl ?_
  refine wp_iconst 0 dX7_goes_73 rfl rfl ?_
  refine wp_iastoren 0 dX7_goes_74 rfl (cgr_31 hE.X hw12) rfl (by omega) (by decide) (csr_31 hw12) ?_
  have k3 := CBt.A1 hw12 0 0 C
  have hT3 : IC 31 (cA (31 + (nW W (96 + 5 * p + 4))) 0 0 C) (b0C (nW W (96 + 5 * p + 4))) := fun h hh j hj => by
    rw [cA_at, hT h hh j hj, b0C]
    by_cases e : h = (nW W (96 + 5 * p + 4)) ∧ j = 0
    · rw [if_pos e, if_pos ⟨by omega, e.2⟩]
    · rw [if_neg e, if_neg (fun z => e ⟨by omega, z.2⟩)]
  have hE := k3.ev hE
  have hG := k3.g4 ((hK.g4 hG1))
  have hwho := (k3.r 29).trans ((hK.r 29).trans hw1)
  have hg := (k3.r 30).trans ((hK.r 30).trans hg1)
  have hL := hL1.tr (hK.tr k3).kc
  generalize cA (31 + (nW W (96 + 5 * p + 4))) 0 0 C = C3 at *
  refine wp_iconst 0 dX7_goes_75 rfl rfl ?_
  refine wp_istore_4 dX7_goes_76 rfl (by decide) rfl ?_
  refine cL_bg2 hn hp h0 (min n (dgM W)) C3 0 (b0C (nW W (96 + 5 * p + 4))) _ _ _ _ _ (Nat.zero_add _) hE hG hwho hg hL hT3 (fun C v4 v5 v6 v7 v8 v9 hE hL hT => ?_)
  refine wp_iconst 0 dX7_goes_121 rfl rfl ?_
  refine wp_istore_4 dX7_goes_122 rfl (by decide) rfl ?_
  refine wp_aload_0 dX7_goes_124 rfl ?_
  refine wp_getf dX7_goes_125 rfl q656 fk7_0 (cg_29 hE.X) rfl ?_
  refine wp_astore_5 dX7_goes_128 rfl (by decide) rfl ?_
  refine wp_aload_5 dX7_goes_130 rfl ?_
  refine wp_alen 12 dX7_goes_132 rfl rfl (cg_30 hE.X) rfl ?_
  refine wp_istore_6 dX7_goes_133 rfl (by decide) rfl ?_
  refine wp_iconst 0 dX7_goes_135 rfl rfl ?_
  refine wp_istore_7 dX7_goes_136 rfl (by decide) rfl ?_
  exact cL_bg3 hE hT 12 0 0 _ _ (Nat.zero_add _) ⟨rfl, C, rfl, hL⟩
theorem q_c_best0 {g : GW} {C : SC} {S : SM} {X : AH} {lo hi b : Nat} {A : BA} {W : Nat → Int32} (hE : EV C X lo hi b A W) {x : Int32} : SP g 8 0 0 yX0_best cX0_best 2 (some .int) [.ref 0, .int x] (cH C S X) (QC C S X (.int (best0 W x))) := by
  refine SP.intro [some (.ref 0), some (.int x)] (pfn (by decide)) rfl (Nat.le_of_ble_eq_true rfl) ?_
  refine wp_aload_0 dX0_best_0 rfl ?_
  refine wp_iload_1 dX0_best_1 rfl ?_
  refine wp_cvR dX0_best_2 rfl q1219 mv_X0_isPlayer hE.o0 rfl rfl (c_isPlayer hE) rfl rfl (Nat.le_of_ble_eq_true rfl) (Nat.le_of_ble_eq_true rfl) ?_
  refine wp_ifeq_b 25 dX0_best_5 rfl rfl (fun c5 => ?_) (fun c5 => ?_)
  · refine wp_bipush (-2) dX0_best_25 rfl rfl ?_
    exact wp_ireturn dX0_best_27 rfl ⟨by simp (disch := omega) [best0, nI_clamp, inL_0, *], by first | exact QC0.mk hL | exact QC0.rf⟩
  · obtain ⟨p, hp, rfl⟩ := plW_of hE.s c5
    have hp4 : p < 4 := by have := hE.s.np.2; omega
    refine wp_aload_0 dX0_best_8 rfl ?_
    refine wp_getf dX0_best_9 rfl q730 fk0_10 hE.o0 rfl ?_
    refine wp_iload_1 dX0_best_12 rfl ?_
    refine wp_aload_0 dX0_best_13 rfl ?_
    refine wp_cvEi dX0_best_14 rfl q1245 mv_X0_game hE.o0 rfl rfl (c_game hE) rfl rfl (Nat.le_of_ble_eq_true rfl) (Nat.le_of_ble_eq_true rfl) (fun h1 hq => ?_)
    obtain ⟨C, rfl, hG, hK⟩ := hq
    have hE := hK.ev (by decide) hE
    have hL := LD.kc hK
    have hn : C.1 3 = nI (dgM W) := hG.1
    have h60 : dgM W ≤ 60 := hG.2.1
    refine wp_bipush 60 dX0_best_17 rfl rfl ?_
    refine wp_cvEi dX0_best_19 rfl q1398 mv_X7_goes (cg_29 hE.X) rfl rfl (c_bGoes (n := 60) hE (by omega) hp (WFp.w0 hE.s hE.p hp) hG) rfl rfl (Nat.le_of_ble_eq_true rfl) (Nat.le_of_ble_eq_true rfl) (fun h1 hq => ?_)
    obtain ⟨C, rfl, hl⟩ := hq
    have hE := hl.ev hE
    have hL := hL.tr hl
    refine wp_goto 27 dX0_best_22 rfl rfl ?_
    exact wp_ireturn dX0_best_27 rfl ⟨by simp (disch := omega) [best0, nI_clamp, inL_0, *], by first | exact QC0.mk hL | exact QC0.rf⟩
theorem q_c_ahead0 {g : GW} {C : SC} {S : SM} {X : AH} {lo hi b : Nat} {A : BA} {W : Nat → Int32} (hE : EV C X lo hi b A W) {x z : Int32} : SP g 8 0 0 yX0_ahead cX0_ahead 3 (some .int) [.ref 0, .int x, .int z] (cH C S X) (QC C S X (.int (ahead0 W x z))) := by
  refine SP.intro [some (.ref 0), some (.int x), some (.int z)] (pfn (by decide)) rfl (Nat.le_of_ble_eq_true rfl) ?_
  refine wp_aload_0 dX0_ahead_0 rfl ?_
  refine wp_iload_1 dX0_ahead_1 rfl ?_
  refine wp_cvR dX0_ahead_2 rfl q1219 mv_X0_isPlayer hE.o0 rfl rfl (c_isPlayer hE) rfl rfl (Nat.le_of_ble_eq_true rfl) (Nat.le_of_ble_eq_true rfl) ?_
  refine wp_ifeq_b 36 dX0_ahead_5 rfl rfl (fun c5 => ?_) (fun c5 => ?_)
  · refine wp_bipush (-2) dX0_ahead_36 rfl rfl ?_
    exact wp_ireturn dX0_ahead_38 rfl ⟨by simp (disch := omega) [ahead0, nI_clamp, inL_0, *], by first | exact QC0.mk hL | exact QC0.rf⟩
  · obtain ⟨p, hp, rfl⟩ := plW_of hE.s c5
    have hp4 : p < 4 := by have := hE.s.np.2; omega
    refine wp_iload_2 dX0_ahead_8 rfl ?_
    refine wp_i2l dX0_ahead_9 rfl ?_
    refine wp_lconst 0 dX0_ahead_10 rfl rfl ?_
    refine wp_ldc2_w dX0_ahead_11 rfl q1431 ?_
    refine wp_csR dX0_ahead_14 rfl q190 ms_X0_in c_in rfl rfl (Nat.le_of_ble_eq_true rfl) (Nat.le_of_ble_eq_true rfl) ?_
    refine wp_ifeq_b 36 dX0_ahead_17 rfl rfl (fun c17 => ?_) (fun c17 => ?_)
    · refine wp_bipush (-2) dX0_ahead_36 rfl rfl ?_
      exact wp_ireturn dX0_ahead_38 rfl ⟨by simp (disch := omega) [ahead0, nI_clamp, inL_0, *], by first | exact QC0.mk hL | exact QC0.rf⟩
    · obtain ⟨n, hn60, rfl⟩ := in_ofk (n := 60) (by omega) c17
      refine wp_aload_0 dX0_ahead_20 rfl ?_
      refine wp_getf dX0_ahead_21 rfl q730 fk0_10 hE.o0 rfl ?_
      refine wp_iload_1 dX0_ahead_24 rfl ?_
      refine wp_aload_0 dX0_ahead_25 rfl ?_
      refine wp_cvEi dX0_ahead_26 rfl q1245 mv_X0_game hE.o0 rfl rfl (c_game hE) rfl rfl (Nat.le_of_ble_eq_true rfl) (Nat.le_of_ble_eq_true rfl) (fun h1 hq => ?_)
      obtain ⟨C, rfl, hG, hK⟩ := hq
      have hE := hK.ev (by decide) hE
      have hL := LD.kc hK
      have hn : C.1 3 = nI (dgM W) := hG.1
      have h60 : dgM W ≤ 60 := hG.2.1
      refine wp_iload_2 dX0_ahead_29 rfl ?_
      refine wp_cvEi dX0_ahead_30 rfl q1398 mv_X7_goes (cg_29 hE.X) rfl rfl (c_bGoes hE hn60 hp (WFp.w0 hE.s hE.p hp) hG) rfl rfl (Nat.le_of_ble_eq_true rfl) (Nat.le_of_ble_eq_true rfl) (fun h1 hq => ?_)
      obtain ⟨C, rfl, hl⟩ := hq
      have hE := hl.ev hE
      have hL := hL.tr hl
      refine wp_goto 38 dX0_ahead_33 rfl rfl ?_
      exact wp_ireturn dX0_ahead_38 rfl ⟨by simp (disch := omega) [ahead0, nI_clamp, inL_0, *], by first | exact QC0.mk hL | exact QC0.rf⟩
