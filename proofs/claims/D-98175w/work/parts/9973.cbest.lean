/-! ===== the class: the best ===== -/
set_option maxRecDepth 100000
theorem c_bSk {g : GW} {C : SC} {S : SM} {X : AH} {lo hi b : Nat} {A : BA} {W : Nat → Int32} (hE : EV C X lo hi b A W) {G : GA} (hG : GM 3 16 17 18 C X G) {p : Nat} (hp : p < nW W 6) (hwho : C.2.2.2.1 29 = some (A.pl p)) (hg : C.2.2.2.1 30 = some 15) (h0 : ¬ W 0 = 0) {i : Nat} (hi : i < G.1) {x t z : Int32} : SPx g 3 0 0 yX7_strike cX7_strike 5 (some .int) [.ref 29, .int (nI i), .int x, .int t, .int z] (cH C S X) (some (.int (skV W G.2 p i x t z))) (cH C S X) := by
  refine SPx.intro [some (.ref 29), some (.int (nI i)), some (.int x), some (.int t), some (.int z)] (pfn (by decide)) rfl (Nat.le_of_ble_eq_true rfl) ?_
  have h60 := hG.2.1
  refine wp_iload_3 dX7_strike_0 rfl ?_
  refine wp_aload_0 dX7_strike_1 rfl ?_
  refine wp_getf dX7_strike_2 rfl q660 fk7_4 (cg_29 hE.X) rfl ?_
  refine wp_iload_2 dX7_strike_5 rfl ?_
  refine wp_iload_4 dX7_strike_6 rfl ?_
  refine wp_VNxR dX7_strike_8 rfl q1423 mv_X0_stepsOf hE.o0 rfl rfl (c_stepsOf hE h0) rfl rfl (Nat.le_of_ble_eq_true rfl) (Nat.le_of_ble_eq_true rfl) (Nat.zero_le _) (Nat.zero_le _) ?_
  refine wp_aload_0 dX7_strike_11 rfl ?_
  refine wp_getf dX7_strike_12 rfl q658 fk7_2 (cg_29 hE.X) rfl ?_
  rw [hwho]
  refine wp_iload_3 dX7_strike_15 rfl ?_
  refine wp_cvR dX7_strike_16 rfl q1424 mv_X14_pace (hE.pla hp) rfl rfl (c_ppace hE hp) rfl rfl (Nat.le_of_ble_eq_true rfl) (Nat.le_of_ble_eq_true rfl) ?_
  refine wp_imul dX7_strike_19 rfl ?_
  refine wp_iadd dX7_strike_20 rfl ?_
  refine wp_aload_0 dX7_strike_21 rfl ?_
  refine wp_getf dX7_strike_22 rfl q659 fk7_3 (cg_29 hE.X) rfl ?_
  rw [hg]
  refine wp_getf dX7_strike_25 rfl q525 fk4_1 (cg_15 hE.X) rfl ?_
  refine wp_iload_1 dX7_strike_28 rfl ?_
  refine wp_ialoadn i dX7_strike_29 rfl (cg_17 hE.X) rfl (by omega) (by decide) ?_
  rw [hG.f hi]
  refine wp_csR dX7_strike_30 rfl q1425 ms_J3_max j_max rfl rfl (Nat.le_of_ble_eq_true rfl) (Nat.le_of_ble_eq_true rfl) ?_
  exact wp_ireturn dX7_strike_33 rfl ⟨rfl, rfl⟩
theorem c_bHits {g : GW} {C : SC} {S : SM} {X : AH} {lo hi b : Nat} {A : BA} {W : Nat → Int32} (hE : EV C X lo hi b A W) {G : GA} (hG : GM 3 16 17 18 C X G) {p : Nat} (hp : p < nW W 6) (hwho : C.2.2.2.1 29 = some (A.pl p)) (hg : C.2.2.2.1 30 = some 15) (h0 : ¬ W 0 = 0) {i h n t : Nat} (hi : i < G.1) (hn : n < 120) (ht : t < 12) {tick on : Int32} (ho : ¬ on = -1 → ∃ s, s < 12 ∧ on = nI s) {T : IQ} (hT : IC 44 C T) : SP g 4 0 0 yX7_hits cX7_hits 9 none [.ref 29, .int (nI i), .int (nI h), .int tick, .int (nI n), .int (nI t), .int on] (cH C S X) (fun v h1 => v = none ∧ ∃ C', h1 = cH C' S X ∧ CBs C C' ∧ IC 44 C' (hF1 W G.2 p i h tick n t on T)) := by
  refine SP.intro [some (.ref 29), some (.int (nI i)), some (.int (nI h)), some (.int tick), some (.int (nI n)), some (.int (nI t)), some (.int on), none, none] (pfn (by decide)) rfl (Nat.le_of_ble_eq_true rfl) ?_
  have h60 := hG.2.1
  refine wp_aload_0 dX7_hits_0 rfl ?_
  refine wp_iload_1 dX7_hits_1 rfl ?_
  refine wp_iload_2 dX7_hits_2 rfl ?_
  refine wp_iload_3 dX7_hits_3 rfl ?_
  refine wp_iload_5 dX7_hits_4 rfl ?_
  refine wp_cvR dX7_hits_6 rfl q1419 mv_X7_strike (cg_29 hE.X) rfl rfl (c_bSk hE hG hp hwho hg h0 hi) rfl rfl (Nat.le_of_ble_eq_true rfl) (Nat.le_of_ble_eq_true rfl) ?_
  refine wp_istore_7 dX7_hits_9 rfl (by decide) rfl ?_
  refine wp_iload_7 dX7_hits_11 rfl ?_
  refine wp_aload_0 dX7_hits_13 rfl ?_
  refine wp_getf dX7_hits_14 rfl q659 fk7_3 (cg_29 hE.X) rfl ?_
  rw [hg]
  refine wp_getf dX7_hits_17 rfl q528 fk4_2 (cg_15 hE.X) rfl ?_
  refine wp_iload_1 dX7_hits_20 rfl ?_
  refine wp_ialoadn i dX7_hits_21 rfl (cg_18 hE.X) rfl (by omega) (by decide) ?_
  rw [hG.e hi]
  refine wp_icmp_le 26 dX7_hits_22 rfl rfl (fun c22 => ?_) (fun c22 => ?_)
  · refine wp_aload_0 dX7_hits_26 rfl ?_
    refine wp_getf dX7_hits_27 rfl q657 fk7_1 (cg_29 hE.X) rfl ?_
    refine wp_iload_5 dX7_hits_30 rfl ?_
    refine wp_aaload t dX7_hits_32 rfl rfl rfl (cg_43 hE.X) (nI_clamp (by omega)) (vp_in_nI (show t < 12 from ht) (by omega)) ?_
    rw [cn_at (show t < 12 from ht)]
    refine wp_iload_4 dX7_hits_33 rfl ?_
    refine wp_iconst 1 dX7_hits_35 rfl rfl ?_
    refine wp_iadd dX7_hits_36 rfl ?_
    rw [nI_1]
    refine wp_aload_0 dX7_hits_37 rfl ?_
    refine wp_getf dX7_hits_38 rfl q657 fk7_1 (cg_29 hE.X) rfl ?_
    refine wp_iload_5 dX7_hits_41 rfl ?_
    refine wp_aaload t dX7_hits_43 rfl rfl rfl (cg_43 hE.X) (nI_clamp (by omega)) (vp_in_nI (show t < 12 from ht) (by omega)) ?_
    rw [cn_at (show t < 12 from ht)]
    refine wp_iload_4 dX7_hits_44 rfl ?_
    refine wp_iconst 1 dX7_hits_46 rfl rfl ?_
    refine wp_iadd dX7_hits_47 rfl ?_
    rw [nI_1]
    refine wp_ialoadn (n + 1) dX7_hits_48 rfl (cgr_44 hE.X ht) rfl (by omega) (by decide) ?_
    rw [hT t ht (n + 1) (by omega)]
    refine wp_iload_7 dX7_hits_49 rfl ?_
    refine wp_iconst 1 dX7_hits_51 rfl rfl ?_
    refine wp_iadd dX7_hits_52 rfl ?_
    refine wp_csR dX7_hits_53 rfl q1407 ms_J3_min j_min rfl rfl (Nat.le_of_ble_eq_true rfl) (Nat.le_of_ble_eq_true rfl) ?_
    refine wp_iastoren (n + 1) dX7_hits_56 rfl (cgr_44 hE.X ht) rfl (by omega) (by decide) (csr_44 ht) ?_
    have k1 := CBs.A ht (n + 1) (mn32 (T t (n + 1)) (skV W G.2 p i (nI h) tick (nI t) + 1)) C
    have hT1 : IC 44 (cA (44 + t) (n + 1) (mn32 (T t (n + 1)) (skV W G.2 p i (nI h) tick (nI t) + 1)) C) (hA1 W G.2 p i h tick n t T) := hT.w44 t (n + 1) _
    generalize cA (44 + t) (n + 1) (mn32 (T t (n + 1)) (skV W G.2 p i (nI h) tick (nI t) + 1)) C = C1 at *
    have hE := k1.t.ev hE
    have hG := k1.t.g4 hG
    have hwho := (k1.t.r 29).trans hwho
    have hg := (k1.t.r 30).trans hg
    refine wp_iload_6 dX7_hits_57 rfl ?_
    refine wp_iconst (-1) dX7_hits_59 rfl rfl ?_
    refine wp_icmp_eq 72 dX7_hits_60 rfl rfl (fun c60 => ?_) (fun c60 => ?_)
    · exact wp_return dX7_hits_72 rfl ⟨rfl, C1, rfl, k1, by rw [hF1_1 (Int32.not_lt.mpr c22) (Or.inl c60)]; exact hT1⟩
    · obtain ⟨s, hs, rfl⟩ := ho c60
      refine wp_iload_4 dX7_hits_63 rfl ?_
      refine wp_iconst 2 dX7_hits_65 rfl rfl ?_
      refine wp_iadd dX7_hits_66 rfl ?_
      rw [show nI n + 2 = nI (n + 2) from nI_add n 2]
      refine wp_bipush 120 dX7_hits_67 rfl rfl ?_
      refine wp_icmp_le_k 73 dX7_hits_69 rfl rfl (b := 120) (by omega) (by omega) (fun c69 => ?_) (fun c69 => ?_)
      · refine wp_aload_0 dX7_hits_73 rfl ?_
        refine wp_iload_1 dX7_hits_74 rfl ?_
        refine wp_iload_5 dX7_hits_75 rfl ?_
        refine wp_iload_7 dX7_hits_77 rfl ?_
        refine wp_iconst 1 dX7_hits_79 rfl rfl ?_
        refine wp_iadd dX7_hits_80 rfl ?_
        refine wp_iload_6 dX7_hits_81 rfl ?_
        refine wp_cvR dX7_hits_83 rfl q1419 mv_X7_strike (cg_29 hE.X) rfl rfl (c_bSk hE hG hp hwho hg h0 hi) rfl rfl (Nat.le_of_ble_eq_true rfl) (Nat.le_of_ble_eq_true rfl) ?_
        refine wp_istore_8 dX7_hits_86 rfl (by decide) rfl ?_
        refine wp_iload_8 dX7_hits_88 rfl ?_
        refine wp_aload_0 dX7_hits_90 rfl ?_
        refine wp_getf dX7_hits_91 rfl q659 fk7_3 (cg_29 hE.X) rfl ?_
        rw [hg]
        refine wp_getf dX7_hits_94 rfl q528 fk4_2 (cg_15 hE.X) rfl ?_
        refine wp_iload_1 dX7_hits_97 rfl ?_
        refine wp_ialoadn i dX7_hits_98 rfl (cg_18 hE.X) rfl (by omega) (by decide) ?_
        rw [hG.e hi]
        refine wp_icmp_gt 133 dX7_hits_99 rfl rfl (fun c99 => ?_) (fun c99 => ?_)
        · exact wp_return dX7_hits_133 rfl ⟨rfl, C1, rfl, k1, by rw [hF1_2 (Int32.not_lt.mpr c22) c60 (by omega), hA2, if_pos c99]; exact hT1⟩
        · refine wp_aload_0 dX7_hits_102 rfl ?_
          refine wp_getf dX7_hits_103 rfl q657 fk7_1 (cg_29 hE.X) rfl ?_
          refine wp_iload_6 dX7_hits_106 rfl ?_
          refine wp_aaload s dX7_hits_108 rfl rfl rfl (cg_43 hE.X) (nI_clamp (by omega)) (vp_in_nI (show s < 12 from hs) (by omega)) ?_
          rw [cn_at (show s < 12 from hs)]
          refine wp_iload_4 dX7_hits_109 rfl ?_
          refine wp_iconst 2 dX7_hits_111 rfl rfl ?_
          refine wp_iadd dX7_hits_112 rfl ?_
          rw [show nI n + 2 = nI (n + 2) from nI_add n 2]
          refine wp_aload_0 dX7_hits_113 rfl ?_
          refine wp_getf dX7_hits_114 rfl q657 fk7_1 (cg_29 hE.X) rfl ?_
          refine wp_iload_6 dX7_hits_117 rfl ?_
          refine wp_aaload s dX7_hits_119 rfl rfl rfl (cg_43 hE.X) (nI_clamp (by omega)) (vp_in_nI (show s < 12 from hs) (by omega)) ?_
          rw [cn_at (show s < 12 from hs)]
          refine wp_iload_4 dX7_hits_120 rfl ?_
          refine wp_iconst 2 dX7_hits_122 rfl rfl ?_
          refine wp_iadd dX7_hits_123 rfl ?_
          rw [show nI n + 2 = nI (n + 2) from nI_add n 2]
          refine wp_ialoadn (n + 2) dX7_hits_124 rfl (cgr_44 hE.X hs) rfl (by omega) (by decide) ?_
          rw [hT1 s hs (n + 2) (by omega)]
          refine wp_iload_8 dX7_hits_125 rfl ?_
          refine wp_iconst 1 dX7_hits_127 rfl rfl ?_
          refine wp_iadd dX7_hits_128 rfl ?_
          refine wp_csR dX7_hits_129 rfl q1407 ms_J3_min j_min rfl rfl (Nat.le_of_ble_eq_true rfl) (Nat.le_of_ble_eq_true rfl) ?_
          refine wp_iastoren (n + 2) dX7_hits_132 rfl (cgr_44 hE.X hs) rfl (by omega) (by decide) (csr_44 hs) ?_
          exact wp_return dX7_hits_133 rfl ⟨rfl, _, rfl, k1.tr (CBs.A hs _ _ C1), by rw [hF1_2 (Int32.not_lt.mpr c22) c60 (by omega), hA2, if_neg c99, nI_clamp (by omega)]; exact hT1.w44 s (n + 2) _⟩
      · exact wp_return dX7_hits_72 rfl ⟨rfl, C1, rfl, k1, by rw [hF1_1 (Int32.not_lt.mpr c22) (Or.inr (by omega))]; exact hT1⟩
  · exact wp_return dX7_hits_25 rfl ⟨rfl, C, rfl, CBs.rf C, by rw [hF1_0 (Int32.not_le.mp c22)]; exact hT⟩
theorem cL_bst1 {g : GW} {S : SM} {X : AH} {lo hi b : Nat} {A : BA} {W : Nat → Int32} {C0 : SC} {i m : Nat} {R : IQ} {v4 : Option Value} {c n : Nat} {Q : Option Value → AH → Prop} : ∀ (k : Nat) (C : SC) (q : Nat), q + k = 12 → EV C X lo hi b A W → CBt C0 C → IC 31 C R → (∀ r, r < q → ∀ n, n < 121 → C.2.1 (44 + r) n = R r n) → (∀ C' v3, EV C' X lo hi b A W → CBt C0 C' → IC 31 C' R → IC 44 C' R → WP g 5 yX7_step cX7_step 5 none 42 [some (.ref 29), some (.int (nI i)), some (.ref m), v3, v4] [] (cH C' S X) c n Q) → WP g 5 yX7_step cX7_step 5 none 11 [some (.ref 29), some (.int (nI i)), some (.ref m), some (.int (nI q)), v4] [] (cH C S X) c n Q := by
  intro k
  induction k with
  | zero =>
    intro C q hi0 hE hL hR hz hq
    refine wp_iload_3 dX7_step_11 rfl ?_
    refine wp_bipush 12 dX7_step_12 rfl rfl ?_
    refine wp_icmp_ge_k 42 dX7_step_14 rfl rfl (b := 12) (by omega) (by omega) (fun c14 => ?_) (fun c14 => ?_)
    · exact hq C _ hE hL hR (fun h hh n hn => hz h (by omega) n hn)
    · exact absurd c14 (by omega)
  | succ k ih =>
    intro C q hi0 hE hL hR hz hq
    refine wp_iload_3 dX7_step_11 rfl ?_
    refine wp_bipush 12 dX7_step_12 rfl rfl ?_
    refine wp_icmp_ge_k 42 dX7_step_14 rfl rfl (b := 12) (by omega) (by omega) (fun c14 => ?_) (fun c14 => ?_)
    · exact absurd c14 (by omega)
    · refine wp_aload_0 dX7_step_17 rfl ?_
      refine wp_getf dX7_step_18 rfl q656 fk7_0 (cg_29 hE.X) rfl ?_
      refine wp_iload_3 dX7_step_21 rfl ?_
      refine wp_aaload q dX7_step_22 rfl rfl rfl (cg_30 hE.X) (nI_clamp (by omega)) (vp_in_nI (show q < 12 from (by omega)) (by omega)) ?_
      rw [cn_at (show q < 12 from (by omega))]
      refine wp_iconst 0 dX7_step_23 rfl rfl ?_
      refine wp_aload_0 dX7_step_24 rfl ?_
      refine wp_getf dX7_step_25 rfl q657 fk7_1 (cg_29 hE.X) rfl ?_
      refine wp_iload_3 dX7_step_28 rfl ?_
      refine wp_aaload q dX7_step_29 rfl rfl rfl (cg_43 hE.X) (nI_clamp (by omega)) (vp_in_nI (show q < 12 from (by omega)) (by omega)) ?_
      rw [cn_at (show q < 12 from (by omega))]
      refine wp_iconst 0 dX7_step_30 rfl rfl ?_
      refine wp_bipush 121 dX7_step_31 rfl rfl ?_
      refine wp_copyI (t := 0) dX7_step_33 rfl q1413 rfl rfl (cgr_31 hE.X (by omega)) (cgr_44 hE.X (by omega)) (Nat.le_of_ble_eq_true rfl) (Nat.le_of_ble_eq_true rfl) (by decide) (by decide) (by decide) (by decide) (by decide) (fun _ _ => rfl) (ctr_44 (show q < 12 by omega)) ?_
      refine wp_iinc_3 1 dX7_step_36 rfl rfl (by decide) rfl ?_
      refine wp_goto 11 dX7_step_39 rfl rfl ?_
      have k1 := CBs.As (show q < 12 by omega) (va_cpy (C.2.1 (31 + q)) (C.2.1 (44 + q)) 0 0 121) C
      have hE1 := k1.t.ev hE
      have hR1 := hR.s31 k1
      have hz1 : ∀ r, r < q + 1 → ∀ n, n < 121 → (cAs (44 + q) (va_cpy (C.2.1 (31 + q)) (C.2.1 (44 + q)) 0 0 121) C).2.1 (44 + r) n = R r n := fun r hr n hn => by
        rw [cAs_at]
        by_cases e : r = q
        · rw [if_pos (by omega), va_cpy, if_pos (by omega), Nat.zero_add, Nat.sub_zero, e]; exact hR q (by omega) n hn
        · rw [if_neg (by omega)]; exact hz r (by omega) n hn
      exact WP.cast (by rw [nI_1]) (ih _ (q + 1) (by omega) hE1 (hL.tr k1.t) hR1 hz1 hq)
theorem cL_bst3 {g : GW} {S : SM} {X : AH} {lo hi b : Nat} {A : BA} {W : Nat → Int32} {C0 : SC} {i m : Nat} {T : IQ} {v4 : Option Value} {c n : Nat} {Q : Option Value → AH → Prop} : ∀ (k : Nat) (C : SC) (q : Nat), q + k = 12 → EV C X lo hi b A W → CBt C0 C → IC 44 C T → (∀ r, r < q → ∀ n, n < 121 → C.2.1 (31 + r) n = T r n) → (∀ C', CBt C0 C' → IC 31 C' T → Q none (cH C' S X)) → WP g 5 yX7_step cX7_step 5 none 156 [some (.ref 29), some (.int (nI i)), some (.ref m), some (.int (nI q)), v4] [] (cH C S X) c n Q := by
  intro k
  induction k with
  | zero =>
    intro C q hi0 hE hL hT hz hq
    refine wp_iload_3 dX7_step_156 rfl ?_
    refine wp_bipush 12 dX7_step_157 rfl rfl ?_
    refine wp_icmp_ge_k 187 dX7_step_159 rfl rfl (b := 12) (by omega) (by omega) (fun c159 => ?_) (fun c159 => ?_)
    · exact wp_return dX7_step_187 rfl (hq C hL (fun h hh n hn => hz h (by omega) n hn))
    · exact absurd c159 (by omega)
  | succ k ih =>
    intro C q hi0 hE hL hT hz hq
    refine wp_iload_3 dX7_step_156 rfl ?_
    refine wp_bipush 12 dX7_step_157 rfl rfl ?_
    refine wp_icmp_ge_k 187 dX7_step_159 rfl rfl (b := 12) (by omega) (by omega) (fun c159 => ?_) (fun c159 => ?_)
    · exact absurd c159 (by omega)
    · refine wp_aload_0 dX7_step_162 rfl ?_
      refine wp_getf dX7_step_163 rfl q657 fk7_1 (cg_29 hE.X) rfl ?_
      refine wp_iload_3 dX7_step_166 rfl ?_
      refine wp_aaload q dX7_step_167 rfl rfl rfl (cg_43 hE.X) (nI_clamp (by omega)) (vp_in_nI (show q < 12 from (by omega)) (by omega)) ?_
      rw [cn_at (show q < 12 from (by omega))]
      refine wp_iconst 0 dX7_step_168 rfl rfl ?_
      refine wp_aload_0 dX7_step_169 rfl ?_
      refine wp_getf dX7_step_170 rfl q656 fk7_0 (cg_29 hE.X) rfl ?_
      refine wp_iload_3 dX7_step_173 rfl ?_
      refine wp_aaload q dX7_step_174 rfl rfl rfl (cg_30 hE.X) (nI_clamp (by omega)) (vp_in_nI (show q < 12 from (by omega)) (by omega)) ?_
      rw [cn_at (show q < 12 from (by omega))]
      refine wp_iconst 0 dX7_step_175 rfl rfl ?_
      refine wp_bipush 121 dX7_step_176 rfl rfl ?_
      refine wp_copyI (t := 0) dX7_step_178 rfl q1413 rfl rfl (cgr_44 hE.X (by omega)) (cgr_31 hE.X (by omega)) (Nat.le_of_ble_eq_true rfl) (Nat.le_of_ble_eq_true rfl) (by decide) (by decide) (by decide) (by decide) (by decide) (fun _ _ => rfl) (ctr_31 (show q < 12 by omega)) ?_
      refine wp_iinc_3 1 dX7_step_181 rfl rfl (by decide) rfl ?_
      refine wp_goto 156 dX7_step_184 rfl rfl ?_
      have k1 := CBt.As1 (show q < 12 by omega) (va_cpy (C.2.1 (44 + q)) (C.2.1 (31 + q)) 0 0 121) C
      have hE1 := k1.ev hE
      have hT1 := hT.k44s (show q < 12 by omega) (va_cpy (C.2.1 (44 + q)) (C.2.1 (31 + q)) 0 0 121)
      have hz1 : ∀ r, r < q + 1 → ∀ n, n < 121 → (cAs (31 + q) (va_cpy (C.2.1 (44 + q)) (C.2.1 (31 + q)) 0 0 121) C).2.1 (31 + r) n = T r n := fun r hr n hn => by
        rw [cAs_at]
        by_cases e : r = q
        · rw [if_pos (by omega), va_cpy, if_pos (by omega), Nat.zero_add, Nat.sub_zero, e]; exact hT q (by omega) n hn
        · rw [if_neg (by omega)]; exact hz r (by omega) n hn
      exact WP.cast (by rw [nI_1]) (ih _ (q + 1) (by omega) hE1 (hL.tr k1) hT1 hz1 hq)
theorem cL_bstn {g : GW} {S : SM} {X : AH} {lo hi b : Nat} {A : BA} {W : Nat → Int32} {C0 : SC} {G : GA} {p i m : Nat} (hp : p < nW W 6) (h0 : ¬ W 0 = 0) (hiG : i < G.1) (hWG : WG G) (hmx : X[m]? = some (.inr (14, [.int (gH G.2 i), .int (gO G.2 i), .int (gR G.2 i)]))) (hmd : dyn m) {R : IQ} {h : Nat} (hh : h < 12) {c n9 : Nat} {Q : Option Value → AH → Prop} : ∀ (k : Nat) (C : SC) (n : Nat) (T : IQ), n + k = 120 → EV C X lo hi b A W → GM 3 16 17 18 C X G → C.2.2.2.1 29 = some (A.pl p) → C.2.2.2.1 30 = some 15 → CBt C0 C → IC 31 C R → IC 44 C T → (∀ C' v4, EV C' X lo hi b A W → GM 3 16 17 18 C' X G → C'.2.2.2.1 29 = some (A.pl p) → C'.2.2.2.1 30 = some 15 → CBt C0 C' → IC 31 C' R → IC 44 C' (itr (bF2 W G.2 p i R h) k n T) → WP g 5 yX7_step cX7_step 5 none 148 [some (.ref 29), some (.int (nI i)), some (.ref m), some (.int (nI h)), v4] [] (cH C' S X) c n9 Q) → WP g 5 yX7_step cX7_step 5 none 61 [some (.ref 29), some (.int (nI i)), some (.ref m), some (.int (nI h)), some (.int (nI n))] [] (cH C S X) c n9 Q := by
  intro k
  induction k with
  | zero =>
    intro C n T hi0 hE hG hwho hg hL hR hT hq
    have hm14 : (cH C S X)[m]? = some (.inr (14, [.int (gH G.2 i), .int (gO G.2 i), .int (gR G.2 i)])) := (cH_dyn hmd).trans hmx
    have h12 := hE.s.ho12
    refine wp_iload_4 dX7_step_61 rfl ?_
    refine wp_bipush 120 dX7_step_63 rfl rfl ?_
    refine wp_icmp_ge_k 148 dX7_step_65 rfl rfl (b := 120) (by omega) (by omega) (fun c65 => ?_) (fun c65 => ?_)
    · exact hq C _ hE hG hwho hg hL hR hT
    · exact absurd c65 (by omega)
  | succ k ih =>
    intro C n T hi0 hE hG hwho hg hL hR hT hq
    have hm14 : (cH C S X)[m]? = some (.inr (14, [.int (gH G.2 i), .int (gO G.2 i), .int (gR G.2 i)])) := (cH_dyn hmd).trans hmx
    have h12 := hE.s.ho12
    refine wp_iload_4 dX7_step_61 rfl ?_
    refine wp_bipush 120 dX7_step_63 rfl rfl ?_
    refine wp_icmp_ge_k 148 dX7_step_65 rfl rfl (b := 120) (by omega) (by omega) (fun c65 => ?_) (fun c65 => ?_)
    · exact absurd c65 (by omega)
    · refine wp_aload_0 dX7_step_68 rfl ?_
      refine wp_getf dX7_step_69 rfl q656 fk7_0 (cg_29 hE.X) rfl ?_
      refine wp_iload_3 dX7_step_72 rfl ?_
      refine wp_aaload h dX7_step_73 rfl rfl rfl (cg_30 hE.X) (nI_clamp (by omega)) (vp_in_nI (show h < 12 from hh) (by omega)) ?_
      rw [cn_at (show h < 12 from hh)]
      refine wp_iload_4 dX7_step_74 rfl ?_
      refine wp_ialoadn n dX7_step_76 rfl (cgr_31 hE.X hh) rfl (by omega) (by decide) ?_
      rw [hR h hh n (by omega)]
      refine wp_ldc dX7_step_77 rfl q1403 ?_
      refine wp_icmp_ne 85 dX7_step_79 rfl rfl (fun c79 => ?_) (fun c79 => ?_)
      · refine wp_aload_0 dX7_step_85 rfl ?_
        refine wp_iload_1 dX7_step_86 rfl ?_
        refine wp_iload_3 dX7_step_87 rfl ?_
        refine wp_aload_0 dX7_step_88 rfl ?_
        refine wp_getf dX7_step_89 rfl q656 fk7_0 (cg_29 hE.X) rfl ?_
        refine wp_iload_3 dX7_step_92 rfl ?_
        refine wp_aaload h dX7_step_93 rfl rfl rfl (cg_30 hE.X) (nI_clamp (by omega)) (vp_in_nI (show h < 12 from hh) (by omega)) ?_
        rw [cn_at (show h < 12 from hh)]
        refine wp_iload_4 dX7_step_94 rfl ?_
        refine wp_ialoadn n dX7_step_96 rfl (cgr_31 hE.X hh) rfl (by omega) (by decide) ?_
        rw [hR h hh n (by omega)]
        refine wp_iload_4 dX7_step_97 rfl ?_
        refine wp_aload_2 dX7_step_99 rfl ?_
        refine wp_getfN dX7_step_100 rfl q1055 fk14_0 hm14 rfl ?_
        rw [show gH G.2 i = nI (hNt G.2 i) from (hWG i hiG).1.1]
        refine wp_aload_2 dX7_step_103 rfl ?_
        refine wp_getfN dX7_step_104 rfl q1058 fk14_1 hm14 rfl ?_
        refine wp_cvE dX7_step_107 rfl q1415 mv_X7_hits (cg_29 hE.X) rfl rfl (c_bHits hE hG hp hwho hg h0 hiG (by omega) (hWG i hiG).1.2 (fun q => by rw [(hWG i hiG).2.1] at q ⊢; exact onI_no (hWG i hiG).2.2 q) hT) rfl rfl (Nat.le_of_ble_eq_true rfl) (Nat.le_of_ble_eq_true rfl) (fun h1 hq => ?_)
        obtain ⟨C1, rfl, k1, hT1⟩ := hq
        have hE := k1.t.ev hE
        have hG := k1.t.g4 hG
        have hwho := (k1.t.r 29).trans hwho
        have hg := (k1.t.r 30).trans hg
        have hL := hL.tr k1.t
        have hR := hR.s31 k1
        have hm14 : (cH C1 S X)[m]? = some (.inr (14, [.int (gH G.2 i), .int (gO G.2 i), .int (gR G.2 i)])) := (cH_dyn hmd).trans hmx
        refine wp_aload_2 dX7_step_110 rfl ?_
        refine wp_cvR dX7_step_111 rfl q1426 mv_X13_isTwin hm14 rfl rfl (c_isTwin hm14) rfl rfl (Nat.le_of_ble_eq_true rfl) (Nat.le_of_ble_eq_true rfl) ?_
        refine wp_ifeq_b 142 dX7_step_114 rfl rfl (fun c114 => ?_) (fun c114 => ?_)
        · refine wp_iinc_4 1 dX7_step_142 rfl rfl (by decide) rfl ?_
          refine wp_goto 61 dX7_step_145 rfl rfl ?_
          have e9 : bF2 W G.2 p i R h n T = hF1 W G.2 p i h (R h n) n (hNt G.2 i) (gO G.2 i) T := (if_neg c79).trans (if_pos (by simpa using c114))
          exact WP.cast (by rw [nI_1]) (ih C1 (n + 1) (bF2 W G.2 p i R h n T) (by omega) hE hG hwho hg hL hR (by rw [e9]; exact hT1) hq)
        · have hno : ¬ gO G.2 i = -1 := by simpa using c114
          obtain ⟨s, hs, es⟩ : ∃ s, s < 12 ∧ gO G.2 i = nI s := by
            rw [(hWG i hiG).2.1] at hno ⊢
            exact onI_no (hWG i hiG).2.2 hno
          refine wp_aload_0 dX7_step_117 rfl ?_
          refine wp_iload_1 dX7_step_118 rfl ?_
          refine wp_iload_3 dX7_step_119 rfl ?_
          refine wp_aload_0 dX7_step_120 rfl ?_
          refine wp_getf dX7_step_121 rfl q656 fk7_0 (cg_29 hE.X) rfl ?_
          refine wp_iload_3 dX7_step_124 rfl ?_
          refine wp_aaload h dX7_step_125 rfl rfl rfl (cg_30 hE.X) (nI_clamp (by omega)) (vp_in_nI (show h < 12 from hh) (by omega)) ?_
          rw [cn_at (show h < 12 from hh)]
          refine wp_iload_4 dX7_step_126 rfl ?_
          refine wp_ialoadn n dX7_step_128 rfl (cgr_31 hE.X hh) rfl (by omega) (by decide) ?_
          rw [hR h hh n (by omega)]
          refine wp_iload_4 dX7_step_129 rfl ?_
          refine wp_aload_2 dX7_step_131 rfl ?_
          refine wp_getfN dX7_step_132 rfl q1058 fk14_1 hm14 rfl ?_
          rw [es]
          refine wp_aload_2 dX7_step_135 rfl ?_
          refine wp_getfN dX7_step_136 rfl q1055 fk14_0 hm14 rfl ?_
          refine wp_cvE dX7_step_139 rfl q1415 mv_X7_hits (cg_29 hE.X) rfl rfl (c_bHits hE hG hp hwho hg h0 hiG (by omega) hs (fun _ => ⟨hNt G.2 i, (hWG i hiG).1.2, (hWG i hiG).1.1⟩) hT1) rfl rfl (Nat.le_of_ble_eq_true rfl) (Nat.le_of_ble_eq_true rfl) (fun h1 hq => ?_)
          obtain ⟨C2, rfl, k2, hT2⟩ := hq
          have hE := k2.t.ev hE
          have hG := k2.t.g4 hG
          have hwho := (k2.t.r 29).trans hwho
          have hg := (k2.t.r 30).trans hg
          have hL := hL.tr k2.t
          have hR := hR.s31 k2
          have hm14 : (cH C2 S X)[m]? = some (.inr (14, [.int (gH G.2 i), .int (gO G.2 i), .int (gR G.2 i)])) := (cH_dyn hmd).trans hmx
          refine wp_iinc_4 1 dX7_step_142 rfl rfl (by decide) rfl ?_
          refine wp_goto 61 dX7_step_145 rfl rfl ?_
          have e9 : bF2 W G.2 p i R h n T = hF1 W G.2 p i h (R h n) n (gO G.2 i).toNatClampNeg (gH G.2 i) (hF1 W G.2 p i h (R h n) n (hNt G.2 i) (gO G.2 i) T) := (if_neg c79).trans (if_neg hno)
          exact WP.cast (by rw [nI_1]) (ih C2 (n + 1) (bF2 W G.2 p i R h n T) (by omega) hE hG hwho hg hL hR (by rw [e9, es, nI_clamp (by omega)]; rw [es] at hT2; exact hT2) hq)
      · refine wp_goto 142 dX7_step_82 rfl rfl ?_
        refine wp_iinc_4 1 dX7_step_142 rfl rfl (by decide) rfl ?_
        refine wp_goto 61 dX7_step_145 rfl rfl ?_
        have e9 : bF2 W G.2 p i R h n T = T := if_pos c79
        exact WP.cast (by rw [nI_1]) (ih C (n + 1) (bF2 W G.2 p i R h n T) (by omega) hE hG hwho hg hL hR (by rw [e9]; exact hT) hq)
theorem cL_bsth {g : GW} {S : SM} {X : AH} {lo hi b : Nat} {A : BA} {W : Nat → Int32} {C0 : SC} {G : GA} {p i m : Nat} (hp : p < nW W 6) (h0 : ¬ W 0 = 0) (hiG : i < G.1) (hWG : WG G) (hmx : X[m]? = some (.inr (14, [.int (gH G.2 i), .int (gO G.2 i), .int (gR G.2 i)]))) (hmd : dyn m) {R : IQ} {c n : Nat} {Q : Option Value → AH → Prop} : ∀ (k : Nat) (C : SC) (h : Nat) (T : IQ) (v4 : Option Value), h + k = hoN W → EV C X lo hi b A W → GM 3 16 17 18 C X G → C.2.2.2.1 29 = some (A.pl p) → C.2.2.2.1 30 = some 15 → CBt C0 C → IC 31 C R → IC 44 C T → (∀ C' v3 v4, EV C' X lo hi b A W → GM 3 16 17 18 C' X G → C'.2.2.2.1 29 = some (A.pl p) → C'.2.2.2.1 30 = some 15 → CBt C0 C' → IC 31 C' R → IC 44 C' (itr (bF1 W G.2 p i R) k h T) → WP g 5 yX7_step cX7_step 5 none 154 [some (.ref 29), some (.int (nI i)), some (.ref m), v3, v4] [] (cH C' S X) c n Q) → WP g 5 yX7_step cX7_step 5 none 44 [some (.ref 29), some (.int (nI i)), some (.ref m), some (.int (nI h)), v4] [] (cH C S X) c n Q := by
  intro k
  induction k with
  | zero =>
    intro C h T v4 hi0 hE hG hwho hg hL hR hT hq
    have hm14 : (cH C S X)[m]? = some (.inr (14, [.int (gH G.2 i), .int (gO G.2 i), .int (gR G.2 i)])) := (cH_dyn hmd).trans hmx
    have h12 := hE.s.ho12
    refine wp_iload_3 dX7_step_44 rfl ?_
    refine wp_aload_0 dX7_step_45 rfl ?_
    refine wp_getf dX7_step_46 rfl q660 fk7_4 (cg_29 hE.X) rfl ?_
    refine wp_getfN dX7_step_49 rfl q720 fk0_1 hE.o0 rfl ?_
    refine wp_cvR dX7_step_52 rfl q1414 mv_X2_holes hE.ob rfl rfl (b_holes hE.B) rfl rfl (Nat.le_of_ble_eq_true rfl) (Nat.le_of_ble_eq_true rfl) ?_
    rw [hE.s.ho]
    refine wp_icmp_ge_k 154 dX7_step_55 rfl rfl (by have := hE.s.ho12; omega) (by have := hE.s.ho12; omega) (fun c55 => ?_) (fun c55 => ?_)
    · exact hq C _ _ hE hG hwho hg hL hR hT
    · exact absurd c55 (by omega)
  | succ k ih =>
    intro C h T v4 hi0 hE hG hwho hg hL hR hT hq
    have hm14 : (cH C S X)[m]? = some (.inr (14, [.int (gH G.2 i), .int (gO G.2 i), .int (gR G.2 i)])) := (cH_dyn hmd).trans hmx
    have h12 := hE.s.ho12
    refine wp_iload_3 dX7_step_44 rfl ?_
    refine wp_aload_0 dX7_step_45 rfl ?_
    refine wp_getf dX7_step_46 rfl q660 fk7_4 (cg_29 hE.X) rfl ?_
    refine wp_getfN dX7_step_49 rfl q720 fk0_1 hE.o0 rfl ?_
    refine wp_cvR dX7_step_52 rfl q1414 mv_X2_holes hE.ob rfl rfl (b_holes hE.B) rfl rfl (Nat.le_of_ble_eq_true rfl) (Nat.le_of_ble_eq_true rfl) ?_
    rw [hE.s.ho]
    refine wp_icmp_ge_k 154 dX7_step_55 rfl rfl (by have := hE.s.ho12; omega) (by have := hE.s.ho12; omega) (fun c55 => ?_) (fun c55 => ?_)
    · exact absurd c55 (by omega)
    · refine wp_iconst 0 dX7_step_58 rfl rfl ?_
      refine wp_istore_4 dX7_step_59 rfl (by decide) rfl ?_
      refine cL_bstn hp h0 hiG hWG hmx hmd (h := h) (by omega) 120 C 0 T (Nat.zero_add _) hE hG hwho hg hL hR hT (fun C1 v4 hE1 hG1 hw1 hg1 hL1 hR1 hT1 => ?_)
      refine wp_iinc_3 1 dX7_step_148 rfl rfl (by decide) rfl ?_
      refine wp_goto 44 dX7_step_151 rfl rfl ?_
      exact WP.cast (by rw [nI_1]) (ih C1 (h + 1) (bF1 W G.2 p i R h T) _ (by omega) hE1 hG1 hw1 hg1 hL1 hR1 hT1 hq)
theorem c_bStep {g : GW} {C : SC} {S : SM} {X : AH} {lo hi b : Nat} {A : BA} {W : Nat → Int32} (hE : EV C X lo hi b A W) {G : GA} (hG : GM 3 16 17 18 C X G) {p : Nat} (hp : p < nW W 6) (hwho : C.2.2.2.1 29 = some (A.pl p)) (hg : C.2.2.2.1 30 = some 15) (h0 : ¬ W 0 = 0) {i : Nat} (hi : i < G.1) (hWG : WG G) {R : IQ} (hR : IC 31 C R) : SP g 5 0 0 yX7_step cX7_step 5 none [.ref 29, .int (nI i)] (cH C S X) (fun v h1 => v = none ∧ ∃ C', h1 = cH C' S X ∧ CBt C C' ∧ IC 31 C' (bT W G.2 p i R)) := by
  refine SP.intro [some (.ref 29), some (.int (nI i)), none, none, none] (pfn (by decide)) rfl (Nat.le_of_ble_eq_true rfl) ?_
  have h60 := hG.2.1
  obtain ⟨⟨m, hm, hmd, hmx⟩, -⟩ := hG.2.2 i hi
  refine wp_aload_0 dX7_step_0 rfl ?_
  refine wp_getf dX7_step_1 rfl q659 fk7_3 (cg_29 hE.X) rfl ?_
  rw [hg]
  refine wp_iload_1 dX7_step_4 rfl ?_
  refine wp_UxR dX7_step_5 rfl q1408 mu_X3_mole_X4 (cg_15 hE.X) rfl rfl (c_gmole4 hE.X (by omega) hm) rfl rfl (Nat.le_of_ble_eq_true rfl) (Nat.le_of_ble_eq_true rfl) (Nat.zero_le _) (Nat.zero_le _) ?_
  refine wp_astore_2 dX7_step_8 rfl (by decide) rfl ?_
  refine wp_iconst 0 dX7_step_9 rfl rfl ?_
  refine wp_istore_3 dX7_step_10 rfl (by decide) rfl ?_
  refine cL_bst1 12 C 0 (Nat.zero_add _) hE (CBt.rf C) hR (fun q hq => absurd hq (Nat.not_lt_zero q)) (fun C1 v3 hE1 k1 hR1 hT1 => ?_)
  have hG1 := k1.g4 hG
  have hw1 := (k1.r 29).trans hwho
  have hg1 := (k1.r 30).trans hg
  refine wp_iconst 0 dX7_step_42 rfl rfl ?_
  refine wp_istore_3 dX7_step_43 rfl (by decide) rfl ?_
  refine cL_bsth hp h0 hi hWG hmx hmd (hoN W) C1 0 R _ (Nat.zero_add _) hE1 hG1 hw1 hg1 k1 hR1 hT1 (fun C2 v3 v4 hE2 hG2 hw2 hg2 k2 hR2 hT2 => ?_)
  refine wp_iconst 0 dX7_step_154 rfl rfl ?_
  refine wp_istore_3 dX7_step_155 rfl (by decide) rfl ?_
  exact cL_bst3 12 C2 0 (Nat.zero_add _) hE2 k2 hT2 (fun q hq => absurd hq (Nat.not_lt_zero q)) (fun C3 k3 hT3 => ⟨rfl, C3, rfl, k3, hT3⟩)
