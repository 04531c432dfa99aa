/-! ===== the class: lots ===== -/
set_option maxRecDepth 100000
theorem ho_m1 {C : SC} {X : AH} {lo hi b : Nat} {A : BA} {W : Nat → Int32} (hE : EV C X lo hi b A W) (h5 : 0 < nW W 5) (x : Int32) : ¬ hoA W x = -1 := by
  have h24 := hE.s.nc.2
  obtain ⟨j, hj, ej⟩ := fm_in x h5 (by omega)
  obtain ⟨a, o, r, e1, -, -, h1, -⟩ := hE.c j hj
  have h12 := hE.s.ho12
  rw [hoA, hE.s.nc.1, ej, nI_clamp (by omega), Nat.add_zero, e1]
  exact nI_m1 (by omega)
theorem bd_w0 {W : Nat → Int32} (h : WFa W) (hb : bdW W = true) : ¬ W 0 = 0 := by
  obtain ⟨m, h1, h2, h3, h4⟩ := h.2
  rcases Nat.eq_zero_or_pos m with q | q
  · unfold bdW at hb
    rw [h3 q 0] at hb
    exact absurd hb (by decide)
  · rw [h.1.1.wi.1]
    exact nI_ne0 (by have := (h4 q).1; omega) (by have := h.1.1.wi.2; omega)
theorem in112b_of {x : Int32} (h : inL x.toInt64 1 12 = true) : ∃ j : Nat, 1 ≤ j ∧ j ≤ 12 ∧ x = nI j := by
  have h : inI x 1 12 = true := by rw [← inL_i]; exact h
  unfold inI at h
  rw [Bool.and_eq_true, decide_eq_true_eq, decide_eq_true_eq] at h
  obtain ⟨j, hj, rfl⟩ := nI_of (Int32.not_lt.mpr (Int32.le_trans (by decide) h.1))
  exact ⟨j, (nI_leI (a := 1) (by omega) hj).mp h.1, (nI_leI (b := 12) hj (by omega)).mp h.2, rfl⟩
theorem cL_lst1 {g : GW} {S : SM} {X : AH} {lo hi b : Nat} {A : BA} {W : Nat → Int32} {C0 : SC} {law : Int32} {R : LQ} {c n : Nat} {Q : Option Value → AH → Prop} : ∀ (k : Nat) (C : SC) (i : Nat) (v5 : Option Value), i + k = 12 → EV C X lo hi b A W → CLt C0 C → LC 58 C R → (∀ q, q < i → ∀ f, f < 13 → C.2.2.1 (71 + q) f = 0) → (∀ C' v4 v5, EV C' X lo hi b A W → CLt C0 C' → LC 58 C' R → LC 71 C' (fun _ _ => 0) → WP g 4 yX8_step cX8_step 6 none 35 [some (.ref 56), some (.int law), some (.ref 70), some (.int 12), v4, v5] [] (cH C' S X) c n Q) → WP g 4 yX8_step cX8_step 6 none 11 [some (.ref 56), some (.int law), some (.ref 70), some (.int 12), some (.int (nI i)), v5] [] (cH C S X) c n Q := by
  intro k
  induction k with
  | zero =>
    intro C i v5 hi0 hE hL hR hz hq
    refine wp_iload_4 dX8_step_11 rfl ?_
    refine wp_iload_3 dX8_step_13 rfl ?_
    refine wp_icmp_ge_k 35 dX8_step_14 rfl rfl (b := 12) (by omega) (by omega) (fun c14 => ?_) (fun c14 => ?_)
    · exact hq C _ _ hE hL hR (fun h hh f hf => hz h (by omega) f hf)
    · exact absurd c14 (by omega)
  | succ k ih =>
    intro C i v5 hi0 hE hL hR hz hq
    refine wp_iload_4 dX8_step_11 rfl ?_
    refine wp_iload_3 dX8_step_13 rfl ?_
    refine wp_icmp_ge_k 35 dX8_step_14 rfl rfl (b := 12) (by omega) (by omega) (fun c14 => ?_) (fun c14 => ?_)
    · exact absurd c14 (by omega)
    · refine wp_aload_2 dX8_step_17 rfl ?_
      refine wp_iload_4 dX8_step_18 rfl ?_
      refine wp_aaload i dX8_step_20 rfl rfl rfl (cg_70 hE.X) (nI_clamp (by omega)) (vp_in_nI (show i < 12 by omega) (by omega)) ?_
      rw [cn_at (show i < 12 by omega)]
      refine wp_astore_5 dX8_step_21 rfl (by decide) rfl ?_
      refine wp_aload_5 dX8_step_23 rfl ?_
      refine wp_lconst 0 dX8_step_25 rfl rfl ?_
      refine wp_cs0 dX8_step_26 rfl q1510 ms_J13_fill_2 (j_fillL (v := 0) (cgr_71 hE.X (show i < 12 by omega)) (by decide)) rfl rfl (Nat.le_of_ble_eq_true rfl) (Nat.le_of_ble_eq_true rfl) ?_
      rw [ctr_71 (show i < 12 by omega)]
      refine wp_iinc_4 1 dX8_step_29 rfl rfl (by decide) rfl ?_
      refine wp_goto 11 dX8_step_32 rfl rfl ?_
      have k1 : CLt C (cLs (71 + i) (fiL 0 13 (C.2.2.1 (71 + i))) C) := ⟨rfl, rfl, rfl⟩
      have hE1 := k1.ev hE
      have hR1 := hR.k58s (q := i) (fiL 0 13 (C.2.2.1 (71 + i)))
      have hz1 : ∀ q, q < i + 1 → ∀ f, f < 13 → (cLs (71 + i) (fiL 0 13 (C.2.2.1 (71 + i))) C).2.2.1 (71 + q) f = 0 := fun q hq f hf => by
        rw [cLs_at]
        by_cases e : q = i
        · rw [if_pos (by omega)]; exact fiL_at hf
        · rw [if_neg (by omega)]; exact hz q (by omega) f hf
      exact WP.cast (by rw [nI_1]) (ih _ (i + 1) _ (by omega) hE1 (hL.tr k1) hR1 hz1 hq)
theorem cL_lst3 {g : GW} {S : SM} {X : AH} {lo hi b : Nat} {A : BA} {W : Nat → Int32} {C0 : SC} {law : Int32} {R : LQ} {a f : Nat} (ha : a < hoN W) (hf : f < 13) (h0 : ¬ W 0 = 0) {c n : Nat} {Q : Option Value → AH → Prop} : ∀ (k : Nat) (C : SC) (i : Nat) (T : LQ) (v5 : Option Value), i + k = hoN W → EV C X lo hi b A W → CLt C0 C → LC 58 C R → LC 71 C T → (∀ C' v4 v5, EV C' X lo hi b A W → CLt C0 C' → LC 58 C' R → LC 71 C' (itr (s3 W law a f (R a f)) k i T) → WP g 4 yX8_step cX8_step 6 none 144 [some (.ref 56), some (.int law), some (.int (nI a)), some (.int (nI f)), v4, v5] [] (cH C' S X) c n Q) → WP g 4 yX8_step cX8_step 6 none 78 [some (.ref 56), some (.int law), some (.int (nI a)), some (.int (nI f)), some (.int (nI i)), v5] [] (cH C S X) c n Q := by
  intro k
  induction k with
  | zero =>
    intro C i T v5 hi0 hE hL hR hT hq
    have h12 := hE.s.ho12
    refine wp_iload_4 dX8_step_78 rfl ?_
    refine wp_aload_0 dX8_step_80 rfl ?_
    refine wp_getf dX8_step_81 rfl q682 fk8_2 (cg_56 hE.X) rfl ?_
    refine wp_getfN dX8_step_84 rfl q719 fk0_1 hE.o0 rfl ?_
    refine wp_cvR dX8_step_87 rfl q1519 mv_X2_holes hE.ob rfl rfl (b_holes hE.B) rfl rfl (Nat.le_of_ble_eq_true rfl) (Nat.le_of_ble_eq_true rfl) ?_
    rw [hE.s.ho]
    refine wp_icmp_ge_k 144 dX8_step_90 rfl rfl (by have := hE.s.ho12; omega) (by have := hE.s.ho12; omega) (fun c90 => ?_) (fun c90 => ?_)
    · exact hq C _ _ hE hL hR hT
    · exact absurd c90 (by omega)
  | succ k ih =>
    intro C i T v5 hi0 hE hL hR hT hq
    have h12 := hE.s.ho12
    refine wp_iload_4 dX8_step_78 rfl ?_
    refine wp_aload_0 dX8_step_80 rfl ?_
    refine wp_getf dX8_step_81 rfl q682 fk8_2 (cg_56 hE.X) rfl ?_
    refine wp_getfN dX8_step_84 rfl q719 fk0_1 hE.o0 rfl ?_
    refine wp_cvR dX8_step_87 rfl q1519 mv_X2_holes hE.ob rfl rfl (b_holes hE.B) rfl rfl (Nat.le_of_ble_eq_true rfl) (Nat.le_of_ble_eq_true rfl) ?_
    rw [hE.s.ho]
    refine wp_icmp_ge_k 144 dX8_step_90 rfl rfl (by have := hE.s.ho12; omega) (by have := hE.s.ho12; omega) (fun c90 => ?_) (fun c90 => ?_)
    · exact absurd c90 (by omega)
    · refine wp_aload_0 dX8_step_93 rfl ?_
      refine wp_getf dX8_step_94 rfl q682 fk8_2 (cg_56 hE.X) rfl ?_
      refine wp_iload_4 dX8_step_97 rfl ?_
      refine wp_iload_1 dX8_step_99 rfl ?_
      refine wp_iload_2 dX8_step_100 rfl ?_
      refine wp_iload_3 dX8_step_101 rfl ?_
      refine wp_bipush 12 dX8_step_102 rfl rfl ?_
      refine wp_icmp_ne_k 111 dX8_step_104 rfl rfl (b := 12) (by omega) (by omega) (fun c104 => ?_) (fun c104 => ?_)
      · refine wp_iload_3 dX8_step_111 rfl ?_
        refine wp_VNxR dX8_step_112 rfl q1520 mv_X0_mayFollow hE.o0 rfl rfl (c_mayFollow hE h0 (nI_m1 (by omega)) (fun q => absurd q (nI_m1 (by omega)))) rfl rfl (Nat.le_of_ble_eq_true rfl) (Nat.le_of_ble_eq_true rfl) (Nat.zero_le _) (Nat.zero_le _) ?_
        refine wp_ifeq_b 138 dX8_step_115 rfl rfl (fun c115 => ?_) (fun c115 => ?_)
        · refine wp_iinc_4 1 dX8_step_138 rfl rfl (by decide) rfl ?_
          refine wp_goto 78 dX8_step_141 rfl rfl ?_
          have e9 : s3 W law a f (R a f) i T = T := s3_f (by rw [fz_n c104]; exact c115)
          exact WP.cast (by rw [nI_1]) (ih C (i + 1) T _ (by omega) hE hL hR hT (by show ∀ C' v4 v5, _; have h9 := hq; rw [show itr (s3 W law a f (R a f)) (k + 1) i T = itr (s3 W law a f (R a f)) k (i + 1) (s3 W law a f (R a f) i T) from rfl, e9] at h9; exact h9))
        · refine wp_aload_0 dX8_step_118 rfl ?_
          refine wp_getf dX8_step_119 rfl q681 fk8_1 (cg_56 hE.X) rfl ?_
          refine wp_iload_4 dX8_step_122 rfl ?_
          refine wp_aaload i dX8_step_124 rfl rfl rfl (cg_70 hE.X) (nI_clamp (by omega)) (vp_in_nI (show i < 12 by omega) (by omega)) ?_
          rw [cn_at (show i < 12 by omega)]
          refine wp_iload_2 dX8_step_125 rfl ?_
          refine wp_dup2 dX8_step_126 rfl rfl rfl ?_
          refine wp_laloadn a dX8_step_127 rfl (cgr_71 hE.X (show i < 12 by omega)) rfl (by omega) (by decide) ?_
          rw [hT i (by omega) a (by omega)]
          refine wp_aload_0 dX8_step_128 rfl ?_
          refine wp_getf dX8_step_129 rfl q680 fk8_0 (cg_56 hE.X) rfl ?_
          refine wp_iload_2 dX8_step_132 rfl ?_
          refine wp_aaload a dX8_step_133 rfl rfl rfl (cg_57 hE.X) (nI_clamp (by omega)) (vp_in_nI (show a < 12 by omega) (by omega)) ?_
          rw [cn_at (show a < 12 by omega)]
          refine wp_iload_3 dX8_step_134 rfl ?_
          refine wp_laloadn f dX8_step_135 rfl (cgr_58 hE.X (show a < 12 by omega)) rfl (by omega) (by decide) ?_
          rw [hR a (by omega) f (by omega)]
          refine wp_ladd dX8_step_136 rfl ?_
          refine wp_lastoren a dX8_step_137 rfl (cgr_71 hE.X (show i < 12 by omega)) rfl (by omega) (by decide) (csr_71 (show i < 12 by omega)) ?_
          refine wp_iinc_4 1 dX8_step_138 rfl rfl (by decide) rfl ?_
          refine wp_goto 78 dX8_step_141 rfl rfl ?_
          have e9 : s3 W law a f (R a f) i T = up2 T i a (T i a + R a f) := s3_t (by rw [fz_n c104]; exact c115)
          have k1 : CLt C (cL (71 + i) a (T i a + R a f) C) := ⟨rfl, rfl, rfl⟩
          exact WP.cast (by rw [nI_1]) (ih _ (i + 1) (s3 W law a f (R a f) i T) _ (by omega) (k1.ev hE) (hL.tr k1) (hR.k58 a _) (by rw [e9]; exact hT.w71 i a _) hq)
      · refine wp_iconst (-1) dX8_step_107 rfl rfl ?_
        refine wp_goto 112 dX8_step_108 rfl rfl ?_
        refine wp_VNxR dX8_step_112 rfl q1520 mv_X0_mayFollow hE.o0 rfl rfl (c_mayFollow hE h0 (nI_m1 (by omega)) (fun q => absurd q (nI_m1 (by omega)))) rfl rfl (Nat.le_of_ble_eq_true rfl) (Nat.le_of_ble_eq_true rfl) (Nat.zero_le _) (Nat.zero_le _) ?_
        refine wp_ifeq_b 138 dX8_step_115 rfl rfl (fun c115 => ?_) (fun c115 => ?_)
        · refine wp_iinc_4 1 dX8_step_138 rfl rfl (by decide) rfl ?_
          refine wp_goto 78 dX8_step_141 rfl rfl ?_
          subst c104
          have e9 : s3 W law a 12 (R a 12) i T = T := s3_f (by rw [fz_12]; exact c115)
          exact WP.cast (by rw [nI_1]) (ih C (i + 1) T _ (by omega) hE hL hR hT (by show ∀ C' v4 v5, _; have h9 := hq; rw [show itr (s3 W law a 12 (R a 12)) (k + 1) i T = itr (s3 W law a 12 (R a 12)) k (i + 1) (s3 W law a 12 (R a 12) i T) from rfl, e9] at h9; exact h9))
        · refine wp_aload_0 dX8_step_118 rfl ?_
          refine wp_getf dX8_step_119 rfl q681 fk8_1 (cg_56 hE.X) rfl ?_
          refine wp_iload_4 dX8_step_122 rfl ?_
          refine wp_aaload i dX8_step_124 rfl rfl rfl (cg_70 hE.X) (nI_clamp (by omega)) (vp_in_nI (show i < 12 by omega) (by omega)) ?_
          rw [cn_at (show i < 12 by omega)]
          refine wp_iload_2 dX8_step_125 rfl ?_
          refine wp_dup2 dX8_step_126 rfl rfl rfl ?_
          refine wp_laloadn a dX8_step_127 rfl (cgr_71 hE.X (show i < 12 by omega)) rfl (by omega) (by decide) ?_
          rw [hT i (by omega) a (by omega)]
          refine wp_aload_0 dX8_step_128 rfl ?_
          refine wp_getf dX8_step_129 rfl q680 fk8_0 (cg_56 hE.X) rfl ?_
          refine wp_iload_2 dX8_step_132 rfl ?_
          refine wp_aaload a dX8_step_133 rfl rfl rfl (cg_57 hE.X) (nI_clamp (by omega)) (vp_in_nI (show a < 12 by omega) (by omega)) ?_
          rw [cn_at (show a < 12 by omega)]
          refine wp_iload_3 dX8_step_134 rfl ?_
          refine wp_laloadn f dX8_step_135 rfl (cgr_58 hE.X (show a < 12 by omega)) rfl (by omega) (by decide) ?_
          rw [hR a (by omega) f (by omega)]
          refine wp_ladd dX8_step_136 rfl ?_
          refine wp_lastoren a dX8_step_137 rfl (cgr_71 hE.X (show i < 12 by omega)) rfl (by omega) (by decide) (csr_71 (show i < 12 by omega)) ?_
          refine wp_iinc_4 1 dX8_step_138 rfl rfl (by decide) rfl ?_
          refine wp_goto 78 dX8_step_141 rfl rfl ?_
          subst c104
          have e9 : s3 W law a 12 (R a 12) i T = up2 T i a (T i a + R a 12) := s3_t (by rw [fz_12]; exact c115)
          have k1 : CLt C (cL (71 + i) a (T i a + R a 12) C) := ⟨rfl, rfl, rfl⟩
          exact WP.cast (by rw [nI_1]) (ih _ (i + 1) (s3 W law a 12 (R a 12) i T) _ (by omega) (k1.ev hE) (hL.tr k1) (hR.k58 a _) (by rw [e9]; exact hT.w71 i a _) hq)
theorem cL_lst2 {g : GW} {S : SM} {X : AH} {lo hi b : Nat} {A : BA} {W : Nat → Int32} {C0 : SC} {law : Int32} {R : LQ} {a : Nat} (ha : a < hoN W) (h0 : ¬ W 0 = 0) {c n : Nat} {Q : Option Value → AH → Prop} : ∀ (k : Nat) (C : SC) (f : Nat) (T : LQ) (v4 v5 : Option Value), f + k = 13 → EV C X lo hi b A W → CLt C0 C → LC 58 C R → LC 71 C T → (∀ C' v3 v4 v5, EV C' X lo hi b A W → CLt C0 C' → LC 58 C' R → LC 71 C' (itr (s2 W law R a) k f T) → WP g 4 yX8_step cX8_step 6 none 150 [some (.ref 56), some (.int law), some (.int (nI a)), v3, v4, v5] [] (cH C' S X) c n Q) → WP g 4 yX8_step cX8_step 6 none 53 [some (.ref 56), some (.int law), some (.int (nI a)), some (.int (nI f)), v4, v5] [] (cH C S X) c n Q := by
  intro k
  induction k with
  | zero =>
    intro C f T v4 v5 hi0 hE hL hR hT hq
    have h12 := hE.s.ho12
    refine wp_iload_3 dX8_step_53 rfl ?_
    refine wp_bipush 12 dX8_step_54 rfl rfl ?_
    refine wp_icmp_gt_k 150 dX8_step_56 rfl rfl (b := 12) (by omega) (by omega) (fun c56 => ?_) (fun c56 => ?_)
    · exact hq C _ _ _ hE hL hR hT
    · exact absurd c56 (by omega)
  | succ k ih =>
    intro C f T v4 v5 hi0 hE hL hR hT hq
    have h12 := hE.s.ho12
    refine wp_iload_3 dX8_step_53 rfl ?_
    refine wp_bipush 12 dX8_step_54 rfl rfl ?_
    refine wp_icmp_gt_k 150 dX8_step_56 rfl rfl (b := 12) (by omega) (by omega) (fun c56 => ?_) (fun c56 => ?_)
    · exact absurd c56 (by omega)
    · refine wp_aload_0 dX8_step_59 rfl ?_
      refine wp_getf dX8_step_60 rfl q680 fk8_0 (cg_56 hE.X) rfl ?_
      refine wp_iload_2 dX8_step_63 rfl ?_
      refine wp_aaload a dX8_step_64 rfl rfl rfl (cg_57 hE.X) (nI_clamp (by omega)) (vp_in_nI (show a < 12 by omega) (by omega)) ?_
      rw [cn_at (show a < 12 by omega)]
      refine wp_iload_3 dX8_step_65 rfl ?_
      refine wp_laloadn f dX8_step_66 rfl (cgr_58 hE.X (show a < 12 by omega)) rfl (by omega) (by decide) ?_
      rw [hR a (by omega) f (by omega)]
      refine wp_lconst 0 dX8_step_67 rfl rfl ?_
      refine wp_lcmp dX8_step_68 rfl ?_
      refine wp_if_ne 75 dX8_step_69 rfl rfl (fun c69 => ?_) (fun c69 => ?_)
      · refine wp_iconst 0 dX8_step_75 rfl rfl ?_
        refine wp_istore_4 dX8_step_76 rfl (by decide) rfl ?_
        refine cL_lst3 ha (by omega) h0 (hoN W) C 0 T _ (Nat.zero_add _) hE hL hR hT (fun C1 v4 v5 hE1 hL1 hR1 hT1 => ?_)
        refine wp_iinc_3 1 dX8_step_144 rfl rfl (by decide) rfl ?_
        refine wp_goto 53 dX8_step_147 rfl rfl ?_
        have e9 : s2 W law R a f T = itr (s3 W law a f (R a f)) (hoN W) 0 T := if_neg (fun q => c69 ((lg_cmp_eq _ _).mpr q))
        exact WP.cast (by rw [nI_1]) (ih C1 (f + 1) (s2 W law R a f T) _ _ (by omega) hE1 hL1 hR1 (by rw [e9]; exact hT1) hq)
      · refine wp_goto 144 dX8_step_72 rfl rfl ?_
        refine wp_iinc_3 1 dX8_step_144 rfl rfl (by decide) rfl ?_
        refine wp_goto 53 dX8_step_147 rfl rfl ?_
        have e9 : s2 W law R a f T = T := if_pos ((lg_cmp_eq _ _).mp c69)
        exact WP.cast (by rw [nI_1]) (ih C (f + 1) (s2 W law R a f T) _ _ (by omega) hE hL hR (by rw [e9]; exact hT) hq)
theorem cL_lstB {g : GW} {S : SM} {X : AH} {lo hi b : Nat} {A : BA} {W : Nat → Int32} {C0 : SC} {law : Int32} {R : LQ} (h0 : ¬ W 0 = 0) {c n : Nat} {Q : Option Value → AH → Prop} : ∀ (k : Nat) (C : SC) (a : Nat) (T : LQ) (v3 v4 v5 : Option Value), a + k = hoN W → EV C X lo hi b A W → CLt C0 C → LC 58 C R → LC 71 C T → (∀ C' v2 v3 v4 v5, EV C' X lo hi b A W → CLt C0 C' → LC 71 C' (itr (s1 W law R) k a T) → WP g 4 yX8_step cX8_step 6 none 156 [some (.ref 56), some (.int law), v2, v3, v4, v5] [] (cH C' S X) c n Q) → WP g 4 yX8_step cX8_step 6 none 37 [some (.ref 56), some (.int law), some (.int (nI a)), v3, v4, v5] [] (cH C S X) c n Q := by
  intro k
  induction k with
  | zero =>
    intro C a T v3 v4 v5 hi0 hE hL hR hT hq
    refine wp_iload_2 dX8_step_37 rfl ?_
    refine wp_aload_0 dX8_step_38 rfl ?_
    refine wp_getf dX8_step_39 rfl q682 fk8_2 (cg_56 hE.X) rfl ?_
    refine wp_getfN dX8_step_42 rfl q719 fk0_1 hE.o0 rfl ?_
    refine wp_cvR dX8_step_45 rfl q1519 mv_X2_holes hE.ob rfl rfl (b_holes hE.B) rfl rfl (Nat.le_of_ble_eq_true rfl) (Nat.le_of_ble_eq_true rfl) ?_
    rw [hE.s.ho]
    refine wp_icmp_ge_k 156 dX8_step_48 rfl rfl (by have := hE.s.ho12; omega) (by have := hE.s.ho12; omega) (fun c48 => ?_) (fun c48 => ?_)
    · exact hq C _ _ _ _ hE hL hT
    · exact absurd c48 (by omega)
  | succ k ih =>
    intro C a T v3 v4 v5 hi0 hE hL hR hT hq
    refine wp_iload_2 dX8_step_37 rfl ?_
    refine wp_aload_0 dX8_step_38 rfl ?_
    refine wp_getf dX8_step_39 rfl q682 fk8_2 (cg_56 hE.X) rfl ?_
    refine wp_getfN dX8_step_42 rfl q719 fk0_1 hE.o0 rfl ?_
    refine wp_cvR dX8_step_45 rfl q1519 mv_X2_holes hE.ob rfl rfl (b_holes hE.B) rfl rfl (Nat.le_of_ble_eq_true rfl) (Nat.le_of_ble_eq_true rfl) ?_
    rw [hE.s.ho]
    refine wp_icmp_ge_k 156 dX8_step_48 rfl rfl (by have := hE.s.ho12; omega) (by have := hE.s.ho12; omega) (fun c48 => ?_) (fun c48 => ?_)
    · exact absurd c48 (by omega)
    · refine wp_iconst 0 dX8_step_51 rfl rfl ?_
      refine wp_istore_3 dX8_step_52 rfl (by decide) rfl ?_
      refine cL_lst2 (by omega) h0 13 C 0 T _ _ (Nat.zero_add _) hE hL hR hT (fun C1 v3 v4 v5 hE1 hL1 hR1 hT1 => ?_)
      refine wp_iinc_2 1 dX8_step_150 rfl rfl (by decide) rfl ?_
      refine wp_goto 37 dX8_step_153 rfl rfl ?_
      exact WP.cast (by rw [nI_1]) (ih C1 (a + 1) (s1 W law R a T) _ _ _ (by omega) hE1 hL1 hR1 hT1 hq)
theorem cL_lstC {g : GW} {S : SM} {X : AH} {lo hi b : Nat} {A : BA} {W : Nat → Int32} {C0 : SC} {law : Int32} {T : LQ} {v3 v4 v5 : Option Value} {c n : Nat} {Q : Option Value → AH → Prop} : ∀ (k : Nat) (C : SC) (i : Nat), i + k = 12 → EV C X lo hi b A W → CLt C0 C → LC 71 C T → (∀ q, q < i → ∀ f, f < 13 → C.2.2.1 (58 + q) f = T q f) → (∀ C', CLt C0 C' → LC 58 C' T → Q none (cH C' S X)) → WP g 4 yX8_step cX8_step 6 none 158 [some (.ref 56), some (.int law), some (.int (nI i)), v3, v4, v5] [] (cH C S X) c n Q := by
  intro k
  induction k with
  | zero =>
    intro C i hi0 hE hL hT hz hq
    refine wp_iload_2 dX8_step_158 rfl ?_
    refine wp_bipush 12 dX8_step_159 rfl rfl ?_
    refine wp_icmp_ge_k 189 dX8_step_161 rfl rfl (b := 12) (by omega) (by omega) (fun c161 => ?_) (fun c161 => ?_)
    · exact wp_return dX8_step_189 rfl (hq C hL (fun h hh f hf => hz h (by omega) f hf))
    · exact absurd c161 (by omega)
  | succ k ih =>
    intro C i hi0 hE hL hT hz hq
    refine wp_iload_2 dX8_step_158 rfl ?_
    refine wp_bipush 12 dX8_step_159 rfl rfl ?_
    refine wp_icmp_ge_k 189 dX8_step_161 rfl rfl (b := 12) (by omega) (by omega) (fun c161 => ?_) (fun c161 => ?_)
    · exact absurd c161 (by omega)
    · refine wp_aload_0 dX8_step_164 rfl ?_
      refine wp_getf dX8_step_165 rfl q681 fk8_1 (cg_56 hE.X) rfl ?_
      refine wp_iload_2 dX8_step_168 rfl ?_
      refine wp_aaload i dX8_step_169 rfl rfl rfl (cg_70 hE.X) (nI_clamp (by omega)) (vp_in_nI (show i < 12 by omega) (by omega)) ?_
      rw [cn_at (show i < 12 by omega)]
      refine wp_iconst 0 dX8_step_170 rfl rfl ?_
      refine wp_aload_0 dX8_step_171 rfl ?_
      refine wp_getf dX8_step_172 rfl q680 fk8_0 (cg_56 hE.X) rfl ?_
      refine wp_iload_2 dX8_step_175 rfl ?_
      refine wp_aaload i dX8_step_176 rfl rfl rfl (cg_57 hE.X) (nI_clamp (by omega)) (vp_in_nI (show i < 12 by omega) (by omega)) ?_
      rw [cn_at (show i < 12 by omega)]
      refine wp_iconst 0 dX8_step_177 rfl rfl ?_
      refine wp_bipush 13 dX8_step_178 rfl rfl ?_
      refine wp_copyL dX8_step_180 rfl q1521 (cgr_71 hE.X (show i < 12 by omega)) (cgr_58 hE.X (show i < 12 by omega)) (Nat.le_of_ble_eq_true rfl) (Nat.le_of_ble_eq_true rfl) (by decide) (by decide) (by decide) (by decide) (by decide) (ctr_58 (show i < 12 by omega)) ?_
      refine wp_iinc_2 1 dX8_step_183 rfl rfl (by decide) rfl ?_
      refine wp_goto 158 dX8_step_186 rfl rfl ?_
      have k1 : CLt C (cLs (58 + i) (va_cpy (C.2.2.1 (71 + i)) (C.2.2.1 (58 + i)) 0 0 13) C) := ⟨rfl, rfl, rfl⟩
      have hE1 := k1.ev hE
      have hT1 := hT.k71s (q := i) (by omega) (va_cpy (C.2.2.1 (71 + i)) (C.2.2.1 (58 + i)) 0 0 13)
      have hz1 : ∀ q, q < i + 1 → ∀ f, f < 13 → (cLs (58 + i) (va_cpy (C.2.2.1 (71 + i)) (C.2.2.1 (58 + i)) 0 0 13) C).2.2.1 (58 + q) f = T q f := fun q hq f hf => by
        rw [cLs_at]
        by_cases e : q = i
        · rw [if_pos (by omega), va_cpy, if_pos (by omega), Nat.zero_add, Nat.sub_zero, e]; exact hT i (by omega) f hf
        · rw [if_neg (by omega)]; exact hz q (by omega) f hf
      exact WP.cast (by rw [nI_1]) (ih _ (i + 1) (by omega) hE1 (hL.tr k1) hT1 hz1 hq)
theorem c_lstep {g : GW} {C : SC} {S : SM} {X : AH} {lo hi b : Nat} {A : BA} {W : Nat → Int32} (hE : EV C X lo hi b A W) {law : Int32} {R : LQ} (hR : LC 58 C R) (h0 : ¬ W 0 = 0) : SP g 4 0 0 yX8_step cX8_step 6 none [.ref 56, .int law] (cH C S X) (fun v h1 => v = none ∧ ∃ C', h1 = cH C' S X ∧ CLt C C' ∧ LC 58 C' (sT W law R)) := by
  refine SP.intro [some (.ref 56), some (.int law), none, none, none, none] (pfn (by decide)) rfl (Nat.le_of_ble_eq_true rfl) ?_
  refine wp_aload_0 dX8_step_0 rfl ?_
  refine wp_getf dX8_step_1 rfl q681 fk8_1 (cg_56 hE.X) rfl ?_
  refine wp_astore_2 dX8_step_4 rfl (by decide) rfl ?_
  refine wp_aload_2 dX8_step_5 rfl ?_
  refine wp_alen 12 dX8_step_6 rfl rfl (cg_70 hE.X) rfl ?_
  refine wp_istore_3 dX8_step_7 rfl (by decide) rfl ?_
  refine wp_iconst 0 dX8_step_8 rfl rfl ?_
  refine wp_istore_4 dX8_step_9 rfl (by decide) rfl ?_
  refine cL_lst1 12 C 0 none (Nat.zero_add _) hE (CLt.rf C) hR (fun q hq => absurd hq (Nat.not_lt_zero q)) (fun C v4 v5 hE hL hR hT => ?_)
  refine wp_iconst 0 dX8_step_35 rfl rfl ?_
  refine wp_istore_2 dX8_step_36 rfl (by decide) rfl ?_
  refine cL_lstB h0 (hoN W) C 0 _ _ _ _ (Nat.zero_add _) hE hL hR hT (fun C v2 v3 v4 v5 hE hL hT => ?_)
  refine wp_iconst 0 dX8_step_156 rfl rfl ?_
  refine wp_istore_2 dX8_step_157 rfl (by decide) rfl ?_
  exact cL_lstC 12 C 0 (Nat.zero_add _) hE hL hT (fun q hq => absurd hq (Nat.not_lt_zero q)) (fun C1 h1 h2 => ⟨rfl, C1, rfl, h1, h2⟩)
theorem hlL_n {W : Nat → Int32} (hs : WFs W) {i : Nat} (hi : i < 1000) : hlL W (nI i).toInt64 = decide (i < hoN W) := by
  have h12 := hs.ho12
  rw [Bool.eq_iff_iff, decide_eq_true_eq]
  constructor
  · intro h
    obtain ⟨j, hj, e⟩ := hlL_of hs h
    have := (nI_eq (a := i) (b := j) (by omega) (by omega)).mp e
    omega
  · intro h
    unfold hlL inL
    rw [hs.ho, Bool.and_eq_true]
    rw [show (nI (hoN W) - 1) = nI (hoN W - 1) from pk_sub (b := 1) (by omega), nI_l (by omega), nI_l (by omega)]
    refine ⟨decide_eq_true ?_, decide_eq_true ?_⟩
    · show lN 0 ≤ lN i
      exact (lN_le (by omega) (by omega)).mpr (by omega)
    · exact (lN_le (by omega) (by omega)).mpr (by omega)
theorem cL_lay1 {g : GW} {S : SM} {X : AH} {lo hi b : Nat} {A : BA} {W : Nat → Int32} {C0 : SC} {law n : Int32} {c n9 : Nat} {Q : Option Value → AH → Prop} : ∀ (k : Nat) (C : SC) (i : Nat), i + k = 12 → EV C X lo hi b A W → CLt C0 C → (∀ q, q < i → ∀ f, f < 13 → C.2.2.1 (58 + q) f = r1 W q f) → (∀ C' v3, EV C' X lo hi b A W → CLt C0 C' → LC 58 C' (r1 W) → WP g 5 yX8_lays cX8_lays 4 (some (.object "MoleBoard$Lots")) 61 [some (.ref 56), some (.int law), some (.int n), v3] [] (cH C' S X) c n9 Q) → WP g 5 yX8_lays cX8_lays 4 (some (.object "MoleBoard$Lots")) 2 [some (.ref 56), some (.int law), some (.int n), some (.int (nI i))] [] (cH C S X) c n9 Q := by
  intro k
  induction k with
  | zero =>
    intro C i hi0 hE hL hz hq
    refine wp_iload_3 dX8_lays_2 rfl ?_
    refine wp_bipush 12 dX8_lays_3 rfl rfl ?_
    refine wp_icmp_ge_k 61 dX8_lays_5 rfl rfl (b := 12) (by omega) (by omega) (fun c5 => ?_) (fun c5 => ?_)
    · exact hq C _ hE hL (fun h hh f hf => hz h (by omega) f hf)
    · exact absurd c5 (by omega)
  | succ k ih =>
    intro C i hi0 hE hL hz hq
    refine wp_iload_3 dX8_lays_2 rfl ?_
    refine wp_bipush 12 dX8_lays_3 rfl rfl ?_
    refine wp_icmp_ge_k 61 dX8_lays_5 rfl rfl (b := 12) (by omega) (by omega) (fun c5 => ?_) (fun c5 => ?_)
    · exact absurd c5 (by omega)
    · refine wp_aload_0 dX8_lays_8 rfl ?_
      refine wp_getf dX8_lays_9 rfl q680 fk8_0 (cg_56 hE.X) rfl ?_
      refine wp_iload_3 dX8_lays_12 rfl ?_
      refine wp_aaload i dX8_lays_13 rfl rfl rfl (cg_57 hE.X) (nI_clamp (by omega)) (vp_in_nI (show i < 12 by omega) (by omega)) ?_
      rw [cn_at (show i < 12 by omega)]
      refine wp_lconst 0 dX8_lays_14 rfl rfl ?_
      refine wp_cs0 dX8_lays_15 rfl q1510 ms_J13_fill_2 (j_fillL (v := 0) (cgr_58 hE.X (show i < 12 by omega)) (by decide)) rfl rfl (Nat.le_of_ble_eq_true rfl) (Nat.le_of_ble_eq_true rfl) ?_
      rw [ctr_58 (show i < 12 by omega)]
      have k1 : CLt C (cLs (58 + i) (fiL 0 13 (C.2.2.1 (58 + i))) C) := ⟨rfl, rfl, rfl⟩
      have hE1 := k1.ev hE
      have f1 : ∀ f, f < 13 → (cLs (58 + i) (fiL 0 13 (C.2.2.1 (58 + i))) C).2.2.1 (58 + i) f = 0 := fun f hf => by
        rw [cLs_at, if_pos rfl]; exact fiL_at hf
      have f2 : ∀ q, q < i → ∀ f, f < 13 → (cLs (58 + i) (fiL 0 13 (C.2.2.1 (58 + i))) C).2.2.1 (58 + q) f = r1 W q f := fun q hq f hf => by
        rw [cLs_at, if_neg (by omega)]; exact hz q hq f hf
      generalize cLs (58 + i) (fiL 0 13 (C.2.2.1 (58 + i))) C = C1 at *
      have hE := hE1
      refine wp_aload_0 dX8_lays_18 rfl ?_
      refine wp_getf dX8_lays_19 rfl q680 fk8_0 (cg_56 hE.X) rfl ?_
      refine wp_iload_3 dX8_lays_22 rfl ?_
      refine wp_aaload i dX8_lays_23 rfl rfl rfl (cg_57 hE.X) (nI_clamp (by omega)) (vp_in_nI (show i < 12 by omega) (by omega)) ?_
      rw [cn_at (show i < 12 by omega)]
      refine wp_bipush 12 dX8_lays_24 rfl rfl ?_
      refine wp_aload_0 dX8_lays_26 rfl ?_
      refine wp_getf dX8_lays_27 rfl q682 fk8_2 (cg_56 hE.X) rfl ?_
      refine wp_iload_3 dX8_lays_30 rfl ?_
      refine wp_i2l dX8_lays_31 rfl ?_
      refine wp_VNxR dX8_lays_32 rfl q1513 mv_X0_isHole hE.o0 rfl rfl (c_isHole hE) rfl rfl (Nat.le_of_ble_eq_true rfl) (Nat.le_of_ble_eq_true rfl) (Nat.zero_le _) (Nat.zero_le _) ?_
      refine wp_ifeq_b 53 dX8_lays_35 rfl rfl (fun c35 => ?_) (fun c35 => ?_)
      · refine wp_lconst 0 dX8_lays_53 rfl rfl ?_
        refine wp_lastoren 12 dX8_lays_54 rfl (cgr_58 hE.X (show i < 12 by omega)) rfl (by omega) (by decide) (csr_58 (show i < 12 by omega)) ?_
        refine wp_iinc_3 1 dX8_lays_55 rfl rfl (by decide) rfl ?_
        refine wp_goto 2 dX8_lays_58 rfl rfl ?_
        have k2 : CLt C1 (cL (58 + i) 12 0 C1) := ⟨rfl, rfl, rfl⟩
        have hz1 : ∀ q, q < i + 1 → ∀ f, f < 13 → (cL (58 + i) 12 0 C1).2.2.1 (58 + q) f = r1 W q f := fun q hq f hf => by
          rw [cL_at]
          by_cases e : q = i
          · subst e
            by_cases e2 : f = 12
            · subst e2
              rw [if_pos ⟨rfl, rfl⟩]
              rw [r1, if_neg (fun z => by have z2 := z.2.1; rw [hlL_n hE.s (by omega)] at c35; exact absurd (decide_eq_false_iff_not.mp c35) (not_not_intro z2))]
            · rw [if_neg (fun z => e2 z.2), f1 f hf, r1, if_neg (fun z => e2 z.1)]
          · rw [if_neg (fun z => e (by omega))]; exact f2 q (by omega) f hf
        exact WP.cast (by rw [nI_1]) (ih _ (i + 1) (by omega) (k2.ev hE) ((hL.tr k1).tr k2) hz1 hq)
      · refine wp_aload_0 dX8_lays_38 rfl ?_
        refine wp_getf dX8_lays_39 rfl q682 fk8_2 (cg_56 hE.X) rfl ?_
        refine wp_iload_3 dX8_lays_42 rfl ?_
        refine wp_VNxR dX8_lays_43 rfl q1514 mv_X0_isOpen hE.o0 rfl rfl (c_isOpen hE) rfl rfl (Nat.le_of_ble_eq_true rfl) (Nat.le_of_ble_eq_true rfl) (Nat.zero_le _) (Nat.zero_le _) ?_
        refine wp_ifeq_b 53 dX8_lays_46 rfl rfl (fun c46 => ?_) (fun c46 => ?_)
        · refine wp_lconst 0 dX8_lays_53 rfl rfl ?_
          refine wp_lastoren 12 dX8_lays_54 rfl (cgr_58 hE.X (show i < 12 by omega)) rfl (by omega) (by decide) (csr_58 (show i < 12 by omega)) ?_
          refine wp_iinc_3 1 dX8_lays_55 rfl rfl (by decide) rfl ?_
          refine wp_goto 2 dX8_lays_58 rfl rfl ?_
          have hio : i < hoN W := by rw [hlL_n hE.s (by omega)] at c35; exact of_decide_eq_true c35
          have k2 : CLt C1 (cL (58 + i) 12 0 C1) := ⟨rfl, rfl, rfl⟩
          have hz1 : ∀ q, q < i + 1 → ∀ f, f < 13 → (cL (58 + i) 12 0 C1).2.2.1 (58 + q) f = r1 W q f := fun q hq f hf => by
            rw [cL_at]
            by_cases e : q = i
            · subst e
              by_cases e2 : f = 12
              · subst e2
                rw [if_pos ⟨rfl, rfl⟩]
                rw [r1, if_neg (fun z => by rw [z.2.2] at c46; exact absurd c46 (by decide))]
              · rw [if_neg (fun z => e2 z.2), f1 f hf, r1, if_neg (fun z => e2 z.1)]
            · rw [if_neg (fun z => e (by omega))]; exact f2 q (by omega) f hf
          exact WP.cast (by rw [nI_1]) (ih _ (i + 1) (by omega) (k2.ev hE) ((hL.tr k1).tr k2) hz1 hq)
        · refine wp_lconst 1 dX8_lays_49 rfl rfl ?_
          refine wp_goto 54 dX8_lays_50 rfl rfl ?_
          refine wp_lastoren 12 dX8_lays_54 rfl (cgr_58 hE.X (show i < 12 by omega)) rfl (by omega) (by decide) (csr_58 (show i < 12 by omega)) ?_
          refine wp_iinc_3 1 dX8_lays_55 rfl rfl (by decide) rfl ?_
          refine wp_goto 2 dX8_lays_58 rfl rfl ?_
          have hio : i < hoN W := by rw [hlL_n hE.s (by omega)] at c35; exact of_decide_eq_true c35
          have k2 : CLt C1 (cL (58 + i) 12 1 C1) := ⟨rfl, rfl, rfl⟩
          have hz1 : ∀ q, q < i + 1 → ∀ f, f < 13 → (cL (58 + i) 12 1 C1).2.2.1 (58 + q) f = r1 W q f := fun q hq f hf => by
            rw [cL_at]
            by_cases e : q = i
            · subst e
              by_cases e2 : f = 12
              · subst e2
                rw [if_pos ⟨rfl, rfl⟩]
                rw [r1, if_pos ⟨rfl, hio, by simpa using c46⟩]
              · rw [if_neg (fun z => e2 z.2), f1 f hf, r1, if_neg (fun z => e2 z.1)]
            · rw [if_neg (fun z => e (by omega))]; exact f2 q (by omega) f hf
          exact WP.cast (by rw [nI_1]) (ih _ (i + 1) (by omega) (k2.ev hE) ((hL.tr k1).tr k2) hz1 hq)
theorem cL_lay2 {g : GW} {S : SM} {X : AH} {lo hi b : Nat} {A : BA} {W : Nat → Int32} {C0 : SC} {law : Int32} {m : Nat} (hm : m ≤ 12) (h0 : ¬ W 0 = 0) {c n : Nat} {Q : Option Value → AH → Prop} : ∀ (k : Nat) (C : SC) (i : Nat), i + k = m → 1 ≤ i → EV C X lo hi b A W → CLt C0 C → LC 58 C (rO W law i) → (∀ C', CLt C0 C' → LC 58 C' (rO W law m) → Q (some (.ref 56)) (cH C' S X)) → WP g 5 yX8_lays cX8_lays 4 (some (.object "MoleBoard$Lots")) 63 [some (.ref 56), some (.int law), some (.int (nI m)), some (.int (nI i))] [] (cH C S X) c n Q := by
  intro k
  induction k with
  | zero =>
    intro C i hi0 h1 hE hL hR hq
    refine wp_iload_3 dX8_lays_63 rfl ?_
    refine wp_iload_2 dX8_lays_64 rfl ?_
    refine wp_icmp_ge_k 79 dX8_lays_65 rfl rfl (by omega) (by omega) (fun c65 => ?_) (fun c65 => ?_)
    · refine wp_aload_0 dX8_lays_79 rfl ?_
      exact wp_areturn_r dX8_lays_80 rfl (Or.inl ⟨_, rfl⟩) (hq C hL (by rw [show m = i by omega]; exact hR))
    · exact absurd c65 (by omega)
  | succ k ih =>
    intro C i hi0 h1 hE hL hR hq
    refine wp_iload_3 dX8_lays_63 rfl ?_
    refine wp_iload_2 dX8_lays_64 rfl ?_
    refine wp_icmp_ge_k 79 dX8_lays_65 rfl rfl (by omega) (by omega) (fun c65 => ?_) (fun c65 => ?_)
    · exact absurd c65 (by omega)
    · refine wp_aload_0 dX8_lays_68 rfl ?_
      refine wp_iload_1 dX8_lays_69 rfl ?_
      refine wp_cvE dX8_lays_70 rfl q1515 mv_X8_step (cg_56 hE.X) rfl rfl (c_lstep hE hR h0) rfl rfl (Nat.le_of_ble_eq_true rfl) (Nat.le_of_ble_eq_true rfl) (fun h1 hq => ?_)
      obtain ⟨C1, rfl, hL1, hR1⟩ := hq
      refine wp_iinc_3 1 dX8_lays_73 rfl rfl (by decide) rfl ?_
      refine wp_goto 63 dX8_lays_76 rfl rfl ?_
      exact WP.cast (by rw [nI_1]) (ih C1 (i + 1) (by omega) (by omega) (hL1.ev hE) (hL.tr hL1) (by rw [rO_s W law i h1]; exact hR1) hq)
theorem c_lays {g : GW} {C : SC} {S : SM} {X : AH} {lo hi b : Nat} {A : BA} {W : Nat → Int32} (hE : EV C X lo hi b A W) {law : Int32} {m : Nat} (hm1 : 1 ≤ m) (hm : m ≤ 12) (h0 : ¬ W 0 = 0) : SP g 5 0 0 yX8_lays cX8_lays 4 (some (.object "MoleBoard$Lots")) [.ref 56, .int law, .int (nI m)] (cH C S X) (fun v h1 => v = some (.ref 56) ∧ ∃ C', h1 = cH C' S X ∧ CLt C C' ∧ LC 58 C' (rO W law m)) := by
  refine SP.intro [some (.ref 56), some (.int law), some (.int (nI m)), none] (pfn (by decide)) rfl (Nat.le_of_ble_eq_true rfl) ?_
  refine wp_iconst 0 dX8_lays_0 rfl rfl ?_
  refine wp_istore_3 dX8_lays_1 rfl (by decide) rfl ?_
  refine cL_lay1 12 C 0 (Nat.zero_add _) hE (CLt.rf C) (fun q hq => absurd hq (Nat.not_lt_zero q)) (fun C v3 hE hL hR => ?_)
  refine wp_iconst 1 dX8_lays_61 rfl rfl ?_
  refine wp_istore_3 dX8_lays_62 rfl (by decide) rfl ?_
  exact cL_lay2 hm h0 (m - 1) C 1 (by omega) (Nat.le_refl _) hE hL hR (fun C1 h1 h2 => ⟨rfl, C1, rfl, h1, h2⟩)
theorem cL_ends {g : GW} {C : SC} {S : SM} {X : AH} {lo hi b : Nat} {A : BA} {W : Nat → Int32} (hE : EV C X lo hi b A W) {h : Nat} (hh : h < 12) {T : LQ} (hT : LC 58 C T) {c n : Nat} {Q : Option Value → AH → Prop} : ∀ (k : Nat) (i : Nat) (s : Int64) (v7 v8 : Option Value), i + k = 13 → Q (some (.long (itr (fun f s => s + T h f) k i s))) (cH C S X) → WP g 2 yX8_ends cX8_ends 9 (some .long) 18 [some (.ref 56), some (.int (nI h)), some (.long s), none, some (.ref (58 + h)), some (.int 13), some (.int (nI i)), v7, v8] [] (cH C S X) c n Q := by
  intro k
  induction k with
  | zero =>
    intro i s v7 v8 hi0 hq
    refine wp_iload_6 dX8_ends_18 rfl ?_
    refine wp_iload_5 dX8_ends_20 rfl ?_
    refine wp_icmp_ge_k 43 dX8_ends_22 rfl rfl (b := 13) (by omega) (by omega) (fun c22 => ?_) (fun c22 => ?_)
    · refine wp_lload_2 dX8_ends_43 rfl ?_
      exact wp_lreturn dX8_ends_44 rfl hq
    · exact absurd c22 (by omega)
  | succ k ih =>
    intro i s v7 v8 hi0 hq
    refine wp_iload_6 dX8_ends_18 rfl ?_
    refine wp_iload_5 dX8_ends_20 rfl ?_
    refine wp_icmp_ge_k 43 dX8_ends_22 rfl rfl (b := 13) (by omega) (by omega) (fun c22 => ?_) (fun c22 => ?_)
    · exact absurd c22 (by omega)
    · refine wp_aload_4 dX8_ends_25 rfl ?_
      refine wp_iload_6 dX8_ends_27 rfl ?_
      refine wp_laloadn i dX8_ends_29 rfl (cgr_58 hE.X hh) rfl (by omega) (by decide) ?_
      rw [hT h hh i (by omega)]
      refine wp_lstore_7 dX8_ends_30 rfl (by decide) rfl ?_
      refine wp_lload_2 dX8_ends_32 rfl ?_
      refine wp_lload_7 dX8_ends_33 rfl ?_
      refine wp_ladd dX8_ends_35 rfl ?_
      refine wp_lstore_2 dX8_ends_36 rfl (by decide) rfl ?_
      refine wp_iinc_6 1 dX8_ends_37 rfl rfl (by decide) rfl ?_
      refine wp_goto 18 dX8_ends_40 rfl rfl ?_
      exact WP.cast (by rw [nI_1]) (ih (i + 1) (s + T h i) _ _ (by omega) hq)
theorem c_ends {g : GW} {C : SC} {S : SM} {X : AH} {lo hi b : Nat} {A : BA} {W : Nat → Int32} (hE : EV C X lo hi b A W) {h : Nat} (hh : h < 12) {T : LQ} (hT : LC 58 C T) : SPx g 2 0 0 yX8_ends cX8_ends 9 (some .long) [.ref 56, .int (nI h)] (cH C S X) (some (.long (enC T h))) (cH C S X) := by
  refine SPx.intro [some (.ref 56), some (.int (nI h)), none, none, none, none, none, none, none] (pfn (by decide)) rfl (Nat.le_of_ble_eq_true rfl) ?_
  refine wp_lconst 0 dX8_ends_0 rfl rfl ?_
  refine wp_lstore_2 dX8_ends_1 rfl (by decide) rfl ?_
  refine wp_aload_0 dX8_ends_2 rfl ?_
  refine wp_getf dX8_ends_3 rfl q680 fk8_0 (cg_56 hE.X) rfl ?_
  refine wp_iload_1 dX8_ends_6 rfl ?_
  refine wp_aaload h dX8_ends_7 rfl rfl rfl (cg_57 hE.X) (nI_clamp (by omega)) (vp_in_nI hh (by omega)) ?_
  rw [cn_at hh]
  refine wp_astore_4 dX8_ends_8 rfl (by decide) rfl ?_
  refine wp_aload_4 dX8_ends_10 rfl ?_
  refine wp_alen 13 dX8_ends_12 rfl rfl (cgr_58 hE.X hh) rfl ?_
  refine wp_istore_5 dX8_ends_13 rfl (by decide) rfl ?_
  refine wp_iconst 0 dX8_ends_15 rfl rfl ?_
  refine wp_istore_6 dX8_ends_16 rfl (by decide) rfl ?_
  exact cL_ends hE hh hT 13 0 0 _ _ (Nat.zero_add _) ⟨rfl, rfl⟩
theorem cL_all {g : GW} {C : SC} {S : SM} {X : AH} {lo hi b : Nat} {A : BA} {W : Nat → Int32} (hE : EV C X lo hi b A W) {T : LQ} (hT : LC 58 C T) {c n : Nat} {Q : Option Value → AH → Prop} : ∀ (k : Nat) (i : Nat) (s : Int64), i + k = hoN W → Q (some (.long (itr (fun h s => s + enC T h) k i s))) (cH C S X) → WP g 3 yX8_all cX8_all 4 (some .long) 4 [some (.ref 56), some (.long s), none, some (.int (nI i))] [] (cH C S X) c n Q := by
  intro k
  induction k with
  | zero =>
    intro i s hi0 hq
    refine wp_iload_3 dX8_all_4 rfl ?_
    refine wp_aload_0 dX8_all_5 rfl ?_
    refine wp_getf dX8_all_6 rfl q682 fk8_2 (cg_56 hE.X) rfl ?_
    refine wp_getfN dX8_all_9 rfl q719 fk0_1 hE.o0 rfl ?_
    refine wp_cvR dX8_all_12 rfl q1519 mv_X2_holes hE.ob rfl rfl (b_holes hE.B) rfl rfl (Nat.le_of_ble_eq_true rfl) (Nat.le_of_ble_eq_true rfl) ?_
    rw [hE.s.ho]
    refine wp_icmp_ge_k 32 dX8_all_15 rfl rfl (by have := hE.s.ho12; omega) (by have := hE.s.ho12; omega) (fun c15 => ?_) (fun c15 => ?_)
    · refine wp_lload_1 dX8_all_32 rfl ?_
      exact wp_lreturn dX8_all_33 rfl hq
    · exact absurd c15 (by omega)
  | succ k ih =>
    intro i s hi0 hq
    refine wp_iload_3 dX8_all_4 rfl ?_
    refine wp_aload_0 dX8_all_5 rfl ?_
    refine wp_getf dX8_all_6 rfl q682 fk8_2 (cg_56 hE.X) rfl ?_
    refine wp_getfN dX8_all_9 rfl q719 fk0_1 hE.o0 rfl ?_
    refine wp_cvR dX8_all_12 rfl q1519 mv_X2_holes hE.ob rfl rfl (b_holes hE.B) rfl rfl (Nat.le_of_ble_eq_true rfl) (Nat.le_of_ble_eq_true rfl) ?_
    rw [hE.s.ho]
    refine wp_icmp_ge_k 32 dX8_all_15 rfl rfl (by have := hE.s.ho12; omega) (by have := hE.s.ho12; omega) (fun c15 => ?_) (fun c15 => ?_)
    · exact absurd c15 (by omega)
    · refine wp_lload_1 dX8_all_18 rfl ?_
      refine wp_aload_0 dX8_all_19 rfl ?_
      refine wp_iload_3 dX8_all_20 rfl ?_
      refine wp_cvR dX8_all_21 rfl q1526 mv_X8_ends (cg_56 hE.X) rfl rfl (c_ends hE (by have := hE.s.ho12; omega) hT) rfl rfl (Nat.le_of_ble_eq_true rfl) (Nat.le_of_ble_eq_true rfl) ?_
      refine wp_ladd dX8_all_24 rfl ?_
      refine wp_lstore_1 dX8_all_25 rfl (by decide) rfl ?_
      refine wp_iinc_3 1 dX8_all_26 rfl rfl (by decide) rfl ?_
      refine wp_goto 4 dX8_all_29 rfl rfl ?_
      exact WP.cast (by rw [nI_1]) (ih (i + 1) (s + enC T i) (by omega) hq)
theorem c_all {g : GW} {C : SC} {S : SM} {X : AH} {lo hi b : Nat} {A : BA} {W : Nat → Int32} (hE : EV C X lo hi b A W) {T : LQ} (hT : LC 58 C T) : SPx g 3 0 0 yX8_all cX8_all 4 (some .long) [.ref 56] (cH C S X) (some (.long (alC W T))) (cH C S X) := by
  refine SPx.intro [some (.ref 56), none, none, none] (pfn (by decide)) rfl (Nat.le_of_ble_eq_true rfl) ?_
  refine wp_lconst 0 dX8_all_0 rfl rfl ?_
  refine wp_lstore_1 dX8_all_1 rfl (by decide) rfl ?_
  refine wp_iconst 0 dX8_all_2 rfl rfl ?_
  refine wp_istore_3 dX8_all_3 rfl (by decide) rfl ?_
  exact cL_all hE hT (hoN W) 0 0 (Nat.zero_add _) ⟨rfl, rfl⟩
theorem cL_even {g : GW} {C : SC} {S : SM} {X : AH} {lo hi b : Nat} {A : BA} {W : Nat → Int32} (hE : EV C X lo hi b A W) {T : LQ} (hT : LC 58 C T) {c n : Nat} {Q : Option Value → AH → Prop} : ∀ (k : Nat) (i : Nat) (s : Int64), i + k = hoN W → Q (some (.int (b2i (evC W T k i s)))) (cH C S X) → WP g 3 yX8_isEven cX8_isEven 4 (some .boolean) 6 [some (.ref 56), some (.long s), none, some (.int (nI i))] [] (cH C S X) c n Q := by
  intro k
  induction k with
  | zero =>
    intro i s hi0 hq
    refine wp_iload_3 dX8_isEven_6 rfl ?_
    refine wp_aload_0 dX8_isEven_7 rfl ?_
    refine wp_getf dX8_isEven_8 rfl q682 fk8_2 (cg_56 hE.X) rfl ?_
    refine wp_getfN dX8_isEven_11 rfl q719 fk0_1 hE.o0 rfl ?_
    refine wp_cvR dX8_isEven_14 rfl q1519 mv_X2_holes hE.ob rfl rfl (b_holes hE.B) rfl rfl (Nat.le_of_ble_eq_true rfl) (Nat.le_of_ble_eq_true rfl) ?_
    rw [hE.s.ho]
    refine wp_icmp_ge_k 66 dX8_isEven_17 rfl rfl (by have := hE.s.ho12; omega) (by have := hE.s.ho12; omega) (fun c17 => ?_) (fun c17 => ?_)
    · refine wp_iconst 1 dX8_isEven_66 rfl rfl ?_
      exact wp_zreturn dX8_isEven_67 rfl rfl hq
    · exact absurd c17 (by omega)
  | succ k ih =>
    intro i s hi0 hq
    refine wp_iload_3 dX8_isEven_6 rfl ?_
    refine wp_aload_0 dX8_isEven_7 rfl ?_
    refine wp_getf dX8_isEven_8 rfl q682 fk8_2 (cg_56 hE.X) rfl ?_
    refine wp_getfN dX8_isEven_11 rfl q719 fk0_1 hE.o0 rfl ?_
    refine wp_cvR dX8_isEven_14 rfl q1519 mv_X2_holes hE.ob rfl rfl (b_holes hE.B) rfl rfl (Nat.le_of_ble_eq_true rfl) (Nat.le_of_ble_eq_true rfl) ?_
    rw [hE.s.ho]
    refine wp_icmp_ge_k 66 dX8_isEven_17 rfl rfl (by have := hE.s.ho12; omega) (by have := hE.s.ho12; omega) (fun c17 => ?_) (fun c17 => ?_)
    · exact absurd c17 (by omega)
    · refine wp_aload_0 dX8_isEven_20 rfl ?_
      refine wp_getf dX8_isEven_21 rfl q682 fk8_2 (cg_56 hE.X) rfl ?_
      refine wp_iload_3 dX8_isEven_24 rfl ?_
      refine wp_VNxR dX8_isEven_25 rfl q1514 mv_X0_isOpen hE.o0 rfl rfl (c_isOpen hE) rfl rfl (Nat.le_of_ble_eq_true rfl) (Nat.le_of_ble_eq_true rfl) (Nat.zero_le _) (Nat.zero_le _) ?_
      refine wp_ifne_b 34 dX8_isEven_28 rfl rfl (fun c28 => ?_) (fun c28 => ?_)
      · refine wp_lload_1 dX8_isEven_34 rfl ?_
        refine wp_ldc2_w dX8_isEven_35 rfl q1544 ?_
        refine wp_lcmp dX8_isEven_38 rfl ?_
        refine wp_if_eq 54 dX8_isEven_39 rfl rfl (fun c39 => ?_) (fun c39 => ?_)
        · refine wp_aload_0 dX8_isEven_54 rfl ?_
          refine wp_iload_3 dX8_isEven_55 rfl ?_
          refine wp_cvR dX8_isEven_56 rfl q1526 mv_X8_ends (cg_56 hE.X) rfl rfl (c_ends hE (by have := hE.s.ho12; omega) hT) rfl rfl (Nat.le_of_ble_eq_true rfl) (Nat.le_of_ble_eq_true rfl) ?_
          refine wp_lstore_1 dX8_isEven_59 rfl (by decide) rfl ?_
          refine wp_iinc_3 1 dX8_isEven_60 rfl rfl (by decide) rfl ?_
          refine wp_goto 6 dX8_isEven_63 rfl rfl ?_
          have e8 : ¬ shW W (nI i) = true := by simpa using c28
          exact WP.cast (by rw [nI_1]) (ih (i + 1) (enC T i) (by omega) (by rw [evC, if_neg e8, if_neg (fun q => q.1 ((lg_cmp_eq _ _).mp c39))] at hq; exact hq))
        · refine wp_aload_0 dX8_isEven_42 rfl ?_
          refine wp_iload_3 dX8_isEven_43 rfl ?_
          refine wp_cvR dX8_isEven_44 rfl q1526 mv_X8_ends (cg_56 hE.X) rfl rfl (c_ends hE (by have := hE.s.ho12; omega) hT) rfl rfl (Nat.le_of_ble_eq_true rfl) (Nat.le_of_ble_eq_true rfl) ?_
          refine wp_lload_1 dX8_isEven_47 rfl ?_
          refine wp_lcmp dX8_isEven_48 rfl ?_
          refine wp_if_eq 54 dX8_isEven_49 rfl rfl (fun c49 => ?_) (fun c49 => ?_)
          · refine wp_aload_0 dX8_isEven_54 rfl ?_
            refine wp_iload_3 dX8_isEven_55 rfl ?_
            refine wp_cvR dX8_isEven_56 rfl q1526 mv_X8_ends (cg_56 hE.X) rfl rfl (c_ends hE (by have := hE.s.ho12; omega) hT) rfl rfl (Nat.le_of_ble_eq_true rfl) (Nat.le_of_ble_eq_true rfl) ?_
            refine wp_lstore_1 dX8_isEven_59 rfl (by decide) rfl ?_
            refine wp_iinc_3 1 dX8_isEven_60 rfl rfl (by decide) rfl ?_
            refine wp_goto 6 dX8_isEven_63 rfl rfl ?_
            have e8 : ¬ shW W (nI i) = true := by simpa using c28
            exact WP.cast (by rw [nI_1]) (ih (i + 1) (enC T i) (by omega) (by rw [evC, if_neg e8, if_neg (fun q => q.2 ((lg_cmp_eq _ _).mp c49))] at hq; exact hq))
          · have e8 : ¬ shW W (nI i) = true := by simpa using c28
            refine wp_iconst 0 dX8_isEven_52 rfl rfl ?_
            exact wp_zreturn dX8_isEven_53 rfl rfl (by rw [evC, if_neg e8, if_pos ⟨fun q => c39 ((lg_cmp_eq _ _).mpr q), fun q => c49 ((lg_cmp_eq _ _).mpr q)⟩] at hq; exact hq)
      · refine wp_goto 60 dX8_isEven_31 rfl rfl ?_
        refine wp_iinc_3 1 dX8_isEven_60 rfl rfl (by decide) rfl ?_
        refine wp_goto 6 dX8_isEven_63 rfl rfl ?_
        have e8 : shW W (nI i) = true := by simpa using c28
        exact WP.cast (by rw [nI_1]) (ih (i + 1) s (by omega) (by rw [evC, if_pos e8] at hq; exact hq))
theorem c_isEven {g : GW} {C : SC} {S : SM} {X : AH} {lo hi b : Nat} {A : BA} {W : Nat → Int32} (hE : EV C X lo hi b A W) {T : LQ} (hT : LC 58 C T) : SPx g 3 0 0 yX8_isEven cX8_isEven 4 (some .boolean) [.ref 56] (cH C S X) (some (.int (b2i (evC W T (hoN W) 0 (-1))))) (cH C S X) := by
  refine SPx.intro [some (.ref 56), none, none, none] (pfn (by decide)) rfl (Nat.le_of_ble_eq_true rfl) ?_
  refine wp_ldc2_w dX8_isEven_0 rfl q1544 ?_
  refine wp_lstore_1 dX8_isEven_3 rfl (by decide) rfl ?_
  refine wp_iconst 0 dX8_isEven_4 rfl rfl ?_
  refine wp_istore_3 dX8_isEven_5 rfl (by decide) rfl ?_
  exact cL_even hE hT (hoN W) 0 (-1) (Nat.zero_add _) ⟨rfl, rfl⟩
theorem q_c_rows0 {g : GW} {C : SC} {S : SM} {X : AH} {lo hi b : Nat} {A : BA} {W : Nat → Int32} (hE : EV C X lo hi b A W) {x z : Int32} : SP g 6 0 0 yX0_rows cX0_rows 3 (some .long) [.ref 0, .int x, .int z] (cH C S X) (QC C S X (.long (rows0 W x z))) := by
  refine SP.intro [some (.ref 0), some (.int x), some (.int z)] (pfn (by decide)) rfl (Nat.le_of_ble_eq_true rfl) ?_
  refine wp_aload_0 dX0_rows_0 rfl ?_
  refine wp_getf dX0_rows_1 rfl q721 fk0_1 hE.o0 rfl ?_
  refine wp_cvR dX0_rows_4 rfl q1167 mv_X2_is hE.ob rfl rfl (c_is hE) rfl rfl (Nat.le_of_ble_eq_true rfl) (Nat.le_of_ble_eq_true rfl) ?_
  refine wp_ifeq_b 44 dX0_rows_7 rfl rfl (fun c7 => ?_) (fun c7 => ?_)
  · refine wp_ldc2_w dX0_rows_44 rfl q1530 ?_
    exact wp_lreturn dX0_rows_47 rfl ⟨by simp (disch := omega) [rows0, nI_clamp, *], by first | exact QC0.mk hL | exact QC0.rf⟩
  · have h0 : ¬ W 0 = 0 := bd_w0 hE.w c7
    refine wp_iload_1 dX0_rows_10 rfl ?_
    refine wp_csR dX0_rows_11 rfl q1502 ms_X0_isLaw c_isLaw rfl rfl (Nat.le_of_ble_eq_true rfl) (Nat.le_of_ble_eq_true rfl) ?_
    refine wp_ifeq_b 44 dX0_rows_14 rfl rfl (fun c14 => ?_) (fun c14 => ?_)
    · refine wp_ldc2_w dX0_rows_44 rfl q1530 ?_
      exact wp_lreturn dX0_rows_47 rfl ⟨by simp (disch := omega) [rows0, nI_clamp, *], by first | exact QC0.mk hL | exact QC0.rf⟩
    · refine wp_iload_2 dX0_rows_17 rfl ?_
      refine wp_i2l dX0_rows_18 rfl ?_
      refine wp_lconst 1 dX0_rows_19 rfl rfl ?_
      refine wp_ldc2_w dX0_rows_20 rfl q1505 ?_
      refine wp_csR dX0_rows_23 rfl q190 ms_X0_in c_in rfl rfl (Nat.le_of_ble_eq_true rfl) (Nat.le_of_ble_eq_true rfl) ?_
      refine wp_ifeq_b 44 dX0_rows_26 rfl rfl (fun c26 => ?_) (fun c26 => ?_)
      · refine wp_ldc2_w dX0_rows_44 rfl q1530 ?_
        exact wp_lreturn dX0_rows_47 rfl ⟨by simp (disch := omega) [rows0, nI_clamp, *], by first | exact QC0.mk hL | exact QC0.rf⟩
      · obtain ⟨m, hm1, hm, rfl⟩ := in112b_of c26
        refine wp_aload_0 dX0_rows_29 rfl ?_
        refine wp_getf dX0_rows_30 rfl q731 fk0_11 hE.o0 rfl ?_
        refine wp_iload_1 dX0_rows_33 rfl ?_
        refine wp_iload_2 dX0_rows_34 rfl ?_
        refine wp_cvEi dX0_rows_35 rfl q1506 mv_X8_lays (cg_56 hE.X) rfl rfl (c_lays hE hm1 hm h0) rfl rfl (Nat.le_of_ble_eq_true rfl) (Nat.le_of_ble_eq_true rfl) (fun h1 hq => ?_)
        obtain ⟨C, rfl, hl, hT⟩ := hq
        have hE := hl.ev hE
        have hL := hl.kc
        refine wp_cvR dX0_rows_38 rfl q1522 mv_X8_all (cg_56 hE.X) rfl rfl (c_all hE hT) rfl rfl (Nat.le_of_ble_eq_true rfl) (Nat.le_of_ble_eq_true rfl) ?_
        refine wp_goto 47 dX0_rows_41 rfl rfl ?_
        exact wp_lreturn dX0_rows_47 rfl ⟨by simp (disch := omega) [rows0, nI_clamp, *], by first | exact QC0.mk hL | exact QC0.rf⟩
theorem q_c_ends0 {g : GW} {C : SC} {S : SM} {X : AH} {lo hi b : Nat} {A : BA} {W : Nat → Int32} (hE : EV C X lo hi b A W) {x y z : Int32} : SP g 6 0 0 yX0_ends cX0_ends 4 (some .long) [.ref 0, .int x, .int y, .int z] (cH C S X) (QC C S X (.long (ends0 W x y z))) := by
  refine SP.intro [some (.ref 0), some (.int x), some (.int y), some (.int z)] (pfn (by decide)) rfl (Nat.le_of_ble_eq_true rfl) ?_
  refine wp_iload_1 dX0_ends_0 rfl ?_
  refine wp_csR dX0_ends_1 rfl q1502 ms_X0_isLaw c_isLaw rfl rfl (Nat.le_of_ble_eq_true rfl) (Nat.le_of_ble_eq_true rfl) ?_
  refine wp_ifeq_b 44 dX0_ends_4 rfl rfl (fun c4 => ?_) (fun c4 => ?_)
  · refine wp_ldc2_w dX0_ends_44 rfl q1530 ?_
    exact wp_lreturn dX0_ends_47 rfl ⟨by simp (disch := omega) [ends0, nI_clamp, *], by first | exact QC0.mk hL | exact QC0.rf⟩
  · refine wp_iload_2 dX0_ends_7 rfl ?_
    refine wp_i2l dX0_ends_8 rfl ?_
    refine wp_lconst 1 dX0_ends_9 rfl rfl ?_
    refine wp_ldc2_w dX0_ends_10 rfl q1505 ?_
    refine wp_csR dX0_ends_13 rfl q190 ms_X0_in c_in rfl rfl (Nat.le_of_ble_eq_true rfl) (Nat.le_of_ble_eq_true rfl) ?_
    refine wp_ifeq_b 44 dX0_ends_16 rfl rfl (fun c16 => ?_) (fun c16 => ?_)
    · refine wp_ldc2_w dX0_ends_44 rfl q1530 ?_
      exact wp_lreturn dX0_ends_47 rfl ⟨by simp (disch := omega) [ends0, nI_clamp, *], by first | exact QC0.mk hL | exact QC0.rf⟩
    · obtain ⟨m, hm1, hm, rfl⟩ := in112b_of c16
      refine wp_aload_0 dX0_ends_19 rfl ?_
      refine wp_iload_3 dX0_ends_20 rfl ?_
      refine wp_i2l dX0_ends_21 rfl ?_
      refine wp_cvR dX0_ends_22 rfl q1325 mv_X0_isHole hE.o0 rfl rfl (c_isHole hE) rfl rfl (Nat.le_of_ble_eq_true rfl) (Nat.le_of_ble_eq_true rfl) ?_
      refine wp_ifeq_b 44 dX0_ends_25 rfl rfl (fun c25 => ?_) (fun c25 => ?_)
      · refine wp_ldc2_w dX0_ends_44 rfl q1530 ?_
        exact wp_lreturn dX0_ends_47 rfl ⟨by simp (disch := omega) [ends0, nI_clamp, *], by first | exact QC0.mk hL | exact QC0.rf⟩
      · obtain ⟨h, hh, rfl⟩ := hlL_of hE.s c25
        have h0 := hE.s.w0ne hh
        have h12 := hE.s.ho12
        refine wp_aload_0 dX0_ends_28 rfl ?_
        refine wp_getf dX0_ends_29 rfl q731 fk0_11 hE.o0 rfl ?_
        refine wp_iload_1 dX0_ends_32 rfl ?_
        refine wp_iload_2 dX0_ends_33 rfl ?_
        refine wp_cvEi dX0_ends_34 rfl q1506 mv_X8_lays (cg_56 hE.X) rfl rfl (c_lays hE hm1 hm h0) rfl rfl (Nat.le_of_ble_eq_true rfl) (Nat.le_of_ble_eq_true rfl) (fun h1 hq => ?_)
        obtain ⟨C, rfl, hl, hT⟩ := hq
        have hE := hl.ev hE
        have hL := hl.kc
        refine wp_iload_3 dX0_ends_37 rfl ?_
        refine wp_cvR dX0_ends_38 rfl q1535 mv_X8_ends (cg_56 hE.X) rfl rfl (c_ends hE (by have := hE.s.ho12; omega) hT) rfl rfl (Nat.le_of_ble_eq_true rfl) (Nat.le_of_ble_eq_true rfl) ?_
        refine wp_goto 47 dX0_ends_41 rfl rfl ?_
        exact wp_lreturn dX0_ends_47 rfl ⟨by simp (disch := omega) [ends0, nI_clamp, *], by first | exact QC0.mk hL | exact QC0.rf⟩
theorem cL_fair {g : GW} {S : SM} {X : AH} {lo hi b : Nat} {A : BA} {W : Nat → Int32} {C0 : SC} {law : Int32} (h0 : ¬ W 0 = 0) {c n : Nat} {Q : Option Value → AH → Prop} : ∀ (k : Nat) (C : SC) (i : Nat), EV C X lo hi b A W → KC C0 C → i + k = 13 → 1 ≤ i → (∀ C', KC C0 C' → Q (some (.int (b2i (faC W law k i)))) (cH C' S X)) → WP g 6 yX0_fair cX0_fair 3 (some .int) 22 [some (.ref 0), some (.int law), some (.int (nI i))] [] (cH C S X) c n Q := by
  intro k
  induction k with
  | zero =>
    intro C i hE hL hi h1 hq
    refine wp_iload_2 dX0_fair_22 rfl ?_
    refine wp_bipush 12 dX0_fair_23 rfl rfl ?_
    refine wp_icmp_gt_k 51 dX0_fair_25 rfl rfl (b := 12) (by omega) (by omega) (fun c25 => ?_) (fun c25 => ?_)
    · refine wp_iconst 1 dX0_fair_51 rfl rfl ?_
      exact wp_ireturn dX0_fair_52 rfl (hq C hL)
    · exact absurd c25 (by omega)
  | succ k ih =>
    intro C i hE hL hi h1 hq
    refine wp_iload_2 dX0_fair_22 rfl ?_
    refine wp_bipush 12 dX0_fair_23 rfl rfl ?_
    refine wp_icmp_gt_k 51 dX0_fair_25 rfl rfl (b := 12) (by omega) (by omega) (fun c25 => ?_) (fun c25 => ?_)
    · exact absurd c25 (by omega)
    · refine wp_aload_0 dX0_fair_28 rfl ?_
      refine wp_getf dX0_fair_29 rfl q731 fk0_11 hE.o0 rfl ?_
      refine wp_iload_1 dX0_fair_32 rfl ?_
      refine wp_iload_2 dX0_fair_33 rfl ?_
      refine wp_cvEi dX0_fair_34 rfl q1506 mv_X8_lays (cg_56 hE.X) rfl rfl (c_lays hE (m := i) (by omega) (by omega) h0) rfl rfl (Nat.le_of_ble_eq_true rfl) (Nat.le_of_ble_eq_true rfl) (fun h1 hq => ?_)
      obtain ⟨C, rfl, hl, hT⟩ := hq
      have hE := hl.ev hE
      have hL := hL.tr hl.kc
      refine wp_cvR dX0_fair_37 rfl q1540 mv_X8_isEven (cg_56 hE.X) rfl rfl (c_isEven hE hT) rfl rfl (Nat.le_of_ble_eq_true rfl) (Nat.le_of_ble_eq_true rfl) ?_
      refine wp_ifne_b 45 dX0_fair_40 rfl rfl (fun c40 => ?_) (fun c40 => ?_)
      · refine wp_iinc_2 1 dX0_fair_45 rfl rfl (by decide) rfl ?_
        refine wp_goto 22 dX0_fair_48 rfl rfl ?_
        exact WP.cast (by rw [nI_1]) (ih C (i + 1) hE hL (by omega) (by omega) (fun C1 q1 => by have h9 := hq C1 q1; rw [faC, if_pos c40] at h9; exact h9))
      · refine wp_iconst 0 dX0_fair_43 rfl rfl ?_
        exact wp_ireturn dX0_fair_44 rfl (by have h9 := hq C hL; rw [faC, if_neg (by rw [c40]; decide)] at h9; exact h9)
theorem q_c_fair0 {g : GW} {C : SC} {S : SM} {X : AH} {lo hi b : Nat} {A : BA} {W : Nat → Int32} (hE : EV C X lo hi b A W) {x : Int32} : SP g 6 0 0 yX0_fair cX0_fair 3 (some .int) [.ref 0, .int x] (cH C S X) (QC C S X (.int (fair0 W x))) := by
  refine SP.intro [some (.ref 0), some (.int x), none] (pfn (by decide)) rfl (Nat.le_of_ble_eq_true rfl) ?_
  refine wp_aload_0 dX0_fair_0 rfl ?_
  refine wp_getf dX0_fair_1 rfl q721 fk0_1 hE.o0 rfl ?_
  refine wp_cvR dX0_fair_4 rfl q1167 mv_X2_is hE.ob rfl rfl (c_is hE) rfl rfl (Nat.le_of_ble_eq_true rfl) (Nat.le_of_ble_eq_true rfl) ?_
  refine wp_ifeq_b 17 dX0_fair_7 rfl rfl (fun c7 => ?_) (fun c7 => ?_)
  · refine wp_bipush (-2) dX0_fair_17 rfl rfl ?_
    exact wp_ireturn dX0_fair_19 rfl ⟨by simp (disch := omega) [fair0, nI_clamp, *], by first | exact QC0.mk hL | exact QC0.rf⟩
  · refine wp_iload_1 dX0_fair_10 rfl ?_
    refine wp_csR dX0_fair_11 rfl q1502 ms_X0_isLaw c_isLaw rfl rfl (Nat.le_of_ble_eq_true rfl) (Nat.le_of_ble_eq_true rfl) ?_
    refine wp_ifne_b 20 dX0_fair_14 rfl rfl (fun c14 => ?_) (fun c14 => ?_)
    · refine wp_iconst 1 dX0_fair_20 rfl rfl ?_
      refine wp_istore_2 dX0_fair_21 rfl (by decide) rfl ?_
      exact cL_fair (bd_w0 hE.w c7) 12 C 1 hE (KC.rf C) (by omega) (by omega) (fun C1 hL => ⟨by simp [fair0, *], QC0.mk hL⟩)
    · refine wp_bipush (-2) dX0_fair_17 rfl rfl ?_
      exact wp_ireturn dX0_fair_19 rfl ⟨by simp (disch := omega) [fair0, nI_clamp, *], by first | exact QC0.mk hL | exact QC0.rf⟩
theorem cL_breaks {g : GW} {C : SC} {S : SM} {X : AH} {lo hi b : Nat} {A : BA} {W : Nat → Int32} (hE : EV C X lo hi b A W) {law : Int32} (h0 : ¬ W 0 = 0) {c n : Nat} {Q : Option Value → AH → Prop} : ∀ (k : Nat) (i : Nat), i + k = nW W 5 → Q (some (.int (onI (fstK (brP W law) k i)))) (cH C S X) → WP g 6 yX0_breaks cX0_breaks 3 (some .int) 22 [some (.ref 0), some (.int law), some (.int (nI i))] [] (cH C S X) c n Q := by
  intro k
  induction k with
  | zero =>
    intro i hi hq
    refine wp_iload_2 dX0_breaks_22 rfl ?_
    refine wp_aload_0 dX0_breaks_23 rfl ?_
    refine wp_cvR dX0_breaks_24 rfl q1183 mv_X0_comingsOfDrum hE.o0 rfl rfl (c_comingsOfDrum hE) rfl rfl (Nat.le_of_ble_eq_true rfl) (Nat.le_of_ble_eq_true rfl) ?_
    refine wp_icmp_ge_k 65 dX0_breaks_27 rfl rfl (by have := hE.s.nc.2; omega) (by have := hE.s.nc.2; omega) (fun c27 => ?_) (fun c27 => ?_)
    · refine wp_iconst (-1) dX0_breaks_65 rfl rfl ?_
      exact wp_ireturn dX0_breaks_66 rfl hq
    · exact absurd c27 (by omega)
  | succ k ih =>
    intro i hi hq
    refine wp_iload_2 dX0_breaks_22 rfl ?_
    refine wp_aload_0 dX0_breaks_23 rfl ?_
    refine wp_cvR dX0_breaks_24 rfl q1183 mv_X0_comingsOfDrum hE.o0 rfl rfl (c_comingsOfDrum hE) rfl rfl (Nat.le_of_ble_eq_true rfl) (Nat.le_of_ble_eq_true rfl) ?_
    refine wp_icmp_ge_k 65 dX0_breaks_27 rfl rfl (by have := hE.s.nc.2; omega) (by have := hE.s.nc.2; omega) (fun c27 => ?_) (fun c27 => ?_)
    · exact absurd c27 (by omega)
    · refine wp_aload_0 dX0_breaks_30 rfl ?_
      refine wp_aload_0 dX0_breaks_31 rfl ?_
      refine wp_iload_2 dX0_breaks_32 rfl ?_
      refine wp_cvR dX0_breaks_33 rfl q1549 mv_X0_holeOf hE.o0 rfl rfl (c_holeOf hE (by omega)) rfl rfl (Nat.le_of_ble_eq_true rfl) (Nat.le_of_ble_eq_true rfl) ?_
      refine wp_iload_1 dX0_breaks_36 rfl ?_
      refine wp_aload_0 dX0_breaks_37 rfl ?_
      refine wp_iload_2 dX0_breaks_38 rfl ?_
      refine wp_iconst 1 dX0_breaks_39 rfl rfl ?_
      refine wp_isub dX0_breaks_40 rfl ?_
      refine wp_cvR dX0_breaks_41 rfl q1549 mv_X0_holeOf hE.o0 rfl rfl (c_holeOf hE (by omega)) rfl rfl (Nat.le_of_ble_eq_true rfl) (Nat.le_of_ble_eq_true rfl) ?_
      refine wp_aload_0 dX0_breaks_44 rfl ?_
      refine wp_iload_2 dX0_breaks_45 rfl ?_
      refine wp_iconst 2 dX0_breaks_46 rfl rfl ?_
      refine wp_isub dX0_breaks_47 rfl ?_
      refine wp_cvR dX0_breaks_48 rfl q1549 mv_X0_holeOf hE.o0 rfl rfl (c_holeOf hE (by omega)) rfl rfl (Nat.le_of_ble_eq_true rfl) (Nat.le_of_ble_eq_true rfl) ?_
      refine wp_cvR dX0_breaks_51 rfl q1556 mv_X0_mayFollow hE.o0 rfl rfl (c_mayFollow hE h0 (ho_m1 hE (by omega) _) (fun q => absurd q (ho_m1 hE (by omega) _))) rfl rfl (Nat.le_of_ble_eq_true rfl) (Nat.le_of_ble_eq_true rfl) ?_
      refine wp_ifne_b 59 dX0_breaks_54 rfl rfl (fun c54 => ?_) (fun c54 => ?_)
      · refine wp_iinc_2 1 dX0_breaks_59 rfl rfl (by decide) rfl ?_
        refine wp_goto 22 dX0_breaks_62 rfl rfl ?_
        exact WP.cast (by rw [nI_1]) (ih (i + 1) (by omega) (by rw [fst_f (by rw [brP, c54]; rfl)] at hq; exact hq))
      · refine wp_iload_2 dX0_breaks_57 rfl ?_
        exact wp_ireturn dX0_breaks_58 rfl (by rw [fst_t (by rw [brP, c54]; rfl)] at hq; exact hq)
theorem q_c_breaks {g : GW} {C : SC} {S : SM} {X : AH} {lo hi b : Nat} {A : BA} {W : Nat → Int32} (hE : EV C X lo hi b A W) {x : Int32} : SP g 6 0 0 yX0_breaks cX0_breaks 3 (some .int) [.ref 0, .int x] (cH C S X) (QC C S X (.int (qbreaks W x))) := by
  refine SP.intro [some (.ref 0), some (.int x), none] (pfn (by decide)) rfl (Nat.le_of_ble_eq_true rfl) ?_
  refine wp_aload_0 dX0_breaks_0 rfl ?_
  refine wp_getf dX0_breaks_1 rfl q721 fk0_1 hE.o0 rfl ?_
  refine wp_cvR dX0_breaks_4 rfl q1167 mv_X2_is hE.ob rfl rfl (c_is hE) rfl rfl (Nat.le_of_ble_eq_true rfl) (Nat.le_of_ble_eq_true rfl) ?_
  refine wp_ifeq_b 17 dX0_breaks_7 rfl rfl (fun c7 => ?_) (fun c7 => ?_)
  · refine wp_bipush (-2) dX0_breaks_17 rfl rfl ?_
    exact wp_ireturn dX0_breaks_19 rfl ⟨by simp [qbreaks, nI_clamp, *], by first | exact QC0.mk hL | exact QC0.rf⟩
  · refine wp_iload_1 dX0_breaks_10 rfl ?_
    refine wp_csR dX0_breaks_11 rfl q1502 ms_X0_isLaw c_isLaw rfl rfl (Nat.le_of_ble_eq_true rfl) (Nat.le_of_ble_eq_true rfl) ?_
    refine wp_ifne_b 20 dX0_breaks_14 rfl rfl (fun c14 => ?_) (fun c14 => ?_)
    · refine wp_iconst 0 dX0_breaks_20 rfl rfl ?_
      refine wp_istore_2 dX0_breaks_21 rfl (by decide) rfl ?_
      exact cL_breaks hE (bd_w0 hE.w c7) (nW W 5) 0 (Nat.zero_add _) ⟨by simp [qbreaks, *], QC0.rf⟩
    · refine wp_bipush (-2) dX0_breaks_17 rfl rfl ?_
      exact wp_ireturn dX0_breaks_19 rfl ⟨by simp [qbreaks, nI_clamp, *], by first | exact QC0.mk hL | exact QC0.rf⟩
