/-! ===== the class: what it is asked of runs, on ===== -/
set_option maxRecDepth 100000
theorem q_c_rash {g : GW} {C : SC} {S : SM} {X : AH} {lo hi b : Nat} {A : BA} {W : Nat → Int32} (hE : EV C X lo hi b A W) {x : Int32} : SP g 9 0 0 yX0_rash cX0_rash 2 (some .int) [.ref 0, .int x] (cH C S X) (QC C S X (.int (qrash W x))) := by
  refine SP.intro [some (.ref 0), some (.int x)] (pfn (by decide)) rfl (Nat.le_of_ble_eq_true rfl) ?_
  refine wp_aload_0 dX0_rash_0 rfl ?_
  refine wp_iload_1 dX0_rash_1 rfl ?_
  refine wp_cvR dX0_rash_2 rfl q1219 mv_X0_isPlayer hE.o0 rfl rfl (c_isPlayer hE) rfl rfl (Nat.le_of_ble_eq_true rfl) (Nat.le_of_ble_eq_true rfl) ?_
  refine wp_ifeq_b 16 dX0_rash_5 rfl rfl (fun c5 => ?_) (fun c5 => ?_)
  · refine wp_sipush (-2000) dX0_rash_16 rfl rfl ?_
    exact wp_ireturn dX0_rash_19 rfl ⟨by first | (simp (disch := omega) [qrash, dgW, nI_clamp, inL_0, *]; done) | (simp_all (config := {failIfUnchanged := false}) [qrash, dgW, inL_0]; done), by first | exact QC0.mk hL | exact QC0.rf⟩
  · obtain ⟨p, hp, rfl⟩ := plW_of hE.s c5
    have hp4 : p < 4 := by have := hE.s.np.2; omega
    refine wp_aload_0 dX0_rash_8 rfl ?_
    refine wp_iload_1 dX0_rash_9 rfl ?_
    refine wp_cvEi dX0_rash_10 rfl q1621 mv_X0_rashOf hE.o0 rfl rfl (c_rashOf hE hp) rfl rfl (Nat.le_of_ble_eq_true rfl) (Nat.le_of_ble_eq_true rfl) (fun h1 hq => ?_)
    obtain ⟨C, rfl, hl⟩ := hq
    have hE := hl.ev hE
    have hL := hl
    refine wp_goto 19 dX0_rash_13 rfl rfl ?_
    exact wp_ireturn dX0_rash_19 rfl ⟨by first | (simp (disch := omega) [qrash, dgW, nI_clamp, inL_0, *]; done) | (simp_all (config := {failIfUnchanged := false}) [qrash, dgW, inL_0]; done), by first | exact QC0.mk hL | exact QC0.rf⟩
theorem q_c_look {g : GW} {C : SC} {S : SM} {X : AH} {lo hi b : Nat} {A : BA} {W : Nat → Int32} (hE : EV C X lo hi b A W) {x z : Int32} : SP g 9 0 0 yX0_look cX0_look 3 (some .int) [.ref 0, .int x, .int z] (cH C S X) (QC C S X (.int (qlook W x z))) := by
  refine SP.intro [some (.ref 0), some (.int x), some (.int z)] (pfn (by decide)) rfl (Nat.le_of_ble_eq_true rfl) ?_
  refine wp_aload_0 dX0_look_0 rfl ?_
  refine wp_iload_1 dX0_look_1 rfl ?_
  refine wp_cvR dX0_look_2 rfl q1219 mv_X0_isPlayer hE.o0 rfl rfl (c_isPlayer hE) rfl rfl (Nat.le_of_ble_eq_true rfl) (Nat.le_of_ble_eq_true rfl) ?_
  refine wp_ifeq_b 29 dX0_look_5 rfl rfl (fun c5 => ?_) (fun c5 => ?_)
  · refine wp_sipush (-2000) dX0_look_29 rfl rfl ?_
    exact wp_ireturn dX0_look_32 rfl ⟨by first | (simp (disch := omega) [qlook, dgW, nI_clamp, inL_0, *]; done) | (simp_all (config := {failIfUnchanged := false}) [qlook, dgW, inL_0]; done), by first | exact QC0.mk hL | exact QC0.rf⟩
  · obtain ⟨p, hp, rfl⟩ := plW_of hE.s c5
    have hp4 : p < 4 := by have := hE.s.np.2; omega
    refine wp_iload_2 dX0_look_8 rfl ?_
    refine wp_i2l dX0_look_9 rfl ?_
    refine wp_lconst 0 dX0_look_10 rfl rfl ?_
    refine wp_ldc2_w dX0_look_11 rfl q1633 ?_
    refine wp_csR dX0_look_14 rfl q190 ms_X0_in c_in rfl rfl (Nat.le_of_ble_eq_true rfl) (Nat.le_of_ble_eq_true rfl) ?_
    refine wp_ifeq_b 29 dX0_look_17 rfl rfl (fun c17 => ?_) (fun c17 => ?_)
    · refine wp_sipush (-2000) dX0_look_29 rfl rfl ?_
      exact wp_ireturn dX0_look_32 rfl ⟨by first | (simp (disch := omega) [qlook, dgW, nI_clamp, inL_0, *]; done) | (simp_all (config := {failIfUnchanged := false}) [qlook, dgW, inL_0]; done), by first | exact QC0.mk hL | exact QC0.rf⟩
    · refine wp_aload_0 dX0_look_20 rfl ?_
      refine wp_iload_1 dX0_look_21 rfl ?_
      refine wp_iload_2 dX0_look_22 rfl ?_
      refine wp_cvEi dX0_look_23 rfl q1634 mv_X0_lookOf hE.o0 rfl rfl (c_lookOf hE hp) rfl rfl (Nat.le_of_ble_eq_true rfl) (Nat.le_of_ble_eq_true rfl) (fun h1 hq => ?_)
      obtain ⟨C, rfl, hl⟩ := hq
      have hE := hl.ev hE
      have hL := hl
      refine wp_goto 32 dX0_look_26 rfl rfl ?_
      exact wp_ireturn dX0_look_32 rfl ⟨by first | (simp (disch := omega) [qlook, dgW, nI_clamp, inL_0, *]; done) | (simp_all (config := {failIfUnchanged := false}) [qlook, dgW, inL_0]; done), by first | exact QC0.mk hL | exact QC0.rf⟩
theorem cL_line {g : GW} {S : SM} {X : AH} {lo hi b : Nat} {A : BA} {W : Nat → Int32} {C0 : SC} {p : Nat} (hp : p < nW W 6) {c n : Nat} {Q : Option Value → AH → Prop} : ∀ (z : Nat) (C : SC), EV C X lo hi b A W → KC C0 C → z < 1000 → (∀ C', KC C0 C' → Q (some (.int (onI (dnK (fun i => decide (raV W p ≤ lkV W p (nI i))) z)))) (cH C' S X)) → WP g 9 yX0_line cX0_line 4 (some .int) 20 [some (.ref 0), some (.int (nI p)), some (.int (raV W p)), some (.int (nI z - 1))] [] (cH C S X) c n Q := by
  intro z
  induction z with
  | zero =>
    intro C hE hL hz hq
    refine wp_iload_3 dX0_line_20 rfl ?_
    refine wp_if_lt 42 dX0_line_21 rfl rfl (fun c21 => ?_) (fun c21 => ?_)
    · refine wp_iconst (-1) dX0_line_42 rfl rfl ?_
      exact wp_ireturn dX0_line_43 rfl (hq C hL)
    · exact absurd (show nI 0 - 1 < 0 by decide) c21
  | succ z ih =>
    intro C hE hL hz hq
    rw [nI_pred]
    refine wp_iload_3 dX0_line_20 rfl ?_
    refine wp_if_lt 42 dX0_line_21 rfl rfl (fun c21 => ?_) (fun c21 => ?_)
    · exact absurd c21 (nI_pos (by omega))
    · refine wp_aload_0 dX0_line_24 rfl ?_
      refine wp_iload_1 dX0_line_25 rfl ?_
      refine wp_iload_3 dX0_line_26 rfl ?_
      refine wp_cvEi dX0_line_27 rfl q1634 mv_X0_lookOf hE.o0 rfl rfl (c_lookOf (x := nI z) hE hp) rfl rfl (Nat.le_of_ble_eq_true rfl) (Nat.le_of_ble_eq_true rfl) (fun h1 hq => ?_)
      obtain ⟨C, rfl, hl⟩ := hq
      have hE := hl.ev hE
      have hL := hL.tr hl
      refine wp_iload_2 dX0_line_30 rfl ?_
      refine wp_icmp_lt 36 dX0_line_31 rfl rfl (fun c31 => ?_) (fun c31 => ?_)
      · refine wp_iinc_3 (-1) dX0_line_36 rfl rfl (by decide) rfl ?_
        refine wp_goto 20 dX0_line_39 rfl rfl ?_
        exact WP.cast (by rw [show nI z + -1 = nI z - 1 by grind]) (ih C hE hL (by omega) (fun C1 h1 => by have e9 := hq C1 h1; rw [dn_f (decide_eq_false (Int32.not_le.mpr c31))] at e9; exact e9))
      · refine wp_iload_3 dX0_line_34 rfl ?_
        exact wp_ireturn dX0_line_35 rfl (by have e9 := hq C hL; rw [dn_t (decide_eq_true (Int32.not_lt.mp c31))] at e9; exact e9)
theorem q_c_line {g : GW} {C : SC} {S : SM} {X : AH} {lo hi b : Nat} {A : BA} {W : Nat → Int32} (hE : EV C X lo hi b A W) {x : Int32} : SP g 9 0 0 yX0_line cX0_line 4 (some .int) [.ref 0, .int x] (cH C S X) (QC C S X (.int (qline W x))) := by
  refine SP.intro [some (.ref 0), some (.int x), none, none] (pfn (by decide)) rfl (Nat.le_of_ble_eq_true rfl) ?_
  refine wp_aload_0 dX0_line_0 rfl ?_
  refine wp_iload_1 dX0_line_1 rfl ?_
  refine wp_cvR dX0_line_2 rfl q1219 mv_X0_isPlayer hE.o0 rfl rfl (c_isPlayer hE) rfl rfl (Nat.le_of_ble_eq_true rfl) (Nat.le_of_ble_eq_true rfl) ?_
  refine wp_ifne_b 11 dX0_line_5 rfl rfl (fun c5 => ?_) (fun c5 => ?_)
  · obtain ⟨p, hp, rfl⟩ := plW_of hE.s c5
    have hp4 : p < 4 := by have := hE.s.np.2; omega
    refine wp_aload_0 dX0_line_11 rfl ?_
    refine wp_iload_1 dX0_line_12 rfl ?_
    refine wp_cvEi dX0_line_13 rfl q1621 mv_X0_rashOf hE.o0 rfl rfl (c_rashOf hE hp) rfl rfl (Nat.le_of_ble_eq_true rfl) (Nat.le_of_ble_eq_true rfl) (fun h1 hq => ?_)
    obtain ⟨C, rfl, hl⟩ := hq
    have hE := hl.ev hE
    have hL := hl
    refine wp_istore_2 dX0_line_16 rfl (by decide) rfl ?_
    refine wp_bipush 20 dX0_line_17 rfl rfl ?_
    refine wp_istore_3 dX0_line_19 rfl (by decide) rfl ?_
    exact cL_line hp 21 C hE hL (by omega) (fun C1 hL => ⟨by simp (disch := omega) [qline, nI_clamp, *], QC0.mk hL⟩)
  · refine wp_bipush (-2) dX0_line_8 rfl rfl ?_
    exact wp_ireturn dX0_line_10 rfl ⟨by first | (simp (disch := omega) [qline, dgW, nI_clamp, inL_0, *]; done) | (simp_all (config := {failIfUnchanged := false}) [qline, dgW, inL_0]; done), by first | exact QC0.mk hL | exact QC0.rf⟩
theorem c_hitsWithin {g : GW} {C : SC} {S : SM} {X : AH} {lo hi b : Nat} {A : BA} {W : Nat → Int32} (hE : EV C X lo hi b A W) {p : Nat} (hp : p < nW W 6) {x : Int32} (hG : GM 3 16 17 18 C X (dgW W)) : SP g 8 0 0 yX0_hitsWithin cX0_hitsWithin 3 (some .int) [.ref 0, .int (nI p), .int x] (cH C S X) (fun v h1 => v = some (.int (nI (stG W (hoP W p x)))) ∧ ∃ C', h1 = cH C' S X ∧ KC C C' ∧ GM 3 16 17 18 C' X (dgW W)) := by
  refine SP.intro [some (.ref 0), some (.int (nI p)), some (.int x)] (pfn (by decide)) rfl (Nat.le_of_ble_eq_true rfl) ?_
  have hk := (pl1 hE.p hp).2
  refine wp_aload_0 dX0_hitsWithin_0 rfl ?_
  refine wp_getf dX0_hitsWithin_1 rfl q729 fk0_9 hE.o0 rfl ?_
  refine wp_iload_1 dX0_hitsWithin_4 rfl ?_
  refine wp_cvEi dX0_hitsWithin_5 rfl q1354 mv_X6_plain (cg_24 hE.X) rfl rfl (c_plain hE hp) rfl rfl (Nat.le_of_ble_eq_true rfl) (Nat.le_of_ble_eq_true rfl) (fun h1 hq => ?_)
  obtain ⟨C, rfl, hP, hc⟩ := hq
  have hE := hc.ev hE
  have hL := hc.kc
  have hG := hc.g4 hG
  refine wp_iload_2 dX0_hitsWithin_8 rfl ?_
  refine wp_putfN dX0_hitsWithin_9 rfl q600 fp6_8 (cg_24 hE.X) rfl rfl (Nat.le_of_ble_eq_true rfl) cs_24_8 ?_
  have hP : PC (cF 9 x C) A (hoP W p x) := ⟨hP.1, hP.2.1, hP.2.2.1, hP.2.2.2.1, rfl, hP.2.2.2.2.2⟩
  have hE : EV (cF 9 x C) X lo hi b A W := hE.to rfl
  have hG : GM 3 16 17 18 (cF 9 x C) X (dgW W) := hG.to rfl rfl rfl rfl
  have hL := hL.tr (show KC C (cF 9 x C) from CP.kc ((CK.rf [6, 7, 8, 9, 16] [] [] [24] [] C).F _ (by decide)))
  generalize cF 9 x C = C at *
  refine wp_aload_0 dX0_hitsWithin_12 rfl ?_
  refine wp_getf dX0_hitsWithin_13 rfl q729 fk0_9 hE.o0 rfl ?_
  refine wp_aload_0 dX0_hitsWithin_16 rfl ?_
  refine wp_getf dX0_hitsWithin_17 rfl q727 fk0_7 hE.o0 rfl ?_
  refine wp_cvEi dX0_hitsWithin_20 rfl q1359 mv_X6_goes (cg_24 hE.X) rfl rfl (c_goes4 hE hG hP hp hk (dg_wg hE.s hE.c)) rfl rfl (Nat.le_of_ble_eq_true rfl) (Nat.le_of_ble_eq_true rfl) (fun h1 hq => ?_)
  obtain ⟨C, rfl, hR, hr⟩ := hq
  have hE := hr.ev hE
  have hL := hL.tr hr.kc
  have hG := hr.g4 hG
  refine wp_getfN dX0_hitsWithin_23 rfl q604 fk6_11 (cg_24 hE.X) rfl ?_
  rw [hR.hits rfl]
  exact wp_ireturn dX0_hitsWithin_26 rfl ⟨rfl, C, rfl, hL, hG⟩
def twC (W : Nat → Int32) (p o : Nat) (i : Nat) (a : Int32 × Int32) : Int32 × Int32 := if nI i &&& W 7 = 0 then twF W p o i a else a
def tw0 (W : Nat → Int32) (p o w : Int32) : Int32 := if (plW W p = true ∧ plW W o = true) ∧ (¬ p = o ∧ inL w.toInt64 0 1 = true) then (if w = 0 then (itr (twC W p.toNatClampNeg o.toNatClampNeg) (2 ^ hoN W) 0 (0, -1)).2 else (itr (twC W p.toNatClampNeg o.toNatClampNeg) (2 ^ hoN W) 0 (0, -1)).1) else -2
theorem cL_two {g : GW} {S : SM} {X : AH} {lo hi b : Nat} {A : BA} {W : Nat → Int32} {C0 : SC} {p o : Nat} (hp : p < nW W 6) (ho : o < nW W 6) {w : Int32} {c n : Nat} {Q : Option Value → AH → Prop} : ∀ (k : Nat) (C : SC) (i : Nat) (a : Int32 × Int32) (v8 : Option Value), EV C X lo hi b A W → KC C0 C → GM 3 16 17 18 C X (dgW W) → i + k = 2 ^ hoN W → (∀ C' vi v8, KC C0 C' → WP g 9 yX0_two cX0_two 9 (some .int) 130 [some (.ref 0), some (.int (nI p)), some (.int (nI o)), some (.int w), some (.int (allW W)), some (.int (itr (twC W p o) k i a).1), some (.int (itr (twC W p o) k i a).2), vi, v8] [] (cH C' S X) c n Q) → WP g 9 yX0_two cX0_two 9 (some .int) 61 [some (.ref 0), some (.int (nI p)), some (.int (nI o)), some (.int w), some (.int (allW W)), some (.int a.1), some (.int a.2), some (.int (nI i)), v8] [] (cH C S X) c n Q := by
  intro k
  induction k with
  | zero =>
    intro C i a v8 hE hL hG hi hq
    refine wp_iload_7 dX0_two_61 rfl ?_
    refine wp_iload_4 dX0_two_63 rfl ?_
    refine wp_icmp_gt 130 dX0_two_65 rfl rfl (fun c65 => ?_) (fun c65 => ?_)
    · exact hq C _ _ hL
    · exact absurd (show allW W < nI i by rw [all_n hE.s]; exact nI_lt (by have := two_lt hE.s; omega) (by have := two_lt hE.s; omega)) c65
  | succ k ih =>
    intro C i a v8 hE hL hG hi hq
    refine wp_iload_7 dX0_two_61 rfl ?_
    refine wp_iload_4 dX0_two_63 rfl ?_
    refine wp_icmp_gt 130 dX0_two_65 rfl rfl (fun c65 => ?_) (fun c65 => ?_)
    · exact absurd (show ¬ allW W < nI i by rw [all_n hE.s]; exact Int32.not_lt.mpr (nI_le (by omega) (by have := two_lt hE.s; omega))) (fun q => q c65)
    · refine wp_iload_7 dX0_two_68 rfl ?_
      refine wp_aload_0 dX0_two_70 rfl ?_
      refine wp_getf dX0_two_71 rfl q721 fk0_1 hE.o0 rfl ?_
      refine wp_getfN dX0_two_74 rfl q466 fk2_9 hE.ob rfl ?_
      refine wp_iand dX0_two_77 rfl ?_
      refine wp_if_eq 84 dX0_two_78 rfl rfl (fun c78 => ?_) (fun c78 => ?_)
      · refine wp_aload_0 dX0_two_84 rfl ?_
        refine wp_iload_1 dX0_two_85 rfl ?_
        refine wp_iload_7 dX0_two_86 rfl ?_
        refine wp_cvEi dX0_two_88 rfl q1646 mv_X0_hitsWithin hE.o0 rfl rfl (c_hitsWithin (x := nI i) hE hp hG) rfl rfl (Nat.le_of_ble_eq_true rfl) (Nat.le_of_ble_eq_true rfl) (fun h1 hq => ?_)
        obtain ⟨C, rfl, hl, hG⟩ := hq
        have hE := hl.ev hE
        have hL := hL.tr hl
        refine wp_aload_0 dX0_two_91 rfl ?_
        refine wp_iload_2 dX0_two_92 rfl ?_
        refine wp_iload_4 dX0_two_93 rfl ?_
        refine wp_iload_7 dX0_two_95 rfl ?_
        refine wp_iconst (-1) dX0_two_97 rfl rfl ?_
        refine wp_ixor dX0_two_98 rfl ?_
        refine wp_iand dX0_two_99 rfl ?_
        refine wp_cvEi dX0_two_100 rfl q1646 mv_X0_hitsWithin hE.o0 rfl rfl (c_hitsWithin hE ho hG) rfl rfl (Nat.le_of_ble_eq_true rfl) (Nat.le_of_ble_eq_true rfl) (fun h1 hq => ?_)
        obtain ⟨C, rfl, hl, hG⟩ := hq
        have hE := hl.ev hE
        have hL := hL.tr hl
        refine wp_iadd dX0_two_103 rfl ?_
        rw [show nI (stG W (hoP W p (nI i))) + nI (stG W (hoP W o (allW W &&& (nI i ^^^ (-1))))) = twV W p o i from rfl]
        refine wp_istore_8 dX0_two_104 rfl (by decide) rfl ?_
        refine wp_iload_8 dX0_two_106 rfl ?_
        refine wp_iload_6 dX0_two_108 rfl ?_
        refine wp_icmp_gt 116 dX0_two_110 rfl rfl (fun c110 => ?_) (fun c110 => ?_)
        · refine wp_iload_7 dX0_two_116 rfl ?_
          refine wp_istore_5 dX0_two_118 rfl (by decide) rfl ?_
          refine wp_iload_8 dX0_two_120 rfl ?_
          refine wp_istore_6 dX0_two_122 rfl (by decide) rfl ?_
          refine wp_iinc_7 1 dX0_two_124 rfl rfl (by decide) rfl ?_
          refine wp_goto 61 dX0_two_127 rfl rfl ?_
          have e9 : twC W p o i a = (nI i, twV W p o i) := by rw [twC, if_pos c78, twF, if_neg (Int32.not_le.mpr c110)]
          exact WP.cast (by rw [e9, nI_1]) (ih C (i + 1) (twC W p o i a) _ hE hL hG (by omega) hq)
        · refine wp_goto 124 dX0_two_113 rfl rfl ?_
          refine wp_iinc_7 1 dX0_two_124 rfl rfl (by decide) rfl ?_
          refine wp_goto 61 dX0_two_127 rfl rfl ?_
          have e9 : twC W p o i a = a := by rw [twC, if_pos c78, twF, if_pos (Int32.not_lt.mp c110)]
          exact WP.cast (by rw [e9, nI_1]) (ih C (i + 1) (twC W p o i a) _ hE hL hG (by omega) hq)
      · refine wp_goto 124 dX0_two_81 rfl rfl ?_
        refine wp_iinc_7 1 dX0_two_124 rfl rfl (by decide) rfl ?_
        refine wp_goto 61 dX0_two_127 rfl rfl ?_
        have e9 : twC W p o i a = a := by rw [twC, if_neg c78]
        exact WP.cast (by rw [e9, nI_1]) (ih C (i + 1) (twC W p o i a) _ hE hL hG (by omega) hq)
theorem q_c_two0 {g : GW} {C : SC} {S : SM} {X : AH} {lo hi b : Nat} {A : BA} {W : Nat → Int32} (hE : EV C X lo hi b A W) {x z w : Int32} : SP g 9 0 0 yX0_two cX0_two 9 (some .int) [.ref 0, .int x, .int z, .int w] (cH C S X) (QC C S X (.int (tw0 W x z w))) := by
  refine SP.intro [some (.ref 0), some (.int x), some (.int z), some (.int w), none, none, none, none, none] (pfn (by decide)) rfl (Nat.le_of_ble_eq_true rfl) ?_
  refine wp_aload_0 dX0_two_0 rfl ?_
  refine wp_iload_1 dX0_two_1 rfl ?_
  refine wp_cvR dX0_two_2 rfl q1219 mv_X0_isPlayer hE.o0 rfl rfl (c_isPlayer hE) rfl rfl (Nat.le_of_ble_eq_true rfl) (Nat.le_of_ble_eq_true rfl) ?_
  refine wp_ifeq_b 31 dX0_two_5 rfl rfl (fun c5 => ?_) (fun c5 => ?_)
  · refine wp_bipush (-2) dX0_two_31 rfl rfl ?_
    exact wp_ireturn dX0_two_33 rfl ⟨by first | (simp (disch := omega) [tw0, dgW, nI_clamp, inL_0, *]; done) | (simp_all (config := {failIfUnchanged := false}) [tw0, dgW, inL_0]; done), by first | exact QC0.mk hL | exact QC0.rf⟩
  · obtain ⟨p, hp, rfl⟩ := plW_of hE.s c5
    have hp4 : p < 4 := by have := hE.s.np.2; omega
    refine wp_aload_0 dX0_two_8 rfl ?_
    refine wp_iload_2 dX0_two_9 rfl ?_
    refine wp_cvR dX0_two_10 rfl q1219 mv_X0_isPlayer hE.o0 rfl rfl (c_isPlayer hE) rfl rfl (Nat.le_of_ble_eq_true rfl) (Nat.le_of_ble_eq_true rfl) ?_
    refine wp_ifeq_b 31 dX0_two_13 rfl rfl (fun c13 => ?_) (fun c13 => ?_)
    · refine wp_bipush (-2) dX0_two_31 rfl rfl ?_
      exact wp_ireturn dX0_two_33 rfl ⟨by first | (simp (disch := omega) [tw0, dgW, nI_clamp, inL_0, *]; done) | (simp_all (config := {failIfUnchanged := false}) [tw0, dgW, inL_0]; done), by first | exact QC0.mk hL | exact QC0.rf⟩
    · obtain ⟨o, ho, rfl⟩ := plW_of hE.s c13
      have ho4 : o < 4 := by have := hE.s.np.2; omega
      refine wp_iload_1 dX0_two_16 rfl ?_
      refine wp_iload_2 dX0_two_17 rfl ?_
      refine wp_icmp_eq 31 dX0_two_18 rfl rfl (fun c18 => ?_) (fun c18 => ?_)
      · refine wp_bipush (-2) dX0_two_31 rfl rfl ?_
        exact wp_ireturn dX0_two_33 rfl ⟨by first | (simp (disch := omega) [tw0, dgW, nI_clamp, inL_0, *]; done) | (simp_all (config := {failIfUnchanged := false}) [tw0, dgW, inL_0]; done), by first | exact QC0.mk hL | exact QC0.rf⟩
      · refine wp_iload_3 dX0_two_21 rfl ?_
        refine wp_i2l dX0_two_22 rfl ?_
        refine wp_lconst 0 dX0_two_23 rfl rfl ?_
        refine wp_lconst 1 dX0_two_24 rfl rfl ?_
        refine wp_csR dX0_two_25 rfl q190 ms_X0_in c_in rfl rfl (Nat.le_of_ble_eq_true rfl) (Nat.le_of_ble_eq_true rfl) ?_
        refine wp_ifne_b 34 dX0_two_28 rfl rfl (fun c28 => ?_) (fun c28 => ?_)
        · refine wp_aload_0 dX0_two_34 rfl ?_
          refine wp_cvEi dX0_two_35 rfl q1245 mv_X0_game hE.o0 rfl rfl (c_game hE) rfl rfl (Nat.le_of_ble_eq_true rfl) (Nat.le_of_ble_eq_true rfl) (fun h1 hq => ?_)
          obtain ⟨C, rfl, hG, hK⟩ := hq
          have hE := hK.ev (by decide) hE
          have hL := LD.kc hK
          have hn : C.1 3 = nI (dgM W) := hG.1
          have h60 : dgM W ≤ 60 := hG.2.1
          refine wp_pop dX0_two_38 rfl rfl ?_
          refine wp_iconst 1 dX0_two_39 rfl rfl ?_
          refine wp_aload_0 dX0_two_40 rfl ?_
          refine wp_getf dX0_two_41 rfl q721 fk0_1 hE.o0 rfl ?_
          refine wp_cvR dX0_two_44 rfl q1329 mv_X2_holes hE.ob rfl rfl (b_holes hE.B) rfl rfl (Nat.le_of_ble_eq_true rfl) (Nat.le_of_ble_eq_true rfl) ?_
          refine wp_ishl dX0_two_47 rfl ?_
          refine wp_iconst 1 dX0_two_48 rfl rfl ?_
          refine wp_isub dX0_two_49 rfl ?_
          rw [show ((1 : Int32) <<< (hoW W &&& 31)) - 1 = allW W from rfl]
          refine wp_istore_4 dX0_two_50 rfl (by decide) rfl ?_
          refine wp_iconst 0 dX0_two_52 rfl rfl ?_
          refine wp_istore_5 dX0_two_53 rfl (by decide) rfl ?_
          refine wp_iconst (-1) dX0_two_55 rfl rfl ?_
          refine wp_istore_6 dX0_two_56 rfl (by decide) rfl ?_
          refine wp_iconst 0 dX0_two_58 rfl rfl ?_
          refine wp_istore_7 dX0_two_59 rfl (by decide) rfl ?_
          refine cL_two hp ho (2 ^ hoN W) C 0 (0, -1) none hE hL hG (Nat.zero_add _) (fun C vi v8 hL => ?_)
          refine wp_iload_3 dX0_two_130 rfl ?_
          generalize hbb : itr (twC W p o) (2 ^ hoN W) 0 (0, -1) = zz
          refine wp_if_ne 139 dX0_two_131 rfl rfl (fun c131 => ?_) (fun c131 => ?_)
          · refine wp_iload_5 dX0_two_139 rfl ?_
            exact wp_ireturn dX0_two_141 rfl ⟨by subst hbb; simp (disch := omega) [tw0, nI_clamp, *], QC0.mk hL⟩
          · rw [c131] at c28
            refine wp_iload_6 dX0_two_134 rfl ?_
            refine wp_goto 141 dX0_two_136 rfl rfl ?_
            exact wp_ireturn dX0_two_141 rfl ⟨by subst hbb; simp (disch := omega) [tw0, nI_clamp, *], QC0.mk hL⟩
        · refine wp_bipush (-2) dX0_two_31 rfl rfl ?_
          exact wp_ireturn dX0_two_33 rfl ⟨by first | (simp (disch := omega) [tw0, dgW, nI_clamp, inL_0, *]; done) | (simp_all (config := {failIfUnchanged := false}) [tw0, dgW, inL_0]; done), by first | exact QC0.mk hL | exact QC0.rf⟩
theorem c_ticketsOf {g : GW} {C : SC} {S : SM} {X : AH} {lo hi b : Nat} {A : BA} {W : Nat → Int32} (hE : EV C X lo hi b A W) {p : Nat} (hp : p < nW W 6) : SP g 9 0 0 yX0_ticketsOf cX0_ticketsOf 2 (some .int) [.ref 0, .int (nI p)] (cH C S X) (fun v h1 => v = some (.int (tiW W p)) ∧ HQ C S X h1) := by
  refine SP.intro [some (.ref 0), some (.int (nI p))] (pfn (by decide)) rfl (Nat.le_of_ble_eq_true rfl) ?_
  have hbd : bdW W = true := hE.w.bd (j := 6) (Or.inr trivial) (by rw [hE.s.np.1]; exact nI_ne0 (by omega) (by have := hE.s.np.2; omega))
  have hw0 : W 0 ≠ 0 := WFp.w0 hE.s hE.p hp
  obtain ⟨wa, wb, w10, w11, wa1, wa2, wb1, wb2⟩ := hE.w.w11 hbd
  refine wp_bipush 10 dX0_ticketsOf_0 rfl rfl ?_
  refine wp_aload_0 dX0_ticketsOf_2 rfl ?_
  refine wp_iload_1 dX0_ticketsOf_3 rfl ?_
  refine wp_cvEi dX0_ticketsOf_4 rfl q1350 mv_X0_hitsOf hE.o0 rfl rfl (c_hitsOf hE hp) rfl rfl (Nat.le_of_ble_eq_true rfl) (Nat.le_of_ble_eq_true rfl) (fun h1 hq => ?_)
  obtain ⟨C, rfl, hl⟩ := hq
  have hE := hl.ev hE
  have hL := hl
  refine wp_imul dX0_ticketsOf_7 rfl ?_
  refine wp_aload_0 dX0_ticketsOf_8 rfl ?_
  refine wp_getf dX0_ticketsOf_9 rfl q721 fk0_1 hE.o0 rfl ?_
  refine wp_getfN dX0_ticketsOf_12 rfl q472 fk2_11 hE.ob rfl ?_
  rw [(hE.B.te hw0).2]
  refine wp_idiv dX0_ticketsOf_15 rfl (by rw [w11]; exact nI_ne0 (by omega) (by omega)) ?_
  exact wp_ireturn dX0_ticketsOf_16 rfl ⟨rfl, HQ.qc hL⟩
theorem q_c_tickets {g : GW} {C : SC} {S : SM} {X : AH} {lo hi b : Nat} {A : BA} {W : Nat → Int32} (hE : EV C X lo hi b A W) {x : Int32} : SP g 10 0 0 yX0_tickets cX0_tickets 2 (some .int) [.ref 0, .int x] (cH C S X) (QC C S X (.int (qtickets W x))) := by
  refine SP.intro [some (.ref 0), some (.int x)] (pfn (by decide)) rfl (Nat.le_of_ble_eq_true rfl) ?_
  refine wp_aload_0 dX0_tickets_0 rfl ?_
  refine wp_iload_1 dX0_tickets_1 rfl ?_
  refine wp_cvR dX0_tickets_2 rfl q1219 mv_X0_isPlayer hE.o0 rfl rfl (c_isPlayer hE) rfl rfl (Nat.le_of_ble_eq_true rfl) (Nat.le_of_ble_eq_true rfl) ?_
  refine wp_ifeq_b 16 dX0_tickets_5 rfl rfl (fun c5 => ?_) (fun c5 => ?_)
  · refine wp_bipush (-2) dX0_tickets_16 rfl rfl ?_
    exact wp_ireturn dX0_tickets_18 rfl ⟨by first | (simp (disch := omega) [qtickets, dgW, nI_clamp, inL_0, *]; done) | (simp_all (config := {failIfUnchanged := false}) [qtickets, dgW, inL_0]; done), by first | exact QC0.mk hL | exact QC0.rf⟩
  · obtain ⟨p, hp, rfl⟩ := plW_of hE.s c5
    have hp4 : p < 4 := by have := hE.s.np.2; omega
    refine wp_aload_0 dX0_tickets_8 rfl ?_
    refine wp_iload_1 dX0_tickets_9 rfl ?_
    refine wp_cvEi dX0_tickets_10 rfl q1654 mv_X0_ticketsOf hE.o0 rfl rfl (c_ticketsOf hE hp) rfl rfl (Nat.le_of_ble_eq_true rfl) (Nat.le_of_ble_eq_true rfl) (fun h1 hq => ?_)
    obtain ⟨C, rfl, hl⟩ := hq
    have hE := hl.ev hE
    have hL := hl
    refine wp_goto 18 dX0_tickets_13 rfl rfl ?_
    exact wp_ireturn dX0_tickets_18 rfl ⟨by first | (simp (disch := omega) [qtickets, dgW, nI_clamp, inL_0, *]; done) | (simp_all (config := {failIfUnchanged := false}) [qtickets, dgW, inL_0]; done), by first | exact QC0.mk hL | exact QC0.rf⟩
theorem q_c_prize {g : GW} {C : SC} {S : SM} {X : AH} {lo hi b : Nat} {A : BA} {W : Nat → Int32} (hE : EV C X lo hi b A W) {x : Int32} : SP g 10 0 0 yX0_prize cX0_prize 3 (some .int) [.ref 0, .int x] (cH C S X) (QC C S X (.int (qprize W x))) := by
  refine SP.intro [some (.ref 0), some (.int x), none] (pfn (by decide)) rfl (Nat.le_of_ble_eq_true rfl) ?_
  refine wp_aload_0 dX0_prize_0 rfl ?_
  refine wp_iload_1 dX0_prize_1 rfl ?_
  refine wp_cvR dX0_prize_2 rfl q1219 mv_X0_isPlayer hE.o0 rfl rfl (c_isPlayer hE) rfl rfl (Nat.le_of_ble_eq_true rfl) (Nat.le_of_ble_eq_true rfl) ?_
  refine wp_ifne_b 11 dX0_prize_5 rfl rfl (fun c5 => ?_) (fun c5 => ?_)
  · obtain ⟨p, hp, rfl⟩ := plW_of hE.s c5
    have hp4 : p < 4 := by have := hE.s.np.2; omega
    have hbd : bdW W = true := hE.w.bd (j := 6) (Or.inr trivial) (by rw [hE.s.np.1]; exact nI_ne0 (by omega) (by have := hE.s.np.2; omega))
    have hw0 : W 0 ≠ 0 := WFp.w0 hE.s hE.p hp
    obtain ⟨wa, wb, w10, w11, wa1, wa2, wb1, wb2⟩ := hE.w.w11 hbd
    refine wp_aload_0 dX0_prize_11 rfl ?_
    refine wp_iload_1 dX0_prize_12 rfl ?_
    refine wp_cvEi dX0_prize_13 rfl q1654 mv_X0_ticketsOf hE.o0 rfl rfl (c_ticketsOf hE hp) rfl rfl (Nat.le_of_ble_eq_true rfl) (Nat.le_of_ble_eq_true rfl) (fun h1 hq => ?_)
    obtain ⟨C, rfl, hl⟩ := hq
    have hE := hl.ev hE
    have hL := hl
    refine wp_istore_2 dX0_prize_16 rfl (by decide) rfl ?_
    refine wp_iload_2 dX0_prize_17 rfl ?_
    refine wp_if_ne 25 dX0_prize_18 rfl rfl (fun c18 => ?_) (fun c18 => ?_)
    · refine wp_aload_0 dX0_prize_25 rfl ?_
      refine wp_getf dX0_prize_26 rfl q721 fk0_1 hE.o0 rfl ?_
      refine wp_getfN dX0_prize_29 rfl q469 fk2_10 hE.ob rfl ?_
      rw [(hE.B.te hw0).1]
      refine wp_iload_2 dX0_prize_32 rfl ?_
      refine wp_iadd dX0_prize_33 rfl ?_
      refine wp_iconst 1 dX0_prize_34 rfl rfl ?_
      refine wp_isub dX0_prize_35 rfl ?_
      refine wp_iload_2 dX0_prize_36 rfl ?_
      refine wp_idiv dX0_prize_37 rfl c18 ?_
      exact wp_ireturn dX0_prize_38 rfl ⟨by first | (simp (disch := omega) [qprize, dgW, nI_clamp, inL_0, *]; done) | (simp_all (config := {failIfUnchanged := false}) [qprize, dgW, inL_0]; done), by first | exact QC0.mk hL | exact QC0.rf⟩
    · refine wp_iconst (-1) dX0_prize_21 rfl rfl ?_
      refine wp_goto 38 dX0_prize_22 rfl rfl ?_
      exact wp_ireturn dX0_prize_38 rfl ⟨by first | (simp (disch := omega) [qprize, dgW, nI_clamp, inL_0, *]; done) | (simp_all (config := {failIfUnchanged := false}) [qprize, dgW, inL_0]; done), by first | exact QC0.mk hL | exact QC0.rf⟩
  · refine wp_bipush (-2) dX0_prize_8 rfl rfl ?_
    exact wp_ireturn dX0_prize_10 rfl ⟨by first | (simp (disch := omega) [qprize, dgW, nI_clamp, inL_0, *]; done) | (simp_all (config := {failIfUnchanged := false}) [qprize, dgW, inL_0]; done), by first | exact QC0.mk hL | exact QC0.rf⟩
theorem cL_lucky {g : GW} {S : SM} {X : AH} {lo hi b : Nat} {A : BA} {W : Nat → Int32} {C0 : SC} {p : Nat} (hp : p < nW W 6) {c n : Nat} {Q : Option Value → AH → Prop} : ∀ (k : Nat) (C : SC) (i : Nat) (a : Int32 × Int32) (v8 : Int32) (v6 : Option Value), EV C X lo hi b A W → WFa (upd W 8 v8) → KC C0 C → i + k = nW W 5 → (∀ C', KC C0 C' → Q (some (.int (itr (luF W p) k i a).1)) (cH C' S X)) → WP g 9 yX0_lucky cX0_lucky 7 (some .int) 27 [some (.ref 0), some (.int (nI p)), some (.int (W 8)), some (.int a.1), some (.int a.2), some (.int (nI i)), v6] [] (cH C S (X.set b (.inr (2, bfl A (upd W 8 v8))))) c n Q := by
  intro k
  induction k with
  | zero =>
    intro C i a v8 v6 hE hw8 hL hi0 hq
    have hE8 := hE.v8 hw8
    refine wp_iload_5 dX0_lucky_27 rfl ?_
    refine wp_aload_0 dX0_lucky_29 rfl ?_
    refine wp_cvR dX0_lucky_30 rfl q1183 mv_X0_comingsOfDrum hE8.o0 rfl rfl (c_comingsOfDrum hE8) rfl rfl (Nat.le_of_ble_eq_true rfl) (Nat.le_of_ble_eq_true rfl) ?_
    rw [show nW (upd W 8 v8) 5 = nW W 5 from rfl]
    refine wp_icmp_ge_k 75 dX0_lucky_33 rfl rfl (by have := hE.s.nc.2; omega) (by have := hE.s.nc.2; omega) (fun c33 => ?_) (fun c33 => ?_)
    · refine wp_aload_0 dX0_lucky_75 rfl ?_
      refine wp_getf dX0_lucky_76 rfl q721 fk0_1 hE8.o0 rfl ?_
      refine wp_iload_2 dX0_lucky_79 rfl ?_
      refine wp_putfN dX0_lucky_80 rfl q478 fp2_13 hE8.ob rfl rfl (Nat.le_of_ble_eq_true rfl) (hE8.put.trans (congrArg (cH C S) (List.set_set _))) ?_
      change WP g 9 _ _ _ _ _ _ _ (cH C S (X.set b (.inr (2, bfl A (upd W 8 (W 8)))))) _ _ Q
      rw [hE.me]
      refine wp_iload_3 dX0_lucky_83 rfl ?_
      exact wp_ireturn dX0_lucky_84 rfl (hq C hL)
    · exact absurd c33 (by omega)
  | succ k ih =>
    intro C i a v8 v6 hE hw8 hL hi0 hq
    have hE8 := hE.v8 hw8
    refine wp_iload_5 dX0_lucky_27 rfl ?_
    refine wp_aload_0 dX0_lucky_29 rfl ?_
    refine wp_cvR dX0_lucky_30 rfl q1183 mv_X0_comingsOfDrum hE8.o0 rfl rfl (c_comingsOfDrum hE8) rfl rfl (Nat.le_of_ble_eq_true rfl) (Nat.le_of_ble_eq_true rfl) ?_
    rw [show nW (upd W 8 v8) 5 = nW W 5 from rfl]
    refine wp_icmp_ge_k 75 dX0_lucky_33 rfl rfl (by have := hE.s.nc.2; omega) (by have := hE.s.nc.2; omega) (fun c33 => ?_) (fun c33 => ?_)
    · exact absurd c33 (by omega)
    · refine wp_aload_0 dX0_lucky_36 rfl ?_
      refine wp_getf dX0_lucky_37 rfl q721 fk0_1 hE8.o0 rfl ?_
      refine wp_iload_5 dX0_lucky_40 rfl ?_
      refine wp_putfN dX0_lucky_42 rfl q478 fp2_13 hE8.ob rfl rfl (Nat.le_of_ble_eq_true rfl) (hE8.put.trans (congrArg (cH C S) (List.set_set _))) ?_
      clear hE8
      have hE8 : EV C (X.set b (.inr (2, bfl A (upd W 8 (nI i))))) lo hi b A (upd W 8 (nI i)) := hE.u8 (by omega)
      change WP g 9 _ _ _ _ _ _ _ (cH C S (X.set b (.inr (2, bfl A (upd W 8 (nI i)))))) _ _ Q
      refine wp_aload_0 dX0_lucky_45 rfl ?_
      refine wp_iload_1 dX0_lucky_46 rfl ?_
      refine wp_cvEi dX0_lucky_47 rfl q1350 mv_X0_hitsOf hE8.o0 rfl rfl (c_hitsOf hE8 (p := p) hp) rfl rfl (Nat.le_of_ble_eq_true rfl) (Nat.le_of_ble_eq_true rfl) (fun h1 hq => ?_)
      obtain ⟨C, rfl, hl⟩ := hq
      have hE := hl.ev hE
      have hE8 := hl.ev hE8
      have hL := hL.tr hl
      refine wp_istore_6 dX0_lucky_50 rfl (by decide) rfl ?_
      refine wp_iload_6 dX0_lucky_52 rfl ?_
      refine wp_iload_4 dX0_lucky_54 rfl ?_
      refine wp_icmp_gt 62 dX0_lucky_56 rfl rfl (fun c56 => ?_) (fun c56 => ?_)
      · refine wp_iload_5 dX0_lucky_62 rfl ?_
        refine wp_istore_3 dX0_lucky_64 rfl (by decide) rfl ?_
        refine wp_iload_6 dX0_lucky_65 rfl ?_
        refine wp_istore_4 dX0_lucky_67 rfl (by decide) rfl ?_
        refine wp_iinc_5 1 dX0_lucky_69 rfl rfl (by decide) rfl ?_
        refine wp_goto 27 dX0_lucky_72 rfl rfl ?_
        have e9 : luF W p i a = (nI i, nI (tSt (ruD (upd W 8 (nI i)) p))) := by rw [luF, if_neg (Int32.not_le.mpr c56)]
        exact WP.cast (by rw [e9, nI_1]) (ih C (i + 1) (luF W p i a) (nI i) _ hE (hE.w.u8 (by omega)) hL (by omega) hq)
      · refine wp_goto 69 dX0_lucky_59 rfl rfl ?_
        refine wp_iinc_5 1 dX0_lucky_69 rfl rfl (by decide) rfl ?_
        refine wp_goto 27 dX0_lucky_72 rfl rfl ?_
        have e9 : luF W p i a = a := by rw [luF, if_pos (Int32.not_lt.mp c56)]
        exact WP.cast (by rw [e9, nI_1]) (ih C (i + 1) (luF W p i a) (nI i) _ hE (hE.w.u8 (by omega)) hL (by omega) hq)
theorem q_c_lucky {g : GW} {C : SC} {S : SM} {X : AH} {lo hi b : Nat} {A : BA} {W : Nat → Int32} (hE : EV C X lo hi b A W) {x : Int32} : SP g 9 0 0 yX0_lucky cX0_lucky 7 (some .int) [.ref 0, .int x] (cH C S X) (QC C S X (.int (qlucky W x))) := by
  refine SP.intro [some (.ref 0), some (.int x), none, none, none, none, none] (pfn (by decide)) rfl (Nat.le_of_ble_eq_true rfl) ?_
  refine wp_aload_0 dX0_lucky_0 rfl ?_
  refine wp_iload_1 dX0_lucky_1 rfl ?_
  refine wp_cvR dX0_lucky_2 rfl q1219 mv_X0_isPlayer hE.o0 rfl rfl (c_isPlayer hE) rfl rfl (Nat.le_of_ble_eq_true rfl) (Nat.le_of_ble_eq_true rfl) ?_
  refine wp_ifne_b 11 dX0_lucky_5 rfl rfl (fun c5 => ?_) (fun c5 => ?_)
  · obtain ⟨p, hp, rfl⟩ := plW_of hE.s c5
    have hp4 : p < 4 := by have := hE.s.np.2; omega
    refine wp_aload_0 dX0_lucky_11 rfl ?_
    refine wp_getf dX0_lucky_12 rfl q721 fk0_1 hE.o0 rfl ?_
    refine wp_getfN dX0_lucky_15 rfl q478 fk2_13 hE.ob rfl ?_
    refine wp_istore_2 dX0_lucky_18 rfl (by decide) rfl ?_
    refine wp_iconst (-1) dX0_lucky_19 rfl rfl ?_
    refine wp_istore_3 dX0_lucky_20 rfl (by decide) rfl ?_
    refine wp_iconst (-1) dX0_lucky_21 rfl rfl ?_
    refine wp_istore_4 dX0_lucky_22 rfl (by decide) rfl ?_
    refine wp_iconst 0 dX0_lucky_24 rfl rfl ?_
    refine wp_istore_5 dX0_lucky_25 rfl (by decide) rfl ?_
    rw [show cH C S X = cH C S (X.set b (.inr (2, bfl A (upd W 8 (W 8))))) by rw [hE.me]]
    exact cL_lucky hp (nW W 5) C 0 (-1, -1) (W 8) none hE (by rw [upd_me]; exact hE.w) (KC.rf C) (Nat.zero_add _) (fun C1 hL => ⟨by simp (disch := omega) [qlucky, nI_clamp, *], QC0.mk hL⟩)
  · refine wp_bipush (-2) dX0_lucky_8 rfl rfl ?_
    exact wp_ireturn dX0_lucky_10 rfl ⟨by first | (simp (disch := omega) [qlucky, dgW, nI_clamp, inL_0, *]; done) | (simp_all (config := {failIfUnchanged := false}) [qlucky, dgW, inL_0]; done), by first | exact QC0.mk hL | exact QC0.rf⟩
