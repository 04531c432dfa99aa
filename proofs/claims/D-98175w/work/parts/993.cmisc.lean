/-! ===== the class: tape, counts, faults ===== -/
set_option maxRecDepth 100000
theorem EV.s4 {C0 C : SC} {S : SM} {X : AH} {lo hi b : Nat} {A : BA} {W : Nat → Int32} (h : EV C0 X lo hi b A W) {v : Int32} (q : C.2.2.2.1 0 = C0.2.2.2.1 0 := by rfl) : (cH C S X).set 0 (.inr (0, [.ref 1, .ref b, .ref 13, .ref 14, .int (C.1 0), .int (C.1 1), .int (C.1 2), .ref 15, .ref 19, .ref 24, .ref 29, .ref 56, .ref 83].set 4 (.int v))) = cH (cF 0 v C) S X := by
  have h1 := cs_0_4 (C := C) (S := S) (X := X) (v := v)
  rw [q, h.n] at h1
  exact h1
theorem EV.s5 {C0 C : SC} {S : SM} {X : AH} {lo hi b : Nat} {A : BA} {W : Nat → Int32} (h : EV C0 X lo hi b A W) {v : Int32} (q : C.2.2.2.1 0 = C0.2.2.2.1 0 := by rfl) : (cH C S X).set 0 (.inr (0, [.ref 1, .ref b, .ref 13, .ref 14, .int (C.1 0), .int (C.1 1), .int (C.1 2), .ref 15, .ref 19, .ref 24, .ref 29, .ref 56, .ref 83].set 5 (.int v))) = cH (cF 1 v C) S X := by
  have h1 := cs_0_5 (C := C) (S := S) (X := X) (v := v)
  rw [q, h.n] at h1
  exact h1
theorem EV.s6 {C0 C : SC} {S : SM} {X : AH} {lo hi b : Nat} {A : BA} {W : Nat → Int32} (h : EV C0 X lo hi b A W) {v : Int32} (q : C.2.2.2.1 0 = C0.2.2.2.1 0 := by rfl) : (cH C S X).set 0 (.inr (0, [.ref 1, .ref b, .ref 13, .ref 14, .int (C.1 0), .int (C.1 1), .int (C.1 2), .ref 15, .ref 19, .ref 24, .ref 29, .ref 56, .ref 83].set 6 (.int v))) = cH (cF 2 v C) S X := by
  have h1 := cs_0_6 (C := C) (S := S) (X := X) (v := v)
  rw [q, h.n] at h1
  exact h1
theorem EV.s1 {C0 C : SC} {S : SM} {X : AH} {lo hi b : Nat} {A : BA} {W : Nat → Int32} (h : EV C0 X lo hi b A W) {r : Nat} (q : C.2.2.2.1 0 = C0.2.2.2.1 0 := by rfl) : (cH C S X).set 0 (.inr (0, [.ref 1, .ref b, .ref 13, .ref 14, .int (C.1 0), .int (C.1 1), .int (C.1 2), .ref 15, .ref 19, .ref 24, .ref 29, .ref 56, .ref 83].set 1 (.ref r))) = cH (cR 0 (some r) C) S X := by
  have h1 := cs_0_1 (C := C) (S := S) (X := X) (r := r)
  rw [q, h.n] at h1
  exact h1
/-- what lasts is as it was, but for how much is on the tape and the tape -/
def KT (C C' : SC) (t : Int32) (T : Nat → Int32) : Prop := (C'.1 0 = t ∧ C'.1 1 = C.1 1 ∧ C'.1 2 = C.1 2) ∧ C'.2.1 14 = T ∧ (∀ k, k < 6 → C'.2.2.2.1 k = C.2.2.2.1 k) ∧ C'.2.2.2.2.1 13 = C.2.2.2.2.1 13
def QT (C : SC) (S : SM) (X : AH) (v : Value) (t : Int32) (T : Nat → Int32) : Option Value → AH → Prop := fun v' h1 => v' = some v ∧ ∃ C' Z, h1 = cH C' S (X ++ Z) ∧ KT C C' t T
theorem QT.mk {C C' : SC} {S : SM} {X : AH} {v : Value} {t : Int32} {T : Nat → Int32} (h : KT C C' t T) : ∃ C2 Z, cH C' S X = cH C2 S (X ++ Z) ∧ KT C C2 t T := ⟨C', [], by rw [List.append_nil], h⟩
theorem KT.rf (C : SC) : KT C C (C.1 0) (C.2.1 14) := ⟨⟨rfl, rfl, rfl⟩, rfl, fun _ _ => rfl, rfl⟩
theorem q_c_end {g : GW} {C : SC} {S : SM} {X : AH} {lo hi b : Nat} {A : BA} {W : Nat → Int32} (hE : EV C X lo hi b A W) {x : Int32} : SP g 2 0 0 yX0_end cX0_end 2 (some .int) [.ref 0, .int x] (cH C S X) (QT C S X (.int (if inI x 0 (C.1 0) = true then x else -1)) (if inI x 0 (C.1 0) = true then x else C.1 0) (C.2.1 14)) := by
  refine SP.intro [some (.ref 0), some (.int x)] (pfn (by decide)) rfl (Nat.le_of_ble_eq_true rfl) ?_
  refine wp_iload_1 dX0_end_0 rfl ?_
  refine wp_i2l dX0_end_1 rfl ?_
  refine wp_lconst 0 dX0_end_2 rfl rfl ?_
  refine wp_aload_0 dX0_end_3 rfl ?_
  refine wp_getf dX0_end_4 rfl q724 fk0_4 hE.o0 rfl ?_
  refine wp_i2l dX0_end_7 rfl ?_
  refine wp_csR dX0_end_8 rfl q190 ms_X0_in c_in rfl rfl (Nat.le_of_ble_eq_true rfl) (Nat.le_of_ble_eq_true rfl) ?_
  rw [show inL x.toInt64 0 (C.1 0).toInt64 = inI x 0 (C.1 0) from inL_i x 0 _]
  refine wp_ifne_b 16 dX0_end_11 rfl rfl (fun c11 => ?_) (fun c11 => ?_)
  · refine wp_aload_0 dX0_end_16 rfl ?_
    refine wp_iload_1 dX0_end_17 rfl ?_
    refine wp_putf dX0_end_18 rfl q724 fp0_4 hE.o0 rfl rfl (Nat.le_of_ble_eq_true rfl) hE.s4 ?_
    refine wp_iload_1 dX0_end_21 rfl ?_
    exact wp_ireturn dX0_end_22 rfl ⟨by rw [if_pos c11], QT.mk (v := .int 0) (by rw [if_pos c11]; exact ⟨⟨rfl, rfl, rfl⟩, rfl, fun _ _ => rfl, rfl⟩)⟩
  · refine wp_iconst (-1) dX0_end_14 rfl rfl ?_
    exact wp_ireturn dX0_end_15 rfl ⟨by rw [if_neg (by rw [c11]; decide)], QT.mk (v := .int 0) (by rw [if_neg (by rw [c11]; decide)]; exact KT.rf C)⟩
theorem q_c_fault {g : GW} {C : SC} {S : SM} {X : AH} {lo hi b : Nat} {A : BA} {W : Nat → Int32} (hE : EV C X lo hi b A W) {x : Int32} : SP g 1 0 0 yX0_fault cX0_fault 2 (some .int) [.ref 0, .int x] (cH C S X) (QC C S X (.int (if x = 0 then C.1 1 else if x = 1 then C.1 2 else -1))) := by
  refine SP.intro [some (.ref 0), some (.int x)] (pfn (by decide)) rfl (Nat.le_of_ble_eq_true rfl) ?_
  refine wp_iload_1 dX0_fault_0 rfl ?_
  refine wp_if_ne 11 dX0_fault_1 rfl rfl (fun c1 => ?_) (fun c1 => ?_)
  · refine wp_iload_1 dX0_fault_11 rfl ?_
    refine wp_iconst 1 dX0_fault_12 rfl rfl ?_
    refine wp_icmp_ne 23 dX0_fault_13 rfl rfl (fun c13 => ?_) (fun c13 => ?_)
    · refine wp_iconst (-1) dX0_fault_23 rfl rfl ?_
      exact wp_ireturn dX0_fault_24 rfl ⟨by simp [*], QC0.rf⟩
    · refine wp_aload_0 dX0_fault_16 rfl ?_
      refine wp_getf dX0_fault_17 rfl q726 fk0_6 hE.o0 rfl ?_
      refine wp_goto 24 dX0_fault_20 rfl rfl ?_
      exact wp_ireturn dX0_fault_24 rfl ⟨by simp [*], QC0.rf⟩
  · refine wp_aload_0 dX0_fault_4 rfl ?_
    refine wp_getf dX0_fault_5 rfl q725 fk0_5 hE.o0 rfl ?_
    refine wp_goto 24 dX0_fault_8 rfl rfl ?_
    exact wp_ireturn dX0_fault_24 rfl ⟨by simp [*], QC0.rf⟩
theorem cL_count0 {g : GW} {C : SC} {S : SM} {X : AH} {lo hi b : Nat} {A : BA} {W : Nat → Int32} (hE : EV C X lo hi b A W) {x : Int32} {sl : SLt} (hS : HSS C X sl) {c n : Nat} {Q : Option Value → AH → Prop} : ∀ (k : Nat) (i : Nat) (a : Int32) (v6 : Option Value), i + k = 4 → Q (some (.int (itr (fun s n => n + (if sl.1 s = -1 then 0 else 1)) k i a))) (cH C S X) → WP g 3 yX0_count cX0_count 7 (some .int) 153 [some (.ref 0), some (.int x), some (.int a), some (.ref 1), some (.int 4), some (.int (nI i)), v6] [] (cH C S X) c n Q := by
  intro k
  induction k with
  | zero =>
    intro i a v6 hi hq
    refine wp_iload_5 dX0_count_153 rfl ?_
    refine wp_iload_4 dX0_count_155 rfl ?_
    refine wp_icmp_ge_k 188 dX0_count_157 rfl rfl (b := 4) (by omega) (by omega) (fun c157 => ?_) (fun c157 => ?_)
    · refine wp_iload_2 dX0_count_188 rfl ?_
      exact wp_ireturn dX0_count_189 rfl hq
    · exact absurd c157 (by omega)
  | succ k ih =>
    intro i a v6 hi hq
    refine wp_iload_5 dX0_count_153 rfl ?_
    refine wp_iload_4 dX0_count_155 rfl ?_
    refine wp_icmp_ge_k 188 dX0_count_157 rfl rfl (b := 4) (by omega) (by omega) (fun c157 => ?_) (fun c157 => ?_)
    · exact absurd c157 (by omega)
    · refine wp_aload_3 dX0_count_160 rfl ?_
      refine wp_iload_5 dX0_count_161 rfl ?_
      have hi4 : i < 4 := by omega
      refine wp_aaload i dX0_count_163 rfl rfl rfl (cg_1 hE.X) (nI_clamp (by omega)) (vp_in_nI hi4 (by omega)) ?_
      rw [cn_at hi4]
      refine wp_astore_6 dX0_count_164 rfl (by decide) rfl ?_
      refine wp_iload_2 dX0_count_166 rfl ?_
      rcases hS i hi4 with ⟨hm, hr⟩ | ⟨a9, m, hm, hr, hh⟩
      · refine wp_aload_6 dX0_count_167 rfl ?_
        refine wp_getfN dX0_count_169 rfl q396 fk1_0 (cgs hE.X hi4) rfl ?_
        rw [hr]
        refine wp_ifnonnull_n dX0_count_172 rfl ?_
        refine wp_iconst 0 dX0_count_175 rfl rfl ?_
        refine wp_goto 180 dX0_count_176 rfl rfl ?_
        refine wp_iadd dX0_count_180 rfl ?_
        refine wp_istore_2 dX0_count_181 rfl (by decide) rfl ?_
        refine wp_iinc_5 1 dX0_count_182 rfl rfl (by decide) rfl ?_
        refine wp_goto 153 dX0_count_185 rfl rfl ?_
        have e9 : (if sl.1 i = -1 then (0 : Int32) else 1) = 0 := by rw [if_pos hm]
        exact WP.cast (by rw [nI_1, ← show a + (if sl.1 i = -1 then (0 : Int32) else 1) = a + 0 by rw [e9]]) (ih (i + 1) (a + (if sl.1 i = -1 then 0 else 1)) _ (by omega) hq)
      · refine wp_aload_6 dX0_count_167 rfl ?_
        refine wp_getfN dX0_count_169 rfl q396 fk1_0 (cgs hE.X hi4) rfl ?_
        rw [hr]
        refine wp_ifnonnull_r 179 dX0_count_172 rfl rfl ?_
        refine wp_iconst 1 dX0_count_179 rfl rfl ?_
        refine wp_iadd dX0_count_180 rfl ?_
        refine wp_istore_2 dX0_count_181 rfl (by decide) rfl ?_
        refine wp_iinc_5 1 dX0_count_182 rfl rfl (by decide) rfl ?_
        refine wp_goto 153 dX0_count_185 rfl rfl ?_
        have e9 : (if sl.1 i = -1 then (0 : Int32) else 1) = 1 := by rw [if_neg (by rw [hm]; exact nI_m1 (by have := hh.2.1; omega))]
        exact WP.cast (by rw [nI_1, ← show a + (if sl.1 i = -1 then (0 : Int32) else 1) = a + 1 by rw [e9]]) (ih (i + 1) (a + (if sl.1 i = -1 then 0 else 1)) _ (by omega) hq)
theorem q_c_count {g : GW} {C : SC} {S : SM} {X : AH} {lo hi b : Nat} {A : BA} {W : Nat → Int32} (hE : EV C X lo hi b A W) {x : Int32} {sl : SLt} (hS : HSS C X sl) : SP g 3 0 0 yX0_count cX0_count 7 (some .int) [.ref 0, .int x] (cH C S X) (QC C S X (.int (qcount W sl.1 (C.1 0) x))) := by
  refine SP.intro [some (.ref 0), some (.int x), none, none, none, none, none] (pfn (by decide)) rfl (Nat.le_of_ble_eq_true rfl) ?_
  refine wp_iload_1 dX0_count_0 rfl ?_
  by_cases hx : inI x 0 10 = true
  · obtain ⟨j, hj, rfl⟩ := in_ofk (n := 10) (by omega) (show inL x.toInt64 0 (nI 10).toInt64 = true by rw [inL_0]; exact hx)
    match j, hj with
    | 0, _ =>
      refine wp_swIn 60 dX0_count_1 rfl (by decide) (by decide) rfl rfl ?_
      refine wp_aload_0 dX0_count_60 rfl ?_
      refine wp_getf dX0_count_61 rfl q721 fk0_1 hE.o0 rfl ?_
      refine wp_getfN dX0_count_64 rfl q450 fk2_4 hE.ob rfl ?_
      exact wp_ireturn dX0_count_67 rfl ⟨rfl, QC0.rf⟩
    | 1, _ =>
      refine wp_swIn 68 dX0_count_1 rfl (by decide) (by decide) rfl rfl ?_
      refine wp_aload_0 dX0_count_68 rfl ?_
      refine wp_getf dX0_count_69 rfl q721 fk0_1 hE.o0 rfl ?_
      refine wp_getfN dX0_count_72 rfl q453 fk2_5 hE.ob rfl ?_
      exact wp_ireturn dX0_count_75 rfl ⟨rfl, QC0.rf⟩
    | 2, _ =>
      refine wp_swIn 76 dX0_count_1 rfl (by decide) (by decide) rfl rfl ?_
      refine wp_aload_0 dX0_count_76 rfl ?_
      refine wp_getf dX0_count_77 rfl q721 fk0_1 hE.o0 rfl ?_
      refine wp_getfN dX0_count_80 rfl q457 fk2_6 hE.ob rfl ?_
      exact wp_ireturn dX0_count_83 rfl ⟨rfl, QC0.rf⟩
    | 3, _ =>
      refine wp_swIn 84 dX0_count_1 rfl (by decide) (by decide) rfl rfl ?_
      refine wp_aload_0 dX0_count_84 rfl ?_
      refine wp_getf dX0_count_85 rfl q721 fk0_1 hE.o0 rfl ?_
      refine wp_getfN dX0_count_88 rfl q461 fk2_7 hE.ob rfl ?_
      exact wp_ireturn dX0_count_91 rfl ⟨rfl, QC0.rf⟩
    | 4, _ =>
      refine wp_swIn 92 dX0_count_1 rfl (by decide) (by decide) rfl rfl ?_
      refine wp_aload_0 dX0_count_92 rfl ?_
      refine wp_cvR dX0_count_93 rfl q1183 mv_X0_comingsOfDrum hE.o0 rfl rfl (c_comingsOfDrum hE) rfl rfl (Nat.le_of_ble_eq_true rfl) (Nat.le_of_ble_eq_true rfl) ?_
      exact wp_ireturn dX0_count_96 rfl ⟨by rw [← hE.B.n5.1]; rfl, QC0.rf⟩
    | 5, _ =>
      refine wp_swIn 97 dX0_count_1 rfl (by decide) (by decide) rfl rfl ?_
      refine wp_aload_0 dX0_count_97 rfl ?_
      refine wp_getf dX0_count_98 rfl q721 fk0_1 hE.o0 rfl ?_
      refine wp_getfN dX0_count_101 rfl q442 fk2_1 hE.ob rfl ?_
      refine wp_FxR dX0_count_104 rfl q1188 mf_J2_size (hE.B.op.at hE.B.dy) rfl rfl (j_size hE.B.plas) rfl rfl (Nat.le_of_ble_eq_true rfl) (Nat.le_of_ble_eq_true rfl) (Nat.zero_le _) (Nat.zero_le _) ?_
      exact wp_ireturn dX0_count_109 rfl ⟨by rw [← hE.B.n6.1]; rfl, QC0.rf⟩
    | 6, _ =>
      refine wp_swIn 110 dX0_count_1 rfl (by decide) (by decide) rfl rfl ?_
      refine wp_aload_0 dX0_count_110 rfl ?_
      refine wp_getf dX0_count_111 rfl q721 fk0_1 hE.o0 rfl ?_
      refine wp_getfN dX0_count_114 rfl q466 fk2_9 hE.ob rfl ?_
      exact wp_ireturn dX0_count_117 rfl ⟨rfl, QC0.rf⟩
    | 7, _ =>
      refine wp_swIn 118 dX0_count_1 rfl (by decide) (by decide) rfl rfl ?_
      refine wp_aload_0 dX0_count_118 rfl ?_
      refine wp_getf dX0_count_119 rfl q721 fk0_1 hE.o0 rfl ?_
      refine wp_getfN dX0_count_122 rfl q478 fk2_13 hE.ob rfl ?_
      exact wp_ireturn dX0_count_125 rfl ⟨rfl, QC0.rf⟩
    | 8, _ =>
      refine wp_swIn 126 dX0_count_1 rfl (by decide) (by decide) rfl rfl ?_
      refine wp_aload_0 dX0_count_126 rfl ?_
      refine wp_getf dX0_count_127 rfl q721 fk0_1 hE.o0 rfl ?_
      refine wp_getfN dX0_count_130 rfl q474 fk2_12 hE.ob rfl ?_
      exact wp_ireturn dX0_count_133 rfl ⟨rfl, QC0.rf⟩
    | 9, _ =>
      refine wp_swIn 134 dX0_count_1 rfl (by decide) (by decide) rfl rfl ?_
      refine wp_aload_0 dX0_count_134 rfl ?_
      refine wp_getf dX0_count_135 rfl q724 fk0_4 hE.o0 rfl ?_
      exact wp_ireturn dX0_count_138 rfl ⟨rfl, QC0.rf⟩
    | 10, _ =>
      refine wp_swIn 139 dX0_count_1 rfl (by decide) (by decide) rfl rfl ?_
      refine wp_iconst 0 dX0_count_139 rfl rfl ?_
      refine wp_istore_2 dX0_count_140 rfl (by decide) rfl ?_
      refine wp_aload_0 dX0_count_141 rfl ?_
      refine wp_getf dX0_count_142 rfl q715 fk0_0 hE.o0 rfl ?_
      refine wp_astore_3 dX0_count_145 rfl (by decide) rfl ?_
      refine wp_aload_3 dX0_count_146 rfl ?_
      refine wp_alen 4 dX0_count_147 rfl rfl (cg_1 hE.X) rfl ?_
      refine wp_istore_4 dX0_count_148 rfl (by decide) rfl ?_
      refine wp_iconst 0 dX0_count_150 rfl rfl ?_
      refine wp_istore_5 dX0_count_151 rfl (by decide) rfl ?_
      refine cL_count0 (x := nI 10) hE hS 4 0 0 _ (Nat.zero_add _) ?_
      exact ⟨rfl, QC0.rf⟩
    | j + 11, h => exact absurd h (by omega)
  · have hk : ∀ k, inI k 0 10 = true → ¬ x = k := fun k hk e => hx (e ▸ hk)
    refine wp_swOut 190 dX0_count_1 rfl (out10 hx) rfl ?_
    refine wp_iconst (-1) dX0_count_190 rfl rfl ?_
    exact wp_ireturn dX0_count_191 rfl ⟨by rw [qcount, if_neg (hk 0 (by decide)), if_neg (hk 1 (by decide)), if_neg (hk 2 (by decide)), if_neg (hk 3 (by decide)), if_neg (hk 4 (by decide)), if_neg (hk 5 (by decide)), if_neg (hk 6 (by decide)), if_neg (hk 7 (by decide)), if_neg (hk 8 (by decide)), if_neg (hk 9 (by decide)), if_neg (hk 10 (by decide))], QC0.rf⟩
theorem cL_feed {g : GW} {S : SM} {X : AH} {lo hi b : Nat} {A : BA} {W : Nat → Int32} {C0 : SC} {x1 x2 x3 x4 x5 : Int32} {F v5 : Nat → Int32} {ta : Nat} (h0 : C0.1 0 = nI ta) (hta : ta + 20 ≤ 1200) (hF : ∀ j, j < 5 → F j = v5 j) {c n : Nat} {Q : Option Value → AH → Prop} : ∀ (k : Nat) (C : SC) (i : Nat), i + k = 20 → EV C X lo hi b A W → CK [] [14] [] [] [] C0 C → (∀ C', CK [] [14] [] [] [] C0 C' → C'.2.1 14 = itr (teF v5 ta) k i (C.2.1 14) → WP g 2 yX0_feed cX0_feed 8 (some .int) 89 [some (.ref 0), some (.int x1), some (.int x2), some (.int x3), some (.int x4), some (.int x5), some (.ref X.length), some (.int (nI 20))] [] (cH C' S (X ++ [.inl (0, 5, .inl F)])) c n Q) → WP g 2 yX0_feed cX0_feed 8 (some .int) 45 [some (.ref 0), some (.int x1), some (.int x2), some (.int x3), some (.int x4), some (.int x5), some (.ref X.length), some (.int (nI i))] [] (cH C S (X ++ [.inl (0, 5, .inl F)])) c n Q := by
  intro k
  induction k with
  | zero =>
    intro C i hi0 hE hK hq
    refine wp_iload_7 dX0_feed_45 rfl ?_
    refine wp_bipush 20 dX0_feed_47 rfl rfl ?_
    refine wp_icmp_ge_k 89 dX0_feed_49 rfl rfl (b := 20) (by omega) (by omega) (fun c49 => ?_) (fun c49 => ?_)
    · obtain rfl : i = 20 := by omega
      exact hq C hK rfl
    · exact absurd c49 (by omega)
  | succ k ih =>
    intro C i hi0 hE hK hq
    refine wp_iload_7 dX0_feed_45 rfl ?_
    refine wp_bipush 20 dX0_feed_47 rfl rfl ?_
    refine wp_icmp_ge_k 89 dX0_feed_49 rfl rfl (b := 20) (by omega) (by omega) (fun c49 => ?_) (fun c49 => ?_)
    · exact absurd c49 (by omega)
    · have hE2 : EV C (X ++ [.inl (0, 5, .inl F)]) lo hi b A W := hE.ap
      have hta9 : C.1 0 = nI ta := (hK.1 0 (by decide)).trans h0
      refine wp_aload_0 dX0_feed_52 rfl ?_
      refine wp_getf dX0_feed_53 rfl q723 fk0_3 hE2.o0 rfl ?_
      refine wp_aload_0 dX0_feed_56 rfl ?_
      refine wp_getf dX0_feed_57 rfl q724 fk0_4 hE2.o0 rfl ?_
      rw [hta9]
      refine wp_iload_7 dX0_feed_60 rfl ?_
      refine wp_iadd dX0_feed_62 rfl ?_
      rw [nI_add]
      refine wp_aload_6 dX0_feed_63 rfl ?_
      refine wp_iload_7 dX0_feed_65 rfl ?_
      refine wp_iconst 4 dX0_feed_67 rfl rfl ?_
      refine wp_idiv dX0_feed_68 rfl (by decide) ?_
      rw [show nI i / 4 = nI (i / 4) from pk_div (d := 4) (by omega) (by omega) (by omega)]
      refine wp_ialoadn (i / 4) dX0_feed_69 rfl (itat hE.X) rfl (by omega) (by decide) ?_
      rw [hF (i / 4) (by omega)]
      refine wp_bipush 24 dX0_feed_70 rfl rfl ?_
      refine wp_bipush 8 dX0_feed_72 rfl rfl ?_
      refine wp_iload_7 dX0_feed_74 rfl ?_
      refine wp_iconst 4 dX0_feed_76 rfl rfl ?_
      refine wp_irem dX0_feed_77 rfl (by decide) ?_
      rw [show nI i - nI i / 4 * 4 = nI (i % 4) from pk_rem (d := 4) (by omega) (by omega) (by omega)]
      refine wp_imul dX0_feed_78 rfl ?_
      refine wp_isub dX0_feed_79 rfl ?_
      refine wp_ishr dX0_feed_80 rfl ?_
      refine wp_i2b dX0_feed_81 rfl ?_
      refine wp_bastoren (ta + i) dX0_feed_82 rfl (cg_14 hE2.X) rfl (by omega) (by decide) cs_14 ?_
      rw [nar_b]
      refine wp_iinc_7 1 dX0_feed_83 rfl rfl (by decide) rfl ?_
      refine wp_goto 45 dX0_feed_86 rfl rfl ?_
      have e9 : teF v5 ta i (C.2.1 14) = upd (C.2.1 14) (ta + i) ((v5 (i / 4) >>> ((24 - 8 * nI (i % 4)) &&& 31)).toInt8.toInt32) := rfl
      have k1 : CK [] [14] [] [] [] C (cA 14 (ta + i) ((v5 (i / 4) >>> ((24 - 8 * nI (i % 4)) &&& 31)).toInt8.toInt32) C) := (CK.rf _ _ _ _ _ C).A _ _ (by decide)
      exact WP.cast (by rw [nI_1]) (ih _ (i + 1) (by omega) (k1.ev (by decide) hE) (hK.tr k1) (fun C2 h1 h2 => hq C2 h1 (h2.trans (show itr (teF v5 ta) k (i + 1) ((cA 14 (ta + i) ((v5 (i / 4) >>> ((24 - 8 * nI (i % 4)) &&& 31)).toInt8.toInt32) C).2.1 14) = itr (teF v5 ta) k (i + 1) (teF v5 ta i (C.2.1 14)) from congrArg _ ((va_up_self C.2.1 14 _).trans e9.symm)))))
theorem q_c_feed {g : GW} {C : SC} {S : SM} {X : AH} {lo hi b : Nat} {A : BA} {W : Nat → Int32} (hE : EV C X lo hi b A W) {x1 x2 x3 x4 x5 : Int32} {ta : Nat} (h0 : C.1 0 = nI ta) (hta : ta ≤ 1200) : SP g 2 1 5 yX0_feed cX0_feed 8 (some .int) [.ref 0, .int x1, .int x2, .int x3, .int x4, .int x5] (cH C S X) (QT C S X (.int (qfeed (C.1 0))) (if C.1 0 + 20 ≤ 1200 then C.1 0 + 20 else C.1 0) (if C.1 0 + 20 ≤ 1200 then itr (teF (fiv x1 x2 x3 x4 x5) ta) 20 0 (C.2.1 14) else C.2.1 14)) := by
  refine SP.intro [some (.ref 0), some (.int x1), some (.int x2), some (.int x3), some (.int x4), some (.int x5), none, none] (pfn (by decide)) rfl (Nat.le_of_ble_eq_true rfl) ?_
  refine wp_aload_0 dX0_feed_0 rfl ?_
  refine wp_getf dX0_feed_1 rfl q724 fk0_4 hE.o0 rfl ?_
  refine wp_bipush 20 dX0_feed_4 rfl rfl ?_
  refine wp_iadd dX0_feed_6 rfl ?_
  refine wp_sipush 1200 dX0_feed_7 rfl rfl ?_
  refine wp_icmp_le 15 dX0_feed_10 rfl rfl (fun c10 => ?_) (fun c10 => ?_)
  · refine wp_iconst 5 dX0_feed_15 rfl rfl ?_
    refine wp_newarray1 (t := 0) (5, .inl (fun _ => 0)) dX0_feed_16 rfl q286 rfl rfl (fun _ => rfl) (by decide) rfl (Nat.le_of_ble_eq_true rfl) (Nat.le_refl _) (Nat.le_refl _) ?_
    rw [cH_app hE.X, cH_len]
    refine wp_dup dX0_feed_18 rfl rfl ?_
    refine wp_iconst 0 dX0_feed_19 rfl rfl ?_
    refine wp_iload_1 dX0_feed_20 rfl ?_
    refine wp_iastoren 0 dX0_feed_21 rfl (itat hE.X) rfl (by omega) (by decide) (it_set hE.X) ?_
    refine wp_dup dX0_feed_22 rfl rfl ?_
    refine wp_iconst 1 dX0_feed_23 rfl rfl ?_
    refine wp_iload_2 dX0_feed_24 rfl ?_
    refine wp_iastoren 1 dX0_feed_25 rfl (itat hE.X) rfl (by omega) (by decide) (it_set hE.X) ?_
    refine wp_dup dX0_feed_26 rfl rfl ?_
    refine wp_iconst 2 dX0_feed_27 rfl rfl ?_
    refine wp_iload_3 dX0_feed_28 rfl ?_
    refine wp_iastoren 2 dX0_feed_29 rfl (itat hE.X) rfl (by omega) (by decide) (it_set hE.X) ?_
    refine wp_dup dX0_feed_30 rfl rfl ?_
    refine wp_iconst 3 dX0_feed_31 rfl rfl ?_
    refine wp_iload_4 dX0_feed_32 rfl ?_
    refine wp_iastoren 3 dX0_feed_34 rfl (itat hE.X) rfl (by omega) (by decide) (it_set hE.X) ?_
    refine wp_dup dX0_feed_35 rfl rfl ?_
    refine wp_iconst 4 dX0_feed_36 rfl rfl ?_
    refine wp_iload_5 dX0_feed_37 rfl ?_
    refine wp_iastoren 4 dX0_feed_39 rfl (itat hE.X) rfl (by omega) (by decide) (it_set hE.X) ?_
    refine wp_astore_6 dX0_feed_40 rfl (by decide) rfl ?_
    refine wp_iconst 0 dX0_feed_42 rfl rfl ?_
    refine wp_istore_7 dX0_feed_43 rfl (by decide) rfl ?_
    have h20 : ta + 20 ≤ 1200 := by
      rw [h0, show (20 : Int32) = nI 20 from rfl, nI_add] at c10
      exact (nI_leI (b := 1200) (by omega) (by omega)).mp c10
    refine cL_feed (C0 := C) (v5 := fiv x1 x2 x3 x4 x5) h0 h20 (fun j hj => by
      match j, hj with
      | 0, _ => rfl
      | 1, _ => rfl
      | 2, _ => rfl
      | 3, _ => rfl
      | 4, _ => rfl) 20 C 0 (Nat.zero_add _) hE (CK.rf _ _ _ _ _ C) (fun C1 hK1 h14 => ?_)
    have hE : EV C1 (X ++ [.inl (0, 5, .inl (upd (upd (upd (upd (upd (fun _ => 0) 0 x1) 1 x2) 2 x3) 3 x4) 4 x5))]) lo hi b A W := (hK1.ev (by decide) hE).ap
    refine wp_aload_0 dX0_feed_89 rfl ?_
    refine wp_dup dX0_feed_90 rfl rfl ?_
    refine wp_getf dX0_feed_91 rfl q724 fk0_4 hE.o0 rfl ?_
    rw [show C1.1 0 = C.1 0 from hK1.1 0 (by decide)]
    refine wp_bipush 20 dX0_feed_94 rfl rfl ?_
    refine wp_iadd dX0_feed_96 rfl ?_
    refine wp_putf dX0_feed_97 rfl q724 fp0_4 hE.o0 rfl rfl (Nat.le_of_ble_eq_true rfl) hE.s4 ?_
    refine wp_aload_0 dX0_feed_100 rfl ?_
    refine wp_getf dX0_feed_101 rfl q724 fk0_4 hE.o0 rfl ?_
    exact wp_ireturn dX0_feed_104 rfl ⟨by rw [qfeed, if_pos c10]; rfl, _, _, rfl, ⟨by rw [if_pos c10]; exact ⟨rfl, hK1.1 1 (by decide), hK1.1 2 (by decide)⟩, by rw [if_pos c10]; exact h14, fun k _ => hK1.2.2.2.1 k List.not_mem_nil, hK1.2.2.2.2 13 (by decide)⟩⟩
  · have c10 : ¬ C.1 0 + 20 ≤ 1200 := c10
    refine wp_iconst (-1) dX0_feed_13 rfl rfl ?_
    exact wp_ireturn dX0_feed_14 rfl ⟨by rw [qfeed, if_neg c10], QT.mk (v := .int 0) (by rw [if_neg c10, if_neg c10]; exact KT.rf C)⟩
