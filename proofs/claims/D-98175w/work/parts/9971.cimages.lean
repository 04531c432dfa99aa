/-! ===== the class: images ===== -/
set_option maxRecDepth 100000
theorem in02_of {x : Int32} (h : inL x.toInt64 0 2 = true) : ∃ k : Nat, k < 3 ∧ x = nI k := by
  obtain ⟨k, hk, e⟩ := in_ofk (x := x) (n := 2) (by omega) h
  exact ⟨k, by omega, e⟩
/-- an image: k's board is now a copy of W -/
def QCI (C : SC) (S : SM) (X : AH) (W : Nat → Int32) (x : Int32) : Option Value → AH → Prop := fun v' h1 => v' = some (.int (qimage x)) ∧ ((¬ qimage x = 0 ∧ h1 = cH C S X) ∨ (qimage x = 0 ∧ ∃ k, k < 3 ∧ x = nI k ∧ ∃ X' A', h1 = cH (cM 13 k (some X.length) C) S X' ∧ XE X X' ∧ BD X' X.length X'.length X.length A' W))
/-- back to an image: what there is of it -/
def imC (C : SC) (X : AH) (k : Nat) (r : Option Nat) (W : Nat → Int32) : Prop := C.2.2.2.2.1 13 k = r ∧ ∀ a, r = some a → WFa W ∧ ∃ lo hi A, BD X lo hi a A W
def QCB (C : SC) (S : SM) (X : AH) (I : Nat → Option Nat) (J : Nat → Nat → Int32) (x : Int32) : Option Value → AH → Prop := fun v' h1 =>
  (inL x.toInt64 0 2 = false ∧ v' = some (.int (-2)) ∧ h1 = cH C S X) ∨ (∃ k, k < 3 ∧ x = nI k ∧ ((I k = none ∧ v' = some (.int (-6)) ∧ h1 = cH C S X) ∨ (∃ a, I k = some a ∧ v' = some (.int 0) ∧ ∃ X' A', h1 = cH (cR 0 (some X.length) C) S X' ∧ XE X X' ∧ BD X' X.length X'.length X.length A' (J k))))
theorem q_c_image {g : GW} {C : SC} {S : SM} {X : AH} {lo hi b : Nat} {A : BA} {W : Nat → Int32} (hE : EV C X lo hi b A W) {x : Int32} : SP g 7 41 200 yX0_image cX0_image 2 (some .int) [.ref 0, .int x] (cH C S X) (QCI C S X W x) := by
  refine SP.intro [some (.ref 0), some (.int x)] (pfn (by decide)) rfl (Nat.le_of_ble_eq_true rfl) ?_
  refine wp_iload_1 dX0_image_0 rfl ?_
  refine wp_i2l dX0_image_1 rfl ?_
  refine wp_lconst 0 dX0_image_2 rfl rfl ?_
  refine wp_ldc2_w dX0_image_3 rfl q1189 ?_
  refine wp_csR dX0_image_6 rfl q190 ms_X0_in c_in rfl rfl (Nat.le_of_ble_eq_true rfl) (Nat.le_of_ble_eq_true rfl) ?_
  refine wp_ifne_b 15 dX0_image_9 rfl rfl (fun c9 => ?_) (fun c9 => ?_)
  · obtain ⟨k, hk, rfl⟩ := in02_of c9
    refine wp_aload_0 dX0_image_15 rfl ?_
    refine wp_getf dX0_image_16 rfl q722 fk0_2 hE.o0 rfl ?_
    refine wp_iload_1 dX0_image_19 rfl ?_
    refine wp_aload_0 dX0_image_20 rfl ?_
    refine wp_getf dX0_image_21 rfl q721 fk0_1 hE.o0 rfl ?_
    refine wp_VeR dX0_image_24 rfl q1799 mv_X2_same hE.ob rfl rfl (b_same hE.X hE.B hE.c) rfl rfl (Nat.le_of_ble_eq_true rfl) (Nat.le_of_ble_eq_true rfl) (Nat.le_refl _) (Nat.le_refl _) (fun h1 hq => ?_)
    obtain ⟨X1, A1, rfl, hx1, hB1⟩ := hq
    refine wp_aastore k dX0_image_27 rfl rfl  rfl (cg_13 (by have := hx1.len; have := hE.X; omega)) (hB1.ob.at hB1.dy) (nI_clamp (by omega)) (vp_in_nI (show k < 3 by omega) (by omega)) cs_13 ?_
    refine wp_iconst 0 dX0_image_28 rfl rfl ?_
    exact wp_ireturn dX0_image_29 rfl ⟨by rw [qimage, if_pos c9], Or.inr ⟨by rw [qimage, if_pos c9], k, hk, rfl, X1, A1, rfl, hx1, hB1⟩⟩
  · refine wp_bipush (-2) dX0_image_12 rfl rfl ?_
    exact wp_ireturn dX0_image_14 rfl ⟨by rw [qimage, if_neg (by rw [c9]; decide)], Or.inl ⟨by rw [qimage, if_neg (by rw [c9]; decide)]; decide, rfl⟩⟩
theorem q_c_back {g : GW} {C : SC} {S : SM} {X : AH} {lo hi b : Nat} {A : BA} {W : Nat → Int32} (hE : EV C X lo hi b A W) {x : Int32} {I : Nat → Option Nat} {J : Nat → Nat → Int32} (hI : ∀ k, k < 3 → imC C X k (I k) (J k)) : SP g 7 41 200 yX0_back cX0_back 2 (some .int) [.ref 0, .int x] (cH C S X) (QCB C S X I J x) := by
  refine SP.intro [some (.ref 0), some (.int x)] (pfn (by decide)) rfl (Nat.le_of_ble_eq_true rfl) ?_
  refine wp_iload_1 dX0_back_0 rfl ?_
  refine wp_i2l dX0_back_1 rfl ?_
  refine wp_lconst 0 dX0_back_2 rfl rfl ?_
  refine wp_ldc2_w dX0_back_3 rfl q1189 ?_
  refine wp_csR dX0_back_6 rfl q190 ms_X0_in c_in rfl rfl (Nat.le_of_ble_eq_true rfl) (Nat.le_of_ble_eq_true rfl) ?_
  refine wp_ifne_b 15 dX0_back_9 rfl rfl (fun c9 => ?_) (fun c9 => ?_)
  · obtain ⟨k, hk, rfl⟩ := in02_of c9
    obtain ⟨hIk, hIw⟩ := hI k hk
    cases hik : I k with
    | none =>
      refine wp_aload_0 dX0_back_15 rfl ?_
      refine wp_getf dX0_back_16 rfl q722 fk0_2 hE.o0 rfl ?_
      refine wp_iload_1 dX0_back_19 rfl ?_
      refine wp_aaload k dX0_back_20 rfl rfl rfl (cg_13 hE.X) (nI_clamp (by omega)) (vp_in_nI (show k < 3 by omega) (by omega)) ?_
      rw [hIk, hik]
      refine wp_ifnonnull_n dX0_back_21 rfl ?_
      refine wp_bipush (-6) dX0_back_24 rfl rfl ?_
      exact wp_ireturn dX0_back_26 rfl (Or.inr ⟨k, hk, rfl, Or.inl ⟨hik, rfl, rfl⟩⟩)
    | some a =>
      obtain ⟨hWa, lo9, hi9, A9, hB0⟩ := hIw a hik
      refine wp_aload_0 dX0_back_15 rfl ?_
      refine wp_getf dX0_back_16 rfl q722 fk0_2 hE.o0 rfl ?_
      refine wp_iload_1 dX0_back_19 rfl ?_
      refine wp_aaload k dX0_back_20 rfl rfl rfl (cg_13 hE.X) (nI_clamp (by omega)) (vp_in_nI (show k < 3 by omega) (by omega)) ?_
      rw [hIk, hik]
      refine wp_ifnonnull_r 27 dX0_back_21 rfl rfl ?_
      refine wp_aload_0 dX0_back_27 rfl ?_
      refine wp_aload_0 dX0_back_28 rfl ?_
      refine wp_getf dX0_back_29 rfl q722 fk0_2 hE.o0 rfl ?_
      refine wp_iload_1 dX0_back_32 rfl ?_
      refine wp_aaload k dX0_back_33 rfl rfl rfl (cg_13 hE.X) (nI_clamp (by omega)) (vp_in_nI (show k < 3 by omega) (by omega)) ?_
      rw [hIk, hik]
      refine wp_VeR dX0_back_34 rfl q1799 mv_X2_same (hB0.ob.at hB0.dy) rfl rfl (b_same hE.X hB0 hWa.1.2.2.1) rfl rfl (Nat.le_of_ble_eq_true rfl) (Nat.le_of_ble_eq_true rfl) (Nat.le_refl _) (Nat.le_refl _) (fun h1 hq => ?_)
      obtain ⟨X1, A1, rfl, hx1, hB1⟩ := hq
      have hX1 : 108 ≤ X1.length := by have := hx1.len; have := hE.X; omega
      refine wp_putf dX0_back_37 rfl q721 fp0_1 (cg_0 hX1) rfl rfl (Nat.le_of_ble_eq_true rfl) cs_0_1 ?_
      refine wp_iconst 0 dX0_back_40 rfl rfl ?_
      exact wp_ireturn dX0_back_41 rfl (Or.inr ⟨k, hk, rfl, Or.inr ⟨a, hik, rfl, X1, A1, rfl, hx1, hB1⟩⟩)
  · refine wp_bipush (-2) dX0_back_12 rfl rfl ?_
    exact wp_ireturn dX0_back_14 rfl (Or.inl ⟨c9, rfl, rfl⟩)
