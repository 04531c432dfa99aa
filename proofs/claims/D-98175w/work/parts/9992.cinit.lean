/-! ===== the class made ===== -/
set_option maxRecDepth 100000
theorem iH_app {ci : Nat} {pre Z arrs : AH} {fs : List Value} : iH ci pre fs arrs ++ Z = iH ci pre fs (arrs ++ Z) := by
  unfold iH
  rw [List.append_assoc]
  rfl
def mlA : AE := .inl (8, 60, .inr (.inr (fun _ => none)))
def inA (k : Nat) : AE := .inl (0, k, .inl (fun _ => 0))
def loA (k : Nat) : AE := .inl (3, k, .inr (.inl (fun _ => 0)))
theorem c_gInit4 {g : GW} {M : Nat} {pre : AH} (hm : pre.length = M) {w : Nat} : SPx g 2 3 180 yX3_init cX3_init 2 none [.ref M, .ref w] (iH 4 pre [.null, .null, .null, .int 0, .null, .ref w] []) none (iH 4 pre [.ref (M + 1), .ref (M + 2), .ref (M + 3), .int 0, .ref w, .ref w] ([mlA, inA 60, inA 60] : AH)) := by
  refine SPx.intro [some (.ref M), some (.ref w)] (pfn (by decide)) rfl (Nat.le_of_ble_eq_true rfl) ?_
  refine wp_aload_0 dX3_init_0 rfl ?_
  refine wp_aload_1 dX3_init_1 rfl ?_
  refine wp_putfGF dX3_init_2 rfl q540 fg4_4 rfl rfl (iH_at0 hm) rfl rfl (Nat.le_of_ble_eq_true rfl) (iH_set0 hm) ?_
  change WP _ _ _ _ _ _ _ _ _ (iH 4 pre [.null, .null, .null, .int 0, .ref w, .ref w] ([] : AH)) _ _ _
  refine wp_aload_0 dX3_init_5 rfl ?_
  refine wp_oinit dX3_init_6 rfl q517 q_oi q_oc (Nat.le_of_ble_eq_true rfl) (Nat.le_of_ble_eq_true rfl) ?_
  refine wp_aload_0 dX3_init_9 rfl ?_
  refine wp_bipush 60 dX3_init_10 rfl rfl ?_
  refine wp_anewarray1 (t := 8) dX3_init_12 rfl q518 (by decide) rfl (by decide) rfl (Nat.le_of_ble_eq_true rfl) (Nat.le_of_ble_eq_true rfl) (Nat.le_of_ble_eq_true rfl) ?_
  rw [iH_new, iH_len hm]
  change WP _ _ _ _ _ _ _ _ (.ref (M + 1) :: _) (iH 4 pre [.null, .null, .null, .int 0, .ref w, .ref w] ([mlA] : AH)) _ _ _
  refine wp_putfGF dX3_init_15 rfl q521 fg4_0 rfl rfl (iH_at0 hm) rfl rfl (Nat.le_of_ble_eq_true rfl) (iH_set0 hm) ?_
  change WP _ _ _ _ _ _ _ _ _ (iH 4 pre [.ref (M + 1), .null, .null, .int 0, .ref w, .ref w] ([mlA] : AH)) _ _ _
  refine wp_aload_0 dX3_init_18 rfl ?_
  refine wp_bipush 60 dX3_init_19 rfl rfl ?_
  refine wp_newarray1 (t := 0) (60, .inl (fun _ => 0)) dX3_init_21 rfl q286 rfl rfl (fun _ => rfl) (by decide) rfl (Nat.le_of_ble_eq_true rfl) (Nat.le_of_ble_eq_true rfl) (Nat.le_of_ble_eq_true rfl) ?_
  rw [iH_new, iH_len hm]
  change WP _ _ _ _ _ _ _ _ (.ref (M + 2) :: _) (iH 4 pre [.ref (M + 1), .null, .null, .int 0, .ref w, .ref w] ([mlA, inA 60] : AH)) _ _ _
  refine wp_putfGF dX3_init_23 rfl q522 fg4_1 rfl rfl (iH_at0 hm) rfl rfl (Nat.le_of_ble_eq_true rfl) (iH_set0 hm) ?_
  change WP _ _ _ _ _ _ _ _ _ (iH 4 pre [.ref (M + 1), .ref (M + 2), .null, .int 0, .ref w, .ref w] ([mlA, inA 60] : AH)) _ _ _
  refine wp_aload_0 dX3_init_26 rfl ?_
  refine wp_bipush 60 dX3_init_27 rfl rfl ?_
  refine wp_newarray1 (t := 0) (60, .inl (fun _ => 0)) dX3_init_29 rfl q286 rfl rfl (fun _ => rfl) (by decide) rfl (Nat.le_of_ble_eq_true rfl) (Nat.le_of_ble_eq_true rfl) (Nat.le_of_ble_eq_true rfl) ?_
  rw [iH_new, iH_len hm]
  change WP _ _ _ _ _ _ _ _ (.ref (M + 3) :: _) (iH 4 pre [.ref (M + 1), .ref (M + 2), .null, .int 0, .ref w, .ref w] ([mlA, inA 60, inA 60] : AH)) _ _ _
  refine wp_putfGF dX3_init_31 rfl q527 fg4_2 rfl rfl (iH_at0 hm) rfl rfl (Nat.le_of_ble_eq_true rfl) (iH_set0 hm) ?_
  change WP _ _ _ _ _ _ _ _ _ (iH 4 pre [.ref (M + 1), .ref (M + 2), .ref (M + 3), .int 0, .ref w, .ref w] ([mlA, inA 60, inA 60] : AH)) _ _ _
  exact wp_return dX3_init_34 rfl ⟨rfl, rfl⟩
theorem c_dInit {g : GW} {M : Nat} {pre : AH} (hm : pre.length = M) {w : Nat} : SPx g 3 3 180 yX4_init cX4_init 2 none [.ref M, .ref w] (iH 4 pre [.null, .null, .null, .int 0, .null, .null] []) none (iH 4 pre [.ref (M + 1), .ref (M + 2), .ref (M + 3), .int 0, .ref w, .ref w] ([mlA, inA 60, inA 60] : AH)) := by
  refine SPx.intro [some (.ref M), some (.ref w)] (pfn (by decide)) rfl (Nat.le_of_ble_eq_true rfl) ?_
  refine wp_aload_0 dX4_init_0 rfl ?_
  refine wp_aload_1 dX4_init_1 rfl ?_
  refine wp_putfGF dX4_init_2 rfl q520 fg4_5 rfl rfl (iH_at0 hm) rfl rfl (Nat.le_of_ble_eq_true rfl) (iH_set0 hm) ?_
  change WP _ _ _ _ _ _ _ _ _ (iH 4 pre [.null, .null, .null, .int 0, .null, .ref w] ([] : AH)) _ _ _
  refine wp_aload_0 dX4_init_5 rfl ?_
  refine wp_aload_1 dX4_init_6 rfl ?_
  refine wp_INx0 dX4_init_7 rfl q514 mi_X3_init (c_gInit4 hm) rfl rfl (Nat.le_of_ble_eq_true rfl) (Nat.le_of_ble_eq_true rfl) (Nat.le_of_ble_eq_true rfl) (Nat.le_of_ble_eq_true rfl) ?_
  exact wp_return dX4_init_10 rfl ⟨rfl, rfl⟩
theorem c_gInit5 {g : GW} {M : Nat} {pre : AH} (hm : pre.length = M) {w : Nat} : SPx g 2 3 180 yX3_init cX3_init 2 none [.ref M, .ref w] (iH 5 pre [.null, .null, .null, .int 0, .null, .null, .int 0, .long 0, .ref w] []) none (iH 5 pre [.ref (M + 1), .ref (M + 2), .ref (M + 3), .int 0, .ref w, .null, .int 0, .long 0, .ref w] ([mlA, inA 60, inA 60] : AH)) := by
  refine SPx.intro [some (.ref M), some (.ref w)] (pfn (by decide)) rfl (Nat.le_of_ble_eq_true rfl) ?_
  refine wp_aload_0 dX3_init_0 rfl ?_
  refine wp_aload_1 dX3_init_1 rfl ?_
  refine wp_putfGF dX3_init_2 rfl q540 fg5_4 rfl rfl (iH_at0 hm) rfl rfl (Nat.le_of_ble_eq_true rfl) (iH_set0 hm) ?_
  change WP _ _ _ _ _ _ _ _ _ (iH 5 pre [.null, .null, .null, .int 0, .ref w, .null, .int 0, .long 0, .ref w] ([] : AH)) _ _ _
  refine wp_aload_0 dX3_init_5 rfl ?_
  refine wp_oinit dX3_init_6 rfl q517 q_oi q_oc (Nat.le_of_ble_eq_true rfl) (Nat.le_of_ble_eq_true rfl) ?_
  refine wp_aload_0 dX3_init_9 rfl ?_
  refine wp_bipush 60 dX3_init_10 rfl rfl ?_
  refine wp_anewarray1 (t := 8) dX3_init_12 rfl q518 (by decide) rfl (by decide) rfl (Nat.le_of_ble_eq_true rfl) (Nat.le_of_ble_eq_true rfl) (Nat.le_of_ble_eq_true rfl) ?_
  rw [iH_new, iH_len hm]
  change WP _ _ _ _ _ _ _ _ (.ref (M + 1) :: _) (iH 5 pre [.null, .null, .null, .int 0, .ref w, .null, .int 0, .long 0, .ref w] ([mlA] : AH)) _ _ _
  refine wp_putfGF dX3_init_15 rfl q521 fg5_0 rfl rfl (iH_at0 hm) rfl rfl (Nat.le_of_ble_eq_true rfl) (iH_set0 hm) ?_
  change WP _ _ _ _ _ _ _ _ _ (iH 5 pre [.ref (M + 1), .null, .null, .int 0, .ref w, .null, .int 0, .long 0, .ref w] ([mlA] : AH)) _ _ _
  refine wp_aload_0 dX3_init_18 rfl ?_
  refine wp_bipush 60 dX3_init_19 rfl rfl ?_
  refine wp_newarray1 (t := 0) (60, .inl (fun _ => 0)) dX3_init_21 rfl q286 rfl rfl (fun _ => rfl) (by decide) rfl (Nat.le_of_ble_eq_true rfl) (Nat.le_of_ble_eq_true rfl) (Nat.le_of_ble_eq_true rfl) ?_
  rw [iH_new, iH_len hm]
  change WP _ _ _ _ _ _ _ _ (.ref (M + 2) :: _) (iH 5 pre [.ref (M + 1), .null, .null, .int 0, .ref w, .null, .int 0, .long 0, .ref w] ([mlA, inA 60] : AH)) _ _ _
  refine wp_putfGF dX3_init_23 rfl q522 fg5_1 rfl rfl (iH_at0 hm) rfl rfl (Nat.le_of_ble_eq_true rfl) (iH_set0 hm) ?_
  change WP _ _ _ _ _ _ _ _ _ (iH 5 pre [.ref (M + 1), .ref (M + 2), .null, .int 0, .ref w, .null, .int 0, .long 0, .ref w] ([mlA, inA 60] : AH)) _ _ _
  refine wp_aload_0 dX3_init_26 rfl ?_
  refine wp_bipush 60 dX3_init_27 rfl rfl ?_
  refine wp_newarray1 (t := 0) (60, .inl (fun _ => 0)) dX3_init_29 rfl q286 rfl rfl (fun _ => rfl) (by decide) rfl (Nat.le_of_ble_eq_true rfl) (Nat.le_of_ble_eq_true rfl) (Nat.le_of_ble_eq_true rfl) ?_
  rw [iH_new, iH_len hm]
  change WP _ _ _ _ _ _ _ _ (.ref (M + 3) :: _) (iH 5 pre [.ref (M + 1), .ref (M + 2), .null, .int 0, .ref w, .null, .int 0, .long 0, .ref w] ([mlA, inA 60, inA 60] : AH)) _ _ _
  refine wp_putfGF dX3_init_31 rfl q527 fg5_2 rfl rfl (iH_at0 hm) rfl rfl (Nat.le_of_ble_eq_true rfl) (iH_set0 hm) ?_
  change WP _ _ _ _ _ _ _ _ _ (iH 5 pre [.ref (M + 1), .ref (M + 2), .ref (M + 3), .int 0, .ref w, .null, .int 0, .long 0, .ref w] ([mlA, inA 60, inA 60] : AH)) _ _ _
  exact wp_return dX3_init_34 rfl ⟨rfl, rfl⟩
theorem c_nInit {g : GW} {M : Nat} {pre : AH} (hm : pre.length = M) {w : Nat} : SPx g 3 4 240 yX5_init cX5_init 2 none [.ref M, .ref w] (iH 5 pre [.null, .null, .null, .int 0, .null, .null, .int 0, .long 0, .null] []) none (iH 5 pre [.ref (M + 1), .ref (M + 2), .ref (M + 3), .int 0, .ref w, .ref (M + 4), .int 0, .long 0, .ref w] ([mlA, inA 60, inA 60, inA 60] : AH)) := by
  refine SPx.intro [some (.ref M), some (.ref w)] (pfn (by decide)) rfl (Nat.le_of_ble_eq_true rfl) ?_
  refine wp_aload_0 dX5_init_0 rfl ?_
  refine wp_aload_1 dX5_init_1 rfl ?_
  refine wp_putfGF dX5_init_2 rfl q563 fg5_8 rfl rfl (iH_at0 hm) rfl rfl (Nat.le_of_ble_eq_true rfl) (iH_set0 hm) ?_
  change WP _ _ _ _ _ _ _ _ _ (iH 5 pre [.null, .null, .null, .int 0, .null, .null, .int 0, .long 0, .ref w] ([] : AH)) _ _ _
  refine wp_aload_0 dX5_init_5 rfl ?_
  refine wp_aload_1 dX5_init_6 rfl ?_
  refine wp_INx0 dX5_init_7 rfl q559 mi_X3_init (c_gInit5 hm) rfl rfl (Nat.le_of_ble_eq_true rfl) (Nat.le_of_ble_eq_true rfl) (Nat.le_of_ble_eq_true rfl) (Nat.le_of_ble_eq_true rfl) ?_
  refine wp_aload_0 dX5_init_10 rfl ?_
  refine wp_bipush 60 dX5_init_11 rfl rfl ?_
  refine wp_newarray1 (t := 0) (60, .inl (fun _ => 0)) dX5_init_13 rfl q286 rfl rfl (fun _ => rfl) (by decide) rfl (Nat.le_of_ble_eq_true rfl) (Nat.le_of_ble_eq_true rfl) (Nat.le_of_ble_eq_true rfl) ?_
  rw [iH_new, iH_len hm]
  change WP _ _ _ _ _ _ _ _ (.ref (M + 4) :: _) (iH 5 pre [.ref (M + 1), .ref (M + 2), .ref (M + 3), .int 0, .ref w, .null, .int 0, .long 0, .ref w] ([mlA, inA 60, inA 60, inA 60] : AH)) _ _ _
  refine wp_putfGF dX5_init_15 rfl q560 fg5_5 rfl rfl (iH_at0 hm) rfl rfl (Nat.le_of_ble_eq_true rfl) (iH_set0 hm) ?_
  change WP _ _ _ _ _ _ _ _ _ (iH 5 pre [.ref (M + 1), .ref (M + 2), .ref (M + 3), .int 0, .ref w, .ref (M + 4), .int 0, .long 0, .ref w] ([mlA, inA 60, inA 60, inA 60] : AH)) _ _ _
  exact wp_return dX5_init_18 rfl ⟨rfl, rfl⟩
theorem c_rInit {g : GW} {M : Nat} {pre : AH} (hm : pre.length = M) {w : Nat} : SPx g 2 4 360 yX6_init cX6_init 2 none [.ref M, .ref w] (iH 6 pre [.null, .null, .null, .null, .null, .int 0, .int 0, .int 0, .int 0, .int 0, .int 0, .int 0, .int 0, .int 0, .int 0, .int 0, .null] []) none (iH 6 pre [.ref (M + 1), .ref (M + 2), .ref (M + 3), .ref (M + 4), .null, .int 0, .int 0, .int 0, .int 0, .int 0, .int 0, .int 0, .int 0, .int 0, .int 0, .int 0, .ref w] ([inA 60, inA 60, inA 120, inA 120] : AH)) := by
  refine SPx.intro [some (.ref M), some (.ref w)] (pfn (by decide)) rfl (Nat.le_of_ble_eq_true rfl) ?_
  refine wp_aload_0 dX6_init_0 rfl ?_
  refine wp_aload_1 dX6_init_1 rfl ?_
  refine wp_putfF dX6_init_2 rfl q612 fp6_16 rfl rfl (iH_at0 hm) rfl rfl (Nat.le_of_ble_eq_true rfl) (iH_set0 hm) ?_
  change WP _ _ _ _ _ _ _ _ _ (iH 6 pre [.null, .null, .null, .null, .null, .int 0, .int 0, .int 0, .int 0, .int 0, .int 0, .int 0, .int 0, .int 0, .int 0, .int 0, .ref w] ([] : AH)) _ _ _
  refine wp_aload_0 dX6_init_5 rfl ?_
  refine wp_oinit dX6_init_6 rfl q583 q_oi q_oc (Nat.le_of_ble_eq_true rfl) (Nat.le_of_ble_eq_true rfl) ?_
  refine wp_aload_0 dX6_init_9 rfl ?_
  refine wp_bipush 60 dX6_init_10 rfl rfl ?_
  refine wp_newarray1 (t := 0) (60, .inl (fun _ => 0)) dX6_init_12 rfl q286 rfl rfl (fun _ => rfl) (by decide) rfl (Nat.le_of_ble_eq_true rfl) (Nat.le_of_ble_eq_true rfl) (Nat.le_of_ble_eq_true rfl) ?_
  rw [iH_new, iH_len hm]
  change WP _ _ _ _ _ _ _ _ (.ref (M + 1) :: _) (iH 6 pre [.null, .null, .null, .null, .null, .int 0, .int 0, .int 0, .int 0, .int 0, .int 0, .int 0, .int 0, .int 0, .int 0, .int 0, .ref w] ([inA 60] : AH)) _ _ _
  refine wp_putfF dX6_init_14 rfl q584 fp6_0 rfl rfl (iH_at0 hm) rfl rfl (Nat.le_of_ble_eq_true rfl) (iH_set0 hm) ?_
  change WP _ _ _ _ _ _ _ _ _ (iH 6 pre [.ref (M + 1), .null, .null, .null, .null, .int 0, .int 0, .int 0, .int 0, .int 0, .int 0, .int 0, .int 0, .int 0, .int 0, .int 0, .ref w] ([inA 60] : AH)) _ _ _
  refine wp_aload_0 dX6_init_17 rfl ?_
  refine wp_bipush 60 dX6_init_18 rfl rfl ?_
  refine wp_newarray1 (t := 0) (60, .inl (fun _ => 0)) dX6_init_20 rfl q286 rfl rfl (fun _ => rfl) (by decide) rfl (Nat.le_of_ble_eq_true rfl) (Nat.le_of_ble_eq_true rfl) (Nat.le_of_ble_eq_true rfl) ?_
  rw [iH_new, iH_len hm]
  change WP _ _ _ _ _ _ _ _ (.ref (M + 2) :: _) (iH 6 pre [.ref (M + 1), .null, .null, .null, .null, .int 0, .int 0, .int 0, .int 0, .int 0, .int 0, .int 0, .int 0, .int 0, .int 0, .int 0, .ref w] ([inA 60, inA 60] : AH)) _ _ _
  refine wp_putfF dX6_init_22 rfl q586 fp6_1 rfl rfl (iH_at0 hm) rfl rfl (Nat.le_of_ble_eq_true rfl) (iH_set0 hm) ?_
  change WP _ _ _ _ _ _ _ _ _ (iH 6 pre [.ref (M + 1), .ref (M + 2), .null, .null, .null, .int 0, .int 0, .int 0, .int 0, .int 0, .int 0, .int 0, .int 0, .int 0, .int 0, .int 0, .ref w] ([inA 60, inA 60] : AH)) _ _ _
  refine wp_aload_0 dX6_init_25 rfl ?_
  refine wp_bipush 120 dX6_init_26 rfl rfl ?_
  refine wp_newarray1 (t := 0) (120, .inl (fun _ => 0)) dX6_init_28 rfl q286 rfl rfl (fun _ => rfl) (by decide) rfl (Nat.le_of_ble_eq_true rfl) (Nat.le_of_ble_eq_true rfl) (Nat.le_of_ble_eq_true rfl) ?_
  rw [iH_new, iH_len hm]
  change WP _ _ _ _ _ _ _ _ (.ref (M + 3) :: _) (iH 6 pre [.ref (M + 1), .ref (M + 2), .null, .null, .null, .int 0, .int 0, .int 0, .int 0, .int 0, .int 0, .int 0, .int 0, .int 0, .int 0, .int 0, .ref w] ([inA 60, inA 60, inA 120] : AH)) _ _ _
  refine wp_putfF dX6_init_30 rfl q588 fp6_2 rfl rfl (iH_at0 hm) rfl rfl (Nat.le_of_ble_eq_true rfl) (iH_set0 hm) ?_
  change WP _ _ _ _ _ _ _ _ _ (iH 6 pre [.ref (M + 1), .ref (M + 2), .ref (M + 3), .null, .null, .int 0, .int 0, .int 0, .int 0, .int 0, .int 0, .int 0, .int 0, .int 0, .int 0, .int 0, .ref w] ([inA 60, inA 60, inA 120] : AH)) _ _ _
  refine wp_aload_0 dX6_init_33 rfl ?_
  refine wp_bipush 120 dX6_init_34 rfl rfl ?_
  refine wp_newarray1 (t := 0) (120, .inl (fun _ => 0)) dX6_init_36 rfl q286 rfl rfl (fun _ => rfl) (by decide) rfl (Nat.le_of_ble_eq_true rfl) (Nat.le_of_ble_eq_true rfl) (Nat.le_of_ble_eq_true rfl) ?_
  rw [iH_new, iH_len hm]
  change WP _ _ _ _ _ _ _ _ (.ref (M + 4) :: _) (iH 6 pre [.ref (M + 1), .ref (M + 2), .ref (M + 3), .null, .null, .int 0, .int 0, .int 0, .int 0, .int 0, .int 0, .int 0, .int 0, .int 0, .int 0, .int 0, .ref w] ([inA 60, inA 60, inA 120, inA 120] : AH)) _ _ _
  refine wp_putfF dX6_init_38 rfl q590 fp6_3 rfl rfl (iH_at0 hm) rfl rfl (Nat.le_of_ble_eq_true rfl) (iH_set0 hm) ?_
  change WP _ _ _ _ _ _ _ _ _ (iH 6 pre [.ref (M + 1), .ref (M + 2), .ref (M + 3), .ref (M + 4), .null, .int 0, .int 0, .int 0, .int 0, .int 0, .int 0, .int 0, .int 0, .int 0, .int 0, .int 0, .ref w] ([inA 60, inA 60, inA 120, inA 120] : AH)) _ _ _
  exact wp_return dX6_init_41 rfl ⟨rfl, rfl⟩
theorem c_eInit {g : GW} {M : Nat} {pre : AH} (hm : pre.length = M) {w : Nat} : SPx g 2 26 2928 yX7_init cX7_init 2 none [.ref M, .ref w] (iH 7 pre [.null, .null, .null, .null, .null] []) none (iH 7 pre [.ref (M + 1), .ref (M + 14), .null, .null, .ref w] ((.inl (9, 12, .inr (.inr (cn_ 12 (M + 2)))) :: List.replicate 12 (inA 121)) ++ (.inl (9, 12, .inr (.inr (cn_ 12 (M + 15)))) :: List.replicate 12 (inA 121)) : AH)) := by
  refine SPx.intro [some (.ref M), some (.ref w)] (pfn (by decide)) rfl (Nat.le_of_ble_eq_true rfl) ?_
  refine wp_aload_0 dX7_init_0 rfl ?_
  refine wp_aload_1 dX7_init_1 rfl ?_
  refine wp_putfF dX7_init_2 rfl q660 fp7_4 rfl rfl (iH_at0 hm) rfl rfl (Nat.le_of_ble_eq_true rfl) (iH_set0 hm) ?_
  change WP _ _ _ _ _ _ _ _ _ (iH 7 pre [.null, .null, .null, .null, .ref w] ([] : AH)) _ _ _
  refine wp_aload_0 dX7_init_5 rfl ?_
  refine wp_oinit dX7_init_6 rfl q653 q_oi q_oc (Nat.le_of_ble_eq_true rfl) (Nat.le_of_ble_eq_true rfl) ?_
  refine wp_aload_0 dX7_init_9 rfl ?_
  refine wp_bipush 12 dX7_init_10 rfl rfl ?_
  refine wp_bipush 121 dX7_init_12 rfl rfl ?_
  refine wp_multi (ty := .int) (t1 := 9) (t2 := 0) (N := 12) (K := 121) (121, .inl (fun _ => 0)) dX7_init_14 rfl q654 (by decide +kernel) (by decide) q286 rfl rfl (fun _ _ h => h) (fun _ => rfl) (by decide) (by decide) rfl rfl (by decide) (by decide) (by decide) rfl rfl (Nat.le_of_ble_eq_true rfl) (Nat.le_of_ble_eq_true rfl) ?_
  rw [iH_app, iH_len hm]
  change WP _ _ _ _ _ _ _ _ (.ref (M + 1) :: _) (iH 7 pre [.null, .null, .null, .null, .ref w] ((.inl (9, 12, .inr (.inr (cn_ 12 (M + 2)))) :: List.replicate 12 (inA 121)) : AH)) _ _ _
  refine wp_putfF dX7_init_18 rfl q656 fp7_0 rfl rfl (iH_at0 hm) rfl rfl (Nat.le_of_ble_eq_true rfl) (iH_set0 hm) ?_
  change WP _ _ _ _ _ _ _ _ _ (iH 7 pre [.ref (M + 1), .null, .null, .null, .ref w] ((.inl (9, 12, .inr (.inr (cn_ 12 (M + 2)))) :: List.replicate 12 (inA 121)) : AH)) _ _ _
  refine wp_aload_0 dX7_init_21 rfl ?_
  refine wp_bipush 12 dX7_init_22 rfl rfl ?_
  refine wp_bipush 121 dX7_init_24 rfl rfl ?_
  refine wp_multi (ty := .int) (t1 := 9) (t2 := 0) (N := 12) (K := 121) (121, .inl (fun _ => 0)) dX7_init_26 rfl q654 (by decide +kernel) (by decide) q286 rfl rfl (fun _ _ h => h) (fun _ => rfl) (by decide) (by decide) rfl rfl (by decide) (by decide) (by decide) rfl rfl (Nat.le_of_ble_eq_true rfl) (Nat.le_of_ble_eq_true rfl) ?_
  rw [iH_app, iH_len hm]
  change WP _ _ _ _ _ _ _ _ (.ref (M + 14) :: _) (iH 7 pre [.ref (M + 1), .null, .null, .null, .ref w] ((.inl (9, 12, .inr (.inr (cn_ 12 (M + 2)))) :: List.replicate 12 (inA 121)) ++ (.inl (9, 12, .inr (.inr (cn_ 12 (M + 15)))) :: List.replicate 12 (inA 121)) : AH)) _ _ _
  refine wp_putfF dX7_init_30 rfl q657 fp7_1 rfl rfl (iH_at0 hm) rfl rfl (Nat.le_of_ble_eq_true rfl) (iH_set0 hm) ?_
  change WP _ _ _ _ _ _ _ _ _ (iH 7 pre [.ref (M + 1), .ref (M + 14), .null, .null, .ref w] ((.inl (9, 12, .inr (.inr (cn_ 12 (M + 2)))) :: List.replicate 12 (inA 121)) ++ (.inl (9, 12, .inr (.inr (cn_ 12 (M + 15)))) :: List.replicate 12 (inA 121)) : AH)) _ _ _
  exact wp_return dX7_init_33 rfl ⟨rfl, rfl⟩
theorem c_lInit {g : GW} {M : Nat} {pre : AH} (hm : pre.length = M) {w : Nat} : SPx g 2 26 336 yX8_init cX8_init 2 none [.ref M, .ref w] (iH 8 pre [.null, .null, .null] []) none (iH 8 pre [.ref (M + 1), .ref (M + 14), .ref w] ((.inl (10, 12, .inr (.inr (cn_ 12 (M + 2)))) :: List.replicate 12 (loA 13)) ++ (.inl (10, 12, .inr (.inr (cn_ 12 (M + 15)))) :: List.replicate 12 (loA 13)) : AH)) := by
  refine SPx.intro [some (.ref M), some (.ref w)] (pfn (by decide)) rfl (Nat.le_of_ble_eq_true rfl) ?_
  refine wp_aload_0 dX8_init_0 rfl ?_
  refine wp_aload_1 dX8_init_1 rfl ?_
  refine wp_putfF dX8_init_2 rfl q682 fp8_2 rfl rfl (iH_at0 hm) rfl rfl (Nat.le_of_ble_eq_true rfl) (iH_set0 hm) ?_
  change WP _ _ _ _ _ _ _ _ _ (iH 8 pre [.null, .null, .ref w] ([] : AH)) _ _ _
  refine wp_aload_0 dX8_init_5 rfl ?_
  refine wp_oinit dX8_init_6 rfl q677 q_oi q_oc (Nat.le_of_ble_eq_true rfl) (Nat.le_of_ble_eq_true rfl) ?_
  refine wp_aload_0 dX8_init_9 rfl ?_
  refine wp_bipush 12 dX8_init_10 rfl rfl ?_
  refine wp_bipush 13 dX8_init_12 rfl rfl ?_
  refine wp_multi (ty := .long) (t1 := 10) (t2 := 3) (N := 12) (K := 13) (13, .inr (.inl (fun _ => 0))) dX8_init_14 rfl q678 (by decide +kernel) (by decide) q287 rfl rfl (fun _ _ h => h) (fun _ => rfl) (by decide) (by decide) rfl rfl (by decide) (by decide) (by decide) rfl rfl (Nat.le_of_ble_eq_true rfl) (Nat.le_of_ble_eq_true rfl) ?_
  rw [iH_app, iH_len hm]
  change WP _ _ _ _ _ _ _ _ (.ref (M + 1) :: _) (iH 8 pre [.null, .null, .ref w] ((.inl (10, 12, .inr (.inr (cn_ 12 (M + 2)))) :: List.replicate 12 (loA 13)) : AH)) _ _ _
  refine wp_putfF dX8_init_18 rfl q680 fp8_0 rfl rfl (iH_at0 hm) rfl rfl (Nat.le_of_ble_eq_true rfl) (iH_set0 hm) ?_
  change WP _ _ _ _ _ _ _ _ _ (iH 8 pre [.ref (M + 1), .null, .ref w] ((.inl (10, 12, .inr (.inr (cn_ 12 (M + 2)))) :: List.replicate 12 (loA 13)) : AH)) _ _ _
  refine wp_aload_0 dX8_init_21 rfl ?_
  refine wp_bipush 12 dX8_init_22 rfl rfl ?_
  refine wp_bipush 13 dX8_init_24 rfl rfl ?_
  refine wp_multi (ty := .long) (t1 := 10) (t2 := 3) (N := 12) (K := 13) (13, .inr (.inl (fun _ => 0))) dX8_init_26 rfl q678 (by decide +kernel) (by decide) q287 rfl rfl (fun _ _ h => h) (fun _ => rfl) (by decide) (by decide) rfl rfl (by decide) (by decide) (by decide) rfl rfl (Nat.le_of_ble_eq_true rfl) (Nat.le_of_ble_eq_true rfl) ?_
  rw [iH_app, iH_len hm]
  change WP _ _ _ _ _ _ _ _ (.ref (M + 14) :: _) (iH 8 pre [.ref (M + 1), .null, .ref w] ((.inl (10, 12, .inr (.inr (cn_ 12 (M + 2)))) :: List.replicate 12 (loA 13)) ++ (.inl (10, 12, .inr (.inr (cn_ 12 (M + 15)))) :: List.replicate 12 (loA 13)) : AH)) _ _ _
  refine wp_putfF dX8_init_30 rfl q681 fp8_1 rfl rfl (iH_at0 hm) rfl rfl (Nat.le_of_ble_eq_true rfl) (iH_set0 hm) ?_
  change WP _ _ _ _ _ _ _ _ _ (iH 8 pre [.ref (M + 1), .ref (M + 14), .ref w] ((.inl (10, 12, .inr (.inr (cn_ 12 (M + 2)))) :: List.replicate 12 (loA 13)) ++ (.inl (10, 12, .inr (.inr (cn_ 12 (M + 15)))) :: List.replicate 12 (loA 13)) : AH)) _ _ _
  exact wp_return dX8_init_33 rfl ⟨rfl, rfl⟩
theorem c_oInit {g : GW} {M : Nat} {pre : AH} (hm : pre.length = M) {w : Nat} : SPx g 2 1 60 yX9_init cX9_init 2 none [.ref M, .ref w] (iH 9 pre [.null, .int 0, .int 0, .int 0, .null] []) none (iH 9 pre [.ref (M + 1), .int 0, .int 0, .int 0, .ref w] ([inA 60] : AH)) := by
  refine SPx.intro [some (.ref M), some (.ref w)] (pfn (by decide)) rfl (Nat.le_of_ble_eq_true rfl) ?_
  refine wp_aload_0 dX9_init_0 rfl ?_
  refine wp_aload_1 dX9_init_1 rfl ?_
  refine wp_putfF dX9_init_2 rfl q703 fp9_4 rfl rfl (iH_at0 hm) rfl rfl (Nat.le_of_ble_eq_true rfl) (iH_set0 hm) ?_
  change WP _ _ _ _ _ _ _ _ _ (iH 9 pre [.null, .int 0, .int 0, .int 0, .ref w] ([] : AH)) _ _ _
  refine wp_aload_0 dX9_init_5 rfl ?_
  refine wp_oinit dX9_init_6 rfl q695 q_oi q_oc (Nat.le_of_ble_eq_true rfl) (Nat.le_of_ble_eq_true rfl) ?_
  refine wp_aload_0 dX9_init_9 rfl ?_
  refine wp_bipush 60 dX9_init_10 rfl rfl ?_
  refine wp_newarray1 (t := 0) (60, .inl (fun _ => 0)) dX9_init_12 rfl q286 rfl rfl (fun _ => rfl) (by decide) rfl (Nat.le_of_ble_eq_true rfl) (Nat.le_of_ble_eq_true rfl) (Nat.le_of_ble_eq_true rfl) ?_
  rw [iH_new, iH_len hm]
  change WP _ _ _ _ _ _ _ _ (.ref (M + 1) :: _) (iH 9 pre [.null, .int 0, .int 0, .int 0, .ref w] ([inA 60] : AH)) _ _ _
  refine wp_putfF dX9_init_14 rfl q696 fp9_0 rfl rfl (iH_at0 hm) rfl rfl (Nat.le_of_ble_eq_true rfl) (iH_set0 hm) ?_
  change WP _ _ _ _ _ _ _ _ _ (iH 9 pre [.ref (M + 1), .int 0, .int 0, .int 0, .ref w] ([inA 60] : AH)) _ _ _
  exact wp_return dX9_init_17 rfl ⟨rfl, rfl⟩
theorem c_sInit {g : GW} {h : AH} {a : Nat} (ha : h[a]? = some (.inr (1, [.null])))  : SPx g 2 0 0 yX1_init cX1_init 1 none [.ref a] h none h := by
  refine SPx.intro [some (.ref a)] (pfn (by decide)) rfl (Nat.le_of_ble_eq_true rfl) ?_
  refine wp_aload_0 dX1_init_0 rfl ?_
  refine wp_oinit dX1_init_1 rfl q394 q_oi q_oc (Nat.le_of_ble_eq_true rfl) (Nat.le_of_ble_eq_true rfl) ?_
  exact wp_return dX1_init_4 rfl ⟨rfl, rfl⟩
