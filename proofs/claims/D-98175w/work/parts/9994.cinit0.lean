/-! ===== the class made: all of it ===== -/
set_option maxRecDepth 100000
theorem slots_eq : va_up (va_up (va_up (va_up (fun _ => none) 0 (some 2)) 1 (some 3)) 2 (some 4)) 3 (some 5) = cn_ 4 2 := by
  funext i
  match i with
  | 0 => rfl
  | 1 => rfl
  | 2 => rfl
  | 3 => rfl
  | n + 4 => rfl
def sA0 : AH := [.inl (5, 4, .inr (.inr (cn_ 4 2))), .inr (1, [.null]), .inr (1, [.null]), .inr (1, [.null]), .inr (1, [.null])]
def cI : AH := iH 0 [] [.ref 1, .ref 6, .ref 13, .ref 14, .int 0, .int 0, .int (-1), .ref 15, .ref 19, .ref 24, .ref 29, .ref 56, .ref 83] (((((((((sA0 ++ bNew 6) ++ [.inl (7, 3, .inr (.inr (fun _ => none)))]) ++ [.inl (1, 1200, .inl (fun _ => 0))]) ++ (.inr (4, [.ref (15 + 1), .ref (15 + 2), .ref (15 + 3), .int 0, .ref 0, .ref 0]) :: ([mlA, inA 60, inA 60] : AH))) ++ (.inr (5, [.ref (19 + 1), .ref (19 + 2), .ref (19 + 3), .int 0, .ref 0, .ref (19 + 4), .int 0, .long 0, .ref 0]) :: ([mlA, inA 60, inA 60, inA 60] : AH))) ++ (.inr (6, [.ref (24 + 1), .ref (24 + 2), .ref (24 + 3), .ref (24 + 4), .null, .int 0, .int 0, .int 0, .int 0, .int 0, .int 0, .int 0, .int 0, .int 0, .int 0, .int 0, .ref 0]) :: ([inA 60, inA 60, inA 120, inA 120] : AH))) ++ (.inr (7, [.ref (29 + 1), .ref (29 + 14), .null, .null, .ref 0]) :: ((.inl (9, 12, .inr (.inr (cn_ 12 (29 + 2)))) :: List.replicate 12 (inA 121)) ++ (.inl (9, 12, .inr (.inr (cn_ 12 (29 + 15)))) :: List.replicate 12 (inA 121)) : AH))) ++ (.inr (8, [.ref (56 + 1), .ref (56 + 14), .ref 0]) :: ((.inl (10, 12, .inr (.inr (cn_ 12 (56 + 2)))) :: List.replicate 12 (loA 13)) ++ (.inl (10, 12, .inr (.inr (cn_ 12 (56 + 15)))) :: List.replicate 12 (loA 13)) : AH))) ++ (.inr (9, [.ref (83 + 1), .int 0, .int 0, .int 0, .ref 0]) :: ([inA 60] : AH)))
theorem c_init {g : GW}  : SPx g 8 90 6000 yX0_init cX0_init 1 none [.ref 0] (iH 0 [] [.null, .null, .null, .null, .int 0, .int 0, .int 0, .null, .null, .null, .null, .null, .null] []) none cI := by
  refine SPx.intro [some (.ref 0)] (pfn (by decide)) rfl (Nat.le_of_ble_eq_true rfl) ?_
  refine wp_aload_0 dX0_init_0 rfl ?_
  refine wp_oinit dX0_init_1 rfl q388 q_oi q_oc (Nat.le_of_ble_eq_true rfl) (Nat.le_of_ble_eq_true rfl) ?_
  refine wp_aload_0 dX0_init_4 rfl ?_
  refine wp_iconst 4 dX0_init_5 rfl rfl ?_
  refine wp_anewarray1 (t := 5) dX0_init_6 rfl q389 (by decide) rfl (by decide) rfl (Nat.le_of_ble_eq_true rfl) (Nat.le_of_ble_eq_true rfl) (Nat.le_of_ble_eq_true rfl) ?_
  rw [iH_new]
  change WP g 8 _ _ _ _ _ _ (.ref 1 :: _) (iH 0 [] [.null, .null, .null, .null, .int 0, .int 0, .int 0, .null, .null, .null, .null, .null, .null] ([.inl (5, 4, .inr (.inr (fun _ => none)))] : AH)) _ _ _
  refine wp_dup dX0_init_9 rfl rfl ?_
  refine wp_iconst 0 dX0_init_10 rfl rfl ?_
  refine wp_new1 dX0_init_11 rfl q389 nw1 (Nat.le_of_ble_eq_true rfl) (Nat.le_of_ble_eq_true rfl) ?_
  rw [iH_new]
  change WP g 8 _ _ _ _ _ _ (.ref 2 :: _) (iH 0 [] [.null, .null, .null, .null, .int 0, .int 0, .int 0, .null, .null, .null, .null, .null, .null] ([.inl (5, 4, .inr (.inr (fun _ => none))), .inr (1, [.null])] : AH)) _ _ _
  refine wp_dup dX0_init_14 rfl rfl ?_
  refine wp_INx0 dX0_init_15 rfl q391 mi_X1_init (c_sInit (h := iH 0 [] [.null, .null, .null, .null, .int 0, .int 0, .int 0, .null, .null, .null, .null, .null, .null] ([.inl (5, 4, .inr (.inr (fun _ => none))), .inr (1, [.null])] : AH)) (a := 2) rfl) rfl rfl (Nat.le_of_ble_eq_true rfl) (Nat.le_of_ble_eq_true rfl) (Nat.zero_le _) (Nat.zero_le _) ?_
  refine wp_aastore 0 dX0_init_18 rfl rfl  rfl (iH_at (j := 0) rfl rfl) (iH_at (M := 0) (j := 1) rfl rfl) rfl (vp_in_nI (show 0 < 4 by omega) (by omega)) (iH_set (M := 0) (j := 0) rfl) ?_
  change WP g 8 _ _ _ _ _ _ _ (iH 0 [] [.null, .null, .null, .null, .int 0, .int 0, .int 0, .null, .null, .null, .null, .null, .null] ([.inl (5, 4, .inr (.inr (va_up (fun _ => none) 0 (some 2)))), .inr (1, [.null])] : AH)) _ _ _
  refine wp_dup dX0_init_19 rfl rfl ?_
  refine wp_iconst 1 dX0_init_20 rfl rfl ?_
  refine wp_new1 dX0_init_21 rfl q389 nw1 (Nat.le_of_ble_eq_true rfl) (Nat.le_of_ble_eq_true rfl) ?_
  rw [iH_new]
  change WP g 8 _ _ _ _ _ _ (.ref 3 :: _) (iH 0 [] [.null, .null, .null, .null, .int 0, .int 0, .int 0, .null, .null, .null, .null, .null, .null] ([.inl (5, 4, .inr (.inr (va_up (fun _ => none) 0 (some 2)))), .inr (1, [.null]), .inr (1, [.null])] : AH)) _ _ _
  refine wp_dup dX0_init_24 rfl rfl ?_
  refine wp_INx0 dX0_init_25 rfl q391 mi_X1_init (c_sInit (h := iH 0 [] [.null, .null, .null, .null, .int 0, .int 0, .int 0, .null, .null, .null, .null, .null, .null] ([.inl (5, 4, .inr (.inr (va_up (fun _ => none) 0 (some 2)))), .inr (1, [.null]), .inr (1, [.null])] : AH)) (a := 3) rfl) rfl rfl (Nat.le_of_ble_eq_true rfl) (Nat.le_of_ble_eq_true rfl) (Nat.zero_le _) (Nat.zero_le _) ?_
  refine wp_aastore 1 dX0_init_28 rfl rfl  rfl (iH_at (j := 0) rfl rfl) (iH_at (M := 0) (j := 2) rfl rfl) rfl (vp_in_nI (show 1 < 4 by omega) (by omega)) (iH_set (M := 0) (j := 0) rfl) ?_
  change WP g 8 _ _ _ _ _ _ _ (iH 0 [] [.null, .null, .null, .null, .int 0, .int 0, .int 0, .null, .null, .null, .null, .null, .null] ([.inl (5, 4, .inr (.inr (va_up (va_up (fun _ => none) 0 (some 2)) 1 (some 3)))), .inr (1, [.null]), .inr (1, [.null])] : AH)) _ _ _
  refine wp_dup dX0_init_29 rfl rfl ?_
  refine wp_iconst 2 dX0_init_30 rfl rfl ?_
  refine wp_new1 dX0_init_31 rfl q389 nw1 (Nat.le_of_ble_eq_true rfl) (Nat.le_of_ble_eq_true rfl) ?_
  rw [iH_new]
  change WP g 8 _ _ _ _ _ _ (.ref 4 :: _) (iH 0 [] [.null, .null, .null, .null, .int 0, .int 0, .int 0, .null, .null, .null, .null, .null, .null] ([.inl (5, 4, .inr (.inr (va_up (va_up (fun _ => none) 0 (some 2)) 1 (some 3)))), .inr (1, [.null]), .inr (1, [.null]), .inr (1, [.null])] : AH)) _ _ _
  refine wp_dup dX0_init_34 rfl rfl ?_
  refine wp_INx0 dX0_init_35 rfl q391 mi_X1_init (c_sInit (h := iH 0 [] [.null, .null, .null, .null, .int 0, .int 0, .int 0, .null, .null, .null, .null, .null, .null] ([.inl (5, 4, .inr (.inr (va_up (va_up (fun _ => none) 0 (some 2)) 1 (some 3)))), .inr (1, [.null]), .inr (1, [.null]), .inr (1, [.null])] : AH)) (a := 4) rfl) rfl rfl (Nat.le_of_ble_eq_true rfl) (Nat.le_of_ble_eq_true rfl) (Nat.zero_le _) (Nat.zero_le _) ?_
  refine wp_aastore 2 dX0_init_38 rfl rfl  rfl (iH_at (j := 0) rfl rfl) (iH_at (M := 0) (j := 3) rfl rfl) rfl (vp_in_nI (show 2 < 4 by omega) (by omega)) (iH_set (M := 0) (j := 0) rfl) ?_
  change WP g 8 _ _ _ _ _ _ _ (iH 0 [] [.null, .null, .null, .null, .int 0, .int 0, .int 0, .null, .null, .null, .null, .null, .null] ([.inl (5, 4, .inr (.inr (va_up (va_up (va_up (fun _ => none) 0 (some 2)) 1 (some 3)) 2 (some 4)))), .inr (1, [.null]), .inr (1, [.null]), .inr (1, [.null])] : AH)) _ _ _
  refine wp_dup dX0_init_39 rfl rfl ?_
  refine wp_iconst 3 dX0_init_40 rfl rfl ?_
  refine wp_new1 dX0_init_41 rfl q389 nw1 (Nat.le_of_ble_eq_true rfl) (Nat.le_of_ble_eq_true rfl) ?_
  rw [iH_new]
  change WP g 8 _ _ _ _ _ _ (.ref 5 :: _) (iH 0 [] [.null, .null, .null, .null, .int 0, .int 0, .int 0, .null, .null, .null, .null, .null, .null] ([.inl (5, 4, .inr (.inr (va_up (va_up (va_up (fun _ => none) 0 (some 2)) 1 (some 3)) 2 (some 4)))), .inr (1, [.null]), .inr (1, [.null]), .inr (1, [.null]), .inr (1, [.null])] : AH)) _ _ _
  refine wp_dup dX0_init_44 rfl rfl ?_
  refine wp_INx0 dX0_init_45 rfl q391 mi_X1_init (c_sInit (h := iH 0 [] [.null, .null, .null, .null, .int 0, .int 0, .int 0, .null, .null, .null, .null, .null, .null] ([.inl (5, 4, .inr (.inr (va_up (va_up (va_up (fun _ => none) 0 (some 2)) 1 (some 3)) 2 (some 4)))), .inr (1, [.null]), .inr (1, [.null]), .inr (1, [.null]), .inr (1, [.null])] : AH)) (a := 5) rfl) rfl rfl (Nat.le_of_ble_eq_true rfl) (Nat.le_of_ble_eq_true rfl) (Nat.zero_le _) (Nat.zero_le _) ?_
  refine wp_aastore 3 dX0_init_48 rfl rfl  rfl (iH_at (j := 0) rfl rfl) (iH_at (M := 0) (j := 4) rfl rfl) rfl (vp_in_nI (show 3 < 4 by omega) (by omega)) (iH_set (M := 0) (j := 0) rfl) ?_
  change WP g 8 _ _ _ _ _ _ _ (iH 0 [] [.null, .null, .null, .null, .int 0, .int 0, .int 0, .null, .null, .null, .null, .null, .null] ([.inl (5, 4, .inr (.inr (va_up (va_up (va_up (va_up (fun _ => none) 0 (some 2)) 1 (some 3)) 2 (some 4)) 3 (some 5)))), .inr (1, [.null]), .inr (1, [.null]), .inr (1, [.null]), .inr (1, [.null])] : AH)) _ _ _
  rw [slots_eq]
  change WP g 8 _ _ _ _ _ _ _ (iH 0 [] [.null, .null, .null, .null, .int 0, .int 0, .int 0, .null, .null, .null, .null, .null, .null] sA0) _ _ _
  refine wp_putfF dX0_init_49 rfl q715 fp0_0 rfl rfl (iH_at0 rfl) rfl rfl (Nat.le_of_ble_eq_true rfl) (iH_set0 rfl) ?_
  change WP g 8 _ _ _ _ _ _ _ (iH 0 [] [.ref 1, .null, .null, .null, .int 0, .int 0, .int 0, .null, .null, .null, .null, .null, .null] sA0) _ _ _
  refine wp_aload_0 dX0_init_52 rfl ?_
  refine wp_new1 dX0_init_53 rfl q400 nw2 (Nat.le_of_ble_eq_true rfl) (Nat.le_of_ble_eq_true rfl) ?_
  rw [iH_len rfl, show sA0.length = 5 from rfl]
  change WP g 8 _ _ _ _ _ _ (.ref 6 :: _) (iH 0 [] [.ref 1, .null, .null, .null, .int 0, .int 0, .int 0, .null, .null, .null, .null, .null, .null] sA0 ++ [.inr (2, [.null, .null, .null, .null, .int 0, .int 0, .int 0, .int 0, .int 0, .int 0, .int 0, .int 0, .int 0, .int 0])]) _ _ _
  refine wp_dup dX0_init_56 rfl rfl ?_
  refine wp_INx0 dX0_init_57 rfl q402 mi_X2_init (c_bInit (pre := iH 0 [] [.ref 1, .null, .null, .null, .int 0, .int 0, .int 0, .null, .null, .null, .null, .null, .null] sA0) (M := 6) rfl) rfl rfl (Nat.le_of_ble_eq_true rfl) (Nat.le_of_ble_eq_true rfl) (Nat.le_of_ble_eq_true rfl) (Nat.le_of_ble_eq_true rfl) ?_
  rw [iH_app]
  obtain ⟨B1, hB1⟩ : ∃ z : AH, z = sA0 ++ bNew 6 := ⟨_, rfl⟩
  rw [← hB1]
  have hlB1 : B1.length = 12 := by rw [hB1, List.length_append, show sA0.length = 5 from rfl]; rfl
  refine wp_putf dX0_init_60 rfl q721 fp0_1 (iH_at0 rfl) rfl rfl (Nat.le_of_ble_eq_true rfl) (iH_set0 rfl) ?_
  change WP g 8 _ _ _ _ _ _ _ (iH 0 [] [.ref 1, .ref 6, .null, .null, .int 0, .int 0, .int 0, .null, .null, .null, .null, .null, .null] B1) _ _ _
  refine wp_aload_0 dX0_init_63 rfl ?_
  refine wp_iconst 3 dX0_init_64 rfl rfl ?_
  refine wp_anewarray1 (t := 7) dX0_init_65 rfl q400 (by decide) rfl (by decide) rfl (Nat.le_of_ble_eq_true rfl) (Nat.le_of_ble_eq_true rfl) (Nat.le_of_ble_eq_true rfl) ?_
  rw [iH_len rfl, hlB1]
  rw [iH_app]
  change WP g 8 _ _ _ _ _ _ (.ref 13 :: _) (iH 0 [] [.ref 1, .ref 6, .null, .null, .int 0, .int 0, .int 0, .null, .null, .null, .null, .null, .null] (B1 ++ [.inl (7, 3, .inr (.inr (fun _ => none)))])) _ _ _
  obtain ⟨B2, hB2⟩ : ∃ z : AH, z = B1 ++ [.inl (7, 3, .inr (.inr (fun _ => none)))] := ⟨_, rfl⟩
  rw [← hB2]
  have hlB2 : B2.length = 13 := by rw [hB2, List.length_append, hlB1]; rfl
  refine wp_putfF dX0_init_68 rfl q722 fp0_2 rfl rfl (iH_at0 rfl) rfl rfl (Nat.le_of_ble_eq_true rfl) (iH_set0 rfl) ?_
  change WP g 8 _ _ _ _ _ _ _ (iH 0 [] [.ref 1, .ref 6, .ref 13, .null, .int 0, .int 0, .int 0, .null, .null, .null, .null, .null, .null] B2) _ _ _
  refine wp_aload_0 dX0_init_71 rfl ?_
  refine wp_sipush 1200 dX0_init_72 rfl rfl ?_
  refine wp_newarray1 (t := 1) (1200, .inl (fun _ => 0)) dX0_init_75 rfl q280 rfl rfl (fun _ => rfl) (by decide) rfl (Nat.le_of_ble_eq_true rfl) (Nat.le_of_ble_eq_true rfl) (Nat.le_of_ble_eq_true rfl) ?_
  rw [iH_len rfl, hlB2]
  rw [iH_app]
  change WP g 8 _ _ _ _ _ _ (.ref 14 :: _) (iH 0 [] [.ref 1, .ref 6, .ref 13, .null, .int 0, .int 0, .int 0, .null, .null, .null, .null, .null, .null] (B2 ++ [.inl (1, 1200, .inl (fun _ => 0))])) _ _ _
  obtain ⟨B3, hB3⟩ : ∃ z : AH, z = B2 ++ [.inl (1, 1200, .inl (fun _ => 0))] := ⟨_, rfl⟩
  rw [← hB3]
  have hlB3 : B3.length = 14 := by rw [hB3, List.length_append, hlB2]; rfl
  refine wp_putfF dX0_init_77 rfl q723 fp0_3 rfl rfl (iH_at0 rfl) rfl rfl (Nat.le_of_ble_eq_true rfl) (iH_set0 rfl) ?_
  change WP g 8 _ _ _ _ _ _ _ (iH 0 [] [.ref 1, .ref 6, .ref 13, .ref 14, .int 0, .int 0, .int 0, .null, .null, .null, .null, .null, .null] B3) _ _ _
  refine wp_aload_0 dX0_init_80 rfl ?_
  refine wp_iconst (-1) dX0_init_81 rfl rfl ?_
  refine wp_putf dX0_init_82 rfl q726 fp0_6 (iH_at0 rfl) rfl rfl (Nat.le_of_ble_eq_true rfl) (iH_set0 rfl) ?_
  change WP g 8 _ _ _ _ _ _ _ (iH 0 [] [.ref 1, .ref 6, .ref 13, .ref 14, .int 0, .int 0, .int (-1), .null, .null, .null, .null, .null, .null] B3) _ _ _
  refine wp_aload_0 dX0_init_85 rfl ?_
  refine wp_new1 dX0_init_86 rfl q509 nw4 (Nat.le_of_ble_eq_true rfl) (Nat.le_of_ble_eq_true rfl) ?_
  rw [iH_len rfl, hlB3]
  change WP g 8 _ _ _ _ _ _ (.ref 15 :: _) (iH 4 (iH 0 [] [.ref 1, .ref 6, .ref 13, .ref 14, .int 0, .int 0, .int (-1), .null, .null, .null, .null, .null, .null] B3) [.null, .null, .null, .int 0, .null, .null] []) _ _ _
  refine wp_dup dX0_init_89 rfl rfl ?_
  refine wp_aload_0 dX0_init_90 rfl ?_
  refine wp_INx0 dX0_init_91 rfl q511 mi_X4_init (c_dInit (M := 15) (pre := iH 0 [] [.ref 1, .ref 6, .ref 13, .ref 14, .int 0, .int 0, .int (-1), .null, .null, .null, .null, .null, .null] B3) (w := 0) (by rw [iH_len rfl, hlB3]; rfl)) rfl rfl (Nat.le_of_ble_eq_true rfl) (Nat.le_of_ble_eq_true rfl) (Nat.le_of_ble_eq_true rfl) (Nat.le_of_ble_eq_true rfl) ?_
  change WP g 8 _ _ _ _ _ _ _ (iH 0 [] [.ref 1, .ref 6, .ref 13, .ref 14, .int 0, .int 0, .int (-1), .null, .null, .null, .null, .null, .null] B3 ++ (.inr (4, [.ref (15 + 1), .ref (15 + 2), .ref (15 + 3), .int 0, .ref 0, .ref 0]) :: ([mlA, inA 60, inA 60] : AH))) _ _ _
  rw [iH_app]
  obtain ⟨B4, hB4⟩ : ∃ z : AH, z = B3 ++ (.inr (4, [.ref (15 + 1), .ref (15 + 2), .ref (15 + 3), .int 0, .ref 0, .ref 0]) :: ([mlA, inA 60, inA 60] : AH)) := ⟨_, rfl⟩
  rw [← hB4]
  have hlB4 : B4.length = 18 := by rw [hB4, List.length_append, hlB3]; rfl
  refine wp_putfF dX0_init_94 rfl q727 fp0_7 rfl rfl (iH_at0 rfl) rfl rfl (Nat.le_of_ble_eq_true rfl) (iH_set0 rfl) ?_
  change WP g 8 _ _ _ _ _ _ _ (iH 0 [] [.ref 1, .ref 6, .ref 13, .ref 14, .int 0, .int 0, .int (-1), .ref 15, .null, .null, .null, .null, .null] B4) _ _ _
  refine wp_aload_0 dX0_init_97 rfl ?_
  refine wp_new1 dX0_init_98 rfl q554 nw5 (Nat.le_of_ble_eq_true rfl) (Nat.le_of_ble_eq_true rfl) ?_
  rw [iH_len rfl, hlB4]
  change WP g 8 _ _ _ _ _ _ (.ref 19 :: _) (iH 5 (iH 0 [] [.ref 1, .ref 6, .ref 13, .ref 14, .int 0, .int 0, .int (-1), .ref 15, .null, .null, .null, .null, .null] B4) [.null, .null, .null, .int 0, .null, .null, .int 0, .long 0, .null] []) _ _ _
  refine wp_dup dX0_init_101 rfl rfl ?_
  refine wp_aload_0 dX0_init_102 rfl ?_
  refine wp_INx0 dX0_init_103 rfl q556 mi_X5_init (c_nInit (M := 19) (pre := iH 0 [] [.ref 1, .ref 6, .ref 13, .ref 14, .int 0, .int 0, .int (-1), .ref 15, .null, .null, .null, .null, .null] B4) (w := 0) (by rw [iH_len rfl, hlB4]; rfl)) rfl rfl (Nat.le_of_ble_eq_true rfl) (Nat.le_of_ble_eq_true rfl) (Nat.le_of_ble_eq_true rfl) (Nat.le_of_ble_eq_true rfl) ?_
  change WP g 8 _ _ _ _ _ _ _ (iH 0 [] [.ref 1, .ref 6, .ref 13, .ref 14, .int 0, .int 0, .int (-1), .ref 15, .null, .null, .null, .null, .null] B4 ++ (.inr (5, [.ref (19 + 1), .ref (19 + 2), .ref (19 + 3), .int 0, .ref 0, .ref (19 + 4), .int 0, .long 0, .ref 0]) :: ([mlA, inA 60, inA 60, inA 60] : AH))) _ _ _
  rw [iH_app]
  obtain ⟨B5, hB5⟩ : ∃ z : AH, z = B4 ++ (.inr (5, [.ref (19 + 1), .ref (19 + 2), .ref (19 + 3), .int 0, .ref 0, .ref (19 + 4), .int 0, .long 0, .ref 0]) :: ([mlA, inA 60, inA 60, inA 60] : AH)) := ⟨_, rfl⟩
  rw [← hB5]
  have hlB5 : B5.length = 23 := by rw [hB5, List.length_append, hlB4]; rfl
  refine wp_putfF dX0_init_106 rfl q728 fp0_8 rfl rfl (iH_at0 rfl) rfl rfl (Nat.le_of_ble_eq_true rfl) (iH_set0 rfl) ?_
  change WP g 8 _ _ _ _ _ _ _ (iH 0 [] [.ref 1, .ref 6, .ref 13, .ref 14, .int 0, .int 0, .int (-1), .ref 15, .ref 19, .null, .null, .null, .null] B5) _ _ _
  refine wp_aload_0 dX0_init_109 rfl ?_
  refine wp_new1 dX0_init_110 rfl q578 nw6 (Nat.le_of_ble_eq_true rfl) (Nat.le_of_ble_eq_true rfl) ?_
  rw [iH_len rfl, hlB5]
  change WP g 8 _ _ _ _ _ _ (.ref 24 :: _) (iH 6 (iH 0 [] [.ref 1, .ref 6, .ref 13, .ref 14, .int 0, .int 0, .int (-1), .ref 15, .ref 19, .null, .null, .null, .null] B5) [.null, .null, .null, .null, .null, .int 0, .int 0, .int 0, .int 0, .int 0, .int 0, .int 0, .int 0, .int 0, .int 0, .int 0, .null] []) _ _ _
  refine wp_dup dX0_init_113 rfl rfl ?_
  refine wp_aload_0 dX0_init_114 rfl ?_
  refine wp_INx0 dX0_init_115 rfl q580 mi_X6_init (c_rInit (M := 24) (pre := iH 0 [] [.ref 1, .ref 6, .ref 13, .ref 14, .int 0, .int 0, .int (-1), .ref 15, .ref 19, .null, .null, .null, .null] B5) (w := 0) (by rw [iH_len rfl, hlB5]; rfl)) rfl rfl (Nat.le_of_ble_eq_true rfl) (Nat.le_of_ble_eq_true rfl) (Nat.le_of_ble_eq_true rfl) (Nat.le_of_ble_eq_true rfl) ?_
  change WP g 8 _ _ _ _ _ _ _ (iH 0 [] [.ref 1, .ref 6, .ref 13, .ref 14, .int 0, .int 0, .int (-1), .ref 15, .ref 19, .null, .null, .null, .null] B5 ++ (.inr (6, [.ref (24 + 1), .ref (24 + 2), .ref (24 + 3), .ref (24 + 4), .null, .int 0, .int 0, .int 0, .int 0, .int 0, .int 0, .int 0, .int 0, .int 0, .int 0, .int 0, .ref 0]) :: ([inA 60, inA 60, inA 120, inA 120] : AH))) _ _ _
  rw [iH_app]
  obtain ⟨B6, hB6⟩ : ∃ z : AH, z = B5 ++ (.inr (6, [.ref (24 + 1), .ref (24 + 2), .ref (24 + 3), .ref (24 + 4), .null, .int 0, .int 0, .int 0, .int 0, .int 0, .int 0, .int 0, .int 0, .int 0, .int 0, .int 0, .ref 0]) :: ([inA 60, inA 60, inA 120, inA 120] : AH)) := ⟨_, rfl⟩
  rw [← hB6]
  have hlB6 : B6.length = 28 := by rw [hB6, List.length_append, hlB5]; rfl
  refine wp_putfF dX0_init_118 rfl q729 fp0_9 rfl rfl (iH_at0 rfl) rfl rfl (Nat.le_of_ble_eq_true rfl) (iH_set0 rfl) ?_
  change WP g 8 _ _ _ _ _ _ _ (iH 0 [] [.ref 1, .ref 6, .ref 13, .ref 14, .int 0, .int 0, .int (-1), .ref 15, .ref 19, .ref 24, .null, .null, .null] B6) _ _ _
  refine wp_aload_0 dX0_init_121 rfl ?_
  refine wp_new1 dX0_init_122 rfl q648 nw7 (Nat.le_of_ble_eq_true rfl) (Nat.le_of_ble_eq_true rfl) ?_
  rw [iH_len rfl, hlB6]
  change WP g 8 _ _ _ _ _ _ (.ref 29 :: _) (iH 7 (iH 0 [] [.ref 1, .ref 6, .ref 13, .ref 14, .int 0, .int 0, .int (-1), .ref 15, .ref 19, .ref 24, .null, .null, .null] B6) [.null, .null, .null, .null, .null] []) _ _ _
  refine wp_dup dX0_init_125 rfl rfl ?_
  refine wp_aload_0 dX0_init_126 rfl ?_
  refine wp_INx0 dX0_init_127 rfl q650 mi_X7_init (c_eInit (M := 29) (pre := iH 0 [] [.ref 1, .ref 6, .ref 13, .ref 14, .int 0, .int 0, .int (-1), .ref 15, .ref 19, .ref 24, .null, .null, .null] B6) (w := 0) (by rw [iH_len rfl, hlB6]; rfl)) rfl rfl (Nat.le_of_ble_eq_true rfl) (Nat.le_of_ble_eq_true rfl) (Nat.le_of_ble_eq_true rfl) (Nat.le_of_ble_eq_true rfl) ?_
  change WP g 8 _ _ _ _ _ _ _ (iH 0 [] [.ref 1, .ref 6, .ref 13, .ref 14, .int 0, .int 0, .int (-1), .ref 15, .ref 19, .ref 24, .null, .null, .null] B6 ++ (.inr (7, [.ref (29 + 1), .ref (29 + 14), .null, .null, .ref 0]) :: ((.inl (9, 12, .inr (.inr (cn_ 12 (29 + 2)))) :: List.replicate 12 (inA 121)) ++ (.inl (9, 12, .inr (.inr (cn_ 12 (29 + 15)))) :: List.replicate 12 (inA 121)) : AH))) _ _ _
  rw [iH_app]
  obtain ⟨B7, hB7⟩ : ∃ z : AH, z = B6 ++ (.inr (7, [.ref (29 + 1), .ref (29 + 14), .null, .null, .ref 0]) :: ((.inl (9, 12, .inr (.inr (cn_ 12 (29 + 2)))) :: List.replicate 12 (inA 121)) ++ (.inl (9, 12, .inr (.inr (cn_ 12 (29 + 15)))) :: List.replicate 12 (inA 121)) : AH)) := ⟨_, rfl⟩
  rw [← hB7]
  have hlB7 : B7.length = 55 := by rw [hB7, List.length_append, hlB6]; rfl
  refine wp_putfF dX0_init_130 rfl q730 fp0_10 rfl rfl (iH_at0 rfl) rfl rfl (Nat.le_of_ble_eq_true rfl) (iH_set0 rfl) ?_
  change WP g 8 _ _ _ _ _ _ _ (iH 0 [] [.ref 1, .ref 6, .ref 13, .ref 14, .int 0, .int 0, .int (-1), .ref 15, .ref 19, .ref 24, .ref 29, .null, .null] B7) _ _ _
  refine wp_aload_0 dX0_init_133 rfl ?_
  refine wp_new1 dX0_init_134 rfl q672 nw8 (Nat.le_of_ble_eq_true rfl) (Nat.le_of_ble_eq_true rfl) ?_
  rw [iH_len rfl, hlB7]
  change WP g 8 _ _ _ _ _ _ (.ref 56 :: _) (iH 8 (iH 0 [] [.ref 1, .ref 6, .ref 13, .ref 14, .int 0, .int 0, .int (-1), .ref 15, .ref 19, .ref 24, .ref 29, .null, .null] B7) [.null, .null, .null] []) _ _ _
  refine wp_dup dX0_init_137 rfl rfl ?_
  refine wp_aload_0 dX0_init_138 rfl ?_
  refine wp_INx0 dX0_init_139 rfl q674 mi_X8_init (c_lInit (M := 56) (pre := iH 0 [] [.ref 1, .ref 6, .ref 13, .ref 14, .int 0, .int 0, .int (-1), .ref 15, .ref 19, .ref 24, .ref 29, .null, .null] B7) (w := 0) (by rw [iH_len rfl, hlB7]; rfl)) rfl rfl (Nat.le_of_ble_eq_true rfl) (Nat.le_of_ble_eq_true rfl) (Nat.le_of_ble_eq_true rfl) (Nat.le_of_ble_eq_true rfl) ?_
  change WP g 8 _ _ _ _ _ _ _ (iH 0 [] [.ref 1, .ref 6, .ref 13, .ref 14, .int 0, .int 0, .int (-1), .ref 15, .ref 19, .ref 24, .ref 29, .null, .null] B7 ++ (.inr (8, [.ref (56 + 1), .ref (56 + 14), .ref 0]) :: ((.inl (10, 12, .inr (.inr (cn_ 12 (56 + 2)))) :: List.replicate 12 (loA 13)) ++ (.inl (10, 12, .inr (.inr (cn_ 12 (56 + 15)))) :: List.replicate 12 (loA 13)) : AH))) _ _ _
  rw [iH_app]
  obtain ⟨B8, hB8⟩ : ∃ z : AH, z = B7 ++ (.inr (8, [.ref (56 + 1), .ref (56 + 14), .ref 0]) :: ((.inl (10, 12, .inr (.inr (cn_ 12 (56 + 2)))) :: List.replicate 12 (loA 13)) ++ (.inl (10, 12, .inr (.inr (cn_ 12 (56 + 15)))) :: List.replicate 12 (loA 13)) : AH)) := ⟨_, rfl⟩
  rw [← hB8]
  have hlB8 : B8.length = 82 := by rw [hB8, List.length_append, hlB7]; rfl
  refine wp_putfF dX0_init_142 rfl q731 fp0_11 rfl rfl (iH_at0 rfl) rfl rfl (Nat.le_of_ble_eq_true rfl) (iH_set0 rfl) ?_
  change WP g 8 _ _ _ _ _ _ _ (iH 0 [] [.ref 1, .ref 6, .ref 13, .ref 14, .int 0, .int 0, .int (-1), .ref 15, .ref 19, .ref 24, .ref 29, .ref 56, .null] B8) _ _ _
  refine wp_aload_0 dX0_init_145 rfl ?_
  refine wp_new1 dX0_init_146 rfl q690 nw9 (Nat.le_of_ble_eq_true rfl) (Nat.le_of_ble_eq_true rfl) ?_
  rw [iH_len rfl, hlB8]
  change WP g 8 _ _ _ _ _ _ (.ref 83 :: _) (iH 9 (iH 0 [] [.ref 1, .ref 6, .ref 13, .ref 14, .int 0, .int 0, .int (-1), .ref 15, .ref 19, .ref 24, .ref 29, .ref 56, .null] B8) [.null, .int 0, .int 0, .int 0, .null] []) _ _ _
  refine wp_dup dX0_init_149 rfl rfl ?_
  refine wp_aload_0 dX0_init_150 rfl ?_
  refine wp_INx0 dX0_init_151 rfl q692 mi_X9_init (c_oInit (M := 83) (pre := iH 0 [] [.ref 1, .ref 6, .ref 13, .ref 14, .int 0, .int 0, .int (-1), .ref 15, .ref 19, .ref 24, .ref 29, .ref 56, .null] B8) (w := 0) (by rw [iH_len rfl, hlB8]; rfl)) rfl rfl (Nat.le_of_ble_eq_true rfl) (Nat.le_of_ble_eq_true rfl) (Nat.le_of_ble_eq_true rfl) (Nat.le_of_ble_eq_true rfl) ?_
  change WP g 8 _ _ _ _ _ _ _ (iH 0 [] [.ref 1, .ref 6, .ref 13, .ref 14, .int 0, .int 0, .int (-1), .ref 15, .ref 19, .ref 24, .ref 29, .ref 56, .null] B8 ++ (.inr (9, [.ref (83 + 1), .int 0, .int 0, .int 0, .ref 0]) :: ([inA 60] : AH))) _ _ _
  rw [iH_app]
  obtain ⟨B9, hB9⟩ : ∃ z : AH, z = B8 ++ (.inr (9, [.ref (83 + 1), .int 0, .int 0, .int 0, .ref 0]) :: ([inA 60] : AH)) := ⟨_, rfl⟩
  rw [← hB9]
  have hlB9 : B9.length = 84 := by rw [hB9, List.length_append, hlB8]; rfl
  refine wp_putfF dX0_init_154 rfl q732 fp0_12 rfl rfl (iH_at0 rfl) rfl rfl (Nat.le_of_ble_eq_true rfl) (iH_set0 rfl) ?_
  change WP g 8 _ _ _ _ _ _ _ (iH 0 [] [.ref 1, .ref 6, .ref 13, .ref 14, .int 0, .int 0, .int (-1), .ref 15, .ref 19, .ref 24, .ref 29, .ref 56, .ref 83] B9) _ _ _
  exact wp_return dX0_init_157 rfl ⟨rfl, by subst hB9; subst hB8; subst hB7; subst hB6; subst hB5; subst hB4; subst hB3; subst hB2; subst hB1; rfl⟩
/-- the class as it is made, as a state-/
def C00 : SC := ((fun k => if k = 2 then -1 else 0), (fun _ _ => 0), (fun _ _ => 0), (fun k => if k = 0 then some 6 else none), (fun _ _ => none), 0)
theorem cI_len : cI.length = 85 := rfl
theorem cI_cH : cH C00 S00 (mH 85 cI S00 []) = mH 85 cI S00 [] := rfl
