/-! ===== lists made and added to; comings, players, boards made ===== -/
set_option maxRecDepth 100000
theorem j_acInit {g : GW} {h : AH} {a : Nat} (ha : h[a]? = some (.inr (3, [.int 0, .null, .int 0])))  : SPx g 2 0 0 yJ0_init cJ0_init 1 none [.ref a] h none h := by
  refine SPx.intro [some (.ref a)] (pfn (by decide)) rfl (Nat.le_of_ble_eq_true rfl) ?_
  refine wp_aload_0 dJ0_init_0 rfl ?_
  refine wp_oinit dJ0_init_1 rfl q417 q_oi q_oc (Nat.le_of_ble_eq_true rfl) (Nat.le_of_ble_eq_true rfl) ?_
  exact wp_return dJ0_init_4 rfl ⟨rfl, rfl⟩
theorem j_alInit {g : GW} {h : AH} {a : Nat} (ha : h[a]? = some (.inr (3, [.int 0, .null, .int 0])))  : SPx g 3 0 0 yJ1_init cJ1_init 1 none [.ref a] h none h := by
  refine SPx.intro [some (.ref a)] (pfn (by decide)) rfl (Nat.le_of_ble_eq_true rfl) ?_
  refine wp_aload_0 dJ1_init_0 rfl ?_
  refine wp_Ix0 dJ1_init_1 rfl q414 mi_J0_init (j_acInit ha) rfl rfl (Nat.le_of_ble_eq_true rfl) (Nat.le_of_ble_eq_true rfl) (Nat.zero_le _) (Nat.zero_le _) ?_
  refine wp_aload_0 dJ1_init_4 rfl ?_
  refine wp_iconst 0 dJ1_init_5 rfl rfl ?_
  refine wp_putf dJ1_init_6 rfl q426 fp3_0 ha rfl rfl (Nat.le_of_ble_eq_true rfl) (set_me ha) ?_
  exact wp_return dJ1_init_9 rfl ⟨rfl, rfl⟩
theorem j_lInit {g : GW} {h : AH} {a : Nat} (ha : h[a]? = some (.inr (3, [.int 0, .null, .int 0]))) {cap : Nat} (h0 : 0 < cap) (hc : cap ≤ 24) : SPx g 4 1 cap yJ2_init cJ2_init 2 none [.ref a, .int (nI cap)] h none ((h ++ ([.inl (6, cap, .inr (.inr (fun _ => none)))] : AH)).set a (.inr (3, [.int 0, .ref h.length, .int 0]))) := by
  refine SPx.intro [some (.ref a), some (.int (nI cap))] (pfn (by decide)) rfl (Nat.le_of_ble_eq_true rfl) ?_
  refine wp_aload_0 dJ2_init_0 rfl ?_
  refine wp_Ix0 dJ2_init_1 rfl q411 mi_J1_init (j_alInit ha) rfl rfl (Nat.le_of_ble_eq_true rfl) (Nat.le_of_ble_eq_true rfl) (Nat.zero_le _) (Nat.zero_le _) ?_
  refine wp_iload_1 dJ2_init_4 rfl ?_
  refine wp_if_le 19 dJ2_init_5 rfl rfl (fun c5 => ?_) (fun c5 => ?_)
  · exact absurd c5 (Int32.not_le.mpr (nI_lt (a := 0) h0 (by omega)))
  · refine wp_aload_0 dJ2_init_8 rfl ?_
    refine wp_iload_1 dJ2_init_9 rfl ?_
    refine wp_anewarray1 (t := 6) dJ2_init_10 rfl q418 (by decide) rfl (nI_pos (by omega)) (nI_clamp (by omega)) (by omega) (Nat.le_refl _) (Nat.le_refl _) ?_
    refine wp_putf dJ2_init_13 rfl q422 fp3_1 (g_old ha) rfl rfl (Nat.le_of_ble_eq_true rfl) rfl ?_
    refine wp_goto 60 dJ2_init_16 rfl rfl ?_
    exact wp_return dJ2_init_60 rfl ⟨rfl, rfl⟩
theorem j_addTo14 {g : GW} {h : AH} {a q len m v : Nat} {mc : Int32} {f : Nat → Option Nat} {fs : List Value} (hl : LI h a q len m mc f) (hm : m < len) (hv : h[v]? = some (.inr (14, fs)))  : SPx g 1 0 0 yJ2_add_2 cJ2_add_2 4 none [.ref a, .ref v, .ref q, .int (nI m)] h none ((h.set q (.inl (6, len, .inr (.inr (va_up f m (some v)))))).set a (.inr (3, [.int mc, .ref q, .int (nI (m + 1))]))) := by
  refine SPx.intro [some (.ref a), some (.ref v), some (.ref q), some (.int (nI m))] (pfn (by decide)) rfl (Nat.le_of_ble_eq_true rfl) ?_
  have hb := hl.2.2
  have hqa : q ≠ a := fun z => by
    have z2 := hl.2.1
    rw [z, hl.1] at z2
    cases z2
  refine wp_iload_3 dJ2_add_2_0 rfl ?_
  refine wp_aload_2 dJ2_add_2_1 rfl ?_
  refine wp_alen (nI len) dJ2_add_2_2 rfl rfl hl.2.1 rfl ?_
  refine wp_icmp_ne_k 11 dJ2_add_2_3 rfl rfl (by omega) (by omega) (fun c3 => ?_) (fun c3 => ?_)
  · refine wp_aload_2 dJ2_add_2_11 rfl ?_
    refine wp_iload_3 dJ2_add_2_12 rfl ?_
    refine wp_aload_1 dJ2_add_2_13 rfl ?_
    refine wp_aastoreO m dJ2_add_2_14 rfl rfl q2658 rfl hl.2.1 hv (nI_clamp (by omega)) (vp_in_nI hm (by omega)) rfl ?_
    refine wp_aload_0 dJ2_add_2_15 rfl ?_
    refine wp_iload_3 dJ2_add_2_16 rfl ?_
    refine wp_iconst 1 dJ2_add_2_17 rfl rfl ?_
    refine wp_iadd dJ2_add_2_18 rfl ?_
    rw [nI_1]
    refine wp_putf dJ2_add_2_19 rfl q425 fp3_2 ((List.getElem?_set_ne hqa).trans hl.1) rfl rfl (Nat.le_of_ble_eq_true rfl) rfl ?_
    exact wp_return dJ2_add_2_22 rfl ⟨rfl, rfl⟩
  · exact absurd c3 (by omega)
theorem j_add14 {g : GW} {h : AH} {a q len m v : Nat} {mc : Int32} {f : Nat → Option Nat} {fs : List Value} (hl : LI h a q len m mc f) (hm : m < len) (hv : h[v]? = some (.inr (14, fs)))  : SPx g 2 0 0 yJ2_add cJ2_add 2 (some .boolean) [.ref a, .ref v] h (some (.int 1)) ((h.set q (.inl (6, len, .inr (.inr (va_up f m (some v)))))).set a (.inr (3, [.int (mc + 1), .ref q, .int (nI (m + 1))]))) := by
  refine SPx.intro [some (.ref a), some (.ref v)] (pfn (by decide)) rfl (Nat.le_of_ble_eq_true rfl) ?_
  have hqa : q ≠ a := fun z => by
    have z2 := hl.2.1
    rw [z, hl.1] at z2
    cases z2
  have hva : a ≠ v := fun z => by
    have z2 := hl.1
    rw [z, hv] at z2
    cases z2
  have hal := (List.getElem?_eq_some_iff.mp hl.1).1
  have hl1 : LI (h.set a (.inr (3, [.int (mc + 1), .ref q, .int (nI m)]))) a q len m (mc + 1) f := ⟨List.getElem?_set_self hal, (List.getElem?_set_ne (Ne.symm hqa)).trans hl.2.1, hl.2.2⟩
  have hv1 : (h.set a (.inr (3, [.int (mc + 1), .ref q, .int (nI m)])))[v]? = some (.inr (14, fs)) := (List.getElem?_set_ne hva).trans hv
  refine wp_aload_0 dJ2_add_0 rfl ?_
  refine wp_dup dJ2_add_1 rfl rfl ?_
  refine wp_getf dJ2_add_2 rfl q429 fks3_0 hl.1 rfl ?_
  refine wp_iconst 1 dJ2_add_5 rfl rfl ?_
  refine wp_iadd dJ2_add_6 rfl ?_
  refine wp_putf dJ2_add_7 rfl q429 fps3_0 hl.1 rfl rfl (Nat.le_of_ble_eq_true rfl) rfl ?_
  change WP g 2 _ _ _ _ _ _ _ (h.set a (.inr (3, [.int (mc + 1), .ref q, .int (nI m)]))) _ _ _
  refine wp_aload_0 dJ2_add_10 rfl ?_
  refine wp_aload_1 dJ2_add_11 rfl ?_
  refine wp_aload_0 dJ2_add_12 rfl ?_
  refine wp_getf dJ2_add_13 rfl q422 fk3_1 hl1.1 rfl ?_
  refine wp_aload_0 dJ2_add_16 rfl ?_
  refine wp_getf dJ2_add_17 rfl q425 fk3_2 hl1.1 rfl ?_
  refine wp_cv0 dJ2_add_20 rfl q1082 mv_J2_add_2 hl1.1 rfl rfl (j_addTo14 hl1 hm hv1) rfl rfl (Nat.le_of_ble_eq_true rfl) (Nat.le_of_ble_eq_true rfl) ?_
  rw [List.set_comm _ _ (Ne.symm hqa), List.set_set]
  refine wp_iconst 1 dJ2_add_23 rfl rfl ?_
  exact wp_zreturn dJ2_add_24 rfl rfl ⟨rfl, rfl⟩
theorem j_addTo15 {g : GW} {h : AH} {a q len m v : Nat} {mc : Int32} {f : Nat → Option Nat} {fs : List Value} (hl : LI h a q len m mc f) (hm : m < len) (hv : h[v]? = some (.inr (15, fs)))  : SPx g 1 0 0 yJ2_add_2 cJ2_add_2 4 none [.ref a, .ref v, .ref q, .int (nI m)] h none ((h.set q (.inl (6, len, .inr (.inr (va_up f m (some v)))))).set a (.inr (3, [.int mc, .ref q, .int (nI (m + 1))]))) := by
  refine SPx.intro [some (.ref a), some (.ref v), some (.ref q), some (.int (nI m))] (pfn (by decide)) rfl (Nat.le_of_ble_eq_true rfl) ?_
  have hb := hl.2.2
  have hqa : q ≠ a := fun z => by
    have z2 := hl.2.1
    rw [z, hl.1] at z2
    cases z2
  refine wp_iload_3 dJ2_add_2_0 rfl ?_
  refine wp_aload_2 dJ2_add_2_1 rfl ?_
  refine wp_alen (nI len) dJ2_add_2_2 rfl rfl hl.2.1 rfl ?_
  refine wp_icmp_ne_k 11 dJ2_add_2_3 rfl rfl (by omega) (by omega) (fun c3 => ?_) (fun c3 => ?_)
  · refine wp_aload_2 dJ2_add_2_11 rfl ?_
    refine wp_iload_3 dJ2_add_2_12 rfl ?_
    refine wp_aload_1 dJ2_add_2_13 rfl ?_
    refine wp_aastoreO m dJ2_add_2_14 rfl rfl q2671 rfl hl.2.1 hv (nI_clamp (by omega)) (vp_in_nI hm (by omega)) rfl ?_
    refine wp_aload_0 dJ2_add_2_15 rfl ?_
    refine wp_iload_3 dJ2_add_2_16 rfl ?_
    refine wp_iconst 1 dJ2_add_2_17 rfl rfl ?_
    refine wp_iadd dJ2_add_2_18 rfl ?_
    rw [nI_1]
    refine wp_putf dJ2_add_2_19 rfl q425 fp3_2 ((List.getElem?_set_ne hqa).trans hl.1) rfl rfl (Nat.le_of_ble_eq_true rfl) rfl ?_
    exact wp_return dJ2_add_2_22 rfl ⟨rfl, rfl⟩
  · exact absurd c3 (by omega)
theorem j_add15 {g : GW} {h : AH} {a q len m v : Nat} {mc : Int32} {f : Nat → Option Nat} {fs : List Value} (hl : LI h a q len m mc f) (hm : m < len) (hv : h[v]? = some (.inr (15, fs)))  : SPx g 2 0 0 yJ2_add cJ2_add 2 (some .boolean) [.ref a, .ref v] h (some (.int 1)) ((h.set q (.inl (6, len, .inr (.inr (va_up f m (some v)))))).set a (.inr (3, [.int (mc + 1), .ref q, .int (nI (m + 1))]))) := by
  refine SPx.intro [some (.ref a), some (.ref v)] (pfn (by decide)) rfl (Nat.le_of_ble_eq_true rfl) ?_
  have hqa : q ≠ a := fun z => by
    have z2 := hl.2.1
    rw [z, hl.1] at z2
    cases z2
  have hva : a ≠ v := fun z => by
    have z2 := hl.1
    rw [z, hv] at z2
    cases z2
  have hal := (List.getElem?_eq_some_iff.mp hl.1).1
  have hl1 : LI (h.set a (.inr (3, [.int (mc + 1), .ref q, .int (nI m)]))) a q len m (mc + 1) f := ⟨List.getElem?_set_self hal, (List.getElem?_set_ne (Ne.symm hqa)).trans hl.2.1, hl.2.2⟩
  have hv1 : (h.set a (.inr (3, [.int (mc + 1), .ref q, .int (nI m)])))[v]? = some (.inr (15, fs)) := (List.getElem?_set_ne hva).trans hv
  refine wp_aload_0 dJ2_add_0 rfl ?_
  refine wp_dup dJ2_add_1 rfl rfl ?_
  refine wp_getf dJ2_add_2 rfl q429 fks3_0 hl.1 rfl ?_
  refine wp_iconst 1 dJ2_add_5 rfl rfl ?_
  refine wp_iadd dJ2_add_6 rfl ?_
  refine wp_putf dJ2_add_7 rfl q429 fps3_0 hl.1 rfl rfl (Nat.le_of_ble_eq_true rfl) rfl ?_
  change WP g 2 _ _ _ _ _ _ _ (h.set a (.inr (3, [.int (mc + 1), .ref q, .int (nI m)]))) _ _ _
  refine wp_aload_0 dJ2_add_10 rfl ?_
  refine wp_aload_1 dJ2_add_11 rfl ?_
  refine wp_aload_0 dJ2_add_12 rfl ?_
  refine wp_getf dJ2_add_13 rfl q422 fk3_1 hl1.1 rfl ?_
  refine wp_aload_0 dJ2_add_16 rfl ?_
  refine wp_getf dJ2_add_17 rfl q425 fk3_2 hl1.1 rfl ?_
  refine wp_cv0 dJ2_add_20 rfl q1082 mv_J2_add_2 hl1.1 rfl rfl (j_addTo15 hl1 hm hv1) rfl rfl (Nat.le_of_ble_eq_true rfl) (Nat.le_of_ble_eq_true rfl) ?_
  rw [List.set_comm _ _ (Ne.symm hqa), List.set_set]
  refine wp_iconst 1 dJ2_add_23 rfl rfl ?_
  exact wp_zreturn dJ2_add_24 rfl rfl ⟨rfl, rfl⟩
theorem c_mSame {g : GW} {h : AH} {a : Nat} {x z w : Int32} (ha : h[a]? = some (.inr (14, [.int x, .int z, .int w]))) (hw : ∃ r, w = b2i r)  : SPx g 3 1 3 yX13_same cX13_same 1 (some (.object "MoleBoard$Mole")) [.ref a] h (some (.ref h.length)) (h ++ [.inr (14, [.int x, .int z, .int w])]) := by
  refine SPx.intro [some (.ref a)] (pfn (by decide)) rfl (Nat.le_of_ble_eq_true rfl) ?_
  obtain ⟨r, rfl⟩ := hw
  refine wp_new1 dX13_same_0 rfl q1809 nw14 (Nat.le_refl _) (Nat.le_of_ble_eq_true rfl) ?_
  refine wp_dup dX13_same_3 rfl rfl ?_
  refine wp_aload_0 dX13_same_4 rfl ?_
  refine wp_getf dX13_same_5 rfl q1053 fk14_0 (g_old ha) rfl ?_
  refine wp_aload_0 dX13_same_8 rfl ?_
  refine wp_getf dX13_same_9 rfl q1057 fk14_1 (g_old ha) rfl ?_
  refine wp_aload_0 dX13_same_12 rfl ?_
  refine wp_getf dX13_same_13 rfl q1061 fk14_2 (g_old ha) rfl ?_
  refine wp_Ix0 dX13_same_16 rfl q1810 mi_X13_init (c_mInit g_last) rfl rfl (Nat.le_of_ble_eq_true rfl) (Nat.le_of_ble_eq_true rfl) (Nat.zero_le _) (Nat.zero_le _) ?_
  rw [set_last]
  exact wp_areturn_r dX13_same_19 rfl (Or.inl ⟨_, rfl⟩) ⟨rfl, rfl⟩
theorem c_pInit {g : GW} {M : Nat} {pre : AH} (hm : pre.length = M)  : SPx g 2 1 5 yX14_init cX14_init 1 none [.ref M] (iH 15 pre [.null] []) none (iH 15 pre [.ref (M + 1)] [.inl (0, 5, .inl (fun _ => 0))]) := by
  refine SPx.intro [some (.ref M)] (pfn (by decide)) rfl (Nat.le_of_ble_eq_true rfl) ?_
  refine wp_aload_0 dX14_init_0 rfl ?_
  refine wp_oinit dX14_init_1 rfl q1151 q_oi q_oc (Nat.le_of_ble_eq_true rfl) (Nat.le_of_ble_eq_true rfl) ?_
  refine wp_aload_0 dX14_init_4 rfl ?_
  refine wp_iconst 5 dX14_init_5 rfl rfl ?_
  refine wp_newarray1 (t := 0) (5, .inl (fun _ => 0)) dX14_init_6 rfl q286 rfl rfl (fun _ => rfl) (by decide) rfl (Nat.le_of_ble_eq_true rfl) (Nat.le_refl _) (Nat.le_refl _) ?_
  rw [iH_new, iH_len hm]
  change WP _ _ _ _ _ _ _ _ (.ref (M + 1) :: _) (iH 15 pre [.null] [.inl (0, 5, .inl (fun _ => 0))]) _ _ _
  refine wp_putfF dX14_init_8 rfl q1152 fp15_0 rfl rfl (iH_at0 hm) rfl rfl (Nat.le_of_ble_eq_true rfl) (iH_set0 hm) ?_
  exact wp_return dX14_init_11 rfl ⟨rfl, rfl⟩
theorem c_pSame {g : GW} {h : AH} {a q : Nat} {f : Nat → Int32} (ha : h[a]? = some (.inr (15, [.ref q]))) (hq : h[q]? = some (.inl (0, 5, .inl f)))  : SPx g 3 2 6 yX14_same cX14_same 2 (some (.object "MoleBoard$Player")) [.ref a] h (some (.ref h.length)) (h ++ [.inr (15, [.ref (h.length + 1)]), .inl (0, 5, .inl (va_cpy f (fun _ => 0) 0 0 5))]) := by
  refine SPx.intro [some (.ref a), none] (pfn (by decide)) rfl (Nat.le_of_ble_eq_true rfl) ?_
  refine wp_new1 dX14_same_0 rfl q1818 nw15 (by omega) (Nat.le_of_ble_eq_true rfl) ?_
  change WP _ _ _ _ _ _ _ _ _ (iH 15 h [.null] []) _ _ _
  refine wp_dup dX14_same_3 rfl rfl ?_
  refine wp_Ix0 dX14_same_4 rfl q1819 mi_X14_init (c_pInit rfl) rfl rfl (Nat.le_of_ble_eq_true rfl) (Nat.le_of_ble_eq_true rfl) (Nat.le_of_ble_eq_true rfl) (Nat.le_of_ble_eq_true rfl) ?_
  refine wp_astore_1 dX14_same_7 rfl (by decide) rfl ?_
  refine wp_aload_0 dX14_same_8 rfl ?_
  refine wp_getf dX14_same_9 rfl q1152 fk15_0 ((XE.app h _) a _ ha : (iH 15 h [.ref (h.length + 1)] [.inl (0, 5, .inl (fun _ => 0))])[a]? = _) rfl ?_
  refine wp_iconst 0 dX14_same_12 rfl rfl ?_
  refine wp_aload_1 dX14_same_13 rfl ?_
  refine wp_getf dX14_same_14 rfl q1152 fk15_0 (iH_at0 rfl) rfl ?_
  refine wp_iconst 0 dX14_same_17 rfl rfl ?_
  refine wp_iconst 5 dX14_same_18 rfl rfl ?_
  refine wp_copyI (t := 0) dX14_same_19 rfl q1820 rfl rfl ((XE.app h _) q _ hq : (iH 15 h [.ref (h.length + 1)] [.inl (0, 5, .inl (fun _ => 0))])[q]? = _) (iH_at rfl (j := 0) rfl) (Nat.le_of_ble_eq_true rfl) (Nat.le_of_ble_eq_true rfl) (by decide) (by decide) (by decide) (by decide) (by decide) (fun _ _ => rfl) (iH_set rfl (j := 0)) ?_
  refine wp_aload_1 dX14_same_22 rfl ?_
  exact wp_areturn_r dX14_same_23 rfl (Or.inl ⟨_, rfl⟩) ⟨rfl, rfl⟩
theorem c_bInit {g : GW} {M : Nat} {pre : AH} (hm : pre.length = M)  : SPx g 5 6 46 yX2_init cX2_init 1 none [.ref M] (pre ++ [.inr (2, [.null, .null, .null, .null, .int 0, .int 0, .int 0, .int 0, .int 0, .int 0, .int 0, .int 0, .int 0, .int 0])]) none (pre ++ bNew M) := by
  refine SPx.intro [some (.ref M)] (pfn (by decide)) rfl (Nat.le_of_ble_eq_true rfl) ?_
  change WP _ _ _ _ _ _ _ _ _ (iH 2 pre [.null, .null, .null, .null, .int 0, .int 0, .int 0, .int 0, .int 0, .int 0, .int 0, .int 0, .int 0, .int 0] []) _ _ _
  refine wp_aload_0 dX2_init_0 rfl ?_
  refine wp_oinit dX2_init_1 rfl q405 q_oi q_oc (Nat.le_of_ble_eq_true rfl) (Nat.le_of_ble_eq_true rfl) ?_
  refine wp_aload_0 dX2_init_4 rfl ?_
  refine wp_new1 dX2_init_5 rfl q406 nw3 (Nat.le_of_ble_eq_true rfl) (Nat.le_of_ble_eq_true rfl) ?_
  rw [iH_new, iH_len hm]
  change WP _ _ _ _ _ _ _ _ (.ref (M + 1) :: _) (iH 2 pre [.null, .null, .null, .null, .int 0, .int 0, .int 0, .int 0, .int 0, .int 0, .int 0, .int 0, .int 0, .int 0] [.inr (3, [.int 0, .null, .int 0])]) _ _ _
  refine wp_dup dX2_init_8 rfl rfl ?_
  refine wp_bipush 24 dX2_init_9 rfl rfl ?_
  refine wp_Ix0 dX2_init_11 rfl q408 mi_J2_init (j_lInit (cap := 24) (iH_at hm (j := 0) rfl) (by omega) (by omega)) rfl rfl (Nat.le_of_ble_eq_true rfl) (Nat.le_of_ble_eq_true rfl) (Nat.le_of_ble_eq_true rfl) (Nat.le_of_ble_eq_true rfl) ?_
  rw [iH_new, iH_set hm (j := 0), iH_len hm]
  change WP _ _ _ _ _ _ _ _ _ (iH 2 pre [.null, .null, .null, .null, .int 0, .int 0, .int 0, .int 0, .int 0, .int 0, .int 0, .int 0, .int 0, .int 0] [.inr (3, [.int 0, .ref (M + 2), .int 0]), .inl (6, 24, .inr (.inr (fun _ => none)))]) _ _ _
  refine wp_putfF dX2_init_14 rfl q437 fp2_0 rfl rfl (iH_at0 hm) rfl rfl (Nat.le_of_ble_eq_true rfl) (iH_set0 hm) ?_
  change WP _ _ _ _ _ _ _ _ _ (iH 2 pre [.ref (M + 1), .null, .null, .null, .int 0, .int 0, .int 0, .int 0, .int 0, .int 0, .int 0, .int 0, .int 0, .int 0] [.inr (3, [.int 0, .ref (M + 2), .int 0]), .inl (6, 24, .inr (.inr (fun _ => none)))]) _ _ _
  refine wp_aload_0 dX2_init_17 rfl ?_
  refine wp_new1 dX2_init_18 rfl q406 nw3 (Nat.le_of_ble_eq_true rfl) (Nat.le_of_ble_eq_true rfl) ?_
  rw [iH_new, iH_len hm]
  change WP _ _ _ _ _ _ _ _ (.ref (M + 3) :: _) (iH 2 pre [.ref (M + 1), .null, .null, .null, .int 0, .int 0, .int 0, .int 0, .int 0, .int 0, .int 0, .int 0, .int 0, .int 0] [.inr (3, [.int 0, .ref (M + 2), .int 0]), .inl (6, 24, .inr (.inr (fun _ => none))), .inr (3, [.int 0, .null, .int 0])]) _ _ _
  refine wp_dup dX2_init_21 rfl rfl ?_
  refine wp_iconst 4 dX2_init_22 rfl rfl ?_
  refine wp_Ix0 dX2_init_23 rfl q408 mi_J2_init (j_lInit (cap := 4) (iH_at hm (j := 2) rfl) (by omega) (by omega)) rfl rfl (Nat.le_of_ble_eq_true rfl) (Nat.le_of_ble_eq_true rfl) (Nat.le_of_ble_eq_true rfl) (Nat.le_of_ble_eq_true rfl) ?_
  rw [iH_new, iH_set hm (j := 2), iH_len hm]
  change WP _ _ _ _ _ _ _ _ _ (iH 2 pre [.ref (M + 1), .null, .null, .null, .int 0, .int 0, .int 0, .int 0, .int 0, .int 0, .int 0, .int 0, .int 0, .int 0] [.inr (3, [.int 0, .ref (M + 2), .int 0]), .inl (6, 24, .inr (.inr (fun _ => none))), .inr (3, [.int 0, .ref (M + 4), .int 0]), .inl (6, 4, .inr (.inr (fun _ => none)))]) _ _ _
  refine wp_putfF dX2_init_26 rfl q441 fp2_1 rfl rfl (iH_at0 hm) rfl rfl (Nat.le_of_ble_eq_true rfl) (iH_set0 hm) ?_
  change WP _ _ _ _ _ _ _ _ _ (iH 2 pre [.ref (M + 1), .ref (M + 3), .null, .null, .int 0, .int 0, .int 0, .int 0, .int 0, .int 0, .int 0, .int 0, .int 0, .int 0] [.inr (3, [.int 0, .ref (M + 2), .int 0]), .inl (6, 24, .inr (.inr (fun _ => none))), .inr (3, [.int 0, .ref (M + 4), .int 0]), .inl (6, 4, .inr (.inr (fun _ => none)))]) _ _ _
  refine wp_aload_0 dX2_init_29 rfl ?_
  refine wp_bipush 6 dX2_init_30 rfl rfl ?_
  refine wp_newarray1 (t := 0) (6, .inl (fun _ => 0)) dX2_init_32 rfl q286 rfl rfl (fun _ => rfl) (by decide) rfl (Nat.le_of_ble_eq_true rfl) (Nat.le_of_ble_eq_true rfl) (Nat.le_of_ble_eq_true rfl) ?_
  rw [iH_new, iH_len hm]
  change WP _ _ _ _ _ _ _ _ (.ref (M + 5) :: _) (iH 2 pre [.ref (M + 1), .ref (M + 3), .null, .null, .int 0, .int 0, .int 0, .int 0, .int 0, .int 0, .int 0, .int 0, .int 0, .int 0] [.inr (3, [.int 0, .ref (M + 2), .int 0]), .inl (6, 24, .inr (.inr (fun _ => none))), .inr (3, [.int 0, .ref (M + 4), .int 0]), .inl (6, 4, .inr (.inr (fun _ => none))), .inl (0, 6, .inl (fun _ => 0))]) _ _ _
  refine wp_putfF dX2_init_34 rfl q444 fp2_2 rfl rfl (iH_at0 hm) rfl rfl (Nat.le_of_ble_eq_true rfl) (iH_set0 hm) ?_
  change WP _ _ _ _ _ _ _ _ _ (iH 2 pre [.ref (M + 1), .ref (M + 3), .ref (M + 5), .null, .int 0, .int 0, .int 0, .int 0, .int 0, .int 0, .int 0, .int 0, .int 0, .int 0] [.inr (3, [.int 0, .ref (M + 2), .int 0]), .inl (6, 24, .inr (.inr (fun _ => none))), .inr (3, [.int 0, .ref (M + 4), .int 0]), .inl (6, 4, .inr (.inr (fun _ => none))), .inl (0, 6, .inl (fun _ => 0))]) _ _ _
  refine wp_aload_0 dX2_init_37 rfl ?_
  refine wp_bipush 6 dX2_init_38 rfl rfl ?_
  refine wp_newarray1 (t := 0) (6, .inl (fun _ => 0)) dX2_init_40 rfl q286 rfl rfl (fun _ => rfl) (by decide) rfl (Nat.le_of_ble_eq_true rfl) (Nat.le_of_ble_eq_true rfl) (Nat.le_of_ble_eq_true rfl) ?_
  rw [iH_new, iH_len hm]
  change WP _ _ _ _ _ _ _ _ (.ref (M + 6) :: _) (iH 2 pre [.ref (M + 1), .ref (M + 3), .ref (M + 5), .null, .int 0, .int 0, .int 0, .int 0, .int 0, .int 0, .int 0, .int 0, .int 0, .int 0] [.inr (3, [.int 0, .ref (M + 2), .int 0]), .inl (6, 24, .inr (.inr (fun _ => none))), .inr (3, [.int 0, .ref (M + 4), .int 0]), .inl (6, 4, .inr (.inr (fun _ => none))), .inl (0, 6, .inl (fun _ => 0)), .inl (0, 6, .inl (fun _ => 0))]) _ _ _
  refine wp_putfF dX2_init_42 rfl q446 fp2_3 rfl rfl (iH_at0 hm) rfl rfl (Nat.le_of_ble_eq_true rfl) (iH_set0 hm) ?_
  change WP _ _ _ _ _ _ _ _ _ (iH 2 pre [.ref (M + 1), .ref (M + 3), .ref (M + 5), .ref (M + 6), .int 0, .int 0, .int 0, .int 0, .int 0, .int 0, .int 0, .int 0, .int 0, .int 0] [.inr (3, [.int 0, .ref (M + 2), .int 0]), .inl (6, 24, .inr (.inr (fun _ => none))), .inr (3, [.int 0, .ref (M + 4), .int 0]), .inl (6, 4, .inr (.inr (fun _ => none))), .inl (0, 6, .inl (fun _ => 0)), .inl (0, 6, .inl (fun _ => 0))]) _ _ _
  refine wp_aload_0 dX2_init_45 rfl ?_
  refine wp_iconst 1 dX2_init_46 rfl rfl ?_
  refine wp_putf dX2_init_47 rfl q467 fp2_10 (iH_at0 hm) rfl rfl (Nat.le_of_ble_eq_true rfl) (iH_set0 hm) ?_
  change WP _ _ _ _ _ _ _ _ _ (iH 2 pre [.ref (M + 1), .ref (M + 3), .ref (M + 5), .ref (M + 6), .int 0, .int 0, .int 0, .int 0, .int 0, .int 0, .int 1, .int 0, .int 0, .int 0] [.inr (3, [.int 0, .ref (M + 2), .int 0]), .inl (6, 24, .inr (.inr (fun _ => none))), .inr (3, [.int 0, .ref (M + 4), .int 0]), .inl (6, 4, .inr (.inr (fun _ => none))), .inl (0, 6, .inl (fun _ => 0)), .inl (0, 6, .inl (fun _ => 0))]) _ _ _
  refine wp_aload_0 dX2_init_50 rfl ?_
  refine wp_bipush 100 dX2_init_51 rfl rfl ?_
  refine wp_putf dX2_init_53 rfl q470 fp2_11 (iH_at0 hm) rfl rfl (Nat.le_of_ble_eq_true rfl) (iH_set0 hm) ?_
  change WP _ _ _ _ _ _ _ _ _ (iH 2 pre [.ref (M + 1), .ref (M + 3), .ref (M + 5), .ref (M + 6), .int 0, .int 0, .int 0, .int 0, .int 0, .int 0, .int 1, .int 100, .int 0, .int 0] [.inr (3, [.int 0, .ref (M + 2), .int 0]), .inl (6, 24, .inr (.inr (fun _ => none))), .inr (3, [.int 0, .ref (M + 4), .int 0]), .inl (6, 4, .inr (.inr (fun _ => none))), .inl (0, 6, .inl (fun _ => 0)), .inl (0, 6, .inl (fun _ => 0))]) _ _ _
  exact wp_return dX2_init_56 rfl ⟨rfl, rfl⟩
