/-! ===== the JDK: iterators of lists, setting ===== -/
set_option maxRecDepth 100000
theorem j_checkCo {g : GW} {h : AH} {t a q len m cur : Nat} {mc la : Int32} {f : Nat → Option Nat} (ht : h[t]? = some (.inr (13, [.int (nI cur), .int la, .int mc, .ref a]))) (hl : LI h a q len m mc f)  : SPx g 1 0 0 yJ11_checkForComodification cJ11_checkForComodification 1 none [.ref t] h none h := by
  refine SPx.intro [some (.ref t)] (pfn (by decide)) rfl (Nat.le_of_ble_eq_true rfl) ?_
  refine wp_aload_0 dJ11_checkForComodification_0 rfl ?_
  refine wp_getf dJ11_checkForComodification_1 rfl q981 fk13_3 ht rfl ?_
  refine wp_getf dJ11_checkForComodification_4 rfl q427 fks3_0 hl.1 rfl ?_
  refine wp_aload_0 dJ11_checkForComodification_7 rfl ?_
  refine wp_getf dJ11_checkForComodification_8 rfl q980 fk13_2 ht rfl ?_
  refine wp_icmp_eq 22 dJ11_checkForComodification_11 rfl rfl (fun c11 => ?_) (fun c11 => ?_)
  · exact wp_return dJ11_checkForComodification_22 rfl ⟨rfl, rfl⟩
  · exact absurd rfl c11
theorem j_hasNext {g : GW} {h : AH} {t a q len m cur : Nat} {mc la : Int32} {f : Nat → Option Nat} (ht : h[t]? = some (.inr (13, [.int (nI cur), .int la, .int mc, .ref a]))) (hl : LI h a q len m mc f) (hc : cur ≤ m) : SPx g 1 0 0 yJ11_hasNext cJ11_hasNext 1 (some .boolean) [.ref t] h (some (.int (b2i (!decide (cur = m))))) h := by
  refine SPx.intro [some (.ref t)] (pfn (by decide)) rfl (Nat.le_of_ble_eq_true rfl) ?_
  have hb := hl.2.2
  refine wp_aload_0 dJ11_hasNext_0 rfl ?_
  refine wp_getf dJ11_hasNext_1 rfl q978 fk13_0 ht rfl ?_
  refine wp_aload_0 dJ11_hasNext_4 rfl ?_
  refine wp_getf dJ11_hasNext_5 rfl q981 fk13_3 ht rfl ?_
  refine wp_getfN dJ11_hasNext_8 rfl q424 fk3_2 hl.1 rfl ?_
  refine wp_icmp_eq_k 18 dJ11_hasNext_11 rfl rfl (by omega) (by omega) (fun c11 => ?_) (fun c11 => ?_)
  · refine wp_iconst 0 dJ11_hasNext_18 rfl rfl ?_
    exact wp_zreturn dJ11_hasNext_19 rfl rfl ⟨by simp [b2i, *], rfl⟩
  · refine wp_iconst 1 dJ11_hasNext_14 rfl rfl ?_
    refine wp_goto 19 dJ11_hasNext_15 rfl rfl ?_
    exact wp_zreturn dJ11_hasNext_19 rfl rfl ⟨by simp [b2i, *], rfl⟩
def itc (cur : Nat) (la mc : Int32) (a : Nat) : AE := .inr (13, [.int (nI cur), .int la, .int mc, .ref a])
theorem j_next {g : GW} {h : AH} {t a q len m cur : Nat} {mc la : Int32} {f : Nat → Option Nat} (ht : h[t]? = some (.inr (13, [.int (nI cur), .int la, .int mc, .ref a]))) (hl : LI h a q len m mc f) {r : Nat} (hc : cur < m) (hf : f cur = some r) : SPx g 2 0 0 yJ11_next cJ11_next 3 (some (.object "java/lang/Object")) [.ref t] h (some (.ref r)) (h.set t (itc (cur + 1) (nI cur) mc a)) := by
  refine SPx.intro [some (.ref t), none, none] (pfn (by decide)) rfl (Nat.le_of_ble_eq_true rfl) ?_
  have hb := hl.2.2
  have hne : t ≠ q := fun z => by
    have z2 := hl.2.1
    rw [← z, ht] at z2
    simp at z2
  refine wp_aload_0 dJ11_next_0 rfl ?_
  refine wp_cv0 dJ11_next_1 rfl q1010 mv_J11_checkForComodification ht rfl rfl (j_checkCo ht hl) rfl rfl (Nat.le_of_ble_eq_true rfl) (Nat.le_of_ble_eq_true rfl) ?_
  refine wp_aload_0 dJ11_next_4 rfl ?_
  refine wp_getf dJ11_next_5 rfl q978 fk13_0 ht rfl ?_
  refine wp_istore_1 dJ11_next_8 rfl (by decide) rfl ?_
  refine wp_iload_1 dJ11_next_9 rfl ?_
  refine wp_aload_0 dJ11_next_10 rfl ?_
  refine wp_getf dJ11_next_11 rfl q981 fk13_3 ht rfl ?_
  refine wp_getfN dJ11_next_14 rfl q424 fk3_2 hl.1 rfl ?_
  refine wp_icmp_lt_k 28 dJ11_next_17 rfl rfl (by omega) (by omega) (fun c17 => ?_) (fun c17 => ?_)
  · refine wp_aload_0 dJ11_next_28 rfl ?_
    refine wp_getf dJ11_next_29 rfl q981 fk13_3 ht rfl ?_
    refine wp_getf dJ11_next_32 rfl q423 fk3_1 hl.1 rfl ?_
    refine wp_astore_2 dJ11_next_35 rfl (by decide) rfl ?_
    refine wp_iload_1 dJ11_next_36 rfl ?_
    refine wp_aload_2 dJ11_next_37 rfl ?_
    refine wp_alen (nI len) dJ11_next_38 rfl rfl hl.2.1 rfl ?_
    refine wp_icmp_lt_k 50 dJ11_next_39 rfl rfl (by omega) (by omega) (fun c39 => ?_) (fun c39 => ?_)
    · refine wp_aload_0 dJ11_next_50 rfl ?_
      refine wp_iload_1 dJ11_next_51 rfl ?_
      refine wp_iconst 1 dJ11_next_52 rfl rfl ?_
      refine wp_iadd dJ11_next_53 rfl ?_
      refine wp_putf dJ11_next_54 rfl q978 fp13_0 ht rfl rfl (Nat.le_of_ble_eq_true rfl) rfl ?_
      change WP g 2 _ _ _ _ _ _ _ (h.set t (.inr (13, [.int (nI cur + 1), .int la, .int mc, .ref a]))) _ _ _
      refine wp_aload_2 dJ11_next_57 rfl ?_
      refine wp_aload_0 dJ11_next_58 rfl ?_
      refine wp_iload_1 dJ11_next_59 rfl ?_
      refine wp_dup_x1 dJ11_next_60 rfl rfl rfl ?_
      refine wp_putf dJ11_next_61 rfl q979 fp13_1 (List.getElem?_set_self (List.getElem?_eq_some_iff.mp ht).1) rfl rfl (Nat.le_of_ble_eq_true rfl) (List.set_set _) ?_
      change WP g 2 _ _ _ _ _ _ _ (h.set t (.inr (13, [.int (nI cur + 1), .int (nI cur), .int mc, .ref a]))) _ _ _
      refine wp_aaload cur dJ11_next_64 rfl rfl rfl ((List.getElem?_set_ne hne).trans hl.2.1) (nI_clamp (by omega)) (vp_in_nI (show cur < len by omega) (by omega)) ?_
      rw [hf]
      exact wp_areturn_r dJ11_next_65 rfl (Or.inl ⟨_, rfl⟩) ⟨rfl, by rw [itc, ← nI_1]⟩
    · exact absurd (show cur < len by omega) c39
  · exact absurd hc c17
theorem set_last {h : AH} {e e' : AE} : (h ++ [e]).set h.length e' = h ++ [e'] := by
  rw [List.set_append_right _ _ (Nat.le_refl _), Nat.sub_self]
  rfl
theorem it_set {C : SC} {S : SM} {X : AH} (hX : 108 ≤ X.length) {e e' : AE} : (cH C S (X ++ [e])).set X.length e' = cH C S (X ++ [e']) := by
  rw [cH_dset (Or.inr (by omega)), set_last]
theorem j_itInit {g : GW} {h : AH} {t a q m : Nat} {mc : Int32} (ht : h[t]? = some (.inr (13, [.int 0, .int 0, .int 0, .null]))) (ha : h[a]? = some (.inr (3, [.int mc, .ref q, .int (nI m)])))  : SPx g 1 0 0 yJ11_init cJ11_init 2 none [.ref t, .ref a] h none (h.set t (itc 0 (-1) mc a)) := by
  refine SPx.intro [some (.ref t), some (.ref a)] (pfn (by decide)) rfl (Nat.le_of_ble_eq_true rfl) ?_
  have hne : t ≠ a := fun z => by
    rw [← z, ht] at ha
    simp at ha
  refine wp_aload_0 dJ11_init_0 rfl ?_
  refine wp_aload_1 dJ11_init_1 rfl ?_
  refine wp_putfF dJ11_init_2 rfl q981 fp13_3 rfl rfl ht rfl rfl (Nat.le_of_ble_eq_true rfl) rfl ?_
  change WP g 1 _ _ _ _ _ _ _ (h.set t (.inr (13, [.int 0, .int 0, .int 0, .ref a]))) _ _ _
  refine wp_aload_0 dJ11_init_5 rfl ?_
  refine wp_oinit dJ11_init_6 rfl q977 q_oi q_oc (Nat.le_of_ble_eq_true rfl) (Nat.le_of_ble_eq_true rfl) ?_
  refine wp_aload_0 dJ11_init_9 rfl ?_
  refine wp_iconst (-1) dJ11_init_10 rfl rfl ?_
  refine wp_putf dJ11_init_11 rfl q979 fp13_1 (List.getElem?_set_self (List.getElem?_eq_some_iff.mp ht).1) rfl rfl (Nat.le_of_ble_eq_true rfl) (List.set_set _) ?_
  change WP g 1 _ _ _ _ _ _ _ (h.set t (.inr (13, [.int 0, .int (-1), .int 0, .ref a]))) _ _ _
  refine wp_aload_0 dJ11_init_14 rfl ?_
  refine wp_aload_0 dJ11_init_15 rfl ?_
  refine wp_getf dJ11_init_16 rfl q981 fk13_3 (List.getElem?_set_self (List.getElem?_eq_some_iff.mp ht).1) rfl ?_
  refine wp_getf dJ11_init_19 rfl q427 fks3_0 ((List.getElem?_set_ne hne).trans ha) rfl ?_
  refine wp_putf dJ11_init_22 rfl q980 fp13_2 (List.getElem?_set_self (List.getElem?_eq_some_iff.mp ht).1) rfl rfl (Nat.le_of_ble_eq_true rfl) (List.set_set _) ?_
  exact wp_return dJ11_init_25 rfl ⟨rfl, rfl⟩
theorem j_iterator {g : GW} {h : AH} {a q m : Nat} {mc : Int32} (hl : h[a]? = some (.inr (3, [.int mc, .ref q, .int (nI m)]))) : SPx g 2 1 4 yJ2_iterator cJ2_iterator 1 (some (.object "java/util/Iterator")) [.ref a] h (some (.ref h.length)) (h ++ [itc 0 (-1) mc a]) := by
  refine SPx.intro [some (.ref a)] (pfn (by decide)) rfl (Nat.le_of_ble_eq_true rfl) ?_
  refine wp_new1 dJ2_iterator_0 rfl q972 nw13 (by omega) (Nat.le_of_ble_eq_true rfl) ?_
  refine wp_dup dJ2_iterator_3 rfl rfl ?_
  refine wp_aload_0 dJ2_iterator_4 rfl ?_
  refine wp_Ix0 dJ2_iterator_5 rfl q974 mi_J11_init (j_itInit g_last (g_old hl)) rfl rfl (Nat.le_of_ble_eq_true rfl) (Nat.le_of_ble_eq_true rfl) (Nat.zero_le _) (Nat.zero_le _) ?_
  rw [set_last]
  exact wp_areturn_r dJ2_iterator_8 rfl (Or.inl ⟨_, rfl⟩) ⟨rfl, rfl⟩
theorem j_set {g : GW} {h : AH} {a q len m : Nat} {mc : Int32} {f : Nat → Option Nat} (hl : LI h a q len m mc f) {j r v : Nat} {fs : List Value} (hj : j < m) (hf : f j = some r) (hv : h[v]? = some (.inr (14, fs))) : SPx g 3 0 0 yJ2_set cJ2_set 4 (some (.object "java/lang/Object")) [.ref a, .int (nI j), .ref v] h (some (.ref r)) (h.set q (.inl (6, len, .inr (.inr (va_up f j (some v)))))) := by
  refine SPx.intro [some (.ref a), some (.int (nI j)), some (.ref v), none] (pfn (by decide)) rfl (Nat.le_of_ble_eq_true rfl) ?_
  have hb := hl.2.2
  have hi0 : ¬ nI j < 0 := nI_pos (by omega)
  have him : nI j < nI m := nI_lt hj (by omega)
  refine wp_iload_1 dJ2_set_0 rfl ?_
  refine wp_aload_0 dJ2_set_1 rfl ?_
  refine wp_getf dJ2_set_2 rfl q425 fk3_2 hl.1 rfl ?_
  refine wp_csR dJ2_set_5 rfl q1203 ms_J14_checkIndex (j_ocheck hi0 him) rfl rfl (Nat.le_of_ble_eq_true rfl) (Nat.le_of_ble_eq_true rfl) ?_
  refine wp_pop dJ2_set_8 rfl rfl ?_
  refine wp_aload_0 dJ2_set_9 rfl ?_
  refine wp_iload_1 dJ2_set_10 rfl ?_
  refine wp_cvR dJ2_set_11 rfl q1207 mv_J2_elementData hl.1 rfl rfl (j_elementData hl hj hf) rfl rfl (Nat.le_of_ble_eq_true rfl) (Nat.le_of_ble_eq_true rfl) ?_
  refine wp_astore_3 dJ2_set_14 rfl (by decide) rfl ?_
  refine wp_aload_0 dJ2_set_15 rfl ?_
  refine wp_getf dJ2_set_16 rfl q422 fk3_1 hl.1 rfl ?_
  refine wp_iload_1 dJ2_set_19 rfl ?_
  refine wp_aload_2 dJ2_set_20 rfl ?_
  refine wp_aastoreO j dJ2_set_21 rfl rfl q2658 rfl hl.2.1 hv (nI_clamp (by omega)) (vp_in_nI (show j < len by omega) (by omega)) rfl ?_
  refine wp_aload_3 dJ2_set_22 rfl ?_
  exact wp_areturn_r dJ2_set_23 rfl (Or.inl ⟨_, rfl⟩) ⟨rfl, rfl⟩
