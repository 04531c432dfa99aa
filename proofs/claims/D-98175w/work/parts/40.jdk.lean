/-! ===== the JDK: strings, indexes, lists ===== -/
set_option maxRecDepth 100000
def stN_ (w : Nat) : Nat := stL.getD w 0
def stC (w j : Nat) : Int32 := (stB.getD w []).getD j 0
theorem j_coder {g : GW} {h : AH} {w : Nat} (hw : w < stT.length) : SPx g 1 0 0 yJ4_coder cJ4_coder 1 (some .byte) [.ref (1000000000 + (100 + w))] h (some (.int 0)) h := by
  refine SPx.intro [some (.ref (1000000000 + (100 + w)))] (by decide +kernel) rfl (Nat.le_of_ble_eq_true rfl) ?_
  refine wp_getsC dJ4_coder_0 rfl q841 ?_
  refine wp_if_eq 13 dJ4_coder_3 rfl rfl (fun c3 => ?_) (fun c3 => ?_)
  · exact absurd c3 (by decide)
  · refine wp_aload_0 dJ4_coder_6 rfl ?_
    refine wp_getfSc dJ4_coder_7 rfl q2693 hw ?_
    refine wp_goto 14 dJ4_coder_10 rfl rfl ?_
    exact wp_nreturn dJ4_coder_14 rfl rfl ⟨rfl, rfl⟩
theorem j_length {g : GW} {h : AH} {w : Nat} (hw : w < stT.length) : SPx g 2 0 0 yJ4_length cJ4_length 1 (some .int) [.ref (1000000000 + (100 + w))] h (some (.int (nI (stN_ w)))) h := by
  refine SPx.intro [some (.ref (1000000000 + (100 + w)))] (by decide +kernel) rfl (Nat.le_of_ble_eq_true rfl) ?_
  refine wp_aload_0 dJ4_length_0 rfl ?_
  refine wp_getfSv dJ4_length_1 rfl q2692 hw ?_
  refine wp_alenS dJ4_length_4 rfl hw ?_
  refine wp_aload_0 dJ4_length_5 rfl ?_
  refine wp_callVS dJ4_length_6 rfl q837 mv_J4_coder hw rfl (j_coder hw) rfl rfl (Nat.le_of_ble_eq_true rfl) (Nat.le_of_ble_eq_true rfl) ?_
  refine wp_ishr dJ4_length_9 rfl ?_
  exact wp_ireturn dJ4_length_10 rfl ⟨by rw [show nI (stL.getD w 0) >>> ((0 : Int32) &&& 31) = nI (stL.getD w 0) by rw [show (0 : Int32) &&& 31 = 0 from rfl]; exact Int32.shiftRight_zero]; rfl, rfl⟩
theorem j_isLatin1 {g : GW} {h : AH} {w : Nat} (hw : w < stT.length) : SPx g 1 0 0 yJ4_isLatin1 cJ4_isLatin1 1 (some .boolean) [.ref (1000000000 + (100 + w))] h (some (.int (b2i true))) h := by
  refine SPx.intro [some (.ref (1000000000 + (100 + w)))] (by decide +kernel) rfl (Nat.le_of_ble_eq_true rfl) ?_
  refine wp_getsC dJ4_isLatin1_0 rfl q841 ?_
  refine wp_if_eq 17 dJ4_isLatin1_3 rfl rfl (fun c3 => ?_) (fun c3 => ?_)
  · exact absurd c3 (by decide)
  · refine wp_aload_0 dJ4_isLatin1_6 rfl ?_
    refine wp_getfSc dJ4_isLatin1_7 rfl q2693 hw ?_
    refine wp_if_ne 17 dJ4_isLatin1_10 rfl rfl (fun c10 => ?_) (fun c10 => ?_)
    · exact absurd (by decide) c10
    · refine wp_iconst 1 dJ4_isLatin1_13 rfl rfl ?_
      refine wp_goto 18 dJ4_isLatin1_14 rfl rfl ?_
      exact wp_zreturn dJ4_isLatin1_18 rfl rfl ⟨rfl, rfl⟩
theorem j_pcheckN {g : GW} {h : AH} {i m : Int32}  (hi0 : ¬ i < 0) (him : i < m) : SPx g 1 0 0 yJ6_checkIndex cJ6_checkIndex 3 (some .int) [.int i, .int m, .null] h (some (.int i)) h := by
  refine SPx.intro [some (.int i), some (.int m), some .null] (pfn (by decide)) rfl (Nat.le_of_ble_eq_true rfl) ?_
  refine wp_iload_0 dJ6_checkIndex_0 rfl ?_
  refine wp_if_lt 9 dJ6_checkIndex_1 rfl rfl (fun c1 => ?_) (fun c1 => ?_)
  · exact absurd c1 hi0
  · refine wp_iload_0 dJ6_checkIndex_4 rfl ?_
    refine wp_iload_1 dJ6_checkIndex_5 rfl ?_
    refine wp_icmp_lt 16 dJ6_checkIndex_6 rfl rfl (fun c6 => ?_) (fun c6 => ?_)
    · refine wp_iload_0 dJ6_checkIndex_16 rfl ?_
      exact wp_ireturn dJ6_checkIndex_17 rfl ⟨rfl, rfl⟩
    · exact absurd him c6
theorem j_pcheckR {g : GW} {h : AH} {i m : Int32} {a : Nat}  (hi0 : ¬ i < 0) (him : i < m) : SPx g 1 0 0 yJ6_checkIndex cJ6_checkIndex 3 (some .int) [.int i, .int m, .ref a] h (some (.int i)) h := by
  refine SPx.intro [some (.int i), some (.int m), some (.ref a)] (pfn (by decide)) rfl (Nat.le_of_ble_eq_true rfl) ?_
  refine wp_iload_0 dJ6_checkIndex_0 rfl ?_
  refine wp_if_lt 9 dJ6_checkIndex_1 rfl rfl (fun c1 => ?_) (fun c1 => ?_)
  · exact absurd c1 hi0
  · refine wp_iload_0 dJ6_checkIndex_4 rfl ?_
    refine wp_iload_1 dJ6_checkIndex_5 rfl ?_
    refine wp_icmp_lt 16 dJ6_checkIndex_6 rfl rfl (fun c6 => ?_) (fun c6 => ?_)
    · refine wp_iload_0 dJ6_checkIndex_16 rfl ?_
      exact wp_ireturn dJ6_checkIndex_17 rfl ⟨rfl, rfl⟩
    · exact absurd him c6
theorem j_scheck {g : GW} {h : AH} {i m : Int32} (hi0 : ¬ i < 0) (him : i < m) : SPx g 2 0 0 yJ4_checkIndex cJ4_checkIndex 2 none [.int i, .int m] h none h := by
  refine SPx.intro [some (.int i), some (.int m)] (by decide +kernel) rfl (Nat.le_of_ble_eq_true rfl) ?_
  refine wp_iload_0 dJ4_checkIndex_0 rfl ?_
  refine wp_iload_1 dJ4_checkIndex_1 rfl ?_
  refine wp_gets (i := 3) dJ4_checkIndex_2 rfl q857 (List.mem_of_getElem? (i := 2) rfl) (fun v2 hv2 => ?_)
  rcases hv2 with rfl | rfl
  · refine wp_csR dJ4_checkIndex_5 rfl q859 ms_J6_checkIndex (j_pcheckN hi0 him) rfl rfl (Nat.le_of_ble_eq_true rfl) (Nat.le_of_ble_eq_true rfl) ?_
    refine wp_pop dJ4_checkIndex_8 rfl rfl ?_
    exact wp_return dJ4_checkIndex_9 rfl ⟨rfl, rfl⟩
  · refine wp_csR dJ4_checkIndex_5 rfl q859 ms_J6_checkIndex (j_pcheckR hi0 him) rfl rfl (Nat.le_of_ble_eq_true rfl) (Nat.le_of_ble_eq_true rfl) ?_
    refine wp_pop dJ4_checkIndex_8 rfl rfl ?_
    exact wp_return dJ4_checkIndex_9 rfl ⟨rfl, rfl⟩
theorem j_ocheck {g : GW} {h : AH} {i m : Int32} (hi0 : ¬ i < 0) (him : i < m) : SPx g 2 0 0 yJ14_checkIndex cJ14_checkIndex 2 (some .int) [.int i, .int m] h (some (.int i)) h := by
  refine SPx.intro [some (.int i), some (.int m)] (pfn (by decide)) rfl (Nat.le_of_ble_eq_true rfl) ?_
  refine wp_iload_0 dJ14_checkIndex_0 rfl ?_
  refine wp_iload_1 dJ14_checkIndex_1 rfl ?_
  refine wp_null dJ14_checkIndex_2 rfl ?_
  refine wp_csR dJ14_checkIndex_3 rfl q1206 ms_J6_checkIndex (j_pcheckN hi0 him) rfl rfl (Nat.le_of_ble_eq_true rfl) (Nat.le_of_ble_eq_true rfl) ?_
  exact wp_ireturn dJ14_checkIndex_6 rfl ⟨rfl, rfl⟩
theorem j_l1charAt {g : GW} {h : AH} {w j : Nat} (hw : w < stT.length) (hj : j < stL.getD w 0) : SPx g 3 0 0 yJ5_charAt cJ5_charAt 2 (some .char) [.ref (1000000000 + (200 + w)), .int (nI j)] h (some (.int (stC w j &&& 255))) h := by
  refine SPx.intro [some (.ref (1000000000 + (200 + w))), some (.int (nI j))] (by decide +kernel) rfl (Nat.le_of_ble_eq_true rfl) ?_
  refine wp_iload_1 dJ5_charAt_0 rfl ?_
  refine wp_aload_0 dJ5_charAt_1 rfl ?_
  refine wp_alenS dJ5_charAt_2 rfl hw ?_
  have h9 := stL_lt w
  have hi0 : ¬ nI j < 0 := nI_pos (by omega)
  have him : nI j < nI (stL.getD w 0) := nI_lt hj (by omega)
  refine wp_cs0 dJ5_charAt_3 rfl q854 ms_J4_checkIndex (j_scheck hi0 him) rfl rfl (Nat.le_of_ble_eq_true rfl) (Nat.le_of_ble_eq_true rfl) ?_
  refine wp_aload_0 dJ5_charAt_6 rfl ?_
  refine wp_iload_1 dJ5_charAt_7 rfl ?_
  refine wp_baloadS (j := j) dJ5_charAt_8 rfl hw rfl hj (stL_lt _) ?_
  refine wp_sipush 255 dJ5_charAt_9 rfl rfl ?_
  refine wp_iand dJ5_charAt_12 rfl ?_
  refine wp_i2c dJ5_charAt_13 rfl ?_
  rw [show (((stB.getD w []).getD j 0 &&& 255).toUInt32 % 65536).toInt32 = stC w j &&& 255 from sc_c2 _]
  exact wp_nreturn dJ5_charAt_14 rfl (sc_nar _) ⟨rfl, rfl⟩
theorem j_charAt {g : GW} {h : AH} {w : Nat} (hw : w < stT.length) {j : Nat} (hj : j < stL.getD w 0) : SPx g 4 0 0 yJ4_charAt cJ4_charAt 2 (some .char) [.ref (1000000000 + (100 + w)), .int (nI j)] h (some (.int (stC w j &&& 255))) h := by
  refine SPx.intro [some (.ref (1000000000 + (100 + w))), some (.int (nI j))] (by decide +kernel) rfl (Nat.le_of_ble_eq_true rfl) ?_
  refine wp_aload_0 dJ4_charAt_0 rfl ?_
  refine wp_callVS dJ4_charAt_1 rfl q847 mv_J4_isLatin1 hw rfl (j_isLatin1 hw) rfl rfl (Nat.le_of_ble_eq_true rfl) (Nat.le_of_ble_eq_true rfl) ?_
  refine wp_ifeq_b 16 dJ4_charAt_4 rfl rfl (fun c4 => ?_) (fun c4 => ?_)
  · exact absurd c4 (by decide)
  · refine wp_aload_0 dJ4_charAt_7 rfl ?_
    refine wp_getfSv dJ4_charAt_8 rfl q2692 hw ?_
    refine wp_iload_1 dJ4_charAt_11 rfl ?_
    refine wp_csR dJ4_charAt_12 rfl q851 ms_J5_charAt (j_l1charAt hw hj) rfl rfl (Nat.le_of_ble_eq_true rfl) (Nat.le_of_ble_eq_true rfl) ?_
    exact wp_nreturn dJ4_charAt_15 rfl (sc_nar _) ⟨rfl, rfl⟩
/-- h holds at a a list of the cells f 0 .. f (m - 1), its array at q with room for len-/
def LI (h : AH) (a q len m : Nat) (mc : Int32) (f : Nat → Option Nat) : Prop := h[a]? = some (.inr (3, [.int mc, .ref q, .int (nI m)])) ∧ h[q]? = some (.inl (6, len, .inr (.inr f))) ∧ m ≤ len ∧ len < 2147483648
theorem j_size {g : GW} {h : AH} {a q len m : Nat} {mc : Int32} {f : Nat → Option Nat} (hl : LI h a q len m mc f)  : SPx g 1 0 0 yJ2_size cJ2_size 1 (some .int) [.ref a] h (some (.int (nI m))) h := by
  refine SPx.intro [some (.ref a)] (pfn (by decide)) rfl (Nat.le_of_ble_eq_true rfl) ?_
  refine wp_aload_0 dJ2_size_0 rfl ?_
  refine wp_getf dJ2_size_1 rfl q425 fk3_2 hl.1 rfl ?_
  exact wp_ireturn dJ2_size_4 rfl ⟨rfl, rfl⟩
theorem j_elementData {g : GW} {h : AH} {a q len m : Nat} {mc : Int32} {f : Nat → Option Nat} (hl : LI h a q len m mc f) {j r : Nat} (hj : j < m) (hf : f j = some r) : SPx g 1 0 0 yJ2_elementData cJ2_elementData 2 (some (.object "java/lang/Object")) [.ref a, .int (nI j)] h (some (.ref r)) h := by
  refine SPx.intro [some (.ref a), some (.int (nI j))] (pfn (by decide)) rfl (Nat.le_of_ble_eq_true rfl) ?_
  refine wp_aload_0 dJ2_elementData_0 rfl ?_
  refine wp_getf dJ2_elementData_1 rfl q422 fk3_1 hl.1 rfl ?_
  refine wp_iload_1 dJ2_elementData_4 rfl ?_
  refine wp_aaload j dJ2_elementData_5 rfl rfl rfl hl.2.1 (nI_clamp (by have := hl.2.2; omega)) (vp_in_nI (show j < len by have := hl.2.2.1; omega) hl.2.2.2) ?_
  rw [hf]
  exact wp_areturn_r dJ2_elementData_6 rfl (Or.inl ⟨_, rfl⟩) ⟨rfl, rfl⟩
theorem j_get {g : GW} {h : AH} {a q len m : Nat} {mc : Int32} {f : Nat → Option Nat} (hl : LI h a q len m mc f) {j r : Nat} (hj : j < m) (hf : f j = some r) : SPx g 3 0 0 yJ2_get cJ2_get 2 (some (.object "java/lang/Object")) [.ref a, .int (nI j)] h (some (.ref r)) h := by
  refine SPx.intro [some (.ref a), some (.int (nI j))] (pfn (by decide)) rfl (Nat.le_of_ble_eq_true rfl) ?_
  refine wp_iload_1 dJ2_get_0 rfl ?_
  refine wp_aload_0 dJ2_get_1 rfl ?_
  refine wp_getf dJ2_get_2 rfl q425 fk3_2 hl.1 rfl ?_
  have hi0 : ¬ nI j < 0 := nI_pos (by have := hl.2.2; omega)
  have him : nI j < nI m := nI_lt hj (by have := hl.2.2; omega)
  refine wp_csR dJ2_get_5 rfl q1203 ms_J14_checkIndex (j_ocheck hi0 him) rfl rfl (Nat.le_of_ble_eq_true rfl) (Nat.le_of_ble_eq_true rfl) ?_
  refine wp_pop dJ2_get_8 rfl rfl ?_
  refine wp_aload_0 dJ2_get_9 rfl ?_
  refine wp_iload_1 dJ2_get_10 rfl ?_
  refine wp_cvR dJ2_get_11 rfl q1207 mv_J2_elementData hl.1 rfl rfl (j_elementData hl hj hf) rfl rfl (Nat.le_of_ble_eq_true rfl) (Nat.le_of_ble_eq_true rfl) ?_
  exact wp_areturn_r dJ2_get_14 rfl (Or.inl ⟨_, rfl⟩) ⟨rfl, rfl⟩
