/-! ===== the reference: games ===== -/
set_option maxRecDepth 100000
theorem sA1 (j i : Nat) (v : Int32) (S : SM) : (sA j i v S).1 = S.1 := rfl
theorem sF1x {k q : Nat} (v : Int32) (S : SM) (h : q ≠ k) : (sF k v S).1 q = S.1 q := pk_un h
theorem m_inGame {g : GW} {M : Nat} {pre post : AH} {S : SM} (hm : pre.length = M) {i w : Nat} (hi : i < 60) (hw : w < 3) : SPx g 1 0 0 yX10_inGame cX10_inGame 3 (some .int) [.ref M, .int (nI i), .int (nI w)] (mH M pre S post) (some (.int (S.2.1 7 (3 * i + w)))) (mH M pre S post) := by
  refine SPx.intro [some (.ref M), some (.int (nI i)), some (.int (nI w))] (pfn (by decide)) rfl (Nat.le_of_ble_eq_true rfl) ?_
  refine wp_aload_0 dX10_inGame_0 rfl ?_
  refine wp_getf dX10_inGame_1 rfl q1846 fk10_15 (mg_0 hm) rfl ?_
  refine wp_iconst 3 dX10_inGame_4 rfl rfl ?_
  refine wp_iload_1 dX10_inGame_5 rfl ?_
  refine wp_imul dX10_inGame_6 rfl ?_
  refine wp_iload_2 dX10_inGame_7 rfl ?_
  refine wp_iadd dX10_inGame_8 rfl ?_
  refine wp_ialoadn ((3 * i) + w) dX10_inGame_9 rfl (mg_7 hm) (by simp only [nI_lit, pk_mul, nI_add]; try rfl) (by omega) (by decide) ?_
  exact wp_ireturn dX10_inGame_10 rfl ⟨rfl, rfl⟩
theorem m_nextTick {g : GW} {M : Nat} {pre post : AH} {S : SM} (hm : pre.length = M) {m : Nat} (h18 : S.1 18 = nI m) (hm60 : m ≤ 60) : SPx g 1 0 0 yX10_nextTick cX10_nextTick 1 (some .int) [.ref M] (mH M pre S post) (some (.int (ntS m S))) (mH M pre S post) := by
  refine SPx.intro [some (.ref M)] (pfn (by decide)) rfl (Nat.le_of_ble_eq_true rfl) ?_
  refine wp_aload_0 dX10_nextTick_0 rfl ?_
  refine wp_getf dX10_nextTick_1 rfl q1849 fk10_18 (mg_0 hm) rfl ?_
  refine wp_if_ne 11 dX10_nextTick_4 rfl rfl (fun c4 => ?_) (fun c4 => ?_)
  · have hm0 : ¬ m = 0 := fun q => c4 (by rw [h18, q]; rfl)
    refine wp_aload_0 dX10_nextTick_11 rfl ?_
    refine wp_getf dX10_nextTick_12 rfl q1848 fk10_17 (mg_0 hm) rfl ?_
    refine wp_aload_0 dX10_nextTick_15 rfl ?_
    refine wp_getf dX10_nextTick_16 rfl q1849 fk10_18 (mg_0 hm) rfl ?_
    refine wp_iconst 1 dX10_nextTick_19 rfl rfl ?_
    refine wp_isub dX10_nextTick_20 rfl ?_
    refine wp_ialoadn (m - 1) dX10_nextTick_21 rfl (mg_9 hm) (by rw [h18]; exact pk_sub (b := 1) (by omega)) (by omega) (by decide) ?_
    refine wp_aload_0 dX10_nextTick_22 rfl ?_
    refine wp_getf dX10_nextTick_23 rfl q1832 fk10_1 (mg_0 hm) rfl ?_
    refine wp_iconst 3 dX10_nextTick_26 rfl rfl ?_
    refine wp_ialoadn 3 dX10_nextTick_27 rfl (mg_1 hm) rfl (by decide) (by decide) ?_
    refine wp_iadd dX10_nextTick_28 rfl ?_
    refine wp_iconst 1 dX10_nextTick_29 rfl rfl ?_
    refine wp_iadd dX10_nextTick_30 rfl ?_
    exact wp_ireturn dX10_nextTick_31 rfl ⟨by simp [ntS, hm0, wd], rfl⟩
  · have hm0 : m = 0 := (nI_eq (a := m) (b := 0) (by omega) (by omega)).mp (by rw [← h18]; exact c4)
    refine wp_iconst 0 dX10_nextTick_7 rfl rfl ?_
    refine wp_goto 31 dX10_nextTick_8 rfl rfl ?_
    exact wp_ireturn dX10_nextTick_31 rfl ⟨by simp [ntS, hm0, wd], rfl⟩
def mayS (m : Nat) (S : SM) : Bool := decide (S.1 18 < 60) && decide (ntS m S + stayW (wd S) (ntS m S) - 1 ≤ wd S 2 - 1)
theorem m_mayCome {g : GW} {M : Nat} {pre post : AH} {S : SM} (hm : pre.length = M) {m : Nat} (h18 : S.1 18 = nI m) (hm60 : m ≤ 60) (hs : WFs (wd S)) : SPx g 2 0 0 yX10_mayCome cX10_mayCome 2 (some .boolean) [.ref M] (mH M pre S post) (some (.int (b2i (mayS m S)))) (mH M pre S post) := by
  refine SPx.intro [some (.ref M), none] (pfn (by decide)) rfl (Nat.le_of_ble_eq_true rfl) ?_
  refine wp_aload_0 dX10_mayCome_0 rfl ?_
  refine wp_cvR dX10_mayCome_1 rfl q2166 mv_X10_nextTick (mg_0 hm) rfl rfl (m_nextTick hm h18 (by omega)) rfl rfl (Nat.le_of_ble_eq_true rfl) (Nat.le_of_ble_eq_true rfl) ?_
  refine wp_istore_1 dX10_mayCome_4 rfl (by decide) rfl ?_
  refine wp_aload_0 dX10_mayCome_5 rfl ?_
  refine wp_getf dX10_mayCome_6 rfl q1849 fk10_18 (mg_0 hm) rfl ?_
  refine wp_bipush 60 dX10_mayCome_9 rfl rfl ?_
  refine wp_icmp_ge 38 dX10_mayCome_11 rfl rfl (fun c11 => ?_) (fun c11 => ?_)
  · refine wp_iconst 0 dX10_mayCome_38 rfl rfl ?_
    exact wp_zreturn dX10_mayCome_39 rfl rfl ⟨bf (by rw [mayS, decide_eq_false (Int32.not_lt.mpr c11), Bool.false_and]), rfl⟩
  · refine wp_iload_1 dX10_mayCome_14 rfl ?_
    refine wp_aload_0 dX10_mayCome_15 rfl ?_
    refine wp_iload_1 dX10_mayCome_16 rfl ?_
    refine wp_cvR dX10_mayCome_17 rfl q2146 mv_X10_stayIn (mg_0 hm) rfl rfl (m_stayIn hm hs) rfl rfl (Nat.le_of_ble_eq_true rfl) (Nat.le_of_ble_eq_true rfl) ?_
    refine wp_iadd dX10_mayCome_20 rfl ?_
    refine wp_iconst 1 dX10_mayCome_21 rfl rfl ?_
    refine wp_isub dX10_mayCome_22 rfl ?_
    refine wp_aload_0 dX10_mayCome_23 rfl ?_
    refine wp_getf dX10_mayCome_24 rfl q1832 fk10_1 (mg_0 hm) rfl ?_
    refine wp_iconst 2 dX10_mayCome_27 rfl rfl ?_
    refine wp_ialoadn 2 dX10_mayCome_28 rfl (mg_1 hm) rfl (by decide) (by decide) ?_
    refine wp_iconst 1 dX10_mayCome_29 rfl rfl ?_
    refine wp_isub dX10_mayCome_30 rfl ?_
    refine wp_icmp_gt 38 dX10_mayCome_31 rfl rfl (fun c31 => ?_) (fun c31 => ?_)
    · refine wp_iconst 0 dX10_mayCome_38 rfl rfl ?_
      exact wp_zreturn dX10_mayCome_39 rfl rfl ⟨bf (by rw [mayS, decide_eq_false (Int32.not_le.mpr (show wd S 2 - 1 < _ from c31)), Bool.and_false]), rfl⟩
    · refine wp_iconst 1 dX10_mayCome_34 rfl rfl ?_
      refine wp_goto 39 dX10_mayCome_35 rfl rfl ?_
      exact wp_zreturn dX10_mayCome_39 rfl rfl ⟨bt (by rw [mayS, decide_eq_true (Int32.not_le.mp c11), decide_eq_true (Int32.not_lt.mp (show ¬ wd S 2 - 1 < _ from c31)), Bool.and_self]), rfl⟩
theorem m_come {g : GW} {M : Nat} {pre post : AH} {S : SM} (hm : pre.length = M) {x z w : Int32} {m : Nat} (h18 : S.1 18 = nI m) (hm60 : m < 60) (hs : WFs (wd S)) : SPx g 2 0 0 yX10_come cX10_come 5 none [.ref M, .int x, .int z, .int w] (mH M pre S post) none (mH M pre (comeS m x z w S) post) := by
  refine SPx.intro [some (.ref M), some (.int x), some (.int z), some (.int w), none] (pfn (by decide)) rfl (Nat.le_of_ble_eq_true rfl) ?_
  refine wp_aload_0 dX10_come_0 rfl ?_
  refine wp_cvR dX10_come_1 rfl q2166 mv_X10_nextTick (mg_0 hm) rfl rfl (m_nextTick hm h18 (by omega)) rfl rfl (Nat.le_of_ble_eq_true rfl) (Nat.le_of_ble_eq_true rfl) ?_
  refine wp_istore_4 dX10_come_4 rfl (by decide) rfl ?_
  refine wp_aload_0 dX10_come_6 rfl ?_
  refine wp_getf dX10_come_7 rfl q1846 fk10_15 (mg_0 hm) rfl ?_
  refine wp_iconst 3 dX10_come_10 rfl rfl ?_
  refine wp_aload_0 dX10_come_11 rfl ?_
  refine wp_getf dX10_come_12 rfl q1849 fk10_18 (mg_0 hm) rfl ?_
  refine wp_imul dX10_come_15 rfl ?_
  refine wp_iconst 0 dX10_come_16 rfl rfl ?_
  refine wp_iadd dX10_come_17 rfl ?_
  refine wp_iload_1 dX10_come_18 rfl ?_
  refine wp_iastoren ((3 * m) + 0) dX10_come_19 rfl (mg_7 hm) (by simp only [sA1, sF1x, h18, nI_lit, pk_mul, nI_add]; try rfl) (by omega) (by decide) (ms_A7 hm) ?_
  refine wp_aload_0 dX10_come_20 rfl ?_
  refine wp_getf dX10_come_21 rfl q1846 fk10_15 (mg_0 hm) rfl ?_
  refine wp_iconst 3 dX10_come_24 rfl rfl ?_
  refine wp_aload_0 dX10_come_25 rfl ?_
  refine wp_getf dX10_come_26 rfl q1849 fk10_18 (mg_0 hm) rfl ?_
  refine wp_imul dX10_come_29 rfl ?_
  refine wp_iconst 1 dX10_come_30 rfl rfl ?_
  refine wp_iadd dX10_come_31 rfl ?_
  refine wp_iload_2 dX10_come_32 rfl ?_
  refine wp_iastoren ((3 * m) + 1) dX10_come_33 rfl (mg_7 hm) (by simp only [sA1, sF1x, h18, nI_lit, pk_mul, nI_add]; try rfl) (by omega) (by decide) (ms_A7 hm) ?_
  refine wp_aload_0 dX10_come_34 rfl ?_
  refine wp_getf dX10_come_35 rfl q1846 fk10_15 (mg_0 hm) rfl ?_
  refine wp_iconst 3 dX10_come_38 rfl rfl ?_
  refine wp_aload_0 dX10_come_39 rfl ?_
  refine wp_getf dX10_come_40 rfl q1849 fk10_18 (mg_0 hm) rfl ?_
  refine wp_imul dX10_come_43 rfl ?_
  refine wp_iconst 2 dX10_come_44 rfl rfl ?_
  refine wp_iadd dX10_come_45 rfl ?_
  refine wp_iload_3 dX10_come_46 rfl ?_
  refine wp_iastoren ((3 * m) + 2) dX10_come_47 rfl (mg_7 hm) (by simp only [sA1, sF1x, h18, nI_lit, pk_mul, nI_add]; try rfl) (by omega) (by decide) (ms_A7 hm) ?_
  refine wp_aload_0 dX10_come_48 rfl ?_
  refine wp_getf dX10_come_49 rfl q1847 fk10_16 (mg_0 hm) rfl ?_
  refine wp_aload_0 dX10_come_52 rfl ?_
  refine wp_getf dX10_come_53 rfl q1849 fk10_18 (mg_0 hm) rfl ?_
  refine wp_iload_4 dX10_come_56 rfl ?_
  refine wp_iastoren m dX10_come_58 rfl (mg_8 hm) (by simp only [sA1, sF1x, h18, nI_lit, pk_mul, nI_add]; try rfl) (by omega) (by decide) (ms_A8 hm) ?_
  refine wp_aload_0 dX10_come_59 rfl ?_
  refine wp_getf dX10_come_60 rfl q1848 fk10_17 (mg_0 hm) rfl ?_
  refine wp_aload_0 dX10_come_63 rfl ?_
  refine wp_getf dX10_come_64 rfl q1849 fk10_18 (mg_0 hm) rfl ?_
  refine wp_iload_4 dX10_come_67 rfl ?_
  refine wp_aload_0 dX10_come_69 rfl ?_
  refine wp_iload_4 dX10_come_70 rfl ?_
  refine wp_cvR dX10_come_72 rfl q2146 mv_X10_stayIn (mg_0 hm) rfl rfl (m_stayIn hm hs) rfl rfl (Nat.le_of_ble_eq_true rfl) (Nat.le_of_ble_eq_true rfl) ?_
  refine wp_iadd dX10_come_75 rfl ?_
  refine wp_iconst 1 dX10_come_76 rfl rfl ?_
  refine wp_isub dX10_come_77 rfl ?_
  refine wp_iastoren m dX10_come_78 rfl (mg_9 hm) (by simp only [sA1, sF1x, h18, nI_lit, pk_mul, nI_add]; try rfl) (by omega) (by decide) (ms_A9 hm) ?_
  refine wp_aload_0 dX10_come_79 rfl ?_
  refine wp_dup dX10_come_80 rfl rfl ?_
  refine wp_getf dX10_come_81 rfl q1849 fk10_18 (mg_0 hm) rfl ?_
  refine wp_iconst 1 dX10_come_84 rfl rfl ?_
  refine wp_iadd dX10_come_85 rfl ?_
  refine wp_putf dX10_come_86 rfl q1849 fp10_18 (mg_0 hm) rfl rfl (Nat.le_of_ble_eq_true rfl) (ms_F18 hm) ?_
  exact wp_return dX10_come_89 rfl ⟨rfl, rfl⟩
theorem mayS_K {S : SM} {W : Nat → Int32} {m : Nat} (hg : GS S (m, dgF W)) (hw : wd S = W) : mayS m S = mayK W m := by
  unfold mayS mayK
  rw [hg.nt hw, hw]
  congr 1
  rw [hg.1, decide_eq_decide]
  exact nI_ltI (b := 60) (by have := hg.2.1; have : m ≤ 60 := this; omega) (by omega)
theorem lay_ix {S : SM} {W : Nat → Int32} {m : Nat} (hg : GS S (m, dgF W)) (hw : wd S = W) (hs : WFs (wd S)) (n5 : 0 < nW W 5) : [Value.int (nI (dgI W m))] = [.int (S.2.1 1 8 + S.1 18 - (S.2.1 1 8 + S.1 18) / S.2.1 1 5 * S.2.1 1 5)] := by
  subst hw
  have e8 : S.2.1 1 8 = nI (nW (wd S) 8) := hs.sd.1
  have e5 : S.2.1 1 5 = nI (nW (wd S) 5) := hs.nc.1
  have b8 := hs.sd.2
  have b5 := hs.nc.2
  have bm : m ≤ 60 := hg.2.1
  rw [e8, e5, hg.1]
  show _ = [Value.int (nI _ + nI m - (nI _ + nI m) / _ * _)]
  rw [nI_add, pk_rem (by omega) n5 (by omega)]
  rfl
theorem mL_lay {g : GW} {M : Nat} {pre post : AH} (hm : pre.length = M) {W : Nat → Int32} {c n : Nat} {Q : Option Value → AH → Prop} : ∀ (f m : Nat) (S : SM) (v1 : Option Value), m + f = 60 → wd S = W → 0 < wd S 5 → 0 < nW W 5 → WFs (wd S) → GS S (m, dgF W) → (∀ S', KG S S' → GS S' (cntK (mayK W) f m, dgF W) → Q none (mH M pre S' post)) → WP g 3 yX10_lay cX10_lay 2 none 5 [some (.ref M), v1] [] (mH M pre S post) c n Q := by
  intro f
  induction f with
  | zero =>
    intro m S v1 hf hw h5 n5 hs hg hq
    refine wp_aload_0 dX10_lay_5 rfl ?_
    refine wp_getf dX10_lay_6 rfl q1832 fk10_1 (mg_0 hm) rfl ?_
    refine wp_iconst 5 dX10_lay_9 rfl rfl ?_
    refine wp_ialoadn 5 dX10_lay_10 rfl (mg_1 hm) rfl (by decide) (by decide) ?_
    refine wp_if_le 66 dX10_lay_11 rfl rfl (fun c11 => ?_) (fun c11 => ?_)
    · exact absurd h5 (Int32.not_lt.mpr c11)
    · refine wp_aload_0 dX10_lay_14 rfl ?_
      refine wp_cvR dX10_lay_15 rfl q2162 mv_X10_mayCome (mg_0 hm) rfl rfl (m_mayCome hm hg.1 hg.2.1 hs) rfl rfl (Nat.le_of_ble_eq_true rfl) (Nat.le_of_ble_eq_true rfl) ?_
      refine wp_ifeq_b 66 dX10_lay_18 rfl rfl (fun c18 => ?_) (fun c18 => ?_)
      · have hc : mayK W m = false := by rw [← mayS_K hg hw]; exact c18
        exact wp_return dX10_lay_66 rfl (hq S (KG.rf S) (by rw [cnt_0 hc]; exact hg))
      · exact absurd c18 (by rw [mayS_K hg hw]; simp [mayK, show m = 60 by omega])
  | succ f ih =>
    intro m S v1 hf hw h5 n5 hs hg hq
    refine wp_aload_0 dX10_lay_5 rfl ?_
    refine wp_getf dX10_lay_6 rfl q1832 fk10_1 (mg_0 hm) rfl ?_
    refine wp_iconst 5 dX10_lay_9 rfl rfl ?_
    refine wp_ialoadn 5 dX10_lay_10 rfl (mg_1 hm) rfl (by decide) (by decide) ?_
    refine wp_if_le 66 dX10_lay_11 rfl rfl (fun c11 => ?_) (fun c11 => ?_)
    · exact absurd h5 (Int32.not_lt.mpr c11)
    · refine wp_aload_0 dX10_lay_14 rfl ?_
      refine wp_cvR dX10_lay_15 rfl q2162 mv_X10_mayCome (mg_0 hm) rfl rfl (m_mayCome hm hg.1 hg.2.1 hs) rfl rfl (Nat.le_of_ble_eq_true rfl) (Nat.le_of_ble_eq_true rfl) ?_
      refine wp_ifeq_b 66 dX10_lay_18 rfl rfl (fun c18 => ?_) (fun c18 => ?_)
      · have hc : mayK W m = false := by rw [← mayS_K hg hw]; exact c18
        exact wp_return dX10_lay_66 rfl (hq S (KG.rf S) (by rw [cnt_0 hc]; exact hg))
      · have hc : mayK W m = true := by rw [← mayS_K hg hw]; exact c18
        have hm60 : m < 60 := by
          have := hc
          rw [mayK, Bool.and_eq_true, decide_eq_true_eq] at this
          exact this.1
        have hi : dgI W m < 24 := Nat.lt_of_lt_of_le (Nat.mod_lt _ n5) (by have := hs.nc.2; rw [hw] at this; exact this)
        refine wp_aload_0 dX10_lay_21 rfl ?_
        refine wp_getf dX10_lay_22 rfl q1832 fk10_1 (mg_0 hm) rfl ?_
        refine wp_bipush 8 dX10_lay_25 rfl rfl ?_
        refine wp_ialoadn 8 dX10_lay_27 rfl (mg_1 hm) rfl (by decide) (by decide) ?_
        refine wp_aload_0 dX10_lay_28 rfl ?_
        refine wp_getf dX10_lay_29 rfl q1849 fk10_18 (mg_0 hm) rfl ?_
        refine wp_iadd dX10_lay_32 rfl ?_
        refine wp_aload_0 dX10_lay_33 rfl ?_
        refine wp_getf dX10_lay_34 rfl q1832 fk10_1 (mg_0 hm) rfl ?_
        refine wp_iconst 5 dX10_lay_37 rfl rfl ?_
        refine wp_ialoadn 5 dX10_lay_38 rfl (mg_1 hm) rfl (by decide) (by decide) ?_
        refine wp_irem dX10_lay_39 rfl (by show ¬ wd S 5 = 0; exact fun q => absurd h5 (by rw [q]; decide)) ?_
        refine WP.casts [.int (nI (dgI W m))] (lay_ix hg hw hs n5) ?_
        refine wp_istore_1 dX10_lay_40 rfl (by decide) rfl ?_
        refine wp_aload_0 dX10_lay_41 rfl ?_
        refine wp_aload_0 dX10_lay_42 rfl ?_
        refine wp_iload_1 dX10_lay_43 rfl ?_
        refine wp_iconst 0 dX10_lay_44 rfl rfl ?_
        refine wp_cvR dX10_lay_45 rfl q2121 mv_X10_ofComing (mg_0 hm) rfl rfl (m_ofComing (w := 0) hm hi (by omega)) rfl rfl (Nat.le_of_ble_eq_true rfl) (Nat.le_of_ble_eq_true rfl) ?_
        refine wp_aload_0 dX10_lay_48 rfl ?_
        refine wp_iload_1 dX10_lay_49 rfl ?_
        refine wp_iconst 1 dX10_lay_50 rfl rfl ?_
        refine wp_cvR dX10_lay_51 rfl q2121 mv_X10_ofComing (mg_0 hm) rfl rfl (m_ofComing (w := 1) hm hi (by omega)) rfl rfl (Nat.le_of_ble_eq_true rfl) (Nat.le_of_ble_eq_true rfl) ?_
        refine wp_aload_0 dX10_lay_54 rfl ?_
        refine wp_iload_1 dX10_lay_55 rfl ?_
        refine wp_iconst 2 dX10_lay_56 rfl rfl ?_
        refine wp_cvR dX10_lay_57 rfl q2121 mv_X10_ofComing (mg_0 hm) rfl rfl (m_ofComing (w := 2) hm hi (by omega)) rfl rfl (Nat.le_of_ble_eq_true rfl) (Nat.le_of_ble_eq_true rfl) ?_
        refine wp_cv0 dX10_lay_60 rfl q2170 mv_X10_come (mg_0 hm) rfl rfl (m_come hm hg.1 hm60 hs) rfl rfl (Nat.le_of_ble_eq_true rfl) (Nat.le_of_ble_eq_true rfl) ?_
        refine wp_goto 5 dX10_lay_63 rfl rfl ?_
        exact ih (m + 1) (comeS m (wd S (24 + 3 * dgI W m + 0)) (wd S (24 + 3 * dgI W m + 1)) (wd S (24 + 3 * dgI W m + 2)) S) _ (by omega) hw h5 n5 hs (comeS_GS hg hm60 (by rw [hw]; rfl) (by rw [hw]; rfl) (by rw [hw]; rfl) (hg.nt hw) (by rw [hg.nt hw, hw]; rfl)) (fun S2 k2 g2 => hq S2 ((comeS_KG m _ _ _ S).tr k2) (by rw [itr_c hc]; exact g2))
theorem lay_KG0 (S : SM) : KG S (sF 18 0 S) := ⟨fun k q => sF1x 0 S q, fun _ _ _ _ => rfl, rfl⟩
theorem lay_GS0 {G : GF} (S : SM) : GS (sF 18 0 S) (0, G) := ⟨(pk_us : upd S.1 18 0 18 = 0), Nat.zero_le 60, fun i hi => absurd hi (Nat.not_lt_zero i)⟩
theorem m_lay {g : GW} {M : Nat} {pre post : AH} {S : SM} (hm : pre.length = M) (hs : WFs (wd S)) : SP g 3 0 0 yX10_lay cX10_lay 2 none [.ref M] (mH M pre S post) (fun v h1 => v = none ∧ ∃ S', h1 = mH M pre S' post ∧ KG S S' ∧ GS S' (dgW (wd S))) := by
  refine SP.intro [some (.ref M), none] (pfn (by decide)) rfl (Nat.le_of_ble_eq_true rfl) ?_
  refine wp_aload_0 dX10_lay_0 rfl ?_
  refine wp_iconst 0 dX10_lay_1 rfl rfl ?_
  refine wp_putf dX10_lay_2 rfl q1849 fp10_18 (mg_0 hm) rfl rfl (Nat.le_of_ble_eq_true rfl) (ms_F18 hm) ?_
  by_cases h5 : 0 < wd S 5
  · have n5 : 0 < nW (wd S) 5 := by
      rcases Nat.eq_zero_or_pos (nW (wd S) 5) with q | q
      · rw [hs.nc.1, q] at h5; exact absurd h5 (by decide)
      · exact q
    exact mL_lay hm 60 0 (sF 18 0 S) none (Nat.zero_add _) rfl h5 n5 hs (lay_GS0 S) (fun S2 k2 g2 => ⟨rfl, S2, rfl, (lay_KG0 S).tr k2, by rw [dgW, dgM, if_pos h5]; exact g2⟩)
  · refine wp_aload_0 dX10_lay_5 rfl ?_
    refine wp_getf dX10_lay_6 rfl q1832 fk10_1 (mg_0 hm) rfl ?_
    refine wp_iconst 5 dX10_lay_9 rfl rfl ?_
    refine wp_ialoadn 5 dX10_lay_10 rfl (mg_1 hm) rfl (by decide) (by decide) ?_
    refine wp_if_le 66 dX10_lay_11 rfl rfl (fun c11 => ?_) (fun c11 => ?_)
    · exact wp_return dX10_lay_66 rfl ⟨rfl, sF 18 0 S, rfl, lay_KG0 S, by rw [dgW, dgM, if_neg h5]; exact lay_GS0 S⟩
    · exact absurd (Int32.not_lt.mp h5) c11
theorem m_isInGame {g : GW} {M : Nat} {pre post : AH} {S : SM} (hm : pre.length = M) {x : Int32} : SPx g 2 0 0 yX10_isInGame cX10_isInGame 2 (some .boolean) [.ref M, .int x] (mH M pre S post) (some (.int (b2i (inI x 0 (S.1 18 - 1))))) (mH M pre S post) := by
  refine SPx.intro [some (.ref M), some (.int x)] (pfn (by decide)) rfl (Nat.le_of_ble_eq_true rfl) ?_
  refine wp_iload_1 dX10_isInGame_0 rfl ?_
  refine wp_i2l dX10_isInGame_1 rfl ?_
  refine wp_lconst 0 dX10_isInGame_2 rfl rfl ?_
  refine wp_aload_0 dX10_isInGame_3 rfl ?_
  refine wp_getf dX10_isInGame_4 rfl q1849 fk10_18 (mg_0 hm) rfl ?_
  refine wp_iconst 1 dX10_isInGame_7 rfl rfl ?_
  refine wp_isub dX10_isInGame_8 rfl ?_
  refine wp_i2l dX10_isInGame_9 rfl ?_
  refine wp_csR dX10_isInGame_10 rfl q1979 ms_X10_in m_in rfl rfl (Nat.le_of_ble_eq_true rfl) (Nat.le_of_ble_eq_true rfl) ?_
  exact wp_zreturn dX10_isInGame_13 rfl (nz_b2i _) ⟨by rw [inL_0], rfl⟩
theorem q_m_comings {g : GW} {M : Nat} {pre post : AH} {S : SM} (hm : pre.length = M) (hs : WFs (wd S)) : SP g 4 0 0 yX10_comings cX10_comings 1 (some .int) [.ref M] (mH M pre S post) (QM M pre post S (.int (qcomings (wd S)))) := by
  refine SP.intro [some (.ref M)] (pfn (by decide)) rfl (Nat.le_of_ble_eq_true rfl) ?_
  refine wp_aload_0 dX10_comings_0 rfl ?_
  refine wp_cvR dX10_comings_1 rfl q2154 mv_X10_isBoard (mg_0 hm) rfl rfl (m_isBoard hm) rfl rfl (Nat.le_of_ble_eq_true rfl) (Nat.le_of_ble_eq_true rfl) ?_
  refine wp_ifne_b 10 dX10_comings_4 rfl rfl (fun c4 => ?_) (fun c4 => ?_)
  · refine wp_aload_0 dX10_comings_10 rfl ?_
    refine wp_cvE dX10_comings_11 rfl q2158 mv_X10_lay (mg_0 hm) rfl rfl (m_lay hm hs) rfl rfl (Nat.le_of_ble_eq_true rfl) (Nat.le_of_ble_eq_true rfl) (fun h1 hq => ?_)
    obtain ⟨S1, rfl, hk1, hg1⟩ := hq
    refine wp_aload_0 dX10_comings_14 rfl ?_
    refine wp_getf dX10_comings_15 rfl q1849 fk10_18 (mg_0 hm) rfl ?_
    exact wp_ireturn dX10_comings_18 rfl ⟨by simp [qcomings, *, hg1.1, dgW], S1, rfl, hk1.KP⟩
  · refine wp_bipush (-2) dX10_comings_7 rfl rfl ?_
    exact wp_ireturn dX10_comings_9 rfl ⟨by simp [qcomings, *], S, rfl, KP.rf S⟩
theorem q_m_comes {g : GW} {M : Nat} {pre post : AH} {S : SM} (hm : pre.length = M) {x z : Int32} (hs : WFs (wd S)) : SP g 4 0 0 yX10_comes cX10_comes 3 (some .int) [.ref M, .int x, .int z] (mH M pre S post) (QM M pre post S (.int (qcomes (wd S) x z))) := by
  refine SP.intro [some (.ref M), some (.int x), some (.int z)] (pfn (by decide)) rfl (Nat.le_of_ble_eq_true rfl) ?_
  refine wp_aload_0 dX10_comes_0 rfl ?_
  refine wp_cvR dX10_comes_1 rfl q2154 mv_X10_isBoard (mg_0 hm) rfl rfl (m_isBoard hm) rfl rfl (Nat.le_of_ble_eq_true rfl) (Nat.le_of_ble_eq_true rfl) ?_
  refine wp_ifeq_b 19 dX10_comes_4 rfl rfl (fun c4 => ?_) (fun c4 => ?_)
  · refine wp_bipush (-2) dX10_comes_19 rfl rfl ?_
    exact wp_ireturn dX10_comes_21 rfl ⟨by simp [qcomes, *], S, rfl, KP.rf S⟩
  · refine wp_iload_2 dX10_comes_7 rfl ?_
    refine wp_i2l dX10_comes_8 rfl ?_
    refine wp_lconst 0 dX10_comes_9 rfl rfl ?_
    refine wp_ldc2_w dX10_comes_10 rfl q2133 ?_
    refine wp_csR dX10_comes_13 rfl q1979 ms_X10_in m_in rfl rfl (Nat.le_of_ble_eq_true rfl) (Nat.le_of_ble_eq_true rfl) ?_
    refine wp_ifne_b 22 dX10_comes_16 rfl rfl (fun c16 => ?_) (fun c16 => ?_)
    · obtain ⟨w, hw, rfl⟩ := in4_of c16
      refine wp_aload_0 dX10_comes_22 rfl ?_
      refine wp_cvE dX10_comes_23 rfl q2158 mv_X10_lay (mg_0 hm) rfl rfl (m_lay hm hs) rfl rfl (Nat.le_of_ble_eq_true rfl) (Nat.le_of_ble_eq_true rfl) (fun h1 hq => ?_)
      obtain ⟨S1, rfl, hk1, hg1⟩ := hq
      refine wp_aload_0 dX10_comes_26 rfl ?_
      refine wp_iload_1 dX10_comes_27 rfl ?_
      refine wp_cvR dX10_comes_28 rfl q2178 mv_X10_isInGame (mg_0 hm) rfl rfl (m_isInGame hm) rfl rfl (Nat.le_of_ble_eq_true rfl) (Nat.le_of_ble_eq_true rfl) ?_
      refine wp_ifne_b 36 dX10_comes_31 rfl rfl (fun c31 => ?_) (fun c31 => ?_)
      · obtain ⟨i, hi, rfl⟩ := hg1.in c31
        have hi60 : i < 60 := Nat.lt_of_lt_of_le hi hg1.2.1
        have c31 : inI (nI i) 0 (nI (dgM (wd S)) - 1) = true := by rw [← show S1.1 18 = nI (dgM (wd S)) from hg1.1]; exact c31
        refine wp_iload_2 dX10_comes_36 rfl ?_
        refine wp_iconst 3 dX10_comes_37 rfl rfl ?_
        refine wp_icmp_ge_k 50 dX10_comes_38 rfl rfl (b := 3) (by omega) (by omega) (fun c38 => ?_) (fun c38 => ?_)
        · refine wp_iload_2 dX10_comes_50 rfl ?_
          refine wp_iconst 3 dX10_comes_51 rfl rfl ?_
          refine wp_icmp_ne_k 64 dX10_comes_52 rfl rfl (b := 3) (by omega) (by omega) (fun c52 => ?_) (fun c52 => ?_)
          · refine wp_aload_0 dX10_comes_64 rfl ?_
            refine wp_getf dX10_comes_65 rfl q1848 fk10_17 (mg_0 hm) rfl ?_
            refine wp_iload_1 dX10_comes_68 rfl ?_
            refine wp_ialoadn i dX10_comes_69 rfl (mg_9 hm) rfl hi60 (by decide) ?_
            exact wp_ireturn dX10_comes_70 rfl ⟨by rw [qcomes, if_pos ⟨c4, c16⟩, if_pos c31, nI_clamp (by omega), nI_clamp (by omega), gC5, if_neg (by omega), if_neg (by omega), hg1.e hi]; rfl, S1, rfl, hk1.KP⟩
          · refine wp_aload_0 dX10_comes_55 rfl ?_
            refine wp_getf dX10_comes_56 rfl q1847 fk10_16 (mg_0 hm) rfl ?_
            refine wp_iload_1 dX10_comes_59 rfl ?_
            refine wp_ialoadn i dX10_comes_60 rfl (mg_8 hm) rfl hi60 (by decide) ?_
            refine wp_goto 70 dX10_comes_61 rfl rfl ?_
            exact wp_ireturn dX10_comes_70 rfl ⟨by rw [qcomes, if_pos ⟨c4, c16⟩, if_pos c31, nI_clamp (by omega), nI_clamp (by omega), gC5, if_neg (by omega), if_pos (by omega), hg1.f hi]; rfl, S1, rfl, hk1.KP⟩
        · refine wp_aload_0 dX10_comes_41 rfl ?_
          refine wp_iload_1 dX10_comes_42 rfl ?_
          refine wp_iload_2 dX10_comes_43 rfl ?_
          refine wp_cvR dX10_comes_44 rfl q2182 mv_X10_inGame (mg_0 hm) rfl rfl (m_inGame hm hi60 (by omega)) rfl rfl (Nat.le_of_ble_eq_true rfl) (Nat.le_of_ble_eq_true rfl) ?_
          refine wp_goto 70 dX10_comes_47 rfl rfl ?_
          exact wp_ireturn dX10_comes_70 rfl ⟨by rw [qcomes, if_pos ⟨c4, c16⟩, if_pos c31, nI_clamp (by omega), nI_clamp (by omega), gC5, if_pos (by omega), hg1.at hi (by omega)]; rfl, S1, rfl, hk1.KP⟩
      · have c31 : inI x 0 (nI (dgM (wd S)) - 1) = false := by rw [← show S1.1 18 = nI (dgM (wd S)) from hg1.1]; exact c31
        refine wp_iconst (-1) dX10_comes_34 rfl rfl ?_
        exact wp_ireturn dX10_comes_35 rfl ⟨by rw [qcomes, if_pos ⟨c4, c16⟩, if_neg (by rw [c31]; decide)], S1, rfl, hk1.KP⟩
    · refine wp_bipush (-2) dX10_comes_19 rfl rfl ?_
      exact wp_ireturn dX10_comes_21 rfl ⟨by simp [qcomes, *], S, rfl, KP.rf S⟩
theorem mL_upIn {g : GW} {M : Nat} {pre post : AH} {S : SM} (hm : pre.length = M) {t : Int32} {G : GA} (hg : GS S G) {c n : Nat} {Q : Option Value → AH → Prop} : ∀ (k : Nat) (i : Nat) (b : Int32), i + k = G.1 → Q (some (.int (itr (upF G.2 t) k i b))) (mH M pre S post) → WP g 2 yX10_upIn cX10_upIn 4 (some .int) 4 [some (.ref M), some (.int t), some (.int b), some (.int (nI i))] [] (mH M pre S post) c n Q := by
  intro k
  induction k with
  | zero =>
    intro i b hi hq
    refine wp_iload_3 dX10_upIn_4 rfl ?_
    refine wp_aload_0 dX10_upIn_5 rfl ?_
    refine wp_getf dX10_upIn_6 rfl q1849 fk10_18 (mg_0 hm) rfl ?_
    refine wp_icmp_ge 75 dX10_upIn_9 rfl rfl (fun c9 => ?_) (fun c9 => ?_)
    · refine wp_iload_2 dX10_upIn_75 rfl ?_
      exact wp_ireturn dX10_upIn_76 rfl hq
    · exact absurd (show S.1 18 ≤ nI i by rw [hg.1]; exact nI_le (by omega) (by have := hg.2.1; omega)) c9
  | succ k ih =>
    intro i b hi hq
    refine wp_iload_3 dX10_upIn_4 rfl ?_
    refine wp_aload_0 dX10_upIn_5 rfl ?_
    refine wp_getf dX10_upIn_6 rfl q1849 fk10_18 (mg_0 hm) rfl ?_
    refine wp_icmp_ge 75 dX10_upIn_9 rfl rfl (fun c9 => ?_) (fun c9 => ?_)
    · exact absurd c9 (show ¬ (S.1 18 ≤ nI i) by rw [hg.1]; exact nI_ge (by omega) (by have := hg.2.1; omega))
    · have hi60 : i < 60 := by have := hg.2.1; omega
      have hif : i < G.1 := by omega
      refine wp_iload_1 dX10_upIn_12 rfl ?_
      refine wp_i2l dX10_upIn_13 rfl ?_
      refine wp_aload_0 dX10_upIn_14 rfl ?_
      refine wp_getf dX10_upIn_15 rfl q1847 fk10_16 (mg_0 hm) rfl ?_
      refine wp_iload_3 dX10_upIn_18 rfl ?_
      refine wp_ialoadn i dX10_upIn_19 rfl (mg_8 hm) rfl (by omega) (by decide) ?_
      refine wp_i2l dX10_upIn_20 rfl ?_
      refine wp_aload_0 dX10_upIn_21 rfl ?_
      refine wp_getf dX10_upIn_22 rfl q1848 fk10_17 (mg_0 hm) rfl ?_
      refine wp_iload_3 dX10_upIn_25 rfl ?_
      refine wp_ialoadn i dX10_upIn_26 rfl (mg_9 hm) rfl (by omega) (by decide) ?_
      refine wp_i2l dX10_upIn_27 rfl ?_
      refine wp_csR dX10_upIn_28 rfl q1979 ms_X10_in m_in rfl rfl (Nat.le_of_ble_eq_true rfl) (Nat.le_of_ble_eq_true rfl) ?_
      refine wp_ifne_b 37 dX10_upIn_31 rfl rfl (fun c31 => ?_) (fun c31 => ?_)
      · rw [hg.f hif, hg.e hif] at c31
        refine wp_iload_2 dX10_upIn_37 rfl ?_
        refine wp_iconst 1 dX10_upIn_38 rfl rfl ?_
        refine wp_aload_0 dX10_upIn_39 rfl ?_
        refine wp_iload_3 dX10_upIn_40 rfl ?_
        refine wp_iconst 0 dX10_upIn_41 rfl rfl ?_
        refine wp_cvR dX10_upIn_42 rfl q2182 mv_X10_inGame (mg_0 hm) rfl rfl (m_inGame (w := 0) hm hi60 (by omega)) rfl rfl (Nat.le_of_ble_eq_true rfl) (Nat.le_of_ble_eq_true rfl) ?_
        refine wp_ishl dX10_upIn_45 rfl ?_
        refine wp_ior dX10_upIn_46 rfl ?_
        refine wp_istore_2 dX10_upIn_47 rfl (by decide) rfl ?_
        refine wp_aload_0 dX10_upIn_48 rfl ?_
        refine wp_iload_3 dX10_upIn_49 rfl ?_
        refine wp_iconst 1 dX10_upIn_50 rfl rfl ?_
        refine wp_cvR dX10_upIn_51 rfl q2182 mv_X10_inGame (mg_0 hm) rfl rfl (m_inGame (w := 1) hm hi60 (by omega)) rfl rfl (Nat.le_of_ble_eq_true rfl) (Nat.le_of_ble_eq_true rfl) ?_
        refine wp_iconst (-1) dX10_upIn_54 rfl rfl ?_
        refine wp_icmp_eq 69 dX10_upIn_55 rfl rfl (fun c55 => ?_) (fun c55 => ?_)
        · refine wp_iinc_3 1 dX10_upIn_69 rfl rfl (by decide) rfl ?_
          refine wp_goto 4 dX10_upIn_72 rfl rfl ?_
          have e0 : S.2.1 7 (3 * i + 0) = gH G.2 i := hg.at (w := 0) hif (by omega)
          have e1 : S.2.1 7 (3 * i + 1) = gO G.2 i := hg.at (w := 1) hif (by omega)
          simp only [e0, e1] at *
          exact WP.cast (by simp [upF, nI_1, *]) (ih (i + 1) (upF G.2 t i b) (by omega) hq)
        · refine wp_iload_2 dX10_upIn_58 rfl ?_
          refine wp_iconst 1 dX10_upIn_59 rfl rfl ?_
          refine wp_aload_0 dX10_upIn_60 rfl ?_
          refine wp_iload_3 dX10_upIn_61 rfl ?_
          refine wp_iconst 1 dX10_upIn_62 rfl rfl ?_
          refine wp_cvR dX10_upIn_63 rfl q2182 mv_X10_inGame (mg_0 hm) rfl rfl (m_inGame (w := 1) hm hi60 (by omega)) rfl rfl (Nat.le_of_ble_eq_true rfl) (Nat.le_of_ble_eq_true rfl) ?_
          refine wp_ishl dX10_upIn_66 rfl ?_
          refine wp_ior dX10_upIn_67 rfl ?_
          refine wp_istore_2 dX10_upIn_68 rfl (by decide) rfl ?_
          refine wp_iinc_3 1 dX10_upIn_69 rfl rfl (by decide) rfl ?_
          refine wp_goto 4 dX10_upIn_72 rfl rfl ?_
          have e0 : S.2.1 7 (3 * i + 0) = gH G.2 i := hg.at (w := 0) hif (by omega)
          have e1 : S.2.1 7 (3 * i + 1) = gO G.2 i := hg.at (w := 1) hif (by omega)
          simp only [e0, e1] at *
          exact WP.cast (by simp [upF, nI_1, *]) (ih (i + 1) (upF G.2 t i b) (by omega) hq)
      · rw [hg.f hif, hg.e hif] at c31
        refine wp_goto 69 dX10_upIn_34 rfl rfl ?_
        refine wp_iinc_3 1 dX10_upIn_69 rfl rfl (by decide) rfl ?_
        refine wp_goto 4 dX10_upIn_72 rfl rfl ?_
        have e0 : S.2.1 7 (3 * i + 0) = gH G.2 i := hg.at (w := 0) hif (by omega)
        have e1 : S.2.1 7 (3 * i + 1) = gO G.2 i := hg.at (w := 1) hif (by omega)
        simp only [e0, e1] at *
        exact WP.cast (by simp [upF, nI_1, *]) (ih (i + 1) (upF G.2 t i b) (by omega) hq)
theorem m_upIn {g : GW} {M : Nat} {pre post : AH} {S : SM} (hm : pre.length = M) {t : Int32} {G : GA} (hg : GS S G) : SPx g 2 0 0 yX10_upIn cX10_upIn 4 (some .int) [.ref M, .int t] (mH M pre S post) (some (.int (upG G t))) (mH M pre S post) := by
  refine SPx.intro [some (.ref M), some (.int t), none, none] (pfn (by decide)) rfl (Nat.le_of_ble_eq_true rfl) ?_
  refine wp_iconst 0 dX10_upIn_0 rfl rfl ?_
  refine wp_istore_2 dX10_upIn_1 rfl (by decide) rfl ?_
  refine wp_iconst 0 dX10_upIn_2 rfl rfl ?_
  refine wp_istore_3 dX10_upIn_3 rfl (by decide) rfl ?_
  exact mL_upIn hm hg _ 0 0 (Nat.zero_add _) ⟨rfl, rfl⟩
theorem q_m_up {g : GW} {M : Nat} {pre post : AH} {S : SM} (hm : pre.length = M) {t : Int32} (hs : WFs (wd S)) : SP g 4 0 0 yX10_up cX10_up 2 (some .int) [.ref M, .int t] (mH M pre S post) (QM M pre post S (.int (qup (wd S) t))) := by
  refine SP.intro [some (.ref M), some (.int t)] (pfn (by decide)) rfl (Nat.le_of_ble_eq_true rfl) ?_
  refine wp_aload_0 dX10_up_0 rfl ?_
  refine wp_iload_1 dX10_up_1 rfl ?_
  refine wp_i2l dX10_up_2 rfl ?_
  refine wp_cvR dX10_up_3 rfl q2142 mv_X10_isTick (mg_0 hm) rfl rfl (m_isTick hm) rfl rfl (Nat.le_of_ble_eq_true rfl) (Nat.le_of_ble_eq_true rfl) ?_
  refine wp_ifne_b 12 dX10_up_6 rfl rfl (fun c6 => ?_) (fun c6 => ?_)
  · refine wp_aload_0 dX10_up_12 rfl ?_
    refine wp_cvE dX10_up_13 rfl q2158 mv_X10_lay (mg_0 hm) rfl rfl (m_lay hm hs) rfl rfl (Nat.le_of_ble_eq_true rfl) (Nat.le_of_ble_eq_true rfl) (fun h1 hq => ?_)
    obtain ⟨S1, rfl, hk1, hg1⟩ := hq
    refine wp_aload_0 dX10_up_16 rfl ?_
    refine wp_iload_1 dX10_up_17 rfl ?_
    refine wp_cvR dX10_up_18 rfl q2190 mv_X10_upIn (mg_0 hm) rfl rfl (m_upIn hm hg1) rfl rfl (Nat.le_of_ble_eq_true rfl) (Nat.le_of_ble_eq_true rfl) ?_
    exact wp_ireturn dX10_up_21 rfl ⟨by rw [qup, if_pos c6], S1, rfl, hk1.KP⟩
  · refine wp_bipush (-2) dX10_up_9 rfl rfl ?_
    exact wp_ireturn dX10_up_11 rfl ⟨by simp [qup, *], S, rfl, KP.rf S⟩
