/-! ===== the reference: reading, words and numbers ===== -/
set_option maxRecDepth 100000
theorem stC_and {w k : Nat} (hw : w < 19) (hk : k < stN_ w) : stC w k &&& 255 = stC w k := by
  have h : ∀ w, w < 19 → ∀ k, k < stN_ w → stC w k &&& 255 = stC w k := by decide +kernel
  exact h w hw k hk
theorem stn_le (w : Nat) : stN_ w < 1000 := by
  by_cases h : w < 19
  · have h2 : ∀ i, i < 19 → stN_ i < 1000 := by decide +kernel
    exact h2 w h
  · rw [stN_, List.getD_eq_getElem?_getD, List.getElem?_eq_none (show stL.length ≤ w from Nat.not_lt.mp h)]
    decide
def pIs (T : Nat → Int32) (w : Nat) (s : PX) : Bool := match s with
  | .inl _ => false
  | .inr x => isB T w x.1
theorem eqK_t {p : Nat → Bool} {k i : Nat} (h : p i = true) : eqK p (k + 1) i = eqK p k (i + 1) := if_pos h
theorem eqK_f {p : Nat → Bool} {k i : Nat} (h : p i = false) : eqK p (k + 1) i = false := if_neg (by rw [h]; decide)
theorem m_good {g : GW} {M : Nat} {pre post : AH} {S : SM} (hm : pre.length = M)  : SPx g 1 0 0 yX10_good cX10_good 1 (some .boolean) [.ref M] (mH M pre S post) (some (.int (b2i (gdB S)))) (mH M pre S post) := by
  refine SPx.intro [some (.ref M)] (pfn (by decide)) rfl (Nat.le_of_ble_eq_true rfl) ?_
  refine wp_aload_0 dX10_good_0 rfl ?_
  refine wp_getf dX10_good_1 rfl q1843 fk10_12 (mg_0 hm) rfl ?_
  refine wp_if_ne 11 dX10_good_4 rfl rfl (fun c4 => ?_) (fun c4 => ?_)
  · refine wp_iconst 0 dX10_good_11 rfl rfl ?_
    exact wp_zreturn dX10_good_12 rfl rfl ⟨bf (decide_eq_false c4), rfl⟩
  · refine wp_iconst 1 dX10_good_7 rfl rfl ?_
    refine wp_goto 12 dX10_good_8 rfl rfl ?_
    exact wp_zreturn dX10_good_12 rfl rfl ⟨bt (decide_eq_true c4), rfl⟩
theorem m_errs {g : GW} {M : Nat} {pre post : AH} {S : SM} (hm : pre.length = M) {T : Nat → Int32} {N : Nat} {s : PX} (hP : PI T N S s) {k : Int32} (hk : ¬ k = 0) : SP g 2 0 0 yX10_errs cX10_errs 2 none [.ref M, .int k] (mH M pre S post) (fun v h1 => v = none ∧ ∃ S', h1 = mH M pre S' post ∧ KR S S' ∧ PI T N S' (pEr k s)) := by
  refine SP.intro [some (.ref M), some (.int k)] (pfn (by decide)) rfl (Nat.le_of_ble_eq_true rfl) ?_
  rcases s with f | x
  · refine wp_aload_0 dX10_errs_0 rfl ?_
    refine wp_cvR dX10_errs_1 rfl q2016 mv_X10_good (mg_0 hm) rfl rfl (m_good hm) rfl rfl (Nat.le_of_ble_eq_true rfl) (Nat.le_of_ble_eq_true rfl) ?_
    refine wp_ifne_b 8 dX10_errs_4 rfl rfl (fun c4 => ?_) (fun c4 => ?_)
    · exact absurd c4 (by rw [hP.bad]; decide)
    · exact wp_return dX10_errs_7 rfl ⟨rfl, S, rfl, KR.rf S, hP⟩
  · refine wp_aload_0 dX10_errs_0 rfl ?_
    refine wp_cvR dX10_errs_1 rfl q2016 mv_X10_good (mg_0 hm) rfl rfl (m_good hm) rfl rfl (Nat.le_of_ble_eq_true rfl) (Nat.le_of_ble_eq_true rfl) ?_
    refine wp_ifne_b 8 dX10_errs_4 rfl rfl (fun c4 => ?_) (fun c4 => ?_)
    · refine wp_aload_0 dX10_errs_8 rfl ?_
      refine wp_iload_1 dX10_errs_9 rfl ?_
      refine wp_putf dX10_errs_10 rfl q1843 fp10_12 (mg_0 hm) rfl rfl (Nat.le_of_ble_eq_true rfl) (ms_F12 hm) ?_
      refine wp_aload_0 dX10_errs_13 rfl ?_
      refine wp_aload_0 dX10_errs_14 rfl ?_
      refine wp_getf dX10_errs_15 rfl q1840 fk10_9 (mg_0 hm) rfl ?_
      refine wp_putf dX10_errs_18 rfl q1844 fp10_13 (mg_0 hm) rfl rfl (Nat.le_of_ble_eq_true rfl) (ms_F13 hm) ?_
      exact wp_return dX10_errs_21 rfl ⟨rfl, _, rfl, KR.of ((KX.f1 12 k S).tr (KX.f1 13 _ (sF 12 k S))) (by decide) (by decide), hP.1, rfl, hP.ls.2.1, hk⟩
    · exact absurd c4 (by rw [hP.ok]; decide)
theorem mL_is {g : GW} {M : Nat} {pre post : AH} (hm : pre.length = M) {T : Nat → Int32} {S : SM} {L : LX} {w : Nat} (hw : w < 19) (eT : S.2.1 4 = T) (e9 : S.1 9 = nI (lFr L)) {c n : Nat} {Q : Option Value → AH → Prop} : ∀ (k : Nat)  (q : Bool) (k2 : Nat), k2 + k = stN_ w → (q = true → lFr L + stN_ w ≤ 1200) → Q (some (.int (b2i (q && eqK (fun k => decide (T (lFr L + k) = stC w k)) k k2)))) (mH M pre S post) → WP g 5 yX10_is cX10_is 4 (some .boolean) 39 [some (.ref M), some (.ref (1000000000 + (100 + w))), some (.int (b2i q)), some (.int (nI k2))] [] (mH M pre S post) c n Q := by
  intro k
  induction k with
  | zero =>
    intro  q k2 hi hqb hq
    refine wp_iload_3 dX10_is_39 rfl ?_
    refine wp_aload_1 dX10_is_40 rfl ?_
    refine wp_callVS dX10_is_41 rfl q2041 mv_J4_length hw rfl (j_length hw) rfl rfl (Nat.le_of_ble_eq_true rfl) (Nat.le_of_ble_eq_true rfl) ?_
    refine wp_icmp_ge_k 82 dX10_is_44 rfl rfl (by have := stn_le w; omega) (by have := stn_le w; omega) (fun c44 => ?_) (fun c44 => ?_)
    · refine wp_iload_2 dX10_is_82 rfl ?_
      exact wp_zreturn dX10_is_83 rfl (nz_b2i _) (by rw [eqK, Bool.and_true] at hq; exact hq)
    · omega
  | succ k ih =>
    intro  q k2 hi hqb hq
    refine wp_iload_3 dX10_is_39 rfl ?_
    refine wp_aload_1 dX10_is_40 rfl ?_
    refine wp_callVS dX10_is_41 rfl q2041 mv_J4_length hw rfl (j_length hw) rfl rfl (Nat.le_of_ble_eq_true rfl) (Nat.le_of_ble_eq_true rfl) ?_
    refine wp_icmp_ge_k 82 dX10_is_44 rfl rfl (by have := stn_le w; omega) (by have := stn_le w; omega) (fun c44 => ?_) (fun c44 => ?_)
    · omega
    · have hk : k2 < stN_ w := by omega
      refine wp_iload_2 dX10_is_47 rfl ?_
      refine wp_ifeq_b 82 dX10_is_48 rfl rfl (fun c48 => ?_) (fun c48 => ?_)
      · subst c48
        refine wp_iload_2 dX10_is_82 rfl ?_
        exact wp_zreturn dX10_is_83 rfl (nz_b2i _) (by rw [Bool.false_and] at hq; exact hq)
      · subst c48
        refine wp_aload_0 dX10_is_51 rfl ?_
        refine wp_getf dX10_is_52 rfl q1835 fk10_4 (mg_0 hm) rfl ?_
        refine wp_aload_0 dX10_is_55 rfl ?_
        refine wp_getf dX10_is_56 rfl q1840 fk10_9 (mg_0 hm) rfl ?_
        refine wp_iload_3 dX10_is_59 rfl ?_
        refine wp_iadd dX10_is_60 rfl ?_
        refine wp_baloadn (lFr L + k2) dX10_is_61 rfl (mg_4 hm) (by rw [e9, nI_add]) (by have := hqb rfl; omega) (by decide) ?_
        rw [eT]
        refine wp_aload_1 dX10_is_62 rfl ?_
        refine wp_iload_3 dX10_is_63 rfl ?_
        refine wp_callVS dX10_is_64 rfl q2042 mv_J4_charAt hw rfl (j_charAt hw hk) rfl rfl (Nat.le_of_ble_eq_true rfl) (Nat.le_of_ble_eq_true rfl) ?_
        rw [stC_and hw hk]
        refine wp_icmp_ne 74 dX10_is_67 rfl rfl (fun c67 => ?_) (fun c67 => ?_)
        · have hp : (fun k => decide (T (lFr L + k) = stC w k)) k2 = false := decide_eq_false c67
          refine wp_iconst 0 dX10_is_74 rfl rfl ?_
          refine wp_istore_2 dX10_is_75 rfl (by decide) rfl ?_
          refine wp_iinc_3 1 dX10_is_76 rfl rfl (by decide) rfl ?_
          refine wp_goto 39 dX10_is_79 rfl rfl ?_
          first
          | exact WP.cast (by rw [nI_1]; rfl) (ih false (k2 + 1) (by omega) (fun q => by cases q) (by rw [eqK_f hp] at hq; exact hq))
          | exact WP.cast (by rw [nI_1]; rfl) (ih true (k2 + 1) (by omega) hqb (by rw [eqK_t hp] at hq; exact hq))
        · have hp : (fun k => decide (T (lFr L + k) = stC w k)) k2 = true := decide_eq_true c67
          refine wp_iconst 1 dX10_is_70 rfl rfl ?_
          refine wp_goto 75 dX10_is_71 rfl rfl ?_
          refine wp_istore_2 dX10_is_75 rfl (by decide) rfl ?_
          refine wp_iinc_3 1 dX10_is_76 rfl rfl (by decide) rfl ?_
          refine wp_goto 39 dX10_is_79 rfl rfl ?_
          first
          | exact WP.cast (by rw [nI_1]; rfl) (ih false (k2 + 1) (by omega) (fun q => by cases q) (by rw [eqK_f hp] at hq; exact hq))
          | exact WP.cast (by rw [nI_1]; rfl) (ih true (k2 + 1) (by omega) hqb (by rw [eqK_t hp] at hq; exact hq))
theorem m_is {g : GW} {M : Nat} {pre post : AH} {S : SM} (hm : pre.length = M) {T : Nat → Int32} {N : Nat} {s : PX} (hP : PI T N S s) {w : Nat} (hw : w < 19) : SPx g 5 0 0 yX10_is cX10_is 4 (some .boolean) [.ref M, .ref (1000000000 + (100 + w))] (mH M pre S post) (some (.int (b2i (pIs T w s)))) (mH M pre S post) := by
  refine SPx.intro [some (.ref M), some (.ref (1000000000 + (100 + w))), none, none] (pfn (by decide)) rfl (Nat.le_of_ble_eq_true rfl) ?_
  rcases s with f | x
  · refine wp_aload_0 dX10_is_0 rfl ?_
    refine wp_cvR dX10_is_1 rfl q2016 mv_X10_good (mg_0 hm) rfl rfl (m_good hm) rfl rfl (Nat.le_of_ble_eq_true rfl) (Nat.le_of_ble_eq_true rfl) ?_
    refine wp_ifeq_b 35 dX10_is_4 rfl rfl (fun c4 => ?_) (fun c4 => ?_)
    · refine wp_iconst 0 dX10_is_35 rfl rfl ?_
      refine wp_istore_2 dX10_is_36 rfl (by decide) rfl ?_
      refine wp_iconst 0 dX10_is_37 rfl rfl ?_
      refine wp_istore_3 dX10_is_38 rfl (by decide) rfl ?_
      refine wp_iload_3 dX10_is_39 rfl ?_
      refine wp_aload_1 dX10_is_40 rfl ?_
      refine wp_callVS dX10_is_41 rfl q2041 mv_J4_length hw rfl (j_length hw) rfl rfl (Nat.le_of_ble_eq_true rfl) (Nat.le_of_ble_eq_true rfl) ?_
      refine wp_icmp_ge_k 82 dX10_is_44 rfl rfl (a := 0) (by have := stn_le w; omega) (by have := stn_le w; omega) (fun c44 => ?_) (fun c44 => ?_)
      · refine wp_iload_2 dX10_is_82 rfl ?_
        exact wp_zreturn dX10_is_83 rfl rfl ⟨rfl, rfl⟩
      · refine wp_iload_2 dX10_is_47 rfl ?_
        refine wp_if_eq 82 dX10_is_48 rfl rfl (fun c48 => ?_) (fun c48 => ?_)
        · refine wp_iload_2 dX10_is_82 rfl ?_
          exact wp_zreturn dX10_is_83 rfl rfl ⟨rfl, rfl⟩
        · exact absurd (by decide) c48
    · exact absurd c4 (by rw [hP.bad]; decide)
  · refine wp_aload_0 dX10_is_0 rfl ?_
    refine wp_cvR dX10_is_1 rfl q2016 mv_X10_good (mg_0 hm) rfl rfl (m_good hm) rfl rfl (Nat.le_of_ble_eq_true rfl) (Nat.le_of_ble_eq_true rfl) ?_
    refine wp_ifeq_b 35 dX10_is_4 rfl rfl (fun c4 => ?_) (fun c4 => ?_)
    · exact absurd c4 (by rw [hP.ok]; decide)
    · refine wp_aload_0 dX10_is_7 rfl ?_
      refine wp_getf dX10_is_8 rfl q1841 fk10_10 (mg_0 hm) rfl ?_
      rw [hP.ls.2.2.1]
      refine wp_iconst 1 dX10_is_11 rfl rfl ?_
      refine wp_icmp_ne_k 35 dX10_is_12 rfl rfl (b := 1) (by have := hP.bd; omega) (by omega) (fun c12 => ?_) (fun c12 => ?_)
      · refine wp_iconst 0 dX10_is_35 rfl rfl ?_
        refine wp_istore_2 dX10_is_36 rfl (by decide) rfl ?_
        refine wp_iconst 0 dX10_is_37 rfl rfl ?_
        refine wp_istore_3 dX10_is_38 rfl (by decide) rfl ?_
        refine wp_iload_3 dX10_is_39 rfl ?_
        refine wp_aload_1 dX10_is_40 rfl ?_
        refine wp_callVS dX10_is_41 rfl q2041 mv_J4_length hw rfl (j_length hw) rfl rfl (Nat.le_of_ble_eq_true rfl) (Nat.le_of_ble_eq_true rfl) ?_
        refine wp_icmp_ge_k 82 dX10_is_44 rfl rfl (a := 0) (by have := stn_le w; omega) (by have := stn_le w; omega) (fun c44 => ?_) (fun c44 => ?_)
        · refine wp_iload_2 dX10_is_82 rfl ?_
          exact wp_zreturn dX10_is_83 rfl rfl ⟨by first | rw [pIs, isB, decide_eq_false c12]; rfl | rw [pIs, isB, decide_eq_false (show ¬ lAt x.1 = lFr x.1 + stN_ w by have := hP.bd; omega), Bool.and_false, Bool.false_and]; rfl, rfl⟩
        · refine wp_iload_2 dX10_is_47 rfl ?_
          refine wp_if_eq 82 dX10_is_48 rfl rfl (fun c48 => ?_) (fun c48 => ?_)
          · refine wp_iload_2 dX10_is_82 rfl ?_
            exact wp_zreturn dX10_is_83 rfl rfl ⟨by first | rw [pIs, isB, decide_eq_false c12]; rfl | rw [pIs, isB, decide_eq_false (show ¬ lAt x.1 = lFr x.1 + stN_ w by have := hP.bd; omega), Bool.and_false, Bool.false_and]; rfl, rfl⟩
          · exact absurd (by decide) c48
      · refine wp_aload_0 dX10_is_15 rfl ?_
        refine wp_getf dX10_is_16 rfl q1839 fk10_8 (mg_0 hm) rfl ?_
        rw [hP.ls.1]
        refine wp_aload_0 dX10_is_19 rfl ?_
        refine wp_getf dX10_is_20 rfl q1840 fk10_9 (mg_0 hm) rfl ?_
        rw [hP.ls.2.1]
        refine wp_isub dX10_is_23 rfl ?_
        rw [pk_sub hP.bd.1]
        refine wp_aload_1 dX10_is_24 rfl ?_
        refine wp_callVS dX10_is_25 rfl q2041 mv_J4_length hw rfl (j_length hw) rfl rfl (Nat.le_of_ble_eq_true rfl) (Nat.le_of_ble_eq_true rfl) ?_
        refine wp_icmp_ne_k 35 dX10_is_28 rfl rfl (by have := hP.bd; have := hP.1.2.2; omega) (by have := stn_le w; omega) (fun c28 => ?_) (fun c28 => ?_)
        · refine wp_iconst 0 dX10_is_35 rfl rfl ?_
          refine wp_istore_2 dX10_is_36 rfl (by decide) rfl ?_
          refine wp_iconst 0 dX10_is_37 rfl rfl ?_
          refine wp_istore_3 dX10_is_38 rfl (by decide) rfl ?_
          refine wp_iload_3 dX10_is_39 rfl ?_
          refine wp_aload_1 dX10_is_40 rfl ?_
          refine wp_callVS dX10_is_41 rfl q2041 mv_J4_length hw rfl (j_length hw) rfl rfl (Nat.le_of_ble_eq_true rfl) (Nat.le_of_ble_eq_true rfl) ?_
          refine wp_icmp_ge_k 82 dX10_is_44 rfl rfl (a := 0) (by have := stn_le w; omega) (by have := stn_le w; omega) (fun c44 => ?_) (fun c44 => ?_)
          · refine wp_iload_2 dX10_is_82 rfl ?_
            exact wp_zreturn dX10_is_83 rfl rfl ⟨by first | rw [pIs, isB, decide_eq_false c12]; rfl | rw [pIs, isB, decide_eq_false (show ¬ lAt x.1 = lFr x.1 + stN_ w by have := hP.bd; omega), Bool.and_false, Bool.false_and]; rfl, rfl⟩
          · refine wp_iload_2 dX10_is_47 rfl ?_
            refine wp_if_eq 82 dX10_is_48 rfl rfl (fun c48 => ?_) (fun c48 => ?_)
            · refine wp_iload_2 dX10_is_82 rfl ?_
              exact wp_zreturn dX10_is_83 rfl rfl ⟨by first | rw [pIs, isB, decide_eq_false c12]; rfl | rw [pIs, isB, decide_eq_false (show ¬ lAt x.1 = lFr x.1 + stN_ w by have := hP.bd; omega), Bool.and_false, Bool.false_and]; rfl, rfl⟩
            · exact absurd (by decide) c48
        · refine wp_iconst 1 dX10_is_31 rfl rfl ?_
          refine wp_goto 36 dX10_is_32 rfl rfl ?_
          refine wp_istore_2 dX10_is_36 rfl (by decide) rfl ?_
          refine wp_iconst 0 dX10_is_37 rfl rfl ?_
          refine wp_istore_3 dX10_is_38 rfl (by decide) rfl ?_
          refine mL_is hm hw hP.1.1 hP.ls.2.1 (stN_ w) true 0 (Nat.zero_add _) (fun _ => by have := hP.bd; have := hP.1.2.2; omega) ⟨?_, rfl⟩
          rw [pIs, isB, decide_eq_true c12, decide_eq_true (show lAt x.1 = lFr x.1 + stN_ w by have := hP.bd; omega)]
          rfl
def pTk (T : Nat → Int32) (N w : Nat) (s : PX) : PX := if pIs T w s = true then pNx T N s else s
theorem pNe_tk {T : Nat → Int32} {N w : Nat} (s : PX) : pNe T N w s = if pIs T w s = true then pNx T N s else pEr 1 s := by cases s with
  | inl f => rfl
  | inr x => rfl
theorem m_takes {g : GW} {M : Nat} {pre post : AH} {S : SM} (hm : pre.length = M) {T : Nat → Int32} {N : Nat} {s : PX} (hP : PI T N S s) {w : Nat} (hw : w < 19) : SP g 6 0 0 yX10_takes cX10_takes 3 (some .boolean) [.ref M, .ref (1000000000 + (100 + w))] (mH M pre S post) (fun v h1 => v = some (.int (b2i (pIs T w s))) ∧ ∃ S', h1 = mH M pre S' post ∧ KR S S' ∧ PI T N S' (pTk T N w s)) := by
  refine SP.intro [some (.ref M), some (.ref (1000000000 + (100 + w))), none] (pfn (by decide)) rfl (Nat.le_of_ble_eq_true rfl) ?_
  rcases s with f | x
  · refine wp_aload_0 dX10_takes_0 rfl ?_
    refine wp_aload_1 dX10_takes_1 rfl ?_
    refine wp_cvR dX10_takes_2 rfl q2037 mv_X10_is (mg_0 hm) rfl rfl (m_is hm hP hw) rfl rfl (Nat.le_of_ble_eq_true rfl) (Nat.le_of_ble_eq_true rfl) ?_
    refine wp_istore_2 dX10_takes_5 rfl (by decide) rfl ?_
    refine wp_iload_2 dX10_takes_6 rfl ?_
    refine wp_ifeq_b 14 dX10_takes_7 rfl rfl (fun c7 => ?_) (fun c7 => ?_)
    · refine wp_iload_2 dX10_takes_14 rfl ?_
      exact wp_zreturn dX10_takes_15 rfl (nz_b2i _) ⟨rfl, S, rfl, KR.rf S, by rw [pTk, if_neg (by rw [c7]; decide)]; exact hP⟩
    · exact absurd (show false = true from c7) (by decide)
  · refine wp_aload_0 dX10_takes_0 rfl ?_
    refine wp_aload_1 dX10_takes_1 rfl ?_
    refine wp_cvR dX10_takes_2 rfl q2037 mv_X10_is (mg_0 hm) rfl rfl (m_is hm hP hw) rfl rfl (Nat.le_of_ble_eq_true rfl) (Nat.le_of_ble_eq_true rfl) ?_
    refine wp_istore_2 dX10_takes_5 rfl (by decide) rfl ?_
    refine wp_iload_2 dX10_takes_6 rfl ?_
    refine wp_ifeq_b 14 dX10_takes_7 rfl rfl (fun c7 => ?_) (fun c7 => ?_)
    · have c7 : pIs T w (.inr x) = false := c7
      refine wp_iload_2 dX10_takes_14 rfl ?_
      exact wp_zreturn dX10_takes_15 rfl (nz_b2i _) ⟨rfl, S, rfl, KR.rf S, by rw [pTk, if_neg (by rw [c7]; decide)]; exact hP⟩
    · have c7 : pIs T w (.inr x) = true := c7
      refine wp_aload_0 dX10_takes_10 rfl ?_
      refine wp_cvE dX10_takes_11 rfl q2002 mv_X10_advance (mg_0 hm) rfl rfl (m_advance hm hP.1.1 hP.1.2.1 hP.1.2.2 hP.ls.1 hP.bd.2.1) rfl rfl (Nat.le_of_ble_eq_true rfl) (Nat.le_of_ble_eq_true rfl) (fun h1 hq => ?_)
      obtain ⟨S1, rfl, hk1, hl1⟩ := hq
      refine wp_iload_2 dX10_takes_14 rfl ?_
      exact wp_zreturn dX10_takes_15 rfl (nz_b2i _) ⟨rfl, S1, rfl, (KR.of hk1 (by decide) (by decide)), by rw [pTk, if_pos c7]; exact hP.go hk1 hl1⟩
theorem m_needs {g : GW} {M : Nat} {pre post : AH} {S : SM} (hm : pre.length = M) {T : Nat → Int32} {N : Nat} {s : PX} (hP : PI T N S s) {w : Nat} (hw : w < 19) : SP g 7 0 0 yX10_needs cX10_needs 2 none [.ref M, .ref (1000000000 + (100 + w))] (mH M pre S post) (fun v h1 => v = none ∧ ∃ S', h1 = mH M pre S' post ∧ KR S S' ∧ PI T N S' (pNe T N w s)) := by
  refine SP.intro [some (.ref M), some (.ref (1000000000 + (100 + w)))] (pfn (by decide)) rfl (Nat.le_of_ble_eq_true rfl) ?_
  refine wp_aload_0 dX10_needs_0 rfl ?_
  refine wp_aload_1 dX10_needs_1 rfl ?_
  refine wp_cvEi dX10_needs_2 rfl q2033 mv_X10_takes (mg_0 hm) rfl rfl (m_takes hm hP hw) rfl rfl (Nat.le_of_ble_eq_true rfl) (Nat.le_of_ble_eq_true rfl) (fun h1 hq => ?_)
  obtain ⟨S1, rfl, hk1, hP1⟩ := hq
  refine wp_ifne_b 13 dX10_needs_5 rfl rfl (fun c5 => ?_) (fun c5 => ?_)
  · have c5 : pIs T w s = true := c5
    exact wp_return dX10_needs_13 rfl ⟨rfl, S1, rfl, hk1, by rw [pTk, if_pos c5] at hP1; rw [pNe_tk, if_pos c5]; exact hP1⟩
  · have c5 : pIs T w s = false := c5
    rw [pTk, if_neg (by rw [c5]; decide)] at hP1
    refine wp_aload_0 dX10_needs_8 rfl ?_
    refine wp_iconst 1 dX10_needs_9 rfl rfl ?_
    refine wp_cvE dX10_needs_10 rfl q2043 mv_X10_errs (mg_0 hm) rfl rfl (m_errs hm hP1 (by decide)) rfl rfl (Nat.le_of_ble_eq_true rfl) (Nat.le_of_ble_eq_true rfl) (fun h1 hq => ?_)
    obtain ⟨S2, rfl, hk2, hP2⟩ := hq
    exact wp_return dX10_needs_13 rfl ⟨rfl, S2, rfl, hk1.tr hk2, by rw [pNe_tk, if_neg (by rw [c5]; decide)]; exact hP2⟩
theorem m_number {g : GW} {M : Nat} {pre post : AH} {S : SM} (hm : pre.length = M) {T : Nat → Int32} {N : Nat} {s : PX} (hP : PI T N S s) {lo hi : Int32} : SP g 4 0 0 yX10_number cX10_number 4 (some .int) [.ref M, .int lo, .int hi] (mH M pre S post) (fun v h1 => v = some (.int (pNu T N lo hi s).1) ∧ ∃ S', h1 = mH M pre S' post ∧ KR S S' ∧ PI T N S' ((pNu T N lo hi s).2)) := by
  refine SP.intro [some (.ref M), some (.int lo), some (.int hi), none] (pfn (by decide)) rfl (Nat.le_of_ble_eq_true rfl) ?_
  rcases s with f | x
  · refine wp_aload_0 dX10_number_0 rfl ?_
    refine wp_cvR dX10_number_1 rfl q2016 mv_X10_good (mg_0 hm) rfl rfl (m_good hm) rfl rfl (Nat.le_of_ble_eq_true rfl) (Nat.le_of_ble_eq_true rfl) ?_
    refine wp_ifeq_b 20 dX10_number_4 rfl rfl (fun c4 => ?_) (fun c4 => ?_)
    · refine wp_aload_0 dX10_number_20 rfl ?_
      refine wp_cvR dX10_number_21 rfl q2016 mv_X10_good (mg_0 hm) rfl rfl (m_good hm) rfl rfl (Nat.le_of_ble_eq_true rfl) (Nat.le_of_ble_eq_true rfl) ?_
      refine wp_ifeq_b 47 dX10_number_24 rfl rfl (fun c24 => ?_) (fun c24 => ?_)
      · refine wp_aload_0 dX10_number_47 rfl ?_
        refine wp_cvR dX10_number_48 rfl q2016 mv_X10_good (mg_0 hm) rfl rfl (m_good hm) rfl rfl (Nat.le_of_ble_eq_true rfl) (Nat.le_of_ble_eq_true rfl) ?_
        refine wp_ifne_b 56 dX10_number_51 rfl rfl (fun c51 => ?_) (fun c51 => ?_)
        · exact absurd c51 (by rw [hP.bad]; decide)
        · refine wp_iconst 0 dX10_number_54 rfl rfl ?_
          exact wp_ireturn dX10_number_55 rfl ⟨rfl, S, rfl, KR.rf S, hP⟩
      · exact absurd c24 (by rw [hP.bad]; decide)
    · exact absurd c4 (by rw [hP.bad]; decide)
  · refine wp_aload_0 dX10_number_0 rfl ?_
    refine wp_cvR dX10_number_1 rfl q2016 mv_X10_good (mg_0 hm) rfl rfl (m_good hm) rfl rfl (Nat.le_of_ble_eq_true rfl) (Nat.le_of_ble_eq_true rfl) ?_
    refine wp_ifeq_b 20 dX10_number_4 rfl rfl (fun c4 => ?_) (fun c4 => ?_)
    · exact absurd c4 (by rw [hP.ok]; decide)
    · refine wp_aload_0 dX10_number_7 rfl ?_
      refine wp_getf dX10_number_8 rfl q1841 fk10_10 (mg_0 hm) rfl ?_
      rw [hP.ls.2.2.1]
      refine wp_iconst 2 dX10_number_11 rfl rfl ?_
      refine wp_icmp_eq_k 20 dX10_number_12 rfl rfl (b := 2) (by have := hP.bd; omega) (by omega) (fun c12 => ?_) (fun c12 => ?_)
      · refine wp_aload_0 dX10_number_20 rfl ?_
        refine wp_cvR dX10_number_21 rfl q2016 mv_X10_good (mg_0 hm) rfl rfl (m_good hm) rfl rfl (Nat.le_of_ble_eq_true rfl) (Nat.le_of_ble_eq_true rfl) ?_
        refine wp_ifeq_b 47 dX10_number_24 rfl rfl (fun c24 => ?_) (fun c24 => ?_)
        · exact absurd c24 (by rw [hP.ok]; decide)
        · refine wp_aload_0 dX10_number_27 rfl ?_
          refine wp_getf dX10_number_28 rfl q1842 fk10_11 (mg_0 hm) rfl ?_
          rw [hP.ls.2.2.2 c12]
          refine wp_i2l dX10_number_31 rfl ?_
          refine wp_iload_1 dX10_number_32 rfl ?_
          refine wp_i2l dX10_number_33 rfl ?_
          refine wp_iload_2 dX10_number_34 rfl ?_
          refine wp_i2l dX10_number_35 rfl ?_
          refine wp_csR dX10_number_36 rfl q1979 ms_X10_in m_in rfl rfl (Nat.le_of_ble_eq_true rfl) (Nat.le_of_ble_eq_true rfl) ?_
          rw [inL_i]
          refine wp_ifne_b 47 dX10_number_39 rfl rfl (fun c39 => ?_) (fun c39 => ?_)
          · refine wp_aload_0 dX10_number_47 rfl ?_
            refine wp_cvR dX10_number_48 rfl q2016 mv_X10_good (mg_0 hm) rfl rfl (m_good hm) rfl rfl (Nat.le_of_ble_eq_true rfl) (Nat.le_of_ble_eq_true rfl) ?_
            refine wp_ifne_b 56 dX10_number_51 rfl rfl (fun c51 => ?_) (fun c51 => ?_)
            · refine wp_aload_0 dX10_number_56 rfl ?_
              refine wp_getf dX10_number_57 rfl q1842 fk10_11 (mg_0 hm) rfl ?_
              rw [hP.ls.2.2.2 c12]
              refine wp_istore_3 dX10_number_60 rfl (by decide) rfl ?_
              refine wp_aload_0 dX10_number_61 rfl ?_
              refine wp_cvE dX10_number_62 rfl q2002 mv_X10_advance (mg_0 hm) rfl rfl (m_advance hm hP.1.1 hP.1.2.1 hP.1.2.2 hP.ls.1 hP.bd.2.1) rfl rfl (Nat.le_of_ble_eq_true rfl) (Nat.le_of_ble_eq_true rfl) (fun h1 hq => ?_)
              obtain ⟨S1, rfl, hk1, hl1⟩ := hq
              refine wp_iload_3 dX10_number_65 rfl ?_
              exact wp_ireturn dX10_number_66 rfl ⟨by rw [pNu, if_pos c12, if_pos c39], S1, rfl, (KR.of hk1 (by decide) (by decide)), by rw [pNu, if_pos c12, if_pos c39]; exact hP.go hk1 hl1⟩
            · exact absurd c51 (by rw [hP.ok]; decide)
          · refine wp_aload_0 dX10_number_42 rfl ?_
            refine wp_iconst 2 dX10_number_43 rfl rfl ?_
            refine wp_cvE dX10_number_44 rfl q2043 mv_X10_errs (mg_0 hm) rfl rfl (m_errs hm hP (by decide)) rfl rfl (Nat.le_of_ble_eq_true rfl) (Nat.le_of_ble_eq_true rfl) (fun h1 hq => ?_)
            obtain ⟨S2, rfl, hk2, hP2⟩ := hq
            refine wp_aload_0 dX10_number_47 rfl ?_
            refine wp_cvR dX10_number_48 rfl q2016 mv_X10_good (mg_0 hm) rfl rfl (m_good hm) rfl rfl (Nat.le_of_ble_eq_true rfl) (Nat.le_of_ble_eq_true rfl) ?_
            refine wp_ifne_b 56 dX10_number_51 rfl rfl (fun c51 => ?_) (fun c51 => ?_)
            · exact absurd c51 (by rw [hP2.bad]; decide)
            · refine wp_iconst 0 dX10_number_54 rfl rfl ?_
              exact wp_ireturn dX10_number_55 rfl ⟨by rw [pNu, if_pos c12, if_neg (by rw [c39]; decide)], S2, rfl, hk2, by rw [pNu, if_pos c12, if_neg (by rw [c39]; decide)]; exact hP2⟩
      · refine wp_aload_0 dX10_number_15 rfl ?_
        refine wp_iconst 1 dX10_number_16 rfl rfl ?_
        refine wp_cvE dX10_number_17 rfl q2043 mv_X10_errs (mg_0 hm) rfl rfl (m_errs hm hP (by decide)) rfl rfl (Nat.le_of_ble_eq_true rfl) (Nat.le_of_ble_eq_true rfl) (fun h1 hq => ?_)
        obtain ⟨S1, rfl, hk1, hP1⟩ := hq
        refine wp_aload_0 dX10_number_20 rfl ?_
        refine wp_cvR dX10_number_21 rfl q2016 mv_X10_good (mg_0 hm) rfl rfl (m_good hm) rfl rfl (Nat.le_of_ble_eq_true rfl) (Nat.le_of_ble_eq_true rfl) ?_
        refine wp_ifeq_b 47 dX10_number_24 rfl rfl (fun c24 => ?_) (fun c24 => ?_)
        · refine wp_aload_0 dX10_number_47 rfl ?_
          refine wp_cvR dX10_number_48 rfl q2016 mv_X10_good (mg_0 hm) rfl rfl (m_good hm) rfl rfl (Nat.le_of_ble_eq_true rfl) (Nat.le_of_ble_eq_true rfl) ?_
          refine wp_ifne_b 56 dX10_number_51 rfl rfl (fun c51 => ?_) (fun c51 => ?_)
          · exact absurd c51 (by rw [hP1.bad]; decide)
          · refine wp_iconst 0 dX10_number_54 rfl rfl ?_
            exact wp_ireturn dX10_number_55 rfl ⟨by rw [pNu, if_neg c12], S1, rfl, hk1, by rw [pNu, if_neg c12]; exact hP1⟩
        · exact absurd c24 (by rw [hP1.bad]; decide)
theorem m_told {g : GW} {M : Nat} {pre post : AH} {S : SM} (hm : pre.length = M) {T : Nat → Int32} {N : Nat} {s : PX} (hP : PI T N S s) {w : Nat} (hw : w < 19) {lo hi : Int32} : SP g 8 0 0 yX10_told cX10_told 4 (some .int) [.ref M, .ref (1000000000 + (100 + w)), .int lo, .int hi] (mH M pre S post) (fun v h1 => v = some (.int (pTo T N w lo hi s).1) ∧ ∃ S', h1 = mH M pre S' post ∧ KR S S' ∧ PI T N S' ((pTo T N w lo hi s).2)) := by
  refine SP.intro [some (.ref M), some (.ref (1000000000 + (100 + w))), some (.int lo), some (.int hi)] (pfn (by decide)) rfl (Nat.le_of_ble_eq_true rfl) ?_
  refine wp_aload_0 dX10_told_0 rfl ?_
  refine wp_aload_1 dX10_told_1 rfl ?_
  refine wp_cvE dX10_told_2 rfl q2029 mv_X10_needs (mg_0 hm) rfl rfl (m_needs hm hP hw) rfl rfl (Nat.le_of_ble_eq_true rfl) (Nat.le_of_ble_eq_true rfl) (fun h1 hq => ?_)
  obtain ⟨S1, rfl, hk1, hP1⟩ := hq
  refine wp_aload_0 dX10_told_5 rfl ?_
  refine wp_iload_2 dX10_told_6 rfl ?_
  refine wp_iload_3 dX10_told_7 rfl ?_
  refine wp_cvEi dX10_told_8 rfl q2052 mv_X10_number (mg_0 hm) rfl rfl (m_number hm hP1) rfl rfl (Nat.le_of_ble_eq_true rfl) (Nat.le_of_ble_eq_true rfl) (fun h1 hq => ?_)
  obtain ⟨S2, rfl, hk2, hP2⟩ := hq
  exact wp_ireturn dX10_told_11 rfl ⟨rfl, S2, rfl, hk1.tr hk2, hP2⟩
