/-! ===== the reference: reading ===== -/
set_option maxRecDepth 100000
theorem sF_s (k : Nat) (v : Int32) (S : SM) : (sF k v S).1 k = v := pk_us
theorem KX.f1 (k : Nat) (v : Int32) (S : SM) : KX [k] [] S (sF k v S) := by
  refine ⟨fun q h => ?_, fun j h => rfl, rfl⟩
  simp only [List.mem_cons, List.not_mem_nil, or_false] at h
  simp [sF, upd, h]
theorem KX.s6 (i : Nat) (v : Int32) (S : SM) : KX [] [6] S (sA 6 i v S) := by
  refine ⟨fun q h => rfl, fun j h => ?_, rfl⟩
  simp only [List.mem_cons, List.not_mem_nil, or_false] at h
  simp [sA, va_up, h]
/-- what a reading may change -/
def KR (S S' : SM) : Prop := KX [8, 9, 10, 11, 12, 13] [6] S S' ∧ ∀ k, 116 ≤ k → S'.2.1 6 k = S.2.1 6 k
theorem KR.rf (S : SM) : KR S S := ⟨KX.rf _ _ S, fun _ _ => rfl⟩
theorem KR.tr {S S' S'' : SM} (h : KR S S') (h' : KR S' S'') : KR S S'' := ⟨(KX.tr h.1 h'.1).sub (by decide) (by decide), fun k hk => (h'.2 k hk).trans (h.2 k hk)⟩
theorem KR.of {f a : List Nat} {S S' : SM} (h : KX f a S S') (hf : ∀ k ∈ f, k ∈ [8, 9, 10, 11, 12, 13]) (ha : ∀ k ∈ a, k ∈ ([] : List Nat)) : KR S S' := ⟨h.sub hf (fun k hk => by cases ha k hk), fun k _ => by rw [h.2.1 6 (fun q => by cases ha 6 q)]⟩
/-- the reference holds a token -/
def LKs (S : SM) (L : LX) : Prop := S.1 8 = nI (lAt L) ∧ S.1 9 = nI (lFr L) ∧ S.1 10 = nI (lTk L) ∧ (lTk L = 2 → S.1 11 = lVa L)
/-- the reference holds a reading's state -/
def PI (T : Nat → Int32) (N : Nat) (S : SM) (s : PX) : Prop := (S.2.1 4 = T ∧ S.1 7 = nI N ∧ N ≤ 1200) ∧ match s with
  | .inl f => S.1 12 = f.1 ∧ S.1 13 = f.2 ∧ ¬ f.1 = 0
  | .inr x => S.1 12 = 0 ∧ S.1 13 = -1 ∧ LKs S x.1 ∧ (lFr x.1 ≤ lAt x.1 ∧ lAt x.1 ≤ N ∧ lTk x.1 ≤ 4) ∧ S.2.1 6 = x.2
def gdB (S : SM) : Bool := decide (S.1 12 = 0)
theorem PI.bad {T : Nat → Int32} {N : Nat} {S : SM} {f : FT} (h : PI T N S (.inl f)) : gdB S = false := decide_eq_false (fun q => h.2.2.2 (by rw [← h.2.1]; exact q))
theorem PI.ok {T : Nat → Int32} {N : Nat} {S : SM} {x : LX × (Nat → Int32)} (h : PI T N S (.inr x)) : gdB S = true := decide_eq_true h.2.1
theorem PI.fr {T : Nat → Int32} {N : Nat} {S : SM} {x : LX × (Nat → Int32)} (h : PI T N S (.inr x)) : S.2.1 6 = x.2 := h.2.2.2.2.2
theorem PI.ls {T : Nat → Int32} {N : Nat} {S : SM} {x : LX × (Nat → Int32)} (h : PI T N S (.inr x)) : LKs S x.1 := h.2.2.2.1
theorem PI.bd {T : Nat → Int32} {N : Nat} {S : SM} {x : LX × (Nat → Int32)} (h : PI T N S (.inr x)) : lFr x.1 ≤ lAt x.1 ∧ lAt x.1 ≤ N ∧ lTk x.1 ≤ 4 := h.2.2.2.2.1
theorem PI.st {T : Nat → Int32} {N : Nat} {S : SM} {s : PX} (h : PI T N S s) (k : Nat) (v : Int32) : PI T N (sA 6 k v S) (pSt k v s) := by
  refine ⟨h.1, ?_⟩
  cases s with
  | inl f => exact h.2
  | inr x => exact ⟨h.2.1, h.2.2.1, h.ls, h.bd, by rw [← h.fr]; simp [sA, va_up]⟩
theorem PI.go {T : Nat → Int32} {N : Nat} {S S' : SM} {x : LX × (Nat → Int32)} (h : PI T N S (.inr x)) (k : KX [8, 9, 10, 11] [] S S') (hl : LKs S' (lx T N (lAt x.1))) : PI T N S' (pGo T N x.1 x.2) :=
  ⟨⟨(k.2.1 4 (by decide)).trans h.1.1, (k.1 7 (by decide)).trans h.1.2.1, h.1.2.2⟩, (k.1 12 (by decide)).trans h.2.1, (k.1 13 (by decide)).trans h.2.2.1, hl, lx_ok h.bd.2.1, (k.2.1 6 (by decide)).trans h.fr⟩
theorem pSt_inl (k : Nat) (v : Int32) (f : FT) : pSt k v (.inl f) = .inl f := rfl
theorem m_see {g : GW} {M : Nat} {pre post : AH} {S : SM} (hm : pre.length = M) {N k : Nat} (en : S.1 7 = nI N) (hn : N ≤ 1200) (hk : k < 2147483648) : SPx g 1 0 0 yX10_see cX10_see 2 (some .int) [.ref M, .int (nI k)] (mH M pre S post) (some (.int (seT (S.2.1 4) N k))) (mH M pre S post) := by
  refine SPx.intro [some (.ref M), some (.int (nI k))] (pfn (by decide)) rfl (Nat.le_of_ble_eq_true rfl) ?_
  refine wp_iload_1 dX10_see_0 rfl ?_
  refine wp_aload_0 dX10_see_1 rfl ?_
  refine wp_getf dX10_see_2 rfl q1838 fk10_7 (mg_0 hm) rfl ?_
  rw [en]
  refine wp_icmp_ge_k 21 dX10_see_5 rfl rfl (by omega) (by omega) (fun c5 => ?_) (fun c5 => ?_)
  · refine wp_iconst (-1) dX10_see_21 rfl rfl ?_
    exact wp_ireturn dX10_see_22 rfl ⟨by rw [seT, if_neg (by omega)], rfl⟩
  · refine wp_aload_0 dX10_see_8 rfl ?_
    refine wp_getf dX10_see_9 rfl q1835 fk10_4 (mg_0 hm) rfl ?_
    refine wp_iload_1 dX10_see_12 rfl ?_
    refine wp_baloadn k dX10_see_13 rfl (mg_4 hm) rfl (by omega) (by decide) ?_
    refine wp_sipush 255 dX10_see_14 rfl rfl ?_
    refine wp_iand dX10_see_17 rfl ?_
    refine wp_goto 22 dX10_see_18 rfl rfl ?_
    exact wp_ireturn dX10_see_22 rfl ⟨by rw [seT, if_pos (by omega)], rfl⟩
theorem mL_adv1 {g : GW} {M : Nat} {pre post : AH} (hm : pre.length = M) {T : Nat → Int32} {N : Nat} {S0 : SM} (hT0 : S0.2.1 4 = T) (hn0 : S0.1 7 = nI N) (hn : N ≤ 1200) {c n : Nat} {Q : Option Value → AH → Prop} : ∀ (k : Nat) (S : SM) (k2 : Nat), N ≤ k2 + k → k2 ≤ N → KX [8] [] S0 S → S.1 8 = nI k2 → (∀ S', KX [8] [] S0 S' → S'.1 8 = nI (cntK (wsB T N) k k2) → WP g 3 yX10_advance cX10_advance 2 none 39 [some (.ref M), none] [] (mH M pre S' post) c n Q) → WP g 3 yX10_advance cX10_advance 2 none 0 [some (.ref M), none] [] (mH M pre S post) c n Q := by
  intro k
  induction k with
  | zero =>
    intro S k2 hi hkn kx e8 hq
    have eT : S.2.1 4 = T := (kx.2.1 4 (by decide)).trans hT0
    have en : S.1 7 = nI N := (kx.1 7 (by decide)).trans hn0
    refine wp_aload_0 dX10_advance_0 rfl ?_
    refine wp_aload_0 dX10_advance_1 rfl ?_
    refine wp_getf dX10_advance_2 rfl q1839 fk10_8 (mg_0 hm) rfl ?_
    rw [e8]
    refine wp_cvR dX10_advance_5 rfl q2006 mv_X10_see (mg_0 hm) rfl rfl (m_see hm en hn (by omega)) rfl rfl (Nat.le_of_ble_eq_true rfl) (Nat.le_of_ble_eq_true rfl) ?_
    rw [eT]
    refine wp_bipush 32 dX10_advance_8 rfl rfl ?_
    refine wp_icmp_eq 26 dX10_advance_10 rfl rfl (fun c10 => ?_) (fun c10 => ?_)
    · exact absurd c10 (by rw [se_out (by omega)]; decide)
    · refine wp_aload_0 dX10_advance_13 rfl ?_
      refine wp_aload_0 dX10_advance_14 rfl ?_
      refine wp_getf dX10_advance_15 rfl q1839 fk10_8 (mg_0 hm) rfl ?_
      rw [e8]
      refine wp_cvR dX10_advance_18 rfl q2006 mv_X10_see (mg_0 hm) rfl rfl (m_see hm en hn (by omega)) rfl rfl (Nat.le_of_ble_eq_true rfl) (Nat.le_of_ble_eq_true rfl) ?_
      rw [eT]
      refine wp_bipush 10 dX10_advance_21 rfl rfl ?_
      refine wp_icmp_ne 39 dX10_advance_23 rfl rfl (fun c23 => ?_) (fun c23 => ?_)
      · exact hq S kx e8
      · exact absurd c23 (by rw [se_out (by omega)]; decide)
  | succ k ih =>
    intro S k2 hi hkn kx e8 hq
    have eT : S.2.1 4 = T := (kx.2.1 4 (by decide)).trans hT0
    have en : S.1 7 = nI N := (kx.1 7 (by decide)).trans hn0
    refine wp_aload_0 dX10_advance_0 rfl ?_
    refine wp_aload_0 dX10_advance_1 rfl ?_
    refine wp_getf dX10_advance_2 rfl q1839 fk10_8 (mg_0 hm) rfl ?_
    rw [e8]
    refine wp_cvR dX10_advance_5 rfl q2006 mv_X10_see (mg_0 hm) rfl rfl (m_see hm en hn (by omega)) rfl rfl (Nat.le_of_ble_eq_true rfl) (Nat.le_of_ble_eq_true rfl) ?_
    rw [eT]
    refine wp_bipush 32 dX10_advance_8 rfl rfl ?_
    refine wp_icmp_eq 26 dX10_advance_10 rfl rfl (fun c10 => ?_) (fun c10 => ?_)
    · refine wp_aload_0 dX10_advance_26 rfl ?_
      refine wp_dup dX10_advance_27 rfl rfl ?_
      refine wp_getf dX10_advance_28 rfl q1839 fk10_8 (mg_0 hm) rfl ?_
      refine wp_iconst 1 dX10_advance_31 rfl rfl ?_
      refine wp_iadd dX10_advance_32 rfl ?_
      refine wp_putf dX10_advance_33 rfl q1839 fp10_8 (mg_0 hm) rfl rfl (Nat.le_of_ble_eq_true rfl) (ms_F8 hm) ?_
      refine wp_goto 0 dX10_advance_36 rfl rfl ?_
      have kx1 := (kx.tr (KX.f1 8 (S.1 8 + 1) S)).sub (f' := [8]) (a' := []) (by decide) (by decide)
      have e81 : (sF 8 (S.1 8 + 1) S).1 8 = nI (k2 + 1) := by show upd S.1 8 _ 8 = _; rw [pk_us, e8]; exact nI_1 k2
      first
      | exact ih _ (k2 + 1) (by omega) (se_in (by rw [c10]; decide)) kx1 e81 (fun S9 k9 e9 => hq S9 k9 (by rw [itr_c (ws_1 c10)]; exact e9))
      | exact ih _ (k2 + 1) (by omega) (se_in (by rw [c23]; decide)) kx1 e81 (fun S9 k9 e9 => hq S9 k9 (by rw [itr_c (ws_2 c23)]; exact e9))
    · refine wp_aload_0 dX10_advance_13 rfl ?_
      refine wp_aload_0 dX10_advance_14 rfl ?_
      refine wp_getf dX10_advance_15 rfl q1839 fk10_8 (mg_0 hm) rfl ?_
      rw [e8]
      refine wp_cvR dX10_advance_18 rfl q2006 mv_X10_see (mg_0 hm) rfl rfl (m_see hm en hn (by omega)) rfl rfl (Nat.le_of_ble_eq_true rfl) (Nat.le_of_ble_eq_true rfl) ?_
      rw [eT]
      refine wp_bipush 10 dX10_advance_21 rfl rfl ?_
      refine wp_icmp_ne 39 dX10_advance_23 rfl rfl (fun c23 => ?_) (fun c23 => ?_)
      · exact hq S kx (by rw [cnt_0 (ws_0 c10 c23)]; exact e8)
      · refine wp_aload_0 dX10_advance_26 rfl ?_
        refine wp_dup dX10_advance_27 rfl rfl ?_
        refine wp_getf dX10_advance_28 rfl q1839 fk10_8 (mg_0 hm) rfl ?_
        refine wp_iconst 1 dX10_advance_31 rfl rfl ?_
        refine wp_iadd dX10_advance_32 rfl ?_
        refine wp_putf dX10_advance_33 rfl q1839 fp10_8 (mg_0 hm) rfl rfl (Nat.le_of_ble_eq_true rfl) (ms_F8 hm) ?_
        refine wp_goto 0 dX10_advance_36 rfl rfl ?_
        have kx1 := (kx.tr (KX.f1 8 (S.1 8 + 1) S)).sub (f' := [8]) (a' := []) (by decide) (by decide)
        have e81 : (sF 8 (S.1 8 + 1) S).1 8 = nI (k2 + 1) := by show upd S.1 8 _ 8 = _; rw [pk_us, e8]; exact nI_1 k2
        first
        | exact ih _ (k2 + 1) (by omega) (se_in (by rw [c10]; decide)) kx1 e81 (fun S9 k9 e9 => hq S9 k9 (by rw [itr_c (ws_1 c10)]; exact e9))
        | exact ih _ (k2 + 1) (by omega) (se_in (by rw [c23]; decide)) kx1 e81 (fun S9 k9 e9 => hq S9 k9 (by rw [itr_c (ws_2 c23)]; exact e9))
theorem mL_adv2 {g : GW} {M : Nat} {pre post : AH} (hm : pre.length = M) {T : Nat → Int32} {N : Nat} {S0 : SM} (hT0 : S0.2.1 4 = T) (hn0 : S0.1 7 = nI N) (hn : N ≤ 1200) {v1 : Int32} {c n : Nat} {Q : Option Value → AH → Prop} : ∀ (k : Nat) (S : SM) (k2 : Nat), N ≤ k2 + k → k2 ≤ N → KX [8, 9] [] S0 S → S.1 8 = nI k2 → (∀ S', KX [8, 9] [] S0 S' → S'.1 8 = nI (cntK (azB T N) k k2) → S'.1 9 = S.1 9 → WP g 3 yX10_advance cX10_advance 2 none 117 [some (.ref M), some (.int v1)] [] (mH M pre S' post) c n Q) → WP g 3 yX10_advance cX10_advance 2 none 83 [some (.ref M), some (.int v1)] [] (mH M pre S post) c n Q := by
  intro k
  induction k with
  | zero =>
    intro S k2 hi hkn kx e8 hq
    have eT : S.2.1 4 = T := (kx.2.1 4 (by decide)).trans hT0
    have en : S.1 7 = nI N := (kx.1 7 (by decide)).trans hn0
    refine wp_aload_0 dX10_advance_83 rfl ?_
    refine wp_aload_0 dX10_advance_84 rfl ?_
    refine wp_getf dX10_advance_85 rfl q1839 fk10_8 (mg_0 hm) rfl ?_
    rw [e8]
    refine wp_cvR dX10_advance_88 rfl q2006 mv_X10_see (mg_0 hm) rfl rfl (m_see hm en hn (by omega)) rfl rfl (Nat.le_of_ble_eq_true rfl) (Nat.le_of_ble_eq_true rfl) ?_
    rw [eT]
    refine wp_i2l dX10_advance_91 rfl ?_
    refine wp_ldc2_w dX10_advance_92 rfl q2010 ?_
    refine wp_ldc2_w dX10_advance_95 rfl q2011 ?_
    refine wp_csR dX10_advance_98 rfl q1979 ms_X10_in m_in rfl rfl (Nat.le_of_ble_eq_true rfl) (Nat.le_of_ble_eq_true rfl) ?_
    refine wp_ifeq_b 117 dX10_advance_101 rfl rfl (fun c101 => ?_) (fun c101 => ?_)
    · exact hq S kx e8 rfl
    · exact absurd (show azB T N k2 = true from c101) (by rw [az_out (by omega)]; decide)
  | succ k ih =>
    intro S k2 hi hkn kx e8 hq
    have eT : S.2.1 4 = T := (kx.2.1 4 (by decide)).trans hT0
    have en : S.1 7 = nI N := (kx.1 7 (by decide)).trans hn0
    refine wp_aload_0 dX10_advance_83 rfl ?_
    refine wp_aload_0 dX10_advance_84 rfl ?_
    refine wp_getf dX10_advance_85 rfl q1839 fk10_8 (mg_0 hm) rfl ?_
    rw [e8]
    refine wp_cvR dX10_advance_88 rfl q2006 mv_X10_see (mg_0 hm) rfl rfl (m_see hm en hn (by omega)) rfl rfl (Nat.le_of_ble_eq_true rfl) (Nat.le_of_ble_eq_true rfl) ?_
    rw [eT]
    refine wp_i2l dX10_advance_91 rfl ?_
    refine wp_ldc2_w dX10_advance_92 rfl q2010 ?_
    refine wp_ldc2_w dX10_advance_95 rfl q2011 ?_
    refine wp_csR dX10_advance_98 rfl q1979 ms_X10_in m_in rfl rfl (Nat.le_of_ble_eq_true rfl) (Nat.le_of_ble_eq_true rfl) ?_
    refine wp_ifeq_b 117 dX10_advance_101 rfl rfl (fun c101 => ?_) (fun c101 => ?_)
    · have c101 : azB T N k2 = false := c101
      exact hq S kx (by rw [cnt_0 c101]; exact e8) rfl
    · have c101 : azB T N k2 = true := c101
      refine wp_aload_0 dX10_advance_104 rfl ?_
      refine wp_dup dX10_advance_105 rfl rfl ?_
      refine wp_getf dX10_advance_106 rfl q1839 fk10_8 (mg_0 hm) rfl ?_
      refine wp_iconst 1 dX10_advance_109 rfl rfl ?_
      refine wp_iadd dX10_advance_110 rfl ?_
      refine wp_putf dX10_advance_111 rfl q1839 fp10_8 (mg_0 hm) rfl rfl (Nat.le_of_ble_eq_true rfl) (ms_F8 hm) ?_
      refine wp_goto 83 dX10_advance_114 rfl rfl ?_
      have kx1 := (kx.tr (KX.f1 8 (S.1 8 + 1) S)).sub (f' := [8, 9]) (a' := []) (by decide) (by decide)
      have e81 : (sF 8 (S.1 8 + 1) S).1 8 = nI (k2 + 1) := by show upd S.1 8 _ 8 = _; rw [pk_us, e8]; exact nI_1 k2
      exact ih _ (k2 + 1) (by omega) (Nat.not_le.mp (fun q => by rw [az_out q] at c101; cases c101)) kx1 e81 (fun S9 k9 e9 f9 => hq S9 k9 (by rw [itr_c c101]; exact e9) (f9.trans (sF1x _ S (by decide))))
theorem mL_adv3 {g : GW} {M : Nat} {pre post : AH} (hm : pre.length = M) {T : Nat → Int32} {N : Nat} {S0 : SM} (hT0 : S0.2.1 4 = T) (hn0 : S0.1 7 = nI N) (hn : N ≤ 1200) {v1 : Int32} {c n : Nat} {Q : Option Value → AH → Prop} : ∀ (k : Nat) (S : SM) (k2 : Nat) (w : Int32), N ≤ k2 + k → k2 ≤ N → KX [8, 9, 11] [] S0 S → S.1 8 = nI k2 → S.1 11 = w → (∀ S', KX [8, 9, 11] [] S0 S' → S'.1 8 = nI (numK T N k k2 w).1 → S'.1 11 = (numK T N k k2 w).2 → S'.1 9 = S.1 9 → WP g 3 yX10_advance cX10_advance 2 none 206 [some (.ref M), some (.int v1)] [] (mH M pre S' post) c n Q) → WP g 3 yX10_advance cX10_advance 2 none 144 [some (.ref M), some (.int v1)] [] (mH M pre S post) c n Q := by
  intro k
  induction k with
  | zero =>
    intro S k2 w hi hkn kx e8 e11 hq
    have eT : S.2.1 4 = T := (kx.2.1 4 (by decide)).trans hT0
    have en : S.1 7 = nI N := (kx.1 7 (by decide)).trans hn0
    refine wp_aload_0 dX10_advance_144 rfl ?_
    refine wp_aload_0 dX10_advance_145 rfl ?_
    refine wp_getf dX10_advance_146 rfl q1839 fk10_8 (mg_0 hm) rfl ?_
    rw [e8]
    refine wp_cvR dX10_advance_149 rfl q2006 mv_X10_see (mg_0 hm) rfl rfl (m_see hm en hn (by omega)) rfl rfl (Nat.le_of_ble_eq_true rfl) (Nat.le_of_ble_eq_true rfl) ?_
    rw [eT]
    refine wp_i2l dX10_advance_152 rfl ?_
    refine wp_ldc2_w dX10_advance_153 rfl q2012 ?_
    refine wp_ldc2_w dX10_advance_156 rfl q2013 ?_
    refine wp_csR dX10_advance_159 rfl q1979 ms_X10_in m_in rfl rfl (Nat.le_of_ble_eq_true rfl) (Nat.le_of_ble_eq_true rfl) ?_
    refine wp_ifeq_b 206 dX10_advance_162 rfl rfl (fun c162 => ?_) (fun c162 => ?_)
    · exact hq S kx e8 e11 rfl
    · exact absurd (show dgB T N k2 = true from c162) (by rw [dg_out (by omega)]; decide)
  | succ k ih =>
    intro S k2 w hi hkn kx e8 e11 hq
    have eT : S.2.1 4 = T := (kx.2.1 4 (by decide)).trans hT0
    have en : S.1 7 = nI N := (kx.1 7 (by decide)).trans hn0
    refine wp_aload_0 dX10_advance_144 rfl ?_
    refine wp_aload_0 dX10_advance_145 rfl ?_
    refine wp_getf dX10_advance_146 rfl q1839 fk10_8 (mg_0 hm) rfl ?_
    rw [e8]
    refine wp_cvR dX10_advance_149 rfl q2006 mv_X10_see (mg_0 hm) rfl rfl (m_see hm en hn (by omega)) rfl rfl (Nat.le_of_ble_eq_true rfl) (Nat.le_of_ble_eq_true rfl) ?_
    rw [eT]
    refine wp_i2l dX10_advance_152 rfl ?_
    refine wp_ldc2_w dX10_advance_153 rfl q2012 ?_
    refine wp_ldc2_w dX10_advance_156 rfl q2013 ?_
    refine wp_csR dX10_advance_159 rfl q1979 ms_X10_in m_in rfl rfl (Nat.le_of_ble_eq_true rfl) (Nat.le_of_ble_eq_true rfl) ?_
    refine wp_ifeq_b 206 dX10_advance_162 rfl rfl (fun c162 => ?_) (fun c162 => ?_)
    · have c162 : dgB T N k2 = false := c162
      exact hq S kx (by rw [num_0 c162]; exact e8) (by rw [num_0 c162]; exact e11) rfl
    · have c162 : dgB T N k2 = true := c162
      refine wp_aload_0 dX10_advance_165 rfl ?_
      refine wp_ldc dX10_advance_166 rfl q2014 ?_
      refine wp_bipush 10 dX10_advance_168 rfl rfl ?_
      refine wp_aload_0 dX10_advance_170 rfl ?_
      refine wp_getf dX10_advance_171 rfl q1842 fk10_11 (mg_0 hm) rfl ?_
      rw [e11]
      refine wp_imul dX10_advance_174 rfl ?_
      refine wp_aload_0 dX10_advance_175 rfl ?_
      refine wp_aload_0 dX10_advance_176 rfl ?_
      refine wp_getf dX10_advance_177 rfl q1839 fk10_8 (mg_0 hm) rfl ?_
      rw [e8]
      refine wp_cvR dX10_advance_180 rfl q2006 mv_X10_see (mg_0 hm) rfl rfl (m_see hm en hn (by omega)) rfl rfl (Nat.le_of_ble_eq_true rfl) (Nat.le_of_ble_eq_true rfl) ?_
      rw [eT]
      refine wp_iadd dX10_advance_183 rfl ?_
      refine wp_bipush 48 dX10_advance_184 rfl rfl ?_
      refine wp_isub dX10_advance_186 rfl ?_
      refine wp_csR dX10_advance_187 rfl q2015 ms_J3_min j_min rfl rfl (Nat.le_of_ble_eq_true rfl) (Nat.le_of_ble_eq_true rfl) ?_
      rw [show mn32 99999 (10 * w + seT T N k2 - 48) = vaF T N k2 w from rfl]
      refine wp_putf dX10_advance_190 rfl q1842 fp10_11 (mg_0 hm) rfl rfl (Nat.le_of_ble_eq_true rfl) (ms_F11 hm) ?_
      refine wp_aload_0 dX10_advance_193 rfl ?_
      refine wp_dup dX10_advance_194 rfl rfl ?_
      refine wp_getf dX10_advance_195 rfl q1839 fk10_8 (mg_0 hm) rfl ?_
      rw [show (sF 11 (vaF T N k2 w) S).1 8 = nI k2 from e8]
      refine wp_iconst 1 dX10_advance_198 rfl rfl ?_
      refine wp_iadd dX10_advance_199 rfl ?_
      refine wp_putf dX10_advance_200 rfl q1839 fp10_8 (mg_0 hm) rfl rfl (Nat.le_of_ble_eq_true rfl) (ms_F8 hm) ?_
      refine wp_goto 144 dX10_advance_203 rfl rfl ?_
      have kx1 := ((kx.tr (KX.f1 11 (vaF T N k2 w) S)).tr (KX.f1 8 (nI k2 + 1) (sF 11 (vaF T N k2 w) S))).sub (f' := [8, 9, 11]) (a' := []) (by decide) (by decide)
      exact ih (sF 8 (nI k2 + 1) (sF 11 (vaF T N k2 w) S)) (k2 + 1) (vaF T N k2 w) (by omega) (Nat.not_le.mp (fun q => by rw [dg_out q] at c162; cases c162)) kx1 ((sF_s 8 _ _).trans (nI_1 k2)) rfl (fun S9 k9 e9 g9 f9 => hq S9 k9 (by rw [num_c c162]; exact e9) (by rw [num_c c162]; exact g9) (f9.trans rfl))
theorem m_advance {g : GW} {M : Nat} {pre post : AH} {S : SM} (hm : pre.length = M) {T : Nat → Int32} {N i : Nat} (hT : S.2.1 4 = T) (hn7 : S.1 7 = nI N) (hn : N ≤ 1200) (h8 : S.1 8 = nI i) (hi : i ≤ N) : SP g 3 0 0 yX10_advance cX10_advance 2 none [.ref M] (mH M pre S post) (fun v h1 => v = none ∧ ∃ S', h1 = mH M pre S' post ∧ KX [8, 9, 10, 11] [] S S' ∧ LKs S' (lx T N i)) := by
  refine SP.intro [some (.ref M), none] (pfn (by decide)) rfl (Nat.le_of_ble_eq_true rfl) ?_
  refine mL_adv1 hm hT hn7 hn N S i (by omega) hi (KX.rf _ _ S) h8 (fun S1 k1 e8 => ?_)
  have hf9 := (cntK_le (p := wsB T N) (n := N) (fun k q => ws_out q) N i hi).2
  generalize hfd : cntK (wsB T N) N i = f9 at *
  have hlx : lx T N i = lxF T N f9 := by rw [lx, hfd]
  have eT1 : (sF 9 (nI f9) S1).2.1 4 = T := (k1.2.1 4 (by decide)).trans hT
  have en1 : (sF 9 (nI f9) S1).1 7 = nI N := (k1.1 7 (by decide)).trans hn7
  refine wp_aload_0 dX10_advance_39 rfl ?_
  refine wp_aload_0 dX10_advance_40 rfl ?_
  refine wp_getf dX10_advance_41 rfl q1839 fk10_8 (mg_0 hm) rfl ?_
  rw [e8]
  refine wp_putf dX10_advance_44 rfl q1840 fp10_9 (mg_0 hm) rfl rfl (Nat.le_of_ble_eq_true rfl) (ms_F9 hm) ?_
  refine wp_aload_0 dX10_advance_47 rfl ?_
  refine wp_aload_0 dX10_advance_48 rfl ?_
  refine wp_getf dX10_advance_49 rfl q1839 fk10_8 (mg_0 hm) rfl ?_
  rw [show (sF 9 (nI f9) S1).1 8 = nI f9 from e8]
  refine wp_cvR dX10_advance_52 rfl q2006 mv_X10_see (mg_0 hm) rfl rfl (m_see (k := f9) hm en1 hn (by omega)) rfl rfl (Nat.le_of_ble_eq_true rfl) (Nat.le_of_ble_eq_true rfl) ?_
  rw [eT1]
  refine wp_istore_1 dX10_advance_55 rfl (by decide) rfl ?_
  refine wp_iload_1 dX10_advance_56 rfl ?_
  refine wp_iconst (-1) dX10_advance_57 rfl rfl ?_
  refine wp_icmp_ne 69 dX10_advance_58 rfl rfl (fun c58 => ?_) (fun c58 => ?_)
  · refine wp_iload_1 dX10_advance_69 rfl ?_
    refine wp_i2l dX10_advance_70 rfl ?_
    refine wp_ldc2_w dX10_advance_71 rfl q2010 ?_
    refine wp_ldc2_w dX10_advance_74 rfl q2011 ?_
    refine wp_csR dX10_advance_77 rfl q1979 ms_X10_in m_in rfl rfl (Nat.le_of_ble_eq_true rfl) (Nat.le_of_ble_eq_true rfl) ?_
    refine wp_ifeq_b 125 dX10_advance_80 rfl rfl (fun c80 => ?_) (fun c80 => ?_)
    · have c80 : azB T N f9 = false := c80
      refine wp_iload_1 dX10_advance_125 rfl ?_
      refine wp_i2l dX10_advance_126 rfl ?_
      refine wp_ldc2_w dX10_advance_127 rfl q2012 ?_
      refine wp_ldc2_w dX10_advance_130 rfl q2013 ?_
      refine wp_csR dX10_advance_133 rfl q1979 ms_X10_in m_in rfl rfl (Nat.le_of_ble_eq_true rfl) (Nat.le_of_ble_eq_true rfl) ?_
      refine wp_ifeq_b 214 dX10_advance_136 rfl rfl (fun c136 => ?_) (fun c136 => ?_)
      · have c136 : dgB T N f9 = false := c136
        have hL : lx T N i = (f9, f9 + 1, if seT T N f9 = 59 then 3 else 4, 0) := hlx.trans ((if_neg c58).trans ((if_neg (by rw [c80]; decide)).trans (if_neg (by rw [c136]; decide))))
        refine wp_aload_0 dX10_advance_214 rfl ?_
        refine wp_iload_1 dX10_advance_215 rfl ?_
        refine wp_bipush 59 dX10_advance_216 rfl rfl ?_
        refine wp_icmp_ne 225 dX10_advance_218 rfl rfl (fun c218 => ?_) (fun c218 => ?_)
        · refine wp_iconst 4 dX10_advance_225 rfl rfl ?_
          refine wp_putf dX10_advance_226 rfl q1841 fp10_10 (mg_0 hm) rfl rfl (Nat.le_of_ble_eq_true rfl) (ms_F10 hm) ?_
          refine wp_aload_0 dX10_advance_229 rfl ?_
          refine wp_dup dX10_advance_230 rfl rfl ?_
          refine wp_getf dX10_advance_231 rfl q1839 fk10_8 (mg_0 hm) rfl ?_
          refine wp_iconst 1 dX10_advance_234 rfl rfl ?_
          refine wp_iadd dX10_advance_235 rfl ?_
          refine wp_putf dX10_advance_236 rfl q1839 fp10_8 (mg_0 hm) rfl rfl (Nat.le_of_ble_eq_true rfl) (ms_F8 hm) ?_
          exact wp_return dX10_advance_239 rfl ⟨rfl, _, rfl, ((((k1.tr (KX.f1 9 (nI f9) S1)).tr (KX.f1 10 4 _)).tr (KX.f1 8 _ _)).sub (f' := [8, 9, 10, 11]) (a' := []) (by decide) (by decide)), by
            rw [hL]
            refine ⟨(sF_s 8 _ _).trans ((congrArg (· + 1) e8).trans (nI_1 f9)), rfl, ?_, fun q => ?_⟩
            · show _ = nI (if seT T N f9 = 59 then 3 else 4)
              rw [if_neg c218]
              rfl
            · have q : (if seT T N f9 = 59 then 3 else 4) = 2 := q
              split at q <;> cases q⟩
        · refine wp_iconst 3 dX10_advance_221 rfl rfl ?_
          refine wp_goto 226 dX10_advance_222 rfl rfl ?_
          refine wp_putf dX10_advance_226 rfl q1841 fp10_10 (mg_0 hm) rfl rfl (Nat.le_of_ble_eq_true rfl) (ms_F10 hm) ?_
          refine wp_aload_0 dX10_advance_229 rfl ?_
          refine wp_dup dX10_advance_230 rfl rfl ?_
          refine wp_getf dX10_advance_231 rfl q1839 fk10_8 (mg_0 hm) rfl ?_
          refine wp_iconst 1 dX10_advance_234 rfl rfl ?_
          refine wp_iadd dX10_advance_235 rfl ?_
          refine wp_putf dX10_advance_236 rfl q1839 fp10_8 (mg_0 hm) rfl rfl (Nat.le_of_ble_eq_true rfl) (ms_F8 hm) ?_
          exact wp_return dX10_advance_239 rfl ⟨rfl, _, rfl, ((((k1.tr (KX.f1 9 (nI f9) S1)).tr (KX.f1 10 3 _)).tr (KX.f1 8 _ _)).sub (f' := [8, 9, 10, 11]) (a' := []) (by decide) (by decide)), by
            rw [hL]
            refine ⟨(sF_s 8 _ _).trans ((congrArg (· + 1) e8).trans (nI_1 f9)), rfl, ?_, fun q => ?_⟩
            · show _ = nI (if seT T N f9 = 59 then 3 else 4)
              rw [if_pos c218]
              rfl
            · have q : (if seT T N f9 = 59 then 3 else 4) = 2 := q
              split at q <;> cases q⟩
      · have c136 : dgB T N f9 = true := c136
        have hL : lx T N i = (f9, (numK T N N f9 0).1, 2, (numK T N N f9 0).2) := hlx.trans ((if_neg c58).trans ((if_neg (by rw [c80]; decide)).trans (if_pos c136)))
        refine wp_aload_0 dX10_advance_139 rfl ?_
        refine wp_iconst 0 dX10_advance_140 rfl rfl ?_
        refine wp_putf dX10_advance_141 rfl q1842 fp10_11 (mg_0 hm) rfl rfl (Nat.le_of_ble_eq_true rfl) (ms_F11 hm) ?_
        have k2 := ((k1.tr (KX.f1 9 (nI f9) S1)).tr (KX.f1 11 0 (sF 9 (nI f9) S1))).sub (f' := [8, 9, 11]) (a' := []) (by decide) (by decide)
        refine mL_adv3 hm hT hn7 hn N (sF 11 0 (sF 9 (nI f9) S1)) f9 0 (by omega) hf9 k2 e8 rfl (fun S2 k3 e3 e4 g3 => ?_)
        refine wp_aload_0 dX10_advance_206 rfl ?_
        refine wp_iconst 2 dX10_advance_207 rfl rfl ?_
        refine wp_putf dX10_advance_208 rfl q1841 fp10_10 (mg_0 hm) rfl rfl (Nat.le_of_ble_eq_true rfl) (ms_F10 hm) ?_
        refine wp_goto 239 dX10_advance_211 rfl rfl ?_
        exact wp_return dX10_advance_239 rfl ⟨rfl, _, rfl, ((k3.tr (KX.f1 10 2 S2)).sub (f' := [8, 9, 10, 11]) (a' := []) (by decide) (by decide)), (by rw [hL]; exact ⟨e3, g3, rfl, fun _ => e4⟩)⟩
    · have c80 : azB T N f9 = true := c80
      have hL : lx T N i = (f9, cntK (azB T N) N f9, 1, 0) := hlx.trans ((if_neg c58).trans (if_pos c80))
      have k2 := (k1.tr (KX.f1 9 (nI f9) S1)).sub (f' := [8, 9]) (a' := []) (by decide) (by decide)
      refine mL_adv2 hm hT hn7 hn N (sF 9 (nI f9) S1) f9 (by omega) hf9 k2 e8 (fun S2 k3 e3 g3 => ?_)
      refine wp_aload_0 dX10_advance_117 rfl ?_
      refine wp_iconst 1 dX10_advance_118 rfl rfl ?_
      refine wp_putf dX10_advance_119 rfl q1841 fp10_10 (mg_0 hm) rfl rfl (Nat.le_of_ble_eq_true rfl) (ms_F10 hm) ?_
      refine wp_goto 239 dX10_advance_122 rfl rfl ?_
      exact wp_return dX10_advance_239 rfl ⟨rfl, _, rfl, ((k3.tr (KX.f1 10 1 S2)).sub (f' := [8, 9, 10, 11]) (a' := []) (by decide) (by decide)), (by rw [hL]; exact ⟨e3, g3, rfl, (fun q => absurd (show (1 : Nat) = 2 from q) (by decide))⟩)⟩
  · have hL : lx T N i = (f9, f9, 0, 0) := hlx.trans (if_pos c58)
    refine wp_aload_0 dX10_advance_61 rfl ?_
    refine wp_iconst 0 dX10_advance_62 rfl rfl ?_
    refine wp_putf dX10_advance_63 rfl q1841 fp10_10 (mg_0 hm) rfl rfl (Nat.le_of_ble_eq_true rfl) (ms_F10 hm) ?_
    refine wp_goto 239 dX10_advance_66 rfl rfl ?_
    exact wp_return dX10_advance_239 rfl ⟨rfl, _, rfl, (((k1.tr (KX.f1 9 (nI f9) S1)).tr (KX.f1 10 0 _)).sub (f' := [8, 9, 10, 11]) (a' := []) (by decide) (by decide)), (by rw [hL]; exact ⟨e8, rfl, rfl, (fun q => absurd (show (0 : Nat) = 2 from q) (by decide))⟩)⟩
