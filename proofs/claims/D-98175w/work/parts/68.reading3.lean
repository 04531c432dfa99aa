/-! ===== the reference: reading, lines ===== -/
set_option maxRecDepth 100000
theorem KR.s {S S' : SM} (h : KR S S') (k : Nat) (v : Int32) (hk : k < 116 := by omega) : KR S (sA 6 k v S') := ⟨(KX.tr h.1 (KX.s6 k v S')).sub (by decide) (by decide), fun j hj => by rw [← h.2 j hj]; simp [sA, va_up, upd, show ¬ j = k by omega]⟩
theorem PI.inc {T : Nat → Int32} {N : Nat} {S : SM} {s : PX} (h : PI T N S s) (k : Nat) : PI T N (sA 6 k (S.2.1 6 k + 1) S) (pIn k s) := by
  refine ⟨h.1, ?_⟩
  cases s with
  | inl f => exact h.2
  | inr x => exact ⟨h.2.1, h.2.2.1, h.ls, h.bd, by rw [← h.fr]; simp [sA, va_up]⟩
theorem pTo_hi {T : Nat → Int32} {N w : Nat} {lo hi : Int32} {F : (Nat → Int32) → Int32} {S : SM} {e : PX} (hP : PI T N S e) (h : hi = F (S.2.1 6)) : pTo T N w lo hi e = pTo T N w lo (pOf F e) e := by
  cases e with
  | inl f => rfl
  | inr x => rw [h, show pOf F (.inr x) = F x.2 from rfl, hP.fr]
theorem pNu_hi {T : Nat → Int32} {N : Nat} {lo hi : Int32} {F : (Nat → Int32) → Int32} {S : SM} {e : PX} (hP : PI T N S e) (h : hi = F (S.2.1 6)) : pNu T N lo hi e = pNu T N lo (pOf F e) e := by
  cases e with
  | inl f => rfl
  | inr x => rw [h, show pOf F (.inr x) = F x.2 from rfl, hP.fr]
theorem m_readFirst {g : GW} {M : Nat} {pre post : AH} {S : SM} (hm : pre.length = M) {T : Nat → Int32} {N : Nat} {s : PX} (hP : PI T N S s) : SP g 9 0 0 yX10_readFirst cX10_readFirst 1 none [.ref M] (mH M pre S post) (fun v h1 => v = none ∧ ∃ S', h1 = mH M pre S' post ∧ KR S S' ∧ PI T N S' (pFi T N s)) := by
  refine SP.intro [some (.ref M)] (pfn (by decide)) rfl (Nat.le_of_ble_eq_true rfl) ?_
  refine wp_aload_0 dX10_readFirst_0 rfl ?_
  refine wp_ldcS (w := 0) dX10_readFirst_1 rfl (List.mem_of_getElem? (i := 19) rfl) ?_
  refine wp_cvE dX10_readFirst_3 rfl q2029 mv_X10_needs (mg_0 hm) rfl rfl (m_needs hm hP (by decide)) rfl rfl (Nat.le_of_ble_eq_true rfl) (Nat.le_of_ble_eq_true rfl) (fun h1 hq => ?_)
  obtain ⟨S1, rfl, hk1, hP1⟩ := hq
  refine wp_aload_0 dX10_readFirst_6 rfl ?_
  refine wp_getf dX10_readFirst_7 rfl q1845 fk10_14 (mg_0 hm) rfl ?_
  refine wp_iconst 0 dX10_readFirst_10 rfl rfl ?_
  refine wp_aload_0 dX10_readFirst_11 rfl ?_
  refine wp_ldcS (w := 18) dX10_readFirst_12 rfl (List.mem_of_getElem? (i := 20) rfl) ?_
  refine wp_iconst 1 dX10_readFirst_14 rfl rfl ?_
  refine wp_iconst 4 dX10_readFirst_15 rfl rfl ?_
  refine wp_cvEi dX10_readFirst_16 rfl q2048 mv_X10_told (mg_0 hm) rfl rfl (m_told hm hP1 (by decide)) rfl rfl (Nat.le_of_ble_eq_true rfl) (Nat.le_of_ble_eq_true rfl) (fun h1 hq => ?_)
  obtain ⟨S2, rfl, hk2, hP2⟩ := hq
  refine wp_iastoren 0 dX10_readFirst_19 rfl (mg_6 hm) rfl (by decide) (by decide) (ms_A6 hm) ?_
  refine wp_aload_0 dX10_readFirst_20 rfl ?_
  refine wp_getf dX10_readFirst_21 rfl q1845 fk10_14 (mg_0 hm) rfl ?_
  refine wp_iconst 1 dX10_readFirst_24 rfl rfl ?_
  refine wp_aload_0 dX10_readFirst_25 rfl ?_
  refine wp_ldcS (w := 4) dX10_readFirst_26 rfl (List.mem_of_getElem? (i := 21) rfl) ?_
  refine wp_iconst 1 dX10_readFirst_28 rfl rfl ?_
  refine wp_iconst 3 dX10_readFirst_29 rfl rfl ?_
  refine wp_cvEi dX10_readFirst_30 rfl q2048 mv_X10_told (mg_0 hm) rfl rfl (m_told hm (hP2.st 0 _) (by decide)) rfl rfl (Nat.le_of_ble_eq_true rfl) (Nat.le_of_ble_eq_true rfl) (fun h1 hq => ?_)
  obtain ⟨S3, rfl, hk3, hP3⟩ := hq
  refine wp_iastoren 1 dX10_readFirst_33 rfl (mg_6 hm) rfl (by decide) (by decide) (ms_A6 hm) ?_
  refine wp_aload_0 dX10_readFirst_34 rfl ?_
  refine wp_getf dX10_readFirst_35 rfl q1845 fk10_14 (mg_0 hm) rfl ?_
  refine wp_iconst 2 dX10_readFirst_38 rfl rfl ?_
  refine wp_aload_0 dX10_readFirst_39 rfl ?_
  refine wp_ldcS (w := 14) dX10_readFirst_40 rfl (List.mem_of_getElem? (i := 22) rfl) ?_
  refine wp_iconst 1 dX10_readFirst_42 rfl rfl ?_
  refine wp_sipush 200 dX10_readFirst_43 rfl rfl ?_
  refine wp_cvEi dX10_readFirst_46 rfl q2048 mv_X10_told (mg_0 hm) rfl rfl (m_told hm (hP3.st 1 _) (by decide)) rfl rfl (Nat.le_of_ble_eq_true rfl) (Nat.le_of_ble_eq_true rfl) (fun h1 hq => ?_)
  obtain ⟨S4, rfl, hk4, hP4⟩ := hq
  refine wp_iastoren 2 dX10_readFirst_49 rfl (mg_6 hm) rfl (by decide) (by decide) (ms_A6 hm) ?_
  refine wp_aload_0 dX10_readFirst_50 rfl ?_
  refine wp_getf dX10_readFirst_51 rfl q1845 fk10_14 (mg_0 hm) rfl ?_
  refine wp_iconst 3 dX10_readFirst_54 rfl rfl ?_
  refine wp_aload_0 dX10_readFirst_55 rfl ?_
  refine wp_ldcS (w := 8) dX10_readFirst_56 rfl (List.mem_of_getElem? (i := 23) rfl) ?_
  refine wp_iconst 0 dX10_readFirst_58 rfl rfl ?_
  refine wp_bipush 9 dX10_readFirst_59 rfl rfl ?_
  refine wp_cvEi dX10_readFirst_61 rfl q2048 mv_X10_told (mg_0 hm) rfl rfl (m_told hm (hP4.st 2 _) (by decide)) rfl rfl (Nat.le_of_ble_eq_true rfl) (Nat.le_of_ble_eq_true rfl) (fun h1 hq => ?_)
  obtain ⟨S5, rfl, hk5, hP5⟩ := hq
  refine wp_iastoren 3 dX10_readFirst_64 rfl (mg_6 hm) rfl (by decide) (by decide) (ms_A6 hm) ?_
  refine wp_aload_0 dX10_readFirst_65 rfl ?_
  refine wp_getf dX10_readFirst_66 rfl q1845 fk10_14 (mg_0 hm) rfl ?_
  refine wp_bipush 10 dX10_readFirst_69 rfl rfl ?_
  refine wp_iconst 1 dX10_readFirst_71 rfl rfl ?_
  refine wp_iastoren 10 dX10_readFirst_72 rfl (mg_6 hm) rfl (by decide) (by decide) (ms_A6 hm) ?_
  refine wp_aload_0 dX10_readFirst_73 rfl ?_
  refine wp_getf dX10_readFirst_74 rfl q1845 fk10_14 (mg_0 hm) rfl ?_
  refine wp_bipush 11 dX10_readFirst_77 rfl rfl ?_
  refine wp_bipush 100 dX10_readFirst_79 rfl rfl ?_
  refine wp_iastoren 11 dX10_readFirst_81 rfl (mg_6 hm) rfl (by decide) (by decide) (ms_A6 hm) ?_
  exact wp_return dX10_readFirst_82 rfl ⟨rfl, _, rfl, (((((((((hk1.tr hk2).s _ _).tr hk3).s _ _).tr hk4).s _ _).tr hk5).s _ _).s _ _).s _ _, ((hP5.st 3 _).st 10 _).st 11 _⟩
theorem m_freshHoles {g : GW} {M : Nat} {pre post : AH} {S : SM} (hm : pre.length = M)  : SPx g 1 0 0 yX10_freshHoles cX10_freshHoles 1 (some .int) [.ref M] (mH M pre S post) (some (.int (hoW (S.2.1 6)))) (mH M pre S post) := by
  refine SPx.intro [some (.ref M)] (pfn (by decide)) rfl (Nat.le_of_ble_eq_true rfl) ?_
  refine wp_aload_0 dX10_freshHoles_0 rfl ?_
  refine wp_getf dX10_freshHoles_1 rfl q1845 fk10_14 (mg_0 hm) rfl ?_
  refine wp_iconst 0 dX10_freshHoles_4 rfl rfl ?_
  refine wp_ialoadn 0 dX10_freshHoles_5 rfl (mg_6 hm) rfl (by decide) (by decide) ?_
  refine wp_aload_0 dX10_freshHoles_6 rfl ?_
  refine wp_getf dX10_freshHoles_7 rfl q1845 fk10_14 (mg_0 hm) rfl ?_
  refine wp_iconst 1 dX10_freshHoles_10 rfl rfl ?_
  refine wp_ialoadn 1 dX10_freshHoles_11 rfl (mg_6 hm) rfl (by decide) (by decide) ?_
  refine wp_imul dX10_freshHoles_12 rfl ?_
  exact wp_ireturn dX10_freshHoles_13 rfl ⟨rfl, rfl⟩
theorem m_readPlayer {g : GW} {M : Nat} {pre post : AH} {S : SM} (hm : pre.length = M) {T : Nat → Int32} {N : Nat} {x : LX × (Nat → Int32)} (hP : PI T N S (.inr x)) {q : Nat} (hq6 : x.2 6 = nI q) (hq : q < 4) : SP g 9 0 0 yX10_readPlayer cX10_readPlayer 2 none [.ref M] (mH M pre S post) (fun v h1 => v = none ∧ ∃ S', h1 = mH M pre S' post ∧ KR S S' ∧ PI T N S' (pPla T N q (.inr x))) := by
  refine SP.intro [some (.ref M), none] (pfn (by decide)) rfl (Nat.le_of_ble_eq_true rfl) ?_
  refine wp_bipush 96 dX10_readPlayer_0 rfl rfl ?_
  refine wp_iconst 5 dX10_readPlayer_2 rfl rfl ?_
  refine wp_aload_0 dX10_readPlayer_3 rfl ?_
  refine wp_getf dX10_readPlayer_4 rfl q1845 fk10_14 (mg_0 hm) rfl ?_
  refine wp_bipush 6 dX10_readPlayer_7 rfl rfl ?_
  refine wp_ialoadn 6 dX10_readPlayer_9 rfl (mg_6 hm) rfl (by decide) (by decide) ?_
  rw [show S.2.1 6 6 = nI q by rw [hP.fr]; exact hq6]
  refine wp_imul dX10_readPlayer_10 rfl ?_
  refine wp_iadd dX10_readPlayer_11 rfl ?_
  rw [show (96 : Int32) + 5 * nI q = nI (96 + 5 * q) by simp only [nI_lit, pk_mul, nI_add]]
  refine wp_istore_1 dX10_readPlayer_12 rfl (by decide) rfl ?_
  refine wp_aload_0 dX10_readPlayer_13 rfl ?_
  refine wp_getf dX10_readPlayer_14 rfl q1845 fk10_14 (mg_0 hm) rfl ?_
  refine wp_iload_1 dX10_readPlayer_17 rfl ?_
  refine wp_iconst 0 dX10_readPlayer_18 rfl rfl ?_
  refine wp_iadd dX10_readPlayer_19 rfl ?_
  refine wp_aload_0 dX10_readPlayer_20 rfl ?_
  refine wp_ldcS (w := 7) dX10_readPlayer_21 rfl (List.mem_of_getElem? (i := 25) rfl) ?_
  refine wp_iconst 1 dX10_readPlayer_23 rfl rfl ?_
  refine wp_bipush 9 dX10_readPlayer_24 rfl rfl ?_
  refine wp_cvEi dX10_readPlayer_26 rfl q2048 mv_X10_told (mg_0 hm) rfl rfl (m_told hm hP (by decide)) rfl rfl (Nat.le_of_ble_eq_true rfl) (Nat.le_of_ble_eq_true rfl) (fun h1 hq => ?_)
  obtain ⟨S1, rfl, hk1, hP1⟩ := hq
  refine wp_iastoren (96 + 5 * q) dX10_readPlayer_29 rfl (mg_6 hm) (by first | rfl | (simp only [nI_lit, pk_mul, nI_add]; try rfl)) (by omega) (by decide) (ms_A6 hm) ?_
  refine wp_aload_0 dX10_readPlayer_30 rfl ?_
  refine wp_getf dX10_readPlayer_31 rfl q1845 fk10_14 (mg_0 hm) rfl ?_
  refine wp_iload_1 dX10_readPlayer_34 rfl ?_
  refine wp_iconst 1 dX10_readPlayer_35 rfl rfl ?_
  refine wp_iadd dX10_readPlayer_36 rfl ?_
  refine wp_aload_0 dX10_readPlayer_37 rfl ?_
  refine wp_ldcS (w := 6) dX10_readPlayer_38 rfl (List.mem_of_getElem? (i := 26) rfl) ?_
  refine wp_iconst 0 dX10_readPlayer_40 rfl rfl ?_
  refine wp_bipush 20 dX10_readPlayer_41 rfl rfl ?_
  refine wp_cvEi dX10_readPlayer_43 rfl q2048 mv_X10_told (mg_0 hm) rfl rfl (m_told hm (hP1.st (96 + 5 * q) _) (by decide)) rfl rfl (Nat.le_of_ble_eq_true rfl) (Nat.le_of_ble_eq_true rfl) (fun h1 hq => ?_)
  obtain ⟨S2, rfl, hk2, hP2⟩ := hq
  refine wp_iastoren (96 + 5 * q + 1) dX10_readPlayer_46 rfl (mg_6 hm) (by first | rfl | (simp only [nI_lit, pk_mul, nI_add]; try rfl)) (by omega) (by decide) (ms_A6 hm) ?_
  refine wp_aload_0 dX10_readPlayer_47 rfl ?_
  refine wp_getf dX10_readPlayer_48 rfl q1845 fk10_14 (mg_0 hm) rfl ?_
  refine wp_iload_1 dX10_readPlayer_51 rfl ?_
  refine wp_iconst 2 dX10_readPlayer_52 rfl rfl ?_
  refine wp_iadd dX10_readPlayer_53 rfl ?_
  refine wp_aload_0 dX10_readPlayer_54 rfl ?_
  refine wp_ldcS (w := 15) dX10_readPlayer_55 rfl (List.mem_of_getElem? (i := 27) rfl) ?_
  refine wp_iconst 0 dX10_readPlayer_57 rfl rfl ?_
  refine wp_bipush 99 dX10_readPlayer_58 rfl rfl ?_
  refine wp_cvEi dX10_readPlayer_60 rfl q2048 mv_X10_told (mg_0 hm) rfl rfl (m_told hm (hP2.st (96 + 5 * q + 1) _) (by decide)) rfl rfl (Nat.le_of_ble_eq_true rfl) (Nat.le_of_ble_eq_true rfl) (fun h1 hq => ?_)
  obtain ⟨S3, rfl, hk3, hP3⟩ := hq
  refine wp_iastoren (96 + 5 * q + 2) dX10_readPlayer_63 rfl (mg_6 hm) (by first | rfl | (simp only [nI_lit, pk_mul, nI_add]; try rfl)) (by omega) (by decide) (ms_A6 hm) ?_
  refine wp_aload_0 dX10_readPlayer_64 rfl ?_
  refine wp_getf dX10_readPlayer_65 rfl q1845 fk10_14 (mg_0 hm) rfl ?_
  refine wp_iload_1 dX10_readPlayer_68 rfl ?_
  refine wp_iconst 3 dX10_readPlayer_69 rfl rfl ?_
  refine wp_iadd dX10_readPlayer_70 rfl ?_
  refine wp_aload_0 dX10_readPlayer_71 rfl ?_
  refine wp_ldcS (w := 5) dX10_readPlayer_72 rfl (List.mem_of_getElem? (i := 28) rfl) ?_
  refine wp_iconst 0 dX10_readPlayer_74 rfl rfl ?_
  refine wp_bipush 9 dX10_readPlayer_75 rfl rfl ?_
  refine wp_cvEi dX10_readPlayer_77 rfl q2048 mv_X10_told (mg_0 hm) rfl rfl (m_told hm (hP3.st (96 + 5 * q + 2) _) (by decide)) rfl rfl (Nat.le_of_ble_eq_true rfl) (Nat.le_of_ble_eq_true rfl) (fun h1 hq => ?_)
  obtain ⟨S4, rfl, hk4, hP4⟩ := hq
  refine wp_iastoren (96 + 5 * q + 3) dX10_readPlayer_80 rfl (mg_6 hm) (by first | rfl | (simp only [nI_lit, pk_mul, nI_add]; try rfl)) (by omega) (by decide) (ms_A6 hm) ?_
  refine wp_aload_0 dX10_readPlayer_81 rfl ?_
  refine wp_getf dX10_readPlayer_82 rfl q1845 fk10_14 (mg_0 hm) rfl ?_
  refine wp_iload_1 dX10_readPlayer_85 rfl ?_
  refine wp_iconst 4 dX10_readPlayer_86 rfl rfl ?_
  refine wp_iadd dX10_readPlayer_87 rfl ?_
  refine wp_aload_0 dX10_readPlayer_88 rfl ?_
  refine wp_ldcS (w := 17) dX10_readPlayer_89 rfl (List.mem_of_getElem? (i := 29) rfl) ?_
  refine wp_iconst 0 dX10_readPlayer_91 rfl rfl ?_
  refine wp_aload_0 dX10_readPlayer_92 rfl ?_
  refine wp_cvR dX10_readPlayer_93 rfl q2087 mv_X10_freshHoles (mg_0 hm) rfl rfl (m_freshHoles hm) rfl rfl (Nat.le_of_ble_eq_true rfl) (Nat.le_of_ble_eq_true rfl) ?_
  refine wp_iconst 1 dX10_readPlayer_96 rfl rfl ?_
  refine wp_isub dX10_readPlayer_97 rfl ?_
  refine wp_cvEi dX10_readPlayer_98 rfl q2048 mv_X10_told (mg_0 hm) rfl rfl (m_told hm (hP4.st (96 + 5 * q + 3) _) (by decide)) rfl rfl (Nat.le_of_ble_eq_true rfl) (Nat.le_of_ble_eq_true rfl) (fun h1 hq => ?_)
  obtain ⟨S5, rfl, hk5, hP5⟩ := hq
  rw [pTo_hi (F := fun W => hoW W - 1) (hP4.st (96 + 5 * q + 3) _) rfl] at hP5 ⊢
  refine wp_iastoren (96 + 5 * q + 4) dX10_readPlayer_101 rfl (mg_6 hm) (by first | rfl | (simp only [nI_lit, pk_mul, nI_add]; try rfl)) (by omega) (by decide) (ms_A6 hm) ?_
  refine wp_aload_0 dX10_readPlayer_102 rfl ?_
  refine wp_getf dX10_readPlayer_103 rfl q1845 fk10_14 (mg_0 hm) rfl ?_
  refine wp_bipush 6 dX10_readPlayer_106 rfl rfl ?_
  refine wp_dup2 dX10_readPlayer_108 rfl rfl rfl ?_
  refine wp_ialoadn 6 dX10_readPlayer_109 rfl (mg_6 hm) rfl (by decide) (by decide) ?_
  refine wp_iconst 1 dX10_readPlayer_110 rfl rfl ?_
  refine wp_iadd dX10_readPlayer_111 rfl ?_
  refine wp_iastoren 6 dX10_readPlayer_112 rfl (mg_6 hm) rfl (by decide) (by decide) (ms_A6 hm) ?_
  exact wp_return dX10_readPlayer_113 rfl ⟨rfl, _, rfl, ((((((((((hk1.s _ _).tr hk2).s _ _).tr hk3).s _ _).tr hk4).s _ _).tr hk5).s _ _).s _ _), (hP5.st (96 + 5 * q + 4) _).inc 6⟩
theorem mL_freshStay {g : GW} {M : Nat} {pre post : AH} (hm : pre.length = M) {S : SM} {W : Nat → Int32} (hW : S.2.1 6 = W) (hs : WFs W) {t : Int32} {c n : Nat} {Q : Option Value → AH → Prop} : ∀ (k : Nat)  (k2 : Nat), k2 + k = nW W 4 → Q (some (.int (onI (frI W t k k2)))) (mH M pre S post) → WP g 2 yX10_freshStay cX10_freshStay 3 (some .int) 2 [some (.ref M), some (.int t), some (.int (nI k2))] [] (mH M pre S post) c n Q := by
  intro k
  induction k with
  | zero =>
    intro  k2 hi hq
    refine wp_iload_2 dX10_freshStay_2 rfl ?_
    refine wp_aload_0 dX10_freshStay_3 rfl ?_
    refine wp_getf dX10_freshStay_4 rfl q1845 fk10_14 (mg_0 hm) rfl ?_
    refine wp_iconst 4 dX10_freshStay_7 rfl rfl ?_
    refine wp_ialoadn 4 dX10_freshStay_8 rfl (mg_6 hm) rfl (by decide) (by decide) ?_
    rw [show S.2.1 6 4 = nI (nW W 4) by rw [hW]; exact hs.ns.1]
    refine wp_icmp_ge_k 35 dX10_freshStay_9 rfl rfl (by have := hs.ns.2; omega) (by have := hs.ns.2; omega) (fun c9 => ?_) (fun c9 => ?_)
    · refine wp_iconst (-1) dX10_freshStay_35 rfl rfl ?_
      exact wp_ireturn dX10_freshStay_36 rfl hq
    · omega
  | succ k ih =>
    intro  k2 hi hq
    refine wp_iload_2 dX10_freshStay_2 rfl ?_
    refine wp_aload_0 dX10_freshStay_3 rfl ?_
    refine wp_getf dX10_freshStay_4 rfl q1845 fk10_14 (mg_0 hm) rfl ?_
    refine wp_iconst 4 dX10_freshStay_7 rfl rfl ?_
    refine wp_ialoadn 4 dX10_freshStay_8 rfl (mg_6 hm) rfl (by decide) (by decide) ?_
    rw [show S.2.1 6 4 = nI (nW W 4) by rw [hW]; exact hs.ns.1]
    refine wp_icmp_ge_k 35 dX10_freshStay_9 rfl rfl (by have := hs.ns.2; omega) (by have := hs.ns.2; omega) (fun c9 => ?_) (fun c9 => ?_)
    · omega
    · refine wp_aload_0 dX10_freshStay_12 rfl ?_
      refine wp_getf dX10_freshStay_13 rfl q1845 fk10_14 (mg_0 hm) rfl ?_
      refine wp_bipush 12 dX10_freshStay_16 rfl rfl ?_
      refine wp_iconst 2 dX10_freshStay_18 rfl rfl ?_
      refine wp_iload_2 dX10_freshStay_19 rfl ?_
      refine wp_imul dX10_freshStay_20 rfl ?_
      refine wp_iadd dX10_freshStay_21 rfl ?_
      refine wp_ialoadn (12 + 2 * k2) dX10_freshStay_22 rfl (mg_6 hm) (by simp only [nI_lit, pk_mul, nI_add]) (by have := hs.ns.2; omega) (by decide) ?_
      rw [hW]
      refine wp_iload_1 dX10_freshStay_23 rfl ?_
      refine wp_icmp_ne 29 dX10_freshStay_24 rfl rfl (fun c24 => ?_) (fun c24 => ?_)
      · refine wp_iinc_2 1 dX10_freshStay_29 rfl rfl (by decide) rfl ?_
        refine wp_goto 2 dX10_freshStay_32 rfl rfl ?_
        exact WP.cast (by rw [nI_1]) (ih (k2 + 1) (by omega) (by rw [frI, if_neg c24] at hq; exact hq))
      · refine wp_iload_2 dX10_freshStay_27 rfl ?_
        exact wp_ireturn dX10_freshStay_28 rfl (by rw [frI, if_pos c24] at hq; exact hq)
theorem m_freshStay {g : GW} {M : Nat} {pre post : AH} {S : SM} (hm : pre.length = M) {W : Nat → Int32} (hW : S.2.1 6 = W) (hs : WFs W) {t : Int32} : SPx g 2 0 0 yX10_freshStay cX10_freshStay 3 (some .int) [.ref M, .int t] (mH M pre S post) (some (.int (onI (frS W t)))) (mH M pre S post) := by
  refine SPx.intro [some (.ref M), some (.int t), none] (pfn (by decide)) rfl (Nat.le_of_ble_eq_true rfl) ?_
  refine wp_iconst 0 dX10_freshStay_0 rfl rfl ?_
  refine wp_istore_2 dX10_freshStay_1 rfl (by decide) rfl ?_
  exact mL_freshStay hm hW hs (nW W 4) 0 (Nat.zero_add _) ⟨rfl, rfl⟩
theorem mL_isFC {g : GW} {M : Nat} {pre post : AH} (hm : pre.length = M) {S : SM} {W : Nat → Int32} (hW : S.2.1 6 = W) (hs : WFs W) {t : Int32} {c n : Nat} {Q : Option Value → AH → Prop} : ∀ (k : Nat)  (k2 : Nat), k2 + k = nW W 5 → Q (some (.int (b2i (!eqK (fun k => !(decide (W (24 + 3 * k) = t) || decide (W (24 + 3 * k + 1) = t))) k k2)))) (mH M pre S post) → WP g 2 yX10_isFreshComing cX10_isFreshComing 3 (some .boolean) 2 [some (.ref M), some (.int t), some (.int (nI k2))] [] (mH M pre S post) c n Q := by
  intro k
  induction k with
  | zero =>
    intro  k2 hi hq
    refine wp_iload_2 dX10_isFreshComing_2 rfl ?_
    refine wp_aload_0 dX10_isFreshComing_3 rfl ?_
    refine wp_getf dX10_isFreshComing_4 rfl q1845 fk10_14 (mg_0 hm) rfl ?_
    refine wp_iconst 5 dX10_isFreshComing_7 rfl rfl ?_
    refine wp_ialoadn 5 dX10_isFreshComing_8 rfl (mg_6 hm) rfl (by decide) (by decide) ?_
    rw [show S.2.1 6 5 = nI (nW W 5) by rw [hW]; exact hs.nc.1]
    refine wp_icmp_ge_k 54 dX10_isFreshComing_9 rfl rfl (by have := hs.nc.2; omega) (by have := hs.nc.2; omega) (fun c9 => ?_) (fun c9 => ?_)
    · refine wp_iconst 0 dX10_isFreshComing_54 rfl rfl ?_
      exact wp_zreturn dX10_isFreshComing_55 rfl rfl hq
    · omega
  | succ k ih =>
    intro  k2 hi hq
    refine wp_iload_2 dX10_isFreshComing_2 rfl ?_
    refine wp_aload_0 dX10_isFreshComing_3 rfl ?_
    refine wp_getf dX10_isFreshComing_4 rfl q1845 fk10_14 (mg_0 hm) rfl ?_
    refine wp_iconst 5 dX10_isFreshComing_7 rfl rfl ?_
    refine wp_ialoadn 5 dX10_isFreshComing_8 rfl (mg_6 hm) rfl (by decide) (by decide) ?_
    rw [show S.2.1 6 5 = nI (nW W 5) by rw [hW]; exact hs.nc.1]
    refine wp_icmp_ge_k 54 dX10_isFreshComing_9 rfl rfl (by have := hs.nc.2; omega) (by have := hs.nc.2; omega) (fun c9 => ?_) (fun c9 => ?_)
    · omega
    · refine wp_aload_0 dX10_isFreshComing_12 rfl ?_
      refine wp_getf dX10_isFreshComing_13 rfl q1845 fk10_14 (mg_0 hm) rfl ?_
      refine wp_bipush 24 dX10_isFreshComing_16 rfl rfl ?_
      refine wp_iconst 3 dX10_isFreshComing_18 rfl rfl ?_
      refine wp_iload_2 dX10_isFreshComing_19 rfl ?_
      refine wp_imul dX10_isFreshComing_20 rfl ?_
      refine wp_iadd dX10_isFreshComing_21 rfl ?_
      refine wp_iconst 0 dX10_isFreshComing_22 rfl rfl ?_
      refine wp_iadd dX10_isFreshComing_23 rfl ?_
      refine wp_ialoadn (24 + 3 * k2) dX10_isFreshComing_24 rfl (mg_6 hm) (by simp only [nI_lit, pk_mul, nI_add]; try rfl) (by have := hs.nc.2; omega) (by decide) ?_
      rw [hW]
      refine wp_iload_1 dX10_isFreshComing_25 rfl ?_
      refine wp_icmp_eq 46 dX10_isFreshComing_26 rfl rfl (fun c26 => ?_) (fun c26 => ?_)
      · refine wp_iconst 1 dX10_isFreshComing_46 rfl rfl ?_
        exact wp_zreturn dX10_isFreshComing_47 rfl rfl (by rw [eqK_f (show (fun k => !(decide (W (24 + 3 * k) = t) || decide (W (24 + 3 * k + 1) = t))) k2 = false by first | (simp [c43]; done) | (simp [c26]; done))] at hq; exact hq)
      · refine wp_aload_0 dX10_isFreshComing_29 rfl ?_
        refine wp_getf dX10_isFreshComing_30 rfl q1845 fk10_14 (mg_0 hm) rfl ?_
        refine wp_bipush 24 dX10_isFreshComing_33 rfl rfl ?_
        refine wp_iconst 3 dX10_isFreshComing_35 rfl rfl ?_
        refine wp_iload_2 dX10_isFreshComing_36 rfl ?_
        refine wp_imul dX10_isFreshComing_37 rfl ?_
        refine wp_iadd dX10_isFreshComing_38 rfl ?_
        refine wp_iconst 1 dX10_isFreshComing_39 rfl rfl ?_
        refine wp_iadd dX10_isFreshComing_40 rfl ?_
        refine wp_ialoadn (24 + 3 * k2 + 1) dX10_isFreshComing_41 rfl (mg_6 hm) (by simp only [nI_lit, pk_mul, nI_add]; try rfl) (by have := hs.nc.2; omega) (by decide) ?_
        rw [hW]
        refine wp_iload_1 dX10_isFreshComing_42 rfl ?_
        refine wp_icmp_ne 48 dX10_isFreshComing_43 rfl rfl (fun c43 => ?_) (fun c43 => ?_)
        · refine wp_iinc_2 1 dX10_isFreshComing_48 rfl rfl (by decide) rfl ?_
          refine wp_goto 2 dX10_isFreshComing_51 rfl rfl ?_
          exact WP.cast (by rw [nI_1]) (ih (k2 + 1) (by omega) (by rw [eqK_t (show (fun k => !(decide (W (24 + 3 * k) = t) || decide (W (24 + 3 * k + 1) = t))) k2 = true by simp [c26, c43])] at hq; exact hq))
        · refine wp_iconst 1 dX10_isFreshComing_46 rfl rfl ?_
          exact wp_zreturn dX10_isFreshComing_47 rfl rfl (by rw [eqK_f (show (fun k => !(decide (W (24 + 3 * k) = t) || decide (W (24 + 3 * k + 1) = t))) k2 = false by first | (simp [c43]; done) | (simp [c26]; done))] at hq; exact hq)
theorem m_isFC {g : GW} {M : Nat} {pre post : AH} {S : SM} (hm : pre.length = M) {W : Nat → Int32} (hW : S.2.1 6 = W) (hs : WFs W) {t : Int32} : SPx g 2 0 0 yX10_isFreshComing cX10_isFreshComing 3 (some .boolean) [.ref M, .int t] (mH M pre S post) (some (.int (b2i (isCo W t)))) (mH M pre S post) := by
  refine SPx.intro [some (.ref M), some (.int t), none] (pfn (by decide)) rfl (Nat.le_of_ble_eq_true rfl) ?_
  refine wp_iconst 0 dX10_isFreshComing_0 rfl rfl ?_
  refine wp_istore_2 dX10_isFreshComing_1 rfl (by decide) rfl ?_
  exact mL_isFC hm hW hs (nW W 5) 0 (Nat.zero_add _) ⟨rfl, rfl⟩
def pHl (s : PX) : Bool := match s with
  | .inl _ => false
  | .inr x => hoL x.1 x.2
theorem hoL_tk {L : LX} {W : Nat → Int32} (h : hoL L W = true) : lTk L = 2 := by
  rw [hoL, Bool.and_eq_true, decide_eq_true_eq] at h
  exact h.1
theorem m_isNextHole {g : GW} {M : Nat} {pre post : AH} {S : SM} (hm : pre.length = M) {T : Nat → Int32} {N : Nat} {s : PX} (hP : PI T N S s) : SPx g 2 0 0 yX10_isNextHole cX10_isNextHole 1 (some .boolean) [.ref M] (mH M pre S post) (some (.int (b2i (pHl s)))) (mH M pre S post) := by
  refine SPx.intro [some (.ref M)] (pfn (by decide)) rfl (Nat.le_of_ble_eq_true rfl) ?_
  rcases s with f | x
  · refine wp_aload_0 dX10_isNextHole_0 rfl ?_
    refine wp_cvR dX10_isNextHole_1 rfl q2016 mv_X10_good (mg_0 hm) rfl rfl (m_good hm) rfl rfl (Nat.le_of_ble_eq_true rfl) (Nat.le_of_ble_eq_true rfl) ?_
    refine wp_ifeq_b 30 dX10_isNextHole_4 rfl rfl (fun c4 => ?_) (fun c4 => ?_)
    · refine wp_iconst 0 dX10_isNextHole_30 rfl rfl ?_
      exact wp_zreturn dX10_isNextHole_31 rfl rfl ⟨rfl, rfl⟩
    · exact absurd c4 (by rw [hP.bad]; decide)
  · refine wp_aload_0 dX10_isNextHole_0 rfl ?_
    refine wp_cvR dX10_isNextHole_1 rfl q2016 mv_X10_good (mg_0 hm) rfl rfl (m_good hm) rfl rfl (Nat.le_of_ble_eq_true rfl) (Nat.le_of_ble_eq_true rfl) ?_
    refine wp_ifeq_b 30 dX10_isNextHole_4 rfl rfl (fun c4 => ?_) (fun c4 => ?_)
    · exact absurd c4 (by rw [hP.ok]; decide)
    · refine wp_aload_0 dX10_isNextHole_7 rfl ?_
      refine wp_getf dX10_isNextHole_8 rfl q1841 fk10_10 (mg_0 hm) rfl ?_
      rw [hP.ls.2.2.1]
      refine wp_iconst 2 dX10_isNextHole_11 rfl rfl ?_
      refine wp_icmp_ne_k 30 dX10_isNextHole_12 rfl rfl (b := 2) (by have := hP.bd; omega) (by omega) (fun c12 => ?_) (fun c12 => ?_)
      · refine wp_iconst 0 dX10_isNextHole_30 rfl rfl ?_
        exact wp_zreturn dX10_isNextHole_31 rfl rfl ⟨by rw [pHl, hoL, decide_eq_false c12]; rfl, rfl⟩
      · refine wp_aload_0 dX10_isNextHole_15 rfl ?_
        refine wp_getf dX10_isNextHole_16 rfl q1842 fk10_11 (mg_0 hm) rfl ?_
        rw [hP.ls.2.2.2 c12]
        refine wp_aload_0 dX10_isNextHole_19 rfl ?_
        refine wp_cvR dX10_isNextHole_20 rfl q2087 mv_X10_freshHoles (mg_0 hm) rfl rfl (m_freshHoles hm) rfl rfl (Nat.le_of_ble_eq_true rfl) (Nat.le_of_ble_eq_true rfl) ?_
        rw [hP.fr]
        refine wp_icmp_ge 30 dX10_isNextHole_23 rfl rfl (fun c23 => ?_) (fun c23 => ?_)
        · refine wp_iconst 0 dX10_isNextHole_30 rfl rfl ?_
          exact wp_zreturn dX10_isNextHole_31 rfl rfl ⟨by rw [pHl, hoL, decide_eq_false (Int32.not_lt.mpr c23), Bool.and_false]; rfl, rfl⟩
        · refine wp_iconst 1 dX10_isNextHole_26 rfl rfl ?_
          refine wp_goto 31 dX10_isNextHole_27 rfl rfl ?_
          exact wp_zreturn dX10_isNextHole_31 rfl rfl ⟨by rw [pHl, hoL, decide_eq_true c12, decide_eq_true (Int32.not_le.mp c23)]; rfl, rfl⟩
theorem m_readHole {g : GW} {M : Nat} {pre post : AH} {S : SM} (hm : pre.length = M) {T : Nat → Int32} {N : Nat} {s : PX} (hP : PI T N S s) {but : Int32} : SP g 5 0 0 yX10_readHole cX10_readHole 2 (some .int) [.ref M, .int but] (mH M pre S post) (fun v h1 => v = some (.int (pHo T N (badO but) s).1) ∧ ∃ S', h1 = mH M pre S' post ∧ KR S S' ∧ PI T N S' ((pHo T N (badO but) s).2)) := by
  refine SP.intro [some (.ref M), some (.int but)] (pfn (by decide)) rfl (Nat.le_of_ble_eq_true rfl) ?_
  rcases s with f | x
  · refine wp_aload_0 dX10_readHole_0 rfl ?_
    refine wp_cvR dX10_readHole_1 rfl q2083 mv_X10_isNextHole (mg_0 hm) rfl rfl (m_isNextHole hm hP) rfl rfl (Nat.le_of_ble_eq_true rfl) (Nat.le_of_ble_eq_true rfl) ?_
    refine wp_ifeq_b 38 dX10_readHole_4 rfl rfl (fun c4 => ?_) (fun c4 => ?_)
    · refine wp_aload_0 dX10_readHole_38 rfl ?_
      refine wp_iconst 0 dX10_readHole_39 rfl rfl ?_
      refine wp_aload_0 dX10_readHole_40 rfl ?_
      refine wp_cvR dX10_readHole_41 rfl q2087 mv_X10_freshHoles (mg_0 hm) rfl rfl (m_freshHoles hm) rfl rfl (Nat.le_of_ble_eq_true rfl) (Nat.le_of_ble_eq_true rfl) ?_
      refine wp_iconst 1 dX10_readHole_44 rfl rfl ?_
      refine wp_isub dX10_readHole_45 rfl ?_
      refine wp_cvEi dX10_readHole_46 rfl q2052 mv_X10_number (mg_0 hm) rfl rfl (m_number hm hP) rfl rfl (Nat.le_of_ble_eq_true rfl) (Nat.le_of_ble_eq_true rfl) (fun h1 hq => ?_)
      obtain ⟨S1, rfl, hk1, hP1⟩ := hq
      exact wp_ireturn dX10_readHole_49 rfl ⟨rfl, S1, rfl, hk1, hP1⟩
    · exact absurd (show false = true from c4) (by decide)
  · refine wp_aload_0 dX10_readHole_0 rfl ?_
    refine wp_cvR dX10_readHole_1 rfl q2083 mv_X10_isNextHole (mg_0 hm) rfl rfl (m_isNextHole hm hP) rfl rfl (Nat.le_of_ble_eq_true rfl) (Nat.le_of_ble_eq_true rfl) ?_
    refine wp_ifeq_b 38 dX10_readHole_4 rfl rfl (fun c4 => ?_) (fun c4 => ?_)
    · have c4 : hoL x.1 x.2 = false := c4
      have hk9 : KR S S := KR.rf S
      have hP9 : PI T N S (pHoF (badO but) (.inr x)) := by rw [pHoF, if_neg (by rw [c4]; exact fun q => absurd q.1 (by decide))]; exact hP
      refine wp_aload_0 dX10_readHole_38 rfl ?_
      refine wp_iconst 0 dX10_readHole_39 rfl rfl ?_
      refine wp_aload_0 dX10_readHole_40 rfl ?_
      refine wp_cvR dX10_readHole_41 rfl q2087 mv_X10_freshHoles (mg_0 hm) rfl rfl (m_freshHoles hm) rfl rfl (Nat.le_of_ble_eq_true rfl) (Nat.le_of_ble_eq_true rfl) ?_
      refine wp_iconst 1 dX10_readHole_44 rfl rfl ?_
      refine wp_isub dX10_readHole_45 rfl ?_
      refine wp_cvEi dX10_readHole_46 rfl q2052 mv_X10_number (mg_0 hm) rfl rfl (m_number hm hP9) rfl rfl (Nat.le_of_ble_eq_true rfl) (Nat.le_of_ble_eq_true rfl) (fun h1 hq => ?_)
      obtain ⟨S2, rfl, hk2, hP2⟩ := hq
      rw [pNu_hi (F := fun W => hoW W - 1) hP9 rfl] at hP2 ⊢
      exact wp_ireturn dX10_readHole_49 rfl ⟨rfl, S2, rfl, hk9.tr hk2, hP2⟩
    · have c4 : hoL x.1 x.2 = true := c4
      have htk := hoL_tk c4
      refine wp_aload_0 dX10_readHole_7 rfl ?_
      refine wp_getf dX10_readHole_8 rfl q1845 fk10_14 (mg_0 hm) rfl ?_
      refine wp_bipush 7 dX10_readHole_11 rfl rfl ?_
      refine wp_ialoadn 7 dX10_readHole_13 rfl (mg_6 hm) rfl (by decide) (by decide) ?_
      rw [hP.fr]
      refine wp_aload_0 dX10_readHole_14 rfl ?_
      refine wp_getf dX10_readHole_15 rfl q1842 fk10_11 (mg_0 hm) rfl ?_
      rw [hP.ls.2.2.2 htk]
      refine wp_ishr dX10_readHole_18 rfl ?_
      refine wp_iconst 1 dX10_readHole_19 rfl rfl ?_
      refine wp_iand dX10_readHole_20 rfl ?_
      refine wp_iconst 1 dX10_readHole_21 rfl rfl ?_
      refine wp_icmp_eq 33 dX10_readHole_22 rfl rfl (fun c22 => ?_) (fun c22 => ?_)
      · refine wp_aload_0 dX10_readHole_33 rfl ?_
        refine wp_iconst 2 dX10_readHole_34 rfl rfl ?_
        refine wp_cvE dX10_readHole_35 rfl q2043 mv_X10_errs (mg_0 hm) rfl rfl (m_errs hm hP (by decide)) rfl rfl (Nat.le_of_ble_eq_true rfl) (Nat.le_of_ble_eq_true rfl) (fun h1 hq => ?_)
        obtain ⟨S1, rfl, hk1, hP1⟩ := hq
        have hk9 := hk1
        have hP9 : PI T N S1 (pHoF (badO but) (.inr x)) := by rw [pHoF, if_pos ⟨c4, by rw [badO, decide_eq_true c22, Bool.true_or]⟩]; exact hP1
        refine wp_aload_0 dX10_readHole_38 rfl ?_
        refine wp_iconst 0 dX10_readHole_39 rfl rfl ?_
        refine wp_aload_0 dX10_readHole_40 rfl ?_
        refine wp_cvR dX10_readHole_41 rfl q2087 mv_X10_freshHoles (mg_0 hm) rfl rfl (m_freshHoles hm) rfl rfl (Nat.le_of_ble_eq_true rfl) (Nat.le_of_ble_eq_true rfl) ?_
        refine wp_iconst 1 dX10_readHole_44 rfl rfl ?_
        refine wp_isub dX10_readHole_45 rfl ?_
        refine wp_cvEi dX10_readHole_46 rfl q2052 mv_X10_number (mg_0 hm) rfl rfl (m_number hm hP9) rfl rfl (Nat.le_of_ble_eq_true rfl) (Nat.le_of_ble_eq_true rfl) (fun h1 hq => ?_)
        obtain ⟨S2, rfl, hk2, hP2⟩ := hq
        rw [pNu_hi (F := fun W => hoW W - 1) hP9 rfl] at hP2 ⊢
        exact wp_ireturn dX10_readHole_49 rfl ⟨rfl, S2, rfl, hk9.tr hk2, hP2⟩
      · refine wp_aload_0 dX10_readHole_25 rfl ?_
        refine wp_getf dX10_readHole_26 rfl q1842 fk10_11 (mg_0 hm) rfl ?_
        rw [hP.ls.2.2.2 htk]
        refine wp_iload_1 dX10_readHole_29 rfl ?_
        refine wp_icmp_ne 38 dX10_readHole_30 rfl rfl (fun c30 => ?_) (fun c30 => ?_)
        · have hk9 : KR S S := KR.rf S
          have hP9 : PI T N S (pHoF (badO but) (.inr x)) := by rw [pHoF, if_neg (fun q => by rw [badO, decide_eq_false c22, decide_eq_false c30] at q; exact absurd q.2 (by decide))]; exact hP
          refine wp_aload_0 dX10_readHole_38 rfl ?_
          refine wp_iconst 0 dX10_readHole_39 rfl rfl ?_
          refine wp_aload_0 dX10_readHole_40 rfl ?_
          refine wp_cvR dX10_readHole_41 rfl q2087 mv_X10_freshHoles (mg_0 hm) rfl rfl (m_freshHoles hm) rfl rfl (Nat.le_of_ble_eq_true rfl) (Nat.le_of_ble_eq_true rfl) ?_
          refine wp_iconst 1 dX10_readHole_44 rfl rfl ?_
          refine wp_isub dX10_readHole_45 rfl ?_
          refine wp_cvEi dX10_readHole_46 rfl q2052 mv_X10_number (mg_0 hm) rfl rfl (m_number hm hP9) rfl rfl (Nat.le_of_ble_eq_true rfl) (Nat.le_of_ble_eq_true rfl) (fun h1 hq => ?_)
          obtain ⟨S2, rfl, hk2, hP2⟩ := hq
          rw [pNu_hi (F := fun W => hoW W - 1) hP9 rfl] at hP2 ⊢
          exact wp_ireturn dX10_readHole_49 rfl ⟨rfl, S2, rfl, hk9.tr hk2, hP2⟩
        · refine wp_aload_0 dX10_readHole_33 rfl ?_
          refine wp_iconst 2 dX10_readHole_34 rfl rfl ?_
          refine wp_cvE dX10_readHole_35 rfl q2043 mv_X10_errs (mg_0 hm) rfl rfl (m_errs hm hP (by decide)) rfl rfl (Nat.le_of_ble_eq_true rfl) (Nat.le_of_ble_eq_true rfl) (fun h1 hq => ?_)
          obtain ⟨S1, rfl, hk1, hP1⟩ := hq
          have hk9 := hk1
          have hP9 : PI T N S1 (pHoF (badO but) (.inr x)) := by rw [pHoF, if_pos ⟨c4, by rw [badO, decide_eq_true c30, Bool.or_true]⟩]; exact hP1
          refine wp_aload_0 dX10_readHole_38 rfl ?_
          refine wp_iconst 0 dX10_readHole_39 rfl rfl ?_
          refine wp_aload_0 dX10_readHole_40 rfl ?_
          refine wp_cvR dX10_readHole_41 rfl q2087 mv_X10_freshHoles (mg_0 hm) rfl rfl (m_freshHoles hm) rfl rfl (Nat.le_of_ble_eq_true rfl) (Nat.le_of_ble_eq_true rfl) ?_
          refine wp_iconst 1 dX10_readHole_44 rfl rfl ?_
          refine wp_isub dX10_readHole_45 rfl ?_
          refine wp_cvEi dX10_readHole_46 rfl q2052 mv_X10_number (mg_0 hm) rfl rfl (m_number hm hP9) rfl rfl (Nat.le_of_ble_eq_true rfl) (Nat.le_of_ble_eq_true rfl) (fun h1 hq => ?_)
          obtain ⟨S2, rfl, hk2, hP2⟩ := hq
          rw [pNu_hi (F := fun W => hoW W - 1) hP9 rfl] at hP2 ⊢
          exact wp_ireturn dX10_readHole_49 rfl ⟨rfl, S2, rfl, hk9.tr hk2, hP2⟩
theorem m_readShut {g : GW} {M : Nat} {pre post : AH} {S : SM} (hm : pre.length = M) {T : Nat → Int32} {N : Nat} {s : PX} (hP : PI T N S s) (hsw : ∀ x, s = .inr x → WFs x.2) : SP g 6 0 0 yX10_readShut cX10_readShut 2 none [.ref M] (mH M pre S post) (fun v h1 => v = none ∧ ∃ S', h1 = mH M pre S' post ∧ KR S S' ∧ PI T N S' (pShut T N s)) := by
  refine SP.intro [some (.ref M), none] (pfn (by decide)) rfl (Nat.le_of_ble_eq_true rfl) ?_
  rcases s with f | x
  · refine wp_aload_0 dX10_readShut_0 rfl ?_
    refine wp_cvR dX10_readShut_1 rfl q2083 mv_X10_isNextHole (mg_0 hm) rfl rfl (m_isNextHole hm hP) rfl rfl (Nat.le_of_ble_eq_true rfl) (Nat.le_of_ble_eq_true rfl) ?_
    refine wp_ifeq_b 41 dX10_readShut_4 rfl rfl (fun c4 => ?_) (fun c4 => ?_)
    · refine wp_aload_0 dX10_readShut_41 rfl ?_
      refine wp_iconst 0 dX10_readShut_42 rfl rfl ?_
      refine wp_aload_0 dX10_readShut_43 rfl ?_
      refine wp_cvR dX10_readShut_44 rfl q2087 mv_X10_freshHoles (mg_0 hm) rfl rfl (m_freshHoles hm) rfl rfl (Nat.le_of_ble_eq_true rfl) (Nat.le_of_ble_eq_true rfl) ?_
      refine wp_iconst 1 dX10_readShut_47 rfl rfl ?_
      refine wp_isub dX10_readShut_48 rfl ?_
      refine wp_cvEi dX10_readShut_49 rfl q2052 mv_X10_number (mg_0 hm) rfl rfl (m_number hm hP) rfl rfl (Nat.le_of_ble_eq_true rfl) (Nat.le_of_ble_eq_true rfl) (fun h1 hq => ?_)
      obtain ⟨S1, rfl, hk1, hP1⟩ := hq
      refine wp_istore_1 dX10_readShut_52 rfl (by decide) rfl ?_
      refine wp_aload_0 dX10_readShut_53 rfl ?_
      refine wp_cvR dX10_readShut_54 rfl q2016 mv_X10_good (mg_0 hm) rfl rfl (m_good hm) rfl rfl (Nat.le_of_ble_eq_true rfl) (Nat.le_of_ble_eq_true rfl) ?_
      refine wp_ifeq_b 73 dX10_readShut_57 rfl rfl (fun c57 => ?_) (fun c57 => ?_)
      · exact wp_return dX10_readShut_73 rfl ⟨rfl, S1, rfl, hk1, hP1⟩
      · exact absurd c57 (by rw [(show PI T N S1 (.inl f) from hP1).bad]; decide)
    · exact absurd (show false = true from c4) (by decide)
  · have hs := hsw x rfl
    refine wp_aload_0 dX10_readShut_0 rfl ?_
    refine wp_cvR dX10_readShut_1 rfl q2083 mv_X10_isNextHole (mg_0 hm) rfl rfl (m_isNextHole hm hP) rfl rfl (Nat.le_of_ble_eq_true rfl) (Nat.le_of_ble_eq_true rfl) ?_
    refine wp_ifeq_b 41 dX10_readShut_4 rfl rfl (fun c4 => ?_) (fun c4 => ?_)
    · have c4 : hoL x.1 x.2 = false := c4
      have hk9 : KR S S := KR.rf S
      have hP9 : PI T N S (pHoF badS (.inr x)) := by rw [pHoF, if_neg (by rw [c4]; exact fun q => absurd q.1 (by decide))]; exact hP
      refine wp_aload_0 dX10_readShut_41 rfl ?_
      refine wp_iconst 0 dX10_readShut_42 rfl rfl ?_
      refine wp_aload_0 dX10_readShut_43 rfl ?_
      refine wp_cvR dX10_readShut_44 rfl q2087 mv_X10_freshHoles (mg_0 hm) rfl rfl (m_freshHoles hm) rfl rfl (Nat.le_of_ble_eq_true rfl) (Nat.le_of_ble_eq_true rfl) ?_
      refine wp_iconst 1 dX10_readShut_47 rfl rfl ?_
      refine wp_isub dX10_readShut_48 rfl ?_
      refine wp_cvEi dX10_readShut_49 rfl q2052 mv_X10_number (mg_0 hm) rfl rfl (m_number hm hP9) rfl rfl (Nat.le_of_ble_eq_true rfl) (Nat.le_of_ble_eq_true rfl) (fun h1 hq => ?_)
      obtain ⟨S2, rfl, hk2, hP2⟩ := hq
      rw [pNu_hi (F := fun W => hoW W - 1) hP9 rfl] at hP2 ⊢
      have hP2 : PI T N S2 (pHo T N badS (.inr x)).2 := hP2
      change WP _ _ _ _ _ _ _ _ [.int (pHo T N badS (.inr x)).1] _ _ _ _
      have hsh : pShut T N (.inr x) = pShE (pHo T N badS (.inr x)).1 (pHo T N badS (.inr x)).2 := rfl
      generalize (pHo T N badS (.inr x)).1 = v9 at *
      generalize (pHo T N badS (.inr x)).2 = s9 at *
      rcases s9 with f9 | x9
      · refine wp_istore_1 dX10_readShut_52 rfl (by decide) rfl ?_
        refine wp_aload_0 dX10_readShut_53 rfl ?_
        refine wp_cvR dX10_readShut_54 rfl q2016 mv_X10_good (mg_0 hm) rfl rfl (m_good hm) rfl rfl (Nat.le_of_ble_eq_true rfl) (Nat.le_of_ble_eq_true rfl) ?_
        refine wp_ifeq_b 73 dX10_readShut_57 rfl rfl (fun c57 => ?_) (fun c57 => ?_)
        · exact wp_return dX10_readShut_73 rfl ⟨rfl, S2, rfl, hk9.tr hk2, by rw [hsh]; exact hP2⟩
        · exact absurd c57 (by rw [hP2.bad]; decide)
      · refine wp_istore_1 dX10_readShut_52 rfl (by decide) rfl ?_
        refine wp_aload_0 dX10_readShut_53 rfl ?_
        refine wp_cvR dX10_readShut_54 rfl q2016 mv_X10_good (mg_0 hm) rfl rfl (m_good hm) rfl rfl (Nat.le_of_ble_eq_true rfl) (Nat.le_of_ble_eq_true rfl) ?_
        refine wp_ifeq_b 73 dX10_readShut_57 rfl rfl (fun c57 => ?_) (fun c57 => ?_)
        · exact absurd c57 (by rw [hP2.ok]; decide)
        · refine wp_aload_0 dX10_readShut_60 rfl ?_
          refine wp_getf dX10_readShut_61 rfl q1845 fk10_14 (mg_0 hm) rfl ?_
          refine wp_bipush 7 dX10_readShut_64 rfl rfl ?_
          refine wp_dup2 dX10_readShut_66 rfl rfl rfl ?_
          refine wp_ialoadn 7 dX10_readShut_67 rfl (mg_6 hm) rfl (by decide) (by decide) ?_
          rw [hP2.fr]
          refine wp_iconst 1 dX10_readShut_68 rfl rfl ?_
          refine wp_iload_1 dX10_readShut_69 rfl ?_
          refine wp_ishl dX10_readShut_70 rfl ?_
          refine wp_ior dX10_readShut_71 rfl ?_
          refine wp_iastoren 7 dX10_readShut_72 rfl (mg_6 hm) rfl (by decide) (by decide) (ms_A6 hm) ?_
          exact wp_return dX10_readShut_73 rfl ⟨rfl, _, rfl, (hk9.tr hk2).s _ _, by rw [hsh]; exact hP2.st 7 _⟩
    · have c4 : hoL x.1 x.2 = true := c4
      have htk := hoL_tk c4
      refine wp_aload_0 dX10_readShut_7 rfl ?_
      refine wp_getf dX10_readShut_8 rfl q1845 fk10_14 (mg_0 hm) rfl ?_
      refine wp_bipush 7 dX10_readShut_11 rfl rfl ?_
      refine wp_ialoadn 7 dX10_readShut_13 rfl (mg_6 hm) rfl (by decide) (by decide) ?_
      rw [hP.fr]
      refine wp_aload_0 dX10_readShut_14 rfl ?_
      refine wp_getf dX10_readShut_15 rfl q1842 fk10_11 (mg_0 hm) rfl ?_
      rw [hP.ls.2.2.2 htk]
      refine wp_ishr dX10_readShut_18 rfl ?_
      refine wp_iconst 1 dX10_readShut_19 rfl rfl ?_
      refine wp_iand dX10_readShut_20 rfl ?_
      refine wp_iconst 1 dX10_readShut_21 rfl rfl ?_
      refine wp_icmp_eq 36 dX10_readShut_22 rfl rfl (fun c22 => ?_) (fun c22 => ?_)
      · refine wp_aload_0 dX10_readShut_36 rfl ?_
        refine wp_iconst 2 dX10_readShut_37 rfl rfl ?_
        refine wp_cvE dX10_readShut_38 rfl q2043 mv_X10_errs (mg_0 hm) rfl rfl (m_errs hm hP (by decide)) rfl rfl (Nat.le_of_ble_eq_true rfl) (Nat.le_of_ble_eq_true rfl) (fun h1 hq => ?_)
        obtain ⟨S1, rfl, hk1, hP1⟩ := hq
        have hk9 := hk1
        have hP9 : PI T N S1 (pHoF badS (.inr x)) := by rw [pHoF, if_pos ⟨c4, by rw [badS, decide_eq_true c22, Bool.true_or]⟩]; exact hP1
        refine wp_aload_0 dX10_readShut_41 rfl ?_
        refine wp_iconst 0 dX10_readShut_42 rfl rfl ?_
        refine wp_aload_0 dX10_readShut_43 rfl ?_
        refine wp_cvR dX10_readShut_44 rfl q2087 mv_X10_freshHoles (mg_0 hm) rfl rfl (m_freshHoles hm) rfl rfl (Nat.le_of_ble_eq_true rfl) (Nat.le_of_ble_eq_true rfl) ?_
        refine wp_iconst 1 dX10_readShut_47 rfl rfl ?_
        refine wp_isub dX10_readShut_48 rfl ?_
        refine wp_cvEi dX10_readShut_49 rfl q2052 mv_X10_number (mg_0 hm) rfl rfl (m_number hm hP9) rfl rfl (Nat.le_of_ble_eq_true rfl) (Nat.le_of_ble_eq_true rfl) (fun h1 hq => ?_)
        obtain ⟨S2, rfl, hk2, hP2⟩ := hq
        rw [pNu_hi (F := fun W => hoW W - 1) hP9 rfl] at hP2 ⊢
        have hP2 : PI T N S2 (pHo T N badS (.inr x)).2 := hP2
        change WP _ _ _ _ _ _ _ _ [.int (pHo T N badS (.inr x)).1] _ _ _ _
        have hsh : pShut T N (.inr x) = pShE (pHo T N badS (.inr x)).1 (pHo T N badS (.inr x)).2 := rfl
        generalize (pHo T N badS (.inr x)).1 = v9 at *
        generalize (pHo T N badS (.inr x)).2 = s9 at *
        rcases s9 with f9 | x9
        · refine wp_istore_1 dX10_readShut_52 rfl (by decide) rfl ?_
          refine wp_aload_0 dX10_readShut_53 rfl ?_
          refine wp_cvR dX10_readShut_54 rfl q2016 mv_X10_good (mg_0 hm) rfl rfl (m_good hm) rfl rfl (Nat.le_of_ble_eq_true rfl) (Nat.le_of_ble_eq_true rfl) ?_
          refine wp_ifeq_b 73 dX10_readShut_57 rfl rfl (fun c57 => ?_) (fun c57 => ?_)
          · exact wp_return dX10_readShut_73 rfl ⟨rfl, S2, rfl, hk9.tr hk2, by rw [hsh]; exact hP2⟩
          · exact absurd c57 (by rw [hP2.bad]; decide)
        · refine wp_istore_1 dX10_readShut_52 rfl (by decide) rfl ?_
          refine wp_aload_0 dX10_readShut_53 rfl ?_
          refine wp_cvR dX10_readShut_54 rfl q2016 mv_X10_good (mg_0 hm) rfl rfl (m_good hm) rfl rfl (Nat.le_of_ble_eq_true rfl) (Nat.le_of_ble_eq_true rfl) ?_
          refine wp_ifeq_b 73 dX10_readShut_57 rfl rfl (fun c57 => ?_) (fun c57 => ?_)
          · exact absurd c57 (by rw [hP2.ok]; decide)
          · refine wp_aload_0 dX10_readShut_60 rfl ?_
            refine wp_getf dX10_readShut_61 rfl q1845 fk10_14 (mg_0 hm) rfl ?_
            refine wp_bipush 7 dX10_readShut_64 rfl rfl ?_
            refine wp_dup2 dX10_readShut_66 rfl rfl rfl ?_
            refine wp_ialoadn 7 dX10_readShut_67 rfl (mg_6 hm) rfl (by decide) (by decide) ?_
            rw [hP2.fr]
            refine wp_iconst 1 dX10_readShut_68 rfl rfl ?_
            refine wp_iload_1 dX10_readShut_69 rfl ?_
            refine wp_ishl dX10_readShut_70 rfl ?_
            refine wp_ior dX10_readShut_71 rfl ?_
            refine wp_iastoren 7 dX10_readShut_72 rfl (mg_6 hm) rfl (by decide) (by decide) (ms_A6 hm) ?_
            exact wp_return dX10_readShut_73 rfl ⟨rfl, _, rfl, (hk9.tr hk2).s _ _, by rw [hsh]; exact hP2.st 7 _⟩
      · refine wp_aload_0 dX10_readShut_25 rfl ?_
        refine wp_aload_0 dX10_readShut_26 rfl ?_
        refine wp_getf dX10_readShut_27 rfl q1842 fk10_11 (mg_0 hm) rfl ?_
        rw [hP.ls.2.2.2 htk]
        refine wp_cvR dX10_readShut_30 rfl q2091 mv_X10_isFreshComing (mg_0 hm) rfl rfl (m_isFC hm hP.fr hs) rfl rfl (Nat.le_of_ble_eq_true rfl) (Nat.le_of_ble_eq_true rfl) ?_
        refine wp_ifeq_b 41 dX10_readShut_33 rfl rfl (fun c33 => ?_) (fun c33 => ?_)
        · have hk9 : KR S S := KR.rf S
          have c33 : isCo x.2 (lVa x.1) = false := c33
          have hP9 : PI T N S (pHoF badS (.inr x)) := by rw [pHoF, if_neg (fun q => by rw [badS, decide_eq_false c22, c33] at q; exact absurd q.2 (by decide))]; exact hP
          refine wp_aload_0 dX10_readShut_41 rfl ?_
          refine wp_iconst 0 dX10_readShut_42 rfl rfl ?_
          refine wp_aload_0 dX10_readShut_43 rfl ?_
          refine wp_cvR dX10_readShut_44 rfl q2087 mv_X10_freshHoles (mg_0 hm) rfl rfl (m_freshHoles hm) rfl rfl (Nat.le_of_ble_eq_true rfl) (Nat.le_of_ble_eq_true rfl) ?_
          refine wp_iconst 1 dX10_readShut_47 rfl rfl ?_
          refine wp_isub dX10_readShut_48 rfl ?_
          refine wp_cvEi dX10_readShut_49 rfl q2052 mv_X10_number (mg_0 hm) rfl rfl (m_number hm hP9) rfl rfl (Nat.le_of_ble_eq_true rfl) (Nat.le_of_ble_eq_true rfl) (fun h1 hq => ?_)
          obtain ⟨S2, rfl, hk2, hP2⟩ := hq
          rw [pNu_hi (F := fun W => hoW W - 1) hP9 rfl] at hP2 ⊢
          have hP2 : PI T N S2 (pHo T N badS (.inr x)).2 := hP2
          change WP _ _ _ _ _ _ _ _ [.int (pHo T N badS (.inr x)).1] _ _ _ _
          have hsh : pShut T N (.inr x) = pShE (pHo T N badS (.inr x)).1 (pHo T N badS (.inr x)).2 := rfl
          generalize (pHo T N badS (.inr x)).1 = v9 at *
          generalize (pHo T N badS (.inr x)).2 = s9 at *
          rcases s9 with f9 | x9
          · refine wp_istore_1 dX10_readShut_52 rfl (by decide) rfl ?_
            refine wp_aload_0 dX10_readShut_53 rfl ?_
            refine wp_cvR dX10_readShut_54 rfl q2016 mv_X10_good (mg_0 hm) rfl rfl (m_good hm) rfl rfl (Nat.le_of_ble_eq_true rfl) (Nat.le_of_ble_eq_true rfl) ?_
            refine wp_ifeq_b 73 dX10_readShut_57 rfl rfl (fun c57 => ?_) (fun c57 => ?_)
            · exact wp_return dX10_readShut_73 rfl ⟨rfl, S2, rfl, hk9.tr hk2, by rw [hsh]; exact hP2⟩
            · exact absurd c57 (by rw [hP2.bad]; decide)
          · refine wp_istore_1 dX10_readShut_52 rfl (by decide) rfl ?_
            refine wp_aload_0 dX10_readShut_53 rfl ?_
            refine wp_cvR dX10_readShut_54 rfl q2016 mv_X10_good (mg_0 hm) rfl rfl (m_good hm) rfl rfl (Nat.le_of_ble_eq_true rfl) (Nat.le_of_ble_eq_true rfl) ?_
            refine wp_ifeq_b 73 dX10_readShut_57 rfl rfl (fun c57 => ?_) (fun c57 => ?_)
            · exact absurd c57 (by rw [hP2.ok]; decide)
            · refine wp_aload_0 dX10_readShut_60 rfl ?_
              refine wp_getf dX10_readShut_61 rfl q1845 fk10_14 (mg_0 hm) rfl ?_
              refine wp_bipush 7 dX10_readShut_64 rfl rfl ?_
              refine wp_dup2 dX10_readShut_66 rfl rfl rfl ?_
              refine wp_ialoadn 7 dX10_readShut_67 rfl (mg_6 hm) rfl (by decide) (by decide) ?_
              rw [hP2.fr]
              refine wp_iconst 1 dX10_readShut_68 rfl rfl ?_
              refine wp_iload_1 dX10_readShut_69 rfl ?_
              refine wp_ishl dX10_readShut_70 rfl ?_
              refine wp_ior dX10_readShut_71 rfl ?_
              refine wp_iastoren 7 dX10_readShut_72 rfl (mg_6 hm) rfl (by decide) (by decide) (ms_A6 hm) ?_
              exact wp_return dX10_readShut_73 rfl ⟨rfl, _, rfl, (hk9.tr hk2).s _ _, by rw [hsh]; exact hP2.st 7 _⟩
        · refine wp_aload_0 dX10_readShut_36 rfl ?_
          refine wp_iconst 2 dX10_readShut_37 rfl rfl ?_
          refine wp_cvE dX10_readShut_38 rfl q2043 mv_X10_errs (mg_0 hm) rfl rfl (m_errs hm hP (by decide)) rfl rfl (Nat.le_of_ble_eq_true rfl) (Nat.le_of_ble_eq_true rfl) (fun h1 hq => ?_)
          obtain ⟨S1, rfl, hk1, hP1⟩ := hq
          have hk9 := hk1
          have c33 : isCo x.2 (lVa x.1) = true := c33
          have hP9 : PI T N S1 (pHoF badS (.inr x)) := by rw [pHoF, if_pos ⟨c4, by rw [badS, c33, Bool.or_true]⟩]; exact hP1
          refine wp_aload_0 dX10_readShut_41 rfl ?_
          refine wp_iconst 0 dX10_readShut_42 rfl rfl ?_
          refine wp_aload_0 dX10_readShut_43 rfl ?_
          refine wp_cvR dX10_readShut_44 rfl q2087 mv_X10_freshHoles (mg_0 hm) rfl rfl (m_freshHoles hm) rfl rfl (Nat.le_of_ble_eq_true rfl) (Nat.le_of_ble_eq_true rfl) ?_
          refine wp_iconst 1 dX10_readShut_47 rfl rfl ?_
          refine wp_isub dX10_readShut_48 rfl ?_
          refine wp_cvEi dX10_readShut_49 rfl q2052 mv_X10_number (mg_0 hm) rfl rfl (m_number hm hP9) rfl rfl (Nat.le_of_ble_eq_true rfl) (Nat.le_of_ble_eq_true rfl) (fun h1 hq => ?_)
          obtain ⟨S2, rfl, hk2, hP2⟩ := hq
          rw [pNu_hi (F := fun W => hoW W - 1) hP9 rfl] at hP2 ⊢
          have hP2 : PI T N S2 (pHo T N badS (.inr x)).2 := hP2
          change WP _ _ _ _ _ _ _ _ [.int (pHo T N badS (.inr x)).1] _ _ _ _
          have hsh : pShut T N (.inr x) = pShE (pHo T N badS (.inr x)).1 (pHo T N badS (.inr x)).2 := rfl
          generalize (pHo T N badS (.inr x)).1 = v9 at *
          generalize (pHo T N badS (.inr x)).2 = s9 at *
          rcases s9 with f9 | x9
          · refine wp_istore_1 dX10_readShut_52 rfl (by decide) rfl ?_
            refine wp_aload_0 dX10_readShut_53 rfl ?_
            refine wp_cvR dX10_readShut_54 rfl q2016 mv_X10_good (mg_0 hm) rfl rfl (m_good hm) rfl rfl (Nat.le_of_ble_eq_true rfl) (Nat.le_of_ble_eq_true rfl) ?_
            refine wp_ifeq_b 73 dX10_readShut_57 rfl rfl (fun c57 => ?_) (fun c57 => ?_)
            · exact wp_return dX10_readShut_73 rfl ⟨rfl, S2, rfl, hk9.tr hk2, by rw [hsh]; exact hP2⟩
            · exact absurd c57 (by rw [hP2.bad]; decide)
          · refine wp_istore_1 dX10_readShut_52 rfl (by decide) rfl ?_
            refine wp_aload_0 dX10_readShut_53 rfl ?_
            refine wp_cvR dX10_readShut_54 rfl q2016 mv_X10_good (mg_0 hm) rfl rfl (m_good hm) rfl rfl (Nat.le_of_ble_eq_true rfl) (Nat.le_of_ble_eq_true rfl) ?_
            refine wp_ifeq_b 73 dX10_readShut_57 rfl rfl (fun c57 => ?_) (fun c57 => ?_)
            · exact absurd c57 (by rw [hP2.ok]; decide)
            · refine wp_aload_0 dX10_readShut_60 rfl ?_
              refine wp_getf dX10_readShut_61 rfl q1845 fk10_14 (mg_0 hm) rfl ?_
              refine wp_bipush 7 dX10_readShut_64 rfl rfl ?_
              refine wp_dup2 dX10_readShut_66 rfl rfl rfl ?_
              refine wp_ialoadn 7 dX10_readShut_67 rfl (mg_6 hm) rfl (by decide) (by decide) ?_
              rw [hP2.fr]
              refine wp_iconst 1 dX10_readShut_68 rfl rfl ?_
              refine wp_iload_1 dX10_readShut_69 rfl ?_
              refine wp_ishl dX10_readShut_70 rfl ?_
              refine wp_ior dX10_readShut_71 rfl ?_
              refine wp_iastoren 7 dX10_readShut_72 rfl (mg_6 hm) rfl (by decide) (by decide) (ms_A6 hm) ?_
              exact wp_return dX10_readShut_73 rfl ⟨rfl, _, rfl, (hk9.tr hk2).s _ _, by rw [hsh]; exact hP2.st 7 _⟩
theorem pNu_W {T : Nat → Int32} {N : Nat} {lo hi : Int32} {s : PX} {y : LX × (Nat → Int32)} (h : (pNu T N lo hi s).2 = .inr y) : ∃ x, s = .inr x ∧ y.2 = x.2 := by
  cases s with
  | inl f => cases h
  | inr x =>
    refine ⟨x, rfl, ?_⟩
    unfold pNu at h
    dsimp only at h
    split at h
    · split at h
      · cases h; rfl
      · cases h
    · cases h
theorem pHoF_W {bad : LX → (Nat → Int32) → Bool} {s : PX} {y : LX × (Nat → Int32)} (h : pHoF bad s = .inr y) : s = .inr y := by
  cases s with
  | inl f => cases h
  | inr x =>
    unfold pHoF at h
    dsimp only at h
    split at h
    · cases h
    · exact h
theorem pHo_W {T : Nat → Int32} {N : Nat} {bad : LX → (Nat → Int32) → Bool} {s : PX} {y : LX × (Nat → Int32)} (h : (pHo T N bad s).2 = .inr y) : ∃ x, s = .inr x ∧ y.2 = x.2 := by
  obtain ⟨x, h1, h2⟩ := pNu_W h
  exact ⟨x, pHoF_W h1, h2⟩
theorem pSec_W {T : Nat → Int32} {N : Nat} {tw : Bool} {a : Int32} {s : PX} {y : LX × (Nat → Int32)} (h : (pSec T N tw a s).2 = .inr y) : ∃ x, s = .inr x ∧ y.2 = x.2 := by
  unfold pSec at h
  split at h
  · exact pHo_W h
  · exact ⟨y, h, rfl⟩
theorem PI.com {T : Nat → Int32} {N : Nat} {S : SM} {y : LX × (Nat → Int32)} (h : PI T N S (.inr y)) {q : Nat} (hq : nW y.2 5 = q) (a b r : Int32) : PI T N (sA 6 5 ((sA 6 (24 + 3 * q + 2) r (sA 6 (24 + 3 * q + 1) b (sA 6 (24 + 3 * q) a S))).2.1 6 5 + 1) (sA 6 (24 + 3 * q + 2) r (sA 6 (24 + 3 * q + 1) b (sA 6 (24 + 3 * q) a S)))) (pCoE a b r (.inr y)) := by
  have h1 := (((h.st (24 + 3 * q) a).st (24 + 3 * q + 1) b).st (24 + 3 * q + 2) r).inc 5
  subst hq
  have e : ∀ j, j = 24 + 3 * nW y.2 5 ∨ j = 24 + 3 * nW y.2 5 + 1 ∨ j = 24 + 3 * nW y.2 5 + 2 → ¬ 5 = j := by omega
  have h2 : pIn 5 (pSt (24 + 3 * nW y.2 5 + 2) r (pSt (24 + 3 * nW y.2 5 + 1) b (pSt (24 + 3 * nW y.2 5) a (.inr y)))) = pCoE a b r (.inr y) := by
    show (Sum.inr _ : PX) = Sum.inr _
    refine congrArg Sum.inr (Prod.ext rfl ?_)
    show upd (upd (upd (upd y.2 (24 + 3 * nW y.2 5) a) (24 + 3 * nW y.2 5 + 1) b) (24 + 3 * nW y.2 5 + 2) r) 5 (upd (upd (upd y.2 (24 + 3 * nW y.2 5) a) (24 + 3 * nW y.2 5 + 1) b) (24 + 3 * nW y.2 5 + 2) r 5 + 1) = upd (upd (upd (upd y.2 (24 + 3 * nW y.2 5) a) (24 + 3 * nW y.2 5 + 1) b) (24 + 3 * nW y.2 5 + 2) r) 5 (y.2 5 + 1)
    rw [pk_un (e _ (by simp)), pk_un (e _ (by simp)), pk_un (e _ (by simp))]
  rw [h2] at h1
  exact h1
theorem m_readComing {g : GW} {M : Nat} {pre post : AH} {S : SM} (hm : pre.length = M) {T : Nat → Int32} {N : Nat} {x : LX × (Nat → Int32)} {red tw : Bool} (hP : PI T N S (.inr x)) (hs : WFs x.2) (hlt : nW x.2 5 < 24) : SP g 6 0 0 yX10_readComing cX10_readComing 6 none [.ref M, .int (b2i red), .int (b2i tw)] (mH M pre S post) (fun v h1 => v = none ∧ ∃ S', h1 = mH M pre S' post ∧ KR S S' ∧ PI T N S' (pCom T N red tw (.inr x))) := by
  refine SP.intro [some (.ref M), some (.int (b2i red)), some (.int (b2i tw)), none, none, none] (pfn (by decide)) rfl (Nat.le_of_ble_eq_true rfl) ?_
  refine wp_bipush 24 dX10_readComing_0 rfl rfl ?_
  refine wp_iconst 3 dX10_readComing_2 rfl rfl ?_
  refine wp_aload_0 dX10_readComing_3 rfl ?_
  refine wp_getf dX10_readComing_4 rfl q1845 fk10_14 (mg_0 hm) rfl ?_
  refine wp_iconst 5 dX10_readComing_7 rfl rfl ?_
  refine wp_ialoadn 5 dX10_readComing_8 rfl (mg_6 hm) rfl (by decide) (by decide) ?_
  rw [show S.2.1 6 5 = nI (nW x.2 5) by rw [hP.fr]; exact hs.nc.1]
  refine wp_imul dX10_readComing_9 rfl ?_
  refine wp_iadd dX10_readComing_10 rfl ?_
  rw [show (24 : Int32) + 3 * nI (nW x.2 5) = nI (24 + 3 * nW x.2 5) by simp only [nI_lit, pk_mul, nI_add]]
  refine wp_istore_3 dX10_readComing_11 rfl (by decide) rfl ?_
  refine wp_aload_0 dX10_readComing_12 rfl ?_
  refine wp_iconst (-1) dX10_readComing_13 rfl rfl ?_
  refine wp_cvEi dX10_readComing_14 rfl q2099 mv_X10_readHole (mg_0 hm) rfl rfl (m_readHole hm hP) rfl rfl (Nat.le_of_ble_eq_true rfl) (Nat.le_of_ble_eq_true rfl) (fun h1 hq => ?_)
  obtain ⟨S1, rfl, hk1, hP1⟩ := hq
  have hcm : pCom T N red tw (.inr x) = pCoE (pHo T N (badO (-1)) (.inr x)).1 (pSec T N tw (pHo T N (badO (-1)) (.inr x)).1 (pHo T N (badO (-1)) (.inr x)).2).1 (b2i red) (pSec T N tw (pHo T N (badO (-1)) (.inr x)).1 (pHo T N (badO (-1)) (.inr x)).2).2 := rfl
  have hW1 : ∀ y, (pHo T N (badO (-1)) (.inr x)).2 = .inr y → y.2 = x.2 := fun y hy => by obtain ⟨x1, h1, h2⟩ := pHo_W hy; cases h1; exact h2
  generalize (pHo T N (badO (-1)) (.inr x)).1 = a9 at *
  generalize (pHo T N (badO (-1)) (.inr x)).2 = s9 at *
  refine wp_istore_4 dX10_readComing_17 rfl (by decide) rfl ?_
  refine wp_iload_2 dX10_readComing_19 rfl ?_
  refine wp_ifeq_b 32 dX10_readComing_20 rfl rfl (fun c20 => ?_) (fun c20 => ?_)
  · have c20 : tw = false := c20
    subst c20
    refine wp_iconst (-1) dX10_readComing_32 rfl rfl ?_
    refine wp_istore_5 dX10_readComing_33 rfl (by decide) rfl ?_
    have hb9 : (pSec T N false a9 s9) = (-1, s9) := rfl
    have hk2 : KR S1 S1 := KR.rf S1
    have hP2 := hP1
    rw [hb9] at hcm
    have hW2 := hW1
    generalize (-1 : Int32) = b9 at *
    rcases s9 with f9 | y9
    · refine wp_aload_0 dX10_readComing_35 rfl ?_
      refine wp_cvR dX10_readComing_36 rfl q2016 mv_X10_good (mg_0 hm) rfl rfl (m_good hm) rfl rfl (Nat.le_of_ble_eq_true rfl) (Nat.le_of_ble_eq_true rfl) ?_
      refine wp_ifne_b 43 dX10_readComing_39 rfl rfl (fun c39 => ?_) (fun c39 => ?_)
      · exact absurd c39 (by rw [hP2.bad]; decide)
      · exact wp_return dX10_readComing_42 rfl ⟨rfl, S1, rfl, hk1.tr hk2, by rw [hcm]; exact hP2⟩
    · have hlt : nW x.2 5 < 24 := hlt
      refine wp_aload_0 dX10_readComing_35 rfl ?_
      refine wp_cvR dX10_readComing_36 rfl q2016 mv_X10_good (mg_0 hm) rfl rfl (m_good hm) rfl rfl (Nat.le_of_ble_eq_true rfl) (Nat.le_of_ble_eq_true rfl) ?_
      refine wp_ifne_b 43 dX10_readComing_39 rfl rfl (fun c39 => ?_) (fun c39 => ?_)
      · refine wp_aload_0 dX10_readComing_43 rfl ?_
        refine wp_getf dX10_readComing_44 rfl q1845 fk10_14 (mg_0 hm) rfl ?_
        refine wp_iload_3 dX10_readComing_47 rfl ?_
        refine wp_iconst 0 dX10_readComing_48 rfl rfl ?_
        refine wp_iadd dX10_readComing_49 rfl ?_
        refine wp_iload_4 dX10_readComing_50 rfl ?_
        refine wp_iastoren (24 + 3 * nW x.2 5) dX10_readComing_52 rfl (mg_6 hm) (by first | rfl | (simp only [nI_lit, nI_add]; try rfl)) (by have := hs.nc.2; omega) (by decide) (ms_A6 hm) ?_
        refine wp_aload_0 dX10_readComing_53 rfl ?_
        refine wp_getf dX10_readComing_54 rfl q1845 fk10_14 (mg_0 hm) rfl ?_
        refine wp_iload_3 dX10_readComing_57 rfl ?_
        refine wp_iconst 1 dX10_readComing_58 rfl rfl ?_
        refine wp_iadd dX10_readComing_59 rfl ?_
        refine wp_iload_5 dX10_readComing_60 rfl ?_
        refine wp_iastoren (24 + 3 * nW x.2 5 + 1) dX10_readComing_62 rfl (mg_6 hm) (by first | rfl | (simp only [nI_lit, nI_add]; try rfl)) (by have := hs.nc.2; omega) (by decide) (ms_A6 hm) ?_
        refine wp_aload_0 dX10_readComing_63 rfl ?_
        refine wp_getf dX10_readComing_64 rfl q1845 fk10_14 (mg_0 hm) rfl ?_
        refine wp_iload_3 dX10_readComing_67 rfl ?_
        refine wp_iconst 2 dX10_readComing_68 rfl rfl ?_
        refine wp_iadd dX10_readComing_69 rfl ?_
        refine wp_iload_1 dX10_readComing_70 rfl ?_
        refine wp_ifeq_b 78 dX10_readComing_71 rfl rfl (fun c71 => ?_) (fun c71 => ?_)
        · have c71 : red = false := c71
          subst c71
          refine wp_iconst 0 dX10_readComing_78 rfl rfl ?_
          refine wp_iastoren (24 + 3 * nW x.2 5 + 2) dX10_readComing_79 rfl (mg_6 hm) (by first | rfl | (simp only [nI_lit, nI_add]; try rfl)) (by have := hs.nc.2; omega) (by decide) (ms_A6 hm) ?_
          refine wp_aload_0 dX10_readComing_80 rfl ?_
          refine wp_getf dX10_readComing_81 rfl q1845 fk10_14 (mg_0 hm) rfl ?_
          refine wp_iconst 5 dX10_readComing_84 rfl rfl ?_
          refine wp_dup2 dX10_readComing_85 rfl rfl rfl ?_
          refine wp_ialoadn 5 dX10_readComing_86 rfl (mg_6 hm) rfl (by decide) (by decide) ?_
          refine wp_iconst 1 dX10_readComing_87 rfl rfl ?_
          refine wp_iadd dX10_readComing_88 rfl ?_
          refine wp_iastoren 5 dX10_readComing_89 rfl (mg_6 hm) rfl (by decide) (by decide) (ms_A6 hm) ?_
          exact wp_return dX10_readComing_90 rfl ⟨rfl, _, rfl, ((((hk1.tr hk2).s _ _).s _ _).s _ _).s _ _, by rw [hcm]; exact hP2.com (by rw [hW2 _ rfl]) a9 b9 _⟩
        · have c71 : red = true := c71
          subst c71
          refine wp_iconst 1 dX10_readComing_74 rfl rfl ?_
          refine wp_goto 79 dX10_readComing_75 rfl rfl ?_
          refine wp_iastoren (24 + 3 * nW x.2 5 + 2) dX10_readComing_79 rfl (mg_6 hm) (by first | rfl | (simp only [nI_lit, nI_add]; try rfl)) (by have := hs.nc.2; omega) (by decide) (ms_A6 hm) ?_
          refine wp_aload_0 dX10_readComing_80 rfl ?_
          refine wp_getf dX10_readComing_81 rfl q1845 fk10_14 (mg_0 hm) rfl ?_
          refine wp_iconst 5 dX10_readComing_84 rfl rfl ?_
          refine wp_dup2 dX10_readComing_85 rfl rfl rfl ?_
          refine wp_ialoadn 5 dX10_readComing_86 rfl (mg_6 hm) rfl (by decide) (by decide) ?_
          refine wp_iconst 1 dX10_readComing_87 rfl rfl ?_
          refine wp_iadd dX10_readComing_88 rfl ?_
          refine wp_iastoren 5 dX10_readComing_89 rfl (mg_6 hm) rfl (by decide) (by decide) (ms_A6 hm) ?_
          exact wp_return dX10_readComing_90 rfl ⟨rfl, _, rfl, ((((hk1.tr hk2).s _ _).s _ _).s _ _).s _ _, by rw [hcm]; exact hP2.com (by rw [hW2 _ rfl]) a9 b9 _⟩
      · exact absurd c39 (by rw [hP2.ok]; decide)
  · have c20 : tw = true := c20
    subst c20
    refine wp_aload_0 dX10_readComing_23 rfl ?_
    refine wp_iload_4 dX10_readComing_24 rfl ?_
    refine wp_cvEi dX10_readComing_26 rfl q2099 mv_X10_readHole (mg_0 hm) rfl rfl (m_readHole hm hP1) rfl rfl (Nat.le_of_ble_eq_true rfl) (Nat.le_of_ble_eq_true rfl) (fun h1 hq => ?_)
    obtain ⟨S2, rfl, hk2, hP2⟩ := hq
    refine wp_goto 33 dX10_readComing_29 rfl rfl ?_
    refine wp_istore_5 dX10_readComing_33 rfl (by decide) rfl ?_
    have hb9 : (pSec T N true a9 s9) = pHo T N (badO a9) s9 := rfl
    rw [hb9] at hcm
    have hW2 : ∀ y, (pHo T N (badO a9) s9).2 = .inr y → y.2 = x.2 := fun y hy => by obtain ⟨x1, h1, h2⟩ := pHo_W hy; exact h2.trans (hW1 x1 h1)
    generalize (pHo T N (badO a9) s9).1 = b9 at *
    generalize (pHo T N (badO a9) s9).2 = t9 at *
    rcases t9 with f9 | y9
    · refine wp_aload_0 dX10_readComing_35 rfl ?_
      refine wp_cvR dX10_readComing_36 rfl q2016 mv_X10_good (mg_0 hm) rfl rfl (m_good hm) rfl rfl (Nat.le_of_ble_eq_true rfl) (Nat.le_of_ble_eq_true rfl) ?_
      refine wp_ifne_b 43 dX10_readComing_39 rfl rfl (fun c39 => ?_) (fun c39 => ?_)
      · exact absurd c39 (by rw [hP2.bad]; decide)
      · exact wp_return dX10_readComing_42 rfl ⟨rfl, S2, rfl, hk1.tr hk2, by rw [hcm]; exact hP2⟩
    · have hlt : nW x.2 5 < 24 := hlt
      refine wp_aload_0 dX10_readComing_35 rfl ?_
      refine wp_cvR dX10_readComing_36 rfl q2016 mv_X10_good (mg_0 hm) rfl rfl (m_good hm) rfl rfl (Nat.le_of_ble_eq_true rfl) (Nat.le_of_ble_eq_true rfl) ?_
      refine wp_ifne_b 43 dX10_readComing_39 rfl rfl (fun c39 => ?_) (fun c39 => ?_)
      · refine wp_aload_0 dX10_readComing_43 rfl ?_
        refine wp_getf dX10_readComing_44 rfl q1845 fk10_14 (mg_0 hm) rfl ?_
        refine wp_iload_3 dX10_readComing_47 rfl ?_
        refine wp_iconst 0 dX10_readComing_48 rfl rfl ?_
        refine wp_iadd dX10_readComing_49 rfl ?_
        refine wp_iload_4 dX10_readComing_50 rfl ?_
        refine wp_iastoren (24 + 3 * nW x.2 5) dX10_readComing_52 rfl (mg_6 hm) (by first | rfl | (simp only [nI_lit, nI_add]; try rfl)) (by have := hs.nc.2; omega) (by decide) (ms_A6 hm) ?_
        refine wp_aload_0 dX10_readComing_53 rfl ?_
        refine wp_getf dX10_readComing_54 rfl q1845 fk10_14 (mg_0 hm) rfl ?_
        refine wp_iload_3 dX10_readComing_57 rfl ?_
        refine wp_iconst 1 dX10_readComing_58 rfl rfl ?_
        refine wp_iadd dX10_readComing_59 rfl ?_
        refine wp_iload_5 dX10_readComing_60 rfl ?_
        refine wp_iastoren (24 + 3 * nW x.2 5 + 1) dX10_readComing_62 rfl (mg_6 hm) (by first | rfl | (simp only [nI_lit, nI_add]; try rfl)) (by have := hs.nc.2; omega) (by decide) (ms_A6 hm) ?_
        refine wp_aload_0 dX10_readComing_63 rfl ?_
        refine wp_getf dX10_readComing_64 rfl q1845 fk10_14 (mg_0 hm) rfl ?_
        refine wp_iload_3 dX10_readComing_67 rfl ?_
        refine wp_iconst 2 dX10_readComing_68 rfl rfl ?_
        refine wp_iadd dX10_readComing_69 rfl ?_
        refine wp_iload_1 dX10_readComing_70 rfl ?_
        refine wp_ifeq_b 78 dX10_readComing_71 rfl rfl (fun c71 => ?_) (fun c71 => ?_)
        · have c71 : red = false := c71
          subst c71
          refine wp_iconst 0 dX10_readComing_78 rfl rfl ?_
          refine wp_iastoren (24 + 3 * nW x.2 5 + 2) dX10_readComing_79 rfl (mg_6 hm) (by first | rfl | (simp only [nI_lit, nI_add]; try rfl)) (by have := hs.nc.2; omega) (by decide) (ms_A6 hm) ?_
          refine wp_aload_0 dX10_readComing_80 rfl ?_
          refine wp_getf dX10_readComing_81 rfl q1845 fk10_14 (mg_0 hm) rfl ?_
          refine wp_iconst 5 dX10_readComing_84 rfl rfl ?_
          refine wp_dup2 dX10_readComing_85 rfl rfl rfl ?_
          refine wp_ialoadn 5 dX10_readComing_86 rfl (mg_6 hm) rfl (by decide) (by decide) ?_
          refine wp_iconst 1 dX10_readComing_87 rfl rfl ?_
          refine wp_iadd dX10_readComing_88 rfl ?_
          refine wp_iastoren 5 dX10_readComing_89 rfl (mg_6 hm) rfl (by decide) (by decide) (ms_A6 hm) ?_
          exact wp_return dX10_readComing_90 rfl ⟨rfl, _, rfl, ((((hk1.tr hk2).s _ _).s _ _).s _ _).s _ _, by rw [hcm]; exact hP2.com (by rw [hW2 _ rfl]) a9 b9 _⟩
        · have c71 : red = true := c71
          subst c71
          refine wp_iconst 1 dX10_readComing_74 rfl rfl ?_
          refine wp_goto 79 dX10_readComing_75 rfl rfl ?_
          refine wp_iastoren (24 + 3 * nW x.2 5 + 2) dX10_readComing_79 rfl (mg_6 hm) (by first | rfl | (simp only [nI_lit, nI_add]; try rfl)) (by have := hs.nc.2; omega) (by decide) (ms_A6 hm) ?_
          refine wp_aload_0 dX10_readComing_80 rfl ?_
          refine wp_getf dX10_readComing_81 rfl q1845 fk10_14 (mg_0 hm) rfl ?_
          refine wp_iconst 5 dX10_readComing_84 rfl rfl ?_
          refine wp_dup2 dX10_readComing_85 rfl rfl rfl ?_
          refine wp_ialoadn 5 dX10_readComing_86 rfl (mg_6 hm) rfl (by decide) (by decide) ?_
          refine wp_iconst 1 dX10_readComing_87 rfl rfl ?_
          refine wp_iadd dX10_readComing_88 rfl ?_
          refine wp_iastoren 5 dX10_readComing_89 rfl (mg_6 hm) rfl (by decide) (by decide) (ms_A6 hm) ?_
          exact wp_return dX10_readComing_90 rfl ⟨rfl, _, rfl, ((((hk1.tr hk2).s _ _).s _ _).s _ _).s _ _, by rw [hcm]; exact hP2.com (by rw [hW2 _ rfl]) a9 b9 _⟩
      · exact absurd c39 (by rw [hP2.ok]; decide)
theorem pNe_W {T : Nat → Int32} {N w : Nat} {lo hi : Int32} {x y : LX × (Nat → Int32)} (h : pNe T N w (pNu T N lo hi (.inr x)).2 = .inr y) : y.2 = x.2 := by
  cases hs : (pNu T N lo hi (.inr x)).2 with
  | inl f => rw [hs] at h; cases h
  | inr z =>
    obtain ⟨x1, h1, h2⟩ := pNu_W hs
    cases h1
    rw [hs] at h
    unfold pNe at h
    dsimp only at h
    split at h
    · cases h; exact h2
    · cases h
theorem onI_n {k : Option Nat} (h : onI k = -1) (hb : ∀ j, k = some j → j < 1000) : k = none := by
  cases k with
  | none => rfl
  | some j => exact absurd h (nI_n1 (by have := hb j rfl; omega))
theorem frI_lt {W : Nat → Int32} {t : Int32} : ∀ (k i : Nat) (j : Nat), frI W t k i = some j → j < i + k := by
  intro k
  induction k with
  | zero => intro i j h; cases h
  | succ k ih =>
    intro i j h
    unfold frI at h
    split at h
    · cases h; omega
    · have := ih (i + 1) j h
      omega
theorem frS_lt {W : Nat → Int32} {t : Int32} {j : Nat} (h : frS W t = some j) : j < nW W 4 := by
  have := frI_lt _ _ _ h
  omega
theorem stU_s {W : Nat → Int32} {t m : Int32} {k : Nat} (h : frS W t = some k) : stU W t m = upd (upd W (12 + 2 * k) t) (12 + 2 * k + 1) m := by rw [stU, h]
theorem stU_n {W : Nat → Int32} {t m : Int32} (h : frS W t = none) : stU W t m = upd (upd (upd W 4 (W 4 + 1)) (12 + 2 * nW W 4) t) (12 + 2 * nW W 4 + 1) m := by rw [stU, h]
theorem lt_of_pred {x : Int32} {k : Nat} (hk : k < 2147483648) (h : inI x 0 (nI k - 1) = true) : x < nI k := by
  obtain ⟨j, hj, rfl⟩ := in_of hk h
  exact nI_lt hj hk
theorem pStF_W {T : Nat → Int32} {N : Nat} {y z : LX × (Nat → Int32)} (hs : WFs y.2) (h : (pNu T N 0 (pOf (fun W => W 2 - 1) (pStF (.inr y))) (pStF (.inr y))).2 = .inr z) : z.2 = y.2 ∧ (y.2 4 = 6 → ¬ frS z.2 (pNu T N 0 (pOf (fun W => W 2 - 1) (pStF (.inr y))) (pStF (.inr y))).1 = none) := by
  by_cases hc : lTk y.1 = 2 ∧ lVa y.1 < y.2 2 ∧ y.2 4 = 6 ∧ frS y.2 (lVa y.1) = none
  · have e : pStF (.inr y) = .inl (3, nI (lFr y.1)) := if_pos hc
    rw [e] at h
    cases h
  · have e : pStF (.inr y) = .inr y := if_neg hc
    rw [e] at h ⊢
    have e2 : pOf (fun W => W 2 - 1) (.inr y) = y.2 2 - 1 := rfl
    rw [e2] at h ⊢
    by_cases ht : lTk y.1 = 2
    · by_cases hb : inI (lVa y.1) 0 (y.2 2 - 1) = true
      · have hp : pNu T N 0 (y.2 2 - 1) (.inr y) = (lVa y.1, pGo T N y.1 y.2) := by unfold pNu; dsimp only; rw [if_pos ht, if_pos hb]
        rw [hp] at h ⊢
        cases h
        exact ⟨rfl, fun h6 hf => hc ⟨ht, by rw [hs.tk.1] at hb ⊢; exact lt_of_pred (by have := hs.tk.2; omega) hb, h6, hf⟩⟩
      · have hp : pNu T N 0 (y.2 2 - 1) (.inr y) = (0, .inl (2, nI (lFr y.1))) := by unfold pNu; dsimp only; rw [if_pos ht, if_neg hb]
        rw [hp] at h
        cases h
    · have hp : pNu T N 0 (y.2 2 - 1) (.inr y) = (0, .inl (1, nI (lFr y.1))) := by unfold pNu; dsimp only; rw [if_neg ht]
      rw [hp] at h
      cases h
theorem m_readStay {g : GW} {M : Nat} {pre post : AH} {S : SM} (hm : pre.length = M) {T : Nat → Int32} {N : Nat} {x : LX × (Nat → Int32)} (hP : PI T N S (.inr x)) (hs : WFs x.2) : SP g 8 0 0 yX10_readStay cX10_readStay 5 none [.ref M] (mH M pre S post) (fun v h1 => v = none ∧ ∃ S', h1 = mH M pre S' post ∧ KR S S' ∧ PI T N S' (pStay T N (.inr x))) := by
  refine SP.intro [some (.ref M), none, none, none, none] (pfn (by decide)) rfl (Nat.le_of_ble_eq_true rfl) ?_
  refine wp_aload_0 dX10_readStay_0 rfl ?_
  refine wp_iconst 1 dX10_readStay_1 rfl rfl ?_
  refine wp_bipush 40 dX10_readStay_2 rfl rfl ?_
  refine wp_cvEi dX10_readStay_4 rfl q2052 mv_X10_number (mg_0 hm) rfl rfl (m_number hm hP) rfl rfl (Nat.le_of_ble_eq_true rfl) (Nat.le_of_ble_eq_true rfl) (fun h1 hq => ?_)
  obtain ⟨S1, rfl, hk1, hP1⟩ := hq
  refine wp_istore_1 dX10_readStay_7 rfl (by decide) rfl ?_
  refine wp_aload_0 dX10_readStay_8 rfl ?_
  refine wp_ldcS (w := 2) dX10_readStay_9 rfl (List.mem_of_getElem? (i := 24) rfl) ?_
  refine wp_cvE dX10_readStay_11 rfl q2029 mv_X10_needs (mg_0 hm) rfl rfl (m_needs hm hP1 (by decide)) rfl rfl (Nat.le_of_ble_eq_true rfl) (Nat.le_of_ble_eq_true rfl) (fun h1 hq => ?_)
  obtain ⟨S2, rfl, hk2, hP2⟩ := hq
  have hky := hk1.tr hk2
  have hst : pStay T N (.inr x) = pStE (pNu T N 0 (pOf (fun W => W 2 - 1) (pStF (pNe T N 2 (pNu T N 1 40 (.inr x)).2))) (pStF (pNe T N 2 (pNu T N 1 40 (.inr x)).2))).1 (pNu T N 1 40 (.inr x)).1 (pNu T N 0 (pOf (fun W => W 2 - 1) (pStF (pNe T N 2 (pNu T N 1 40 (.inr x)).2))) (pStF (pNe T N 2 (pNu T N 1 40 (.inr x)).2))).2 := rfl
  have hW2 : ∀ y, pNe T N 2 (pNu T N 1 40 (.inr x)).2 = .inr y → y.2 = x.2 := fun y hy => pNe_W hy
  generalize (pNu T N 1 40 (.inr x)).1 = m9 at *
  generalize pNe T N 2 (pNu T N 1 40 (.inr x)).2 = s9 at *
  rcases s9 with f9 | y9
  · refine wp_aload_0 dX10_readStay_14 rfl ?_
    refine wp_cvR dX10_readStay_15 rfl q2016 mv_X10_good (mg_0 hm) rfl rfl (m_good hm) rfl rfl (Nat.le_of_ble_eq_true rfl) (Nat.le_of_ble_eq_true rfl) ?_
    refine wp_ifeq_b 46 dX10_readStay_18 rfl rfl (fun c18 => ?_) (fun c18 => ?_)
    · refine wp_iconst 0 dX10_readStay_46 rfl rfl ?_
      refine wp_istore_2 dX10_readStay_47 rfl (by decide) rfl ?_
      refine wp_iload_2 dX10_readStay_48 rfl ?_
      refine wp_if_eq 80 dX10_readStay_49 rfl rfl (fun c49 => ?_) (fun c49 => ?_)
      · refine wp_aload_0 dX10_readStay_80 rfl ?_
        refine wp_iconst 0 dX10_readStay_81 rfl rfl ?_
        refine wp_aload_0 dX10_readStay_82 rfl ?_
        refine wp_getf dX10_readStay_83 rfl q1845 fk10_14 (mg_0 hm) rfl ?_
        refine wp_iconst 2 dX10_readStay_86 rfl rfl ?_
        refine wp_ialoadn 2 dX10_readStay_87 rfl (mg_6 hm) rfl (by decide) (by decide) ?_
        refine wp_iconst 1 dX10_readStay_88 rfl rfl ?_
        refine wp_isub dX10_readStay_89 rfl ?_
        refine wp_cvEi dX10_readStay_90 rfl q2052 mv_X10_number (mg_0 hm) rfl rfl (m_number hm hP2) rfl rfl (Nat.le_of_ble_eq_true rfl) (Nat.le_of_ble_eq_true rfl) (fun h1 hq => ?_)
        obtain ⟨S3, rfl, hk3, hP3⟩ := hq
        refine wp_istore_3 dX10_readStay_93 rfl (by decide) rfl ?_
        refine wp_aload_0 dX10_readStay_94 rfl ?_
        refine wp_cvR dX10_readStay_95 rfl q2016 mv_X10_good (mg_0 hm) rfl rfl (m_good hm) rfl rfl (Nat.le_of_ble_eq_true rfl) (Nat.le_of_ble_eq_true rfl) ?_
        refine wp_ifne_b 102 dX10_readStay_98 rfl rfl (fun c98 => ?_) (fun c98 => ?_)
        · exact absurd c98 (by rw [(show PI T N S3 (.inl f9) from hP3).bad]; decide)
        · exact wp_return dX10_readStay_101 rfl ⟨rfl, S3, rfl, hky.tr hk3, by rw [hst]; exact hP3⟩
      · exact absurd (by decide) c49
    · exact absurd c18 (by rw [hP2.bad]; decide)
  · have e2 := hW2 y9 rfl
    have hs2 : WFs y9.2 := by rw [e2]; exact hs
    refine wp_aload_0 dX10_readStay_14 rfl ?_
    refine wp_cvR dX10_readStay_15 rfl q2016 mv_X10_good (mg_0 hm) rfl rfl (m_good hm) rfl rfl (Nat.le_of_ble_eq_true rfl) (Nat.le_of_ble_eq_true rfl) ?_
    refine wp_ifeq_b 46 dX10_readStay_18 rfl rfl (fun c18 => ?_) (fun c18 => ?_)
    · exact absurd c18 (by rw [hP2.ok]; decide)
    · refine wp_aload_0 dX10_readStay_21 rfl ?_
      refine wp_getf dX10_readStay_22 rfl q1841 fk10_10 (mg_0 hm) rfl ?_
      rw [hP2.ls.2.2.1]
      refine wp_iconst 2 dX10_readStay_25 rfl rfl ?_
      refine wp_icmp_ne_k 46 dX10_readStay_26 rfl rfl (b := 2) (by have := hP2.bd; omega) (by omega) (fun c26 => ?_) (fun c26 => ?_)
      · refine wp_iconst 0 dX10_readStay_46 rfl rfl ?_
        refine wp_istore_2 dX10_readStay_47 rfl (by decide) rfl ?_
        refine wp_iload_2 dX10_readStay_48 rfl ?_
        refine wp_if_eq 80 dX10_readStay_49 rfl rfl (fun c49 => ?_) (fun c49 => ?_)
        · have hkz := hky
          have hP3 : PI T N S2 (pStF (.inr y9)) := by rw [pStF, if_neg (fun q => c26 q.1)]; exact hP2
          refine wp_aload_0 dX10_readStay_80 rfl ?_
          refine wp_iconst 0 dX10_readStay_81 rfl rfl ?_
          refine wp_aload_0 dX10_readStay_82 rfl ?_
          refine wp_getf dX10_readStay_83 rfl q1845 fk10_14 (mg_0 hm) rfl ?_
          refine wp_iconst 2 dX10_readStay_86 rfl rfl ?_
          refine wp_ialoadn 2 dX10_readStay_87 rfl (mg_6 hm) rfl (by decide) (by decide) ?_
          refine wp_iconst 1 dX10_readStay_88 rfl rfl ?_
          refine wp_isub dX10_readStay_89 rfl ?_
          refine wp_cvEi dX10_readStay_90 rfl q2052 mv_X10_number (mg_0 hm) rfl rfl (m_number hm hP3) rfl rfl (Nat.le_of_ble_eq_true rfl) (Nat.le_of_ble_eq_true rfl) (fun h1 hq => ?_)
          obtain ⟨S4, rfl, hk4, hP4⟩ := hq
          rw [pNu_hi (F := fun W => W 2 - 1) hP3 rfl] at hP4 ⊢
          have hW4 : ∀ z, (pNu T N 0 (pOf (fun W => W 2 - 1) (pStF (.inr y9))) (pStF (.inr y9))).2 = .inr z → z.2 = y9.2 ∧ (y9.2 4 = 6 → ¬ frS z.2 (pNu T N 0 (pOf (fun W => W 2 - 1) (pStF (.inr y9))) (pStF (.inr y9))).1 = none) := fun z hz => pStF_W hs2 hz
          generalize (pNu T N 0 (pOf (fun W => W 2 - 1) (pStF (.inr y9))) (pStF (.inr y9))).1 = t9 at *
          generalize (pNu T N 0 (pOf (fun W => W 2 - 1) (pStF (.inr y9))) (pStF (.inr y9))).2 = u9 at *
          refine wp_istore_3 dX10_readStay_93 rfl (by decide) rfl ?_
          rcases u9 with g9 | z9
          · refine wp_aload_0 dX10_readStay_94 rfl ?_
            refine wp_cvR dX10_readStay_95 rfl q2016 mv_X10_good (mg_0 hm) rfl rfl (m_good hm) rfl rfl (Nat.le_of_ble_eq_true rfl) (Nat.le_of_ble_eq_true rfl) ?_
            refine wp_ifne_b 102 dX10_readStay_98 rfl rfl (fun c98 => ?_) (fun c98 => ?_)
            · exact absurd c98 (by rw [hP4.bad]; decide)
            · exact wp_return dX10_readStay_101 rfl ⟨rfl, S4, rfl, hkz.tr hk4, by rw [hst]; exact hP4⟩
          · obtain ⟨ez, ezn⟩ := hW4 z9 rfl
            have hs4 : WFs z9.2 := by rw [ez]; exact hs2
            have h4b := hs4.ns.2
            rcases hfn : frS z9.2 t9 with _ | k9
            · have h46 : ¬ z9.2 4 = 6 := fun q => ezn (by rw [← ez]; exact q) hfn
              have h4l : nW z9.2 4 < 6 := by
                have := hs4.ns.2
                exact Nat.lt_of_le_of_ne this (fun q => h46 (by rw [hs4.ns.1, q]; rfl))
              refine wp_aload_0 dX10_readStay_94 rfl ?_
              refine wp_cvR dX10_readStay_95 rfl q2016 mv_X10_good (mg_0 hm) rfl rfl (m_good hm) rfl rfl (Nat.le_of_ble_eq_true rfl) (Nat.le_of_ble_eq_true rfl) ?_
              refine wp_ifne_b 102 dX10_readStay_98 rfl rfl (fun c98 => ?_) (fun c98 => ?_)
              · refine wp_aload_0 dX10_readStay_102 rfl ?_
                refine wp_iload_3 dX10_readStay_103 rfl ?_
                refine wp_cvR dX10_readStay_104 rfl q2075 mv_X10_freshStay (mg_0 hm) rfl rfl (m_freshStay hm hP4.fr hs4) rfl rfl (Nat.le_of_ble_eq_true rfl) (Nat.le_of_ble_eq_true rfl) ?_
                rw [hfn]
                have e9 : onI none = -1 := rfl
                refine wp_istore_4 dX10_readStay_107 rfl (by decide) rfl ?_
                refine wp_iload_4 dX10_readStay_109 rfl ?_
                refine wp_iconst (-1) dX10_readStay_111 rfl rfl ?_
                refine wp_icmp_ne 133 dX10_readStay_112 rfl rfl (fun c112 => ?_) (fun c112 => ?_)
                · exact absurd e9 c112
                · refine wp_aload_0 dX10_readStay_115 rfl ?_
                  refine wp_getf dX10_readStay_116 rfl q1845 fk10_14 (mg_0 hm) rfl ?_
                  refine wp_iconst 4 dX10_readStay_119 rfl rfl ?_
                  refine wp_ialoadn 4 dX10_readStay_120 rfl (mg_6 hm) rfl (by decide) (by decide) ?_
                  rw [show S4.2.1 6 4 = nI (nW z9.2 4) by rw [hP4.fr]; exact hs4.ns.1]
                  refine wp_istore_4 dX10_readStay_121 rfl (by decide) rfl ?_
                  refine wp_aload_0 dX10_readStay_123 rfl ?_
                  refine wp_getf dX10_readStay_124 rfl q1845 fk10_14 (mg_0 hm) rfl ?_
                  refine wp_iconst 4 dX10_readStay_127 rfl rfl ?_
                  refine wp_dup2 dX10_readStay_128 rfl rfl rfl ?_
                  refine wp_ialoadn 4 dX10_readStay_129 rfl (mg_6 hm) rfl (by decide) (by decide) ?_
                  refine wp_iconst 1 dX10_readStay_130 rfl rfl ?_
                  refine wp_iadd dX10_readStay_131 rfl ?_
                  refine wp_iastoren 4 dX10_readStay_132 rfl (mg_6 hm) rfl (by decide) (by decide) (ms_A6 hm) ?_
                  refine wp_aload_0 dX10_readStay_133 rfl ?_
                  refine wp_getf dX10_readStay_134 rfl q1845 fk10_14 (mg_0 hm) rfl ?_
                  refine wp_bipush 12 dX10_readStay_137 rfl rfl ?_
                  refine wp_iconst 2 dX10_readStay_139 rfl rfl ?_
                  refine wp_iload_4 dX10_readStay_140 rfl ?_
                  refine wp_imul dX10_readStay_142 rfl ?_
                  refine wp_iadd dX10_readStay_143 rfl ?_
                  refine wp_iload_3 dX10_readStay_144 rfl ?_
                  refine wp_iastoren (12 + 2 * nW z9.2 4) dX10_readStay_145 rfl (mg_6 hm) (by simp only [nI_lit, pk_mul, nI_add]; try rfl) (by have := hs4.ns.2; omega) (by decide) (ms_A6 hm) ?_
                  refine wp_aload_0 dX10_readStay_146 rfl ?_
                  refine wp_getf dX10_readStay_147 rfl q1845 fk10_14 (mg_0 hm) rfl ?_
                  refine wp_bipush 12 dX10_readStay_150 rfl rfl ?_
                  refine wp_iconst 2 dX10_readStay_152 rfl rfl ?_
                  refine wp_iload_4 dX10_readStay_153 rfl ?_
                  refine wp_imul dX10_readStay_155 rfl ?_
                  refine wp_iadd dX10_readStay_156 rfl ?_
                  refine wp_iconst 1 dX10_readStay_157 rfl rfl ?_
                  refine wp_iadd dX10_readStay_158 rfl ?_
                  refine wp_iload_1 dX10_readStay_159 rfl ?_
                  refine wp_iastoren (12 + 2 * nW z9.2 4 + 1) dX10_readStay_160 rfl (mg_6 hm) (by simp only [nI_lit, pk_mul, nI_add]; try rfl) (by have := hs4.ns.2; omega) (by decide) (ms_A6 hm) ?_
                  exact wp_return dX10_readStay_161 rfl ⟨rfl, _, rfl, (((hkz.tr hk4).s _ _).s _ _).s _ _, by rw [hst]; have q := ((hP4.inc 4).st (12 + 2 * nW z9.2 4) t9).st (12 + 2 * nW z9.2 4 + 1) m9; rw [show pStE t9 m9 (.inr z9) = pSt (12 + 2 * nW z9.2 4 + 1) m9 (pSt (12 + 2 * nW z9.2 4) t9 (pIn 4 (.inr z9))) from congrArg (fun u => Sum.inr (z9.1, u)) (stU_n hfn)]; exact q⟩
              · exact absurd c98 (by rw [hP4.ok]; decide)
            · have hk9l := frS_lt hfn
              refine wp_aload_0 dX10_readStay_94 rfl ?_
              refine wp_cvR dX10_readStay_95 rfl q2016 mv_X10_good (mg_0 hm) rfl rfl (m_good hm) rfl rfl (Nat.le_of_ble_eq_true rfl) (Nat.le_of_ble_eq_true rfl) ?_
              refine wp_ifne_b 102 dX10_readStay_98 rfl rfl (fun c98 => ?_) (fun c98 => ?_)
              · refine wp_aload_0 dX10_readStay_102 rfl ?_
                refine wp_iload_3 dX10_readStay_103 rfl ?_
                refine wp_cvR dX10_readStay_104 rfl q2075 mv_X10_freshStay (mg_0 hm) rfl rfl (m_freshStay hm hP4.fr hs4) rfl rfl (Nat.le_of_ble_eq_true rfl) (Nat.le_of_ble_eq_true rfl) ?_
                rw [hfn, show onI (some k9) = nI k9 from rfl]
                refine wp_istore_4 dX10_readStay_107 rfl (by decide) rfl ?_
                refine wp_iload_4 dX10_readStay_109 rfl ?_
                refine wp_iconst (-1) dX10_readStay_111 rfl rfl ?_
                refine wp_icmp_ne 133 dX10_readStay_112 rfl rfl (fun c112 => ?_) (fun c112 => ?_)
                · refine wp_aload_0 dX10_readStay_133 rfl ?_
                  refine wp_getf dX10_readStay_134 rfl q1845 fk10_14 (mg_0 hm) rfl ?_
                  refine wp_bipush 12 dX10_readStay_137 rfl rfl ?_
                  refine wp_iconst 2 dX10_readStay_139 rfl rfl ?_
                  refine wp_iload_4 dX10_readStay_140 rfl ?_
                  refine wp_imul dX10_readStay_142 rfl ?_
                  refine wp_iadd dX10_readStay_143 rfl ?_
                  refine wp_iload_3 dX10_readStay_144 rfl ?_
                  refine wp_iastoren (12 + 2 * k9) dX10_readStay_145 rfl (mg_6 hm) (by simp only [nI_lit, pk_mul, nI_add]; try rfl) (by have := hs4.ns.2; omega) (by decide) (ms_A6 hm) ?_
                  refine wp_aload_0 dX10_readStay_146 rfl ?_
                  refine wp_getf dX10_readStay_147 rfl q1845 fk10_14 (mg_0 hm) rfl ?_
                  refine wp_bipush 12 dX10_readStay_150 rfl rfl ?_
                  refine wp_iconst 2 dX10_readStay_152 rfl rfl ?_
                  refine wp_iload_4 dX10_readStay_153 rfl ?_
                  refine wp_imul dX10_readStay_155 rfl ?_
                  refine wp_iadd dX10_readStay_156 rfl ?_
                  refine wp_iconst 1 dX10_readStay_157 rfl rfl ?_
                  refine wp_iadd dX10_readStay_158 rfl ?_
                  refine wp_iload_1 dX10_readStay_159 rfl ?_
                  refine wp_iastoren (12 + 2 * k9 + 1) dX10_readStay_160 rfl (mg_6 hm) (by simp only [nI_lit, pk_mul, nI_add]; try rfl) (by have := hs4.ns.2; omega) (by decide) (ms_A6 hm) ?_
                  exact wp_return dX10_readStay_161 rfl ⟨rfl, _, rfl, ((hkz.tr hk4).s _ _).s _ _, by rw [hst]; have q := (hP4.st (12 + 2 * k9) t9).st (12 + 2 * k9 + 1) m9; rw [show pStE t9 m9 (.inr z9) = pSt (12 + 2 * k9 + 1) m9 (pSt (12 + 2 * k9) t9 (.inr z9)) from congrArg (fun u => Sum.inr (z9.1, u)) (stU_s hfn)]; exact q⟩
                · exact absurd c112 (nI_n1 (by have := hs4.ns.2; omega))
              · exact absurd c98 (by rw [hP4.ok]; decide)
        · exact absurd (by decide) c49
      · refine wp_aload_0 dX10_readStay_29 rfl ?_
        refine wp_getf dX10_readStay_30 rfl q1842 fk10_11 (mg_0 hm) rfl ?_
        rw [hP2.ls.2.2.2 c26]
        refine wp_aload_0 dX10_readStay_33 rfl ?_
        refine wp_getf dX10_readStay_34 rfl q1845 fk10_14 (mg_0 hm) rfl ?_
        refine wp_iconst 2 dX10_readStay_37 rfl rfl ?_
        refine wp_ialoadn 2 dX10_readStay_38 rfl (mg_6 hm) rfl (by decide) (by decide) ?_
        rw [hP2.fr]
        refine wp_icmp_ge 46 dX10_readStay_39 rfl rfl (fun c39 => ?_) (fun c39 => ?_)
        · refine wp_iconst 0 dX10_readStay_46 rfl rfl ?_
          refine wp_istore_2 dX10_readStay_47 rfl (by decide) rfl ?_
          refine wp_iload_2 dX10_readStay_48 rfl ?_
          refine wp_if_eq 80 dX10_readStay_49 rfl rfl (fun c49 => ?_) (fun c49 => ?_)
          · have hkz := hky
            have hP3 : PI T N S2 (pStF (.inr y9)) := by rw [pStF, if_neg (fun q => absurd q.2.1 (Int32.not_lt.mpr c39))]; exact hP2
            refine wp_aload_0 dX10_readStay_80 rfl ?_
            refine wp_iconst 0 dX10_readStay_81 rfl rfl ?_
            refine wp_aload_0 dX10_readStay_82 rfl ?_
            refine wp_getf dX10_readStay_83 rfl q1845 fk10_14 (mg_0 hm) rfl ?_
            refine wp_iconst 2 dX10_readStay_86 rfl rfl ?_
            refine wp_ialoadn 2 dX10_readStay_87 rfl (mg_6 hm) rfl (by decide) (by decide) ?_
            refine wp_iconst 1 dX10_readStay_88 rfl rfl ?_
            refine wp_isub dX10_readStay_89 rfl ?_
            refine wp_cvEi dX10_readStay_90 rfl q2052 mv_X10_number (mg_0 hm) rfl rfl (m_number hm hP3) rfl rfl (Nat.le_of_ble_eq_true rfl) (Nat.le_of_ble_eq_true rfl) (fun h1 hq => ?_)
            obtain ⟨S4, rfl, hk4, hP4⟩ := hq
            rw [pNu_hi (F := fun W => W 2 - 1) hP3 rfl] at hP4 ⊢
            have hW4 : ∀ z, (pNu T N 0 (pOf (fun W => W 2 - 1) (pStF (.inr y9))) (pStF (.inr y9))).2 = .inr z → z.2 = y9.2 ∧ (y9.2 4 = 6 → ¬ frS z.2 (pNu T N 0 (pOf (fun W => W 2 - 1) (pStF (.inr y9))) (pStF (.inr y9))).1 = none) := fun z hz => pStF_W hs2 hz
            generalize (pNu T N 0 (pOf (fun W => W 2 - 1) (pStF (.inr y9))) (pStF (.inr y9))).1 = t9 at *
            generalize (pNu T N 0 (pOf (fun W => W 2 - 1) (pStF (.inr y9))) (pStF (.inr y9))).2 = u9 at *
            refine wp_istore_3 dX10_readStay_93 rfl (by decide) rfl ?_
            rcases u9 with g9 | z9
            · refine wp_aload_0 dX10_readStay_94 rfl ?_
              refine wp_cvR dX10_readStay_95 rfl q2016 mv_X10_good (mg_0 hm) rfl rfl (m_good hm) rfl rfl (Nat.le_of_ble_eq_true rfl) (Nat.le_of_ble_eq_true rfl) ?_
              refine wp_ifne_b 102 dX10_readStay_98 rfl rfl (fun c98 => ?_) (fun c98 => ?_)
              · exact absurd c98 (by rw [hP4.bad]; decide)
              · exact wp_return dX10_readStay_101 rfl ⟨rfl, S4, rfl, hkz.tr hk4, by rw [hst]; exact hP4⟩
            · obtain ⟨ez, ezn⟩ := hW4 z9 rfl
              have hs4 : WFs z9.2 := by rw [ez]; exact hs2
              have h4b := hs4.ns.2
              rcases hfn : frS z9.2 t9 with _ | k9
              · have h46 : ¬ z9.2 4 = 6 := fun q => ezn (by rw [← ez]; exact q) hfn
                have h4l : nW z9.2 4 < 6 := by
                  have := hs4.ns.2
                  exact Nat.lt_of_le_of_ne this (fun q => h46 (by rw [hs4.ns.1, q]; rfl))
                refine wp_aload_0 dX10_readStay_94 rfl ?_
                refine wp_cvR dX10_readStay_95 rfl q2016 mv_X10_good (mg_0 hm) rfl rfl (m_good hm) rfl rfl (Nat.le_of_ble_eq_true rfl) (Nat.le_of_ble_eq_true rfl) ?_
                refine wp_ifne_b 102 dX10_readStay_98 rfl rfl (fun c98 => ?_) (fun c98 => ?_)
                · refine wp_aload_0 dX10_readStay_102 rfl ?_
                  refine wp_iload_3 dX10_readStay_103 rfl ?_
                  refine wp_cvR dX10_readStay_104 rfl q2075 mv_X10_freshStay (mg_0 hm) rfl rfl (m_freshStay hm hP4.fr hs4) rfl rfl (Nat.le_of_ble_eq_true rfl) (Nat.le_of_ble_eq_true rfl) ?_
                  rw [hfn]
                  have e9 : onI none = -1 := rfl
                  refine wp_istore_4 dX10_readStay_107 rfl (by decide) rfl ?_
                  refine wp_iload_4 dX10_readStay_109 rfl ?_
                  refine wp_iconst (-1) dX10_readStay_111 rfl rfl ?_
                  refine wp_icmp_ne 133 dX10_readStay_112 rfl rfl (fun c112 => ?_) (fun c112 => ?_)
                  · exact absurd e9 c112
                  · refine wp_aload_0 dX10_readStay_115 rfl ?_
                    refine wp_getf dX10_readStay_116 rfl q1845 fk10_14 (mg_0 hm) rfl ?_
                    refine wp_iconst 4 dX10_readStay_119 rfl rfl ?_
                    refine wp_ialoadn 4 dX10_readStay_120 rfl (mg_6 hm) rfl (by decide) (by decide) ?_
                    rw [show S4.2.1 6 4 = nI (nW z9.2 4) by rw [hP4.fr]; exact hs4.ns.1]
                    refine wp_istore_4 dX10_readStay_121 rfl (by decide) rfl ?_
                    refine wp_aload_0 dX10_readStay_123 rfl ?_
                    refine wp_getf dX10_readStay_124 rfl q1845 fk10_14 (mg_0 hm) rfl ?_
                    refine wp_iconst 4 dX10_readStay_127 rfl rfl ?_
                    refine wp_dup2 dX10_readStay_128 rfl rfl rfl ?_
                    refine wp_ialoadn 4 dX10_readStay_129 rfl (mg_6 hm) rfl (by decide) (by decide) ?_
                    refine wp_iconst 1 dX10_readStay_130 rfl rfl ?_
                    refine wp_iadd dX10_readStay_131 rfl ?_
                    refine wp_iastoren 4 dX10_readStay_132 rfl (mg_6 hm) rfl (by decide) (by decide) (ms_A6 hm) ?_
                    refine wp_aload_0 dX10_readStay_133 rfl ?_
                    refine wp_getf dX10_readStay_134 rfl q1845 fk10_14 (mg_0 hm) rfl ?_
                    refine wp_bipush 12 dX10_readStay_137 rfl rfl ?_
                    refine wp_iconst 2 dX10_readStay_139 rfl rfl ?_
                    refine wp_iload_4 dX10_readStay_140 rfl ?_
                    refine wp_imul dX10_readStay_142 rfl ?_
                    refine wp_iadd dX10_readStay_143 rfl ?_
                    refine wp_iload_3 dX10_readStay_144 rfl ?_
                    refine wp_iastoren (12 + 2 * nW z9.2 4) dX10_readStay_145 rfl (mg_6 hm) (by simp only [nI_lit, pk_mul, nI_add]; try rfl) (by have := hs4.ns.2; omega) (by decide) (ms_A6 hm) ?_
                    refine wp_aload_0 dX10_readStay_146 rfl ?_
                    refine wp_getf dX10_readStay_147 rfl q1845 fk10_14 (mg_0 hm) rfl ?_
                    refine wp_bipush 12 dX10_readStay_150 rfl rfl ?_
                    refine wp_iconst 2 dX10_readStay_152 rfl rfl ?_
                    refine wp_iload_4 dX10_readStay_153 rfl ?_
                    refine wp_imul dX10_readStay_155 rfl ?_
                    refine wp_iadd dX10_readStay_156 rfl ?_
                    refine wp_iconst 1 dX10_readStay_157 rfl rfl ?_
                    refine wp_iadd dX10_readStay_158 rfl ?_
                    refine wp_iload_1 dX10_readStay_159 rfl ?_
                    refine wp_iastoren (12 + 2 * nW z9.2 4 + 1) dX10_readStay_160 rfl (mg_6 hm) (by simp only [nI_lit, pk_mul, nI_add]; try rfl) (by have := hs4.ns.2; omega) (by decide) (ms_A6 hm) ?_
                    exact wp_return dX10_readStay_161 rfl ⟨rfl, _, rfl, (((hkz.tr hk4).s _ _).s _ _).s _ _, by rw [hst]; have q := ((hP4.inc 4).st (12 + 2 * nW z9.2 4) t9).st (12 + 2 * nW z9.2 4 + 1) m9; rw [show pStE t9 m9 (.inr z9) = pSt (12 + 2 * nW z9.2 4 + 1) m9 (pSt (12 + 2 * nW z9.2 4) t9 (pIn 4 (.inr z9))) from congrArg (fun u => Sum.inr (z9.1, u)) (stU_n hfn)]; exact q⟩
                · exact absurd c98 (by rw [hP4.ok]; decide)
              · have hk9l := frS_lt hfn
                refine wp_aload_0 dX10_readStay_94 rfl ?_
                refine wp_cvR dX10_readStay_95 rfl q2016 mv_X10_good (mg_0 hm) rfl rfl (m_good hm) rfl rfl (Nat.le_of_ble_eq_true rfl) (Nat.le_of_ble_eq_true rfl) ?_
                refine wp_ifne_b 102 dX10_readStay_98 rfl rfl (fun c98 => ?_) (fun c98 => ?_)
                · refine wp_aload_0 dX10_readStay_102 rfl ?_
                  refine wp_iload_3 dX10_readStay_103 rfl ?_
                  refine wp_cvR dX10_readStay_104 rfl q2075 mv_X10_freshStay (mg_0 hm) rfl rfl (m_freshStay hm hP4.fr hs4) rfl rfl (Nat.le_of_ble_eq_true rfl) (Nat.le_of_ble_eq_true rfl) ?_
                  rw [hfn, show onI (some k9) = nI k9 from rfl]
                  refine wp_istore_4 dX10_readStay_107 rfl (by decide) rfl ?_
                  refine wp_iload_4 dX10_readStay_109 rfl ?_
                  refine wp_iconst (-1) dX10_readStay_111 rfl rfl ?_
                  refine wp_icmp_ne 133 dX10_readStay_112 rfl rfl (fun c112 => ?_) (fun c112 => ?_)
                  · refine wp_aload_0 dX10_readStay_133 rfl ?_
                    refine wp_getf dX10_readStay_134 rfl q1845 fk10_14 (mg_0 hm) rfl ?_
                    refine wp_bipush 12 dX10_readStay_137 rfl rfl ?_
                    refine wp_iconst 2 dX10_readStay_139 rfl rfl ?_
                    refine wp_iload_4 dX10_readStay_140 rfl ?_
                    refine wp_imul dX10_readStay_142 rfl ?_
                    refine wp_iadd dX10_readStay_143 rfl ?_
                    refine wp_iload_3 dX10_readStay_144 rfl ?_
                    refine wp_iastoren (12 + 2 * k9) dX10_readStay_145 rfl (mg_6 hm) (by simp only [nI_lit, pk_mul, nI_add]; try rfl) (by have := hs4.ns.2; omega) (by decide) (ms_A6 hm) ?_
                    refine wp_aload_0 dX10_readStay_146 rfl ?_
                    refine wp_getf dX10_readStay_147 rfl q1845 fk10_14 (mg_0 hm) rfl ?_
                    refine wp_bipush 12 dX10_readStay_150 rfl rfl ?_
                    refine wp_iconst 2 dX10_readStay_152 rfl rfl ?_
                    refine wp_iload_4 dX10_readStay_153 rfl ?_
                    refine wp_imul dX10_readStay_155 rfl ?_
                    refine wp_iadd dX10_readStay_156 rfl ?_
                    refine wp_iconst 1 dX10_readStay_157 rfl rfl ?_
                    refine wp_iadd dX10_readStay_158 rfl ?_
                    refine wp_iload_1 dX10_readStay_159 rfl ?_
                    refine wp_iastoren (12 + 2 * k9 + 1) dX10_readStay_160 rfl (mg_6 hm) (by simp only [nI_lit, pk_mul, nI_add]; try rfl) (by have := hs4.ns.2; omega) (by decide) (ms_A6 hm) ?_
                    exact wp_return dX10_readStay_161 rfl ⟨rfl, _, rfl, ((hkz.tr hk4).s _ _).s _ _, by rw [hst]; have q := (hP4.st (12 + 2 * k9) t9).st (12 + 2 * k9 + 1) m9; rw [show pStE t9 m9 (.inr z9) = pSt (12 + 2 * k9 + 1) m9 (pSt (12 + 2 * k9) t9 (.inr z9)) from congrArg (fun u => Sum.inr (z9.1, u)) (stU_s hfn)]; exact q⟩
                  · exact absurd c112 (nI_n1 (by have := hs4.ns.2; omega))
                · exact absurd c98 (by rw [hP4.ok]; decide)
          · exact absurd (by decide) c49
        · refine wp_iconst 1 dX10_readStay_42 rfl rfl ?_
          refine wp_goto 47 dX10_readStay_43 rfl rfl ?_
          refine wp_istore_2 dX10_readStay_47 rfl (by decide) rfl ?_
          refine wp_iload_2 dX10_readStay_48 rfl ?_
          refine wp_if_eq 80 dX10_readStay_49 rfl rfl (fun c49 => ?_) (fun c49 => ?_)
          · exact absurd c49 (by decide)
          · refine wp_aload_0 dX10_readStay_52 rfl ?_
            refine wp_getf dX10_readStay_53 rfl q1845 fk10_14 (mg_0 hm) rfl ?_
            refine wp_iconst 4 dX10_readStay_56 rfl rfl ?_
            refine wp_ialoadn 4 dX10_readStay_57 rfl (mg_6 hm) rfl (by decide) (by decide) ?_
            rw [hP2.fr]
            refine wp_bipush 6 dX10_readStay_58 rfl rfl ?_
            refine wp_icmp_ne 80 dX10_readStay_60 rfl rfl (fun c60 => ?_) (fun c60 => ?_)
            · have hkz := hky
              have hP3 : PI T N S2 (pStF (.inr y9)) := by rw [pStF, if_neg (fun q => c60 q.2.2.1)]; exact hP2
              refine wp_aload_0 dX10_readStay_80 rfl ?_
              refine wp_iconst 0 dX10_readStay_81 rfl rfl ?_
              refine wp_aload_0 dX10_readStay_82 rfl ?_
              refine wp_getf dX10_readStay_83 rfl q1845 fk10_14 (mg_0 hm) rfl ?_
              refine wp_iconst 2 dX10_readStay_86 rfl rfl ?_
              refine wp_ialoadn 2 dX10_readStay_87 rfl (mg_6 hm) rfl (by decide) (by decide) ?_
              refine wp_iconst 1 dX10_readStay_88 rfl rfl ?_
              refine wp_isub dX10_readStay_89 rfl ?_
              refine wp_cvEi dX10_readStay_90 rfl q2052 mv_X10_number (mg_0 hm) rfl rfl (m_number hm hP3) rfl rfl (Nat.le_of_ble_eq_true rfl) (Nat.le_of_ble_eq_true rfl) (fun h1 hq => ?_)
              obtain ⟨S4, rfl, hk4, hP4⟩ := hq
              rw [pNu_hi (F := fun W => W 2 - 1) hP3 rfl] at hP4 ⊢
              have hW4 : ∀ z, (pNu T N 0 (pOf (fun W => W 2 - 1) (pStF (.inr y9))) (pStF (.inr y9))).2 = .inr z → z.2 = y9.2 ∧ (y9.2 4 = 6 → ¬ frS z.2 (pNu T N 0 (pOf (fun W => W 2 - 1) (pStF (.inr y9))) (pStF (.inr y9))).1 = none) := fun z hz => pStF_W hs2 hz
              generalize (pNu T N 0 (pOf (fun W => W 2 - 1) (pStF (.inr y9))) (pStF (.inr y9))).1 = t9 at *
              generalize (pNu T N 0 (pOf (fun W => W 2 - 1) (pStF (.inr y9))) (pStF (.inr y9))).2 = u9 at *
              refine wp_istore_3 dX10_readStay_93 rfl (by decide) rfl ?_
              rcases u9 with g9 | z9
              · refine wp_aload_0 dX10_readStay_94 rfl ?_
                refine wp_cvR dX10_readStay_95 rfl q2016 mv_X10_good (mg_0 hm) rfl rfl (m_good hm) rfl rfl (Nat.le_of_ble_eq_true rfl) (Nat.le_of_ble_eq_true rfl) ?_
                refine wp_ifne_b 102 dX10_readStay_98 rfl rfl (fun c98 => ?_) (fun c98 => ?_)
                · exact absurd c98 (by rw [hP4.bad]; decide)
                · exact wp_return dX10_readStay_101 rfl ⟨rfl, S4, rfl, hkz.tr hk4, by rw [hst]; exact hP4⟩
              · obtain ⟨ez, ezn⟩ := hW4 z9 rfl
                have hs4 : WFs z9.2 := by rw [ez]; exact hs2
                have h4b := hs4.ns.2
                rcases hfn : frS z9.2 t9 with _ | k9
                · have h46 : ¬ z9.2 4 = 6 := fun q => ezn (by rw [← ez]; exact q) hfn
                  have h4l : nW z9.2 4 < 6 := by
                    have := hs4.ns.2
                    exact Nat.lt_of_le_of_ne this (fun q => h46 (by rw [hs4.ns.1, q]; rfl))
                  refine wp_aload_0 dX10_readStay_94 rfl ?_
                  refine wp_cvR dX10_readStay_95 rfl q2016 mv_X10_good (mg_0 hm) rfl rfl (m_good hm) rfl rfl (Nat.le_of_ble_eq_true rfl) (Nat.le_of_ble_eq_true rfl) ?_
                  refine wp_ifne_b 102 dX10_readStay_98 rfl rfl (fun c98 => ?_) (fun c98 => ?_)
                  · refine wp_aload_0 dX10_readStay_102 rfl ?_
                    refine wp_iload_3 dX10_readStay_103 rfl ?_
                    refine wp_cvR dX10_readStay_104 rfl q2075 mv_X10_freshStay (mg_0 hm) rfl rfl (m_freshStay hm hP4.fr hs4) rfl rfl (Nat.le_of_ble_eq_true rfl) (Nat.le_of_ble_eq_true rfl) ?_
                    rw [hfn]
                    have e9 : onI none = -1 := rfl
                    refine wp_istore_4 dX10_readStay_107 rfl (by decide) rfl ?_
                    refine wp_iload_4 dX10_readStay_109 rfl ?_
                    refine wp_iconst (-1) dX10_readStay_111 rfl rfl ?_
                    refine wp_icmp_ne 133 dX10_readStay_112 rfl rfl (fun c112 => ?_) (fun c112 => ?_)
                    · exact absurd e9 c112
                    · refine wp_aload_0 dX10_readStay_115 rfl ?_
                      refine wp_getf dX10_readStay_116 rfl q1845 fk10_14 (mg_0 hm) rfl ?_
                      refine wp_iconst 4 dX10_readStay_119 rfl rfl ?_
                      refine wp_ialoadn 4 dX10_readStay_120 rfl (mg_6 hm) rfl (by decide) (by decide) ?_
                      rw [show S4.2.1 6 4 = nI (nW z9.2 4) by rw [hP4.fr]; exact hs4.ns.1]
                      refine wp_istore_4 dX10_readStay_121 rfl (by decide) rfl ?_
                      refine wp_aload_0 dX10_readStay_123 rfl ?_
                      refine wp_getf dX10_readStay_124 rfl q1845 fk10_14 (mg_0 hm) rfl ?_
                      refine wp_iconst 4 dX10_readStay_127 rfl rfl ?_
                      refine wp_dup2 dX10_readStay_128 rfl rfl rfl ?_
                      refine wp_ialoadn 4 dX10_readStay_129 rfl (mg_6 hm) rfl (by decide) (by decide) ?_
                      refine wp_iconst 1 dX10_readStay_130 rfl rfl ?_
                      refine wp_iadd dX10_readStay_131 rfl ?_
                      refine wp_iastoren 4 dX10_readStay_132 rfl (mg_6 hm) rfl (by decide) (by decide) (ms_A6 hm) ?_
                      refine wp_aload_0 dX10_readStay_133 rfl ?_
                      refine wp_getf dX10_readStay_134 rfl q1845 fk10_14 (mg_0 hm) rfl ?_
                      refine wp_bipush 12 dX10_readStay_137 rfl rfl ?_
                      refine wp_iconst 2 dX10_readStay_139 rfl rfl ?_
                      refine wp_iload_4 dX10_readStay_140 rfl ?_
                      refine wp_imul dX10_readStay_142 rfl ?_
                      refine wp_iadd dX10_readStay_143 rfl ?_
                      refine wp_iload_3 dX10_readStay_144 rfl ?_
                      refine wp_iastoren (12 + 2 * nW z9.2 4) dX10_readStay_145 rfl (mg_6 hm) (by simp only [nI_lit, pk_mul, nI_add]; try rfl) (by have := hs4.ns.2; omega) (by decide) (ms_A6 hm) ?_
                      refine wp_aload_0 dX10_readStay_146 rfl ?_
                      refine wp_getf dX10_readStay_147 rfl q1845 fk10_14 (mg_0 hm) rfl ?_
                      refine wp_bipush 12 dX10_readStay_150 rfl rfl ?_
                      refine wp_iconst 2 dX10_readStay_152 rfl rfl ?_
                      refine wp_iload_4 dX10_readStay_153 rfl ?_
                      refine wp_imul dX10_readStay_155 rfl ?_
                      refine wp_iadd dX10_readStay_156 rfl ?_
                      refine wp_iconst 1 dX10_readStay_157 rfl rfl ?_
                      refine wp_iadd dX10_readStay_158 rfl ?_
                      refine wp_iload_1 dX10_readStay_159 rfl ?_
                      refine wp_iastoren (12 + 2 * nW z9.2 4 + 1) dX10_readStay_160 rfl (mg_6 hm) (by simp only [nI_lit, pk_mul, nI_add]; try rfl) (by have := hs4.ns.2; omega) (by decide) (ms_A6 hm) ?_
                      exact wp_return dX10_readStay_161 rfl ⟨rfl, _, rfl, (((hkz.tr hk4).s _ _).s _ _).s _ _, by rw [hst]; have q := ((hP4.inc 4).st (12 + 2 * nW z9.2 4) t9).st (12 + 2 * nW z9.2 4 + 1) m9; rw [show pStE t9 m9 (.inr z9) = pSt (12 + 2 * nW z9.2 4 + 1) m9 (pSt (12 + 2 * nW z9.2 4) t9 (pIn 4 (.inr z9))) from congrArg (fun u => Sum.inr (z9.1, u)) (stU_n hfn)]; exact q⟩
                  · exact absurd c98 (by rw [hP4.ok]; decide)
                · have hk9l := frS_lt hfn
                  refine wp_aload_0 dX10_readStay_94 rfl ?_
                  refine wp_cvR dX10_readStay_95 rfl q2016 mv_X10_good (mg_0 hm) rfl rfl (m_good hm) rfl rfl (Nat.le_of_ble_eq_true rfl) (Nat.le_of_ble_eq_true rfl) ?_
                  refine wp_ifne_b 102 dX10_readStay_98 rfl rfl (fun c98 => ?_) (fun c98 => ?_)
                  · refine wp_aload_0 dX10_readStay_102 rfl ?_
                    refine wp_iload_3 dX10_readStay_103 rfl ?_
                    refine wp_cvR dX10_readStay_104 rfl q2075 mv_X10_freshStay (mg_0 hm) rfl rfl (m_freshStay hm hP4.fr hs4) rfl rfl (Nat.le_of_ble_eq_true rfl) (Nat.le_of_ble_eq_true rfl) ?_
                    rw [hfn, show onI (some k9) = nI k9 from rfl]
                    refine wp_istore_4 dX10_readStay_107 rfl (by decide) rfl ?_
                    refine wp_iload_4 dX10_readStay_109 rfl ?_
                    refine wp_iconst (-1) dX10_readStay_111 rfl rfl ?_
                    refine wp_icmp_ne 133 dX10_readStay_112 rfl rfl (fun c112 => ?_) (fun c112 => ?_)
                    · refine wp_aload_0 dX10_readStay_133 rfl ?_
                      refine wp_getf dX10_readStay_134 rfl q1845 fk10_14 (mg_0 hm) rfl ?_
                      refine wp_bipush 12 dX10_readStay_137 rfl rfl ?_
                      refine wp_iconst 2 dX10_readStay_139 rfl rfl ?_
                      refine wp_iload_4 dX10_readStay_140 rfl ?_
                      refine wp_imul dX10_readStay_142 rfl ?_
                      refine wp_iadd dX10_readStay_143 rfl ?_
                      refine wp_iload_3 dX10_readStay_144 rfl ?_
                      refine wp_iastoren (12 + 2 * k9) dX10_readStay_145 rfl (mg_6 hm) (by simp only [nI_lit, pk_mul, nI_add]; try rfl) (by have := hs4.ns.2; omega) (by decide) (ms_A6 hm) ?_
                      refine wp_aload_0 dX10_readStay_146 rfl ?_
                      refine wp_getf dX10_readStay_147 rfl q1845 fk10_14 (mg_0 hm) rfl ?_
                      refine wp_bipush 12 dX10_readStay_150 rfl rfl ?_
                      refine wp_iconst 2 dX10_readStay_152 rfl rfl ?_
                      refine wp_iload_4 dX10_readStay_153 rfl ?_
                      refine wp_imul dX10_readStay_155 rfl ?_
                      refine wp_iadd dX10_readStay_156 rfl ?_
                      refine wp_iconst 1 dX10_readStay_157 rfl rfl ?_
                      refine wp_iadd dX10_readStay_158 rfl ?_
                      refine wp_iload_1 dX10_readStay_159 rfl ?_
                      refine wp_iastoren (12 + 2 * k9 + 1) dX10_readStay_160 rfl (mg_6 hm) (by simp only [nI_lit, pk_mul, nI_add]; try rfl) (by have := hs4.ns.2; omega) (by decide) (ms_A6 hm) ?_
                      exact wp_return dX10_readStay_161 rfl ⟨rfl, _, rfl, ((hkz.tr hk4).s _ _).s _ _, by rw [hst]; have q := (hP4.st (12 + 2 * k9) t9).st (12 + 2 * k9 + 1) m9; rw [show pStE t9 m9 (.inr z9) = pSt (12 + 2 * k9 + 1) m9 (pSt (12 + 2 * k9) t9 (.inr z9)) from congrArg (fun u => Sum.inr (z9.1, u)) (stU_s hfn)]; exact q⟩
                    · exact absurd c112 (nI_n1 (by have := hs4.ns.2; omega))
                  · exact absurd c98 (by rw [hP4.ok]; decide)
            · refine wp_aload_0 dX10_readStay_63 rfl ?_
              refine wp_aload_0 dX10_readStay_64 rfl ?_
              refine wp_getf dX10_readStay_65 rfl q1842 fk10_11 (mg_0 hm) rfl ?_
              rw [hP2.ls.2.2.2 c26]
              refine wp_cvR dX10_readStay_68 rfl q2075 mv_X10_freshStay (mg_0 hm) rfl rfl (m_freshStay hm hP2.fr hs2) rfl rfl (Nat.le_of_ble_eq_true rfl) (Nat.le_of_ble_eq_true rfl) ?_
              refine wp_iconst (-1) dX10_readStay_71 rfl rfl ?_
              refine wp_icmp_ne 80 dX10_readStay_72 rfl rfl (fun c72 => ?_) (fun c72 => ?_)
              · have hkz := hky
                have hP3 : PI T N S2 (pStF (.inr y9)) := by rw [pStF, if_neg (fun q => c72 (by rw [q.2.2.2]; rfl))]; exact hP2
                refine wp_aload_0 dX10_readStay_80 rfl ?_
                refine wp_iconst 0 dX10_readStay_81 rfl rfl ?_
                refine wp_aload_0 dX10_readStay_82 rfl ?_
                refine wp_getf dX10_readStay_83 rfl q1845 fk10_14 (mg_0 hm) rfl ?_
                refine wp_iconst 2 dX10_readStay_86 rfl rfl ?_
                refine wp_ialoadn 2 dX10_readStay_87 rfl (mg_6 hm) rfl (by decide) (by decide) ?_
                refine wp_iconst 1 dX10_readStay_88 rfl rfl ?_
                refine wp_isub dX10_readStay_89 rfl ?_
                refine wp_cvEi dX10_readStay_90 rfl q2052 mv_X10_number (mg_0 hm) rfl rfl (m_number hm hP3) rfl rfl (Nat.le_of_ble_eq_true rfl) (Nat.le_of_ble_eq_true rfl) (fun h1 hq => ?_)
                obtain ⟨S4, rfl, hk4, hP4⟩ := hq
                rw [pNu_hi (F := fun W => W 2 - 1) hP3 rfl] at hP4 ⊢
                have hW4 : ∀ z, (pNu T N 0 (pOf (fun W => W 2 - 1) (pStF (.inr y9))) (pStF (.inr y9))).2 = .inr z → z.2 = y9.2 ∧ (y9.2 4 = 6 → ¬ frS z.2 (pNu T N 0 (pOf (fun W => W 2 - 1) (pStF (.inr y9))) (pStF (.inr y9))).1 = none) := fun z hz => pStF_W hs2 hz
                generalize (pNu T N 0 (pOf (fun W => W 2 - 1) (pStF (.inr y9))) (pStF (.inr y9))).1 = t9 at *
                generalize (pNu T N 0 (pOf (fun W => W 2 - 1) (pStF (.inr y9))) (pStF (.inr y9))).2 = u9 at *
                refine wp_istore_3 dX10_readStay_93 rfl (by decide) rfl ?_
                rcases u9 with g9 | z9
                · refine wp_aload_0 dX10_readStay_94 rfl ?_
                  refine wp_cvR dX10_readStay_95 rfl q2016 mv_X10_good (mg_0 hm) rfl rfl (m_good hm) rfl rfl (Nat.le_of_ble_eq_true rfl) (Nat.le_of_ble_eq_true rfl) ?_
                  refine wp_ifne_b 102 dX10_readStay_98 rfl rfl (fun c98 => ?_) (fun c98 => ?_)
                  · exact absurd c98 (by rw [hP4.bad]; decide)
                  · exact wp_return dX10_readStay_101 rfl ⟨rfl, S4, rfl, hkz.tr hk4, by rw [hst]; exact hP4⟩
                · obtain ⟨ez, ezn⟩ := hW4 z9 rfl
                  have hs4 : WFs z9.2 := by rw [ez]; exact hs2
                  have h4b := hs4.ns.2
                  rcases hfn : frS z9.2 t9 with _ | k9
                  · have h46 : ¬ z9.2 4 = 6 := fun q => ezn (by rw [← ez]; exact q) hfn
                    have h4l : nW z9.2 4 < 6 := by
                      have := hs4.ns.2
                      exact Nat.lt_of_le_of_ne this (fun q => h46 (by rw [hs4.ns.1, q]; rfl))
                    refine wp_aload_0 dX10_readStay_94 rfl ?_
                    refine wp_cvR dX10_readStay_95 rfl q2016 mv_X10_good (mg_0 hm) rfl rfl (m_good hm) rfl rfl (Nat.le_of_ble_eq_true rfl) (Nat.le_of_ble_eq_true rfl) ?_
                    refine wp_ifne_b 102 dX10_readStay_98 rfl rfl (fun c98 => ?_) (fun c98 => ?_)
                    · refine wp_aload_0 dX10_readStay_102 rfl ?_
                      refine wp_iload_3 dX10_readStay_103 rfl ?_
                      refine wp_cvR dX10_readStay_104 rfl q2075 mv_X10_freshStay (mg_0 hm) rfl rfl (m_freshStay hm hP4.fr hs4) rfl rfl (Nat.le_of_ble_eq_true rfl) (Nat.le_of_ble_eq_true rfl) ?_
                      rw [hfn]
                      have e9 : onI none = -1 := rfl
                      refine wp_istore_4 dX10_readStay_107 rfl (by decide) rfl ?_
                      refine wp_iload_4 dX10_readStay_109 rfl ?_
                      refine wp_iconst (-1) dX10_readStay_111 rfl rfl ?_
                      refine wp_icmp_ne 133 dX10_readStay_112 rfl rfl (fun c112 => ?_) (fun c112 => ?_)
                      · exact absurd e9 c112
                      · refine wp_aload_0 dX10_readStay_115 rfl ?_
                        refine wp_getf dX10_readStay_116 rfl q1845 fk10_14 (mg_0 hm) rfl ?_
                        refine wp_iconst 4 dX10_readStay_119 rfl rfl ?_
                        refine wp_ialoadn 4 dX10_readStay_120 rfl (mg_6 hm) rfl (by decide) (by decide) ?_
                        rw [show S4.2.1 6 4 = nI (nW z9.2 4) by rw [hP4.fr]; exact hs4.ns.1]
                        refine wp_istore_4 dX10_readStay_121 rfl (by decide) rfl ?_
                        refine wp_aload_0 dX10_readStay_123 rfl ?_
                        refine wp_getf dX10_readStay_124 rfl q1845 fk10_14 (mg_0 hm) rfl ?_
                        refine wp_iconst 4 dX10_readStay_127 rfl rfl ?_
                        refine wp_dup2 dX10_readStay_128 rfl rfl rfl ?_
                        refine wp_ialoadn 4 dX10_readStay_129 rfl (mg_6 hm) rfl (by decide) (by decide) ?_
                        refine wp_iconst 1 dX10_readStay_130 rfl rfl ?_
                        refine wp_iadd dX10_readStay_131 rfl ?_
                        refine wp_iastoren 4 dX10_readStay_132 rfl (mg_6 hm) rfl (by decide) (by decide) (ms_A6 hm) ?_
                        refine wp_aload_0 dX10_readStay_133 rfl ?_
                        refine wp_getf dX10_readStay_134 rfl q1845 fk10_14 (mg_0 hm) rfl ?_
                        refine wp_bipush 12 dX10_readStay_137 rfl rfl ?_
                        refine wp_iconst 2 dX10_readStay_139 rfl rfl ?_
                        refine wp_iload_4 dX10_readStay_140 rfl ?_
                        refine wp_imul dX10_readStay_142 rfl ?_
                        refine wp_iadd dX10_readStay_143 rfl ?_
                        refine wp_iload_3 dX10_readStay_144 rfl ?_
                        refine wp_iastoren (12 + 2 * nW z9.2 4) dX10_readStay_145 rfl (mg_6 hm) (by simp only [nI_lit, pk_mul, nI_add]; try rfl) (by have := hs4.ns.2; omega) (by decide) (ms_A6 hm) ?_
                        refine wp_aload_0 dX10_readStay_146 rfl ?_
                        refine wp_getf dX10_readStay_147 rfl q1845 fk10_14 (mg_0 hm) rfl ?_
                        refine wp_bipush 12 dX10_readStay_150 rfl rfl ?_
                        refine wp_iconst 2 dX10_readStay_152 rfl rfl ?_
                        refine wp_iload_4 dX10_readStay_153 rfl ?_
                        refine wp_imul dX10_readStay_155 rfl ?_
                        refine wp_iadd dX10_readStay_156 rfl ?_
                        refine wp_iconst 1 dX10_readStay_157 rfl rfl ?_
                        refine wp_iadd dX10_readStay_158 rfl ?_
                        refine wp_iload_1 dX10_readStay_159 rfl ?_
                        refine wp_iastoren (12 + 2 * nW z9.2 4 + 1) dX10_readStay_160 rfl (mg_6 hm) (by simp only [nI_lit, pk_mul, nI_add]; try rfl) (by have := hs4.ns.2; omega) (by decide) (ms_A6 hm) ?_
                        exact wp_return dX10_readStay_161 rfl ⟨rfl, _, rfl, (((hkz.tr hk4).s _ _).s _ _).s _ _, by rw [hst]; have q := ((hP4.inc 4).st (12 + 2 * nW z9.2 4) t9).st (12 + 2 * nW z9.2 4 + 1) m9; rw [show pStE t9 m9 (.inr z9) = pSt (12 + 2 * nW z9.2 4 + 1) m9 (pSt (12 + 2 * nW z9.2 4) t9 (pIn 4 (.inr z9))) from congrArg (fun u => Sum.inr (z9.1, u)) (stU_n hfn)]; exact q⟩
                    · exact absurd c98 (by rw [hP4.ok]; decide)
                  · have hk9l := frS_lt hfn
                    refine wp_aload_0 dX10_readStay_94 rfl ?_
                    refine wp_cvR dX10_readStay_95 rfl q2016 mv_X10_good (mg_0 hm) rfl rfl (m_good hm) rfl rfl (Nat.le_of_ble_eq_true rfl) (Nat.le_of_ble_eq_true rfl) ?_
                    refine wp_ifne_b 102 dX10_readStay_98 rfl rfl (fun c98 => ?_) (fun c98 => ?_)
                    · refine wp_aload_0 dX10_readStay_102 rfl ?_
                      refine wp_iload_3 dX10_readStay_103 rfl ?_
                      refine wp_cvR dX10_readStay_104 rfl q2075 mv_X10_freshStay (mg_0 hm) rfl rfl (m_freshStay hm hP4.fr hs4) rfl rfl (Nat.le_of_ble_eq_true rfl) (Nat.le_of_ble_eq_true rfl) ?_
                      rw [hfn, show onI (some k9) = nI k9 from rfl]
                      refine wp_istore_4 dX10_readStay_107 rfl (by decide) rfl ?_
                      refine wp_iload_4 dX10_readStay_109 rfl ?_
                      refine wp_iconst (-1) dX10_readStay_111 rfl rfl ?_
                      refine wp_icmp_ne 133 dX10_readStay_112 rfl rfl (fun c112 => ?_) (fun c112 => ?_)
                      · refine wp_aload_0 dX10_readStay_133 rfl ?_
                        refine wp_getf dX10_readStay_134 rfl q1845 fk10_14 (mg_0 hm) rfl ?_
                        refine wp_bipush 12 dX10_readStay_137 rfl rfl ?_
                        refine wp_iconst 2 dX10_readStay_139 rfl rfl ?_
                        refine wp_iload_4 dX10_readStay_140 rfl ?_
                        refine wp_imul dX10_readStay_142 rfl ?_
                        refine wp_iadd dX10_readStay_143 rfl ?_
                        refine wp_iload_3 dX10_readStay_144 rfl ?_
                        refine wp_iastoren (12 + 2 * k9) dX10_readStay_145 rfl (mg_6 hm) (by simp only [nI_lit, pk_mul, nI_add]; try rfl) (by have := hs4.ns.2; omega) (by decide) (ms_A6 hm) ?_
                        refine wp_aload_0 dX10_readStay_146 rfl ?_
                        refine wp_getf dX10_readStay_147 rfl q1845 fk10_14 (mg_0 hm) rfl ?_
                        refine wp_bipush 12 dX10_readStay_150 rfl rfl ?_
                        refine wp_iconst 2 dX10_readStay_152 rfl rfl ?_
                        refine wp_iload_4 dX10_readStay_153 rfl ?_
                        refine wp_imul dX10_readStay_155 rfl ?_
                        refine wp_iadd dX10_readStay_156 rfl ?_
                        refine wp_iconst 1 dX10_readStay_157 rfl rfl ?_
                        refine wp_iadd dX10_readStay_158 rfl ?_
                        refine wp_iload_1 dX10_readStay_159 rfl ?_
                        refine wp_iastoren (12 + 2 * k9 + 1) dX10_readStay_160 rfl (mg_6 hm) (by simp only [nI_lit, pk_mul, nI_add]; try rfl) (by have := hs4.ns.2; omega) (by decide) (ms_A6 hm) ?_
                        exact wp_return dX10_readStay_161 rfl ⟨rfl, _, rfl, ((hkz.tr hk4).s _ _).s _ _, by rw [hst]; have q := (hP4.st (12 + 2 * k9) t9).st (12 + 2 * k9 + 1) m9; rw [show pStE t9 m9 (.inr z9) = pSt (12 + 2 * k9 + 1) m9 (pSt (12 + 2 * k9) t9 (.inr z9)) from congrArg (fun u => Sum.inr (z9.1, u)) (stU_s hfn)]; exact q⟩
                      · exact absurd c112 (nI_n1 (by have := hs4.ns.2; omega))
                    · exact absurd c98 (by rw [hP4.ok]; decide)
              · refine wp_aload_0 dX10_readStay_75 rfl ?_
                refine wp_iconst 3 dX10_readStay_76 rfl rfl ?_
                refine wp_cvE dX10_readStay_77 rfl q2043 mv_X10_errs (mg_0 hm) rfl rfl (m_errs hm hP2 (by decide)) rfl rfl (Nat.le_of_ble_eq_true rfl) (Nat.le_of_ble_eq_true rfl) (fun h1 hq => ?_)
                obtain ⟨S9, rfl, hk9, hP9⟩ := hq
                have hkz := hky.tr hk9
                have hP3 : PI T N S9 (pStF (.inr y9)) := by rw [pStF, if_pos ⟨c26, Int32.not_le.mp c39, c60, onI_n c72 (fun j hj => by have := frS_lt hj; have := hs2.ns.2; omega)⟩]; exact hP9
                refine wp_aload_0 dX10_readStay_80 rfl ?_
                refine wp_iconst 0 dX10_readStay_81 rfl rfl ?_
                refine wp_aload_0 dX10_readStay_82 rfl ?_
                refine wp_getf dX10_readStay_83 rfl q1845 fk10_14 (mg_0 hm) rfl ?_
                refine wp_iconst 2 dX10_readStay_86 rfl rfl ?_
                refine wp_ialoadn 2 dX10_readStay_87 rfl (mg_6 hm) rfl (by decide) (by decide) ?_
                refine wp_iconst 1 dX10_readStay_88 rfl rfl ?_
                refine wp_isub dX10_readStay_89 rfl ?_
                refine wp_cvEi dX10_readStay_90 rfl q2052 mv_X10_number (mg_0 hm) rfl rfl (m_number hm hP3) rfl rfl (Nat.le_of_ble_eq_true rfl) (Nat.le_of_ble_eq_true rfl) (fun h1 hq => ?_)
                obtain ⟨S4, rfl, hk4, hP4⟩ := hq
                rw [pNu_hi (F := fun W => W 2 - 1) hP3 rfl] at hP4 ⊢
                have hW4 : ∀ z, (pNu T N 0 (pOf (fun W => W 2 - 1) (pStF (.inr y9))) (pStF (.inr y9))).2 = .inr z → z.2 = y9.2 ∧ (y9.2 4 = 6 → ¬ frS z.2 (pNu T N 0 (pOf (fun W => W 2 - 1) (pStF (.inr y9))) (pStF (.inr y9))).1 = none) := fun z hz => pStF_W hs2 hz
                generalize (pNu T N 0 (pOf (fun W => W 2 - 1) (pStF (.inr y9))) (pStF (.inr y9))).1 = t9 at *
                generalize (pNu T N 0 (pOf (fun W => W 2 - 1) (pStF (.inr y9))) (pStF (.inr y9))).2 = u9 at *
                refine wp_istore_3 dX10_readStay_93 rfl (by decide) rfl ?_
                rcases u9 with g9 | z9
                · refine wp_aload_0 dX10_readStay_94 rfl ?_
                  refine wp_cvR dX10_readStay_95 rfl q2016 mv_X10_good (mg_0 hm) rfl rfl (m_good hm) rfl rfl (Nat.le_of_ble_eq_true rfl) (Nat.le_of_ble_eq_true rfl) ?_
                  refine wp_ifne_b 102 dX10_readStay_98 rfl rfl (fun c98 => ?_) (fun c98 => ?_)
                  · exact absurd c98 (by rw [hP4.bad]; decide)
                  · exact wp_return dX10_readStay_101 rfl ⟨rfl, S4, rfl, hkz.tr hk4, by rw [hst]; exact hP4⟩
                · obtain ⟨ez, ezn⟩ := hW4 z9 rfl
                  have hs4 : WFs z9.2 := by rw [ez]; exact hs2
                  have h4b := hs4.ns.2
                  rcases hfn : frS z9.2 t9 with _ | k9
                  · have h46 : ¬ z9.2 4 = 6 := fun q => ezn (by rw [← ez]; exact q) hfn
                    have h4l : nW z9.2 4 < 6 := by
                      have := hs4.ns.2
                      exact Nat.lt_of_le_of_ne this (fun q => h46 (by rw [hs4.ns.1, q]; rfl))
                    refine wp_aload_0 dX10_readStay_94 rfl ?_
                    refine wp_cvR dX10_readStay_95 rfl q2016 mv_X10_good (mg_0 hm) rfl rfl (m_good hm) rfl rfl (Nat.le_of_ble_eq_true rfl) (Nat.le_of_ble_eq_true rfl) ?_
                    refine wp_ifne_b 102 dX10_readStay_98 rfl rfl (fun c98 => ?_) (fun c98 => ?_)
                    · refine wp_aload_0 dX10_readStay_102 rfl ?_
                      refine wp_iload_3 dX10_readStay_103 rfl ?_
                      refine wp_cvR dX10_readStay_104 rfl q2075 mv_X10_freshStay (mg_0 hm) rfl rfl (m_freshStay hm hP4.fr hs4) rfl rfl (Nat.le_of_ble_eq_true rfl) (Nat.le_of_ble_eq_true rfl) ?_
                      rw [hfn]
                      have e9 : onI none = -1 := rfl
                      refine wp_istore_4 dX10_readStay_107 rfl (by decide) rfl ?_
                      refine wp_iload_4 dX10_readStay_109 rfl ?_
                      refine wp_iconst (-1) dX10_readStay_111 rfl rfl ?_
                      refine wp_icmp_ne 133 dX10_readStay_112 rfl rfl (fun c112 => ?_) (fun c112 => ?_)
                      · exact absurd e9 c112
                      · refine wp_aload_0 dX10_readStay_115 rfl ?_
                        refine wp_getf dX10_readStay_116 rfl q1845 fk10_14 (mg_0 hm) rfl ?_
                        refine wp_iconst 4 dX10_readStay_119 rfl rfl ?_
                        refine wp_ialoadn 4 dX10_readStay_120 rfl (mg_6 hm) rfl (by decide) (by decide) ?_
                        rw [show S4.2.1 6 4 = nI (nW z9.2 4) by rw [hP4.fr]; exact hs4.ns.1]
                        refine wp_istore_4 dX10_readStay_121 rfl (by decide) rfl ?_
                        refine wp_aload_0 dX10_readStay_123 rfl ?_
                        refine wp_getf dX10_readStay_124 rfl q1845 fk10_14 (mg_0 hm) rfl ?_
                        refine wp_iconst 4 dX10_readStay_127 rfl rfl ?_
                        refine wp_dup2 dX10_readStay_128 rfl rfl rfl ?_
                        refine wp_ialoadn 4 dX10_readStay_129 rfl (mg_6 hm) rfl (by decide) (by decide) ?_
                        refine wp_iconst 1 dX10_readStay_130 rfl rfl ?_
                        refine wp_iadd dX10_readStay_131 rfl ?_
                        refine wp_iastoren 4 dX10_readStay_132 rfl (mg_6 hm) rfl (by decide) (by decide) (ms_A6 hm) ?_
                        refine wp_aload_0 dX10_readStay_133 rfl ?_
                        refine wp_getf dX10_readStay_134 rfl q1845 fk10_14 (mg_0 hm) rfl ?_
                        refine wp_bipush 12 dX10_readStay_137 rfl rfl ?_
                        refine wp_iconst 2 dX10_readStay_139 rfl rfl ?_
                        refine wp_iload_4 dX10_readStay_140 rfl ?_
                        refine wp_imul dX10_readStay_142 rfl ?_
                        refine wp_iadd dX10_readStay_143 rfl ?_
                        refine wp_iload_3 dX10_readStay_144 rfl ?_
                        refine wp_iastoren (12 + 2 * nW z9.2 4) dX10_readStay_145 rfl (mg_6 hm) (by simp only [nI_lit, pk_mul, nI_add]; try rfl) (by have := hs4.ns.2; omega) (by decide) (ms_A6 hm) ?_
                        refine wp_aload_0 dX10_readStay_146 rfl ?_
                        refine wp_getf dX10_readStay_147 rfl q1845 fk10_14 (mg_0 hm) rfl ?_
                        refine wp_bipush 12 dX10_readStay_150 rfl rfl ?_
                        refine wp_iconst 2 dX10_readStay_152 rfl rfl ?_
                        refine wp_iload_4 dX10_readStay_153 rfl ?_
                        refine wp_imul dX10_readStay_155 rfl ?_
                        refine wp_iadd dX10_readStay_156 rfl ?_
                        refine wp_iconst 1 dX10_readStay_157 rfl rfl ?_
                        refine wp_iadd dX10_readStay_158 rfl ?_
                        refine wp_iload_1 dX10_readStay_159 rfl ?_
                        refine wp_iastoren (12 + 2 * nW z9.2 4 + 1) dX10_readStay_160 rfl (mg_6 hm) (by simp only [nI_lit, pk_mul, nI_add]; try rfl) (by have := hs4.ns.2; omega) (by decide) (ms_A6 hm) ?_
                        exact wp_return dX10_readStay_161 rfl ⟨rfl, _, rfl, (((hkz.tr hk4).s _ _).s _ _).s _ _, by rw [hst]; have q := ((hP4.inc 4).st (12 + 2 * nW z9.2 4) t9).st (12 + 2 * nW z9.2 4 + 1) m9; rw [show pStE t9 m9 (.inr z9) = pSt (12 + 2 * nW z9.2 4 + 1) m9 (pSt (12 + 2 * nW z9.2 4) t9 (pIn 4 (.inr z9))) from congrArg (fun u => Sum.inr (z9.1, u)) (stU_n hfn)]; exact q⟩
                    · exact absurd c98 (by rw [hP4.ok]; decide)
                  · have hk9l := frS_lt hfn
                    refine wp_aload_0 dX10_readStay_94 rfl ?_
                    refine wp_cvR dX10_readStay_95 rfl q2016 mv_X10_good (mg_0 hm) rfl rfl (m_good hm) rfl rfl (Nat.le_of_ble_eq_true rfl) (Nat.le_of_ble_eq_true rfl) ?_
                    refine wp_ifne_b 102 dX10_readStay_98 rfl rfl (fun c98 => ?_) (fun c98 => ?_)
                    · refine wp_aload_0 dX10_readStay_102 rfl ?_
                      refine wp_iload_3 dX10_readStay_103 rfl ?_
                      refine wp_cvR dX10_readStay_104 rfl q2075 mv_X10_freshStay (mg_0 hm) rfl rfl (m_freshStay hm hP4.fr hs4) rfl rfl (Nat.le_of_ble_eq_true rfl) (Nat.le_of_ble_eq_true rfl) ?_
                      rw [hfn, show onI (some k9) = nI k9 from rfl]
                      refine wp_istore_4 dX10_readStay_107 rfl (by decide) rfl ?_
                      refine wp_iload_4 dX10_readStay_109 rfl ?_
                      refine wp_iconst (-1) dX10_readStay_111 rfl rfl ?_
                      refine wp_icmp_ne 133 dX10_readStay_112 rfl rfl (fun c112 => ?_) (fun c112 => ?_)
                      · refine wp_aload_0 dX10_readStay_133 rfl ?_
                        refine wp_getf dX10_readStay_134 rfl q1845 fk10_14 (mg_0 hm) rfl ?_
                        refine wp_bipush 12 dX10_readStay_137 rfl rfl ?_
                        refine wp_iconst 2 dX10_readStay_139 rfl rfl ?_
                        refine wp_iload_4 dX10_readStay_140 rfl ?_
                        refine wp_imul dX10_readStay_142 rfl ?_
                        refine wp_iadd dX10_readStay_143 rfl ?_
                        refine wp_iload_3 dX10_readStay_144 rfl ?_
                        refine wp_iastoren (12 + 2 * k9) dX10_readStay_145 rfl (mg_6 hm) (by simp only [nI_lit, pk_mul, nI_add]; try rfl) (by have := hs4.ns.2; omega) (by decide) (ms_A6 hm) ?_
                        refine wp_aload_0 dX10_readStay_146 rfl ?_
                        refine wp_getf dX10_readStay_147 rfl q1845 fk10_14 (mg_0 hm) rfl ?_
                        refine wp_bipush 12 dX10_readStay_150 rfl rfl ?_
                        refine wp_iconst 2 dX10_readStay_152 rfl rfl ?_
                        refine wp_iload_4 dX10_readStay_153 rfl ?_
                        refine wp_imul dX10_readStay_155 rfl ?_
                        refine wp_iadd dX10_readStay_156 rfl ?_
                        refine wp_iconst 1 dX10_readStay_157 rfl rfl ?_
                        refine wp_iadd dX10_readStay_158 rfl ?_
                        refine wp_iload_1 dX10_readStay_159 rfl ?_
                        refine wp_iastoren (12 + 2 * k9 + 1) dX10_readStay_160 rfl (mg_6 hm) (by simp only [nI_lit, pk_mul, nI_add]; try rfl) (by have := hs4.ns.2; omega) (by decide) (ms_A6 hm) ?_
                        exact wp_return dX10_readStay_161 rfl ⟨rfl, _, rfl, ((hkz.tr hk4).s _ _).s _ _, by rw [hst]; have q := (hP4.st (12 + 2 * k9) t9).st (12 + 2 * k9 + 1) m9; rw [show pStE t9 m9 (.inr z9) = pSt (12 + 2 * k9 + 1) m9 (pSt (12 + 2 * k9) t9 (.inr z9)) from congrArg (fun u => Sum.inr (z9.1, u)) (stU_s hfn)]; exact q⟩
                      · exact absurd c112 (nI_n1 (by have := hs4.ns.2; omega))
                    · exact absurd c98 (by rw [hP4.ok]; decide)
