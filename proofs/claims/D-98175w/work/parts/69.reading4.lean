/-! ===== the reference: reading, a line ===== -/
set_option maxRecDepth 100000
theorem eqK_all {p : Nat → Bool} : ∀ (k i : Nat), eqK p k i = true → ∀ j, i ≤ j → j < i + k → p j = true := by
  intro k
  induction k with
  | zero => intro i _ j h1 h2; omega
  | succ k ih =>
    intro i h j h1 h2
    unfold eqK at h
    split at h
    · rename_i hp
      by_cases q : j = i
      · rw [q]; exact hp
      · exact ih (i + 1) h j (by omega) (by omega)
    · cases h
theorem isB_p {T : Nat → Int32} {w : Nat} {L : LX} (h : isB T w L = true) : lTk L = 1 ∧ lAt L = lFr L + stN_ w ∧ ∀ k, k < stN_ w → T (lFr L + k) = stC w k := by
  rw [isB, Bool.and_eq_true, Bool.and_eq_true, decide_eq_true_eq, decide_eq_true_eq] at h
  exact ⟨h.1.1, h.1.2, fun k hk => of_decide_eq_true (eqK_all _ 0 h.2 k (Nat.zero_le _) (by omega))⟩
theorem isB_ex {T : Nat → Int32} {w w' : Nat} {L : LX} (hw : w < 19) (hw' : w' < 19) (h : isB T w L = true) (h' : isB T w' L = true) : w = w' := by
  have D : ∀ w, w < 19 → ∀ w', w' < 19 → (stN_ w = stN_ w' ∧ ∀ k, k < stN_ w → stC w k = stC w' k) → w = w' := by decide +kernel
  obtain ⟨-, a1, a2⟩ := isB_p h
  obtain ⟨-, b1, b2⟩ := isB_p h'
  have e : stN_ w = stN_ w' := by omega
  exact D w hw w' hw' ⟨e, fun k hk => (a2 k hk).symm.trans (b2 k (by omega))⟩
theorem isB_f {T : Nat → Int32} {w w' : Nat} {L : LX} (h : isB T w L = true) (hw : w < 19) (hw' : w' < 19) (N : w ≠ w') : isB T w' L = false := by
  cases e : isB T w' L with
  | false => rfl
  | true => exact absurd (isB_ex hw hw' h e) N
theorem m_readNext {g : GW} {M : Nat} {pre post : AH} {S : SM} (hm : pre.length = M) {T : Nat → Int32} {N : Nat} {x : LX × (Nat → Int32)} (hP : PI T N S (.inr x)) (hs : WFs x.2) : SP g 10 0 0 yX10_readNext cX10_readNext 2 none [.ref M] (mH M pre S post) (fun v h1 => v = none ∧ ∃ S', h1 = mH M pre S' post ∧ KR S S' ∧ PI T N S' (pLin T N (.inr x))) := by
  refine SP.intro [some (.ref M), none] (pfn (by decide)) rfl (Nat.le_of_ble_eq_true rfl) ?_
  by_cases e12 : isB T 12 x.1 = true
  · have e11 := isB_f (w' := 11) e12 (by decide) (by decide) (by decide)
    have e3 := isB_f (w' := 3) e12 (by decide) (by decide) (by decide)
    have e10 := isB_f (w' := 10) e12 (by decide) (by decide) (by decide)
    have e16 := isB_f (w' := 16) e12 (by decide) (by decide) (by decide)
    have e9 := isB_f (w' := 9) e12 (by decide) (by decide) (by decide)
    have e13 := isB_f (w' := 13) e12 (by decide) (by decide) (by decide)
    refine wp_aload_0 dX10_readNext_0 rfl ?_
    refine wp_ldcS (w := 3) dX10_readNext_1 rfl (List.mem_of_getElem? (i := 30) rfl) ?_
    refine wp_cvR dX10_readNext_3 rfl q2037 mv_X10_is (mg_0 hm) rfl rfl (m_is hm hP (by decide)) rfl rfl (Nat.le_of_ble_eq_true rfl) (Nat.le_of_ble_eq_true rfl) ?_
    rw [show pIs T 3 (.inr x) = false from e3]
    refine wp_if_ne 27 dX10_readNext_6 rfl rfl (fun c6 => ?_) (fun c6 => ?_)
    · exact absurd (by decide) c6
    · refine wp_aload_0 dX10_readNext_9 rfl ?_
      refine wp_ldcS (w := 10) dX10_readNext_10 rfl (List.mem_of_getElem? (i := 31) rfl) ?_
      refine wp_cvR dX10_readNext_12 rfl q2037 mv_X10_is (mg_0 hm) rfl rfl (m_is hm hP (by decide)) rfl rfl (Nat.le_of_ble_eq_true rfl) (Nat.le_of_ble_eq_true rfl) ?_
      rw [show pIs T 10 (.inr x) = false from e10]
      refine wp_if_ne 27 dX10_readNext_15 rfl rfl (fun c15 => ?_) (fun c15 => ?_)
      · exact absurd (by decide) c15
      · refine wp_aload_0 dX10_readNext_18 rfl ?_
        refine wp_ldcS (w := 16) dX10_readNext_19 rfl (List.mem_of_getElem? (i := 32) rfl) ?_
        refine wp_cvR dX10_readNext_21 rfl q2037 mv_X10_is (mg_0 hm) rfl rfl (m_is hm hP (by decide)) rfl rfl (Nat.le_of_ble_eq_true rfl) (Nat.le_of_ble_eq_true rfl) ?_
        rw [show pIs T 16 (.inr x) = false from e16]
        refine wp_if_eq 31 dX10_readNext_24 rfl rfl (fun c24 => ?_) (fun c24 => ?_)
        · refine wp_iconst 0 dX10_readNext_31 rfl rfl ?_
          refine wp_istore_1 dX10_readNext_32 rfl (by decide) rfl ?_
          refine wp_iload_1 dX10_readNext_33 rfl ?_
          refine wp_if_ne 78 dX10_readNext_34 rfl rfl (fun c34 => ?_) (fun c34 => ?_)
          · exact absurd (by decide) c34
          · refine wp_aload_0 dX10_readNext_37 rfl ?_
            refine wp_ldcS (w := 12) dX10_readNext_38 rfl (List.mem_of_getElem? (i := 33) rfl) ?_
            refine wp_cvR dX10_readNext_40 rfl q2037 mv_X10_is (mg_0 hm) rfl rfl (m_is hm hP (by decide)) rfl rfl (Nat.le_of_ble_eq_true rfl) (Nat.le_of_ble_eq_true rfl) ?_
            rw [show pIs T 12 (.inr x) = true from e12]
            refine wp_if_ne 78 dX10_readNext_43 rfl rfl (fun c43 => ?_) (fun c43 => ?_)
            · refine wp_iload_1 dX10_readNext_78 rfl ?_
              refine wp_if_eq 93 dX10_readNext_79 rfl rfl (fun c79 => ?_) (fun c79 => ?_)
              · refine wp_aload_0 dX10_readNext_93 rfl ?_
                refine wp_ldcS (w := 9) dX10_readNext_94 rfl (List.mem_of_getElem? (i := 35) rfl) ?_
                refine wp_cvR dX10_readNext_96 rfl q2037 mv_X10_is (mg_0 hm) rfl rfl (m_is hm hP (by decide)) rfl rfl (Nat.le_of_ble_eq_true rfl) (Nat.le_of_ble_eq_true rfl) ?_
                rw [show pIs T 9 (.inr x) = false from e9]
                refine wp_if_eq 118 dX10_readNext_99 rfl rfl (fun c99 => ?_) (fun c99 => ?_)
                · refine wp_aload_0 dX10_readNext_118 rfl ?_
                  refine wp_cvR dX10_readNext_119 rfl q2016 mv_X10_good (mg_0 hm) rfl rfl (m_good hm) rfl rfl (Nat.le_of_ble_eq_true rfl) (Nat.le_of_ble_eq_true rfl) ?_
                  refine wp_ifne_b 126 dX10_readNext_122 rfl rfl (fun c122 => ?_) (fun c122 => ?_)
                  · refine wp_aload_0 dX10_readNext_126 rfl ?_
                    refine wp_ldcS (w := 12) dX10_readNext_127 rfl (List.mem_of_getElem? (i := 33) rfl) ?_
                    refine wp_cvEi dX10_readNext_129 rfl q2033 mv_X10_takes (mg_0 hm) rfl rfl (m_takes hm hP (by decide)) rfl rfl (Nat.le_of_ble_eq_true rfl) (Nat.le_of_ble_eq_true rfl) (fun h1 hq => ?_)
                    obtain ⟨S1, rfl, hk1, hP1⟩ := hq
                    rw [show pIs T 12 (.inr x) = true from e12]
                    rw [show pTk T N 12 (.inr x) = pGo T N x.1 x.2 from if_pos e12] at hP1
                    refine wp_if_eq 142 dX10_readNext_132 rfl rfl (fun c132 => ?_) (fun c132 => ?_)
                    · exact absurd c132 (by decide)
                    · refine wp_aload_0 dX10_readNext_135 rfl ?_
                      refine wp_cvE dX10_readNext_136 rfl q2070 mv_X10_readStay (mg_0 hm) rfl rfl (m_readStay hm hP1 hs) rfl rfl (Nat.le_of_ble_eq_true rfl) (Nat.le_of_ble_eq_true rfl) (fun h1 hq => ?_)
                      obtain ⟨S2, rfl, hk2, hP2⟩ := hq
                      refine wp_goto 263 dX10_readNext_139 rfl rfl ?_
                      exact wp_return dX10_readNext_263 rfl ⟨rfl, S2, rfl, (hk1.tr hk2), by rw [show pLin T N (.inr x) = pStay T N (pGo T N x.1 x.2) from if_pos e12]; exact hP2⟩
                  · exact absurd c122 (by rw [hP.ok]; decide)
                · exact absurd (by decide) c99
              · exact absurd (by decide) c79
            · exact absurd c43 (by decide)
        · exact absurd (by decide) c24
  · rw [Bool.not_eq_true] at e12
    by_cases e11 : isB T 11 x.1 = true
    · have e3 := isB_f (w' := 3) e11 (by decide) (by decide) (by decide)
      have e10 := isB_f (w' := 10) e11 (by decide) (by decide) (by decide)
      have e16 := isB_f (w' := 16) e11 (by decide) (by decide) (by decide)
      have e9 := isB_f (w' := 9) e11 (by decide) (by decide) (by decide)
      have e13 := isB_f (w' := 13) e11 (by decide) (by decide) (by decide)
      refine wp_aload_0 dX10_readNext_0 rfl ?_
      refine wp_ldcS (w := 3) dX10_readNext_1 rfl (List.mem_of_getElem? (i := 30) rfl) ?_
      refine wp_cvR dX10_readNext_3 rfl q2037 mv_X10_is (mg_0 hm) rfl rfl (m_is hm hP (by decide)) rfl rfl (Nat.le_of_ble_eq_true rfl) (Nat.le_of_ble_eq_true rfl) ?_
      rw [show pIs T 3 (.inr x) = false from e3]
      refine wp_if_ne 27 dX10_readNext_6 rfl rfl (fun c6 => ?_) (fun c6 => ?_)
      · exact absurd (by decide) c6
      · refine wp_aload_0 dX10_readNext_9 rfl ?_
        refine wp_ldcS (w := 10) dX10_readNext_10 rfl (List.mem_of_getElem? (i := 31) rfl) ?_
        refine wp_cvR dX10_readNext_12 rfl q2037 mv_X10_is (mg_0 hm) rfl rfl (m_is hm hP (by decide)) rfl rfl (Nat.le_of_ble_eq_true rfl) (Nat.le_of_ble_eq_true rfl) ?_
        rw [show pIs T 10 (.inr x) = false from e10]
        refine wp_if_ne 27 dX10_readNext_15 rfl rfl (fun c15 => ?_) (fun c15 => ?_)
        · exact absurd (by decide) c15
        · refine wp_aload_0 dX10_readNext_18 rfl ?_
          refine wp_ldcS (w := 16) dX10_readNext_19 rfl (List.mem_of_getElem? (i := 32) rfl) ?_
          refine wp_cvR dX10_readNext_21 rfl q2037 mv_X10_is (mg_0 hm) rfl rfl (m_is hm hP (by decide)) rfl rfl (Nat.le_of_ble_eq_true rfl) (Nat.le_of_ble_eq_true rfl) ?_
          rw [show pIs T 16 (.inr x) = false from e16]
          refine wp_if_eq 31 dX10_readNext_24 rfl rfl (fun c24 => ?_) (fun c24 => ?_)
          · refine wp_iconst 0 dX10_readNext_31 rfl rfl ?_
            refine wp_istore_1 dX10_readNext_32 rfl (by decide) rfl ?_
            refine wp_iload_1 dX10_readNext_33 rfl ?_
            refine wp_if_ne 78 dX10_readNext_34 rfl rfl (fun c34 => ?_) (fun c34 => ?_)
            · exact absurd (by decide) c34
            · refine wp_aload_0 dX10_readNext_37 rfl ?_
              refine wp_ldcS (w := 12) dX10_readNext_38 rfl (List.mem_of_getElem? (i := 33) rfl) ?_
              refine wp_cvR dX10_readNext_40 rfl q2037 mv_X10_is (mg_0 hm) rfl rfl (m_is hm hP (by decide)) rfl rfl (Nat.le_of_ble_eq_true rfl) (Nat.le_of_ble_eq_true rfl) ?_
              rw [show pIs T 12 (.inr x) = false from e12]
              refine wp_if_ne 78 dX10_readNext_43 rfl rfl (fun c43 => ?_) (fun c43 => ?_)
              · exact absurd (by decide) c43
              · refine wp_aload_0 dX10_readNext_46 rfl ?_
                refine wp_ldcS (w := 11) dX10_readNext_47 rfl (List.mem_of_getElem? (i := 34) rfl) ?_
                refine wp_cvR dX10_readNext_49 rfl q2037 mv_X10_is (mg_0 hm) rfl rfl (m_is hm hP (by decide)) rfl rfl (Nat.le_of_ble_eq_true rfl) (Nat.le_of_ble_eq_true rfl) ?_
                rw [show pIs T 11 (.inr x) = true from e11]
                refine wp_if_ne 78 dX10_readNext_52 rfl rfl (fun c52 => ?_) (fun c52 => ?_)
                · refine wp_iload_1 dX10_readNext_78 rfl ?_
                  refine wp_if_eq 93 dX10_readNext_79 rfl rfl (fun c79 => ?_) (fun c79 => ?_)
                  · refine wp_aload_0 dX10_readNext_93 rfl ?_
                    refine wp_ldcS (w := 9) dX10_readNext_94 rfl (List.mem_of_getElem? (i := 35) rfl) ?_
                    refine wp_cvR dX10_readNext_96 rfl q2037 mv_X10_is (mg_0 hm) rfl rfl (m_is hm hP (by decide)) rfl rfl (Nat.le_of_ble_eq_true rfl) (Nat.le_of_ble_eq_true rfl) ?_
                    rw [show pIs T 9 (.inr x) = false from e9]
                    refine wp_if_eq 118 dX10_readNext_99 rfl rfl (fun c99 => ?_) (fun c99 => ?_)
                    · refine wp_aload_0 dX10_readNext_118 rfl ?_
                      refine wp_cvR dX10_readNext_119 rfl q2016 mv_X10_good (mg_0 hm) rfl rfl (m_good hm) rfl rfl (Nat.le_of_ble_eq_true rfl) (Nat.le_of_ble_eq_true rfl) ?_
                      refine wp_ifne_b 126 dX10_readNext_122 rfl rfl (fun c122 => ?_) (fun c122 => ?_)
                      · refine wp_aload_0 dX10_readNext_126 rfl ?_
                        refine wp_ldcS (w := 12) dX10_readNext_127 rfl (List.mem_of_getElem? (i := 33) rfl) ?_
                        refine wp_cvEi dX10_readNext_129 rfl q2033 mv_X10_takes (mg_0 hm) rfl rfl (m_takes hm hP (by decide)) rfl rfl (Nat.le_of_ble_eq_true rfl) (Nat.le_of_ble_eq_true rfl) (fun h1 hq => ?_)
                        obtain ⟨S1, rfl, hk1, hP1⟩ := hq
                        rw [show pIs T 12 (.inr x) = false from e12]
                        rw [show pTk T N 12 (.inr x) = .inr x from if_neg (by rw [show pIs T 12 (.inr x) = false from e12]; decide)] at hP1
                        refine wp_if_eq 142 dX10_readNext_132 rfl rfl (fun c132 => ?_) (fun c132 => ?_)
                        · refine wp_aload_0 dX10_readNext_142 rfl ?_
                          refine wp_ldcS (w := 11) dX10_readNext_143 rfl (List.mem_of_getElem? (i := 34) rfl) ?_
                          refine wp_cvEi dX10_readNext_145 rfl q2033 mv_X10_takes (mg_0 hm) rfl rfl (m_takes hm hP1 (by decide)) rfl rfl (Nat.le_of_ble_eq_true rfl) (Nat.le_of_ble_eq_true rfl) (fun h1 hq => ?_)
                          obtain ⟨S2, rfl, hk2, hP2⟩ := hq
                          rw [show pIs T 11 (.inr x) = true from e11]
                          rw [show pTk T N 11 (.inr x) = pGo T N x.1 x.2 from if_pos e11] at hP2
                          refine wp_if_eq 158 dX10_readNext_148 rfl rfl (fun c148 => ?_) (fun c148 => ?_)
                          · exact absurd c148 (by decide)
                          · refine wp_aload_0 dX10_readNext_151 rfl ?_
                            refine wp_cvE dX10_readNext_152 rfl q2079 mv_X10_readShut (mg_0 hm) rfl rfl (m_readShut hm hP2 (fun y hy => by cases hy; exact hs)) rfl rfl (Nat.le_of_ble_eq_true rfl) (Nat.le_of_ble_eq_true rfl) (fun h1 hq => ?_)
                            obtain ⟨S3, rfl, hk3, hP3⟩ := hq
                            refine wp_goto 263 dX10_readNext_155 rfl rfl ?_
                            exact wp_return dX10_readNext_263 rfl ⟨rfl, S3, rfl, ((hk1.tr hk2).tr hk3), by rw [show pLin T N (.inr x) = pShut T N (pGo T N x.1 x.2) from (if_neg (by rw [e12]; decide)).trans (if_pos e11)]; exact hP3⟩
                        · exact absurd (by decide) c132
                      · exact absurd c122 (by rw [hP.ok]; decide)
                    · exact absurd (by decide) c99
                  · exact absurd (by decide) c79
                · exact absurd c52 (by decide)
          · exact absurd (by decide) c24
    · rw [Bool.not_eq_true] at e11
      by_cases e3 : isB T 3 x.1 = true
      · have e10 := isB_f (w' := 10) e3 (by decide) (by decide) (by decide)
        have e16 := isB_f (w' := 16) e3 (by decide) (by decide) (by decide)
        have e9 := isB_f (w' := 9) e3 (by decide) (by decide) (by decide)
        have e13 := isB_f (w' := 13) e3 (by decide) (by decide) (by decide)
        refine wp_aload_0 dX10_readNext_0 rfl ?_
        refine wp_ldcS (w := 3) dX10_readNext_1 rfl (List.mem_of_getElem? (i := 30) rfl) ?_
        refine wp_cvR dX10_readNext_3 rfl q2037 mv_X10_is (mg_0 hm) rfl rfl (m_is hm hP (by decide)) rfl rfl (Nat.le_of_ble_eq_true rfl) (Nat.le_of_ble_eq_true rfl) ?_
        rw [show pIs T 3 (.inr x) = true from e3]
        refine wp_if_ne 27 dX10_readNext_6 rfl rfl (fun c6 => ?_) (fun c6 => ?_)
        · refine wp_iconst 1 dX10_readNext_27 rfl rfl ?_
          refine wp_goto 32 dX10_readNext_28 rfl rfl ?_
          refine wp_istore_1 dX10_readNext_32 rfl (by decide) rfl ?_
          refine wp_iload_1 dX10_readNext_33 rfl ?_
          refine wp_if_ne 78 dX10_readNext_34 rfl rfl (fun c34 => ?_) (fun c34 => ?_)
          · refine wp_iload_1 dX10_readNext_78 rfl ?_
            refine wp_if_eq 93 dX10_readNext_79 rfl rfl (fun c79 => ?_) (fun c79 => ?_)
            · exact absurd c79 (by decide)
            · refine wp_aload_0 dX10_readNext_82 rfl ?_
              refine wp_getf dX10_readNext_83 rfl q1845 fk10_14 (mg_0 hm) rfl ?_
              refine wp_iconst 5 dX10_readNext_86 rfl rfl ?_
              refine wp_ialoadn 5 dX10_readNext_87 rfl (mg_6 hm) rfl (by decide) (by decide) ?_
              rw [hP.fr]
              refine wp_bipush 24 dX10_readNext_88 rfl rfl ?_
              refine wp_icmp_eq 113 dX10_readNext_90 rfl rfl (fun c90 => ?_) (fun c90 => ?_)
              · refine wp_aload_0 dX10_readNext_113 rfl ?_
                refine wp_iconst 3 dX10_readNext_114 rfl rfl ?_
                refine wp_cvE dX10_readNext_115 rfl q2043 mv_X10_errs (mg_0 hm) rfl rfl (m_errs hm hP (by decide)) rfl rfl (Nat.le_of_ble_eq_true rfl) (Nat.le_of_ble_eq_true rfl) (fun h1 hq => ?_)
                obtain ⟨S9, rfl, hk9, hP9⟩ := hq
                refine wp_aload_0 dX10_readNext_118 rfl ?_
                refine wp_cvR dX10_readNext_119 rfl q2016 mv_X10_good (mg_0 hm) rfl rfl (m_good hm) rfl rfl (Nat.le_of_ble_eq_true rfl) (Nat.le_of_ble_eq_true rfl) ?_
                refine wp_ifne_b 126 dX10_readNext_122 rfl rfl (fun c122 => ?_) (fun c122 => ?_)
                · exact absurd c122 (by rw [(show PI T N S9 (.inl (3, nI (lFr x.1))) from hP9).bad]; decide)
                · exact wp_return dX10_readNext_125 rfl ⟨rfl, S9, rfl, hk9, by rw [show pLin T N (.inr x) = .inl (3, nI (lFr x.1)) from (if_neg (by rw [e12]; decide)).trans ((if_neg (by rw [e11]; decide)).trans ((if_pos (Or.inl e3)).trans (if_pos c90)))]; exact hP9⟩
              · have hlt : nW x.2 5 < 24 := Nat.lt_of_le_of_ne hs.nc.2 (fun q => c90 (by rw [hs.nc.1, q]; rfl))
                refine wp_aload_0 dX10_readNext_93 rfl ?_
                refine wp_ldcS (w := 9) dX10_readNext_94 rfl (List.mem_of_getElem? (i := 35) rfl) ?_
                refine wp_cvR dX10_readNext_96 rfl q2037 mv_X10_is (mg_0 hm) rfl rfl (m_is hm hP (by decide)) rfl rfl (Nat.le_of_ble_eq_true rfl) (Nat.le_of_ble_eq_true rfl) ?_
                rw [show pIs T 9 (.inr x) = false from e9]
                refine wp_if_eq 118 dX10_readNext_99 rfl rfl (fun c99 => ?_) (fun c99 => ?_)
                · refine wp_aload_0 dX10_readNext_118 rfl ?_
                  refine wp_cvR dX10_readNext_119 rfl q2016 mv_X10_good (mg_0 hm) rfl rfl (m_good hm) rfl rfl (Nat.le_of_ble_eq_true rfl) (Nat.le_of_ble_eq_true rfl) ?_
                  refine wp_ifne_b 126 dX10_readNext_122 rfl rfl (fun c122 => ?_) (fun c122 => ?_)
                  · refine wp_aload_0 dX10_readNext_126 rfl ?_
                    refine wp_ldcS (w := 12) dX10_readNext_127 rfl (List.mem_of_getElem? (i := 33) rfl) ?_
                    refine wp_cvEi dX10_readNext_129 rfl q2033 mv_X10_takes (mg_0 hm) rfl rfl (m_takes hm hP (by decide)) rfl rfl (Nat.le_of_ble_eq_true rfl) (Nat.le_of_ble_eq_true rfl) (fun h1 hq => ?_)
                    obtain ⟨S1, rfl, hk1, hP1⟩ := hq
                    rw [show pIs T 12 (.inr x) = false from e12]
                    rw [show pTk T N 12 (.inr x) = .inr x from if_neg (by rw [show pIs T 12 (.inr x) = false from e12]; decide)] at hP1
                    refine wp_if_eq 142 dX10_readNext_132 rfl rfl (fun c132 => ?_) (fun c132 => ?_)
                    · refine wp_aload_0 dX10_readNext_142 rfl ?_
                      refine wp_ldcS (w := 11) dX10_readNext_143 rfl (List.mem_of_getElem? (i := 34) rfl) ?_
                      refine wp_cvEi dX10_readNext_145 rfl q2033 mv_X10_takes (mg_0 hm) rfl rfl (m_takes hm hP1 (by decide)) rfl rfl (Nat.le_of_ble_eq_true rfl) (Nat.le_of_ble_eq_true rfl) (fun h1 hq => ?_)
                      obtain ⟨S2, rfl, hk2, hP2⟩ := hq
                      rw [show pIs T 11 (.inr x) = false from e11]
                      rw [show pTk T N 11 (.inr x) = .inr x from if_neg (by rw [show pIs T 11 (.inr x) = false from e11]; decide)] at hP2
                      refine wp_if_eq 158 dX10_readNext_148 rfl rfl (fun c148 => ?_) (fun c148 => ?_)
                      · refine wp_aload_0 dX10_readNext_158 rfl ?_
                        refine wp_ldcS (w := 3) dX10_readNext_159 rfl (List.mem_of_getElem? (i := 30) rfl) ?_
                        refine wp_cvEi dX10_readNext_161 rfl q2033 mv_X10_takes (mg_0 hm) rfl rfl (m_takes hm hP2 (by decide)) rfl rfl (Nat.le_of_ble_eq_true rfl) (Nat.le_of_ble_eq_true rfl) (fun h1 hq => ?_)
                        obtain ⟨S3, rfl, hk3, hP3⟩ := hq
                        rw [show pIs T 3 (.inr x) = true from e3]
                        rw [show pTk T N 3 (.inr x) = pGo T N x.1 x.2 from if_pos e3] at hP3
                        refine wp_if_eq 176 dX10_readNext_164 rfl rfl (fun c164 => ?_) (fun c164 => ?_)
                        · exact absurd c164 (by decide)
                        · refine wp_aload_0 dX10_readNext_167 rfl ?_
                          refine wp_iconst 0 dX10_readNext_168 rfl rfl ?_
                          refine wp_iconst 0 dX10_readNext_169 rfl rfl ?_
                          refine wp_cvE dX10_readNext_170 rfl q2095 mv_X10_readComing (mg_0 hm) rfl rfl (m_readComing (red := false) (tw := false) hm hP3 hs hlt) rfl rfl (Nat.le_of_ble_eq_true rfl) (Nat.le_of_ble_eq_true rfl) (fun h1 hq => ?_)
                          obtain ⟨S4, rfl, hk4, hP4⟩ := hq
                          refine wp_goto 263 dX10_readNext_173 rfl rfl ?_
                          exact wp_return dX10_readNext_263 rfl ⟨rfl, S4, rfl, (((hk1.tr hk2).tr hk3).tr hk4), by rw [show pLin T N (.inr x) = pCom T N (isB T 10 x.1) (isB T 16 x.1) (pGo T N x.1 x.2) from (if_neg (by rw [e12]; decide)).trans ((if_neg (by rw [e11]; decide)).trans ((if_pos (Or.inl e3)).trans (if_neg c90))), e10, e16]; exact hP4⟩
                      · exact absurd (by decide) c148
                    · exact absurd (by decide) c132
                  · exact absurd c122 (by rw [hP.ok]; decide)
                · exact absurd (by decide) c99
          · exact absurd c34 (by decide)
        · exact absurd c6 (by decide)
      · rw [Bool.not_eq_true] at e3
        by_cases e10 : isB T 10 x.1 = true
        · have e16 := isB_f (w' := 16) e10 (by decide) (by decide) (by decide)
          have e9 := isB_f (w' := 9) e10 (by decide) (by decide) (by decide)
          have e13 := isB_f (w' := 13) e10 (by decide) (by decide) (by decide)
          refine wp_aload_0 dX10_readNext_0 rfl ?_
          refine wp_ldcS (w := 3) dX10_readNext_1 rfl (List.mem_of_getElem? (i := 30) rfl) ?_
          refine wp_cvR dX10_readNext_3 rfl q2037 mv_X10_is (mg_0 hm) rfl rfl (m_is hm hP (by decide)) rfl rfl (Nat.le_of_ble_eq_true rfl) (Nat.le_of_ble_eq_true rfl) ?_
          rw [show pIs T 3 (.inr x) = false from e3]
          refine wp_if_ne 27 dX10_readNext_6 rfl rfl (fun c6 => ?_) (fun c6 => ?_)
          · exact absurd (by decide) c6
          · refine wp_aload_0 dX10_readNext_9 rfl ?_
            refine wp_ldcS (w := 10) dX10_readNext_10 rfl (List.mem_of_getElem? (i := 31) rfl) ?_
            refine wp_cvR dX10_readNext_12 rfl q2037 mv_X10_is (mg_0 hm) rfl rfl (m_is hm hP (by decide)) rfl rfl (Nat.le_of_ble_eq_true rfl) (Nat.le_of_ble_eq_true rfl) ?_
            rw [show pIs T 10 (.inr x) = true from e10]
            refine wp_if_ne 27 dX10_readNext_15 rfl rfl (fun c15 => ?_) (fun c15 => ?_)
            · refine wp_iconst 1 dX10_readNext_27 rfl rfl ?_
              refine wp_goto 32 dX10_readNext_28 rfl rfl ?_
              refine wp_istore_1 dX10_readNext_32 rfl (by decide) rfl ?_
              refine wp_iload_1 dX10_readNext_33 rfl ?_
              refine wp_if_ne 78 dX10_readNext_34 rfl rfl (fun c34 => ?_) (fun c34 => ?_)
              · refine wp_iload_1 dX10_readNext_78 rfl ?_
                refine wp_if_eq 93 dX10_readNext_79 rfl rfl (fun c79 => ?_) (fun c79 => ?_)
                · exact absurd c79 (by decide)
                · refine wp_aload_0 dX10_readNext_82 rfl ?_
                  refine wp_getf dX10_readNext_83 rfl q1845 fk10_14 (mg_0 hm) rfl ?_
                  refine wp_iconst 5 dX10_readNext_86 rfl rfl ?_
                  refine wp_ialoadn 5 dX10_readNext_87 rfl (mg_6 hm) rfl (by decide) (by decide) ?_
                  rw [hP.fr]
                  refine wp_bipush 24 dX10_readNext_88 rfl rfl ?_
                  refine wp_icmp_eq 113 dX10_readNext_90 rfl rfl (fun c90 => ?_) (fun c90 => ?_)
                  · refine wp_aload_0 dX10_readNext_113 rfl ?_
                    refine wp_iconst 3 dX10_readNext_114 rfl rfl ?_
                    refine wp_cvE dX10_readNext_115 rfl q2043 mv_X10_errs (mg_0 hm) rfl rfl (m_errs hm hP (by decide)) rfl rfl (Nat.le_of_ble_eq_true rfl) (Nat.le_of_ble_eq_true rfl) (fun h1 hq => ?_)
                    obtain ⟨S9, rfl, hk9, hP9⟩ := hq
                    refine wp_aload_0 dX10_readNext_118 rfl ?_
                    refine wp_cvR dX10_readNext_119 rfl q2016 mv_X10_good (mg_0 hm) rfl rfl (m_good hm) rfl rfl (Nat.le_of_ble_eq_true rfl) (Nat.le_of_ble_eq_true rfl) ?_
                    refine wp_ifne_b 126 dX10_readNext_122 rfl rfl (fun c122 => ?_) (fun c122 => ?_)
                    · exact absurd c122 (by rw [(show PI T N S9 (.inl (3, nI (lFr x.1))) from hP9).bad]; decide)
                    · exact wp_return dX10_readNext_125 rfl ⟨rfl, S9, rfl, hk9, by rw [show pLin T N (.inr x) = .inl (3, nI (lFr x.1)) from (if_neg (by rw [e12]; decide)).trans ((if_neg (by rw [e11]; decide)).trans ((if_pos (Or.inr (Or.inl e10))).trans (if_pos c90)))]; exact hP9⟩
                  · have hlt : nW x.2 5 < 24 := Nat.lt_of_le_of_ne hs.nc.2 (fun q => c90 (by rw [hs.nc.1, q]; rfl))
                    refine wp_aload_0 dX10_readNext_93 rfl ?_
                    refine wp_ldcS (w := 9) dX10_readNext_94 rfl (List.mem_of_getElem? (i := 35) rfl) ?_
                    refine wp_cvR dX10_readNext_96 rfl q2037 mv_X10_is (mg_0 hm) rfl rfl (m_is hm hP (by decide)) rfl rfl (Nat.le_of_ble_eq_true rfl) (Nat.le_of_ble_eq_true rfl) ?_
                    rw [show pIs T 9 (.inr x) = false from e9]
                    refine wp_if_eq 118 dX10_readNext_99 rfl rfl (fun c99 => ?_) (fun c99 => ?_)
                    · refine wp_aload_0 dX10_readNext_118 rfl ?_
                      refine wp_cvR dX10_readNext_119 rfl q2016 mv_X10_good (mg_0 hm) rfl rfl (m_good hm) rfl rfl (Nat.le_of_ble_eq_true rfl) (Nat.le_of_ble_eq_true rfl) ?_
                      refine wp_ifne_b 126 dX10_readNext_122 rfl rfl (fun c122 => ?_) (fun c122 => ?_)
                      · refine wp_aload_0 dX10_readNext_126 rfl ?_
                        refine wp_ldcS (w := 12) dX10_readNext_127 rfl (List.mem_of_getElem? (i := 33) rfl) ?_
                        refine wp_cvEi dX10_readNext_129 rfl q2033 mv_X10_takes (mg_0 hm) rfl rfl (m_takes hm hP (by decide)) rfl rfl (Nat.le_of_ble_eq_true rfl) (Nat.le_of_ble_eq_true rfl) (fun h1 hq => ?_)
                        obtain ⟨S1, rfl, hk1, hP1⟩ := hq
                        rw [show pIs T 12 (.inr x) = false from e12]
                        rw [show pTk T N 12 (.inr x) = .inr x from if_neg (by rw [show pIs T 12 (.inr x) = false from e12]; decide)] at hP1
                        refine wp_if_eq 142 dX10_readNext_132 rfl rfl (fun c132 => ?_) (fun c132 => ?_)
                        · refine wp_aload_0 dX10_readNext_142 rfl ?_
                          refine wp_ldcS (w := 11) dX10_readNext_143 rfl (List.mem_of_getElem? (i := 34) rfl) ?_
                          refine wp_cvEi dX10_readNext_145 rfl q2033 mv_X10_takes (mg_0 hm) rfl rfl (m_takes hm hP1 (by decide)) rfl rfl (Nat.le_of_ble_eq_true rfl) (Nat.le_of_ble_eq_true rfl) (fun h1 hq => ?_)
                          obtain ⟨S2, rfl, hk2, hP2⟩ := hq
                          rw [show pIs T 11 (.inr x) = false from e11]
                          rw [show pTk T N 11 (.inr x) = .inr x from if_neg (by rw [show pIs T 11 (.inr x) = false from e11]; decide)] at hP2
                          refine wp_if_eq 158 dX10_readNext_148 rfl rfl (fun c148 => ?_) (fun c148 => ?_)
                          · refine wp_aload_0 dX10_readNext_158 rfl ?_
                            refine wp_ldcS (w := 3) dX10_readNext_159 rfl (List.mem_of_getElem? (i := 30) rfl) ?_
                            refine wp_cvEi dX10_readNext_161 rfl q2033 mv_X10_takes (mg_0 hm) rfl rfl (m_takes hm hP2 (by decide)) rfl rfl (Nat.le_of_ble_eq_true rfl) (Nat.le_of_ble_eq_true rfl) (fun h1 hq => ?_)
                            obtain ⟨S3, rfl, hk3, hP3⟩ := hq
                            rw [show pIs T 3 (.inr x) = false from e3]
                            rw [show pTk T N 3 (.inr x) = .inr x from if_neg (by rw [show pIs T 3 (.inr x) = false from e3]; decide)] at hP3
                            refine wp_if_eq 176 dX10_readNext_164 rfl rfl (fun c164 => ?_) (fun c164 => ?_)
                            · refine wp_aload_0 dX10_readNext_176 rfl ?_
                              refine wp_ldcS (w := 10) dX10_readNext_177 rfl (List.mem_of_getElem? (i := 31) rfl) ?_
                              refine wp_cvEi dX10_readNext_179 rfl q2033 mv_X10_takes (mg_0 hm) rfl rfl (m_takes hm hP3 (by decide)) rfl rfl (Nat.le_of_ble_eq_true rfl) (Nat.le_of_ble_eq_true rfl) (fun h1 hq => ?_)
                              obtain ⟨S4, rfl, hk4, hP4⟩ := hq
                              rw [show pIs T 10 (.inr x) = true from e10]
                              rw [show pTk T N 10 (.inr x) = pGo T N x.1 x.2 from if_pos e10] at hP4
                              refine wp_if_eq 194 dX10_readNext_182 rfl rfl (fun c182 => ?_) (fun c182 => ?_)
                              · exact absurd c182 (by decide)
                              · refine wp_aload_0 dX10_readNext_185 rfl ?_
                                refine wp_iconst 1 dX10_readNext_186 rfl rfl ?_
                                refine wp_iconst 0 dX10_readNext_187 rfl rfl ?_
                                refine wp_cvE dX10_readNext_188 rfl q2095 mv_X10_readComing (mg_0 hm) rfl rfl (m_readComing (red := true) (tw := false) hm hP4 hs hlt) rfl rfl (Nat.le_of_ble_eq_true rfl) (Nat.le_of_ble_eq_true rfl) (fun h1 hq => ?_)
                                obtain ⟨S5, rfl, hk5, hP5⟩ := hq
                                refine wp_goto 263 dX10_readNext_191 rfl rfl ?_
                                exact wp_return dX10_readNext_263 rfl ⟨rfl, S5, rfl, ((((hk1.tr hk2).tr hk3).tr hk4).tr hk5), by rw [show pLin T N (.inr x) = pCom T N (isB T 10 x.1) (isB T 16 x.1) (pGo T N x.1 x.2) from (if_neg (by rw [e12]; decide)).trans ((if_neg (by rw [e11]; decide)).trans ((if_pos (Or.inr (Or.inl e10))).trans (if_neg c90))), e10, e16]; exact hP5⟩
                            · exact absurd (by decide) c164
                          · exact absurd (by decide) c148
                        · exact absurd (by decide) c132
                      · exact absurd c122 (by rw [hP.ok]; decide)
                    · exact absurd (by decide) c99
              · exact absurd c34 (by decide)
            · exact absurd c15 (by decide)
        · rw [Bool.not_eq_true] at e10
          by_cases e16 : isB T 16 x.1 = true
          · have e9 := isB_f (w' := 9) e16 (by decide) (by decide) (by decide)
            have e13 := isB_f (w' := 13) e16 (by decide) (by decide) (by decide)
            refine wp_aload_0 dX10_readNext_0 rfl ?_
            refine wp_ldcS (w := 3) dX10_readNext_1 rfl (List.mem_of_getElem? (i := 30) rfl) ?_
            refine wp_cvR dX10_readNext_3 rfl q2037 mv_X10_is (mg_0 hm) rfl rfl (m_is hm hP (by decide)) rfl rfl (Nat.le_of_ble_eq_true rfl) (Nat.le_of_ble_eq_true rfl) ?_
            rw [show pIs T 3 (.inr x) = false from e3]
            refine wp_if_ne 27 dX10_readNext_6 rfl rfl (fun c6 => ?_) (fun c6 => ?_)
            · exact absurd (by decide) c6
            · refine wp_aload_0 dX10_readNext_9 rfl ?_
              refine wp_ldcS (w := 10) dX10_readNext_10 rfl (List.mem_of_getElem? (i := 31) rfl) ?_
              refine wp_cvR dX10_readNext_12 rfl q2037 mv_X10_is (mg_0 hm) rfl rfl (m_is hm hP (by decide)) rfl rfl (Nat.le_of_ble_eq_true rfl) (Nat.le_of_ble_eq_true rfl) ?_
              rw [show pIs T 10 (.inr x) = false from e10]
              refine wp_if_ne 27 dX10_readNext_15 rfl rfl (fun c15 => ?_) (fun c15 => ?_)
              · exact absurd (by decide) c15
              · refine wp_aload_0 dX10_readNext_18 rfl ?_
                refine wp_ldcS (w := 16) dX10_readNext_19 rfl (List.mem_of_getElem? (i := 32) rfl) ?_
                refine wp_cvR dX10_readNext_21 rfl q2037 mv_X10_is (mg_0 hm) rfl rfl (m_is hm hP (by decide)) rfl rfl (Nat.le_of_ble_eq_true rfl) (Nat.le_of_ble_eq_true rfl) ?_
                rw [show pIs T 16 (.inr x) = true from e16]
                refine wp_if_eq 31 dX10_readNext_24 rfl rfl (fun c24 => ?_) (fun c24 => ?_)
                · exact absurd c24 (by decide)
                · refine wp_iconst 1 dX10_readNext_27 rfl rfl ?_
                  refine wp_goto 32 dX10_readNext_28 rfl rfl ?_
                  refine wp_istore_1 dX10_readNext_32 rfl (by decide) rfl ?_
                  refine wp_iload_1 dX10_readNext_33 rfl ?_
                  refine wp_if_ne 78 dX10_readNext_34 rfl rfl (fun c34 => ?_) (fun c34 => ?_)
                  · refine wp_iload_1 dX10_readNext_78 rfl ?_
                    refine wp_if_eq 93 dX10_readNext_79 rfl rfl (fun c79 => ?_) (fun c79 => ?_)
                    · exact absurd c79 (by decide)
                    · refine wp_aload_0 dX10_readNext_82 rfl ?_
                      refine wp_getf dX10_readNext_83 rfl q1845 fk10_14 (mg_0 hm) rfl ?_
                      refine wp_iconst 5 dX10_readNext_86 rfl rfl ?_
                      refine wp_ialoadn 5 dX10_readNext_87 rfl (mg_6 hm) rfl (by decide) (by decide) ?_
                      rw [hP.fr]
                      refine wp_bipush 24 dX10_readNext_88 rfl rfl ?_
                      refine wp_icmp_eq 113 dX10_readNext_90 rfl rfl (fun c90 => ?_) (fun c90 => ?_)
                      · refine wp_aload_0 dX10_readNext_113 rfl ?_
                        refine wp_iconst 3 dX10_readNext_114 rfl rfl ?_
                        refine wp_cvE dX10_readNext_115 rfl q2043 mv_X10_errs (mg_0 hm) rfl rfl (m_errs hm hP (by decide)) rfl rfl (Nat.le_of_ble_eq_true rfl) (Nat.le_of_ble_eq_true rfl) (fun h1 hq => ?_)
                        obtain ⟨S9, rfl, hk9, hP9⟩ := hq
                        refine wp_aload_0 dX10_readNext_118 rfl ?_
                        refine wp_cvR dX10_readNext_119 rfl q2016 mv_X10_good (mg_0 hm) rfl rfl (m_good hm) rfl rfl (Nat.le_of_ble_eq_true rfl) (Nat.le_of_ble_eq_true rfl) ?_
                        refine wp_ifne_b 126 dX10_readNext_122 rfl rfl (fun c122 => ?_) (fun c122 => ?_)
                        · exact absurd c122 (by rw [(show PI T N S9 (.inl (3, nI (lFr x.1))) from hP9).bad]; decide)
                        · exact wp_return dX10_readNext_125 rfl ⟨rfl, S9, rfl, hk9, by rw [show pLin T N (.inr x) = .inl (3, nI (lFr x.1)) from (if_neg (by rw [e12]; decide)).trans ((if_neg (by rw [e11]; decide)).trans ((if_pos (Or.inr (Or.inr e16))).trans (if_pos c90)))]; exact hP9⟩
                      · have hlt : nW x.2 5 < 24 := Nat.lt_of_le_of_ne hs.nc.2 (fun q => c90 (by rw [hs.nc.1, q]; rfl))
                        refine wp_aload_0 dX10_readNext_93 rfl ?_
                        refine wp_ldcS (w := 9) dX10_readNext_94 rfl (List.mem_of_getElem? (i := 35) rfl) ?_
                        refine wp_cvR dX10_readNext_96 rfl q2037 mv_X10_is (mg_0 hm) rfl rfl (m_is hm hP (by decide)) rfl rfl (Nat.le_of_ble_eq_true rfl) (Nat.le_of_ble_eq_true rfl) ?_
                        rw [show pIs T 9 (.inr x) = false from e9]
                        refine wp_if_eq 118 dX10_readNext_99 rfl rfl (fun c99 => ?_) (fun c99 => ?_)
                        · refine wp_aload_0 dX10_readNext_118 rfl ?_
                          refine wp_cvR dX10_readNext_119 rfl q2016 mv_X10_good (mg_0 hm) rfl rfl (m_good hm) rfl rfl (Nat.le_of_ble_eq_true rfl) (Nat.le_of_ble_eq_true rfl) ?_
                          refine wp_ifne_b 126 dX10_readNext_122 rfl rfl (fun c122 => ?_) (fun c122 => ?_)
                          · refine wp_aload_0 dX10_readNext_126 rfl ?_
                            refine wp_ldcS (w := 12) dX10_readNext_127 rfl (List.mem_of_getElem? (i := 33) rfl) ?_
                            refine wp_cvEi dX10_readNext_129 rfl q2033 mv_X10_takes (mg_0 hm) rfl rfl (m_takes hm hP (by decide)) rfl rfl (Nat.le_of_ble_eq_true rfl) (Nat.le_of_ble_eq_true rfl) (fun h1 hq => ?_)
                            obtain ⟨S1, rfl, hk1, hP1⟩ := hq
                            rw [show pIs T 12 (.inr x) = false from e12]
                            rw [show pTk T N 12 (.inr x) = .inr x from if_neg (by rw [show pIs T 12 (.inr x) = false from e12]; decide)] at hP1
                            refine wp_if_eq 142 dX10_readNext_132 rfl rfl (fun c132 => ?_) (fun c132 => ?_)
                            · refine wp_aload_0 dX10_readNext_142 rfl ?_
                              refine wp_ldcS (w := 11) dX10_readNext_143 rfl (List.mem_of_getElem? (i := 34) rfl) ?_
                              refine wp_cvEi dX10_readNext_145 rfl q2033 mv_X10_takes (mg_0 hm) rfl rfl (m_takes hm hP1 (by decide)) rfl rfl (Nat.le_of_ble_eq_true rfl) (Nat.le_of_ble_eq_true rfl) (fun h1 hq => ?_)
                              obtain ⟨S2, rfl, hk2, hP2⟩ := hq
                              rw [show pIs T 11 (.inr x) = false from e11]
                              rw [show pTk T N 11 (.inr x) = .inr x from if_neg (by rw [show pIs T 11 (.inr x) = false from e11]; decide)] at hP2
                              refine wp_if_eq 158 dX10_readNext_148 rfl rfl (fun c148 => ?_) (fun c148 => ?_)
                              · refine wp_aload_0 dX10_readNext_158 rfl ?_
                                refine wp_ldcS (w := 3) dX10_readNext_159 rfl (List.mem_of_getElem? (i := 30) rfl) ?_
                                refine wp_cvEi dX10_readNext_161 rfl q2033 mv_X10_takes (mg_0 hm) rfl rfl (m_takes hm hP2 (by decide)) rfl rfl (Nat.le_of_ble_eq_true rfl) (Nat.le_of_ble_eq_true rfl) (fun h1 hq => ?_)
                                obtain ⟨S3, rfl, hk3, hP3⟩ := hq
                                rw [show pIs T 3 (.inr x) = false from e3]
                                rw [show pTk T N 3 (.inr x) = .inr x from if_neg (by rw [show pIs T 3 (.inr x) = false from e3]; decide)] at hP3
                                refine wp_if_eq 176 dX10_readNext_164 rfl rfl (fun c164 => ?_) (fun c164 => ?_)
                                · refine wp_aload_0 dX10_readNext_176 rfl ?_
                                  refine wp_ldcS (w := 10) dX10_readNext_177 rfl (List.mem_of_getElem? (i := 31) rfl) ?_
                                  refine wp_cvEi dX10_readNext_179 rfl q2033 mv_X10_takes (mg_0 hm) rfl rfl (m_takes hm hP3 (by decide)) rfl rfl (Nat.le_of_ble_eq_true rfl) (Nat.le_of_ble_eq_true rfl) (fun h1 hq => ?_)
                                  obtain ⟨S4, rfl, hk4, hP4⟩ := hq
                                  rw [show pIs T 10 (.inr x) = false from e10]
                                  rw [show pTk T N 10 (.inr x) = .inr x from if_neg (by rw [show pIs T 10 (.inr x) = false from e10]; decide)] at hP4
                                  refine wp_if_eq 194 dX10_readNext_182 rfl rfl (fun c182 => ?_) (fun c182 => ?_)
                                  · refine wp_aload_0 dX10_readNext_194 rfl ?_
                                    refine wp_ldcS (w := 16) dX10_readNext_195 rfl (List.mem_of_getElem? (i := 32) rfl) ?_
                                    refine wp_cvEi dX10_readNext_197 rfl q2033 mv_X10_takes (mg_0 hm) rfl rfl (m_takes hm hP4 (by decide)) rfl rfl (Nat.le_of_ble_eq_true rfl) (Nat.le_of_ble_eq_true rfl) (fun h1 hq => ?_)
                                    obtain ⟨S5, rfl, hk5, hP5⟩ := hq
                                    rw [show pIs T 16 (.inr x) = true from e16]
                                    rw [show pTk T N 16 (.inr x) = pGo T N x.1 x.2 from if_pos e16] at hP5
                                    refine wp_if_eq 212 dX10_readNext_200 rfl rfl (fun c200 => ?_) (fun c200 => ?_)
                                    · exact absurd c200 (by decide)
                                    · refine wp_aload_0 dX10_readNext_203 rfl ?_
                                      refine wp_iconst 0 dX10_readNext_204 rfl rfl ?_
                                      refine wp_iconst 1 dX10_readNext_205 rfl rfl ?_
                                      refine wp_cvE dX10_readNext_206 rfl q2095 mv_X10_readComing (mg_0 hm) rfl rfl (m_readComing (red := false) (tw := true) hm hP5 hs hlt) rfl rfl (Nat.le_of_ble_eq_true rfl) (Nat.le_of_ble_eq_true rfl) (fun h1 hq => ?_)
                                      obtain ⟨S6, rfl, hk6, hP6⟩ := hq
                                      refine wp_goto 263 dX10_readNext_209 rfl rfl ?_
                                      exact wp_return dX10_readNext_263 rfl ⟨rfl, S6, rfl, (((((hk1.tr hk2).tr hk3).tr hk4).tr hk5).tr hk6), by rw [show pLin T N (.inr x) = pCom T N (isB T 10 x.1) (isB T 16 x.1) (pGo T N x.1 x.2) from (if_neg (by rw [e12]; decide)).trans ((if_neg (by rw [e11]; decide)).trans ((if_pos (Or.inr (Or.inr e16))).trans (if_neg c90))), e10, e16]; exact hP6⟩
                                  · exact absurd (by decide) c182
                                · exact absurd (by decide) c164
                              · exact absurd (by decide) c148
                            · exact absurd (by decide) c132
                          · exact absurd c122 (by rw [hP.ok]; decide)
                        · exact absurd (by decide) c99
                  · exact absurd c34 (by decide)
          · rw [Bool.not_eq_true] at e16
            by_cases e9 : isB T 9 x.1 = true
            · have e13 := isB_f (w' := 13) e9 (by decide) (by decide) (by decide)
              refine wp_aload_0 dX10_readNext_0 rfl ?_
              refine wp_ldcS (w := 3) dX10_readNext_1 rfl (List.mem_of_getElem? (i := 30) rfl) ?_
              refine wp_cvR dX10_readNext_3 rfl q2037 mv_X10_is (mg_0 hm) rfl rfl (m_is hm hP (by decide)) rfl rfl (Nat.le_of_ble_eq_true rfl) (Nat.le_of_ble_eq_true rfl) ?_
              rw [show pIs T 3 (.inr x) = false from e3]
              refine wp_if_ne 27 dX10_readNext_6 rfl rfl (fun c6 => ?_) (fun c6 => ?_)
              · exact absurd (by decide) c6
              · refine wp_aload_0 dX10_readNext_9 rfl ?_
                refine wp_ldcS (w := 10) dX10_readNext_10 rfl (List.mem_of_getElem? (i := 31) rfl) ?_
                refine wp_cvR dX10_readNext_12 rfl q2037 mv_X10_is (mg_0 hm) rfl rfl (m_is hm hP (by decide)) rfl rfl (Nat.le_of_ble_eq_true rfl) (Nat.le_of_ble_eq_true rfl) ?_
                rw [show pIs T 10 (.inr x) = false from e10]
                refine wp_if_ne 27 dX10_readNext_15 rfl rfl (fun c15 => ?_) (fun c15 => ?_)
                · exact absurd (by decide) c15
                · refine wp_aload_0 dX10_readNext_18 rfl ?_
                  refine wp_ldcS (w := 16) dX10_readNext_19 rfl (List.mem_of_getElem? (i := 32) rfl) ?_
                  refine wp_cvR dX10_readNext_21 rfl q2037 mv_X10_is (mg_0 hm) rfl rfl (m_is hm hP (by decide)) rfl rfl (Nat.le_of_ble_eq_true rfl) (Nat.le_of_ble_eq_true rfl) ?_
                  rw [show pIs T 16 (.inr x) = false from e16]
                  refine wp_if_eq 31 dX10_readNext_24 rfl rfl (fun c24 => ?_) (fun c24 => ?_)
                  · refine wp_iconst 0 dX10_readNext_31 rfl rfl ?_
                    refine wp_istore_1 dX10_readNext_32 rfl (by decide) rfl ?_
                    refine wp_iload_1 dX10_readNext_33 rfl ?_
                    refine wp_if_ne 78 dX10_readNext_34 rfl rfl (fun c34 => ?_) (fun c34 => ?_)
                    · exact absurd (by decide) c34
                    · refine wp_aload_0 dX10_readNext_37 rfl ?_
                      refine wp_ldcS (w := 12) dX10_readNext_38 rfl (List.mem_of_getElem? (i := 33) rfl) ?_
                      refine wp_cvR dX10_readNext_40 rfl q2037 mv_X10_is (mg_0 hm) rfl rfl (m_is hm hP (by decide)) rfl rfl (Nat.le_of_ble_eq_true rfl) (Nat.le_of_ble_eq_true rfl) ?_
                      rw [show pIs T 12 (.inr x) = false from e12]
                      refine wp_if_ne 78 dX10_readNext_43 rfl rfl (fun c43 => ?_) (fun c43 => ?_)
                      · exact absurd (by decide) c43
                      · refine wp_aload_0 dX10_readNext_46 rfl ?_
                        refine wp_ldcS (w := 11) dX10_readNext_47 rfl (List.mem_of_getElem? (i := 34) rfl) ?_
                        refine wp_cvR dX10_readNext_49 rfl q2037 mv_X10_is (mg_0 hm) rfl rfl (m_is hm hP (by decide)) rfl rfl (Nat.le_of_ble_eq_true rfl) (Nat.le_of_ble_eq_true rfl) ?_
                        rw [show pIs T 11 (.inr x) = false from e11]
                        refine wp_if_ne 78 dX10_readNext_52 rfl rfl (fun c52 => ?_) (fun c52 => ?_)
                        · exact absurd (by decide) c52
                        · refine wp_aload_0 dX10_readNext_55 rfl ?_
                          refine wp_ldcS (w := 9) dX10_readNext_56 rfl (List.mem_of_getElem? (i := 35) rfl) ?_
                          refine wp_cvR dX10_readNext_58 rfl q2037 mv_X10_is (mg_0 hm) rfl rfl (m_is hm hP (by decide)) rfl rfl (Nat.le_of_ble_eq_true rfl) (Nat.le_of_ble_eq_true rfl) ?_
                          rw [show pIs T 9 (.inr x) = true from e9]
                          refine wp_if_ne 78 dX10_readNext_61 rfl rfl (fun c61 => ?_) (fun c61 => ?_)
                          · refine wp_iload_1 dX10_readNext_78 rfl ?_
                            refine wp_if_eq 93 dX10_readNext_79 rfl rfl (fun c79 => ?_) (fun c79 => ?_)
                            · refine wp_aload_0 dX10_readNext_93 rfl ?_
                              refine wp_ldcS (w := 9) dX10_readNext_94 rfl (List.mem_of_getElem? (i := 35) rfl) ?_
                              refine wp_cvR dX10_readNext_96 rfl q2037 mv_X10_is (mg_0 hm) rfl rfl (m_is hm hP (by decide)) rfl rfl (Nat.le_of_ble_eq_true rfl) (Nat.le_of_ble_eq_true rfl) ?_
                              rw [show pIs T 9 (.inr x) = true from e9]
                              refine wp_if_eq 118 dX10_readNext_99 rfl rfl (fun c99 => ?_) (fun c99 => ?_)
                              · exact absurd c99 (by decide)
                              · refine wp_aload_0 dX10_readNext_102 rfl ?_
                                refine wp_getf dX10_readNext_103 rfl q1845 fk10_14 (mg_0 hm) rfl ?_
                                refine wp_bipush 6 dX10_readNext_106 rfl rfl ?_
                                refine wp_ialoadn 6 dX10_readNext_108 rfl (mg_6 hm) rfl (by decide) (by decide) ?_
                                rw [hP.fr]
                                refine wp_iconst 4 dX10_readNext_109 rfl rfl ?_
                                refine wp_icmp_ne 118 dX10_readNext_110 rfl rfl (fun c110 => ?_) (fun c110 => ?_)
                                · have hlt : nW x.2 6 < 4 := Nat.lt_of_le_of_ne hs.np.2 (fun q => c110 (by rw [hs.np.1, q]; rfl))
                                  refine wp_aload_0 dX10_readNext_118 rfl ?_
                                  refine wp_cvR dX10_readNext_119 rfl q2016 mv_X10_good (mg_0 hm) rfl rfl (m_good hm) rfl rfl (Nat.le_of_ble_eq_true rfl) (Nat.le_of_ble_eq_true rfl) ?_
                                  refine wp_ifne_b 126 dX10_readNext_122 rfl rfl (fun c122 => ?_) (fun c122 => ?_)
                                  · refine wp_aload_0 dX10_readNext_126 rfl ?_
                                    refine wp_ldcS (w := 12) dX10_readNext_127 rfl (List.mem_of_getElem? (i := 33) rfl) ?_
                                    refine wp_cvEi dX10_readNext_129 rfl q2033 mv_X10_takes (mg_0 hm) rfl rfl (m_takes hm hP (by decide)) rfl rfl (Nat.le_of_ble_eq_true rfl) (Nat.le_of_ble_eq_true rfl) (fun h1 hq => ?_)
                                    obtain ⟨S1, rfl, hk1, hP1⟩ := hq
                                    rw [show pIs T 12 (.inr x) = false from e12]
                                    rw [show pTk T N 12 (.inr x) = .inr x from if_neg (by rw [show pIs T 12 (.inr x) = false from e12]; decide)] at hP1
                                    refine wp_if_eq 142 dX10_readNext_132 rfl rfl (fun c132 => ?_) (fun c132 => ?_)
                                    · refine wp_aload_0 dX10_readNext_142 rfl ?_
                                      refine wp_ldcS (w := 11) dX10_readNext_143 rfl (List.mem_of_getElem? (i := 34) rfl) ?_
                                      refine wp_cvEi dX10_readNext_145 rfl q2033 mv_X10_takes (mg_0 hm) rfl rfl (m_takes hm hP1 (by decide)) rfl rfl (Nat.le_of_ble_eq_true rfl) (Nat.le_of_ble_eq_true rfl) (fun h1 hq => ?_)
                                      obtain ⟨S2, rfl, hk2, hP2⟩ := hq
                                      rw [show pIs T 11 (.inr x) = false from e11]
                                      rw [show pTk T N 11 (.inr x) = .inr x from if_neg (by rw [show pIs T 11 (.inr x) = false from e11]; decide)] at hP2
                                      refine wp_if_eq 158 dX10_readNext_148 rfl rfl (fun c148 => ?_) (fun c148 => ?_)
                                      · refine wp_aload_0 dX10_readNext_158 rfl ?_
                                        refine wp_ldcS (w := 3) dX10_readNext_159 rfl (List.mem_of_getElem? (i := 30) rfl) ?_
                                        refine wp_cvEi dX10_readNext_161 rfl q2033 mv_X10_takes (mg_0 hm) rfl rfl (m_takes hm hP2 (by decide)) rfl rfl (Nat.le_of_ble_eq_true rfl) (Nat.le_of_ble_eq_true rfl) (fun h1 hq => ?_)
                                        obtain ⟨S3, rfl, hk3, hP3⟩ := hq
                                        rw [show pIs T 3 (.inr x) = false from e3]
                                        rw [show pTk T N 3 (.inr x) = .inr x from if_neg (by rw [show pIs T 3 (.inr x) = false from e3]; decide)] at hP3
                                        refine wp_if_eq 176 dX10_readNext_164 rfl rfl (fun c164 => ?_) (fun c164 => ?_)
                                        · refine wp_aload_0 dX10_readNext_176 rfl ?_
                                          refine wp_ldcS (w := 10) dX10_readNext_177 rfl (List.mem_of_getElem? (i := 31) rfl) ?_
                                          refine wp_cvEi dX10_readNext_179 rfl q2033 mv_X10_takes (mg_0 hm) rfl rfl (m_takes hm hP3 (by decide)) rfl rfl (Nat.le_of_ble_eq_true rfl) (Nat.le_of_ble_eq_true rfl) (fun h1 hq => ?_)
                                          obtain ⟨S4, rfl, hk4, hP4⟩ := hq
                                          rw [show pIs T 10 (.inr x) = false from e10]
                                          rw [show pTk T N 10 (.inr x) = .inr x from if_neg (by rw [show pIs T 10 (.inr x) = false from e10]; decide)] at hP4
                                          refine wp_if_eq 194 dX10_readNext_182 rfl rfl (fun c182 => ?_) (fun c182 => ?_)
                                          · refine wp_aload_0 dX10_readNext_194 rfl ?_
                                            refine wp_ldcS (w := 16) dX10_readNext_195 rfl (List.mem_of_getElem? (i := 32) rfl) ?_
                                            refine wp_cvEi dX10_readNext_197 rfl q2033 mv_X10_takes (mg_0 hm) rfl rfl (m_takes hm hP4 (by decide)) rfl rfl (Nat.le_of_ble_eq_true rfl) (Nat.le_of_ble_eq_true rfl) (fun h1 hq => ?_)
                                            obtain ⟨S5, rfl, hk5, hP5⟩ := hq
                                            rw [show pIs T 16 (.inr x) = false from e16]
                                            rw [show pTk T N 16 (.inr x) = .inr x from if_neg (by rw [show pIs T 16 (.inr x) = false from e16]; decide)] at hP5
                                            refine wp_if_eq 212 dX10_readNext_200 rfl rfl (fun c200 => ?_) (fun c200 => ?_)
                                            · refine wp_aload_0 dX10_readNext_212 rfl ?_
                                              refine wp_ldcS (w := 9) dX10_readNext_213 rfl (List.mem_of_getElem? (i := 35) rfl) ?_
                                              refine wp_cvEi dX10_readNext_215 rfl q2033 mv_X10_takes (mg_0 hm) rfl rfl (m_takes hm hP5 (by decide)) rfl rfl (Nat.le_of_ble_eq_true rfl) (Nat.le_of_ble_eq_true rfl) (fun h1 hq => ?_)
                                              obtain ⟨S6, rfl, hk6, hP6⟩ := hq
                                              rw [show pIs T 9 (.inr x) = true from e9]
                                              rw [show pTk T N 9 (.inr x) = pGo T N x.1 x.2 from if_pos e9] at hP6
                                              refine wp_if_eq 228 dX10_readNext_218 rfl rfl (fun c218 => ?_) (fun c218 => ?_)
                                              · exact absurd c218 (by decide)
                                              · refine wp_aload_0 dX10_readNext_221 rfl ?_
                                                refine wp_cvE dX10_readNext_222 rfl q2103 mv_X10_readPlayer (mg_0 hm) rfl rfl (m_readPlayer hm hP6 hs.np.1 hlt) rfl rfl (Nat.le_of_ble_eq_true rfl) (Nat.le_of_ble_eq_true rfl) (fun h1 hq => ?_)
                                                obtain ⟨S7, rfl, hk7, hP7⟩ := hq
                                                refine wp_goto 263 dX10_readNext_225 rfl rfl ?_
                                                exact wp_return dX10_readNext_263 rfl ⟨rfl, S7, rfl, ((((((hk1.tr hk2).tr hk3).tr hk4).tr hk5).tr hk6).tr hk7), by rw [show pLin T N (.inr x) = pPla T N (nW x.2 6) (pGo T N x.1 x.2) from (if_neg (by rw [e12]; decide)).trans ((if_neg (by rw [e11]; decide)).trans ((if_neg (by rw [e3, e10, e16]; decide)).trans ((if_pos e9).trans (if_neg c110))))]; exact hP7⟩
                                            · exact absurd (by decide) c200
                                          · exact absurd (by decide) c182
                                        · exact absurd (by decide) c164
                                      · exact absurd (by decide) c148
                                    · exact absurd (by decide) c132
                                  · exact absurd c122 (by rw [hP.ok]; decide)
                                · refine wp_aload_0 dX10_readNext_113 rfl ?_
                                  refine wp_iconst 3 dX10_readNext_114 rfl rfl ?_
                                  refine wp_cvE dX10_readNext_115 rfl q2043 mv_X10_errs (mg_0 hm) rfl rfl (m_errs hm hP (by decide)) rfl rfl (Nat.le_of_ble_eq_true rfl) (Nat.le_of_ble_eq_true rfl) (fun h1 hq => ?_)
                                  obtain ⟨S9, rfl, hk9, hP9⟩ := hq
                                  refine wp_aload_0 dX10_readNext_118 rfl ?_
                                  refine wp_cvR dX10_readNext_119 rfl q2016 mv_X10_good (mg_0 hm) rfl rfl (m_good hm) rfl rfl (Nat.le_of_ble_eq_true rfl) (Nat.le_of_ble_eq_true rfl) ?_
                                  refine wp_ifne_b 126 dX10_readNext_122 rfl rfl (fun c122 => ?_) (fun c122 => ?_)
                                  · exact absurd c122 (by rw [(show PI T N S9 (.inl (3, nI (lFr x.1))) from hP9).bad]; decide)
                                  · exact wp_return dX10_readNext_125 rfl ⟨rfl, S9, rfl, hk9, by rw [show pLin T N (.inr x) = .inl (3, nI (lFr x.1)) from (if_neg (by rw [e12]; decide)).trans ((if_neg (by rw [e11]; decide)).trans ((if_neg (by rw [e3, e10, e16]; decide)).trans ((if_pos e9).trans (if_pos c110))))]; exact hP9⟩
                            · exact absurd (by decide) c79
                          · exact absurd c61 (by decide)
                  · exact absurd (by decide) c24
            · rw [Bool.not_eq_true] at e9
              by_cases e13 : isB T 13 x.1 = true
              · refine wp_aload_0 dX10_readNext_0 rfl ?_
                refine wp_ldcS (w := 3) dX10_readNext_1 rfl (List.mem_of_getElem? (i := 30) rfl) ?_
                refine wp_cvR dX10_readNext_3 rfl q2037 mv_X10_is (mg_0 hm) rfl rfl (m_is hm hP (by decide)) rfl rfl (Nat.le_of_ble_eq_true rfl) (Nat.le_of_ble_eq_true rfl) ?_
                rw [show pIs T 3 (.inr x) = false from e3]
                refine wp_if_ne 27 dX10_readNext_6 rfl rfl (fun c6 => ?_) (fun c6 => ?_)
                · exact absurd (by decide) c6
                · refine wp_aload_0 dX10_readNext_9 rfl ?_
                  refine wp_ldcS (w := 10) dX10_readNext_10 rfl (List.mem_of_getElem? (i := 31) rfl) ?_
                  refine wp_cvR dX10_readNext_12 rfl q2037 mv_X10_is (mg_0 hm) rfl rfl (m_is hm hP (by decide)) rfl rfl (Nat.le_of_ble_eq_true rfl) (Nat.le_of_ble_eq_true rfl) ?_
                  rw [show pIs T 10 (.inr x) = false from e10]
                  refine wp_if_ne 27 dX10_readNext_15 rfl rfl (fun c15 => ?_) (fun c15 => ?_)
                  · exact absurd (by decide) c15
                  · refine wp_aload_0 dX10_readNext_18 rfl ?_
                    refine wp_ldcS (w := 16) dX10_readNext_19 rfl (List.mem_of_getElem? (i := 32) rfl) ?_
                    refine wp_cvR dX10_readNext_21 rfl q2037 mv_X10_is (mg_0 hm) rfl rfl (m_is hm hP (by decide)) rfl rfl (Nat.le_of_ble_eq_true rfl) (Nat.le_of_ble_eq_true rfl) ?_
                    rw [show pIs T 16 (.inr x) = false from e16]
                    refine wp_if_eq 31 dX10_readNext_24 rfl rfl (fun c24 => ?_) (fun c24 => ?_)
                    · refine wp_iconst 0 dX10_readNext_31 rfl rfl ?_
                      refine wp_istore_1 dX10_readNext_32 rfl (by decide) rfl ?_
                      refine wp_iload_1 dX10_readNext_33 rfl ?_
                      refine wp_if_ne 78 dX10_readNext_34 rfl rfl (fun c34 => ?_) (fun c34 => ?_)
                      · exact absurd (by decide) c34
                      · refine wp_aload_0 dX10_readNext_37 rfl ?_
                        refine wp_ldcS (w := 12) dX10_readNext_38 rfl (List.mem_of_getElem? (i := 33) rfl) ?_
                        refine wp_cvR dX10_readNext_40 rfl q2037 mv_X10_is (mg_0 hm) rfl rfl (m_is hm hP (by decide)) rfl rfl (Nat.le_of_ble_eq_true rfl) (Nat.le_of_ble_eq_true rfl) ?_
                        rw [show pIs T 12 (.inr x) = false from e12]
                        refine wp_if_ne 78 dX10_readNext_43 rfl rfl (fun c43 => ?_) (fun c43 => ?_)
                        · exact absurd (by decide) c43
                        · refine wp_aload_0 dX10_readNext_46 rfl ?_
                          refine wp_ldcS (w := 11) dX10_readNext_47 rfl (List.mem_of_getElem? (i := 34) rfl) ?_
                          refine wp_cvR dX10_readNext_49 rfl q2037 mv_X10_is (mg_0 hm) rfl rfl (m_is hm hP (by decide)) rfl rfl (Nat.le_of_ble_eq_true rfl) (Nat.le_of_ble_eq_true rfl) ?_
                          rw [show pIs T 11 (.inr x) = false from e11]
                          refine wp_if_ne 78 dX10_readNext_52 rfl rfl (fun c52 => ?_) (fun c52 => ?_)
                          · exact absurd (by decide) c52
                          · refine wp_aload_0 dX10_readNext_55 rfl ?_
                            refine wp_ldcS (w := 9) dX10_readNext_56 rfl (List.mem_of_getElem? (i := 35) rfl) ?_
                            refine wp_cvR dX10_readNext_58 rfl q2037 mv_X10_is (mg_0 hm) rfl rfl (m_is hm hP (by decide)) rfl rfl (Nat.le_of_ble_eq_true rfl) (Nat.le_of_ble_eq_true rfl) ?_
                            rw [show pIs T 9 (.inr x) = false from e9]
                            refine wp_if_ne 78 dX10_readNext_61 rfl rfl (fun c61 => ?_) (fun c61 => ?_)
                            · exact absurd (by decide) c61
                            · refine wp_aload_0 dX10_readNext_64 rfl ?_
                              refine wp_ldcS (w := 13) dX10_readNext_65 rfl (List.mem_of_getElem? (i := 36) rfl) ?_
                              refine wp_cvR dX10_readNext_67 rfl q2037 mv_X10_is (mg_0 hm) rfl rfl (m_is hm hP (by decide)) rfl rfl (Nat.le_of_ble_eq_true rfl) (Nat.le_of_ble_eq_true rfl) ?_
                              rw [show pIs T 13 (.inr x) = true from e13]
                              refine wp_if_ne 78 dX10_readNext_70 rfl rfl (fun c70 => ?_) (fun c70 => ?_)
                              · refine wp_iload_1 dX10_readNext_78 rfl ?_
                                refine wp_if_eq 93 dX10_readNext_79 rfl rfl (fun c79 => ?_) (fun c79 => ?_)
                                · refine wp_aload_0 dX10_readNext_93 rfl ?_
                                  refine wp_ldcS (w := 9) dX10_readNext_94 rfl (List.mem_of_getElem? (i := 35) rfl) ?_
                                  refine wp_cvR dX10_readNext_96 rfl q2037 mv_X10_is (mg_0 hm) rfl rfl (m_is hm hP (by decide)) rfl rfl (Nat.le_of_ble_eq_true rfl) (Nat.le_of_ble_eq_true rfl) ?_
                                  rw [show pIs T 9 (.inr x) = false from e9]
                                  refine wp_if_eq 118 dX10_readNext_99 rfl rfl (fun c99 => ?_) (fun c99 => ?_)
                                  · refine wp_aload_0 dX10_readNext_118 rfl ?_
                                    refine wp_cvR dX10_readNext_119 rfl q2016 mv_X10_good (mg_0 hm) rfl rfl (m_good hm) rfl rfl (Nat.le_of_ble_eq_true rfl) (Nat.le_of_ble_eq_true rfl) ?_
                                    refine wp_ifne_b 126 dX10_readNext_122 rfl rfl (fun c122 => ?_) (fun c122 => ?_)
                                    · refine wp_aload_0 dX10_readNext_126 rfl ?_
                                      refine wp_ldcS (w := 12) dX10_readNext_127 rfl (List.mem_of_getElem? (i := 33) rfl) ?_
                                      refine wp_cvEi dX10_readNext_129 rfl q2033 mv_X10_takes (mg_0 hm) rfl rfl (m_takes hm hP (by decide)) rfl rfl (Nat.le_of_ble_eq_true rfl) (Nat.le_of_ble_eq_true rfl) (fun h1 hq => ?_)
                                      obtain ⟨S1, rfl, hk1, hP1⟩ := hq
                                      rw [show pIs T 12 (.inr x) = false from e12]
                                      rw [show pTk T N 12 (.inr x) = .inr x from if_neg (by rw [show pIs T 12 (.inr x) = false from e12]; decide)] at hP1
                                      refine wp_if_eq 142 dX10_readNext_132 rfl rfl (fun c132 => ?_) (fun c132 => ?_)
                                      · refine wp_aload_0 dX10_readNext_142 rfl ?_
                                        refine wp_ldcS (w := 11) dX10_readNext_143 rfl (List.mem_of_getElem? (i := 34) rfl) ?_
                                        refine wp_cvEi dX10_readNext_145 rfl q2033 mv_X10_takes (mg_0 hm) rfl rfl (m_takes hm hP1 (by decide)) rfl rfl (Nat.le_of_ble_eq_true rfl) (Nat.le_of_ble_eq_true rfl) (fun h1 hq => ?_)
                                        obtain ⟨S2, rfl, hk2, hP2⟩ := hq
                                        rw [show pIs T 11 (.inr x) = false from e11]
                                        rw [show pTk T N 11 (.inr x) = .inr x from if_neg (by rw [show pIs T 11 (.inr x) = false from e11]; decide)] at hP2
                                        refine wp_if_eq 158 dX10_readNext_148 rfl rfl (fun c148 => ?_) (fun c148 => ?_)
                                        · refine wp_aload_0 dX10_readNext_158 rfl ?_
                                          refine wp_ldcS (w := 3) dX10_readNext_159 rfl (List.mem_of_getElem? (i := 30) rfl) ?_
                                          refine wp_cvEi dX10_readNext_161 rfl q2033 mv_X10_takes (mg_0 hm) rfl rfl (m_takes hm hP2 (by decide)) rfl rfl (Nat.le_of_ble_eq_true rfl) (Nat.le_of_ble_eq_true rfl) (fun h1 hq => ?_)
                                          obtain ⟨S3, rfl, hk3, hP3⟩ := hq
                                          rw [show pIs T 3 (.inr x) = false from e3]
                                          rw [show pTk T N 3 (.inr x) = .inr x from if_neg (by rw [show pIs T 3 (.inr x) = false from e3]; decide)] at hP3
                                          refine wp_if_eq 176 dX10_readNext_164 rfl rfl (fun c164 => ?_) (fun c164 => ?_)
                                          · refine wp_aload_0 dX10_readNext_176 rfl ?_
                                            refine wp_ldcS (w := 10) dX10_readNext_177 rfl (List.mem_of_getElem? (i := 31) rfl) ?_
                                            refine wp_cvEi dX10_readNext_179 rfl q2033 mv_X10_takes (mg_0 hm) rfl rfl (m_takes hm hP3 (by decide)) rfl rfl (Nat.le_of_ble_eq_true rfl) (Nat.le_of_ble_eq_true rfl) (fun h1 hq => ?_)
                                            obtain ⟨S4, rfl, hk4, hP4⟩ := hq
                                            rw [show pIs T 10 (.inr x) = false from e10]
                                            rw [show pTk T N 10 (.inr x) = .inr x from if_neg (by rw [show pIs T 10 (.inr x) = false from e10]; decide)] at hP4
                                            refine wp_if_eq 194 dX10_readNext_182 rfl rfl (fun c182 => ?_) (fun c182 => ?_)
                                            · refine wp_aload_0 dX10_readNext_194 rfl ?_
                                              refine wp_ldcS (w := 16) dX10_readNext_195 rfl (List.mem_of_getElem? (i := 32) rfl) ?_
                                              refine wp_cvEi dX10_readNext_197 rfl q2033 mv_X10_takes (mg_0 hm) rfl rfl (m_takes hm hP4 (by decide)) rfl rfl (Nat.le_of_ble_eq_true rfl) (Nat.le_of_ble_eq_true rfl) (fun h1 hq => ?_)
                                              obtain ⟨S5, rfl, hk5, hP5⟩ := hq
                                              rw [show pIs T 16 (.inr x) = false from e16]
                                              rw [show pTk T N 16 (.inr x) = .inr x from if_neg (by rw [show pIs T 16 (.inr x) = false from e16]; decide)] at hP5
                                              refine wp_if_eq 212 dX10_readNext_200 rfl rfl (fun c200 => ?_) (fun c200 => ?_)
                                              · refine wp_aload_0 dX10_readNext_212 rfl ?_
                                                refine wp_ldcS (w := 9) dX10_readNext_213 rfl (List.mem_of_getElem? (i := 35) rfl) ?_
                                                refine wp_cvEi dX10_readNext_215 rfl q2033 mv_X10_takes (mg_0 hm) rfl rfl (m_takes hm hP5 (by decide)) rfl rfl (Nat.le_of_ble_eq_true rfl) (Nat.le_of_ble_eq_true rfl) (fun h1 hq => ?_)
                                                obtain ⟨S6, rfl, hk6, hP6⟩ := hq
                                                rw [show pIs T 9 (.inr x) = false from e9]
                                                rw [show pTk T N 9 (.inr x) = .inr x from if_neg (by rw [show pIs T 9 (.inr x) = false from e9]; decide)] at hP6
                                                refine wp_if_eq 228 dX10_readNext_218 rfl rfl (fun c218 => ?_) (fun c218 => ?_)
                                                · refine wp_aload_0 dX10_readNext_228 rfl ?_
                                                  refine wp_cvE dX10_readNext_229 rfl q2002 mv_X10_advance (mg_0 hm) rfl rfl (m_advance hm hP6.1.1 hP6.1.2.1 hP6.1.2.2 hP6.ls.1 hP6.bd.2.1) rfl rfl (Nat.le_of_ble_eq_true rfl) (Nat.le_of_ble_eq_true rfl) (fun h1 hq => ?_)
                                                  obtain ⟨S7, rfl, hk7, hl7⟩ := hq
                                                  have hP7 := hP6.go hk7 hl7
                                                  refine wp_aload_0 dX10_readNext_232 rfl ?_
                                                  refine wp_getf dX10_readNext_233 rfl q1845 fk10_14 (mg_0 hm) rfl ?_
                                                  refine wp_bipush 10 dX10_readNext_236 rfl rfl ?_
                                                  refine wp_aload_0 dX10_readNext_238 rfl ?_
                                                  refine wp_iconst 1 dX10_readNext_239 rfl rfl ?_
                                                  refine wp_bipush 99 dX10_readNext_240 rfl rfl ?_
                                                  refine wp_cvEi dX10_readNext_242 rfl q2052 mv_X10_number (mg_0 hm) rfl rfl (m_number hm hP7) rfl rfl (Nat.le_of_ble_eq_true rfl) (Nat.le_of_ble_eq_true rfl) (fun h1 hq => ?_)
                                                  obtain ⟨S8, rfl, hk8, hP8⟩ := hq
                                                  refine wp_iastoren 10 dX10_readNext_245 rfl (mg_6 hm) rfl (by decide) (by decide) (ms_A6 hm) ?_
                                                  refine wp_aload_0 dX10_readNext_246 rfl ?_
                                                  refine wp_getf dX10_readNext_247 rfl q1845 fk10_14 (mg_0 hm) rfl ?_
                                                  refine wp_bipush 11 dX10_readNext_250 rfl rfl ?_
                                                  refine wp_aload_0 dX10_readNext_252 rfl ?_
                                                  refine wp_ldcS (w := 1) dX10_readNext_253 rfl (List.mem_of_getElem? (i := 37) rfl) ?_
                                                  refine wp_iconst 1 dX10_readNext_255 rfl rfl ?_
                                                  refine wp_sipush 500 dX10_readNext_256 rfl rfl ?_
                                                  refine wp_cvEi dX10_readNext_259 rfl q2048 mv_X10_told (mg_0 hm) rfl rfl (m_told hm (hP8.st 10 _) (by decide)) rfl rfl (Nat.le_of_ble_eq_true rfl) (Nat.le_of_ble_eq_true rfl) (fun h1 hq => ?_)
                                                  obtain ⟨S10, rfl, hk10, hP10⟩ := hq
                                                  refine wp_iastoren 11 dX10_readNext_262 rfl (mg_6 hm) rfl (by decide) (by decide) (ms_A6 hm) ?_
                                                  exact wp_return dX10_readNext_263 rfl ⟨rfl, _, rfl, (((((((((hk1.tr hk2).tr hk3).tr hk4).tr hk5).tr hk6).tr (KR.of hk7 (by decide) (by decide))).tr hk8).s _ _).tr hk10).s _ _, by rw [show pLin T N (.inr x) = pTic T N (pGo T N x.1 x.2) from (if_neg (by rw [e12]; decide)).trans ((if_neg (by rw [e11]; decide)).trans ((if_neg (by rw [e3, e10, e16]; decide)).trans ((if_neg (by rw [e9]; decide)).trans (if_pos e13))))]; exact hP10.st 11 _⟩
                                                · exact absurd (by decide) c218
                                              · exact absurd (by decide) c200
                                            · exact absurd (by decide) c182
                                          · exact absurd (by decide) c164
                                        · exact absurd (by decide) c148
                                      · exact absurd (by decide) c132
                                    · exact absurd c122 (by rw [hP.ok]; decide)
                                  · exact absurd (by decide) c99
                                · exact absurd (by decide) c79
                              · exact absurd c70 (by decide)
                    · exact absurd (by decide) c24
              · rw [Bool.not_eq_true] at e13
                refine wp_aload_0 dX10_readNext_0 rfl ?_
                refine wp_ldcS (w := 3) dX10_readNext_1 rfl (List.mem_of_getElem? (i := 30) rfl) ?_
                refine wp_cvR dX10_readNext_3 rfl q2037 mv_X10_is (mg_0 hm) rfl rfl (m_is hm hP (by decide)) rfl rfl (Nat.le_of_ble_eq_true rfl) (Nat.le_of_ble_eq_true rfl) ?_
                rw [show pIs T 3 (.inr x) = false from e3]
                refine wp_if_ne 27 dX10_readNext_6 rfl rfl (fun c6 => ?_) (fun c6 => ?_)
                · exact absurd (by decide) c6
                · refine wp_aload_0 dX10_readNext_9 rfl ?_
                  refine wp_ldcS (w := 10) dX10_readNext_10 rfl (List.mem_of_getElem? (i := 31) rfl) ?_
                  refine wp_cvR dX10_readNext_12 rfl q2037 mv_X10_is (mg_0 hm) rfl rfl (m_is hm hP (by decide)) rfl rfl (Nat.le_of_ble_eq_true rfl) (Nat.le_of_ble_eq_true rfl) ?_
                  rw [show pIs T 10 (.inr x) = false from e10]
                  refine wp_if_ne 27 dX10_readNext_15 rfl rfl (fun c15 => ?_) (fun c15 => ?_)
                  · exact absurd (by decide) c15
                  · refine wp_aload_0 dX10_readNext_18 rfl ?_
                    refine wp_ldcS (w := 16) dX10_readNext_19 rfl (List.mem_of_getElem? (i := 32) rfl) ?_
                    refine wp_cvR dX10_readNext_21 rfl q2037 mv_X10_is (mg_0 hm) rfl rfl (m_is hm hP (by decide)) rfl rfl (Nat.le_of_ble_eq_true rfl) (Nat.le_of_ble_eq_true rfl) ?_
                    rw [show pIs T 16 (.inr x) = false from e16]
                    refine wp_if_eq 31 dX10_readNext_24 rfl rfl (fun c24 => ?_) (fun c24 => ?_)
                    · refine wp_iconst 0 dX10_readNext_31 rfl rfl ?_
                      refine wp_istore_1 dX10_readNext_32 rfl (by decide) rfl ?_
                      refine wp_iload_1 dX10_readNext_33 rfl ?_
                      refine wp_if_ne 78 dX10_readNext_34 rfl rfl (fun c34 => ?_) (fun c34 => ?_)
                      · exact absurd (by decide) c34
                      · refine wp_aload_0 dX10_readNext_37 rfl ?_
                        refine wp_ldcS (w := 12) dX10_readNext_38 rfl (List.mem_of_getElem? (i := 33) rfl) ?_
                        refine wp_cvR dX10_readNext_40 rfl q2037 mv_X10_is (mg_0 hm) rfl rfl (m_is hm hP (by decide)) rfl rfl (Nat.le_of_ble_eq_true rfl) (Nat.le_of_ble_eq_true rfl) ?_
                        rw [show pIs T 12 (.inr x) = false from e12]
                        refine wp_if_ne 78 dX10_readNext_43 rfl rfl (fun c43 => ?_) (fun c43 => ?_)
                        · exact absurd (by decide) c43
                        · refine wp_aload_0 dX10_readNext_46 rfl ?_
                          refine wp_ldcS (w := 11) dX10_readNext_47 rfl (List.mem_of_getElem? (i := 34) rfl) ?_
                          refine wp_cvR dX10_readNext_49 rfl q2037 mv_X10_is (mg_0 hm) rfl rfl (m_is hm hP (by decide)) rfl rfl (Nat.le_of_ble_eq_true rfl) (Nat.le_of_ble_eq_true rfl) ?_
                          rw [show pIs T 11 (.inr x) = false from e11]
                          refine wp_if_ne 78 dX10_readNext_52 rfl rfl (fun c52 => ?_) (fun c52 => ?_)
                          · exact absurd (by decide) c52
                          · refine wp_aload_0 dX10_readNext_55 rfl ?_
                            refine wp_ldcS (w := 9) dX10_readNext_56 rfl (List.mem_of_getElem? (i := 35) rfl) ?_
                            refine wp_cvR dX10_readNext_58 rfl q2037 mv_X10_is (mg_0 hm) rfl rfl (m_is hm hP (by decide)) rfl rfl (Nat.le_of_ble_eq_true rfl) (Nat.le_of_ble_eq_true rfl) ?_
                            rw [show pIs T 9 (.inr x) = false from e9]
                            refine wp_if_ne 78 dX10_readNext_61 rfl rfl (fun c61 => ?_) (fun c61 => ?_)
                            · exact absurd (by decide) c61
                            · refine wp_aload_0 dX10_readNext_64 rfl ?_
                              refine wp_ldcS (w := 13) dX10_readNext_65 rfl (List.mem_of_getElem? (i := 36) rfl) ?_
                              refine wp_cvR dX10_readNext_67 rfl q2037 mv_X10_is (mg_0 hm) rfl rfl (m_is hm hP (by decide)) rfl rfl (Nat.le_of_ble_eq_true rfl) (Nat.le_of_ble_eq_true rfl) ?_
                              rw [show pIs T 13 (.inr x) = false from e13]
                              refine wp_if_ne 78 dX10_readNext_70 rfl rfl (fun c70 => ?_) (fun c70 => ?_)
                              · exact absurd (by decide) c70
                              · refine wp_aload_0 dX10_readNext_73 rfl ?_
                                refine wp_iconst 1 dX10_readNext_74 rfl rfl ?_
                                refine wp_cvE dX10_readNext_75 rfl q2043 mv_X10_errs (mg_0 hm) rfl rfl (m_errs hm hP (by decide)) rfl rfl (Nat.le_of_ble_eq_true rfl) (Nat.le_of_ble_eq_true rfl) (fun h1 hq => ?_)
                                obtain ⟨S9, rfl, hk9, hP9⟩ := hq
                                refine wp_iload_1 dX10_readNext_78 rfl ?_
                                refine wp_if_eq 93 dX10_readNext_79 rfl rfl (fun c79 => ?_) (fun c79 => ?_)
                                · refine wp_aload_0 dX10_readNext_93 rfl ?_
                                  refine wp_ldcS (w := 9) dX10_readNext_94 rfl (List.mem_of_getElem? (i := 35) rfl) ?_
                                  refine wp_cvR dX10_readNext_96 rfl q2037 mv_X10_is (mg_0 hm) rfl rfl (m_is hm hP9 (by decide)) rfl rfl (Nat.le_of_ble_eq_true rfl) (Nat.le_of_ble_eq_true rfl) ?_
                                  rw [show pIs T 9 (pEr 1 (.inr x)) = false from rfl]
                                  refine wp_if_eq 118 dX10_readNext_99 rfl rfl (fun c99 => ?_) (fun c99 => ?_)
                                  · refine wp_aload_0 dX10_readNext_118 rfl ?_
                                    refine wp_cvR dX10_readNext_119 rfl q2016 mv_X10_good (mg_0 hm) rfl rfl (m_good hm) rfl rfl (Nat.le_of_ble_eq_true rfl) (Nat.le_of_ble_eq_true rfl) ?_
                                    refine wp_ifne_b 126 dX10_readNext_122 rfl rfl (fun c122 => ?_) (fun c122 => ?_)
                                    · exact absurd c122 (by rw [(show PI T N S9 (.inl (1, nI (lFr x.1))) from hP9).bad]; decide)
                                    · exact wp_return dX10_readNext_125 rfl ⟨rfl, S9, rfl, hk9, by rw [show pLin T N (.inr x) = .inl (1, nI (lFr x.1)) from (if_neg (by rw [e12]; decide)).trans ((if_neg (by rw [e11]; decide)).trans ((if_neg (by rw [e3, e10, e16]; decide)).trans ((if_neg (by rw [e9]; decide)).trans (if_neg (by rw [e13]; decide)))))]; exact hP9⟩
                                  · exact absurd (by decide) c99
                                · exact absurd (by decide) c79
                    · exact absurd (by decide) c24
theorem m_readLine {g : GW} {M : Nat} {pre post : AH} {S : SM} (hm : pre.length = M) {T : Nat → Int32} {N : Nat} {x : LX × (Nat → Int32)} (hP : PI T N S (.inr x)) (hs : WFs x.2) : SP g 11 0 0 yX10_readLine cX10_readLine 1 none [.ref M] (mH M pre S post) (fun v h1 => v = none ∧ ∃ S', h1 = mH M pre S' post ∧ KR S S' ∧ PI T N S' (pOne T N (.inr x))) := by
  refine SP.intro [some (.ref M)] (pfn (by decide)) rfl (Nat.le_of_ble_eq_true rfl) ?_
  refine wp_aload_0 dX10_readLine_0 rfl ?_
  refine wp_getf dX10_readLine_1 rfl q1845 fk10_14 (mg_0 hm) rfl ?_
  refine wp_bipush 9 dX10_readLine_4 rfl rfl ?_
  refine wp_ialoadn 9 dX10_readLine_6 rfl (mg_6 hm) rfl (by decide) (by decide) ?_
  rw [hP.fr]
  refine wp_if_ne 17 dX10_readLine_7 rfl rfl (fun c7 => ?_) (fun c7 => ?_)
  · refine wp_aload_0 dX10_readLine_17 rfl ?_
    refine wp_cvE dX10_readLine_18 rfl q2059 mv_X10_readNext (mg_0 hm) rfl rfl (m_readNext hm hP hs) rfl rfl (Nat.le_of_ble_eq_true rfl) (Nat.le_of_ble_eq_true rfl) (fun h1 hq => ?_)
    obtain ⟨S1, rfl, hk1, hP1⟩ := hq
    have ho : pOne T N (.inr x) = pIn 9 (pNx T N (pSem (pLin T N (.inr x)))) := by rw [show pOne T N (.inr x) = pIn 9 (pNx T N (pSem (if x.2 9 = 0 then pFi T N (.inr x) else pLin T N (.inr x)))) from rfl, if_neg c7]
    generalize pLin T N (.inr x) = s9 at *
    rcases s9 with f | y
    · refine wp_aload_0 dX10_readLine_21 rfl ?_
      refine wp_cvR dX10_readLine_22 rfl q2016 mv_X10_good (mg_0 hm) rfl rfl (m_good hm) rfl rfl (Nat.le_of_ble_eq_true rfl) (Nat.le_of_ble_eq_true rfl) ?_
      refine wp_ifeq_b 41 dX10_readLine_25 rfl rfl (fun c25 => ?_) (fun c25 => ?_)
      · refine wp_aload_0 dX10_readLine_41 rfl ?_
        refine wp_cvR dX10_readLine_42 rfl q2016 mv_X10_good (mg_0 hm) rfl rfl (m_good hm) rfl rfl (Nat.le_of_ble_eq_true rfl) (Nat.le_of_ble_eq_true rfl) ?_
        refine wp_ifeq_b 52 dX10_readLine_45 rfl rfl (fun c45 => ?_) (fun c45 => ?_)
        · refine wp_aload_0 dX10_readLine_52 rfl ?_
          refine wp_getf dX10_readLine_53 rfl q1845 fk10_14 (mg_0 hm) rfl ?_
          refine wp_bipush 9 dX10_readLine_56 rfl rfl ?_
          refine wp_dup2 dX10_readLine_58 rfl rfl rfl ?_
          refine wp_ialoadn 9 dX10_readLine_59 rfl (mg_6 hm) rfl (by decide) (by decide) ?_
          refine wp_iconst 1 dX10_readLine_60 rfl rfl ?_
          refine wp_iadd dX10_readLine_61 rfl ?_
          refine wp_iastoren 9 dX10_readLine_62 rfl (mg_6 hm) rfl (by decide) (by decide) (ms_A6 hm) ?_
          exact wp_return dX10_readLine_63 rfl ⟨rfl, _, rfl, hk1.s _ _, by rw [ho]; exact hP1.inc 9⟩
        · exact absurd c45 (by rw [hP1.bad]; decide)
      · exact absurd c25 (by rw [hP1.bad]; decide)
    · refine wp_aload_0 dX10_readLine_21 rfl ?_
      refine wp_cvR dX10_readLine_22 rfl q2016 mv_X10_good (mg_0 hm) rfl rfl (m_good hm) rfl rfl (Nat.le_of_ble_eq_true rfl) (Nat.le_of_ble_eq_true rfl) ?_
      refine wp_ifeq_b 41 dX10_readLine_25 rfl rfl (fun c25 => ?_) (fun c25 => ?_)
      · exact absurd c25 (by rw [hP1.ok]; decide)
      · refine wp_aload_0 dX10_readLine_28 rfl ?_
        refine wp_getf dX10_readLine_29 rfl q1841 fk10_10 (mg_0 hm) rfl ?_
        rw [hP1.ls.2.2.1]
        refine wp_iconst 3 dX10_readLine_32 rfl rfl ?_
        refine wp_icmp_eq_k 41 dX10_readLine_33 rfl rfl (a := lTk y.1) (b := 3) (by have := hP1.bd; omega) (by omega) (fun c33 => ?_) (fun c33 => ?_)
        · refine wp_aload_0 dX10_readLine_41 rfl ?_
          refine wp_cvR dX10_readLine_42 rfl q2016 mv_X10_good (mg_0 hm) rfl rfl (m_good hm) rfl rfl (Nat.le_of_ble_eq_true rfl) (Nat.le_of_ble_eq_true rfl) ?_
          refine wp_ifeq_b 52 dX10_readLine_45 rfl rfl (fun c45 => ?_) (fun c45 => ?_)
          · exact absurd c45 (by rw [hP1.ok]; decide)
          · refine wp_aload_0 dX10_readLine_48 rfl ?_
            refine wp_cvE dX10_readLine_49 rfl q2002 mv_X10_advance (mg_0 hm) rfl rfl (m_advance hm hP1.1.1 hP1.1.2.1 hP1.1.2.2 hP1.ls.1 hP1.bd.2.1) rfl rfl (Nat.le_of_ble_eq_true rfl) (Nat.le_of_ble_eq_true rfl) (fun h1 hq => ?_)
            obtain ⟨S2, rfl, hk2, hl2⟩ := hq
            refine wp_aload_0 dX10_readLine_52 rfl ?_
            refine wp_getf dX10_readLine_53 rfl q1845 fk10_14 (mg_0 hm) rfl ?_
            refine wp_bipush 9 dX10_readLine_56 rfl rfl ?_
            refine wp_dup2 dX10_readLine_58 rfl rfl rfl ?_
            refine wp_ialoadn 9 dX10_readLine_59 rfl (mg_6 hm) rfl (by decide) (by decide) ?_
            refine wp_iconst 1 dX10_readLine_60 rfl rfl ?_
            refine wp_iadd dX10_readLine_61 rfl ?_
            refine wp_iastoren 9 dX10_readLine_62 rfl (mg_6 hm) rfl (by decide) (by decide) (ms_A6 hm) ?_
            exact wp_return dX10_readLine_63 rfl ⟨rfl, _, rfl, (hk1.tr (KR.of hk2 (by decide) (by decide))).s _ _, by rw [ho, show pSem (.inr y) = .inr y from if_pos c33]; exact (hP1.go hk2 hl2).inc 9⟩
        · refine wp_aload_0 dX10_readLine_36 rfl ?_
          refine wp_iconst 1 dX10_readLine_37 rfl rfl ?_
          refine wp_cvE dX10_readLine_38 rfl q2043 mv_X10_errs (mg_0 hm) rfl rfl (m_errs hm hP1 (by decide)) rfl rfl (Nat.le_of_ble_eq_true rfl) (Nat.le_of_ble_eq_true rfl) (fun h1 hq => ?_)
          obtain ⟨S2, rfl, hk2, hP2⟩ := hq
          refine wp_aload_0 dX10_readLine_41 rfl ?_
          refine wp_cvR dX10_readLine_42 rfl q2016 mv_X10_good (mg_0 hm) rfl rfl (m_good hm) rfl rfl (Nat.le_of_ble_eq_true rfl) (Nat.le_of_ble_eq_true rfl) ?_
          refine wp_ifeq_b 52 dX10_readLine_45 rfl rfl (fun c45 => ?_) (fun c45 => ?_)
          · refine wp_aload_0 dX10_readLine_52 rfl ?_
            refine wp_getf dX10_readLine_53 rfl q1845 fk10_14 (mg_0 hm) rfl ?_
            refine wp_bipush 9 dX10_readLine_56 rfl rfl ?_
            refine wp_dup2 dX10_readLine_58 rfl rfl rfl ?_
            refine wp_ialoadn 9 dX10_readLine_59 rfl (mg_6 hm) rfl (by decide) (by decide) ?_
            refine wp_iconst 1 dX10_readLine_60 rfl rfl ?_
            refine wp_iadd dX10_readLine_61 rfl ?_
            refine wp_iastoren 9 dX10_readLine_62 rfl (mg_6 hm) rfl (by decide) (by decide) (ms_A6 hm) ?_
            exact wp_return dX10_readLine_63 rfl ⟨rfl, _, rfl, (hk1.tr hk2).s _ _, by rw [ho, show pSem (.inr y) = .inl (1, nI (lFr y.1)) from if_neg c33]; exact hP2.inc 9⟩
          · exact absurd c45 (by rw [(show PI T N S2 (.inl (1, nI (lFr y.1))) from hP2).bad]; decide)
  · refine wp_aload_0 dX10_readLine_10 rfl ?_
    refine wp_cvE dX10_readLine_11 rfl q2024 mv_X10_readFirst (mg_0 hm) rfl rfl (m_readFirst hm hP) rfl rfl (Nat.le_of_ble_eq_true rfl) (Nat.le_of_ble_eq_true rfl) (fun h1 hq => ?_)
    obtain ⟨S1, rfl, hk1, hP1⟩ := hq
    have ho : pOne T N (.inr x) = pIn 9 (pNx T N (pSem (pFi T N (.inr x)))) := by rw [show pOne T N (.inr x) = pIn 9 (pNx T N (pSem (if x.2 9 = 0 then pFi T N (.inr x) else pLin T N (.inr x)))) from rfl, if_pos c7]
    generalize pFi T N (.inr x) = s9 at *
    refine wp_goto 21 dX10_readLine_14 rfl rfl ?_
    rcases s9 with f | y
    · refine wp_aload_0 dX10_readLine_21 rfl ?_
      refine wp_cvR dX10_readLine_22 rfl q2016 mv_X10_good (mg_0 hm) rfl rfl (m_good hm) rfl rfl (Nat.le_of_ble_eq_true rfl) (Nat.le_of_ble_eq_true rfl) ?_
      refine wp_ifeq_b 41 dX10_readLine_25 rfl rfl (fun c25 => ?_) (fun c25 => ?_)
      · refine wp_aload_0 dX10_readLine_41 rfl ?_
        refine wp_cvR dX10_readLine_42 rfl q2016 mv_X10_good (mg_0 hm) rfl rfl (m_good hm) rfl rfl (Nat.le_of_ble_eq_true rfl) (Nat.le_of_ble_eq_true rfl) ?_
        refine wp_ifeq_b 52 dX10_readLine_45 rfl rfl (fun c45 => ?_) (fun c45 => ?_)
        · refine wp_aload_0 dX10_readLine_52 rfl ?_
          refine wp_getf dX10_readLine_53 rfl q1845 fk10_14 (mg_0 hm) rfl ?_
          refine wp_bipush 9 dX10_readLine_56 rfl rfl ?_
          refine wp_dup2 dX10_readLine_58 rfl rfl rfl ?_
          refine wp_ialoadn 9 dX10_readLine_59 rfl (mg_6 hm) rfl (by decide) (by decide) ?_
          refine wp_iconst 1 dX10_readLine_60 rfl rfl ?_
          refine wp_iadd dX10_readLine_61 rfl ?_
          refine wp_iastoren 9 dX10_readLine_62 rfl (mg_6 hm) rfl (by decide) (by decide) (ms_A6 hm) ?_
          exact wp_return dX10_readLine_63 rfl ⟨rfl, _, rfl, hk1.s _ _, by rw [ho]; exact hP1.inc 9⟩
        · exact absurd c45 (by rw [hP1.bad]; decide)
      · exact absurd c25 (by rw [hP1.bad]; decide)
    · refine wp_aload_0 dX10_readLine_21 rfl ?_
      refine wp_cvR dX10_readLine_22 rfl q2016 mv_X10_good (mg_0 hm) rfl rfl (m_good hm) rfl rfl (Nat.le_of_ble_eq_true rfl) (Nat.le_of_ble_eq_true rfl) ?_
      refine wp_ifeq_b 41 dX10_readLine_25 rfl rfl (fun c25 => ?_) (fun c25 => ?_)
      · exact absurd c25 (by rw [hP1.ok]; decide)
      · refine wp_aload_0 dX10_readLine_28 rfl ?_
        refine wp_getf dX10_readLine_29 rfl q1841 fk10_10 (mg_0 hm) rfl ?_
        rw [hP1.ls.2.2.1]
        refine wp_iconst 3 dX10_readLine_32 rfl rfl ?_
        refine wp_icmp_eq_k 41 dX10_readLine_33 rfl rfl (a := lTk y.1) (b := 3) (by have := hP1.bd; omega) (by omega) (fun c33 => ?_) (fun c33 => ?_)
        · refine wp_aload_0 dX10_readLine_41 rfl ?_
          refine wp_cvR dX10_readLine_42 rfl q2016 mv_X10_good (mg_0 hm) rfl rfl (m_good hm) rfl rfl (Nat.le_of_ble_eq_true rfl) (Nat.le_of_ble_eq_true rfl) ?_
          refine wp_ifeq_b 52 dX10_readLine_45 rfl rfl (fun c45 => ?_) (fun c45 => ?_)
          · exact absurd c45 (by rw [hP1.ok]; decide)
          · refine wp_aload_0 dX10_readLine_48 rfl ?_
            refine wp_cvE dX10_readLine_49 rfl q2002 mv_X10_advance (mg_0 hm) rfl rfl (m_advance hm hP1.1.1 hP1.1.2.1 hP1.1.2.2 hP1.ls.1 hP1.bd.2.1) rfl rfl (Nat.le_of_ble_eq_true rfl) (Nat.le_of_ble_eq_true rfl) (fun h1 hq => ?_)
            obtain ⟨S2, rfl, hk2, hl2⟩ := hq
            refine wp_aload_0 dX10_readLine_52 rfl ?_
            refine wp_getf dX10_readLine_53 rfl q1845 fk10_14 (mg_0 hm) rfl ?_
            refine wp_bipush 9 dX10_readLine_56 rfl rfl ?_
            refine wp_dup2 dX10_readLine_58 rfl rfl rfl ?_
            refine wp_ialoadn 9 dX10_readLine_59 rfl (mg_6 hm) rfl (by decide) (by decide) ?_
            refine wp_iconst 1 dX10_readLine_60 rfl rfl ?_
            refine wp_iadd dX10_readLine_61 rfl ?_
            refine wp_iastoren 9 dX10_readLine_62 rfl (mg_6 hm) rfl (by decide) (by decide) (ms_A6 hm) ?_
            exact wp_return dX10_readLine_63 rfl ⟨rfl, _, rfl, (hk1.tr (KR.of hk2 (by decide) (by decide))).s _ _, by rw [ho, show pSem (.inr y) = .inr y from if_pos c33]; exact (hP1.go hk2 hl2).inc 9⟩
        · refine wp_aload_0 dX10_readLine_36 rfl ?_
          refine wp_iconst 1 dX10_readLine_37 rfl rfl ?_
          refine wp_cvE dX10_readLine_38 rfl q2043 mv_X10_errs (mg_0 hm) rfl rfl (m_errs hm hP1 (by decide)) rfl rfl (Nat.le_of_ble_eq_true rfl) (Nat.le_of_ble_eq_true rfl) (fun h1 hq => ?_)
          obtain ⟨S2, rfl, hk2, hP2⟩ := hq
          refine wp_aload_0 dX10_readLine_41 rfl ?_
          refine wp_cvR dX10_readLine_42 rfl q2016 mv_X10_good (mg_0 hm) rfl rfl (m_good hm) rfl rfl (Nat.le_of_ble_eq_true rfl) (Nat.le_of_ble_eq_true rfl) ?_
          refine wp_ifeq_b 52 dX10_readLine_45 rfl rfl (fun c45 => ?_) (fun c45 => ?_)
          · refine wp_aload_0 dX10_readLine_52 rfl ?_
            refine wp_getf dX10_readLine_53 rfl q1845 fk10_14 (mg_0 hm) rfl ?_
            refine wp_bipush 9 dX10_readLine_56 rfl rfl ?_
            refine wp_dup2 dX10_readLine_58 rfl rfl rfl ?_
            refine wp_ialoadn 9 dX10_readLine_59 rfl (mg_6 hm) rfl (by decide) (by decide) ?_
            refine wp_iconst 1 dX10_readLine_60 rfl rfl ?_
            refine wp_iadd dX10_readLine_61 rfl ?_
            refine wp_iastoren 9 dX10_readLine_62 rfl (mg_6 hm) rfl (by decide) (by decide) (ms_A6 hm) ?_
            exact wp_return dX10_readLine_63 rfl ⟨rfl, _, rfl, (hk1.tr hk2).s _ _, by rw [ho, show pSem (.inr y) = .inl (1, nI (lFr y.1)) from if_neg c33]; exact hP2.inc 9⟩
          · exact absurd c45 (by rw [(show PI T N S2 (.inl (1, nI (lFr y.1))) from hP2).bad]; decide)
