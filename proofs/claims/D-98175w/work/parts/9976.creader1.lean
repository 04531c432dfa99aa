/-! ===== the class: the reader: tokens ===== -/
set_option maxRecDepth 100000
theorem r_isAt {g : GW} {C : SC} {S : SM} {X : AH} {r b n : Nat} (hX : 108 ≤ X.length) (hr : r < X.length) (hd : dyn r) (hn : n ≤ 1200) (hT : TB (C.2.1 14)) {a f : Nat} {t v lo hi : Int32} (ha : a ≤ n) : SPx g 2 0 0 yX11_isAt cX11_isAt 3 (some .boolean) [.ref r, .int lo, .int hi] (cH C S (X.set r (ro b n a f t v))) (some (.int (b2i (atB (C.2.1 14) n a lo hi)))) (cH C S (X.set r (ro b n a f t v))) := by
  refine SPx.intro [some (.ref r), some (.int lo), some (.int hi)] (pfn (by decide)) rfl (Nat.le_of_ble_eq_true rfl) ?_
  refine wp_aload_0 dX11_isAt_0 rfl ?_
  refine wp_getf dX11_isAt_1 rfl q797 fk11_3 (rg hr hd) rfl ?_
  refine wp_aload_0 dX11_isAt_4 rfl ?_
  refine wp_getf dX11_isAt_5 rfl q795 fk11_1 (rg hr hd) rfl ?_
  refine wp_icmp_ge_k 35 dX11_isAt_8 rfl rfl (by omega) (by omega) (fun c8 => ?_) (fun c8 => ?_)
  · refine wp_iconst 0 dX11_isAt_35 rfl rfl ?_
    exact wp_zreturn dX11_isAt_36 rfl rfl ⟨by rw [atB, decide_eq_false (Nat.not_lt.mpr c8)]; rfl, rfl⟩
  · refine wp_aload_0 dX11_isAt_11 rfl ?_
    refine wp_getf dX11_isAt_12 rfl q794 fk11_0 (rg hr hd) rfl ?_
    refine wp_aload_0 dX11_isAt_15 rfl ?_
    refine wp_getf dX11_isAt_16 rfl q797 fk11_3 (rg hr hd) rfl ?_
    refine wp_baloadn a dX11_isAt_19 rfl (cg_14 (xs_len hX)) rfl (by omega) (by decide) ?_
    refine wp_i2l dX11_isAt_20 rfl ?_
    refine wp_iload_1 dX11_isAt_21 rfl ?_
    refine wp_i2l dX11_isAt_22 rfl ?_
    refine wp_iload_2 dX11_isAt_23 rfl ?_
    refine wp_i2l dX11_isAt_24 rfl ?_
    refine wp_SNxR dX11_isAt_25 rfl q789 ms_X0_in c_in rfl rfl (Nat.le_of_ble_eq_true rfl) (Nat.le_of_ble_eq_true rfl) (Nat.zero_le _) (Nat.zero_le _) ?_
    refine wp_ifeq_b 35 dX11_isAt_28 rfl rfl (fun c28 => ?_) (fun c28 => ?_)
    · refine wp_iconst 0 dX11_isAt_35 rfl rfl ?_
      exact wp_zreturn dX11_isAt_36 rfl rfl ⟨by simp [atB, b2i, *], rfl⟩
    · refine wp_iconst 1 dX11_isAt_31 rfl rfl ?_
      refine wp_goto 36 dX11_isAt_32 rfl rfl ?_
      exact wp_zreturn dX11_isAt_36 rfl rfl ⟨by simp [atB, b2i, *], rfl⟩
theorem rL_ws {g : GW} {C : SC} {S : SM} {X : AH} {r b n : Nat} (hX : 108 ≤ X.length) (hr : r < X.length) (hd : dyn r) (hn : n ≤ 1200) (hT : TB (C.2.1 14)) {c n9 : Nat} {Q : Option Value → AH → Prop} : ∀ (k : Nat) (i f : Nat) (t v : Int32), n ≤ i + k → i ≤ n → (WP g 4 yX11_next cX11_next 1 none 35 [some (.ref r)] [] (cH C S (X.set r (ro b n (cntK (wsB (C.2.1 14) n) k i) f t v))) c n9 Q) → WP g 4 yX11_next cX11_next 1 none 0 [some (.ref r)] [] (cH C S (X.set r (ro b n i f t v))) c n9 Q := by
  intro k
  induction k with
  | zero =>
    intro i f t v h1 h2 hq
    refine wp_aload_0 dX11_next_0 rfl ?_
    refine wp_bipush 32 dX11_next_1 rfl rfl ?_
    refine wp_bipush 32 dX11_next_3 rfl rfl ?_
    refine wp_cvR dX11_next_5 rfl q785 mv_X11_isAt (rg hr hd) rfl rfl (r_isAt hX hr hd hn hT (by omega)) rfl rfl (Nat.le_of_ble_eq_true rfl) (Nat.le_of_ble_eq_true rfl) ?_
    rw [at_32 hT]
    refine wp_ifne_b 22 dX11_next_8 rfl rfl (fun c8 => ?_) (fun c8 => ?_)
    · exact absurd (of_decide_eq_true c8) (by rw [se_out (by omega)]; decide)
    · refine wp_aload_0 dX11_next_11 rfl ?_
      refine wp_bipush 10 dX11_next_12 rfl rfl ?_
      refine wp_bipush 10 dX11_next_14 rfl rfl ?_
      refine wp_cvR dX11_next_16 rfl q785 mv_X11_isAt (rg hr hd) rfl rfl (r_isAt hX hr hd hn hT (by omega)) rfl rfl (Nat.le_of_ble_eq_true rfl) (Nat.le_of_ble_eq_true rfl) ?_
      rw [at_10 hT]
      refine wp_ifeq_b 35 dX11_next_19 rfl rfl (fun c19 => ?_) (fun c19 => ?_)
      · exact hq
      · exact absurd (of_decide_eq_true c19) (by rw [se_out (by omega)]; decide)
  | succ k ih =>
    intro i f t v h1 h2 hq
    refine wp_aload_0 dX11_next_0 rfl ?_
    refine wp_bipush 32 dX11_next_1 rfl rfl ?_
    refine wp_bipush 32 dX11_next_3 rfl rfl ?_
    refine wp_cvR dX11_next_5 rfl q785 mv_X11_isAt (rg hr hd) rfl rfl (r_isAt hX hr hd hn hT (by omega)) rfl rfl (Nat.le_of_ble_eq_true rfl) (Nat.le_of_ble_eq_true rfl) ?_
    rw [at_32 hT]
    refine wp_ifne_b 22 dX11_next_8 rfl rfl (fun c8 => ?_) (fun c8 => ?_)
    · have hw := ws_1 (of_decide_eq_true c8)
      refine wp_aload_0 dX11_next_22 rfl ?_
      refine wp_dup dX11_next_23 rfl rfl ?_
      refine wp_getf dX11_next_24 rfl q797 fk11_3 (rg hr hd) rfl ?_
      refine wp_iconst 1 dX11_next_27 rfl rfl ?_
      refine wp_iadd dX11_next_28 rfl ?_
      rw [nI_1]
      refine wp_putf dX11_next_29 rfl q797 fp11_3 (rg hr hd) rfl rfl (Nat.le_of_ble_eq_true rfl) (rs hd) ?_
      refine wp_goto 0 dX11_next_32 rfl rfl ?_
      exact ih (i + 1) f t v (by omega) (ws_lt hw) (by rw [itr_c hw] at hq; exact hq)
    · refine wp_aload_0 dX11_next_11 rfl ?_
      refine wp_bipush 10 dX11_next_12 rfl rfl ?_
      refine wp_bipush 10 dX11_next_14 rfl rfl ?_
      refine wp_cvR dX11_next_16 rfl q785 mv_X11_isAt (rg hr hd) rfl rfl (r_isAt hX hr hd hn hT (by omega)) rfl rfl (Nat.le_of_ble_eq_true rfl) (Nat.le_of_ble_eq_true rfl) ?_
      rw [at_10 hT]
      refine wp_ifeq_b 35 dX11_next_19 rfl rfl (fun c19 => ?_) (fun c19 => ?_)
      · have hw : wsB (C.2.1 14) n i = false := ws_0 (of_decide_eq_false c8) (of_decide_eq_false c19)
        rw [cnk_0 hw] at hq
        exact hq
      · have hw := ws_2 (of_decide_eq_true c19)
        refine wp_aload_0 dX11_next_22 rfl ?_
        refine wp_dup dX11_next_23 rfl rfl ?_
        refine wp_getf dX11_next_24 rfl q797 fk11_3 (rg hr hd) rfl ?_
        refine wp_iconst 1 dX11_next_27 rfl rfl ?_
        refine wp_iadd dX11_next_28 rfl ?_
        rw [nI_1]
        refine wp_putf dX11_next_29 rfl q797 fp11_3 (rg hr hd) rfl rfl (Nat.le_of_ble_eq_true rfl) (rs hd) ?_
        refine wp_goto 0 dX11_next_32 rfl rfl ?_
        exact ih (i + 1) f t v (by omega) (ws_lt hw) (by rw [itr_c hw] at hq; exact hq)
theorem rL_az {g : GW} {C : SC} {S : SM} {X : AH} {r b n : Nat} (hX : 108 ≤ X.length) (hr : r < X.length) (hd : dyn r) (hn : n ≤ 1200) (hT : TB (C.2.1 14)) {c n9 : Nat} {Q : Option Value → AH → Prop} : ∀ (k : Nat) (i f : Nat) (t v : Int32), n ≤ i + k → i ≤ n → (WP g 4 yX11_next cX11_next 1 none 206 [some (.ref r)] [] (cH C S (X.set r (ro b n (cntK (azB (C.2.1 14) n) k i) f t v))) c n9 Q) → WP g 4 yX11_next cX11_next 1 none 83 [some (.ref r)] [] (cH C S (X.set r (ro b n i f t v))) c n9 Q := by
  intro k
  induction k with
  | zero =>
    intro i f t v h1 h2 hq
    refine wp_aload_0 dX11_next_83 rfl ?_
    refine wp_bipush 97 dX11_next_84 rfl rfl ?_
    refine wp_bipush 122 dX11_next_86 rfl rfl ?_
    refine wp_cvR dX11_next_88 rfl q785 mv_X11_isAt (rg hr hd) rfl rfl (r_isAt hX hr hd hn hT (by omega)) rfl rfl (Nat.le_of_ble_eq_true rfl) (Nat.le_of_ble_eq_true rfl) ?_
    rw [at_az hT]
    refine wp_ifeq_b 206 dX11_next_91 rfl rfl (fun c91 => ?_) (fun c91 => ?_)
    · exact hq
    · exact absurd (az_lt c91) (by omega)
  | succ k ih =>
    intro i f t v h1 h2 hq
    refine wp_aload_0 dX11_next_83 rfl ?_
    refine wp_bipush 97 dX11_next_84 rfl rfl ?_
    refine wp_bipush 122 dX11_next_86 rfl rfl ?_
    refine wp_cvR dX11_next_88 rfl q785 mv_X11_isAt (rg hr hd) rfl rfl (r_isAt hX hr hd hn hT (by omega)) rfl rfl (Nat.le_of_ble_eq_true rfl) (Nat.le_of_ble_eq_true rfl) ?_
    rw [at_az hT]
    refine wp_ifeq_b 206 dX11_next_91 rfl rfl (fun c91 => ?_) (fun c91 => ?_)
    · rw [cnk_0 c91] at hq
      exact hq
    · refine wp_aload_0 dX11_next_94 rfl ?_
      refine wp_dup dX11_next_95 rfl rfl ?_
      refine wp_getf dX11_next_96 rfl q797 fk11_3 (rg hr hd) rfl ?_
      refine wp_iconst 1 dX11_next_99 rfl rfl ?_
      refine wp_iadd dX11_next_100 rfl ?_
      rw [nI_1]
      refine wp_putf dX11_next_101 rfl q797 fp11_3 (rg hr hd) rfl rfl (Nat.le_of_ble_eq_true rfl) (rs hd) ?_
      refine wp_goto 83 dX11_next_104 rfl rfl ?_
      exact ih (i + 1) f t v (by omega) (az_lt c91) (by rw [itr_c c91] at hq; exact hq)
theorem rL_dg {g : GW} {C : SC} {S : SM} {X : AH} {r b n : Nat} (hX : 108 ≤ X.length) (hr : r < X.length) (hd : dyn r) (hn : n ≤ 1200) (hT : TB (C.2.1 14)) {c n9 : Nat} {Q : Option Value → AH → Prop} : ∀ (k : Nat) (i f : Nat) (t v : Int32), n ≤ i + k → i ≤ n → (WP g 4 yX11_next cX11_next 1 none 206 [some (.ref r)] [] (cH C S (X.set r (ro b n (numK (C.2.1 14) n k i v).1 f t (numK (C.2.1 14) n k i v).2))) c n9 Q) → WP g 4 yX11_next cX11_next 1 none 123 [some (.ref r)] [] (cH C S (X.set r (ro b n i f t v))) c n9 Q := by
  intro k
  induction k with
  | zero =>
    intro i f t v h1 h2 hq
    refine wp_aload_0 dX11_next_123 rfl ?_
    refine wp_bipush 48 dX11_next_124 rfl rfl ?_
    refine wp_bipush 57 dX11_next_126 rfl rfl ?_
    refine wp_cvR dX11_next_128 rfl q785 mv_X11_isAt (rg hr hd) rfl rfl (r_isAt hX hr hd hn hT (by omega)) rfl rfl (Nat.le_of_ble_eq_true rfl) (Nat.le_of_ble_eq_true rfl) ?_
    rw [at_dg hT]
    refine wp_ifeq_b 206 dX11_next_131 rfl rfl (fun c131 => ?_) (fun c131 => ?_)
    · exact hq
    · exact absurd (dg_lt c131) (by omega)
  | succ k ih =>
    intro i f t v h1 h2 hq
    refine wp_aload_0 dX11_next_123 rfl ?_
    refine wp_bipush 48 dX11_next_124 rfl rfl ?_
    refine wp_bipush 57 dX11_next_126 rfl rfl ?_
    refine wp_cvR dX11_next_128 rfl q785 mv_X11_isAt (rg hr hd) rfl rfl (r_isAt hX hr hd hn hT (by omega)) rfl rfl (Nat.le_of_ble_eq_true rfl) (Nat.le_of_ble_eq_true rfl) ?_
    rw [at_dg hT]
    refine wp_ifeq_b 206 dX11_next_131 rfl rfl (fun c131 => ?_) (fun c131 => ?_)
    · rw [num_0 c131] at hq
      exact hq
    · refine wp_aload_0 dX11_next_134 rfl ?_
      refine wp_ldc dX11_next_135 rfl q790 ?_
      refine wp_bipush 10 dX11_next_137 rfl rfl ?_
      refine wp_aload_0 dX11_next_139 rfl ?_
      refine wp_getf dX11_next_140 rfl q800 fk11_6 (rg hr hd) rfl ?_
      refine wp_imul dX11_next_143 rfl ?_
      refine wp_aload_0 dX11_next_144 rfl ?_
      refine wp_getf dX11_next_145 rfl q794 fk11_0 (rg hr hd) rfl ?_
      refine wp_aload_0 dX11_next_148 rfl ?_
      refine wp_getf dX11_next_149 rfl q797 fk11_3 (rg hr hd) rfl ?_
      refine wp_baloadn i dX11_next_152 rfl (cg_14 (xs_len hX)) rfl (by have := dg_lt c131; omega) (by decide) ?_
      refine wp_iadd dX11_next_153 rfl ?_
      refine wp_bipush 48 dX11_next_154 rfl rfl ?_
      refine wp_isub dX11_next_156 rfl ?_
      refine wp_csR dX11_next_157 rfl q791 ms_J3_min j_min rfl rfl (Nat.le_of_ble_eq_true rfl) (Nat.le_of_ble_eq_true rfl) ?_
      refine wp_putf dX11_next_160 rfl q800 fp11_6 (rg hr hd) rfl rfl (Nat.le_of_ble_eq_true rfl) (rs hd) ?_
      refine wp_aload_0 dX11_next_163 rfl ?_
      refine wp_dup dX11_next_164 rfl rfl ?_
      refine wp_getf dX11_next_165 rfl q797 fk11_3 (rg hr hd) rfl ?_
      refine wp_iconst 1 dX11_next_168 rfl rfl ?_
      refine wp_iadd dX11_next_169 rfl ?_
      rw [nI_1]
      refine wp_putf dX11_next_170 rfl q797 fp11_3 (rg hr hd) rfl rfl (Nat.le_of_ble_eq_true rfl) (rs hd) ?_
      refine wp_goto 123 dX11_next_173 rfl rfl ?_
      exact ih (i + 1) f t _ (by omega) (dg_lt c131) (by rw [num_c c131, vaF, dg_va hT c131] at hq; exact hq)
theorem r_next {g : GW} {C : SC} {S : SM} {X : AH} {r b n : Nat} (hX : 108 ≤ X.length) (hr : r < X.length) (hd : dyn r) (hn : n ≤ 1200) (hT : TB (C.2.1 14)) {a f : Nat} {t v : Int32} (ha : a ≤ n) : SPx g 4 0 0 yX11_next cX11_next 1 none [.ref r] (cH C S (X.set r (ro b n a f t v))) none (cH C S (X.set r (lxo b n (lx (C.2.1 14) n a)))) := by
  refine SPx.intro [some (.ref r)] (pfn (by decide)) rfl (Nat.le_of_ble_eq_true rfl) ?_
  refine rL_ws hX hr hd hn hT n a f t v (by omega) ha ?_
  have hk9 := (cntK_le (p := wsB (C.2.1 14) n) (n := n) (fun k q => ws_out q) n a ha).2
  skip
  unfold lx
  generalize cntK (wsB (C.2.1 14) n) n a = k1 at *
  refine wp_aload_0 dX11_next_35 rfl ?_
  refine wp_aload_0 dX11_next_36 rfl ?_
  refine wp_getf dX11_next_37 rfl q797 fk11_3 (rg hr hd) rfl ?_
  refine wp_putf dX11_next_40 rfl q798 fp11_4 (rg hr hd) rfl rfl (Nat.le_of_ble_eq_true rfl) (rs hd) ?_
  refine wp_aload_0 dX11_next_43 rfl ?_
  refine wp_iconst 0 dX11_next_44 rfl rfl ?_
  refine wp_putf dX11_next_45 rfl q800 fp11_6 (rg hr hd) rfl rfl (Nat.le_of_ble_eq_true rfl) (rs hd) ?_
  refine wp_aload_0 dX11_next_48 rfl ?_
  refine wp_getf dX11_next_49 rfl q797 fk11_3 (rg hr hd) rfl ?_
  refine wp_aload_0 dX11_next_52 rfl ?_
  refine wp_getf dX11_next_53 rfl q795 fk11_1 (rg hr hd) rfl ?_
  refine wp_icmp_ne_k 67 dX11_next_56 rfl rfl (by omega) (by omega) (fun c56 => ?_) (fun c56 => ?_)
  · have hk : k1 < n := by omega
    refine wp_aload_0 dX11_next_67 rfl ?_
    refine wp_bipush 97 dX11_next_68 rfl rfl ?_
    refine wp_bipush 122 dX11_next_70 rfl rfl ?_
    refine wp_cvR dX11_next_72 rfl q785 mv_X11_isAt (rg hr hd) rfl rfl (r_isAt hX hr hd hn hT (by omega)) rfl rfl (Nat.le_of_ble_eq_true rfl) (Nat.le_of_ble_eq_true rfl) ?_
    rw [at_az hT]
    refine wp_ifeq_b 107 dX11_next_75 rfl rfl (fun c75 => ?_) (fun c75 => ?_)
    · refine wp_aload_0 dX11_next_107 rfl ?_
      refine wp_bipush 48 dX11_next_108 rfl rfl ?_
      refine wp_bipush 57 dX11_next_110 rfl rfl ?_
      refine wp_cvR dX11_next_112 rfl q785 mv_X11_isAt (rg hr hd) rfl rfl (r_isAt hX hr hd hn hT (by omega)) rfl rfl (Nat.le_of_ble_eq_true rfl) (Nat.le_of_ble_eq_true rfl) ?_
      rw [at_dg hT]
      refine wp_ifeq_b 176 dX11_next_115 rfl rfl (fun c115 => ?_) (fun c115 => ?_)
      · refine wp_aload_0 dX11_next_176 rfl ?_
        refine wp_aload_0 dX11_next_177 rfl ?_
        refine wp_bipush 59 dX11_next_178 rfl rfl ?_
        refine wp_bipush 59 dX11_next_180 rfl rfl ?_
        refine wp_cvR dX11_next_182 rfl q785 mv_X11_isAt (rg hr hd) rfl rfl (r_isAt hX hr hd hn hT (by omega)) rfl rfl (Nat.le_of_ble_eq_true rfl) (Nat.le_of_ble_eq_true rfl) ?_
        rw [at_59 hT]
        refine wp_ifeq_b 192 dX11_next_185 rfl rfl (fun c185 => ?_) (fun c185 => ?_)
        · refine wp_iconst 4 dX11_next_192 rfl rfl ?_
          refine wp_putf dX11_next_193 rfl q799 fp11_5 (rg hr hd) rfl rfl (Nat.le_of_ble_eq_true rfl) (rs hd) ?_
          refine wp_aload_0 dX11_next_196 rfl ?_
          refine wp_dup dX11_next_197 rfl rfl ?_
          refine wp_getf dX11_next_198 rfl q797 fk11_3 (rg hr hd) rfl ?_
          refine wp_iconst 1 dX11_next_201 rfl rfl ?_
          refine wp_iadd dX11_next_202 rfl ?_
          rw [nI_1]
          refine wp_putf dX11_next_203 rfl q797 fp11_3 (rg hr hd) rfl rfl (Nat.le_of_ble_eq_true rfl) (rs hd) ?_
          exact wp_return dX11_next_206 rfl ⟨rfl, by show _ = cH C S (X.set r (lxo b n (lxF _ n _))); rw [lx_s4 hk c75 c115 c185]; rfl⟩
        · refine wp_iconst 3 dX11_next_188 rfl rfl ?_
          refine wp_goto 193 dX11_next_189 rfl rfl ?_
          refine wp_putf dX11_next_193 rfl q799 fp11_5 (rg hr hd) rfl rfl (Nat.le_of_ble_eq_true rfl) (rs hd) ?_
          refine wp_aload_0 dX11_next_196 rfl ?_
          refine wp_dup dX11_next_197 rfl rfl ?_
          refine wp_getf dX11_next_198 rfl q797 fk11_3 (rg hr hd) rfl ?_
          refine wp_iconst 1 dX11_next_201 rfl rfl ?_
          refine wp_iadd dX11_next_202 rfl ?_
          rw [nI_1]
          refine wp_putf dX11_next_203 rfl q797 fp11_3 (rg hr hd) rfl rfl (Nat.le_of_ble_eq_true rfl) (rs hd) ?_
          exact wp_return dX11_next_206 rfl ⟨rfl, by show _ = cH C S (X.set r (lxo b n (lxF _ n _))); rw [lx_s3 hk c75 c115 c185]; rfl⟩
      · refine wp_aload_0 dX11_next_118 rfl ?_
        refine wp_iconst 2 dX11_next_119 rfl rfl ?_
        refine wp_putf dX11_next_120 rfl q799 fp11_5 (rg hr hd) rfl rfl (Nat.le_of_ble_eq_true rfl) (rs hd) ?_
        refine rL_dg hX hr hd hn hT n k1 k1 2 0 (by omega) hk9 ?_
        exact wp_return dX11_next_206 rfl ⟨rfl, by show _ = cH C S (X.set r (lxo b n (lxF _ n _))); rw [lx_d c75 c115]; rfl⟩
    · refine wp_aload_0 dX11_next_78 rfl ?_
      refine wp_iconst 1 dX11_next_79 rfl rfl ?_
      refine wp_putf dX11_next_80 rfl q799 fp11_5 (rg hr hd) rfl rfl (Nat.le_of_ble_eq_true rfl) (rs hd) ?_
      refine rL_az hX hr hd hn hT n k1 k1 1 0 (by omega) hk9 ?_
      exact wp_return dX11_next_206 rfl ⟨rfl, by show _ = cH C S (X.set r (lxo b n (lxF _ n _))); rw [lx_w c75]; rfl⟩
  · refine wp_aload_0 dX11_next_59 rfl ?_
    refine wp_iconst 0 dX11_next_60 rfl rfl ?_
    refine wp_putf dX11_next_61 rfl q799 fp11_5 (rg hr hd) rfl rfl (Nat.le_of_ble_eq_true rfl) (rs hd) ?_
    refine wp_goto 206 dX11_next_64 rfl rfl ?_
    exact wp_return dX11_next_206 rfl ⟨rfl, by show _ = cH C S (X.set r (lxo b n (lxF _ n _))); rw [lx_e (by omega)]; rfl⟩
theorem nI_ij {a b : Nat} (ha : a < 2147483648) (hb : b < 2147483648) (h : nI a = nI b) : a = b := by
  have h2 := congrArg Int32.toInt h
  rw [nI_toInt ha, nI_toInt hb] at h2
  omega
def fltC (k p : Int32) : AE := .inr (12, [.null, .null, .null, .null, .null, .int 0, .int k, .int p])
theorem j_thI {g : GW} {M : Nat} {pre : AH} (hm : pre.length = M)  : SPx g 2 0 0 yJ8_init_3 cJ8_init_3 5 none [.ref M, .null, .null, .int 0, .int 0] (iH 12 pre [.null, .null, .null, .null, .null, .int 0, .int 0, .int 0] []) none (iH 12 pre [.null, .null, .null, .null, .null, .int 0, .int 0, .int 0] []) := by
  refine SPx.intro [some (.ref M), some (.null), some (.null), some (.int 0), some (.int 0)] (by decide +kernel) rfl (Nat.le_of_ble_eq_true rfl) ?_
  refine wp_aload_0 dJ8_init_3_0 rfl ?_
  refine wp_oinit dJ8_init_3_1 rfl q210 q_oi q_oc (Nat.le_of_ble_eq_true rfl) (Nat.le_of_ble_eq_true rfl) ?_
  refine wp_aload_0 dJ8_init_3_4 rfl ?_
  refine wp_aload_0 dJ8_init_3_5 rfl ?_
  refine wp_putf dJ8_init_3_6 rfl q246 fp12_0 (iH_at0 hm) rfl rfl (Nat.le_of_ble_eq_true rfl) (iH_set0 hm) ?_
  refine wp_aload_0 dJ8_init_3_9 rfl ?_
  refine wp_gets (i := 1) dJ8_init_3_10 rfl q213 (List.mem_of_getElem? (i := 0) rfl) (fun v10 hv10 => ?_)
  rcases hv10 with rfl | rfl
  · refine wp_putf dJ8_init_3_13 rfl q247 fp12_1 (iH_at0 hm) rfl rfl (Nat.le_of_ble_eq_true rfl) (iH_set0 hm) ?_
    refine wp_aload_0 dJ8_init_3_16 rfl ?_
    refine wp_gets (i := 2) dJ8_init_3_17 rfl q215 (List.mem_of_getElem? (i := 1) rfl) (fun v17 hv17 => ?_)
    rcases hv17 with rfl | rfl
    · refine wp_putf dJ8_init_3_20 rfl q248 fp12_2 (iH_at0 hm) rfl rfl (Nat.le_of_ble_eq_true rfl) (iH_set0 hm) ?_
      refine wp_iload_4 dJ8_init_3_23 rfl ?_
      refine wp_if_eq 36 dJ8_init_3_25 rfl rfl (fun c25 => ?_) (fun c25 => ?_)
      · refine wp_aload_0 dJ8_init_3_36 rfl ?_
        refine wp_null dJ8_init_3_37 rfl ?_
        refine wp_putf dJ8_init_3_38 rfl q247 fp12_1 (iH_at0 hm) rfl rfl (Nat.le_of_ble_eq_true rfl) (iH_set0 hm) ?_
        refine wp_aload_0 dJ8_init_3_41 rfl ?_
        refine wp_aloadN_1 dJ8_init_3_42 rfl ?_
        refine wp_putf dJ8_init_3_43 rfl q245 fp12_3 (iH_at0 hm) rfl rfl (Nat.le_of_ble_eq_true rfl) (iH_set0 hm) ?_
        refine wp_aload_0 dJ8_init_3_46 rfl ?_
        refine wp_aloadN_2 dJ8_init_3_47 rfl ?_
        refine wp_putf dJ8_init_3_48 rfl q246 fp12_0 (iH_at0 hm) rfl rfl (Nat.le_of_ble_eq_true rfl) (iH_set0 hm) ?_
        refine wp_iload_3 dJ8_init_3_51 rfl ?_
        refine wp_if_ne 60 dJ8_init_3_52 rfl rfl (fun c52 => ?_) (fun c52 => ?_)
        · exact absurd (by decide) c52
        · refine wp_aload_0 dJ8_init_3_55 rfl ?_
          refine wp_null dJ8_init_3_56 rfl ?_
          refine wp_putf dJ8_init_3_57 rfl q248 fp12_2 (iH_at0 hm) rfl rfl (Nat.le_of_ble_eq_true rfl) (iH_set0 hm) ?_
          exact wp_return dJ8_init_3_60 rfl ⟨rfl, rfl⟩
      · exact absurd (by decide) c25
    · refine wp_putf dJ8_init_3_20 rfl q248 fp12_2 (iH_at0 hm) rfl rfl (Nat.le_of_ble_eq_true rfl) (iH_set0 hm) ?_
      refine wp_iload_4 dJ8_init_3_23 rfl ?_
      refine wp_if_eq 36 dJ8_init_3_25 rfl rfl (fun c25 => ?_) (fun c25 => ?_)
      · refine wp_aload_0 dJ8_init_3_36 rfl ?_
        refine wp_null dJ8_init_3_37 rfl ?_
        refine wp_putf dJ8_init_3_38 rfl q247 fp12_1 (iH_at0 hm) rfl rfl (Nat.le_of_ble_eq_true rfl) (iH_set0 hm) ?_
        refine wp_aload_0 dJ8_init_3_41 rfl ?_
        refine wp_aloadN_1 dJ8_init_3_42 rfl ?_
        refine wp_putf dJ8_init_3_43 rfl q245 fp12_3 (iH_at0 hm) rfl rfl (Nat.le_of_ble_eq_true rfl) (iH_set0 hm) ?_
        refine wp_aload_0 dJ8_init_3_46 rfl ?_
        refine wp_aloadN_2 dJ8_init_3_47 rfl ?_
        refine wp_putf dJ8_init_3_48 rfl q246 fp12_0 (iH_at0 hm) rfl rfl (Nat.le_of_ble_eq_true rfl) (iH_set0 hm) ?_
        refine wp_iload_3 dJ8_init_3_51 rfl ?_
        refine wp_if_ne 60 dJ8_init_3_52 rfl rfl (fun c52 => ?_) (fun c52 => ?_)
        · exact absurd (by decide) c52
        · refine wp_aload_0 dJ8_init_3_55 rfl ?_
          refine wp_null dJ8_init_3_56 rfl ?_
          refine wp_putf dJ8_init_3_57 rfl q248 fp12_2 (iH_at0 hm) rfl rfl (Nat.le_of_ble_eq_true rfl) (iH_set0 hm) ?_
          exact wp_return dJ8_init_3_60 rfl ⟨rfl, rfl⟩
      · exact absurd (by decide) c25
  · refine wp_putf dJ8_init_3_13 rfl q247 fp12_1 (iH_at0 hm) rfl rfl (Nat.le_of_ble_eq_true rfl) (iH_set0 hm) ?_
    refine wp_aload_0 dJ8_init_3_16 rfl ?_
    refine wp_gets (i := 2) dJ8_init_3_17 rfl q215 (List.mem_of_getElem? (i := 1) rfl) (fun v17 hv17 => ?_)
    rcases hv17 with rfl | rfl
    · refine wp_putf dJ8_init_3_20 rfl q248 fp12_2 (iH_at0 hm) rfl rfl (Nat.le_of_ble_eq_true rfl) (iH_set0 hm) ?_
      refine wp_iload_4 dJ8_init_3_23 rfl ?_
      refine wp_if_eq 36 dJ8_init_3_25 rfl rfl (fun c25 => ?_) (fun c25 => ?_)
      · refine wp_aload_0 dJ8_init_3_36 rfl ?_
        refine wp_null dJ8_init_3_37 rfl ?_
        refine wp_putf dJ8_init_3_38 rfl q247 fp12_1 (iH_at0 hm) rfl rfl (Nat.le_of_ble_eq_true rfl) (iH_set0 hm) ?_
        refine wp_aload_0 dJ8_init_3_41 rfl ?_
        refine wp_aloadN_1 dJ8_init_3_42 rfl ?_
        refine wp_putf dJ8_init_3_43 rfl q245 fp12_3 (iH_at0 hm) rfl rfl (Nat.le_of_ble_eq_true rfl) (iH_set0 hm) ?_
        refine wp_aload_0 dJ8_init_3_46 rfl ?_
        refine wp_aloadN_2 dJ8_init_3_47 rfl ?_
        refine wp_putf dJ8_init_3_48 rfl q246 fp12_0 (iH_at0 hm) rfl rfl (Nat.le_of_ble_eq_true rfl) (iH_set0 hm) ?_
        refine wp_iload_3 dJ8_init_3_51 rfl ?_
        refine wp_if_ne 60 dJ8_init_3_52 rfl rfl (fun c52 => ?_) (fun c52 => ?_)
        · exact absurd (by decide) c52
        · refine wp_aload_0 dJ8_init_3_55 rfl ?_
          refine wp_null dJ8_init_3_56 rfl ?_
          refine wp_putf dJ8_init_3_57 rfl q248 fp12_2 (iH_at0 hm) rfl rfl (Nat.le_of_ble_eq_true rfl) (iH_set0 hm) ?_
          exact wp_return dJ8_init_3_60 rfl ⟨rfl, rfl⟩
      · exact absurd (by decide) c25
    · refine wp_putf dJ8_init_3_20 rfl q248 fp12_2 (iH_at0 hm) rfl rfl (Nat.le_of_ble_eq_true rfl) (iH_set0 hm) ?_
      refine wp_iload_4 dJ8_init_3_23 rfl ?_
      refine wp_if_eq 36 dJ8_init_3_25 rfl rfl (fun c25 => ?_) (fun c25 => ?_)
      · refine wp_aload_0 dJ8_init_3_36 rfl ?_
        refine wp_null dJ8_init_3_37 rfl ?_
        refine wp_putf dJ8_init_3_38 rfl q247 fp12_1 (iH_at0 hm) rfl rfl (Nat.le_of_ble_eq_true rfl) (iH_set0 hm) ?_
        refine wp_aload_0 dJ8_init_3_41 rfl ?_
        refine wp_aloadN_1 dJ8_init_3_42 rfl ?_
        refine wp_putf dJ8_init_3_43 rfl q245 fp12_3 (iH_at0 hm) rfl rfl (Nat.le_of_ble_eq_true rfl) (iH_set0 hm) ?_
        refine wp_aload_0 dJ8_init_3_46 rfl ?_
        refine wp_aloadN_2 dJ8_init_3_47 rfl ?_
        refine wp_putf dJ8_init_3_48 rfl q246 fp12_0 (iH_at0 hm) rfl rfl (Nat.le_of_ble_eq_true rfl) (iH_set0 hm) ?_
        refine wp_iload_3 dJ8_init_3_51 rfl ?_
        refine wp_if_ne 60 dJ8_init_3_52 rfl rfl (fun c52 => ?_) (fun c52 => ?_)
        · exact absurd (by decide) c52
        · refine wp_aload_0 dJ8_init_3_55 rfl ?_
          refine wp_null dJ8_init_3_56 rfl ?_
          refine wp_putf dJ8_init_3_57 rfl q248 fp12_2 (iH_at0 hm) rfl rfl (Nat.le_of_ble_eq_true rfl) (iH_set0 hm) ?_
          exact wp_return dJ8_init_3_60 rfl ⟨rfl, rfl⟩
      · exact absurd (by decide) c25
theorem j_exI {g : GW} {M : Nat} {pre : AH} (hm : pre.length = M)  : SPx g 3 0 0 yJ9_init_3 cJ9_init_3 5 none [.ref M, .null, .null, .int 0, .int 0] (iH 12 pre [.null, .null, .null, .null, .null, .int 0, .int 0, .int 0] []) none (iH 12 pre [.null, .null, .null, .null, .null, .int 0, .int 0, .int 0] []) := by
  refine SPx.intro [some (.ref M), some (.null), some (.null), some (.int 0), some (.int 0)] (by decide +kernel) rfl (Nat.le_of_ble_eq_true rfl) ?_
  refine wp_aload_0 dJ9_init_3_0 rfl ?_
  refine wp_aloadN_1 dJ9_init_3_1 rfl ?_
  refine wp_aloadN_2 dJ9_init_3_2 rfl ?_
  refine wp_iload_3 dJ9_init_3_3 rfl ?_
  refine wp_iload_4 dJ9_init_3_4 rfl ?_
  refine wp_Ix0 dJ9_init_3_6 rfl q903 mi_J8_init_3 (j_thI hm) rfl rfl (Nat.le_of_ble_eq_true rfl) (Nat.le_of_ble_eq_true rfl) (Nat.zero_le _) (Nat.zero_le _) ?_
  exact wp_return dJ9_init_3_9 rfl ⟨rfl, rfl⟩
theorem j_rtI {g : GW} {M : Nat} {pre : AH} (hm : pre.length = M)  : SPx g 4 0 0 yJ10_init_3 cJ10_init_3 5 none [.ref M, .null, .null, .int 0, .int 0] (iH 12 pre [.null, .null, .null, .null, .null, .int 0, .int 0, .int 0] []) none (iH 12 pre [.null, .null, .null, .null, .null, .int 0, .int 0, .int 0] []) := by
  refine SPx.intro [some (.ref M), some (.null), some (.null), some (.int 0), some (.int 0)] (by decide +kernel) rfl (Nat.le_of_ble_eq_true rfl) ?_
  refine wp_aload_0 dJ10_init_3_0 rfl ?_
  refine wp_aloadN_1 dJ10_init_3_1 rfl ?_
  refine wp_aloadN_2 dJ10_init_3_2 rfl ?_
  refine wp_iload_3 dJ10_init_3_3 rfl ?_
  refine wp_iload_4 dJ10_init_3_4 rfl ?_
  refine wp_Ix0 dJ10_init_3_6 rfl q900 mi_J9_init_3 (j_exI hm) rfl rfl (Nat.le_of_ble_eq_true rfl) (Nat.le_of_ble_eq_true rfl) (Nat.zero_le _) (Nat.zero_le _) ?_
  exact wp_return dJ10_init_3_9 rfl ⟨rfl, rfl⟩
theorem r_fInit {g : GW} {M : Nat} {pre : AH} (hm : pre.length = M) {k p : Int32} : SPx g 5 0 0 yX12_init cX12_init 3 none [.ref M, .int k, .int p] (iH 12 pre [.null, .null, .null, .null, .null, .int 0, .int 0, .int 0] []) none (pre ++ [fltC k p]) := by
  refine SPx.intro [some (.ref M), some (.int k), some (.int p)] (pfn (by decide)) rfl (Nat.le_of_ble_eq_true rfl) ?_
  refine wp_aload_0 dX12_init_0 rfl ?_
  refine wp_null dX12_init_1 rfl ?_
  refine wp_null dX12_init_2 rfl ?_
  refine wp_iconst 0 dX12_init_3 rfl rfl ?_
  refine wp_iconst 0 dX12_init_4 rfl rfl ?_
  refine wp_Ix0 dX12_init_5 rfl q897 mi_J10_init_3 (j_rtI hm) rfl rfl (Nat.le_of_ble_eq_true rfl) (Nat.le_of_ble_eq_true rfl) (Nat.zero_le _) (Nat.zero_le _) ?_
  refine wp_aload_0 dX12_init_8 rfl ?_
  refine wp_iload_1 dX12_init_9 rfl ?_
  refine wp_putfF dX12_init_10 rfl q906 fp12_6 rfl rfl (iH_at0 hm) rfl rfl (Nat.le_of_ble_eq_true rfl) (iH_set0 hm) ?_
  refine wp_aload_0 dX12_init_13 rfl ?_
  refine wp_iload_2 dX12_init_14 rfl ?_
  refine wp_putfF dX12_init_15 rfl q908 fp12_7 rfl rfl (iH_at0 hm) rfl rfl (Nat.le_of_ble_eq_true rfl) (iH_set0 hm) ?_
  exact wp_return dX12_init_18 rfl ⟨rfl, by simp [iH, fltC]⟩
theorem r_fault {g : GW} {C : SC} {S : SM} {X : AH} {r b n : Nat} (hX : 108 ≤ X.length) (hr : r < X.length) (hd : dyn r) (hn : n ≤ 1200) (hT : TB (C.2.1 14)) {a f : Nat} {t v k : Int32} : SPx g 6 1 8 yX11_fault cX11_fault 2 (some (.object "MoleBoard$Fault")) [.ref r, .int k] (cH C S (X.set r (ro b n a f t v))) (some (.ref X.length)) (cH C S ((X.set r (ro b n a f t v)) ++ [fltC k (nI f)])) := by
  refine SPx.intro [some (.ref r), some (.int k)] (pfn (by decide)) rfl (Nat.le_of_ble_eq_true rfl) ?_
  refine wp_new1 dX11_fault_0 rfl q885 nw12 (Nat.le_refl _) (Nat.le_refl _) ?_
  refine wp_dup dX11_fault_3 rfl rfl ?_
  refine wp_iload_1 dX11_fault_4 rfl ?_
  refine wp_aload_0 dX11_fault_5 rfl ?_
  refine wp_getf dX11_fault_6 rfl q798 fk11_4 (g_old (rg hr hd)) rfl ?_
  refine wp_Ix0 dX11_fault_9 rfl q894 mi_X12_init (r_fInit (pre := cH C S (X.set r (ro b n a f t v))) rfl) rfl rfl (Nat.le_of_ble_eq_true rfl) (Nat.le_of_ble_eq_true rfl) (Nat.zero_le _) (Nat.zero_le _) ?_
  rw [cH_app (xs_len hX), cH_len, List.length_set]
  exact wp_areturn_r dX11_fault_12 rfl (Or.inl ⟨_, rfl⟩) ⟨rfl, rfl⟩
theorem rL_is {g : GW} {C : SC} {S : SM} {X : AH} {r b n : Nat} (hX : 108 ≤ X.length) (hr : r < X.length) (hd : dyn r) (hn : n ≤ 1200) (hT : TB (C.2.1 14)) {w : Nat} (hw : w < stT.length) {f : Nat} {v : Int32} (hf : f + stN_ w ≤ n) {c n9 : Nat} {Q : Option Value → AH → Prop} : ∀ (k : Nat) (k2 : Nat), k2 + k = stN_ w → (Q (some (.int (b2i (eqK (fun k => decide ((C.2.1 14) (f + k) = stC w k)) k k2)))) (cH C S (X.set r (ro b n (f + stN_ w) f 1 v)))) → WP g 5 yX11_is cX11_is 3 (some .boolean) 28 [some (.ref r), some (.ref (1000000000 + (100 + w))), some (.int (nI k2))] [] (cH C S (X.set r (ro b n (f + stN_ w) f 1 v))) c n9 Q := by
  intro k
  induction k with
  | zero =>
    intro k2 hi0 hq
    refine wp_iload_2 dX11_is_28 rfl ?_
    refine wp_aload_1 dX11_is_29 rfl ?_
    refine wp_callVS dX11_is_30 rfl q833 mv_J4_length hw rfl (j_length hw) rfl rfl (Nat.le_of_ble_eq_true rfl) (Nat.le_of_ble_eq_true rfl) ?_
    refine wp_icmp_ge_k 63 dX11_is_33 rfl rfl (by have := stn_le w; omega) (by have := stn_le w; omega) (fun c33 => ?_) (fun c33 => ?_)
    · refine wp_iconst 1 dX11_is_63 rfl rfl ?_
      exact wp_zreturn dX11_is_64 rfl rfl hq
    · omega
  | succ k ih =>
    intro k2 hi0 hq
    refine wp_iload_2 dX11_is_28 rfl ?_
    refine wp_aload_1 dX11_is_29 rfl ?_
    refine wp_callVS dX11_is_30 rfl q833 mv_J4_length hw rfl (j_length hw) rfl rfl (Nat.le_of_ble_eq_true rfl) (Nat.le_of_ble_eq_true rfl) ?_
    refine wp_icmp_ge_k 63 dX11_is_33 rfl rfl (by have := stn_le w; omega) (by have := stn_le w; omega) (fun c33 => ?_) (fun c33 => ?_)
    · omega
    · have hk : k2 < stN_ w := by omega
      refine wp_aload_0 dX11_is_36 rfl ?_
      refine wp_getf dX11_is_37 rfl q794 fk11_0 (rg hr hd) rfl ?_
      refine wp_aload_0 dX11_is_40 rfl ?_
      refine wp_getf dX11_is_41 rfl q798 fk11_4 (rg hr hd) rfl ?_
      refine wp_iload_2 dX11_is_44 rfl ?_
      refine wp_iadd dX11_is_45 rfl ?_
      refine wp_baloadn (f + k2) dX11_is_46 rfl (cg_14 (xs_len hX)) (by simp only [nI_lit, pk_mul, nI_add]; try rfl) (by omega) (by decide) ?_
      refine wp_aload_1 dX11_is_47 rfl ?_
      refine wp_iload_2 dX11_is_48 rfl ?_
      refine wp_callVS dX11_is_49 rfl q843 mv_J4_charAt hw rfl (j_charAt hw hk) rfl rfl (Nat.le_of_ble_eq_true rfl) (Nat.le_of_ble_eq_true rfl) ?_
      rw [stC_and hw hk]
      refine wp_icmp_eq 57 dX11_is_52 rfl rfl (fun c52 => ?_) (fun c52 => ?_)
      · have hp : (fun k => decide ((C.2.1 14) (f + k) = stC w k)) k2 = true := decide_eq_true c52
        refine wp_iinc_2 1 dX11_is_57 rfl rfl (by decide) rfl ?_
        refine wp_goto 28 dX11_is_60 rfl rfl ?_
        exact WP.cast (by rw [nI_1]) (ih (k2 + 1) (by omega) (by rw [eqK_t hp] at hq; exact hq))
      · have hp : (fun k => decide ((C.2.1 14) (f + k) = stC w k)) k2 = false := decide_eq_false c52
        refine wp_iconst 0 dX11_is_55 rfl rfl ?_
        exact wp_zreturn dX11_is_56 rfl rfl (by rw [eqK_f hp] at hq; exact hq)
theorem r_is {g : GW} {C : SC} {S : SM} {X : AH} {r b n : Nat} (hX : 108 ≤ X.length) (hr : r < X.length) (hd : dyn r) (hn : n ≤ 1200) (hT : TB (C.2.1 14)) {L : LX} {w : Nat} (hw : w < stT.length) (hL : lFr L ≤ lAt L ∧ lAt L ≤ n ∧ lTk L ≤ 4) : SPx g 5 0 0 yX11_is cX11_is 3 (some .boolean) [.ref r, .ref (1000000000 + (100 + w))] (cH C S (X.set r (lxo b n L))) (some (.int (b2i (isB (C.2.1 14) w L)))) (cH C S (X.set r (lxo b n L))) := by
  refine SPx.intro [some (.ref r), some (.ref (1000000000 + (100 + w))), none] (pfn (by decide)) rfl (Nat.le_of_ble_eq_true rfl) ?_
  obtain ⟨f, a, t, v⟩ := L
  obtain ⟨h1, h2, h3⟩ := hL
  change f ≤ a at h1
  change a ≤ n at h2
  change t ≤ 4 at h3
  change WP g 5 _ _ _ _ _ _ _ (cH C S (X.set r (ro b n a f (nI t) v))) _ _ _
  refine wp_aload_0 dX11_is_0 rfl ?_
  refine wp_getf dX11_is_1 rfl q799 fk11_5 (rg hr hd) rfl ?_
  refine wp_iconst 1 dX11_is_4 rfl rfl ?_
  refine wp_icmp_ne 24 dX11_is_5 rfl rfl (fun c5 => ?_) (fun c5 => ?_)
  · have c5 : ¬ t = 1 := fun q => c5 (by rw [q]; rfl)
    refine wp_iconst 0 dX11_is_24 rfl rfl ?_
    exact wp_zreturn dX11_is_25 rfl rfl ⟨by show _ = some (Value.int (b2i (decide (t = 1) && _ && _))); rw [decide_eq_false c5]; rfl, rfl⟩
  · have c5 : t = 1 := nI_ij (b := 1) (by omega) (by omega) c5
    subst c5
    refine wp_aload_0 dX11_is_8 rfl ?_
    refine wp_getf dX11_is_9 rfl q797 fk11_3 (rg hr hd) rfl ?_
    refine wp_aload_0 dX11_is_12 rfl ?_
    refine wp_getf dX11_is_13 rfl q798 fk11_4 (rg hr hd) rfl ?_
    refine wp_isub dX11_is_16 rfl ?_
    rw [pk_sub h1]
    refine wp_aload_1 dX11_is_17 rfl ?_
    refine wp_callVS dX11_is_18 rfl q833 mv_J4_length hw rfl (j_length hw) rfl rfl (Nat.le_of_ble_eq_true rfl) (Nat.le_of_ble_eq_true rfl) ?_
    refine wp_icmp_eq_k 26 dX11_is_21 rfl rfl (by omega) (by have := stn_le w; omega) (fun c21 => ?_) (fun c21 => ?_)
    · obtain rfl : a = f + stN_ w := by omega
      refine wp_iconst 0 dX11_is_26 rfl rfl ?_
      refine wp_istore_2 dX11_is_27 rfl (by decide) rfl ?_
      refine rL_is hX hr hd hn hT hw h2 (stN_ w) 0 (Nat.zero_add _) ?_
      exact ⟨by show _ = some (Value.int (b2i (decide (1 = 1) && decide (f + stN_ w = f + stN_ w) && _))); rw [decide_eq_true (show f + stN_ w = f + stN_ w from rfl)]; rfl, rfl⟩
    · refine wp_iconst 0 dX11_is_24 rfl rfl ?_
      exact wp_zreturn dX11_is_25 rfl rfl ⟨by show _ = some (Value.int (b2i (decide (1 = 1) && decide (a = f + stN_ w) && _))); rw [decide_eq_false (show ¬ a = f + stN_ w by omega)]; rfl, rfl⟩
