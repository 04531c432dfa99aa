-- PART 95.drumpic
/-! ===== the drum changed: boards stay boards ===== -/
def swi (k l j : Nat) : Nat := if j = k then l else if j = l then k else j
theorem swi_lt {k l j n : Nat} (hk : k < n) (hl : l < n) (hj : j < n) : swi k l j < n := by
  unfold swi
  split
  · exact hl
  · split
    · exact hk
    · exact hj
theorem swi_sw (k l j : Nat) : swi k l (swi k l j) = j := by
  unfold swi
  repeat' split
  all_goals omega
theorem swW_at (k l : Nat) (W : Nat → Int32) (j w : Nat) (hw : w < 3) : swW k l W (24 + 3 * j + w) = W (24 + 3 * swi k l j + w) := by
  unfold swW swi
  by_cases h1 : j = k
  · subst h1
    rw [if_pos (by omega), if_pos rfl]
    congr 1
    omega
  · rw [if_neg (by omega), if_neg h1]
    by_cases h2 : j = l
    · subst h2
      rw [if_pos (by omega), if_pos rfl]
      congr 1
      omega
    · rw [if_neg (by omega), if_neg h2]
theorem swW_o {k l : Nat} {W : Nat → Int32} {j n : Nat} (hk : k < n) (hl : l < n) (h24 : n ≤ 24) (h : j < 24 ∨ 96 ≤ j) : swW k l W j = W j := by
  unfold swW
  rw [if_neg (by omega), if_neg (by omega)]
theorem CoK.mv {W W' : Nat → Int32} {k j a : Nat} {o : Option Nat} {r : Bool} (h : CoK W k a o r) (e : ∀ i, i = 0 ∨ i = 1 ∨ i = 7 → W' i = W i) (e2 : ∀ w, w < 3 → W' (24 + 3 * j + w) = W (24 + 3 * k + w)) : CoK W' j a o r := by
  have q0 := e2 0 (by omega)
  have q1 := e2 1 (by omega)
  have q2 := e2 2 (by omega)
  rw [Nat.add_zero, Nat.add_zero] at q0
  unfold CoK
  rw [hoN_c (e 0 (by omega)) (e 1 (by omega)), q0, q1, q2, shW_c (e 7 (by omega))]
  refine ⟨h.1, h.2.1, h.2.2.1, h.2.2.2.1, h.2.2.2.2.1, fun b hb => ?_⟩
  rw [shW_c (e 7 (by omega))]
  exact h.2.2.2.2.2 b hb
theorem WFa.sw {W : Nat → Int32} (h : WFa W) {k l : Nat} (hk : k < nW W 5) (hl : l < nW W 5) : WFa (swW k l W) := by
  have h24 := h.1.1.nc.2
  have e : ∀ j, j < 24 ∨ 96 ≤ j → swW k l W j = W j := fun j hj => swW_o hk hl h24 hj
  have hb : bdW W = true := h.bd (j := 5) (Or.inr trivial) (by rw [h.1.1.nc.1]; exact nI_ne0 (by omega) (by omega))
  have h4 := h.1.1.ns.2
  obtain ⟨a1, a2, a3, a4, a5, a6⟩ := h.1
  refine ⟨⟨a1.cg (fun j hj => e j (by omega)), a2.cg (fun j hj => e j (by omega)), fun j hj => ?_, a4.cg (fun j hj => e j (by omega)) a1.np.2, fun j hj => by rw [e j (by omega)]; exact a5 j hj, ?_⟩, h.2.cg (fun j hj => e j (by omega)) hb⟩
  · rw [nW_c (e 5 (by omega))] at hj
    obtain ⟨a, o, r, q⟩ := a3 _ (swi_lt hk hl hj)
    exact ⟨a, o, r, q.mv (fun i hi => e i (by omega)) (fun w hw => swW_at k l W j w hw)⟩
  · rw [nW_c (e 8 (by omega)), nW_c (e 5 (by omega)), e 8 (by omega)]
    exact a6
theorem WFa.paint {W : Nat → Int32} (h : WFa W) {k : Nat} (hk : k < nW W 5) (r : Bool) : WFa (upd W (24 + 3 * k + 2) (b2i r)) := by
  have h24 := h.1.1.nc.2
  have e : ∀ j, j ≠ 24 + 3 * k + 2 → upd W (24 + 3 * k + 2) (b2i r) j = W j := fun j hj => pk_un hj
  have hb : bdW W = true := h.bd (j := 5) (Or.inr trivial) (by rw [h.1.1.nc.1]; exact nI_ne0 (by omega) (by omega))
  have h4 := h.1.1.ns.2
  obtain ⟨a1, a2, a3, a4, a5, a6⟩ := h.1
  refine ⟨⟨a1.cg (fun j hj => e j (by omega)), a2.cg (fun j hj => e j (by omega)), fun j hj => ?_, a4.cg (fun j hj => e j (by omega)) a1.np.2, fun j hj => by rw [e j (by omega)]; exact a5 j hj, ?_⟩, h.2.cg (fun j hj => e j (by omega)) hb⟩
  · rw [nW_c (e 5 (by omega))] at hj
    obtain ⟨a, o, s, q⟩ := a3 j hj
    by_cases hjk : j = k
    · subst hjk
      refine ⟨a, o, r, by rw [e _ (by omega)]; exact q.1, by rw [e _ (by omega)]; exact q.2.1, pk_us, ?_⟩
      rw [hoN_c (e 0 (by omega)) (e 1 (by omega)), shW_c (e 7 (by omega))]
      refine ⟨q.2.2.2.1, q.2.2.2.2.1, fun b hb => ?_⟩
      rw [shW_c (e 7 (by omega))]
      exact q.2.2.2.2.2 b hb
    · exact ⟨a, o, s, q.cg (fun i hi => e i (by omega))⟩
  · rw [nW_c (e 8 (by omega)), nW_c (e 5 (by omega)), e 8 (by omega)]
    exact a6
theorem nx_and2 (a b : Nat) : nI a &&& nI b = nI (a &&& b) := by
  apply Int32.toBitVec_inj.1
  show BitVec.ofNat 32 a &&& BitVec.ofNat 32 b = BitVec.ofNat 32 (a &&& b)
  apply BitVec.eq_of_getLsbD_eq
  intro i hi
  simp [hi]
theorem nx_xor2 (a b : Nat) : nI a ^^^ nI b = nI (a ^^^ b) := by
  apply Int32.toBitVec_inj.1
  show BitVec.ofNat 32 a ^^^ BitVec.ofNat 32 b = BitVec.ofNat 32 (a ^^^ b)
  apply BitVec.eq_of_getLsbD_eq
  intro i hi
  simp [hi]
theorem an_xor (a b : Int32) : a &&& (b ^^^ (-1)) = a ^^^ (a &&& b) := by
  apply Int32.toBitVec_inj.1
  show a.toBitVec &&& (b.toBitVec ^^^ (BitVec.allOnes 32)) = a.toBitVec ^^^ (a.toBitVec &&& b.toBitVec)
  rw [BitVec.xor_allOnes]
  apply BitVec.eq_of_getLsbD_eq
  intro i hi
  rw [BitVec.getLsbD_and, BitVec.getLsbD_xor, BitVec.getLsbD_and, BitVec.getLsbD_not, decide_eq_true hi]
  cases a.toBitVec.getLsbD i <;> cases b.toBitVec.getLsbD i <;> rfl
theorem an_or (a b : Int32) : a &&& (b ^^^ (-1)) ||| b = a ||| b := by
  apply Int32.toBitVec_inj.1
  show a.toBitVec &&& (b.toBitVec ^^^ (BitVec.allOnes 32)) ||| b.toBitVec = a.toBitVec ||| b.toBitVec
  rw [BitVec.xor_allOnes]
  apply BitVec.eq_of_getLsbD_eq
  intro i hi
  rw [BitVec.getLsbD_or, BitVec.getLsbD_or, BitVec.getLsbD_and, BitVec.getLsbD_not, decide_eq_true hi]
  cases a.toBitVec.getLsbD i <;> cases b.toBitVec.getLsbD i <;> rfl
theorem an_0 (a b : Int32) : a &&& (b ^^^ (-1)) ||| ((0 : Int32) <<< (b &&& 31)) = a &&& (b ^^^ (-1)) := by
  rw [show ((0 : Int32) <<< (b &&& 31)) = 0 from by
    apply Int32.toBitVec_inj.1
    show (BitVec.ofNat 32 0) <<< _ = BitVec.ofNat 32 0
    simp]
  exact Int32.or_zero
/-- the bit of hole x put: what a change to shut holes lays -/
def sbN (n x : Nat) (v : Bool) : Nat := if v then n ||| 2 ^ x else n ^^^ (n &&& 2 ^ x)
theorem sbN_lt {n x : Nat} {v : Bool} (hn : n < 4096) (hx : x < 12) : sbN n x v < 4096 := by
  have h2 : 2 ^ x < 4096 := Nat.pow_lt_pow_right (a := 2) (n := 12) (by omega) (by omega)
  unfold sbN
  split
  · exact Nat.or_lt_two_pow (n := 12) hn h2
  · exact Nat.xor_lt_two_pow (n := 12) hn (Nat.and_lt_two_pow (n := 12) _ h2)
theorem sbN_o {n x a : Nat} {v : Bool} (h : a ≠ x) : (sbN n x v).testBit a = n.testBit a := by
  unfold sbN
  split
  · rw [Nat.testBit_or, Nat.testBit_two_pow_of_ne (Ne.symm h), Bool.or_false]
  · rw [Nat.testBit_xor, Nat.testBit_and, Nat.testBit_two_pow_of_ne (Ne.symm h), Bool.and_false, Bool.xor_false]
theorem sb_n {n x : Nat} (hx : x < 12) (v : Bool) : nI n &&& (((1 : Int32) <<< (nI x &&& 31)) ^^^ (-1)) ||| (b2i v <<< (nI x &&& 31)) = nI (sbN n x v) := by
  cases v with
  | true =>
    rw [show b2i true = 1 from rfl, an_or, bit_n hx, nx_or2]
    rfl
  | false =>
    rw [show (b2i false <<< (nI x &&& 31) : Int32) = 0 from by
      show (0 : Int32) <<< (nI x &&& 31) = 0
      apply Int32.toBitVec_inj.1
      show (BitVec.ofNat 32 0) <<< _ = BitVec.ofNat 32 0
      simp, Int32.or_zero, an_xor, bit_n hx, nx_and2, nx_xor2]
    rfl
theorem WFa.shut {W : Nat → Int32} (h : WFa W) {x : Nat} (hx : x < hoN W) (hc : isCo W (nI x) = false) (v : Bool) : WFa (upd W 7 (nI (sbN (nW W 7) x v))) := by
  have h12 := h.1.1.ho12
  have hb : bdW W = true := h.bd (j := 0) (Or.inr trivial) (h.1.1.w0ne hx)
  generalize hV : upd W 7 (nI (sbN (nW W 7) x v)) = V
  have hlt : sbN (nW W 7) x v < 4096 := sbN_lt h.1.1.sh.2 (by omega)
  have eo : ∀ j, j ≠ 7 → V j = W j := fun j q => by rw [← hV, pk_un q]
  have e7 : V 7 = nI (sbN (nW W 7) x v) := by rw [← hV, pk_us]
  have n7 : nW V 7 = sbN (nW W 7) x v := nW_n e7 (by omega)
  have h24 := h.1.1.nc.2
  have h4 := h.1.1.ns.2
  obtain ⟨hs, ht, hco, hp, hz, h8⟩ := h.1
  have hsh : ∀ a, a < 12 → a ≠ x → shW V (nI a) = shW W (nI a) := fun a ha q => by
    rw [shW_n e7 hlt ha, shW_n hs.sh.1 hs.sh.2 ha, sbN_o q]
  refine ⟨⟨?_, ht.cg (fun j hj => eo j (by omega)), ?_, hp.cg (fun j hj => eo j (by omega)) hs.np.2, fun j hj => (eo j (by omega)).trans (hz j hj), ?_⟩, h.2.cg (fun j hj => eo j (by omega)) hb⟩
  · obtain ⟨a0, a1, a2, a3, a4, a5, a6, a7, a8⟩ := hs
    unfold WFs
    rw [n7]
    simp only [nW, eo 0 (by omega), eo 1 (by omega), eo 2 (by omega), eo 3 (by omega), eo 4 (by omega), eo 5 (by omega), eo 6 (by omega), eo 8 (by omega)] at *
    exact ⟨a0, a1, a2, a3, a4, a5, a6, ⟨e7, hlt⟩, a8⟩
  · intro k hk
    rw [nW_c (eo 5 (by omega))] at hk
    obtain ⟨a, o, r, q1, q2, q3, q4, q5, q6⟩ := hco k hk
    obtain ⟨n1, n2⟩ := isCo_no hc hk
    refine ⟨a, o, r, by rw [eo _ (by omega)]; exact q1, by rw [eo _ (by omega)]; exact q2, by rw [eo _ (by omega)]; exact q3, by rw [hoN_c (eo 0 (by omega)) (eo 1 (by omega))]; exact q4, ?_, fun b hb => ?_⟩
    · rw [hsh a (by omega) (fun q => n1 (by rw [q1, q]))]
      exact q5
    · obtain ⟨b1, b2, b3⟩ := q6 b hb
      refine ⟨by rw [hoN_c (eo 0 (by omega)) (eo 1 (by omega))]; exact b1, ?_, b3⟩
      rw [hsh b (by omega) (fun q => n2 (by rw [q2, hb, q]; rfl))]
      exact b2
  · rw [nW_c (eo 8 (by omega)), nW_c (eo 5 (by omega)), eo 8 (by omega)]
    exact h8
/-- what a player may be told -/
def traN (W : Nat → Int32) (x n : Nat) : Prop := (x = 0 ∧ 1 ≤ n ∧ n ≤ 9) ∨ (x = 1 ∧ n ≤ 20) ∨ (x = 2 ∧ n ≤ 99) ∨ (x = 3 ∧ n ≤ 9) ∨ (x = 4 ∧ n < hoN W)
theorem WFa.train {W : Nat → Int32} (h : WFa W) {p x n : Nat} (hp : p < nW W 6) (ht : traN W x n) : WFa (upd W (96 + 5 * p + x) (nI n)) := by
  have hx : x < 5 := by unfold traN at ht; omega
  have h12 := h.1.1.ho12
  have h46 := h.1.1.np.2
  have hb : bdW W = true := h.bd (j := 6) (Or.inr trivial) (by rw [h.1.1.np.1]; exact nI_ne0 (by omega) (by omega))
  generalize hV : upd W (96 + 5 * p + x) (nI n) = V
  have eo : ∀ j, j ≠ 96 + 5 * p + x → V j = W j := fun j q => by rw [← hV, pk_un q]
  have ex : V (96 + 5 * p + x) = nI n := by rw [← hV, pk_us]
  have hn : n < 1000 := by unfold traN at ht; omega
  have nx : nW V (96 + 5 * p + x) = n := nW_n ex (by omega)
  have h24 := h.1.1.nc.2
  have h4 := h.1.1.ns.2
  obtain ⟨hs, ht2, hco, hpl, hz, h8⟩ := h.1
  refine ⟨⟨hs.cg (fun j hj => eo j (by omega)), ht2.cg (fun j hj => eo j (by omega)), hco.cg (fun j hj => eo j (by omega)) h24, ?_, fun j hj => (eo j (by omega)).trans (hz j hj), ?_⟩, h.2.cg (fun j hj => eo j (by omega)) hb⟩
  · unfold WFp
    rw [nW_c (eo 6 (by omega)), hoN_c (eo 0 (by omega)) (eo 1 (by omega))]
    intro q hq
    have q1 := hpl q hq
    by_cases e : q = p
    · subst e
      rcases ht with ⟨rfl, t⟩ | ⟨rfl, t⟩ | ⟨rfl, t⟩ | ⟨rfl, t⟩ | ⟨rfl, t⟩
      · rw [Nat.add_zero] at ex nx eo
        rw [ex, nx, nW_c (eo _ (by omega)), eo _ (by omega), nW_c (eo _ (by omega)), eo _ (by omega), nW_c (eo _ (by omega)), eo _ (by omega), nW_c (eo _ (by omega)), eo _ (by omega)]
        exact ⟨⟨rfl, t⟩, q1.2⟩
      · rw [ex, nx, nW_c (eo (96 + 5 * q) (by omega)), eo (96 + 5 * q) (by omega), nW_c (eo (96 + 5 * q + 2) (by omega)), eo (96 + 5 * q + 2) (by omega), nW_c (eo (96 + 5 * q + 3) (by omega)), eo (96 + 5 * q + 3) (by omega), nW_c (eo (96 + 5 * q + 4) (by omega)), eo (96 + 5 * q + 4) (by omega)]
        exact ⟨q1.1, ⟨rfl, t⟩, q1.2.2⟩
      · rw [ex, nx, nW_c (eo (96 + 5 * q) (by omega)), eo (96 + 5 * q) (by omega), nW_c (eo (96 + 5 * q + 1) (by omega)), eo (96 + 5 * q + 1) (by omega), nW_c (eo (96 + 5 * q + 3) (by omega)), eo (96 + 5 * q + 3) (by omega), nW_c (eo (96 + 5 * q + 4) (by omega)), eo (96 + 5 * q + 4) (by omega)]
        exact ⟨q1.1, q1.2.1, ⟨rfl, t⟩, q1.2.2.2⟩
      · rw [ex, nx, nW_c (eo (96 + 5 * q) (by omega)), eo (96 + 5 * q) (by omega), nW_c (eo (96 + 5 * q + 1) (by omega)), eo (96 + 5 * q + 1) (by omega), nW_c (eo (96 + 5 * q + 2) (by omega)), eo (96 + 5 * q + 2) (by omega), nW_c (eo (96 + 5 * q + 4) (by omega)), eo (96 + 5 * q + 4) (by omega)]
        exact ⟨q1.1, q1.2.1, q1.2.2.1, ⟨rfl, t⟩, q1.2.2.2.2⟩
      · rw [ex, nx, nW_c (eo (96 + 5 * q) (by omega)), eo (96 + 5 * q) (by omega), nW_c (eo (96 + 5 * q + 1) (by omega)), eo (96 + 5 * q + 1) (by omega), nW_c (eo (96 + 5 * q + 2) (by omega)), eo (96 + 5 * q + 2) (by omega), nW_c (eo (96 + 5 * q + 3) (by omega)), eo (96 + 5 * q + 3) (by omega)]
        exact ⟨q1.1, q1.2.1, q1.2.2.1, q1.2.2.2.1, rfl, t⟩
    · simp only [nW, eo (96 + 5 * q) (by omega), eo (96 + 5 * q + 1) (by omega), eo (96 + 5 * q + 2) (by omega), eo (96 + 5 * q + 3) (by omega), eo (96 + 5 * q + 4) (by omega)] at q1 ⊢
      exact q1
  · rw [nW_c (eo 8 (by omega)), nW_c (eo 5 (by omega)), eo 8 (by omega)]
    exact h8
/-! the class's boards -/
def BA.sw (A : BA) (k l : Nat) : BA := (A.1, (fun i => if i = 0 then (fun j => A.mo (swi k l j)) else A.2.1 i), A.2.2.1, (va_up (va_up A.df k (some (A.mo l))) l (some (A.mo k)), A.pf), A.2.2.2.2)
theorem BD.swp {X : AH} {lo hi b : Nat} {A : BA} {W : Nat → Int32} (h : BD X lo hi b A W) {k l : Nat} (hk : k < nW W 5) (hl : l < nW W 5) : BD (X.set A.dq (.inl (6, 24, .inr (.inr (A.sw k l).df)))) lo hi b (A.sw k l) (swW k l W) := by
  have h24 := h.n5.2
  have e : ∀ j, j < 24 ∨ 96 ≤ j → swW k l W j = W j := fun j hj => swW_o hk hl h24 hj
  have hb := h.oq.1
  have e5 : nW (swW k l W) 5 = nW W 5 := nW_c (e 5 (by omega))
  have e6 : nW (swW k l W) 6 = nW W 6 := nW_c (e 6 (by omega))
  have e4 : nW (swW k l W) 4 = nW W 4 := nW_c (e 4 (by omega))
  have h4 := h.n4.2
  have ob : bfl (A.sw k l) (swW k l W) = bfl A W := by
    unfold bfl
    rw [e 0 (by omega), e 1 (by omega), e 2 (by omega), e 3 (by omega), e 4 (by omega), e 7 (by omega), e 8 (by omega), e 9 (by omega)]
    rfl
  have hne : ∀ j, j < nW W 5 → A.dq ≠ A.mo j := fun j hj q => by
    have h1 := (h.mo j hj).2.1
    rw [← q, hb] at h1
    cases h1
  refine ⟨h.dy, ?_, ?_, h.oq.set_s, ?_, h.orr.other hb (by simp), h.of.other hb (by simp), h.os.other hb (by simp), h.fs, fun q => ?_, ?_, ?_, ?_, fun j hj => ?_, fun i j hi hj q => ?_, fun j hj => ?_, fun j k hj hk q => h.pj j k (by omega) (by omega) q, fun j hj => ?_⟩
  · rw [ob]; exact h.ob.other hb (by simp)
  · rw [e5]; exact h.od.other hb (by simp)
  · rw [e6]; exact h.op.other hb (by simp)
  · rw [e 0 (by omega)] at q
    rw [e 10 (by omega), e 11 (by omega)]
    exact h.te q
  · rw [e5, e 5 (by omega)]; exact h.n5
  · rw [e6, e 6 (by omega)]; exact h.n6
  · rw [e4, e 4 (by omega)]; exact h.n4
  · rw [e5] at hj
    have hs := swi_lt hk hl hj
    refine ⟨?_, ?_⟩
    · show va_up (va_up A.df k (some (A.mo l))) l (some (A.mo k)) j = some (A.mo (swi k l j))
      unfold va_up swi
      by_cases q1 : j = l
      · rw [if_pos q1]
        by_cases q2 : j = k
        · rw [if_pos q2, ← q1, ← q2]
        · rw [if_neg q2, if_pos q1]
      · rw [if_neg q1]
        by_cases q2 : j = k
        · rw [if_pos q2, if_pos q2]
        · rw [if_neg q2, if_neg q2, if_neg q1]
          exact (h.mo j hj).1
    · show DX _ lo hi (A.mo (swi k l j)) _
      have e3 : mofl (swW k l W) j = mofl W (swi k l j) := by
        unfold mofl
        have q0 := swW_at k l W j 0 (by omega)
        rw [Nat.add_zero, Nat.add_zero] at q0
        rw [q0, swW_at k l W j 1 (by omega), swW_at k l W j 2 (by omega)]
      rw [e3]
      exact (h.mo _ hs).2.set (hne _ hs)
  · rw [e5] at hi hj
    have := h.mi _ _ (swi_lt hk hl hi) (swi_lt hk hl hj) q
    rw [← swi_sw k l i, this, swi_sw]
  · rw [e6] at hj
    obtain ⟨h1, h2, h3, h5⟩ := h.pl j hj
    exact ⟨h1, h2.other hb (by simp), h3.other hb (by simp), fun i hi => by rw [e _ (by omega)]; exact h5 i hi⟩
  · rw [e4] at hj
    rw [e _ (by omega), e _ (by omega)]
    exact h.st j hj
theorem BD.paint {X : AH} {lo hi b : Nat} {A : BA} {W : Nat → Int32} (h : BD X lo hi b A W) {k : Nat} (hk : k < nW W 5) (v : Int32) : BD (X.set (A.mo k) (.inr (14, mofl (upd W (24 + 3 * k + 2) v) k))) lo hi b A (upd W (24 + 3 * k + 2) v) := by
  have h24 := h.n5.2
  have h4 := h.n4.2
  have e : ∀ j, j ≠ 24 + 3 * k + 2 → upd W (24 + 3 * k + 2) v j = W j := fun j hj => pk_un hj
  have hb := (h.mo k hk).2.1
  generalize upd W (24 + 3 * k + 2) v = V at *
  have e5 : nW V 5 = nW W 5 := nW_c (e 5 (by omega))
  have e6 : nW V 6 = nW W 6 := nW_c (e 6 (by omega))
  have e4 : nW V 4 = nW W 4 := nW_c (e 4 (by omega))
  have ob : bfl A V = bfl A W := by
    unfold bfl
    rw [e 0 (by omega), e 1 (by omega), e 2 (by omega), e 3 (by omega), e 4 (by omega), e 7 (by omega), e 8 (by omega), e 9 (by omega)]
  refine ⟨h.dy, ?_, ?_, h.oq.other hb (by simp), ?_, h.orr.other hb (by simp), h.of.other hb (by simp), h.os.other hb (by simp), h.fs, fun q => ?_, ?_, ?_, ?_, fun j hj => ?_, fun i j hi hj q => h.mi i j (by omega) (by omega) q, fun j hj => ?_, fun j k hj hk q => h.pj j k (by omega) (by omega) q, fun j hj => ?_⟩
  · rw [ob]; exact h.ob.other hb (by simp)
  · rw [e5]; exact h.od.other hb (by simp)
  · rw [e6]; exact h.op.other hb (by simp)
  · rw [e 0 (by omega)] at q
    rw [e 10 (by omega), e 11 (by omega)]
    exact h.te q
  · rw [e5, e 5 (by omega)]; exact h.n5
  · rw [e6, e 6 (by omega)]; exact h.n6
  · rw [e4, e 4 (by omega)]; exact h.n4
  · rw [e5] at hj
    refine ⟨(h.mo j hj).1, ?_⟩
    by_cases q : j = k
    · subst q
      exact (h.mo j hj).2.set_s
    · have e3 : mofl V j = mofl W j := by
        unfold mofl
        rw [e _ (by omega), e _ (by omega), e _ (by omega)]
      rw [e3]
      exact (h.mo j hj).2.set (fun z => q (h.mi j k hj hk z.symm))
  · rw [e6] at hj
    obtain ⟨h1, h2, h3, h5⟩ := h.pl j hj
    exact ⟨h1, h2.other hb (by simp), h3.other hb (by simp), fun i hi => by rw [e _ (by omega)]; exact h5 i hi⟩
  · rw [e4] at hj
    rw [e _ (by omega), e _ (by omega)]
    exact h.st j hj
def BA.tr (A : BA) (p x : Nat) (n : Int32) : BA := (A.1, A.2.1, A.2.2.1, A.2.2.2.1, va_up A.pv p (upd (A.pv p) x n), A.2.2.2.2.2)
theorem BD.train {X : AH} {lo hi b : Nat} {A : BA} {W : Nat → Int32} (h : BD X lo hi b A W) {p x : Nat} (hp : p < nW W 6) (hx : x < 5) (n : Int32) : BD (X.set (A.pi p) (.inl (0, 5, .inl (upd (A.pv p) x n)))) lo hi b (A.tr p x n) (upd W (96 + 5 * p + x) n) := by
  have h24 := h.n5.2
  have h4 := h.n4.2
  have h46 := h.n6.2
  have e : ∀ j, j ≠ 96 + 5 * p + x → upd W (96 + 5 * p + x) n j = W j := fun j hj => pk_un hj
  have ex : upd W (96 + 5 * p + x) n (96 + 5 * p + x) = n := pk_us
  have hb := (h.pl p hp).2.2.1.1
  generalize upd W (96 + 5 * p + x) n = V at *
  have e5 : nW V 5 = nW W 5 := nW_c (e 5 (by omega))
  have e6 : nW V 6 = nW W 6 := nW_c (e 6 (by omega))
  have e4 : nW V 4 = nW W 4 := nW_c (e 4 (by omega))
  have ob : bfl (A.tr p x n) V = bfl A W := by
    unfold bfl
    rw [e 0 (by omega), e 1 (by omega), e 2 (by omega), e 3 (by omega), e 4 (by omega), e 7 (by omega), e 8 (by omega), e 9 (by omega)]
    rfl
  refine ⟨h.dy, ?_, ?_, h.oq.other hb (by simp), ?_, h.orr.other hb (by simp), h.of.other hb (by simp), h.os.other hb (by simp), h.fs, fun q => ?_, ?_, ?_, ?_, fun j hj => ?_, fun i j hi hj q => h.mi i j (by omega) (by omega) q, fun j hj => ?_, fun j k hj hk q => h.pj j k (by omega) (by omega) q, fun j hj => ?_⟩
  · rw [ob]; exact h.ob.other hb (by simp)
  · rw [e5]; exact h.od.other hb (by simp)
  · rw [e6]; exact h.op.other hb (by simp)
  · rw [e 0 (by omega)] at q
    rw [e 10 (by omega), e 11 (by omega)]
    exact h.te q
  · rw [e5, e 5 (by omega)]; exact h.n5
  · rw [e6, e 6 (by omega)]; exact h.n6
  · rw [e4, e 4 (by omega)]; exact h.n4
  · rw [e5] at hj
    have e3 : mofl V j = mofl W j := by
      unfold mofl
      rw [e _ (by omega), e _ (by omega), e _ (by omega)]
    rw [e3]
    exact ⟨(h.mo j hj).1, (h.mo j hj).2.other hb (by simp)⟩
  · rw [e6] at hj
    obtain ⟨h1, h2, h3, h5⟩ := h.pl j hj
    refine ⟨h1, h2.other hb (by simp), ?_, fun i hi => ?_⟩
    · show DX _ lo hi (A.pi j) (.inl (0, 5, .inl (va_up A.pv p (upd (A.pv p) x n) j)))
      by_cases q : j = p
      · subst q
        rw [va_up_self]
        exact h3.set_s
      · rw [va_up_ne _ _ q]
        exact h3.set (fun z => q (h.pj j p hj hp z.symm))
    · show va_up A.pv p (upd (A.pv p) x n) j i = V (96 + 5 * j + i)
      by_cases q : j = p
      · subst q
        rw [va_up_self]
        by_cases qi : i = x
        · subst qi
          rw [pk_us, ex]
        · rw [pk_un qi, e _ (by omega)]
          exact h5 i hi
      · rw [va_up_ne _ _ q, e _ (by omega)]
        exact h5 i hi
  · rw [e4] at hj
    rw [e _ (by omega), e _ (by omega)]
    exact h.st j hj
/-- only cells lo .. hi - 1 changed; more may be there -/
def OutX (X X' : AH) (lo hi : Nat) : Prop := X.length ≤ X'.length ∧ ∀ a e, (a < lo ∨ hi ≤ a) → X[a]? = some e → X'[a]? = some e
theorem OutX.rf (X : AH) (lo hi : Nat) : OutX X X lo hi := ⟨Nat.le_refl _, fun _ _ _ h => h⟩
theorem OutX.tr {X X' X'' : AH} {lo hi : Nat} (h : OutX X X' lo hi) (h' : OutX X' X'' lo hi) : OutX X X'' lo hi := ⟨Nat.le_trans h.1 h'.1, fun a e q r => h'.2 a e q (h.2 a e q r)⟩
theorem OutX.set {X : AH} {lo hi b : Nat} {e : AE} (h1 : lo ≤ b) (h2 : b < hi) : OutX X (X.set b e) lo hi := ⟨by rw [List.length_set]; exact Nat.le_refl _, fun a e q r => (List.getElem?_set_ne (by omega)).trans r⟩
theorem OutX.app {X Z : AH} {lo hi : Nat} : OutX X (X ++ Z) lo hi := ⟨by rw [List.length_append]; omega, fun a e _ r => (List.getElem?_append_left (List.getElem?_eq_some_iff.mp r).1).trans r⟩
theorem OutX.dx {X X' : AH} {lo hi l h : Nat} {a : Nat} {e : AE} (o : OutX X X' lo hi) (q : h ≤ lo ∨ hi ≤ l) (d : DX X l h a e) : DX X' l h a e := ⟨o.2 a e (by have := d.2; omega) d.1, d.2⟩
/-- a change of the board now: answers v; the board is a picture of W', in the same cells; nothing else of what was there changed -/
def QCW (C : SC) (S : SM) (X : AH) (lo hi b : Nat) (v : Value) (W' : Nat → Int32) : Option Value → AH → Prop := fun v' h1 => v' = some v ∧ ∃ C' X' A', h1 = cH C' S X' ∧ KC C C' ∧ OutX X X' lo hi ∧ EV C' X' lo hi b A' W'
theorem EV.sw {C : SC} {X : AH} {lo hi b : Nat} {A : BA} {W : Nat → Int32} (h : EV C X lo hi b A W) {k l : Nat} (hk : k < nW W 5) (hl : l < nW W 5) : EV C (X.set A.dq (.inl (6, 24, .inr (.inr (A.sw k l).df)))) lo hi b (A.sw k l) (swW k l W) := ⟨by rw [List.length_set]; exact h.X, h.n, h.B.swp hk hl, h.w.sw hk hl⟩
theorem EV.paint {C : SC} {X : AH} {lo hi b : Nat} {A : BA} {W : Nat → Int32} (h : EV C X lo hi b A W) {k : Nat} (hk : k < nW W 5) (r : Bool) : EV C (X.set (A.mo k) (.inr (14, mofl (upd W (24 + 3 * k + 2) (b2i r)) k))) lo hi b A (upd W (24 + 3 * k + 2) (b2i r)) := ⟨by rw [List.length_set]; exact h.X, h.n, h.B.paint hk _, h.w.paint hk r⟩
theorem EV.train {C : SC} {X : AH} {lo hi b : Nat} {A : BA} {W : Nat → Int32} (h : EV C X lo hi b A W) {p x n : Nat} (hp : p < nW W 6) (ht : traN W x n) : EV C (X.set (A.pi p) (.inl (0, 5, .inl (upd (A.pv p) x (nI n))))) lo hi b (A.tr p x (nI n)) (upd W (96 + 5 * p + x) (nI n)) := ⟨by rw [List.length_set]; exact h.X, h.n, h.B.train hp (by unfold traN at ht; omega) _, h.w.train hp ht⟩
theorem EV.v7 {C : SC} {X : AH} {lo hi b : Nat} {A : BA} {W : Nat → Int32} (h : EV C X lo hi b A W) {v : Int32} (hw : WFa (upd W 7 v)) : EV C (X.set b (.inr (2, bfl A (upd W 7 v)))) lo hi b A (upd W 7 v) :=
  ⟨by rw [List.length_set]; exact h.X, h.n, h.B.obj (fun j hj => pk_un (by omega)) (fun q => h.B.te q), hw⟩
theorem isCo_ofW (W : Nat → Int32) (x : Int32) (h24 : nW W 5 ≤ 24) : isCo W x = !decide (ofW W x ≤ 0) := by
  have key : ∀ k i n, n + k ≤ 100 → k ≤ 24 → (∃ m, itr (ofF W x) k i (nI n) = nI m ∧ n ≤ m ∧ m ≤ n + k ∧ (m = n ↔ eqK (fun k => !(decide (W (24 + 3 * k) = x) || decide (W (24 + 3 * k + 1) = x))) k i = true)) := by
    intro k
    induction k with
    | zero => intro i n hn _; exact ⟨n, rfl, Nat.le_refl _, by omega, fun _ => rfl, fun _ => rfl⟩
    | succ k ih =>
      intro i n hn hk
      show ∃ m, itr (ofF W x) k (i + 1) (ofF W x i (nI n)) = nI m ∧ _
      have e0 : ofF W x i (nI n) = nI n + (if W (24 + 3 * i) = x ∨ W (24 + 3 * i + 1) = x then 1 else 0) := rfl
      by_cases q : W (24 + 3 * i) = x ∨ W (24 + 3 * i + 1) = x
      · rw [e0, if_pos q]
        have e8 : (!(decide (W (24 + 3 * i) = x) || decide (W (24 + 3 * i + 1) = x))) = false := by
          rw [Bool.not_eq_false', Bool.or_eq_true, decide_eq_true_eq, decide_eq_true_eq]
          exact q
        have h1 := nI_1 n
        obtain ⟨m, m1, m2, m3, -⟩ := ih (i + 1) (n + 1) (by omega) (by omega)
        refine ⟨m, ?_, by omega, by omega, fun z => by omega, fun z => ?_⟩
        · rw [← m1, ← h1]
        · rw [eq_f (p := fun k => !(decide (W (24 + 3 * k) = x) || decide (W (24 + 3 * k + 1) = x))) e8] at z
          cases z
      · rw [e0, if_neg q]
        have e8 : (!(decide (W (24 + 3 * i) = x) || decide (W (24 + 3 * i + 1) = x))) = true := by
          rw [Bool.not_eq_true', Bool.or_eq_false_iff, decide_eq_false_iff_not, decide_eq_false_iff_not]
          exact ⟨fun z => q (Or.inl z), fun z => q (Or.inr z)⟩
        obtain ⟨m, m1, m2, m3, m4⟩ := ih (i + 1) n (by omega) (by omega)
        refine ⟨m, ?_, m2, by omega, ?_⟩
        · rw [← m1, Int32.add_zero]
        · rw [eq_t (p := fun k => !(decide (W (24 + 3 * k) = x) || decide (W (24 + 3 * k + 1) = x))) e8]
          exact m4
  obtain ⟨m, m1, m2, m3, m4⟩ := key (nW W 5) 0 0 (by omega) h24
  have e9 : ofW W x = nI m := m1
  unfold isCo
  rw [e9]
  congr 1
  rw [Bool.eq_iff_iff, ← m4, decide_eq_true_eq]
  constructor
  · intro q; rw [q]; decide
  · intro q
    exact Nat.le_zero.mp ((nI_leI (a := m) (b := 0) (by omega) (by omega)).mp q)
theorem o0X {C : SC} {S : SM} {X : AH} {b : Nat} (hX : 108 ≤ X.length) (hn : C.2.2.2.1 0 = some b) : (cH C S X)[0]? = some (.inr (0, [.ref 1, .ref b, .ref 13, .ref 14, .int (C.1 0), .int (C.1 1), .int (C.1 2), .ref 15, .ref 19, .ref 24, .ref 29, .ref 56, .ref 83])) := by
  have h1 := cg_0 (C := C) (S := S) hX
  rw [hn] at h1
  exact h1
theorem swN {W : Nat → Int32} {k l : Nat} (hk : k < nW W 5) (hl : l < nW W 5) (h24 : nW W 5 ≤ 24) : nW (swW k l W) 5 = nW W 5 := nW_c (swW_o hk hl h24 (by omega))
theorem pset {C : SC} {S : SM} {X : AH} {lo hi b : Nat} {A : BA} {W : Nat → Int32} (hE : EV C X lo hi b A W) {k : Nat} (hk : k < nW W 5) {v : Int32} : (cH C S X).set (A.mo k) (.inr (14, (mofl W k).set 2 (.int v))) = cH C S (X.set (A.mo k) (.inr (14, mofl (upd W (24 + 3 * k + 2) v) k))) := by
  rw [cH_dset (hE.B.dy.dyn (hE.B.mo _ hk).2.2.1 (hE.B.mo _ hk).2.2.2)]
  unfold mofl
  rw [pk_un (by omega), pk_un (by omega), pk_us]
  rfl
theorem sh_v {W : Nat → Int32} (hs : WFs W) {x : Nat} (hx : x < 12) : (W 7 >>> (nI x &&& 31)) &&& 1 = if shW W (nI x) = true then 1 else 0 := by
  have h7 := hs.sh
  rw [shW_n h7.1 h7.2 hx, h7.1, pk_shrN (by omega) _ x (sm_n hx), pk_andN (by have := Nat.div_le_self (nW W 7) (2 ^ x); omega) 1 rfl, Nat.testBit_eq_decide_div_mod_eq]
  rcases Nat.mod_two_eq_zero_or_one (nW W 7 / 2 ^ x) with q | q
  · rw [show nW W 7 / 2 ^ x % 2 ^ 1 = 0 from q]; rfl
  · rw [show nW W 7 / 2 ^ x % 2 ^ 1 = 1 from q]; rfl
theorem sh_1 {W : Nat → Int32} (hs : WFs W) {x : Nat} (hx : x < 12) : W 7 ||| ((1 : Int32) <<< (nI x &&& 31)) = nI (sbN (nW W 7) x true) := by
  rw [← sb_n hx true, show b2i true = 1 from rfl, an_or, ← hs.sh.1]
theorem sh_0 {W : Nat → Int32} (hs : WFs W) {x : Nat} (hx : x < 12) : W 7 &&& (((1 : Int32) <<< (nI x &&& 31)) ^^^ (-1)) = nI (sbN (nW W 7) x false) := by
  conv => lhs; rw [hs.sh.1]
  rw [an_xor, bit_n hx, nx_and2, nx_xor2]
  rfl
theorem wshut_n {W : Nat → Int32} (hs : WFs W) {x : Nat} (hx : x < 12) (v : Bool) (h : okH W (nI x) (b2i v) = true) : wshut W (nI x) (b2i v) = upd W 7 (nI (sbN (nW W 7) x v)) := by
  have e := sb_n (n := nW W 7) hx v
  rw [← hs.sh.1] at e
  rw [wshut, if_pos h, e]
theorem in4_inT {W : Nat → Int32} (hs : WFs W) {w : Nat} {n : Int32} (hw : w ≤ 4) (h : inT W (nI w) n = true) : ∃ m, n = nI m ∧ traN W w m := by
  unfold inT at h
  have key : ∀ z : Nat, z < 1000 → inL n.toInt64 0 (nI z).toInt64 = true → ∃ m, n = nI m ∧ m ≤ z := fun z hz q => by
    obtain ⟨m, hm, e⟩ := in_ofk (x := n) (n := z) (by omega) q
    exact ⟨m, e, hm⟩
  match w, hw with
  | 0, _ =>
    rw [if_pos (by decide)] at h
    have h2 : inI n 1 9 = true := by rw [← inL_i]; exact h
    unfold inI at h2
    rw [Bool.and_eq_true, decide_eq_true_eq, decide_eq_true_eq] at h2
    obtain ⟨m, hm, rfl⟩ := nI_of (x := n) (Int32.not_lt.mpr (Int32.le_trans (by decide) h2.1))
    exact ⟨m, rfl, Or.inl ⟨rfl, (nI_leI (a := 1) (by omega) hm).mp h2.1, (nI_leI (b := 9) hm (by omega)).mp h2.2⟩⟩
  | 1, _ =>
    rw [if_neg (by decide), if_pos (by decide)] at h
    obtain ⟨m, rfl, hm⟩ := key 20 (by omega) h
    exact ⟨m, rfl, Or.inr (Or.inl ⟨rfl, hm⟩)⟩
  | 2, _ =>
    rw [if_neg (by decide), if_neg (by decide), if_pos (by decide)] at h
    obtain ⟨m, rfl, hm⟩ := key 99 (by omega) h
    exact ⟨m, rfl, Or.inr (Or.inr (Or.inl ⟨rfl, hm⟩))⟩
  | 3, _ =>
    rw [if_neg (by decide), if_neg (by decide), if_neg (by decide), if_pos (by decide)] at h
    obtain ⟨m, rfl, hm⟩ := key 9 (by omega) h
    exact ⟨m, rfl, Or.inr (Or.inr (Or.inr (Or.inl ⟨rfl, hm⟩)))⟩
  | 4, _ =>
    rw [if_neg (by decide), if_neg (by decide), if_neg (by decide), if_neg (by decide), show decide (nI 4 = 4) = true from rfl, Bool.true_and] at h
    obtain ⟨m, hm, rfl⟩ := hlL_of hs h
    exact ⟨m, rfl, Or.inr (Or.inr (Or.inr (Or.inr ⟨rfl, hm⟩)))⟩
