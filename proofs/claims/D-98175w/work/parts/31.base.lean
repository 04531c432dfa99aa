/-! ===== the small machine: the heap is a list of cells, a reference is a cell's number; rows by instruction, all else of the machine hidden ===== -/
def clT : List vw_C := [(RX0, TX0, 13), (RX1, TX1, 1), (RX2, TX2, 14), (RJ2, TJ2, 3), (RX4, TX4, 6), (RX5, TX5, 9), (RX6, TX6, 17), (RX7, TX7, 5), (RX8, TX8, 3), (RX9, TX9, 5), (RX10, TX10, 47), (RX11, TX11, 7), (RX12, TX12, 8), (RJ11, TJ11, 4), (RX13, TX13, 3), (RX14, TX14, 1)]
/-- length and contents of an array -/
abbrev AV : Type := Nat × ((Nat → Int32) ⊕ (Nat → Int64) ⊕ (Nat → Option Nat))
/-- a cell: an array of a type of the list, or an object of a class of clT with its fields -/
abbrev AE : Type := (Nat × AV) ⊕ (Nat × List Value)
abbrev AH : Type := List AE
/-- the run's constants: classes' numbers and slots, array classes, the first new address, addresses that were there, the script -/
abbrev GW : Type := va_G × (Nat → ClassId) × Nat × (Nat → Nat) × Nat × (Nat → Int32)
def g_sz (g : GW) : Nat := g.2.2.1
def g_pre (g : GW) : Nat → Nat := g.2.2.2.1
def g_tys (g : GW) : List (ClassId × FieldType) := [(g.2.1 0, .int), (g.2.1 1, .byte), (g.2.1 2, .short), (g.2.1 3, .long), (g.2.1 4, .boolean), (g.2.1 5, .object "MoleBoard$Slot"), (g.2.1 6, .object "java/lang/Object"), (g.2.1 7, .object "MoleBoard$Board"), (g.2.1 8, .object "MoleBoard$Mole"), (g.2.1 9, .array .int), (g.2.1 10, .array .long)]
def g_A (g : GW) : Nat → Prop := fun q => g_sz g ≤ q
def g_ad (g : GW) (k : Nat) : Nat := if k < 1000000000 then g_sz g + k else g_pre g (k - 1000000000)
def g_cv (g : GW) (v : Value) : Value := match v with
  | .ref k => .ref (g_ad g k)
  | v => v
theorem g_cv_cat (g : GW) (v : Value) : (g_cv g v).category = v.category := by cases v <;> rfl
theorem g_cats (g : GW) (st : List Value) : ((st.map (g_cv g)).map fun v => v.category).sum = (st.map fun v => v.category).sum := by
  congr 1
  rw [List.map_map]
  exact List.map_congr_left fun v _ => g_cv_cat g v
def g_cr (g : GW) (f : Nat → Option Nat) : Nat → Option Nat := fun i => (f i).map (g_ad g)
theorem g_cr_rf (g : GW) (r : Option Nat) : va_rf (r.map (g_ad g)) = g_cv g (va_rf r) := by cases r <;> rfl
def g_va (g : GW) (a : AV) : vp_A := (a.1, match a.2 with
  | .inl f => .inl f
  | .inr (.inl f) => .inr (.inl f)
  | .inr (.inr f) => .inr (.inr (.inr (.inr (g_cr g f)))))
def g_ce (g : GW) (e : AE) : va_E := match e with
  | .inl x => .inl (g.2.1 x.1, g_va g x.2)
  | .inr o => .inr (o.1, o.2.map (g_cv g))
/-- a cell of which nothing is known (what an exception of the machine leaves) -/
def isJ (e : AE) : Bool := match e with
  | .inr o => Nat.ble 16 o.1
  | _ => false
def jk : AE := .inr (16, [])
theorem nj {ci : Nat} {fs : List Value} {r : vw_C} (q : clT[ci]? = some r) : isJ (.inr (ci, fs)) = false := by
  have h : ci < 16 := (List.getElem?_eq_some_iff.mp q).1
  show Nat.ble 16 ci = false
  cases hb : Nat.ble 16 ci with
  | false => rfl
  | true => exact absurd (Nat.le_of_ble_eq_true hb) (Nat.not_le.mpr h)
def g_wsf (g : GW) : Nat → AH → va_W
  | _, [] => []
  | k, e :: t => if isJ e = true then g_wsf g (k + 1) t else (g_ad g k, g_ce g e) :: g_wsf g (k + 1) t
/-- a cell's place among those that are known -/
def g_ix : AH → Nat → Nat
  | [], _ => 0
  | _ :: _, 0 => 0
  | e :: t, i + 1 => if isJ e = true then g_ix t i else g_ix t i + 1
theorem njn {e : AE} (h : isJ e = false) : ¬ isJ e = true := by rw [h]; decide
theorem g_wsf_j (g : GW) {k : Nat} {e : AE} {t : AH} (h : isJ e = true) : g_wsf g k (e :: t) = g_wsf g (k + 1) t := if_pos h
theorem g_wsf_n (g : GW) {k : Nat} {e : AE} {t : AH} (h : ¬ isJ e = true) : g_wsf g k (e :: t) = (g_ad g k, g_ce g e) :: g_wsf g (k + 1) t := if_neg h
theorem g_ix_j {e : AE} {t : AH} {i : Nat} (h : isJ e = true) : g_ix (e :: t) (i + 1) = g_ix t i := if_pos h
theorem g_ix_n {e : AE} {t : AH} {i : Nat} (h : ¬ isJ e = true) : g_ix (e :: t) (i + 1) = g_ix t i + 1 := if_neg h
theorem g_sh (k i : Nat) : k + 1 + i = k + (i + 1) := by rw [Nat.add_right_comm k 1 i, Nat.add_assoc k i 1]
theorem g_wsf_get (g : GW) (h : AH) : ∀ (k i : Nat) (e : AE), h[i]? = some e → isJ e = false → (g_wsf g k h)[g_ix h i]? = some (g_ad g (k + i), g_ce g e) := by
  induction h with
  | nil => intro k i e hi; cases hi
  | cons a t ih =>
    intro k i e hi hj
    cases i with
    | zero =>
      have h3 : a = e := Option.some.inj hi
      subst h3
      rw [g_wsf_n g (njn hj)]
      rfl
    | succ i =>
      have h3 := ih (k + 1) i e hi hj
      rw [g_sh] at h3
      by_cases ha : isJ a = true
      · rw [g_wsf_j g ha, g_ix_j ha]; exact h3
      · rw [g_wsf_n g ha, g_ix_n ha]; exact h3
theorem g_wsf_set (g : GW) (h : AH) : ∀ (k i : Nat) (e e' : AE), h[i]? = some e → isJ e = false → isJ e' = false → (g_wsf g k h).set (g_ix h i) (g_ad g (k + i), g_ce g e') = g_wsf g k (h.set i e') := by
  induction h with
  | nil => intro k i e e' hi; cases hi
  | cons a t ih =>
    intro k i e e' hi hj hj'
    cases i with
    | zero =>
      have h3 : a = e := Option.some.inj hi
      subst h3
      show _ = g_wsf g k (e' :: t)
      rw [g_wsf_n g (njn hj), g_wsf_n g (njn hj')]
      rfl
    | succ i =>
      have h3 := ih (k + 1) i e e' hi hj hj'
      rw [g_sh] at h3
      show _ = g_wsf g k (a :: t.set i e')
      by_cases ha : isJ a = true
      · rw [g_wsf_j g ha, g_wsf_j g ha, g_ix_j ha]; exact h3
      · rw [g_wsf_n g ha, g_wsf_n g ha, g_ix_n ha, ← h3]; rfl
theorem g_wsf_mem (g : GW) (h : AH) : ∀ (k n : Nat) (q : Nat × va_E), (g_wsf g k h)[n]? = some q → ∃ (i : Nat) (e : AE), h[i]? = some e ∧ isJ e = false ∧ q = (g_ad g (k + i), g_ce g e) ∧ n = g_ix h i := by
  induction h with
  | nil => intro k n q hq; cases hq
  | cons a t ih =>
    intro k n q hq
    by_cases ha : isJ a = true
    · rw [g_wsf_j g ha] at hq
      obtain ⟨i, e, h1, h2, h3, h4⟩ := ih (k + 1) n q hq
      exact ⟨i + 1, e, h1, h2, by rw [h3, g_sh], by rw [g_ix_j ha, h4]⟩
    · rw [g_wsf_n g ha] at hq
      cases n with
      | zero =>
        have h3 : (g_ad g k, g_ce g a) = q := Option.some.inj hq
        exact ⟨0, a, rfl, by cases hb : isJ a with
          | false => rfl
          | true => exact absurd hb ha, h3.symm, rfl⟩
      | succ n =>
        obtain ⟨i, e, h1, h2, h3, h4⟩ := ih (k + 1) n q hq
        exact ⟨i + 1, e, h1, h2, by rw [h3, g_sh], by rw [g_ix_n ha, h4]⟩
theorem g_wsf_apps (g : GW) (h h2 : AH) : ∀ k : Nat, g_wsf g k (h ++ h2) = g_wsf g k h ++ g_wsf g (k + h.length) h2 := by
  induction h with
  | nil => intro k; rfl
  | cons a t ih =>
    intro k
    show g_wsf g k (a :: (t ++ h2)) = _
    rw [List.length_cons, ← g_sh k t.length]
    by_cases ha : isJ a = true
    · rw [g_wsf_j g ha, g_wsf_j g ha]; exact ih (k + 1)
    · rw [g_wsf_n g ha, g_wsf_n g ha, ih (k + 1)]; rfl
theorem g_wsf_app (g : GW) (h : AH) (k : Nat) (e : AE) (he : isJ e = false) : g_wsf g k (h ++ [e]) = g_wsf g k h ++ [(g_ad g (k + h.length), g_ce g e)] := by
  rw [g_wsf_apps, g_wsf_n g (njn he)]
  rfl
theorem g_wsf_jk (g : GW) (n : Nat) : ∀ k : Nat, g_wsf g k (List.replicate n jk) = [] := by
  induction n with
  | zero => intro k; rfl
  | succ n ih => intro k; exact ih (k + 1)
theorem g_wsf_jks (g : GW) (h : AH) (n : Nat) : g_wsf g 0 (h ++ List.replicate n jk) = g_wsf g 0 h := by
  rw [g_wsf_apps, g_wsf_jk, List.append_nil]
/-- the heap holds the cells of h, one behind another from g_sz on, and no more -/
def g_P (g : GW) (h : AH) (H : Heap) : Prop := H.size = g_sz g + h.length ∧ va_P g.1 clT (g_wsf g 0 h) H ∧ va_D (g_A g) (g_wsf g 0 h)
theorem g_P.at {g : GW} {h : AH} {i : Nat} {e : AE} (hi : h[i]? = some e) (hj : isJ e = false) : (g_wsf g 0 h)[g_ix h i]? = some (g_ad g i, g_ce g e) := by
  have h1 := g_wsf_get g h 0 i e hi hj
  rw [Nat.zero_add] at h1
  exact h1
/-- words of the tables that no list carries -/
def nwB : Cond → Bool
  | .fieldLinkNest .. => true
  | .methodLinkNest .. => true
  | .castable .. => true
  | .declares .. => true
  | _ => false
def fwT : List (String × MethodName × MethodName) := [("java/util/ArrayList", ⟨"java/util/List", "add", "(Ljava/lang/Object;)Z"⟩, yJ2_add), ("java/util/ArrayList", ⟨"java/util/List", "get", "(I)Ljava/lang/Object;"⟩, yJ2_get), ("java/util/ArrayList", ⟨"java/util/List", "iterator", "()Ljava/util/Iterator;"⟩, yJ2_iterator), ("java/util/ArrayList", ⟨"java/util/List", "set", "(ILjava/lang/Object;)Ljava/lang/Object;"⟩, yJ2_set), ("java/util/ArrayList", ⟨"java/util/List", "size", "()I"⟩, yJ2_size), ("java/util/ArrayList$Itr", ⟨"java/util/Iterator", "hasNext", "()Z"⟩, yJ11_hasNext), ("java/util/ArrayList$Itr", ⟨"java/util/Iterator", "next", "()Ljava/lang/Object;"⟩, yJ11_next)]
theorem fwT_ok : ∀ t ∈ fwT, t.2.1.cls ≠ "java/lang/invoke/MethodHandle" ∧ t.2.1.cls ≠ "java/lang/invoke/VarHandle" := by decide
/-- arrays of arrays-/
def aaT : List FieldType := [.array .int, .array .long]
def va_AA (t : FieldType) (U : State) : Prop := (Cond.arrayOver t).before #[] U = true
theorem va_AA.moved {t : FieldType} {u U : State} (hvm : u.vm.Alike U.vm) (h : va_AA t u) : va_AA t U := by
  have q : (Cond.arrayOver t).before #[] (u.setVm U.vm) = (Cond.arrayOver t).before #[] u := Cond.arrayOver_setVmC hvm t
  exact q.trans h
theorem va_AA.use {t : FieldType} {A : Array Value} {U : State} (h : va_AA t U) : (Cond.arrayOver t).before A U = true := h
def aoT : List String := ["MoleBoard$Slot", "java/lang/Object", "MoleBoard$Board", "MoleBoard$Mole"]
/-- string constants: their texts; who names them, by which number, which -/
def stT : List String := ["board", "each", "from", "good", "high", "knows", "lag", "pace", "pause", "player", "red", "shut", "stay", "tickets", "ticks", "tires", "twin", "waits", "wide"]
def srT : List (String × Nat × Nat) := [("MoleBoard$Reader", 102, 0), ("MoleBoard$Reader", 104, 18), ("MoleBoard$Reader", 111, 4), ("MoleBoard$Reader", 115, 14), ("MoleBoard$Reader", 119, 8), ("MoleBoard$Reader", 123, 2), ("MoleBoard$Reader", 175, 7), ("MoleBoard$Reader", 177, 6), ("MoleBoard$Reader", 179, 15), ("MoleBoard$Reader", 181, 5), ("MoleBoard$Reader", 183, 17), ("MoleBoard$Reader", 185, 12), ("MoleBoard$Reader", 188, 11), ("MoleBoard$Reader", 191, 3), ("MoleBoard$Reader", 193, 10), ("MoleBoard$Reader", 195, 16), ("MoleBoard$Reader", 201, 9), ("MoleBoard$Reader", 205, 13), ("MoleBoard$Reader", 207, 1), ("MoleBoardModel", 170, 0), ("MoleBoardModel", 172, 18), ("MoleBoardModel", 178, 4), ("MoleBoardModel", 180, 14), ("MoleBoardModel", 182, 8), ("MoleBoardModel", 184, 2), ("MoleBoardModel", 201, 7), ("MoleBoardModel", 203, 6), ("MoleBoardModel", 205, 15), ("MoleBoardModel", 207, 5), ("MoleBoardModel", 209, 17), ("MoleBoardModel", 211, 3), ("MoleBoardModel", 212, 10), ("MoleBoardModel", 214, 16), ("MoleBoardModel", 216, 12), ("MoleBoardModel", 218, 11), ("MoleBoardModel", 220, 9), ("MoleBoardModel", 222, 13), ("MoleBoardModel", 237, 1)]
def stL : List Nat := [5, 4, 4, 4, 4, 5, 3, 4, 5, 6, 3, 4, 4, 7, 5, 5, 4, 5, 4]
def stB : List (List Int32) := [[98, 111, 97, 114, 100], [101, 97, 99, 104], [102, 114, 111, 109], [103, 111, 111, 100], [104, 105, 103, 104], [107, 110, 111, 119, 115], [108, 97, 103], [112, 97, 99, 101], [112, 97, 117, 115, 101], [112, 108, 97, 121, 101, 114], [114, 101, 100], [115, 104, 117, 116], [115, 116, 97, 121], [116, 105, 99, 107, 101, 116, 115], [116, 105, 99, 107, 115], [116, 105, 114, 101, 115], [116, 119, 105, 110], [119, 97, 105, 116, 115], [119, 105, 100, 101]]
/-- statics of references, and where what they hold is told -/
def zT : List (String × String × String × Nat) := [("java/lang/Throwable", "UNASSIGNED_STACK", "[Ljava/lang/StackTraceElement;", 1), ("java/lang/Throwable", "SUPPRESSED_SENTINEL", "Ljava/util/List;", 2), ("jdk/internal/util/Preconditions", "SIOOBE_FORMATTER", "Ljava/util/function/BiFunction;", 3)]
/-- what is no such thing -/
def ncT : List (String × String) := [("[S", "[B"), ("[I", "[B"), ("[I", "[S"), ("[J", "[B"), ("[J", "[S"), ("[J", "[I"), ("java/lang/ArrayIndexOutOfBoundsException", "java/lang/NullPointerException"), ("java/lang/NullPointerException", "java/lang/ClassCastException"), ("java/lang/ArrayIndexOutOfBoundsException", "java/lang/ClassCastException")]
def g_Z (g : GW) (t : String × String × String × Nat) (U : State) (H : Heap) : Prop := va_Z t.1 t.2.1 t.2.2.1 .null (g_A g) U H ∨ va_Z t.1 t.2.1 t.2.2.1 (.ref (g_pre g t.2.2.2)) (g_A g) U H
/-- statics and strings that nobody writes -/
def g_T (g : GW) (U : State) (H : Heap) : Prop :=
  ((∀ t ∈ zT, g_Z g t U H) ∧ ∀ t ∈ ncT, va_Nc t.1 t.2 U) ∧ (vx_Zq Bundle.tN "UNASSIGNED_STACK" Bundle.steD (g_A g) U H ∧ vx_Zq Bundle.tN "SUPPRESSED_SENTINEL" Bundle.listD (g_A g) U H) ∧ va_Z "java/lang/String" "COMPACT_STRINGS" "Z" (.int 1) (g_A g) U H ∧
  vk_S stT.length stL stB (fun i => g_pre g (100 + i)) (fun i => g_pre g (200 + i)) (g_A g) U H ∧ ∀ t ∈ srT, vk_R t.1 t.2.1 (stT.getD t.2.2 "") (g_pre g (100 + t.2.2)) U
theorem g_Z.moved {g : GW} {t : String × String × String × Nat} {u U : State} {H : Heap} (hA : u.vm.Alike U.vm) (h : g_Z g t u H) : g_Z g t U H := h.elim (fun q => Or.inl (va_Z.moved hA q)) (fun q => Or.inr (va_Z.moved hA q))
theorem g_Z.kept {g : GW} {t : String × String × String × Nat} {U : State} {H H1 : Heap} (h : g_Z g t U H) (hk : ∀ a : Nat, a < H.size → ¬ g_A g a → H1[a]? = H[a]?) : g_Z g t U H1 := h.elim (fun q => Or.inl (q.kept hk)) (fun q => Or.inr (q.kept hk))
theorem g_T.same {g : GW} {u U : State} {H : Heap} (hv : u.vm = U.vm) (h : g_T g u H) : g_T g U H := by
  obtain ⟨⟨y1, y2⟩, ⟨h1, h2⟩, h3, h4, h5⟩ := h
  have hA : u.vm.Alike U.vm := by rw [hv]; exact Vm.Alike.refl _
  exact ⟨⟨fun t ht => (y1 t ht).moved hA, fun t ht => (y2 t ht).moved hA⟩, ⟨vx_Zq.moved hA h1, vx_Zq.moved hA h2⟩, va_Z.moved hA h3, vk_S.moved hA h4, fun t ht => vk_R.same hv.symm (h5 t ht)⟩
theorem g_T.warm {g : GW} {s U : State} {H : Heap} (hW : s.WarmedH U.vm) (h : g_T g s H) : g_T g U H := by
  obtain ⟨⟨y1, y2⟩, ⟨h1, h2⟩, h3, h4, h5⟩ := h
  exact ⟨⟨fun t ht => (y1 t ht).moved hW.alike, fun t ht => (y2 t ht).moved hW.alike⟩, ⟨vx_Zq.moved hW.alike h1, vx_Zq.moved hW.alike h2⟩, va_Z.moved hW.alike h3, vk_S.moved hW.alike h4, fun t ht => vk_R.warm hW (h5 t ht)⟩
theorem g_T.kept {g : GW} {U : State} {H H1 : Heap} (h : g_T g U H) (hq : ∀ a : Nat, a < g_sz g → H1[a]? = H[a]?) : g_T g U H1 := by
  obtain ⟨⟨y1, y2⟩, ⟨h1, h2⟩, h3, h4, h5⟩ := h
  have hk : ∀ a : Nat, a < H.size → ¬ g_A g a → H1[a]? = H[a]? := fun a _ hn => hq a (Nat.not_le.mp hn)
  exact ⟨⟨fun t ht => (y1 t ht).kept hk, y2⟩, ⟨h1.kept hk, h2.kept hk⟩, h3.kept hk, h4.kept hk, h5⟩
/-- what holds of the machine all through the run -/
def g_S (g : GW) (U : State) (H : Heap) : Prop :=
  va_K g.1 clT (g_tys g) U ∧ (∀ w ∈ lw_tbl, nwB w = true → va_Nw w U) ∧ (∀ t ∈ fwT, va_Fw t.1 t.2.1 t.2.2 U) ∧ ((∀ C ∈ aoT, va_AO C U) ∧ ∀ t ∈ aaT, va_AA t U) ∧ va_X (g_pre g 0) g.2.2.2.2.1 g.2.2.2.2.2 U H ∧ g_pre g 0 < g_sz g ∧ g_T g U H
theorem g_S.same {g : GW} {u U : State} {H : Heap} (hv : u.vm = U.vm) (h : g_S g u H) : g_S g U H := by
  obtain ⟨h1, h2, h3, h4, h5, h6, h7⟩ := h
  have hA : u.vm.Alike U.vm := by rw [hv]; exact Vm.Alike.refl _
  refine ⟨va_K.moved hA h1, fun w hw hb => ?_, fun t ht => ?_, ⟨fun C hC => ?_, fun t ht => (h4.2 t ht).moved hA⟩, h5.moved hA, h6, h7.same hv⟩
  · refine va_Nw.same ?_ hv (h2 w hw hb)
    cases w <;> first | rfl | simp [nwB] at hb
  · exact va_Fw.moved (fwT_ok t ht) hA (h3 t ht)
  · exact va_AO.moved hA (h4.1 C hC)
theorem g_S.warm {g : GW} {s U : State} {H : Heap} (hW : s.WarmedH U.vm) (h : g_S g s H) : g_S g U H := by
  obtain ⟨h1, h2, h3, h4, h5, h6, h7⟩ := h
  refine ⟨va_K.moved hW.alike h1, fun w hw hb => ?_, fun t ht => ?_, ⟨fun C hC => ?_, fun t ht => (h4.2 t ht).moved hW.alike⟩, h5.moved hW.alike, h6, h7.warm hW⟩
  · have hw1 := h2 w hw hb
    cases w <;> first
      | exact va_Nw.warmF hW hw1
      | exact va_Nw.warmM hW hw1
      | exact va_Nw.warmC hW hw1
      | exact va_Nw.warmD hW hw1
      | simp [nwB] at hb
  · exact va_Fw.moved (fwT_ok t ht) hW.alike (h3 t ht)
  · exact va_AO.moved hW.alike (h4.1 C hC)
theorem g_S.kept {g : GW} {U : State} {H H1 : Heap} (h : g_S g U H) (hq : ∀ a : Nat, a < g_sz g → H1[a]? = H[a]?) : g_S g U H1 := by
  obtain ⟨h1, h2, h3, h4, h5, h6, h7⟩ := h
  exact ⟨h1, h2, h3, h4, h5.kept (hq _ h6), h6, h7.kept hq⟩
def g_lv (g : GW) : Nat → List (Option Value) → List (Nat × Value)
  | _, [] => []
  | i, none :: t => g_lv g (i + 1) t
  | i, some v :: t => (i, g_cv g v) :: g_lv g (i + 1) t
theorem g_lv_mem (g : GW) (ls : List (Option Value)) : ∀ (k : Nat) (q : Nat × Value), q ∈ g_lv g k ls ↔ ∃ (i : Nat) (v : Value), ls[i]? = some (some v) ∧ q = (k + i, g_cv g v) := by
  induction ls with
  | nil =>
    intro k q
    simp [g_lv]
  | cons a t ih =>
    intro k q
    constructor
    · intro hq
      cases a with
      | none =>
        obtain ⟨i, v, h1, h2⟩ := (ih (k + 1) q).mp hq
        exact ⟨i + 1, v, h1, by rw [h2, Nat.add_right_comm k 1 i, Nat.add_assoc k i 1]⟩
      | some w =>
        rcases List.mem_cons.mp hq with h | h
        · exact ⟨0, w, rfl, h⟩
        · obtain ⟨i, v, h1, h2⟩ := (ih (k + 1) q).mp h
          exact ⟨i + 1, v, h1, by rw [h2, Nat.add_right_comm k 1 i, Nat.add_assoc k i 1]⟩
    · rintro ⟨i, v, h1, h2⟩
      cases i with
      | zero =>
        have h3 : a = some v := Option.some.inj h1
        subst h3
        exact List.mem_cons.mpr (Or.inl h2)
      | succ i =>
        have h3 : q ∈ g_lv g (k + 1) t := (ih (k + 1) q).mpr ⟨i, v, h1, by rw [h2, Nat.add_right_comm k 1 i, Nat.add_assoc k i 1]⟩
        cases a with
        | none => exact h3
        | some w => exact List.mem_cons_of_mem _ h3
theorem g_lv_at {g : GW} {ls : List (Option Value)} {arr : Array Slot} {nL i : Nat} {v : Value} (h : lv_has arr nL (g_lv g 0 ls)) (hi : ls[i]? = some (some v)) : arr[i]? = some (.val (g_cv g v)) :=
  h.2.2 (i, g_cv g v) ((g_lv_mem g ls 0 _).mpr ⟨i, v, hi, by rw [Nat.zero_add]⟩)
/-- tables of handlers -/
def g_tb (y : MethodName) : List (Nat × Nat × Nat × Nat) := if y.cls = "MoleBoard$Slot" then (if y.name = "begins" then [(0, 65, 68, 15)] else if y.name = "pastes" then [(31, 46, 49, 48)] else if y.name = "putWider" then [(0, 15, 18, 36)] else if y.name = "puts" then [(0, 6, 9, 29), (0, 6, 14, 31)] else []) else if y.cls = "MoleBoard" then (if y.name = "board" then [(0, 59, 66, 123), (0, 59, 93, 0), (66, 86, 93, 0)] else []) else []
/-- a method's body at an instruction's context -/
def g_C (g : GW) (d : Nat) (y : MethodName) (cc : ByteArray) (nL : Nat) (ret : Option FieldType) (p : Program) (l : Launch) (R : Room) (s : State) (m : MethodId) (args : Array Value) (meth : Method) (cd : Code) : Prop :=
  p.tables.exec = Jvm.exec ∧ cd.code = cc ∧ meth.sig.returnType = ret ∧ cd.maxLocals = nL ∧ s.vm.findClass y.cls = some m.cls ∧ (∀ w ∈ lw_all, w.before args s = true) ∧ meth.locks = false ∧ meth.name = y.name ∧ g_S g s s.heap ∧ d ≤ R.frames ∧ 40 * d ≤ R.locals ∧ s.heap.size + R.cells ≤ g_sz g + 999999999 ∧ g_sz g ≤ s.heap.size ∧ l.stackTraces = false ∧ cd.exceptionTable.toList = tableOf (g_tb y)
/-- an answer that stands for a throw: of the object of a cell, or of some object of a class of the machine -/
def g_nt (v : Option Value) : Bool := match v with
  | some (.retAddr _) => false
  | some (.float _) => false
  | _ => true
def exN (n : UInt32) : String := if n = 0 then "java/lang/NullPointerException" else if n = 1 then "java/lang/ArrayIndexOutOfBoundsException" else if n = 2 then "java/lang/ClassCastException" else "java/lang/NegativeArraySizeException"
def g_th (g : GW) (v : Option Value) (E : String) (q : Nat) (h : AH) : Prop := match v with
  | some (.retAddr a) => q = g_ad g a ∧ ∃ (ci : Nat) (fs : List Value) (r : vw_C), h[a]? = some (.inr (ci, fs)) ∧ clT[ci]? = some r ∧ r.1 = E
  | some (.float n) => E = exN n
  | _ => False
def g_X (g : GW) (Q : Option Value → AH → Prop) : String → Nat → State → State → Prop := fun E q st t =>
  ∃ (v : Option Value) (h' : AH), g_th g v E q h' ∧ Q v h' ∧ g_P g h' t.heap ∧ va_F (g_A g) st t
def g_Q (g : GW) (Q : Option Value → AH → Prop) : Array Value → State → Outcome → State → Prop := fun _ st o t =>
  ∃ (v : Option Value) (h' : AH), (o = .returned (v.map (g_cv g)) ∧ g_nt v = true) ∧ Q v h' ∧ g_P g h' t.heap ∧ va_F (g_A g) st t
/-- from the instruction at pc, with these locals, stack and cells, room for c cells and n slots more, the method comes to its end, and Q holds of its answer and cells -/
def WP (g : GW) (d : Nat) (y : MethodName) (cc : ByteArray) (nL : Nat) (ret : Option FieldType) (pc : Nat) (ls : List (Option Value)) (st : List Value) (h : AH) (c n : Nat) (Q : Option Value → AH → Prop) : Prop :=
  ∀ (p : Program) (l : Launch) (e : Env) (R : Room) (s : State) (m : MethodId) (args : Array Value) (below : List Frame) (meth : Method) (cd : Code) (H : Heap) (locs : List Loc) (cells slots : Nat) (arr : Array Slot),
    g_C g d y cc nL ret p l R s m args meth cd → va_S (g_A g) s.heap H locs → g_P g h H → lv_has arr nL (g_lv g 0 ls) → cells + c ≤ R.cells → slots + n ≤ R.slots →
    W p l e R s m args below meth cd H locs cells slots (vx_MQ below (g_Q g Q) (g_X g Q) args s R.cells R.slots (g_A g)) (F0 m pc arr (st.map (g_cv g)))
def g_Pc (g : GW) (as : List Value) (h : AH) (c : Nat) : Array Value → State → Prop := fun a U =>
  a = (as.map (g_cv g)).toArray ∧ g_P g h U.heap ∧ g_S g U U.heap ∧ U.heap.size + c ≤ g_sz g + 999999999
/-- a method's contract: called with these arguments on these cells, with d frames and room for c cells and n slots, it returns, and Q holds of its answer and the cells -/
def SP (g : GW) (d c n : Nat) (y : MethodName) (cc : ByteArray) (nL : Nat) (ret : Option FieldType) (as : List Value) (h : AH) (Q : Option Value → AH → Prop) : Prop :=
  ∀ l : Launch, l.stackTraces = false → vx_Met l y (ws_ y cc nL ret) ({ frames := d, cells := c, slots := n, locals := 40 * d }) (g_Pc g as h c) (g_Q g Q) (g_X g Q) c n (g_A g)
/-- the same of a method with handlers -/
def SPW (g : GW) (d c n : Nat) (y : MethodName) (cc : ByteArray) (nL : Nat) (ret : Option FieldType) (as : List Value) (h : AH) (Q : Option Value → AH → Prop) : Prop :=
  ∀ l : Launch, l.stackTraces = false → vx_Met l y (wsW_ y cc nL ret (g_tb y)) ({ frames := d, cells := c, slots := n, locals := 40 * d }) (g_Pc g as h c) (g_Q g Q) (g_X g Q) c n (g_A g)
def g_en : List Value → List (Option Value)
  | [] => []
  | v :: t => if v.category = 2 then some v :: none :: g_en t else some v :: g_en t
theorem g_en_lv (g : GW) (as : List Value) : ∀ k : Nat, g_lv g k (g_en as) = lv_args k (as.map (g_cv g)) := by
  induction as with
  | nil => intro k; rfl
  | cons v t ih =>
    intro k
    rw [List.map_cons]
    unfold g_en lv_args
    rw [g_cv_cat]
    by_cases hc : v.category = 2
    · rw [if_pos hc, if_pos hc]
      show (k, g_cv g v) :: g_lv g (k + 1 + 1) (g_en t) = _
      rw [ih]
    · rw [if_neg hc, if_neg hc]
      show (k, g_cv g v) :: g_lv g (k + 1) (g_en t) = _
      rw [ih]
theorem g_en_len (g : GW) (as : List Value) : (lg_sl (as.map (g_cv g))).length = (g_en as).length := by
  induction as with
  | nil => rfl
  | cons v t ih =>
    rw [List.map_cons]
    unfold g_en
    show (lg_sl (g_cv g v :: t.map (g_cv g))).length = _
    unfold lg_sl at ih ⊢
    rw [List.flatMap_cons, List.length_append, ih, g_cv_cat]
    by_cases hc : v.category = 2
    · rw [if_pos hc, if_pos hc]
      simp only [List.length_cons, List.length_nil]
      omega
    · rw [if_neg hc, if_neg hc]
      simp only [List.length_cons, List.length_nil]
      omega
theorem g_lv_none (g : GW) (ls : List (Option Value)) (j : Nat) : ∀ k : Nat, g_lv g k (ls ++ List.replicate j none) = g_lv g k ls := by
  induction ls with
  | nil =>
    induction j with
    | zero => intro k; rfl
    | succ j ih =>
      intro k
      show g_lv g (k + 1) ([] ++ List.replicate j none) = _
      rw [ih (k + 1)]
      rfl
  | cons a t ih =>
    intro k
    cases a with
    | none => exact ih (k + 1)
    | some v => exact congrArg ((k, g_cv g v) :: ·) (ih (k + 1))
theorem vx_ofWF {l : Launch} {y : MethodName} {ws ws' : List Cond} {rm : Room} {Pc : Array Value → State → Prop} {Qc : Array Value → State → Outcome → State → Prop} {XC : String → Nat → State → State → Prop} {mc ms : Nat} {free : Addr → Prop} {cc : ByteArray} {maxL : Nat} {ret : Option FieldType}
    (hy : plainFor y = true) (hw : ws = Cond.code y cc maxL ret :: ws')
    (body : ∀ p e s m args below meth c s₁, BodyLoose p l y (headSpec ws rm) cc maxL ret e s m args below meth c s₁ → c.maxLocals = maxL → c.exceptionTable.toList = [] → Pc args s →
      W p l e (headSpec ws rm).room s m args below meth c s.heap [] 0 0 (vx_MQ below Qc XC args s mc ms free) (entryFrame m args maxL)) : vx_Met l y ws rm Pc Qc XC mc ms free := by
  refine MetFree.of_bodySF (code := cc) (maxLocals := maxL) (ret := ret) hy ?_ ?_
  · intro args s m h hn
    obtain ⟨meth, c, h1, h2, h3, h4, h5, h6, -, -⟩ := Cond.code_spec hn (atoms_spec (ws := ws) h _ (by rw [hw]; exact List.mem_cons_self))
    exact ⟨meth, c, h1, h2, h3, h4, h5, h6⟩
  · intro p e s m args below meth c s₁ B hml hP _
    have hh0 : s₁.heap = s.heap := by rw [B.state]; rfl
    have ht : c.exceptionTable.toList = [] := by
      obtain ⟨meth9, c9, h1, h2, -, -, -, -, h7, -⟩ := Cond.code_spec B.named (atoms_spec (ws := ws) B.pre _ (by rw [hw]; exact List.mem_cons_self))
      cases Option.some.inj (h1.symm.trans B.method)
      cases Option.some.inj (h2.symm.trans (Stand.of_body B).code)
      rw [Array.isEmpty_iff.mp h7]
    obtain ⟨t, a1, o, b1, b2, b3⟩ := body p e s m args below meth c s₁ B hml ht hP s₁ hh0 (Stand.of_body B)
    exact ⟨t, o, a1, b1, b2, b3⟩
/-- into a method: its locals at the start -/
theorem SP.intro {g : GW} {d c n nL : Nat} {y : MethodName} {cc : ByteArray} {ret : Option FieldType} {as : List Value} {h : AH} {Q : Option Value → AH → Prop} (ls : List (Option Value)) (hy : plainFor y = true) (hls : g_en as ++ List.replicate (nL - (g_en as).length) none = ls) (hn : (g_en as).length ≤ nL) (k : WP g d y cc nL ret 0 ls [] h c n Q) (htb : g_tb y = [] := by rfl) : SP g d c n y cc nL ret as h Q := by
  intro l hl
  refine vx_ofWF (cc := cc) (maxL := nL) (ret := ret) hy rfl ?_
  intro p e s m args below meth cd s₁ B hml ht0 hv
  obtain ⟨rfl, hP, hS, hsz⟩ := hv
  have hts := atoms_spec (ws := ws_ y cc nL ret) B.pre
  have hl1 := lv_entry (as.map (g_cv g)) (n := nL) (by rw [g_en_len]; exact hn)
  rw [lg_entry_eq]
  refine k p l e _ s m _ below meth cd s.heap [] 0 0 _ ⟨B.exec, B.bytes, B.returns, hml, findClass_of_methodNamed B.named, fun w h => hts w (List.mem_cons_of_mem _ h), B.notSynchronized, (name_of_methodNamed B.named B.method).1, hS, Nat.le_refl _, Nat.le_refl _, hsz, ?_, hl, by rw [ht0, htb]; rfl⟩ va_S.rf hP ?_ ?_ ?_
  · rw [hP.1]; exact Nat.le_add_right _ _
  · rw [← hls, g_lv_none, g_en_lv]
    exact hl1
  · show 0 + c ≤ c
    omega
  · show 0 + n ≤ n
    omega
/-- into a method with handlers -/
theorem SPW.intro {g : GW} {d c n nL : Nat} {y : MethodName} {cc : ByteArray} {ret : Option FieldType} {as : List Value} {h : AH} {Q : Option Value → AH → Prop} (ls : List (Option Value)) (hy : plainName y.cls = true) (hls : g_en as ++ List.replicate (nL - (g_en as).length) none = ls) (hn : (g_en as).length ≤ nL) (k : WP g d y cc nL ret 0 ls [] h c n Q) : SPW g d c n y cc nL ret as h Q := by
  intro l hl
  refine vx_ofWH (cc := cc) (maxL := nL) (ret := ret) (hh := g_tb y) hy rfl ?_
  intro p e s m args below meth cd s₁ B hml hv
  obtain ⟨rfl, hP, hS, hsz⟩ := hv
  have hts := atoms_spec (ws := wsW_ y cc nL ret (g_tb y)) B.pre
  have ht0 := vx_table (x := y) B (hts _ List.mem_cons_self)
  have hl1 := lv_entry (as.map (g_cv g)) (n := nL) (by rw [g_en_len]; exact hn)
  rw [lg_entry_eq]
  refine k p l e _ s m _ below meth cd s.heap [] 0 0 _ ⟨B.exec, B.bytes, B.returns, hml, findClass_of_methodNamed B.named, fun w h => hts w (List.mem_cons_of_mem _ h), B.notSynchronized, (name_of_methodNamed B.named B.method).1, hS, Nat.le_refl _, Nat.le_refl _, hsz, ?_, hl, ht0⟩ va_S.rf hP ?_ ?_ ?_
  · rw [hP.1]; exact Nat.le_add_right _ _
  · rw [← hls, g_lv_none, g_en_lv]
    exact hl1
  · show 0 + c ≤ c
    omega
  · show 0 + n ≤ n
    omega
/-- a row that leaves heap and locals as they are -/
theorem WP.lift {g : GW} {d : Nat} {y : MethodName} {cc : ByteArray} {nL : Nat} {ret : Option FieldType} {pc pc' : Nat} {ls : List (Option Value)} {st st' : List Value} {h : AH} {c n : Nat} {Q : Option Value → AH → Prop}
    (f : ∀ {p : Program} {l : Launch} {e : Env} {R : Room} {s : State} {m : MethodId} {args : Array Value} {below : List Frame} {meth : Method} {cd : Code} {H : Heap} {locs : List Loc} {cells slots : Nat} {arr : Array Slot} {Z : State → Prop}, g_C g d y cc nL ret p l R s m args meth cd → va_S (g_A g) s.heap H locs → g_P g h H → lv_has arr nL (g_lv g 0 ls) →
      W p l e R s m args below meth cd H locs cells slots Z (F0 m pc' arr (st'.map (g_cv g))) → W p l e R s m args below meth cd H locs cells slots Z (F0 m pc arr (st.map (g_cv g))))
    (k : WP g d y cc nL ret pc' ls st' h c n Q) : WP g d y cc nL ret pc ls st h c n Q :=
  fun p l e R s m args below meth cd H locs cells slots arr C hS hP hl hc hn => f C hS hP hl (k p l e R s m args below meth cd H locs cells slots arr C hS hP hl hc hn)
theorem WP.mono {g : GW} {d : Nat} {y : MethodName} {cc : ByteArray} {nL : Nat} {ret : Option FieldType} {pc : Nat} {ls : List (Option Value)} {st : List Value} {h : AH} {c n c' n' : Nat} {Q : Option Value → AH → Prop} (hc : c' ≤ c) (hn : n' ≤ n) (k : WP g d y cc nL ret pc ls st h c' n' Q) : WP g d y cc nL ret pc ls st h c n Q :=
  fun p l e R s m args below meth cd H locs cells slots arr C hS hP hl h1 h2 => k p l e R s m args below meth cd H locs cells slots arr C hS hP hl (by omega) (by omega)
