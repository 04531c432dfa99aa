/-! ===== rows ===== -/
section RW
variable {g : GW} {d : Nat} {y : MethodName} {cc : ByteArray} {nL : Nat} {ret : Option FieldType} {pc pc0 : Nat} {ls : List (Option Value)} {st : List Value} {h : AH} {c n : Nat} {Q : Option Value → AH → Prop}
theorem g_C.ml {p : Program} {l : Launch} {R : Room} {s : State} {m : MethodId} {args : Array Value} {meth : Method} {cd : Code} (C : g_C g d y cc nL ret p l R s m args meth cd) : cd.maxLocals = nL := C.2.2.2.1
theorem g_C.ow {p : Program} {l : Launch} {R : Room} {s : State} {m : MethodId} {args : Array Value} {meth : Method} {cd : Code} (C : g_C g d y cc nL ret p l R s m args meth cd) : s.vm.findClass y.cls = some m.cls := C.2.2.2.2.1
theorem g_C.ts {p : Program} {l : Launch} {R : Room} {s : State} {m : MethodId} {args : Array Value} {meth : Method} {cd : Code} (C : g_C g d y cc nL ret p l R s m args meth cd) : ∀ w ∈ lw_all, w.before args s = true := C.2.2.2.2.2.1
theorem g_C.sta {p : Program} {l : Launch} {R : Room} {s : State} {m : MethodId} {args : Array Value} {meth : Method} {cd : Code} (C : g_C g d y cc nL ret p l R s m args meth cd) : g_S g s s.heap := C.2.2.2.2.2.2.2.2.1
theorem g_C.K {p : Program} {l : Launch} {R : Room} {s : State} {m : MethodId} {args : Array Value} {meth : Method} {cd : Code} (C : g_C g d y cc nL ret p l R s m args meth cd) : va_K g.1 clT (g_tys g) s := C.sta.1
theorem g_C.lst {p : Program} {l : Launch} {R : Room} {s : State} {m : MethodId} {args : Array Value} {meth : Method} {cd : Code} (C : g_C g d y cc nL ret p l R s m args meth cd) : l.stackTraces = false := C.2.2.2.2.2.2.2.2.2.2.2.2.2.1
theorem g_C.nm {p : Program} {l : Launch} {R : Room} {s : State} {m : MethodId} {args : Array Value} {meth : Method} {cd : Code} (C : g_C g d y cc nL ret p l R s m args meth cd) : meth.name = y.name := C.2.2.2.2.2.2.2.1
theorem wp_iadd {a b : Int32} (hd : decode cc pc0 = .ok (.iadd, 1)) (e : pc = pc0)  (k : WP g d y cc nL ret (pc0 + 1) ls (.int (a + b) :: st) h c n Q) : WP g d y cc nL ret pc ls (.int b :: .int a :: st) h c n Q := by
  subst e
  exact WP.lift (fun C _ _ _ k => lv_iadd C.1 C.2.1 hd k) k
theorem wp_isub {a b : Int32} (hd : decode cc pc0 = .ok (.isub, 1)) (e : pc = pc0)  (k : WP g d y cc nL ret (pc0 + 1) ls (.int (a - b) :: st) h c n Q) : WP g d y cc nL ret pc ls (.int b :: .int a :: st) h c n Q := by
  subst e
  exact WP.lift (fun C _ _ _ k => lv_isub C.1 C.2.1 hd k) k
theorem wp_imul {a b : Int32} (hd : decode cc pc0 = .ok (.imul, 1)) (e : pc = pc0)  (k : WP g d y cc nL ret (pc0 + 1) ls (.int (a * b) :: st) h c n Q) : WP g d y cc nL ret pc ls (.int b :: .int a :: st) h c n Q := by
  subst e
  exact WP.lift (fun C _ _ _ k => lv_imul C.1 C.2.1 hd k) k
theorem wp_iand {a b : Int32} (hd : decode cc pc0 = .ok (.iand, 1)) (e : pc = pc0)  (k : WP g d y cc nL ret (pc0 + 1) ls (.int (a &&& b) :: st) h c n Q) : WP g d y cc nL ret pc ls (.int b :: .int a :: st) h c n Q := by
  subst e
  exact WP.lift (fun C _ _ _ k => lv_iand C.1 C.2.1 hd k) k
theorem wp_ior {a b : Int32} (hd : decode cc pc0 = .ok (.ior, 1)) (e : pc = pc0)  (k : WP g d y cc nL ret (pc0 + 1) ls (.int (a ||| b) :: st) h c n Q) : WP g d y cc nL ret pc ls (.int b :: .int a :: st) h c n Q := by
  subst e
  exact WP.lift (fun C _ _ _ k => lv_ior C.1 C.2.1 hd k) k
theorem wp_ixor {a b : Int32} (hd : decode cc pc0 = .ok (.ixor, 1)) (e : pc = pc0)  (k : WP g d y cc nL ret (pc0 + 1) ls (.int (a ^^^ b) :: st) h c n Q) : WP g d y cc nL ret pc ls (.int b :: .int a :: st) h c n Q := by
  subst e
  exact WP.lift (fun C _ _ _ k => lv_ixor C.1 C.2.1 hd k) k
theorem wp_ishl {a b : Int32} (hd : decode cc pc0 = .ok (.ishl, 1)) (e : pc = pc0)  (k : WP g d y cc nL ret (pc0 + 1) ls (.int (a <<< (b &&& 31)) :: st) h c n Q) : WP g d y cc nL ret pc ls (.int b :: .int a :: st) h c n Q := by
  subst e
  exact WP.lift (fun C _ _ _ k => lv_ishl C.1 C.2.1 hd k) k
theorem wp_ishr {a b : Int32} (hd : decode cc pc0 = .ok (.ishr, 1)) (e : pc = pc0)  (k : WP g d y cc nL ret (pc0 + 1) ls (.int (a >>> (b &&& 31)) :: st) h c n Q) : WP g d y cc nL ret pc ls (.int b :: .int a :: st) h c n Q := by
  subst e
  exact WP.lift (fun C _ _ _ k => lv_ishr C.1 C.2.1 hd k) k
theorem wp_iushr {a b : Int32} (hd : decode cc pc0 = .ok (.iushr, 1)) (e : pc = pc0)  (k : WP g d y cc nL ret (pc0 + 1) ls (.int ((a.toUInt32 >>> (b.toUInt32 &&& Int32.toUInt32 31)).toInt32) :: st) h c n Q) : WP g d y cc nL ret pc ls (.int b :: .int a :: st) h c n Q := by
  subst e
  exact WP.lift (fun C _ _ _ k => lv_iushr C.1 C.2.1 hd rfl k) k
theorem wp_idiv {a b : Int32} (hd : decode cc pc0 = .ok (.idiv, 1)) (e : pc = pc0) (h0 : ¬ b = 0) (k : WP g d y cc nL ret (pc0 + 1) ls (.int (a / b) :: st) h c n Q) : WP g d y cc nL ret pc ls (.int b :: .int a :: st) h c n Q := by
  subst e
  exact WP.lift (fun C _ _ _ k => lv_idiv C.1 C.2.1 hd h0 k) k
theorem wp_irem {a b : Int32} (hd : decode cc pc0 = .ok (.irem, 1)) (e : pc = pc0) (h0 : ¬ b = 0) (k : WP g d y cc nL ret (pc0 + 1) ls (.int (a - a / b * b) :: st) h c n Q) : WP g d y cc nL ret pc ls (.int b :: .int a :: st) h c n Q := by
  subst e
  exact WP.lift (fun C _ _ _ k => lv_irem C.1 C.2.1 hd h0 k) k
theorem wp_ladd {a b : Int64} (hd : decode cc pc0 = .ok (.ladd, 1)) (e : pc = pc0)  (k : WP g d y cc nL ret (pc0 + 1) ls (.long (a + b) :: st) h c n Q) : WP g d y cc nL ret pc ls (.long b :: .long a :: st) h c n Q := by
  subst e
  exact WP.lift (fun C _ _ _ k => lv_ladd C.1 C.2.1 hd k) k
theorem wp_lsub {a b : Int64} (hd : decode cc pc0 = .ok (.lsub, 1)) (e : pc = pc0)  (k : WP g d y cc nL ret (pc0 + 1) ls (.long (a - b) :: st) h c n Q) : WP g d y cc nL ret pc ls (.long b :: .long a :: st) h c n Q := by
  subst e
  exact WP.lift (fun C _ _ _ k => lv_lsub C.1 C.2.1 hd k) k
theorem wp_lmul {a b : Int64} (hd : decode cc pc0 = .ok (.lmul, 1)) (e : pc = pc0)  (k : WP g d y cc nL ret (pc0 + 1) ls (.long (a * b) :: st) h c n Q) : WP g d y cc nL ret pc ls (.long b :: .long a :: st) h c n Q := by
  subst e
  exact WP.lift (fun C _ _ _ k => lv_lmul C.1 C.2.1 hd k) k
theorem wp_land {a b : Int64} (hd : decode cc pc0 = .ok (.land, 1)) (e : pc = pc0)  (k : WP g d y cc nL ret (pc0 + 1) ls (.long (a &&& b) :: st) h c n Q) : WP g d y cc nL ret pc ls (.long b :: .long a :: st) h c n Q := by
  subst e
  exact WP.lift (fun C _ _ _ k => lv_land C.1 C.2.1 hd k) k
theorem wp_lor {a b : Int64} (hd : decode cc pc0 = .ok (.lor, 1)) (e : pc = pc0)  (k : WP g d y cc nL ret (pc0 + 1) ls (.long (a ||| b) :: st) h c n Q) : WP g d y cc nL ret pc ls (.long b :: .long a :: st) h c n Q := by
  subst e
  exact WP.lift (fun C _ _ _ k => lv_lor C.1 C.2.1 hd k) k
theorem wp_lxor {a b : Int64} (hd : decode cc pc0 = .ok (.lxor, 1)) (e : pc = pc0)  (k : WP g d y cc nL ret (pc0 + 1) ls (.long (a ^^^ b) :: st) h c n Q) : WP g d y cc nL ret pc ls (.long b :: .long a :: st) h c n Q := by
  subst e
  exact WP.lift (fun C _ _ _ k => lv_lxor C.1 C.2.1 hd k) k
theorem wp_ldiv {a b : Int64} (hd : decode cc pc0 = .ok (.ldiv, 1)) (e : pc = pc0) (h0 : ¬ b = 0) (k : WP g d y cc nL ret (pc0 + 1) ls (.long (a / b) :: st) h c n Q) : WP g d y cc nL ret pc ls (.long b :: .long a :: st) h c n Q := by
  subst e
  exact WP.lift (fun C _ _ _ k => lv_ldiv C.1 C.2.1 hd h0 k) k
theorem wp_lrem {a b : Int64} (hd : decode cc pc0 = .ok (.lrem, 1)) (e : pc = pc0) (h0 : ¬ b = 0) (k : WP g d y cc nL ret (pc0 + 1) ls (.long (a - a / b * b) :: st) h c n Q) : WP g d y cc nL ret pc ls (.long b :: .long a :: st) h c n Q := by
  subst e
  exact WP.lift (fun C _ _ _ k => lv_lrem C.1 C.2.1 hd h0 k) k
theorem wp_lshl {a : Int64} {b : Int32} (hd : decode cc pc0 = .ok (.lshl, 1)) (e : pc = pc0)  (k : WP g d y cc nL ret (pc0 + 1) ls (.long (a <<< (b.toInt64 &&& 63)) :: st) h c n Q) : WP g d y cc nL ret pc ls (.int b :: .long a :: st) h c n Q := by
  subst e
  exact WP.lift (fun C _ _ _ k => lv_lshl C.1 C.2.1 hd rfl k) k
theorem wp_lshr {a : Int64} {b : Int32} (hd : decode cc pc0 = .ok (.lshr, 1)) (e : pc = pc0)  (k : WP g d y cc nL ret (pc0 + 1) ls (.long (a >>> (b.toInt64 &&& 63)) :: st) h c n Q) : WP g d y cc nL ret pc ls (.int b :: .long a :: st) h c n Q := by
  subst e
  exact WP.lift (fun C _ _ _ k => lv_lshr C.1 C.2.1 hd rfl k) k
theorem wp_ineg {a : Int32} (hd : decode cc pc0 = .ok (.ineg, 1)) (e : pc = pc0)  (k : WP g d y cc nL ret (pc0 + 1) ls (.int (-a) :: st) h c n Q) : WP g d y cc nL ret pc ls (.int a :: st) h c n Q := by
  subst e
  exact WP.lift (fun C _ _ _ k => lv_ineg C.1 C.2.1 hd k) k
theorem wp_i2l {a : Int32} (hd : decode cc pc0 = .ok (.i2l, 1)) (e : pc = pc0)  (k : WP g d y cc nL ret (pc0 + 1) ls (.long a.toInt64 :: st) h c n Q) : WP g d y cc nL ret pc ls (.int a :: st) h c n Q := by
  subst e
  exact WP.lift (fun C _ _ _ k => lv_i2l C.1 C.2.1 hd rfl k) k
theorem wp_l2i {a : Int64} (hd : decode cc pc0 = .ok (.l2i, 1)) (e : pc = pc0)  (k : WP g d y cc nL ret (pc0 + 1) ls (.int a.toInt32 :: st) h c n Q) : WP g d y cc nL ret pc ls (.long a :: st) h c n Q := by
  subst e
  exact WP.lift (fun C _ _ _ k => lv_l2i C.1 C.2.1 hd rfl k) k
theorem wp_i2b {a : Int32} (hd : decode cc pc0 = .ok (.i2b, 1)) (e : pc = pc0)  (k : WP g d y cc nL ret (pc0 + 1) ls (.int a.toInt8.toInt32 :: st) h c n Q) : WP g d y cc nL ret pc ls (.int a :: st) h c n Q := by
  subst e
  exact WP.lift (fun C _ _ _ k => lv_i2b C.1 C.2.1 hd rfl k) k
theorem wp_i2s {a : Int32} (hd : decode cc pc0 = .ok (.i2s, 1)) (e : pc = pc0)  (k : WP g d y cc nL ret (pc0 + 1) ls (.int a.toInt16.toInt32 :: st) h c n Q) : WP g d y cc nL ret pc ls (.int a :: st) h c n Q := by
  subst e
  exact WP.lift (fun C _ _ _ k => lv_i2s C.1 C.2.1 hd rfl k) k
theorem wp_i2c {a : Int32} (hd : decode cc pc0 = .ok (.i2c, 1)) (e : pc = pc0)  (k : WP g d y cc nL ret (pc0 + 1) ls (.int (a.toUInt32 % 65536).toInt32 :: st) h c n Q) : WP g d y cc nL ret pc ls (.int a :: st) h c n Q := by
  subst e
  exact WP.lift (fun C _ _ _ k => lv_i2c C.1 C.2.1 hd rfl k) k
theorem wp_lcmp {a b : Int64} (hd : decode cc pc0 = .ok (.lcmp, 1)) (e : pc = pc0)  (k : WP g d y cc nL ret (pc0 + 1) ls (.int (lg_cmp a b) :: st) h c n Q) : WP g d y cc nL ret pc ls (.long b :: .long a :: st) h c n Q := by
  subst e
  exact WP.lift (fun C _ _ _ k => W.lcmp C.1 C.2.1 hd k) k
theorem wp_iconst {z : Int} (v : Int32) (hd : decode cc pc0 = .ok (.iconst z, 1)) (e : pc = pc0) (hv : Int32.ofInt z = v) (k : WP g d y cc nL ret (pc0 + 1) ls (.int v :: st) h c n Q) : WP g d y cc nL ret pc ls st h c n Q := by
  subst e
  exact WP.lift (fun C _ _ _ k => lv_iconst C.1 C.2.1 hd hv k) k
theorem wp_bipush {z : Int} (v : Int32) (hd : decode cc pc0 = .ok (.bipush z, 2)) (e : pc = pc0) (hv : (Int8.ofInt z).toInt32 = v) (k : WP g d y cc nL ret (pc0 + 2) ls (.int v :: st) h c n Q) : WP g d y cc nL ret pc ls st h c n Q := by
  subst e
  exact WP.lift (fun C _ _ _ k => lv_bipush C.1 C.2.1 hd hv k) k
theorem wp_sipush {z : Int} (v : Int32) (hd : decode cc pc0 = .ok (.sipush z, 3)) (e : pc = pc0) (hv : (Int16.ofInt z).toInt32 = v) (k : WP g d y cc nL ret (pc0 + 3) ls (.int v :: st) h c n Q) : WP g d y cc nL ret pc ls st h c n Q := by
  subst e
  exact WP.lift (fun C _ _ _ k => lv_sipush C.1 C.2.1 hd hv k) k
theorem wp_lconst {z : Fin 2} (v : Int64) (hd : decode cc pc0 = .ok (.lconst z, 1)) (e : pc = pc0) (hv : Int64.ofNat (z : Nat) = v) (k : WP g d y cc nL ret (pc0 + 1) ls (.long v :: st) h c n Q) : WP g d y cc nL ret pc ls st h c n Q := by
  subst e
  exact WP.lift (fun C _ _ _ k => lv_lconst C.1 C.2.1 hd hv k) k
theorem wp_null  (hd : decode cc pc0 = .ok (.aconst_null, 1)) (e : pc = pc0)  (k : WP g d y cc nL ret (pc0 + 1) ls (.null :: st) h c n Q) : WP g d y cc nL ret pc ls st h c n Q := by
  subst e
  exact WP.lift (fun C _ _ _ k => lv_null C.1 C.2.1 hd k) k
theorem wp_ldc {i : Nat} {v : Int32} (hd : decode cc pc0 = .ok (.ldc i, 2)) (e : pc = pc0) (hw : Jvm.Cond.constant y.cls i v ∈ lw_all) (k : WP g d y cc nL ret (pc0 + 2) ls (.int v :: st) h c n Q) : WP g d y cc nL ret pc ls st h c n Q := by
  subst e
  exact WP.lift (fun C _ _ _ k => lv_ldc C.1 C.2.1 C.ow (C.ts _ hw) hd k) k
theorem wp_ldc_w {i : Nat} {v : Int32} (hd : decode cc pc0 = .ok (.ldc_w i, 3)) (e : pc = pc0) (hw : Jvm.Cond.constant y.cls i v ∈ lw_all) (k : WP g d y cc nL ret (pc0 + 3) ls (.int v :: st) h c n Q) : WP g d y cc nL ret pc ls st h c n Q := by
  subst e
  exact WP.lift (fun C _ _ _ k => lv_ldcw C.1 C.2.1 C.ow (C.ts _ hw) hd k) k
theorem wp_ldc2_w {i : Nat} {v : Int64} (hd : decode cc pc0 = .ok (.ldc2_w i, 3)) (e : pc = pc0) (hw : Jvm.Cond.constantLong y.cls i v ∈ lw_all) (k : WP g d y cc nL ret (pc0 + 3) ls (.long v :: st) h c n Q) : WP g d y cc nL ret pc ls st h c n Q := by
  subst e
  exact WP.lift (fun C _ _ _ k => lv_ldc2 C.1 C.2.1 C.ow (C.ts _ hw) hd k) k
theorem wp_dup {u : Value} (hd : decode cc pc0 = .ok (.dup, 1)) (e : pc = pc0) (hu : u.category = 1) (k : WP g d y cc nL ret (pc0 + 1) ls (u :: u :: st) h c n Q) : WP g d y cc nL ret pc ls (u :: st) h c n Q := by
  subst e
  exact WP.lift (fun C _ _ _ k => lv_dup C.1 C.2.1 hd (by rw [g_cv_cat]; exact hu) k) k
theorem wp_pop {u : Value} (hd : decode cc pc0 = .ok (.pop, 1)) (e : pc = pc0) (hu : u.category = 1) (k : WP g d y cc nL ret (pc0 + 1) ls st h c n Q) : WP g d y cc nL ret pc ls (u :: st) h c n Q := by
  subst e
  exact WP.lift (fun C _ _ _ k => lv_pop C.1 C.2.1 hd (by rw [g_cv_cat]; exact hu) k) k
theorem wp_dup_x1 {u v : Value} (hd : decode cc pc0 = .ok (.dup_x1, 1)) (e : pc = pc0) (hu : u.category = 1) (hv : v.category = 1) (k : WP g d y cc nL ret (pc0 + 1) ls (u :: v :: u :: st) h c n Q) : WP g d y cc nL ret pc ls (u :: v :: st) h c n Q := by
  subst e
  exact WP.lift (fun C _ _ _ k => lv_dup_x1 C.1 C.2.1 hd (by rw [g_cv_cat]; exact hu) (by rw [g_cv_cat]; exact hv) k) k
theorem wp_dup_x2 {u v w : Value} (hd : decode cc pc0 = .ok (.dup_x2, 1)) (e : pc = pc0) (hu : u.category = 1) (hv : v.category = 1) (hw : w.category = 1) (k : WP g d y cc nL ret (pc0 + 1) ls (u :: v :: w :: u :: st) h c n Q) : WP g d y cc nL ret pc ls (u :: v :: w :: st) h c n Q := by
  subst e
  exact WP.lift (fun C _ _ _ k => lv_dup_x2 C.1 C.2.1 hd (by rw [g_cv_cat]; exact hu) (by rw [g_cv_cat]; exact hv) (by rw [g_cv_cat]; exact hw) k) k
theorem wp_dup2 {u v : Value} (hd : decode cc pc0 = .ok (.dup2, 1)) (e : pc = pc0) (hu : u.category = 1) (hv : v.category = 1) (k : WP g d y cc nL ret (pc0 + 1) ls (u :: v :: u :: v :: st) h c n Q) : WP g d y cc nL ret pc ls (u :: v :: st) h c n Q := by
  subst e
  exact WP.lift (fun C _ _ _ k => lv_dup2_11 C.1 C.2.1 hd (by rw [g_cv_cat]; exact hu) (by rw [g_cv_cat]; exact hv) k) k
theorem wp_dup2L {u : Value} (hd : decode cc pc0 = .ok (.dup2, 1)) (e : pc = pc0) (hu : u.category = 2) (k : WP g d y cc nL ret (pc0 + 1) ls (u :: u :: st) h c n Q) : WP g d y cc nL ret pc ls (u :: st) h c n Q := by
  subst e
  exact WP.lift (fun C _ _ _ k => lv_dup2_2 C.1 C.2.1 hd (by rw [g_cv_cat]; exact hu) k) k
theorem wp_if_eq {a : Int32} {off : Int} (tgt : Nat) (hd : decode cc pc0 = .ok (.ifCond .eq off, 3)) (e : pc = pc0) (ht : (pc0 : Int) + off = (tgt : Int)) (kt : a = 0 → WP g d y cc nL ret tgt ls st h c n Q) (kf : ¬ a = 0 → WP g d y cc nL ret (pc0 + 3) ls st h c n Q) : WP g d y cc nL ret pc ls (.int a :: st) h c n Q := by
  subst e
  intro p l e R s m args below meth cd H locs cells slots arr C hS hP hl hc hn
  exact lv_if_eq C.1 C.2.1 hd ht (fun q => kt q p l e R s m args below meth cd H locs cells slots arr C hS hP hl hc hn) (fun q => kf q p l e R s m args below meth cd H locs cells slots arr C hS hP hl hc hn)
theorem wp_icmp_eq {a b : Int32} {off : Int} (tgt : Nat) (hd : decode cc pc0 = .ok (.if_icmp .eq off, 3)) (e : pc = pc0) (ht : (pc0 : Int) + off = (tgt : Int)) (kt : a = b → WP g d y cc nL ret tgt ls st h c n Q) (kf : ¬ a = b → WP g d y cc nL ret (pc0 + 3) ls st h c n Q) : WP g d y cc nL ret pc ls (.int b :: .int a :: st) h c n Q := by
  subst e
  intro p l e R s m args below meth cd H locs cells slots arr C hS hP hl hc hn
  exact lv_icmp_eq C.1 C.2.1 hd ht (fun q => kt q p l e R s m args below meth cd H locs cells slots arr C hS hP hl hc hn) (fun q => kf q p l e R s m args below meth cd H locs cells slots arr C hS hP hl hc hn)
theorem wp_if_ne {a : Int32} {off : Int} (tgt : Nat) (hd : decode cc pc0 = .ok (.ifCond .ne off, 3)) (e : pc = pc0) (ht : (pc0 : Int) + off = (tgt : Int)) (kt : ¬ a = 0 → WP g d y cc nL ret tgt ls st h c n Q) (kf : a = 0 → WP g d y cc nL ret (pc0 + 3) ls st h c n Q) : WP g d y cc nL ret pc ls (.int a :: st) h c n Q := by
  subst e
  intro p l e R s m args below meth cd H locs cells slots arr C hS hP hl hc hn
  exact lv_if_ne C.1 C.2.1 hd ht (fun q => kt q p l e R s m args below meth cd H locs cells slots arr C hS hP hl hc hn) (fun q => kf q p l e R s m args below meth cd H locs cells slots arr C hS hP hl hc hn)
theorem wp_icmp_ne {a b : Int32} {off : Int} (tgt : Nat) (hd : decode cc pc0 = .ok (.if_icmp .ne off, 3)) (e : pc = pc0) (ht : (pc0 : Int) + off = (tgt : Int)) (kt : ¬ a = b → WP g d y cc nL ret tgt ls st h c n Q) (kf : a = b → WP g d y cc nL ret (pc0 + 3) ls st h c n Q) : WP g d y cc nL ret pc ls (.int b :: .int a :: st) h c n Q := by
  subst e
  intro p l e R s m args below meth cd H locs cells slots arr C hS hP hl hc hn
  exact lv_icmp_ne C.1 C.2.1 hd ht (fun q => kt q p l e R s m args below meth cd H locs cells slots arr C hS hP hl hc hn) (fun q => kf q p l e R s m args below meth cd H locs cells slots arr C hS hP hl hc hn)
theorem wp_if_lt {a : Int32} {off : Int} (tgt : Nat) (hd : decode cc pc0 = .ok (.ifCond .lt off, 3)) (e : pc = pc0) (ht : (pc0 : Int) + off = (tgt : Int)) (kt : a < 0 → WP g d y cc nL ret tgt ls st h c n Q) (kf : ¬ a < 0 → WP g d y cc nL ret (pc0 + 3) ls st h c n Q) : WP g d y cc nL ret pc ls (.int a :: st) h c n Q := by
  subst e
  intro p l e R s m args below meth cd H locs cells slots arr C hS hP hl hc hn
  exact lv_if_lt C.1 C.2.1 hd ht (fun q => kt q p l e R s m args below meth cd H locs cells slots arr C hS hP hl hc hn) (fun q => kf q p l e R s m args below meth cd H locs cells slots arr C hS hP hl hc hn)
theorem wp_icmp_lt {a b : Int32} {off : Int} (tgt : Nat) (hd : decode cc pc0 = .ok (.if_icmp .lt off, 3)) (e : pc = pc0) (ht : (pc0 : Int) + off = (tgt : Int)) (kt : a < b → WP g d y cc nL ret tgt ls st h c n Q) (kf : ¬ a < b → WP g d y cc nL ret (pc0 + 3) ls st h c n Q) : WP g d y cc nL ret pc ls (.int b :: .int a :: st) h c n Q := by
  subst e
  intro p l e R s m args below meth cd H locs cells slots arr C hS hP hl hc hn
  exact lv_icmp_lt C.1 C.2.1 hd ht (fun q => kt q p l e R s m args below meth cd H locs cells slots arr C hS hP hl hc hn) (fun q => kf q p l e R s m args below meth cd H locs cells slots arr C hS hP hl hc hn)
theorem wp_if_ge {a : Int32} {off : Int} (tgt : Nat) (hd : decode cc pc0 = .ok (.ifCond .ge off, 3)) (e : pc = pc0) (ht : (pc0 : Int) + off = (tgt : Int)) (kt : 0 ≤ a → WP g d y cc nL ret tgt ls st h c n Q) (kf : ¬ 0 ≤ a → WP g d y cc nL ret (pc0 + 3) ls st h c n Q) : WP g d y cc nL ret pc ls (.int a :: st) h c n Q := by
  subst e
  intro p l e R s m args below meth cd H locs cells slots arr C hS hP hl hc hn
  exact lv_if_ge C.1 C.2.1 hd ht (fun q => kt q p l e R s m args below meth cd H locs cells slots arr C hS hP hl hc hn) (fun q => kf q p l e R s m args below meth cd H locs cells slots arr C hS hP hl hc hn)
theorem wp_icmp_ge {a b : Int32} {off : Int} (tgt : Nat) (hd : decode cc pc0 = .ok (.if_icmp .ge off, 3)) (e : pc = pc0) (ht : (pc0 : Int) + off = (tgt : Int)) (kt : b ≤ a → WP g d y cc nL ret tgt ls st h c n Q) (kf : ¬ b ≤ a → WP g d y cc nL ret (pc0 + 3) ls st h c n Q) : WP g d y cc nL ret pc ls (.int b :: .int a :: st) h c n Q := by
  subst e
  intro p l e R s m args below meth cd H locs cells slots arr C hS hP hl hc hn
  exact lv_icmp_ge C.1 C.2.1 hd ht (fun q => kt q p l e R s m args below meth cd H locs cells slots arr C hS hP hl hc hn) (fun q => kf q p l e R s m args below meth cd H locs cells slots arr C hS hP hl hc hn)
theorem wp_if_gt {a : Int32} {off : Int} (tgt : Nat) (hd : decode cc pc0 = .ok (.ifCond .gt off, 3)) (e : pc = pc0) (ht : (pc0 : Int) + off = (tgt : Int)) (kt : 0 < a → WP g d y cc nL ret tgt ls st h c n Q) (kf : ¬ 0 < a → WP g d y cc nL ret (pc0 + 3) ls st h c n Q) : WP g d y cc nL ret pc ls (.int a :: st) h c n Q := by
  subst e
  intro p l e R s m args below meth cd H locs cells slots arr C hS hP hl hc hn
  exact lv_if_gt C.1 C.2.1 hd ht (fun q => kt q p l e R s m args below meth cd H locs cells slots arr C hS hP hl hc hn) (fun q => kf q p l e R s m args below meth cd H locs cells slots arr C hS hP hl hc hn)
theorem wp_icmp_gt {a b : Int32} {off : Int} (tgt : Nat) (hd : decode cc pc0 = .ok (.if_icmp .gt off, 3)) (e : pc = pc0) (ht : (pc0 : Int) + off = (tgt : Int)) (kt : b < a → WP g d y cc nL ret tgt ls st h c n Q) (kf : ¬ b < a → WP g d y cc nL ret (pc0 + 3) ls st h c n Q) : WP g d y cc nL ret pc ls (.int b :: .int a :: st) h c n Q := by
  subst e
  intro p l e R s m args below meth cd H locs cells slots arr C hS hP hl hc hn
  exact lv_icmp_gt C.1 C.2.1 hd ht (fun q => kt q p l e R s m args below meth cd H locs cells slots arr C hS hP hl hc hn) (fun q => kf q p l e R s m args below meth cd H locs cells slots arr C hS hP hl hc hn)
theorem wp_if_le {a : Int32} {off : Int} (tgt : Nat) (hd : decode cc pc0 = .ok (.ifCond .le off, 3)) (e : pc = pc0) (ht : (pc0 : Int) + off = (tgt : Int)) (kt : a ≤ 0 → WP g d y cc nL ret tgt ls st h c n Q) (kf : ¬ a ≤ 0 → WP g d y cc nL ret (pc0 + 3) ls st h c n Q) : WP g d y cc nL ret pc ls (.int a :: st) h c n Q := by
  subst e
  intro p l e R s m args below meth cd H locs cells slots arr C hS hP hl hc hn
  exact lv_if_le C.1 C.2.1 hd ht (fun q => kt q p l e R s m args below meth cd H locs cells slots arr C hS hP hl hc hn) (fun q => kf q p l e R s m args below meth cd H locs cells slots arr C hS hP hl hc hn)
theorem wp_icmp_le {a b : Int32} {off : Int} (tgt : Nat) (hd : decode cc pc0 = .ok (.if_icmp .le off, 3)) (e : pc = pc0) (ht : (pc0 : Int) + off = (tgt : Int)) (kt : a ≤ b → WP g d y cc nL ret tgt ls st h c n Q) (kf : ¬ a ≤ b → WP g d y cc nL ret (pc0 + 3) ls st h c n Q) : WP g d y cc nL ret pc ls (.int b :: .int a :: st) h c n Q := by
  subst e
  intro p l e R s m args below meth cd H locs cells slots arr C hS hP hl hc hn
  exact lv_icmp_le C.1 C.2.1 hd ht (fun q => kt q p l e R s m args below meth cd H locs cells slots arr C hS hP hl hc hn) (fun q => kf q p l e R s m args below meth cd H locs cells slots arr C hS hP hl hc hn)
theorem wp_goto {off : Int} (tgt : Nat) (hd : decode cc pc0 = .ok (.goto off, 3)) (e : pc = pc0) (ht : (pc0 : Int) + off = (tgt : Int)) (k : WP g d y cc nL ret tgt ls st h c n Q) : WP g d y cc nL ret pc ls st h c n Q := by
  subst e
  exact WP.lift (fun C _ _ _ k => lv_goto C.1 C.2.1 hd ht k) k
theorem wp_ifnull_r {a : Nat} {off : Int} (hd : decode cc pc0 = .ok (.ifnull off, 3)) (e : pc = pc0) (k : WP g d y cc nL ret (pc0 + 3) ls st h c n Q) : WP g d y cc nL ret pc ls (.ref a :: st) h c n Q := by
  subst e
  exact WP.lift (fun C _ _ _ k => lv_ifnull C.1 C.2.1 hd k) k
theorem wp_ifnull_n {off : Int} (tgt : Nat) (hd : decode cc pc0 = .ok (.ifnull off, 3)) (e : pc = pc0) (ht : (pc0 : Int) + off = (tgt : Int)) (k : WP g d y cc nL ret tgt ls st h c n Q) : WP g d y cc nL ret pc ls (.null :: st) h c n Q := by
  subst e
  exact WP.lift (fun C _ _ _ k => lv_ifnullN C.1 C.2.1 hd ht k) k
theorem wp_ifnonnull_r {a : Nat} {off : Int} (tgt : Nat) (hd : decode cc pc0 = .ok (.ifnonnull off, 3)) (e : pc = pc0) (ht : (pc0 : Int) + off = (tgt : Int)) (k : WP g d y cc nL ret tgt ls st h c n Q) : WP g d y cc nL ret pc ls (.ref a :: st) h c n Q := by
  subst e
  exact WP.lift (fun C _ _ _ k => lv_ifnonnull C.1 C.2.1 hd ht k) k
theorem wp_ifnonnull_n {off : Int} (hd : decode cc pc0 = .ok (.ifnonnull off, 3)) (e : pc = pc0) (k : WP g d y cc nL ret (pc0 + 3) ls st h c n Q) : WP g d y cc nL ret pc ls (.null :: st) h c n Q := by
  subst e
  exact WP.lift (fun C _ _ _ k => lv_ifnonnullN C.1 C.2.1 hd k) k
theorem wp_swOut {dflt lo hi : Int} {offs : Array Int} {len : Nat} {a : Int32} (tgt : Nat) (hd : decode cc pc0 = .ok (.tableswitch dflt lo hi offs, len)) (e : pc = pc0) (hx : a.toInt < lo ∨ hi < a.toInt) (ht : (pc0 : Int) + dflt = (tgt : Int)) (k : WP g d y cc nL ret tgt ls st h c n Q) : WP g d y cc nL ret pc ls (.int a :: st) h c n Q := by
  subst e
  exact WP.lift (fun C _ _ _ k => lv_tableOut C.1 C.2.1 hd hx ht k) k
theorem wp_swIn {dflt lo hi off : Int} {offs : Array Int} {len : Nat} {a : Int32} (tgt : Nat) (hd : decode cc pc0 = .ok (.tableswitch dflt lo hi offs, len)) (e : pc = pc0) (h1 : ¬ a.toInt < lo) (h2 : ¬ hi < a.toInt) (ho : offs[(a.toInt - lo).toNat]? = some off) (ht : (pc0 : Int) + off = (tgt : Int)) (k : WP g d y cc nL ret tgt ls st h c n Q) : WP g d y cc nL ret pc ls (.int a :: st) h c n Q := by
  subst e
  exact WP.lift (fun C _ _ _ k => lv_tableIn C.1 C.2.1 hd h1 h2 ho ht k) k
theorem wp_ireturn {v : Int32} (hd : decode cc pc0 = .ok (.ireturn, 1)) (e : pc = pc0)  (k : Q (some (.int v)) h) : WP g d y cc nL (some .int) pc ls [(.int v)] h c n Q := by
  subst e
  intro p l e R s m args below meth cd H locs cells slots arr C hS hP hl hc hn
  obtain ⟨hx, hb, hr, hml, hown, hts, hlocks, -⟩ := C
  exact vx_ret (W.widen (by omega) (by omega) (W.iret hx hb hr  (fun t ht hW => ⟨some (.int v), h, ⟨rfl, rfl⟩, k, by rw [ht]; exact hP, hS.F ht⟩) hS.2.2 hd hlocks))
theorem wp_zreturn {v : Int32} (hd : decode cc pc0 = .ok (.ireturn, 1)) (e : pc = pc0) (hz : narrow .boolean (.int v) = .int v) (k : Q (some (.int v)) h) : WP g d y cc nL (some .boolean) pc ls [(.int v)] h c n Q := by
  subst e
  intro p l e R s m args below meth cd H locs cells slots arr C hS hP hl hc hn
  obtain ⟨hx, hb, hr, hml, hown, hts, hlocks, -⟩ := C
  exact vx_ret (W.widen (by omega) (by omega) (W.zret hx hb hr hz (fun t ht hW => ⟨some (.int v), h, ⟨rfl, rfl⟩, k, by rw [ht]; exact hP, hS.F ht⟩) hS.2.2 hd hlocks))
theorem wp_lreturn {v : Int64} (hd : decode cc pc0 = .ok (.lreturn, 1)) (e : pc = pc0)  (k : Q (some (.long v)) h) : WP g d y cc nL (some .long) pc ls [(.long v)] h c n Q := by
  subst e
  intro p l e R s m args below meth cd H locs cells slots arr C hS hP hl hc hn
  obtain ⟨hx, hb, hr, hml, hown, hts, hlocks, -⟩ := C
  exact vx_ret (W.widen (by omega) (by omega) (W.lret hx hb hr  (fun t ht hW => ⟨some (.long v), h, ⟨rfl, rfl⟩, k, by rw [ht]; exact hP, hS.F ht⟩) hS.2.2 hd hlocks))
theorem wp_return  (hd : decode cc pc0 = .ok (.return_, 1)) (e : pc = pc0)  (k : Q (none) h) : WP g d y cc nL none pc ls [] h c n Q := by
  subst e
  intro p l e R s m args below meth cd H locs cells slots arr C hS hP hl hc hn
  obtain ⟨hx, hb, hr, hml, hown, hts, hlocks, -⟩ := C
  exact vx_ret (W.widen (by omega) (by omega) (W.vret hx hb hr  (fun t ht hW => ⟨none, h, ⟨rfl, rfl⟩, k, by rw [ht]; exact hP, hS.F ht⟩) hS.2.2 hd hlocks))
theorem wp_areturn_r {a : Nat} {rt : FieldType} (hd : decode cc pc0 = .ok (.areturn, 1)) (e : pc = pc0) (hrt : (∃ n, rt = .object n) ∨ ∃ t, rt = .array t) (k : Q (some (.ref a)) h) : WP g d y cc nL (some rt) pc ls [.ref a] h c n Q := by
  subst e
  intro p l e R s m args below meth cd H locs cells slots arr C hS hP hl hc hn
  obtain ⟨hx, hb, hr, hml, hown, hts, hlocks, -⟩ := C
  exact vx_ret (W.widen (by omega) (by omega) (W.aret hx hb hr hrt (Or.inr ⟨_, rfl⟩) (fun t ht hW => ⟨some (.ref a), h, ⟨rfl, rfl⟩, k, by rw [ht]; exact hP, hS.F ht⟩) hS.2.2 hd hlocks))
theorem wp_areturn_n {rt : FieldType} (hd : decode cc pc0 = .ok (.areturn, 1)) (e : pc = pc0) (hrt : (∃ n, rt = .object n) ∨ ∃ t, rt = .array t) (k : Q (some .null) h) : WP g d y cc nL (some rt) pc ls [.null] h c n Q := by
  subst e
  intro p l e R s m args below meth cd H locs cells slots arr C hS hP hl hc hn
  obtain ⟨hx, hb, hr, hml, hown, hts, hlocks, -⟩ := C
  exact vx_ret (W.widen (by omega) (by omega) (W.aret hx hb hr hrt (Or.inl rfl) (fun t ht hW => ⟨some .null, h, ⟨rfl, rfl⟩, k, by rw [ht]; exact hP, hS.F ht⟩) hS.2.2 hd hlocks))
theorem wp_iload_0 {t : List (Option Value)} {x : Int32} (hd : decode cc pc0 = .ok (.iload_n 0, 1)) (e : pc = pc0) (k : WP g d y cc nL ret (pc0 + 1) (some (.int x) :: t) (.int x :: st) h c n Q) : WP g d y cc nL ret pc (some (.int x) :: t) st h c n Q := by
  subst e
  exact WP.lift (fun C _ _ hl k => lv_iload_n C.1 C.2.1 hd (i := 0) rfl (g_lv_at (i := 0) hl rfl) k) k
theorem wp_lload_0 {t : List (Option Value)} {x : Int64} (hd : decode cc pc0 = .ok (.lload_n 0, 1)) (e : pc = pc0) (k : WP g d y cc nL ret (pc0 + 1) (some (.long x) :: t) (.long x :: st) h c n Q) : WP g d y cc nL ret pc (some (.long x) :: t) st h c n Q := by
  subst e
  exact WP.lift (fun C _ _ hl k => lv_lload_n C.1 C.2.1 hd (i := 0) rfl (g_lv_at (i := 0) hl rfl) k) k
theorem wp_aload_0 {t : List (Option Value)} {x : Nat} (hd : decode cc pc0 = .ok (.aload_n 0, 1)) (e : pc = pc0) (k : WP g d y cc nL ret (pc0 + 1) (some (.ref x) :: t) (.ref x :: st) h c n Q) : WP g d y cc nL ret pc (some (.ref x) :: t) st h c n Q := by
  subst e
  exact WP.lift (fun C _ _ hl k => lv_aload_n C.1 C.2.1 hd (i := 0) rfl (g_lv_at (i := 0) hl rfl) k) k
theorem wp_aloadN_0 {t : List (Option Value)} (hd : decode cc pc0 = .ok (.aload_n 0, 1)) (e : pc = pc0) (k : WP g d y cc nL ret (pc0 + 1) (some .null :: t) (.null :: st) h c n Q) : WP g d y cc nL ret pc (some .null :: t) st h c n Q := by
  subst e
  exact WP.lift (fun C _ _ hl k => lv_aload_nN C.1 C.2.1 hd (i := 0) rfl (g_lv_at (i := 0) hl rfl) k) k
theorem wp_iload_1 {a0 : Option Value} {t : List (Option Value)} {x : Int32} (hd : decode cc pc0 = .ok (.iload_n 1, 1)) (e : pc = pc0) (k : WP g d y cc nL ret (pc0 + 1) (a0 :: some (.int x) :: t) (.int x :: st) h c n Q) : WP g d y cc nL ret pc (a0 :: some (.int x) :: t) st h c n Q := by
  subst e
  exact WP.lift (fun C _ _ hl k => lv_iload_n C.1 C.2.1 hd (i := 1) rfl (g_lv_at (i := 1) hl rfl) k) k
theorem wp_lload_1 {a0 : Option Value} {t : List (Option Value)} {x : Int64} (hd : decode cc pc0 = .ok (.lload_n 1, 1)) (e : pc = pc0) (k : WP g d y cc nL ret (pc0 + 1) (a0 :: some (.long x) :: t) (.long x :: st) h c n Q) : WP g d y cc nL ret pc (a0 :: some (.long x) :: t) st h c n Q := by
  subst e
  exact WP.lift (fun C _ _ hl k => lv_lload_n C.1 C.2.1 hd (i := 1) rfl (g_lv_at (i := 1) hl rfl) k) k
theorem wp_aload_1 {a0 : Option Value} {t : List (Option Value)} {x : Nat} (hd : decode cc pc0 = .ok (.aload_n 1, 1)) (e : pc = pc0) (k : WP g d y cc nL ret (pc0 + 1) (a0 :: some (.ref x) :: t) (.ref x :: st) h c n Q) : WP g d y cc nL ret pc (a0 :: some (.ref x) :: t) st h c n Q := by
  subst e
  exact WP.lift (fun C _ _ hl k => lv_aload_n C.1 C.2.1 hd (i := 1) rfl (g_lv_at (i := 1) hl rfl) k) k
theorem wp_aloadN_1 {a0 : Option Value} {t : List (Option Value)} (hd : decode cc pc0 = .ok (.aload_n 1, 1)) (e : pc = pc0) (k : WP g d y cc nL ret (pc0 + 1) (a0 :: some .null :: t) (.null :: st) h c n Q) : WP g d y cc nL ret pc (a0 :: some .null :: t) st h c n Q := by
  subst e
  exact WP.lift (fun C _ _ hl k => lv_aload_nN C.1 C.2.1 hd (i := 1) rfl (g_lv_at (i := 1) hl rfl) k) k
theorem wp_iload_2 {a0 a1 : Option Value} {t : List (Option Value)} {x : Int32} (hd : decode cc pc0 = .ok (.iload_n 2, 1)) (e : pc = pc0) (k : WP g d y cc nL ret (pc0 + 1) (a0 :: a1 :: some (.int x) :: t) (.int x :: st) h c n Q) : WP g d y cc nL ret pc (a0 :: a1 :: some (.int x) :: t) st h c n Q := by
  subst e
  exact WP.lift (fun C _ _ hl k => lv_iload_n C.1 C.2.1 hd (i := 2) rfl (g_lv_at (i := 2) hl rfl) k) k
theorem wp_lload_2 {a0 a1 : Option Value} {t : List (Option Value)} {x : Int64} (hd : decode cc pc0 = .ok (.lload_n 2, 1)) (e : pc = pc0) (k : WP g d y cc nL ret (pc0 + 1) (a0 :: a1 :: some (.long x) :: t) (.long x :: st) h c n Q) : WP g d y cc nL ret pc (a0 :: a1 :: some (.long x) :: t) st h c n Q := by
  subst e
  exact WP.lift (fun C _ _ hl k => lv_lload_n C.1 C.2.1 hd (i := 2) rfl (g_lv_at (i := 2) hl rfl) k) k
theorem wp_aload_2 {a0 a1 : Option Value} {t : List (Option Value)} {x : Nat} (hd : decode cc pc0 = .ok (.aload_n 2, 1)) (e : pc = pc0) (k : WP g d y cc nL ret (pc0 + 1) (a0 :: a1 :: some (.ref x) :: t) (.ref x :: st) h c n Q) : WP g d y cc nL ret pc (a0 :: a1 :: some (.ref x) :: t) st h c n Q := by
  subst e
  exact WP.lift (fun C _ _ hl k => lv_aload_n C.1 C.2.1 hd (i := 2) rfl (g_lv_at (i := 2) hl rfl) k) k
theorem wp_aloadN_2 {a0 a1 : Option Value} {t : List (Option Value)} (hd : decode cc pc0 = .ok (.aload_n 2, 1)) (e : pc = pc0) (k : WP g d y cc nL ret (pc0 + 1) (a0 :: a1 :: some .null :: t) (.null :: st) h c n Q) : WP g d y cc nL ret pc (a0 :: a1 :: some .null :: t) st h c n Q := by
  subst e
  exact WP.lift (fun C _ _ hl k => lv_aload_nN C.1 C.2.1 hd (i := 2) rfl (g_lv_at (i := 2) hl rfl) k) k
theorem wp_iload_3 {a0 a1 a2 : Option Value} {t : List (Option Value)} {x : Int32} (hd : decode cc pc0 = .ok (.iload_n 3, 1)) (e : pc = pc0) (k : WP g d y cc nL ret (pc0 + 1) (a0 :: a1 :: a2 :: some (.int x) :: t) (.int x :: st) h c n Q) : WP g d y cc nL ret pc (a0 :: a1 :: a2 :: some (.int x) :: t) st h c n Q := by
  subst e
  exact WP.lift (fun C _ _ hl k => lv_iload_n C.1 C.2.1 hd (i := 3) rfl (g_lv_at (i := 3) hl rfl) k) k
theorem wp_lload_3 {a0 a1 a2 : Option Value} {t : List (Option Value)} {x : Int64} (hd : decode cc pc0 = .ok (.lload_n 3, 1)) (e : pc = pc0) (k : WP g d y cc nL ret (pc0 + 1) (a0 :: a1 :: a2 :: some (.long x) :: t) (.long x :: st) h c n Q) : WP g d y cc nL ret pc (a0 :: a1 :: a2 :: some (.long x) :: t) st h c n Q := by
  subst e
  exact WP.lift (fun C _ _ hl k => lv_lload_n C.1 C.2.1 hd (i := 3) rfl (g_lv_at (i := 3) hl rfl) k) k
theorem wp_aload_3 {a0 a1 a2 : Option Value} {t : List (Option Value)} {x : Nat} (hd : decode cc pc0 = .ok (.aload_n 3, 1)) (e : pc = pc0) (k : WP g d y cc nL ret (pc0 + 1) (a0 :: a1 :: a2 :: some (.ref x) :: t) (.ref x :: st) h c n Q) : WP g d y cc nL ret pc (a0 :: a1 :: a2 :: some (.ref x) :: t) st h c n Q := by
  subst e
  exact WP.lift (fun C _ _ hl k => lv_aload_n C.1 C.2.1 hd (i := 3) rfl (g_lv_at (i := 3) hl rfl) k) k
theorem wp_aloadN_3 {a0 a1 a2 : Option Value} {t : List (Option Value)} (hd : decode cc pc0 = .ok (.aload_n 3, 1)) (e : pc = pc0) (k : WP g d y cc nL ret (pc0 + 1) (a0 :: a1 :: a2 :: some .null :: t) (.null :: st) h c n Q) : WP g d y cc nL ret pc (a0 :: a1 :: a2 :: some .null :: t) st h c n Q := by
  subst e
  exact WP.lift (fun C _ _ hl k => lv_aload_nN C.1 C.2.1 hd (i := 3) rfl (g_lv_at (i := 3) hl rfl) k) k
theorem wp_iload_4 {a0 a1 a2 a3 : Option Value} {t : List (Option Value)} {x : Int32} (hd : decode cc pc0 = .ok (.iload 4, 2)) (e : pc = pc0) (k : WP g d y cc nL ret (pc0 + 2) (a0 :: a1 :: a2 :: a3 :: some (.int x) :: t) (.int x :: st) h c n Q) : WP g d y cc nL ret pc (a0 :: a1 :: a2 :: a3 :: some (.int x) :: t) st h c n Q := by
  subst e
  exact WP.lift (fun C _ _ hl k => lv_iload C.1 C.2.1 hd (g_lv_at (i := 4) hl rfl) k) k
theorem wp_lload_4 {a0 a1 a2 a3 : Option Value} {t : List (Option Value)} {x : Int64} (hd : decode cc pc0 = .ok (.lload 4, 2)) (e : pc = pc0) (k : WP g d y cc nL ret (pc0 + 2) (a0 :: a1 :: a2 :: a3 :: some (.long x) :: t) (.long x :: st) h c n Q) : WP g d y cc nL ret pc (a0 :: a1 :: a2 :: a3 :: some (.long x) :: t) st h c n Q := by
  subst e
  exact WP.lift (fun C _ _ hl k => lv_lload C.1 C.2.1 hd (g_lv_at (i := 4) hl rfl) k) k
theorem wp_aload_4 {a0 a1 a2 a3 : Option Value} {t : List (Option Value)} {x : Nat} (hd : decode cc pc0 = .ok (.aload 4, 2)) (e : pc = pc0) (k : WP g d y cc nL ret (pc0 + 2) (a0 :: a1 :: a2 :: a3 :: some (.ref x) :: t) (.ref x :: st) h c n Q) : WP g d y cc nL ret pc (a0 :: a1 :: a2 :: a3 :: some (.ref x) :: t) st h c n Q := by
  subst e
  exact WP.lift (fun C _ _ hl k => lv_aload C.1 C.2.1 hd (g_lv_at (i := 4) hl rfl) k) k
theorem wp_aloadN_4 {a0 a1 a2 a3 : Option Value} {t : List (Option Value)} (hd : decode cc pc0 = .ok (.aload 4, 2)) (e : pc = pc0) (k : WP g d y cc nL ret (pc0 + 2) (a0 :: a1 :: a2 :: a3 :: some .null :: t) (.null :: st) h c n Q) : WP g d y cc nL ret pc (a0 :: a1 :: a2 :: a3 :: some .null :: t) st h c n Q := by
  subst e
  exact WP.lift (fun C _ _ hl k => lv_aloadN C.1 C.2.1 hd (g_lv_at (i := 4) hl rfl) k) k
theorem wp_iload_5 {a0 a1 a2 a3 a4 : Option Value} {t : List (Option Value)} {x : Int32} (hd : decode cc pc0 = .ok (.iload 5, 2)) (e : pc = pc0) (k : WP g d y cc nL ret (pc0 + 2) (a0 :: a1 :: a2 :: a3 :: a4 :: some (.int x) :: t) (.int x :: st) h c n Q) : WP g d y cc nL ret pc (a0 :: a1 :: a2 :: a3 :: a4 :: some (.int x) :: t) st h c n Q := by
  subst e
  exact WP.lift (fun C _ _ hl k => lv_iload C.1 C.2.1 hd (g_lv_at (i := 5) hl rfl) k) k
theorem wp_lload_5 {a0 a1 a2 a3 a4 : Option Value} {t : List (Option Value)} {x : Int64} (hd : decode cc pc0 = .ok (.lload 5, 2)) (e : pc = pc0) (k : WP g d y cc nL ret (pc0 + 2) (a0 :: a1 :: a2 :: a3 :: a4 :: some (.long x) :: t) (.long x :: st) h c n Q) : WP g d y cc nL ret pc (a0 :: a1 :: a2 :: a3 :: a4 :: some (.long x) :: t) st h c n Q := by
  subst e
  exact WP.lift (fun C _ _ hl k => lv_lload C.1 C.2.1 hd (g_lv_at (i := 5) hl rfl) k) k
theorem wp_aload_5 {a0 a1 a2 a3 a4 : Option Value} {t : List (Option Value)} {x : Nat} (hd : decode cc pc0 = .ok (.aload 5, 2)) (e : pc = pc0) (k : WP g d y cc nL ret (pc0 + 2) (a0 :: a1 :: a2 :: a3 :: a4 :: some (.ref x) :: t) (.ref x :: st) h c n Q) : WP g d y cc nL ret pc (a0 :: a1 :: a2 :: a3 :: a4 :: some (.ref x) :: t) st h c n Q := by
  subst e
  exact WP.lift (fun C _ _ hl k => lv_aload C.1 C.2.1 hd (g_lv_at (i := 5) hl rfl) k) k
theorem wp_aloadN_5 {a0 a1 a2 a3 a4 : Option Value} {t : List (Option Value)} (hd : decode cc pc0 = .ok (.aload 5, 2)) (e : pc = pc0) (k : WP g d y cc nL ret (pc0 + 2) (a0 :: a1 :: a2 :: a3 :: a4 :: some .null :: t) (.null :: st) h c n Q) : WP g d y cc nL ret pc (a0 :: a1 :: a2 :: a3 :: a4 :: some .null :: t) st h c n Q := by
  subst e
  exact WP.lift (fun C _ _ hl k => lv_aloadN C.1 C.2.1 hd (g_lv_at (i := 5) hl rfl) k) k
theorem wp_iload_6 {a0 a1 a2 a3 a4 a5 : Option Value} {t : List (Option Value)} {x : Int32} (hd : decode cc pc0 = .ok (.iload 6, 2)) (e : pc = pc0) (k : WP g d y cc nL ret (pc0 + 2) (a0 :: a1 :: a2 :: a3 :: a4 :: a5 :: some (.int x) :: t) (.int x :: st) h c n Q) : WP g d y cc nL ret pc (a0 :: a1 :: a2 :: a3 :: a4 :: a5 :: some (.int x) :: t) st h c n Q := by
  subst e
  exact WP.lift (fun C _ _ hl k => lv_iload C.1 C.2.1 hd (g_lv_at (i := 6) hl rfl) k) k
theorem wp_lload_6 {a0 a1 a2 a3 a4 a5 : Option Value} {t : List (Option Value)} {x : Int64} (hd : decode cc pc0 = .ok (.lload 6, 2)) (e : pc = pc0) (k : WP g d y cc nL ret (pc0 + 2) (a0 :: a1 :: a2 :: a3 :: a4 :: a5 :: some (.long x) :: t) (.long x :: st) h c n Q) : WP g d y cc nL ret pc (a0 :: a1 :: a2 :: a3 :: a4 :: a5 :: some (.long x) :: t) st h c n Q := by
  subst e
  exact WP.lift (fun C _ _ hl k => lv_lload C.1 C.2.1 hd (g_lv_at (i := 6) hl rfl) k) k
theorem wp_aload_6 {a0 a1 a2 a3 a4 a5 : Option Value} {t : List (Option Value)} {x : Nat} (hd : decode cc pc0 = .ok (.aload 6, 2)) (e : pc = pc0) (k : WP g d y cc nL ret (pc0 + 2) (a0 :: a1 :: a2 :: a3 :: a4 :: a5 :: some (.ref x) :: t) (.ref x :: st) h c n Q) : WP g d y cc nL ret pc (a0 :: a1 :: a2 :: a3 :: a4 :: a5 :: some (.ref x) :: t) st h c n Q := by
  subst e
  exact WP.lift (fun C _ _ hl k => lv_aload C.1 C.2.1 hd (g_lv_at (i := 6) hl rfl) k) k
theorem wp_aloadN_6 {a0 a1 a2 a3 a4 a5 : Option Value} {t : List (Option Value)} (hd : decode cc pc0 = .ok (.aload 6, 2)) (e : pc = pc0) (k : WP g d y cc nL ret (pc0 + 2) (a0 :: a1 :: a2 :: a3 :: a4 :: a5 :: some .null :: t) (.null :: st) h c n Q) : WP g d y cc nL ret pc (a0 :: a1 :: a2 :: a3 :: a4 :: a5 :: some .null :: t) st h c n Q := by
  subst e
  exact WP.lift (fun C _ _ hl k => lv_aloadN C.1 C.2.1 hd (g_lv_at (i := 6) hl rfl) k) k
theorem wp_iload_7 {a0 a1 a2 a3 a4 a5 a6 : Option Value} {t : List (Option Value)} {x : Int32} (hd : decode cc pc0 = .ok (.iload 7, 2)) (e : pc = pc0) (k : WP g d y cc nL ret (pc0 + 2) (a0 :: a1 :: a2 :: a3 :: a4 :: a5 :: a6 :: some (.int x) :: t) (.int x :: st) h c n Q) : WP g d y cc nL ret pc (a0 :: a1 :: a2 :: a3 :: a4 :: a5 :: a6 :: some (.int x) :: t) st h c n Q := by
  subst e
  exact WP.lift (fun C _ _ hl k => lv_iload C.1 C.2.1 hd (g_lv_at (i := 7) hl rfl) k) k
theorem wp_lload_7 {a0 a1 a2 a3 a4 a5 a6 : Option Value} {t : List (Option Value)} {x : Int64} (hd : decode cc pc0 = .ok (.lload 7, 2)) (e : pc = pc0) (k : WP g d y cc nL ret (pc0 + 2) (a0 :: a1 :: a2 :: a3 :: a4 :: a5 :: a6 :: some (.long x) :: t) (.long x :: st) h c n Q) : WP g d y cc nL ret pc (a0 :: a1 :: a2 :: a3 :: a4 :: a5 :: a6 :: some (.long x) :: t) st h c n Q := by
  subst e
  exact WP.lift (fun C _ _ hl k => lv_lload C.1 C.2.1 hd (g_lv_at (i := 7) hl rfl) k) k
theorem wp_aload_7 {a0 a1 a2 a3 a4 a5 a6 : Option Value} {t : List (Option Value)} {x : Nat} (hd : decode cc pc0 = .ok (.aload 7, 2)) (e : pc = pc0) (k : WP g d y cc nL ret (pc0 + 2) (a0 :: a1 :: a2 :: a3 :: a4 :: a5 :: a6 :: some (.ref x) :: t) (.ref x :: st) h c n Q) : WP g d y cc nL ret pc (a0 :: a1 :: a2 :: a3 :: a4 :: a5 :: a6 :: some (.ref x) :: t) st h c n Q := by
  subst e
  exact WP.lift (fun C _ _ hl k => lv_aload C.1 C.2.1 hd (g_lv_at (i := 7) hl rfl) k) k
theorem wp_aloadN_7 {a0 a1 a2 a3 a4 a5 a6 : Option Value} {t : List (Option Value)} (hd : decode cc pc0 = .ok (.aload 7, 2)) (e : pc = pc0) (k : WP g d y cc nL ret (pc0 + 2) (a0 :: a1 :: a2 :: a3 :: a4 :: a5 :: a6 :: some .null :: t) (.null :: st) h c n Q) : WP g d y cc nL ret pc (a0 :: a1 :: a2 :: a3 :: a4 :: a5 :: a6 :: some .null :: t) st h c n Q := by
  subst e
  exact WP.lift (fun C _ _ hl k => lv_aloadN C.1 C.2.1 hd (g_lv_at (i := 7) hl rfl) k) k
theorem wp_iload_8 {a0 a1 a2 a3 a4 a5 a6 a7 : Option Value} {t : List (Option Value)} {x : Int32} (hd : decode cc pc0 = .ok (.iload 8, 2)) (e : pc = pc0) (k : WP g d y cc nL ret (pc0 + 2) (a0 :: a1 :: a2 :: a3 :: a4 :: a5 :: a6 :: a7 :: some (.int x) :: t) (.int x :: st) h c n Q) : WP g d y cc nL ret pc (a0 :: a1 :: a2 :: a3 :: a4 :: a5 :: a6 :: a7 :: some (.int x) :: t) st h c n Q := by
  subst e
  exact WP.lift (fun C _ _ hl k => lv_iload C.1 C.2.1 hd (g_lv_at (i := 8) hl rfl) k) k
theorem wp_lload_8 {a0 a1 a2 a3 a4 a5 a6 a7 : Option Value} {t : List (Option Value)} {x : Int64} (hd : decode cc pc0 = .ok (.lload 8, 2)) (e : pc = pc0) (k : WP g d y cc nL ret (pc0 + 2) (a0 :: a1 :: a2 :: a3 :: a4 :: a5 :: a6 :: a7 :: some (.long x) :: t) (.long x :: st) h c n Q) : WP g d y cc nL ret pc (a0 :: a1 :: a2 :: a3 :: a4 :: a5 :: a6 :: a7 :: some (.long x) :: t) st h c n Q := by
  subst e
  exact WP.lift (fun C _ _ hl k => lv_lload C.1 C.2.1 hd (g_lv_at (i := 8) hl rfl) k) k
theorem wp_aload_8 {a0 a1 a2 a3 a4 a5 a6 a7 : Option Value} {t : List (Option Value)} {x : Nat} (hd : decode cc pc0 = .ok (.aload 8, 2)) (e : pc = pc0) (k : WP g d y cc nL ret (pc0 + 2) (a0 :: a1 :: a2 :: a3 :: a4 :: a5 :: a6 :: a7 :: some (.ref x) :: t) (.ref x :: st) h c n Q) : WP g d y cc nL ret pc (a0 :: a1 :: a2 :: a3 :: a4 :: a5 :: a6 :: a7 :: some (.ref x) :: t) st h c n Q := by
  subst e
  exact WP.lift (fun C _ _ hl k => lv_aload C.1 C.2.1 hd (g_lv_at (i := 8) hl rfl) k) k
theorem wp_aloadN_8 {a0 a1 a2 a3 a4 a5 a6 a7 : Option Value} {t : List (Option Value)} (hd : decode cc pc0 = .ok (.aload 8, 2)) (e : pc = pc0) (k : WP g d y cc nL ret (pc0 + 2) (a0 :: a1 :: a2 :: a3 :: a4 :: a5 :: a6 :: a7 :: some .null :: t) (.null :: st) h c n Q) : WP g d y cc nL ret pc (a0 :: a1 :: a2 :: a3 :: a4 :: a5 :: a6 :: a7 :: some .null :: t) st h c n Q := by
  subst e
  exact WP.lift (fun C _ _ hl k => lv_aloadN C.1 C.2.1 hd (g_lv_at (i := 8) hl rfl) k) k
theorem wp_iload_9 {a0 a1 a2 a3 a4 a5 a6 a7 a8 : Option Value} {t : List (Option Value)} {x : Int32} (hd : decode cc pc0 = .ok (.iload 9, 2)) (e : pc = pc0) (k : WP g d y cc nL ret (pc0 + 2) (a0 :: a1 :: a2 :: a3 :: a4 :: a5 :: a6 :: a7 :: a8 :: some (.int x) :: t) (.int x :: st) h c n Q) : WP g d y cc nL ret pc (a0 :: a1 :: a2 :: a3 :: a4 :: a5 :: a6 :: a7 :: a8 :: some (.int x) :: t) st h c n Q := by
  subst e
  exact WP.lift (fun C _ _ hl k => lv_iload C.1 C.2.1 hd (g_lv_at (i := 9) hl rfl) k) k
theorem wp_lload_9 {a0 a1 a2 a3 a4 a5 a6 a7 a8 : Option Value} {t : List (Option Value)} {x : Int64} (hd : decode cc pc0 = .ok (.lload 9, 2)) (e : pc = pc0) (k : WP g d y cc nL ret (pc0 + 2) (a0 :: a1 :: a2 :: a3 :: a4 :: a5 :: a6 :: a7 :: a8 :: some (.long x) :: t) (.long x :: st) h c n Q) : WP g d y cc nL ret pc (a0 :: a1 :: a2 :: a3 :: a4 :: a5 :: a6 :: a7 :: a8 :: some (.long x) :: t) st h c n Q := by
  subst e
  exact WP.lift (fun C _ _ hl k => lv_lload C.1 C.2.1 hd (g_lv_at (i := 9) hl rfl) k) k
theorem wp_aload_9 {a0 a1 a2 a3 a4 a5 a6 a7 a8 : Option Value} {t : List (Option Value)} {x : Nat} (hd : decode cc pc0 = .ok (.aload 9, 2)) (e : pc = pc0) (k : WP g d y cc nL ret (pc0 + 2) (a0 :: a1 :: a2 :: a3 :: a4 :: a5 :: a6 :: a7 :: a8 :: some (.ref x) :: t) (.ref x :: st) h c n Q) : WP g d y cc nL ret pc (a0 :: a1 :: a2 :: a3 :: a4 :: a5 :: a6 :: a7 :: a8 :: some (.ref x) :: t) st h c n Q := by
  subst e
  exact WP.lift (fun C _ _ hl k => lv_aload C.1 C.2.1 hd (g_lv_at (i := 9) hl rfl) k) k
theorem wp_aloadN_9 {a0 a1 a2 a3 a4 a5 a6 a7 a8 : Option Value} {t : List (Option Value)} (hd : decode cc pc0 = .ok (.aload 9, 2)) (e : pc = pc0) (k : WP g d y cc nL ret (pc0 + 2) (a0 :: a1 :: a2 :: a3 :: a4 :: a5 :: a6 :: a7 :: a8 :: some .null :: t) (.null :: st) h c n Q) : WP g d y cc nL ret pc (a0 :: a1 :: a2 :: a3 :: a4 :: a5 :: a6 :: a7 :: a8 :: some .null :: t) st h c n Q := by
  subst e
  exact WP.lift (fun C _ _ hl k => lv_aloadN C.1 C.2.1 hd (g_lv_at (i := 9) hl rfl) k) k
theorem wp_iload_10 {a0 a1 a2 a3 a4 a5 a6 a7 a8 a9 : Option Value} {t : List (Option Value)} {x : Int32} (hd : decode cc pc0 = .ok (.iload 10, 2)) (e : pc = pc0) (k : WP g d y cc nL ret (pc0 + 2) (a0 :: a1 :: a2 :: a3 :: a4 :: a5 :: a6 :: a7 :: a8 :: a9 :: some (.int x) :: t) (.int x :: st) h c n Q) : WP g d y cc nL ret pc (a0 :: a1 :: a2 :: a3 :: a4 :: a5 :: a6 :: a7 :: a8 :: a9 :: some (.int x) :: t) st h c n Q := by
  subst e
  exact WP.lift (fun C _ _ hl k => lv_iload C.1 C.2.1 hd (g_lv_at (i := 10) hl rfl) k) k
theorem wp_lload_10 {a0 a1 a2 a3 a4 a5 a6 a7 a8 a9 : Option Value} {t : List (Option Value)} {x : Int64} (hd : decode cc pc0 = .ok (.lload 10, 2)) (e : pc = pc0) (k : WP g d y cc nL ret (pc0 + 2) (a0 :: a1 :: a2 :: a3 :: a4 :: a5 :: a6 :: a7 :: a8 :: a9 :: some (.long x) :: t) (.long x :: st) h c n Q) : WP g d y cc nL ret pc (a0 :: a1 :: a2 :: a3 :: a4 :: a5 :: a6 :: a7 :: a8 :: a9 :: some (.long x) :: t) st h c n Q := by
  subst e
  exact WP.lift (fun C _ _ hl k => lv_lload C.1 C.2.1 hd (g_lv_at (i := 10) hl rfl) k) k
theorem wp_aload_10 {a0 a1 a2 a3 a4 a5 a6 a7 a8 a9 : Option Value} {t : List (Option Value)} {x : Nat} (hd : decode cc pc0 = .ok (.aload 10, 2)) (e : pc = pc0) (k : WP g d y cc nL ret (pc0 + 2) (a0 :: a1 :: a2 :: a3 :: a4 :: a5 :: a6 :: a7 :: a8 :: a9 :: some (.ref x) :: t) (.ref x :: st) h c n Q) : WP g d y cc nL ret pc (a0 :: a1 :: a2 :: a3 :: a4 :: a5 :: a6 :: a7 :: a8 :: a9 :: some (.ref x) :: t) st h c n Q := by
  subst e
  exact WP.lift (fun C _ _ hl k => lv_aload C.1 C.2.1 hd (g_lv_at (i := 10) hl rfl) k) k
theorem wp_aloadN_10 {a0 a1 a2 a3 a4 a5 a6 a7 a8 a9 : Option Value} {t : List (Option Value)} (hd : decode cc pc0 = .ok (.aload 10, 2)) (e : pc = pc0) (k : WP g d y cc nL ret (pc0 + 2) (a0 :: a1 :: a2 :: a3 :: a4 :: a5 :: a6 :: a7 :: a8 :: a9 :: some .null :: t) (.null :: st) h c n Q) : WP g d y cc nL ret pc (a0 :: a1 :: a2 :: a3 :: a4 :: a5 :: a6 :: a7 :: a8 :: a9 :: some .null :: t) st h c n Q := by
  subst e
  exact WP.lift (fun C _ _ hl k => lv_aloadN C.1 C.2.1 hd (g_lv_at (i := 10) hl rfl) k) k
theorem wp_iload_11 {a0 a1 a2 a3 a4 a5 a6 a7 a8 a9 a10 : Option Value} {t : List (Option Value)} {x : Int32} (hd : decode cc pc0 = .ok (.iload 11, 2)) (e : pc = pc0) (k : WP g d y cc nL ret (pc0 + 2) (a0 :: a1 :: a2 :: a3 :: a4 :: a5 :: a6 :: a7 :: a8 :: a9 :: a10 :: some (.int x) :: t) (.int x :: st) h c n Q) : WP g d y cc nL ret pc (a0 :: a1 :: a2 :: a3 :: a4 :: a5 :: a6 :: a7 :: a8 :: a9 :: a10 :: some (.int x) :: t) st h c n Q := by
  subst e
  exact WP.lift (fun C _ _ hl k => lv_iload C.1 C.2.1 hd (g_lv_at (i := 11) hl rfl) k) k
theorem wp_lload_11 {a0 a1 a2 a3 a4 a5 a6 a7 a8 a9 a10 : Option Value} {t : List (Option Value)} {x : Int64} (hd : decode cc pc0 = .ok (.lload 11, 2)) (e : pc = pc0) (k : WP g d y cc nL ret (pc0 + 2) (a0 :: a1 :: a2 :: a3 :: a4 :: a5 :: a6 :: a7 :: a8 :: a9 :: a10 :: some (.long x) :: t) (.long x :: st) h c n Q) : WP g d y cc nL ret pc (a0 :: a1 :: a2 :: a3 :: a4 :: a5 :: a6 :: a7 :: a8 :: a9 :: a10 :: some (.long x) :: t) st h c n Q := by
  subst e
  exact WP.lift (fun C _ _ hl k => lv_lload C.1 C.2.1 hd (g_lv_at (i := 11) hl rfl) k) k
theorem wp_aload_11 {a0 a1 a2 a3 a4 a5 a6 a7 a8 a9 a10 : Option Value} {t : List (Option Value)} {x : Nat} (hd : decode cc pc0 = .ok (.aload 11, 2)) (e : pc = pc0) (k : WP g d y cc nL ret (pc0 + 2) (a0 :: a1 :: a2 :: a3 :: a4 :: a5 :: a6 :: a7 :: a8 :: a9 :: a10 :: some (.ref x) :: t) (.ref x :: st) h c n Q) : WP g d y cc nL ret pc (a0 :: a1 :: a2 :: a3 :: a4 :: a5 :: a6 :: a7 :: a8 :: a9 :: a10 :: some (.ref x) :: t) st h c n Q := by
  subst e
  exact WP.lift (fun C _ _ hl k => lv_aload C.1 C.2.1 hd (g_lv_at (i := 11) hl rfl) k) k
theorem wp_aloadN_11 {a0 a1 a2 a3 a4 a5 a6 a7 a8 a9 a10 : Option Value} {t : List (Option Value)} (hd : decode cc pc0 = .ok (.aload 11, 2)) (e : pc = pc0) (k : WP g d y cc nL ret (pc0 + 2) (a0 :: a1 :: a2 :: a3 :: a4 :: a5 :: a6 :: a7 :: a8 :: a9 :: a10 :: some .null :: t) (.null :: st) h c n Q) : WP g d y cc nL ret pc (a0 :: a1 :: a2 :: a3 :: a4 :: a5 :: a6 :: a7 :: a8 :: a9 :: a10 :: some .null :: t) st h c n Q := by
  subst e
  exact WP.lift (fun C _ _ hl k => lv_aloadN C.1 C.2.1 hd (g_lv_at (i := 11) hl rfl) k) k
theorem wp_iload_12 {a0 a1 a2 a3 a4 a5 a6 a7 a8 a9 a10 a11 : Option Value} {t : List (Option Value)} {x : Int32} (hd : decode cc pc0 = .ok (.iload 12, 2)) (e : pc = pc0) (k : WP g d y cc nL ret (pc0 + 2) (a0 :: a1 :: a2 :: a3 :: a4 :: a5 :: a6 :: a7 :: a8 :: a9 :: a10 :: a11 :: some (.int x) :: t) (.int x :: st) h c n Q) : WP g d y cc nL ret pc (a0 :: a1 :: a2 :: a3 :: a4 :: a5 :: a6 :: a7 :: a8 :: a9 :: a10 :: a11 :: some (.int x) :: t) st h c n Q := by
  subst e
  exact WP.lift (fun C _ _ hl k => lv_iload C.1 C.2.1 hd (g_lv_at (i := 12) hl rfl) k) k
theorem wp_lload_12 {a0 a1 a2 a3 a4 a5 a6 a7 a8 a9 a10 a11 : Option Value} {t : List (Option Value)} {x : Int64} (hd : decode cc pc0 = .ok (.lload 12, 2)) (e : pc = pc0) (k : WP g d y cc nL ret (pc0 + 2) (a0 :: a1 :: a2 :: a3 :: a4 :: a5 :: a6 :: a7 :: a8 :: a9 :: a10 :: a11 :: some (.long x) :: t) (.long x :: st) h c n Q) : WP g d y cc nL ret pc (a0 :: a1 :: a2 :: a3 :: a4 :: a5 :: a6 :: a7 :: a8 :: a9 :: a10 :: a11 :: some (.long x) :: t) st h c n Q := by
  subst e
  exact WP.lift (fun C _ _ hl k => lv_lload C.1 C.2.1 hd (g_lv_at (i := 12) hl rfl) k) k
theorem wp_aload_12 {a0 a1 a2 a3 a4 a5 a6 a7 a8 a9 a10 a11 : Option Value} {t : List (Option Value)} {x : Nat} (hd : decode cc pc0 = .ok (.aload 12, 2)) (e : pc = pc0) (k : WP g d y cc nL ret (pc0 + 2) (a0 :: a1 :: a2 :: a3 :: a4 :: a5 :: a6 :: a7 :: a8 :: a9 :: a10 :: a11 :: some (.ref x) :: t) (.ref x :: st) h c n Q) : WP g d y cc nL ret pc (a0 :: a1 :: a2 :: a3 :: a4 :: a5 :: a6 :: a7 :: a8 :: a9 :: a10 :: a11 :: some (.ref x) :: t) st h c n Q := by
  subst e
  exact WP.lift (fun C _ _ hl k => lv_aload C.1 C.2.1 hd (g_lv_at (i := 12) hl rfl) k) k
theorem wp_aloadN_12 {a0 a1 a2 a3 a4 a5 a6 a7 a8 a9 a10 a11 : Option Value} {t : List (Option Value)} (hd : decode cc pc0 = .ok (.aload 12, 2)) (e : pc = pc0) (k : WP g d y cc nL ret (pc0 + 2) (a0 :: a1 :: a2 :: a3 :: a4 :: a5 :: a6 :: a7 :: a8 :: a9 :: a10 :: a11 :: some .null :: t) (.null :: st) h c n Q) : WP g d y cc nL ret pc (a0 :: a1 :: a2 :: a3 :: a4 :: a5 :: a6 :: a7 :: a8 :: a9 :: a10 :: a11 :: some .null :: t) st h c n Q := by
  subst e
  exact WP.lift (fun C _ _ hl k => lv_aloadN C.1 C.2.1 hd (g_lv_at (i := 12) hl rfl) k) k
theorem wp_iload_13 {a0 a1 a2 a3 a4 a5 a6 a7 a8 a9 a10 a11 a12 : Option Value} {t : List (Option Value)} {x : Int32} (hd : decode cc pc0 = .ok (.iload 13, 2)) (e : pc = pc0) (k : WP g d y cc nL ret (pc0 + 2) (a0 :: a1 :: a2 :: a3 :: a4 :: a5 :: a6 :: a7 :: a8 :: a9 :: a10 :: a11 :: a12 :: some (.int x) :: t) (.int x :: st) h c n Q) : WP g d y cc nL ret pc (a0 :: a1 :: a2 :: a3 :: a4 :: a5 :: a6 :: a7 :: a8 :: a9 :: a10 :: a11 :: a12 :: some (.int x) :: t) st h c n Q := by
  subst e
  exact WP.lift (fun C _ _ hl k => lv_iload C.1 C.2.1 hd (g_lv_at (i := 13) hl rfl) k) k
theorem wp_lload_13 {a0 a1 a2 a3 a4 a5 a6 a7 a8 a9 a10 a11 a12 : Option Value} {t : List (Option Value)} {x : Int64} (hd : decode cc pc0 = .ok (.lload 13, 2)) (e : pc = pc0) (k : WP g d y cc nL ret (pc0 + 2) (a0 :: a1 :: a2 :: a3 :: a4 :: a5 :: a6 :: a7 :: a8 :: a9 :: a10 :: a11 :: a12 :: some (.long x) :: t) (.long x :: st) h c n Q) : WP g d y cc nL ret pc (a0 :: a1 :: a2 :: a3 :: a4 :: a5 :: a6 :: a7 :: a8 :: a9 :: a10 :: a11 :: a12 :: some (.long x) :: t) st h c n Q := by
  subst e
  exact WP.lift (fun C _ _ hl k => lv_lload C.1 C.2.1 hd (g_lv_at (i := 13) hl rfl) k) k
theorem wp_aload_13 {a0 a1 a2 a3 a4 a5 a6 a7 a8 a9 a10 a11 a12 : Option Value} {t : List (Option Value)} {x : Nat} (hd : decode cc pc0 = .ok (.aload 13, 2)) (e : pc = pc0) (k : WP g d y cc nL ret (pc0 + 2) (a0 :: a1 :: a2 :: a3 :: a4 :: a5 :: a6 :: a7 :: a8 :: a9 :: a10 :: a11 :: a12 :: some (.ref x) :: t) (.ref x :: st) h c n Q) : WP g d y cc nL ret pc (a0 :: a1 :: a2 :: a3 :: a4 :: a5 :: a6 :: a7 :: a8 :: a9 :: a10 :: a11 :: a12 :: some (.ref x) :: t) st h c n Q := by
  subst e
  exact WP.lift (fun C _ _ hl k => lv_aload C.1 C.2.1 hd (g_lv_at (i := 13) hl rfl) k) k
theorem wp_aloadN_13 {a0 a1 a2 a3 a4 a5 a6 a7 a8 a9 a10 a11 a12 : Option Value} {t : List (Option Value)} (hd : decode cc pc0 = .ok (.aload 13, 2)) (e : pc = pc0) (k : WP g d y cc nL ret (pc0 + 2) (a0 :: a1 :: a2 :: a3 :: a4 :: a5 :: a6 :: a7 :: a8 :: a9 :: a10 :: a11 :: a12 :: some .null :: t) (.null :: st) h c n Q) : WP g d y cc nL ret pc (a0 :: a1 :: a2 :: a3 :: a4 :: a5 :: a6 :: a7 :: a8 :: a9 :: a10 :: a11 :: a12 :: some .null :: t) st h c n Q := by
  subst e
  exact WP.lift (fun C _ _ hl k => lv_aloadN C.1 C.2.1 hd (g_lv_at (i := 13) hl rfl) k) k
theorem wp_iload_14 {a0 a1 a2 a3 a4 a5 a6 a7 a8 a9 a10 a11 a12 a13 : Option Value} {t : List (Option Value)} {x : Int32} (hd : decode cc pc0 = .ok (.iload 14, 2)) (e : pc = pc0) (k : WP g d y cc nL ret (pc0 + 2) (a0 :: a1 :: a2 :: a3 :: a4 :: a5 :: a6 :: a7 :: a8 :: a9 :: a10 :: a11 :: a12 :: a13 :: some (.int x) :: t) (.int x :: st) h c n Q) : WP g d y cc nL ret pc (a0 :: a1 :: a2 :: a3 :: a4 :: a5 :: a6 :: a7 :: a8 :: a9 :: a10 :: a11 :: a12 :: a13 :: some (.int x) :: t) st h c n Q := by
  subst e
  exact WP.lift (fun C _ _ hl k => lv_iload C.1 C.2.1 hd (g_lv_at (i := 14) hl rfl) k) k
theorem wp_lload_14 {a0 a1 a2 a3 a4 a5 a6 a7 a8 a9 a10 a11 a12 a13 : Option Value} {t : List (Option Value)} {x : Int64} (hd : decode cc pc0 = .ok (.lload 14, 2)) (e : pc = pc0) (k : WP g d y cc nL ret (pc0 + 2) (a0 :: a1 :: a2 :: a3 :: a4 :: a5 :: a6 :: a7 :: a8 :: a9 :: a10 :: a11 :: a12 :: a13 :: some (.long x) :: t) (.long x :: st) h c n Q) : WP g d y cc nL ret pc (a0 :: a1 :: a2 :: a3 :: a4 :: a5 :: a6 :: a7 :: a8 :: a9 :: a10 :: a11 :: a12 :: a13 :: some (.long x) :: t) st h c n Q := by
  subst e
  exact WP.lift (fun C _ _ hl k => lv_lload C.1 C.2.1 hd (g_lv_at (i := 14) hl rfl) k) k
theorem wp_aload_14 {a0 a1 a2 a3 a4 a5 a6 a7 a8 a9 a10 a11 a12 a13 : Option Value} {t : List (Option Value)} {x : Nat} (hd : decode cc pc0 = .ok (.aload 14, 2)) (e : pc = pc0) (k : WP g d y cc nL ret (pc0 + 2) (a0 :: a1 :: a2 :: a3 :: a4 :: a5 :: a6 :: a7 :: a8 :: a9 :: a10 :: a11 :: a12 :: a13 :: some (.ref x) :: t) (.ref x :: st) h c n Q) : WP g d y cc nL ret pc (a0 :: a1 :: a2 :: a3 :: a4 :: a5 :: a6 :: a7 :: a8 :: a9 :: a10 :: a11 :: a12 :: a13 :: some (.ref x) :: t) st h c n Q := by
  subst e
  exact WP.lift (fun C _ _ hl k => lv_aload C.1 C.2.1 hd (g_lv_at (i := 14) hl rfl) k) k
theorem wp_aloadN_14 {a0 a1 a2 a3 a4 a5 a6 a7 a8 a9 a10 a11 a12 a13 : Option Value} {t : List (Option Value)} (hd : decode cc pc0 = .ok (.aload 14, 2)) (e : pc = pc0) (k : WP g d y cc nL ret (pc0 + 2) (a0 :: a1 :: a2 :: a3 :: a4 :: a5 :: a6 :: a7 :: a8 :: a9 :: a10 :: a11 :: a12 :: a13 :: some .null :: t) (.null :: st) h c n Q) : WP g d y cc nL ret pc (a0 :: a1 :: a2 :: a3 :: a4 :: a5 :: a6 :: a7 :: a8 :: a9 :: a10 :: a11 :: a12 :: a13 :: some .null :: t) st h c n Q := by
  subst e
  exact WP.lift (fun C _ _ hl k => lv_aloadN C.1 C.2.1 hd (g_lv_at (i := 14) hl rfl) k) k
theorem wp_iload_15 {a0 a1 a2 a3 a4 a5 a6 a7 a8 a9 a10 a11 a12 a13 a14 : Option Value} {t : List (Option Value)} {x : Int32} (hd : decode cc pc0 = .ok (.iload 15, 2)) (e : pc = pc0) (k : WP g d y cc nL ret (pc0 + 2) (a0 :: a1 :: a2 :: a3 :: a4 :: a5 :: a6 :: a7 :: a8 :: a9 :: a10 :: a11 :: a12 :: a13 :: a14 :: some (.int x) :: t) (.int x :: st) h c n Q) : WP g d y cc nL ret pc (a0 :: a1 :: a2 :: a3 :: a4 :: a5 :: a6 :: a7 :: a8 :: a9 :: a10 :: a11 :: a12 :: a13 :: a14 :: some (.int x) :: t) st h c n Q := by
  subst e
  exact WP.lift (fun C _ _ hl k => lv_iload C.1 C.2.1 hd (g_lv_at (i := 15) hl rfl) k) k
theorem wp_lload_15 {a0 a1 a2 a3 a4 a5 a6 a7 a8 a9 a10 a11 a12 a13 a14 : Option Value} {t : List (Option Value)} {x : Int64} (hd : decode cc pc0 = .ok (.lload 15, 2)) (e : pc = pc0) (k : WP g d y cc nL ret (pc0 + 2) (a0 :: a1 :: a2 :: a3 :: a4 :: a5 :: a6 :: a7 :: a8 :: a9 :: a10 :: a11 :: a12 :: a13 :: a14 :: some (.long x) :: t) (.long x :: st) h c n Q) : WP g d y cc nL ret pc (a0 :: a1 :: a2 :: a3 :: a4 :: a5 :: a6 :: a7 :: a8 :: a9 :: a10 :: a11 :: a12 :: a13 :: a14 :: some (.long x) :: t) st h c n Q := by
  subst e
  exact WP.lift (fun C _ _ hl k => lv_lload C.1 C.2.1 hd (g_lv_at (i := 15) hl rfl) k) k
theorem wp_aload_15 {a0 a1 a2 a3 a4 a5 a6 a7 a8 a9 a10 a11 a12 a13 a14 : Option Value} {t : List (Option Value)} {x : Nat} (hd : decode cc pc0 = .ok (.aload 15, 2)) (e : pc = pc0) (k : WP g d y cc nL ret (pc0 + 2) (a0 :: a1 :: a2 :: a3 :: a4 :: a5 :: a6 :: a7 :: a8 :: a9 :: a10 :: a11 :: a12 :: a13 :: a14 :: some (.ref x) :: t) (.ref x :: st) h c n Q) : WP g d y cc nL ret pc (a0 :: a1 :: a2 :: a3 :: a4 :: a5 :: a6 :: a7 :: a8 :: a9 :: a10 :: a11 :: a12 :: a13 :: a14 :: some (.ref x) :: t) st h c n Q := by
  subst e
  exact WP.lift (fun C _ _ hl k => lv_aload C.1 C.2.1 hd (g_lv_at (i := 15) hl rfl) k) k
theorem wp_aloadN_15 {a0 a1 a2 a3 a4 a5 a6 a7 a8 a9 a10 a11 a12 a13 a14 : Option Value} {t : List (Option Value)} (hd : decode cc pc0 = .ok (.aload 15, 2)) (e : pc = pc0) (k : WP g d y cc nL ret (pc0 + 2) (a0 :: a1 :: a2 :: a3 :: a4 :: a5 :: a6 :: a7 :: a8 :: a9 :: a10 :: a11 :: a12 :: a13 :: a14 :: some .null :: t) (.null :: st) h c n Q) : WP g d y cc nL ret pc (a0 :: a1 :: a2 :: a3 :: a4 :: a5 :: a6 :: a7 :: a8 :: a9 :: a10 :: a11 :: a12 :: a13 :: a14 :: some .null :: t) st h c n Q := by
  subst e
  exact WP.lift (fun C _ _ hl k => lv_aloadN C.1 C.2.1 hd (g_lv_at (i := 15) hl rfl) k) k
def oc1 (a : Option Value) : Bool := match a with
  | some w => decide (w.category = 1)
  | none => true
def pv1 (ls : List (Option Value)) (i : Nat) : Prop := ∀ (j : Nat) (w : Value), j + 1 = i → ls[j]? = some (some w) → w.category = 1
theorem pv1_0 : pv1 ls 0 := fun j w h => by omega
theorem pv1_s {i : Nat} {a : Option Value} (h : ls[i]? = some a) (ha : oc1 a = true) : pv1 ls (i + 1) := by
  intro j w hj hw
  have : j = i := by omega
  subst this
  rw [h] at hw
  cases hw
  exact of_decide_eq_true ha
theorem g_st1 {i : Nat} {v : Value} (hp : pv1 ls i) (q : Nat × Value) (hq : q ∈ g_lv g 0 (ls.set i (some v))) : q ∈ (i, g_cv g v) :: (g_lv g 0 ls).filter (fun q => !(q.1 == i) && !(q.1 + 1 == i && q.2.category == 2)) := by
  obtain ⟨j, w, h1, rfl⟩ := (g_lv_mem g _ 0 q).mp hq
  rw [Nat.zero_add]
  by_cases hji : j = i
  · subst hji
    have hlt : j < (ls.set j (some v)).length := (List.getElem?_eq_some_iff.mp h1).1
    rw [List.length_set] at hlt
    rw [List.getElem?_set_self hlt] at h1
    cases h1
    exact List.mem_cons_self
  · rw [List.getElem?_set_ne (Ne.symm hji)] at h1
    refine List.mem_cons_of_mem _ (List.mem_filter.mpr ⟨(g_lv_mem g ls 0 _).mpr ⟨j, w, h1, by rw [Nat.zero_add]⟩, ?_⟩)
    have h2 : j + 1 = i → w.category = 1 := fun e => hp j w e h1
    by_cases h3 : j + 1 = i
    · simp [hji, h3, g_cv_cat, h2 h3]
    · simp [hji, h3]
theorem g_st2 {i : Nat} {v : Value} (hp : pv1 ls i) (q : Nat × Value) (hq : q ∈ g_lv g 0 ((ls.set i (some v)).set (i + 1) none)) : q ∈ (i, g_cv g v) :: (g_lv g 0 ls).filter (fun q => !(q.1 == i) && (!(q.1 == i + 1) && !(q.1 + 1 == i && q.2.category == 2))) := by
  obtain ⟨j, w, h1, rfl⟩ := (g_lv_mem g _ 0 q).mp hq
  rw [Nat.zero_add]
  have hj1 : j ≠ i + 1 := by
    intro e
    subst e
    have hlt := (List.getElem?_eq_some_iff.mp h1).1
    rw [List.length_set] at hlt
    rw [List.getElem?_set_self hlt] at h1
    cases h1
  rw [List.getElem?_set_ne (Ne.symm hj1)] at h1
  by_cases hji : j = i
  · subst hji
    have hlt : j < (ls.set j (some v)).length := (List.getElem?_eq_some_iff.mp h1).1
    rw [List.length_set] at hlt
    rw [List.getElem?_set_self hlt] at h1
    cases h1
    exact List.mem_cons_self
  · rw [List.getElem?_set_ne (Ne.symm hji)] at h1
    refine List.mem_cons_of_mem _ (List.mem_filter.mpr ⟨(g_lv_mem g ls 0 _).mpr ⟨j, w, h1, by rw [Nat.zero_add]⟩, ?_⟩)
    have h2 : j + 1 = i → w.category = 1 := fun e => hp j w e h1
    by_cases h3 : j + 1 = i
    · simp [hji, hj1, h3, g_cv_cat, h2 h3]
    · simp [hji, hj1, h3]
theorem lv_has.less {arr : Array Slot} {k : Nat} {l l' : List (Nat × Value)} (h : lv_has arr k l) (hs : ∀ q ∈ l', q ∈ l) : lv_has arr k l' := ⟨h.1, h.2.1, fun q hq => h.2.2 q (hs q hq)⟩
theorem wp_istore_0 {b : Option Value} {t : List (Option Value)} {x : Int32} (hd : decode cc pc0 = .ok (.istore_n 0, 1)) (e : pc = pc0) (hL : 0 < nL) (k : WP g d y cc nL ret (pc0 + 1) (some (.int x) :: t) st h c n Q) : WP g d y cc nL ret pc (b :: t) (.int x :: st) h c n Q := by
  subst e
  intro p l e R s m args below meth cd H locs cells slots arr C hS hP hl hc hn
  exact lv_istore_n C.1 C.2.1 hd (i := 0) rfl hl hL rfl (fun arr1 hl1 => k p l e R s m args below meth cd H locs cells slots arr1 C hS hP (hl1.less (g_st1 (g := g) (ls := (b :: t)) (i := 0) (v := (.int x)) pv1_0)) hc hn)
theorem wp_lstore_0 {b b2 : Option Value} {t : List (Option Value)} {x : Int64} (hd : decode cc pc0 = .ok (.lstore_n 0, 1)) (e : pc = pc0) (hL : 0 + 1 < nL) (k : WP g d y cc nL ret (pc0 + 1) (some (.long x) :: none :: t) st h c n Q) : WP g d y cc nL ret pc (b :: b2 :: t) (.long x :: st) h c n Q := by
  subst e
  intro p l e R s m args below meth cd H locs cells slots arr C hS hP hl hc hn
  exact lv_lstore_n C.1 C.2.1 hd (i := 0) rfl hl hL rfl (fun arr1 hl1 => k p l e R s m args below meth cd H locs cells slots arr1 C hS hP (hl1.less (g_st2 (g := g) (ls := (b :: b2 :: t)) (i := 0) (v := (.long x)) pv1_0)) hc hn)
theorem wp_astore_0 {b : Option Value} {t : List (Option Value)} {x : Nat} (hd : decode cc pc0 = .ok (.astore_n 0, 1)) (e : pc = pc0) (hL : 0 < nL) (k : WP g d y cc nL ret (pc0 + 1) (some (.ref x) :: t) st h c n Q) : WP g d y cc nL ret pc (b :: t) (.ref x :: st) h c n Q := by
  subst e
  intro p l e R s m args below meth cd H locs cells slots arr C hS hP hl hc hn
  exact lv_astore_n C.1 C.2.1 hd (i := 0) rfl hl hL rfl (fun arr1 hl1 => k p l e R s m args below meth cd H locs cells slots arr1 C hS hP (hl1.less (g_st1 (g := g) (ls := (b :: t)) (i := 0) (v := (.ref x)) pv1_0)) hc hn)
theorem wp_astoreN_0 {b : Option Value} {t : List (Option Value)} (hd : decode cc pc0 = .ok (.astore_n 0, 1)) (e : pc = pc0) (hL : 0 < nL) (k : WP g d y cc nL ret (pc0 + 1) (some .null :: t) st h c n Q) : WP g d y cc nL ret pc (b :: t) (.null :: st) h c n Q := by
  subst e
  intro p l e R s m args below meth cd H locs cells slots arr C hS hP hl hc hn
  exact lv_astore_nN C.1 C.2.1 hd (i := 0) rfl hl hL rfl (fun arr1 hl1 => k p l e R s m args below meth cd H locs cells slots arr1 C hS hP (hl1.less (g_st1 (g := g) (ls := (b :: t)) (i := 0) (v := .null) pv1_0)) hc hn)
theorem wp_istore_1 {a0 : Option Value} {b : Option Value} {t : List (Option Value)} {x : Int32} (hd : decode cc pc0 = .ok (.istore_n 1, 1)) (e : pc = pc0) (hL : 1 < nL) (hc1 : oc1 a0 = true) (k : WP g d y cc nL ret (pc0 + 1) (a0 :: some (.int x) :: t) st h c n Q) : WP g d y cc nL ret pc (a0 :: b :: t) (.int x :: st) h c n Q := by
  subst e
  intro p l e R s m args below meth cd H locs cells slots arr C hS hP hl hc hn
  exact lv_istore_n C.1 C.2.1 hd (i := 1) rfl hl hL rfl (fun arr1 hl1 => k p l e R s m args below meth cd H locs cells slots arr1 C hS hP (hl1.less (g_st1 (g := g) (ls := (a0 :: b :: t)) (i := 1) (v := (.int x)) (pv1_s (i := 0) (a := a0) rfl hc1))) hc hn)
theorem wp_lstore_1 {a0 : Option Value} {b b2 : Option Value} {t : List (Option Value)} {x : Int64} (hd : decode cc pc0 = .ok (.lstore_n 1, 1)) (e : pc = pc0) (hL : 1 + 1 < nL) (hc1 : oc1 a0 = true) (k : WP g d y cc nL ret (pc0 + 1) (a0 :: some (.long x) :: none :: t) st h c n Q) : WP g d y cc nL ret pc (a0 :: b :: b2 :: t) (.long x :: st) h c n Q := by
  subst e
  intro p l e R s m args below meth cd H locs cells slots arr C hS hP hl hc hn
  exact lv_lstore_n C.1 C.2.1 hd (i := 1) rfl hl hL rfl (fun arr1 hl1 => k p l e R s m args below meth cd H locs cells slots arr1 C hS hP (hl1.less (g_st2 (g := g) (ls := (a0 :: b :: b2 :: t)) (i := 1) (v := (.long x)) (pv1_s (i := 0) (a := a0) rfl hc1))) hc hn)
theorem wp_astore_1 {a0 : Option Value} {b : Option Value} {t : List (Option Value)} {x : Nat} (hd : decode cc pc0 = .ok (.astore_n 1, 1)) (e : pc = pc0) (hL : 1 < nL) (hc1 : oc1 a0 = true) (k : WP g d y cc nL ret (pc0 + 1) (a0 :: some (.ref x) :: t) st h c n Q) : WP g d y cc nL ret pc (a0 :: b :: t) (.ref x :: st) h c n Q := by
  subst e
  intro p l e R s m args below meth cd H locs cells slots arr C hS hP hl hc hn
  exact lv_astore_n C.1 C.2.1 hd (i := 1) rfl hl hL rfl (fun arr1 hl1 => k p l e R s m args below meth cd H locs cells slots arr1 C hS hP (hl1.less (g_st1 (g := g) (ls := (a0 :: b :: t)) (i := 1) (v := (.ref x)) (pv1_s (i := 0) (a := a0) rfl hc1))) hc hn)
theorem wp_astoreN_1 {a0 : Option Value} {b : Option Value} {t : List (Option Value)} (hd : decode cc pc0 = .ok (.astore_n 1, 1)) (e : pc = pc0) (hL : 1 < nL) (hc1 : oc1 a0 = true) (k : WP g d y cc nL ret (pc0 + 1) (a0 :: some .null :: t) st h c n Q) : WP g d y cc nL ret pc (a0 :: b :: t) (.null :: st) h c n Q := by
  subst e
  intro p l e R s m args below meth cd H locs cells slots arr C hS hP hl hc hn
  exact lv_astore_nN C.1 C.2.1 hd (i := 1) rfl hl hL rfl (fun arr1 hl1 => k p l e R s m args below meth cd H locs cells slots arr1 C hS hP (hl1.less (g_st1 (g := g) (ls := (a0 :: b :: t)) (i := 1) (v := .null) (pv1_s (i := 0) (a := a0) rfl hc1))) hc hn)
theorem wp_istore_2 {a0 a1 : Option Value} {b : Option Value} {t : List (Option Value)} {x : Int32} (hd : decode cc pc0 = .ok (.istore_n 2, 1)) (e : pc = pc0) (hL : 2 < nL) (hc1 : oc1 a1 = true) (k : WP g d y cc nL ret (pc0 + 1) (a0 :: a1 :: some (.int x) :: t) st h c n Q) : WP g d y cc nL ret pc (a0 :: a1 :: b :: t) (.int x :: st) h c n Q := by
  subst e
  intro p l e R s m args below meth cd H locs cells slots arr C hS hP hl hc hn
  exact lv_istore_n C.1 C.2.1 hd (i := 2) rfl hl hL rfl (fun arr1 hl1 => k p l e R s m args below meth cd H locs cells slots arr1 C hS hP (hl1.less (g_st1 (g := g) (ls := (a0 :: a1 :: b :: t)) (i := 2) (v := (.int x)) (pv1_s (i := 1) (a := a1) rfl hc1))) hc hn)
theorem wp_lstore_2 {a0 a1 : Option Value} {b b2 : Option Value} {t : List (Option Value)} {x : Int64} (hd : decode cc pc0 = .ok (.lstore_n 2, 1)) (e : pc = pc0) (hL : 2 + 1 < nL) (hc1 : oc1 a1 = true) (k : WP g d y cc nL ret (pc0 + 1) (a0 :: a1 :: some (.long x) :: none :: t) st h c n Q) : WP g d y cc nL ret pc (a0 :: a1 :: b :: b2 :: t) (.long x :: st) h c n Q := by
  subst e
  intro p l e R s m args below meth cd H locs cells slots arr C hS hP hl hc hn
  exact lv_lstore_n C.1 C.2.1 hd (i := 2) rfl hl hL rfl (fun arr1 hl1 => k p l e R s m args below meth cd H locs cells slots arr1 C hS hP (hl1.less (g_st2 (g := g) (ls := (a0 :: a1 :: b :: b2 :: t)) (i := 2) (v := (.long x)) (pv1_s (i := 1) (a := a1) rfl hc1))) hc hn)
theorem wp_astore_2 {a0 a1 : Option Value} {b : Option Value} {t : List (Option Value)} {x : Nat} (hd : decode cc pc0 = .ok (.astore_n 2, 1)) (e : pc = pc0) (hL : 2 < nL) (hc1 : oc1 a1 = true) (k : WP g d y cc nL ret (pc0 + 1) (a0 :: a1 :: some (.ref x) :: t) st h c n Q) : WP g d y cc nL ret pc (a0 :: a1 :: b :: t) (.ref x :: st) h c n Q := by
  subst e
  intro p l e R s m args below meth cd H locs cells slots arr C hS hP hl hc hn
  exact lv_astore_n C.1 C.2.1 hd (i := 2) rfl hl hL rfl (fun arr1 hl1 => k p l e R s m args below meth cd H locs cells slots arr1 C hS hP (hl1.less (g_st1 (g := g) (ls := (a0 :: a1 :: b :: t)) (i := 2) (v := (.ref x)) (pv1_s (i := 1) (a := a1) rfl hc1))) hc hn)
theorem wp_astoreN_2 {a0 a1 : Option Value} {b : Option Value} {t : List (Option Value)} (hd : decode cc pc0 = .ok (.astore_n 2, 1)) (e : pc = pc0) (hL : 2 < nL) (hc1 : oc1 a1 = true) (k : WP g d y cc nL ret (pc0 + 1) (a0 :: a1 :: some .null :: t) st h c n Q) : WP g d y cc nL ret pc (a0 :: a1 :: b :: t) (.null :: st) h c n Q := by
  subst e
  intro p l e R s m args below meth cd H locs cells slots arr C hS hP hl hc hn
  exact lv_astore_nN C.1 C.2.1 hd (i := 2) rfl hl hL rfl (fun arr1 hl1 => k p l e R s m args below meth cd H locs cells slots arr1 C hS hP (hl1.less (g_st1 (g := g) (ls := (a0 :: a1 :: b :: t)) (i := 2) (v := .null) (pv1_s (i := 1) (a := a1) rfl hc1))) hc hn)
theorem wp_istore_3 {a0 a1 a2 : Option Value} {b : Option Value} {t : List (Option Value)} {x : Int32} (hd : decode cc pc0 = .ok (.istore_n 3, 1)) (e : pc = pc0) (hL : 3 < nL) (hc1 : oc1 a2 = true) (k : WP g d y cc nL ret (pc0 + 1) (a0 :: a1 :: a2 :: some (.int x) :: t) st h c n Q) : WP g d y cc nL ret pc (a0 :: a1 :: a2 :: b :: t) (.int x :: st) h c n Q := by
  subst e
  intro p l e R s m args below meth cd H locs cells slots arr C hS hP hl hc hn
  exact lv_istore_n C.1 C.2.1 hd (i := 3) rfl hl hL rfl (fun arr1 hl1 => k p l e R s m args below meth cd H locs cells slots arr1 C hS hP (hl1.less (g_st1 (g := g) (ls := (a0 :: a1 :: a2 :: b :: t)) (i := 3) (v := (.int x)) (pv1_s (i := 2) (a := a2) rfl hc1))) hc hn)
theorem wp_lstore_3 {a0 a1 a2 : Option Value} {b b2 : Option Value} {t : List (Option Value)} {x : Int64} (hd : decode cc pc0 = .ok (.lstore_n 3, 1)) (e : pc = pc0) (hL : 3 + 1 < nL) (hc1 : oc1 a2 = true) (k : WP g d y cc nL ret (pc0 + 1) (a0 :: a1 :: a2 :: some (.long x) :: none :: t) st h c n Q) : WP g d y cc nL ret pc (a0 :: a1 :: a2 :: b :: b2 :: t) (.long x :: st) h c n Q := by
  subst e
  intro p l e R s m args below meth cd H locs cells slots arr C hS hP hl hc hn
  exact lv_lstore_n C.1 C.2.1 hd (i := 3) rfl hl hL rfl (fun arr1 hl1 => k p l e R s m args below meth cd H locs cells slots arr1 C hS hP (hl1.less (g_st2 (g := g) (ls := (a0 :: a1 :: a2 :: b :: b2 :: t)) (i := 3) (v := (.long x)) (pv1_s (i := 2) (a := a2) rfl hc1))) hc hn)
theorem wp_astore_3 {a0 a1 a2 : Option Value} {b : Option Value} {t : List (Option Value)} {x : Nat} (hd : decode cc pc0 = .ok (.astore_n 3, 1)) (e : pc = pc0) (hL : 3 < nL) (hc1 : oc1 a2 = true) (k : WP g d y cc nL ret (pc0 + 1) (a0 :: a1 :: a2 :: some (.ref x) :: t) st h c n Q) : WP g d y cc nL ret pc (a0 :: a1 :: a2 :: b :: t) (.ref x :: st) h c n Q := by
  subst e
  intro p l e R s m args below meth cd H locs cells slots arr C hS hP hl hc hn
  exact lv_astore_n C.1 C.2.1 hd (i := 3) rfl hl hL rfl (fun arr1 hl1 => k p l e R s m args below meth cd H locs cells slots arr1 C hS hP (hl1.less (g_st1 (g := g) (ls := (a0 :: a1 :: a2 :: b :: t)) (i := 3) (v := (.ref x)) (pv1_s (i := 2) (a := a2) rfl hc1))) hc hn)
theorem wp_astoreN_3 {a0 a1 a2 : Option Value} {b : Option Value} {t : List (Option Value)} (hd : decode cc pc0 = .ok (.astore_n 3, 1)) (e : pc = pc0) (hL : 3 < nL) (hc1 : oc1 a2 = true) (k : WP g d y cc nL ret (pc0 + 1) (a0 :: a1 :: a2 :: some .null :: t) st h c n Q) : WP g d y cc nL ret pc (a0 :: a1 :: a2 :: b :: t) (.null :: st) h c n Q := by
  subst e
  intro p l e R s m args below meth cd H locs cells slots arr C hS hP hl hc hn
  exact lv_astore_nN C.1 C.2.1 hd (i := 3) rfl hl hL rfl (fun arr1 hl1 => k p l e R s m args below meth cd H locs cells slots arr1 C hS hP (hl1.less (g_st1 (g := g) (ls := (a0 :: a1 :: a2 :: b :: t)) (i := 3) (v := .null) (pv1_s (i := 2) (a := a2) rfl hc1))) hc hn)
theorem wp_istore_4 {a0 a1 a2 a3 : Option Value} {b : Option Value} {t : List (Option Value)} {x : Int32} (hd : decode cc pc0 = .ok (.istore 4, 2)) (e : pc = pc0) (hL : 4 < nL) (hc1 : oc1 a3 = true) (k : WP g d y cc nL ret (pc0 + 2) (a0 :: a1 :: a2 :: a3 :: some (.int x) :: t) st h c n Q) : WP g d y cc nL ret pc (a0 :: a1 :: a2 :: a3 :: b :: t) (.int x :: st) h c n Q := by
  subst e
  intro p l e R s m args below meth cd H locs cells slots arr C hS hP hl hc hn
  exact lv_istore C.1 C.2.1 hd hl hL rfl (fun arr1 hl1 => k p l e R s m args below meth cd H locs cells slots arr1 C hS hP (hl1.less (g_st1 (g := g) (ls := (a0 :: a1 :: a2 :: a3 :: b :: t)) (i := 4) (v := (.int x)) (pv1_s (i := 3) (a := a3) rfl hc1))) hc hn)
theorem wp_lstore_4 {a0 a1 a2 a3 : Option Value} {b b2 : Option Value} {t : List (Option Value)} {x : Int64} (hd : decode cc pc0 = .ok (.lstore 4, 2)) (e : pc = pc0) (hL : 4 + 1 < nL) (hc1 : oc1 a3 = true) (k : WP g d y cc nL ret (pc0 + 2) (a0 :: a1 :: a2 :: a3 :: some (.long x) :: none :: t) st h c n Q) : WP g d y cc nL ret pc (a0 :: a1 :: a2 :: a3 :: b :: b2 :: t) (.long x :: st) h c n Q := by
  subst e
  intro p l e R s m args below meth cd H locs cells slots arr C hS hP hl hc hn
  exact lv_lstore C.1 C.2.1 hd hl hL rfl (fun arr1 hl1 => k p l e R s m args below meth cd H locs cells slots arr1 C hS hP (hl1.less (g_st2 (g := g) (ls := (a0 :: a1 :: a2 :: a3 :: b :: b2 :: t)) (i := 4) (v := (.long x)) (pv1_s (i := 3) (a := a3) rfl hc1))) hc hn)
theorem wp_astore_4 {a0 a1 a2 a3 : Option Value} {b : Option Value} {t : List (Option Value)} {x : Nat} (hd : decode cc pc0 = .ok (.astore 4, 2)) (e : pc = pc0) (hL : 4 < nL) (hc1 : oc1 a3 = true) (k : WP g d y cc nL ret (pc0 + 2) (a0 :: a1 :: a2 :: a3 :: some (.ref x) :: t) st h c n Q) : WP g d y cc nL ret pc (a0 :: a1 :: a2 :: a3 :: b :: t) (.ref x :: st) h c n Q := by
  subst e
  intro p l e R s m args below meth cd H locs cells slots arr C hS hP hl hc hn
  exact lv_astore C.1 C.2.1 hd hl hL rfl (fun arr1 hl1 => k p l e R s m args below meth cd H locs cells slots arr1 C hS hP (hl1.less (g_st1 (g := g) (ls := (a0 :: a1 :: a2 :: a3 :: b :: t)) (i := 4) (v := (.ref x)) (pv1_s (i := 3) (a := a3) rfl hc1))) hc hn)
theorem wp_astoreN_4 {a0 a1 a2 a3 : Option Value} {b : Option Value} {t : List (Option Value)} (hd : decode cc pc0 = .ok (.astore 4, 2)) (e : pc = pc0) (hL : 4 < nL) (hc1 : oc1 a3 = true) (k : WP g d y cc nL ret (pc0 + 2) (a0 :: a1 :: a2 :: a3 :: some .null :: t) st h c n Q) : WP g d y cc nL ret pc (a0 :: a1 :: a2 :: a3 :: b :: t) (.null :: st) h c n Q := by
  subst e
  intro p l e R s m args below meth cd H locs cells slots arr C hS hP hl hc hn
  exact lv_astoreN C.1 C.2.1 hd hl hL rfl (fun arr1 hl1 => k p l e R s m args below meth cd H locs cells slots arr1 C hS hP (hl1.less (g_st1 (g := g) (ls := (a0 :: a1 :: a2 :: a3 :: b :: t)) (i := 4) (v := .null) (pv1_s (i := 3) (a := a3) rfl hc1))) hc hn)
theorem wp_istore_5 {a0 a1 a2 a3 a4 : Option Value} {b : Option Value} {t : List (Option Value)} {x : Int32} (hd : decode cc pc0 = .ok (.istore 5, 2)) (e : pc = pc0) (hL : 5 < nL) (hc1 : oc1 a4 = true) (k : WP g d y cc nL ret (pc0 + 2) (a0 :: a1 :: a2 :: a3 :: a4 :: some (.int x) :: t) st h c n Q) : WP g d y cc nL ret pc (a0 :: a1 :: a2 :: a3 :: a4 :: b :: t) (.int x :: st) h c n Q := by
  subst e
  intro p l e R s m args below meth cd H locs cells slots arr C hS hP hl hc hn
  exact lv_istore C.1 C.2.1 hd hl hL rfl (fun arr1 hl1 => k p l e R s m args below meth cd H locs cells slots arr1 C hS hP (hl1.less (g_st1 (g := g) (ls := (a0 :: a1 :: a2 :: a3 :: a4 :: b :: t)) (i := 5) (v := (.int x)) (pv1_s (i := 4) (a := a4) rfl hc1))) hc hn)
theorem wp_lstore_5 {a0 a1 a2 a3 a4 : Option Value} {b b2 : Option Value} {t : List (Option Value)} {x : Int64} (hd : decode cc pc0 = .ok (.lstore 5, 2)) (e : pc = pc0) (hL : 5 + 1 < nL) (hc1 : oc1 a4 = true) (k : WP g d y cc nL ret (pc0 + 2) (a0 :: a1 :: a2 :: a3 :: a4 :: some (.long x) :: none :: t) st h c n Q) : WP g d y cc nL ret pc (a0 :: a1 :: a2 :: a3 :: a4 :: b :: b2 :: t) (.long x :: st) h c n Q := by
  subst e
  intro p l e R s m args below meth cd H locs cells slots arr C hS hP hl hc hn
  exact lv_lstore C.1 C.2.1 hd hl hL rfl (fun arr1 hl1 => k p l e R s m args below meth cd H locs cells slots arr1 C hS hP (hl1.less (g_st2 (g := g) (ls := (a0 :: a1 :: a2 :: a3 :: a4 :: b :: b2 :: t)) (i := 5) (v := (.long x)) (pv1_s (i := 4) (a := a4) rfl hc1))) hc hn)
theorem wp_astore_5 {a0 a1 a2 a3 a4 : Option Value} {b : Option Value} {t : List (Option Value)} {x : Nat} (hd : decode cc pc0 = .ok (.astore 5, 2)) (e : pc = pc0) (hL : 5 < nL) (hc1 : oc1 a4 = true) (k : WP g d y cc nL ret (pc0 + 2) (a0 :: a1 :: a2 :: a3 :: a4 :: some (.ref x) :: t) st h c n Q) : WP g d y cc nL ret pc (a0 :: a1 :: a2 :: a3 :: a4 :: b :: t) (.ref x :: st) h c n Q := by
  subst e
  intro p l e R s m args below meth cd H locs cells slots arr C hS hP hl hc hn
  exact lv_astore C.1 C.2.1 hd hl hL rfl (fun arr1 hl1 => k p l e R s m args below meth cd H locs cells slots arr1 C hS hP (hl1.less (g_st1 (g := g) (ls := (a0 :: a1 :: a2 :: a3 :: a4 :: b :: t)) (i := 5) (v := (.ref x)) (pv1_s (i := 4) (a := a4) rfl hc1))) hc hn)
theorem wp_astoreN_5 {a0 a1 a2 a3 a4 : Option Value} {b : Option Value} {t : List (Option Value)} (hd : decode cc pc0 = .ok (.astore 5, 2)) (e : pc = pc0) (hL : 5 < nL) (hc1 : oc1 a4 = true) (k : WP g d y cc nL ret (pc0 + 2) (a0 :: a1 :: a2 :: a3 :: a4 :: some .null :: t) st h c n Q) : WP g d y cc nL ret pc (a0 :: a1 :: a2 :: a3 :: a4 :: b :: t) (.null :: st) h c n Q := by
  subst e
  intro p l e R s m args below meth cd H locs cells slots arr C hS hP hl hc hn
  exact lv_astoreN C.1 C.2.1 hd hl hL rfl (fun arr1 hl1 => k p l e R s m args below meth cd H locs cells slots arr1 C hS hP (hl1.less (g_st1 (g := g) (ls := (a0 :: a1 :: a2 :: a3 :: a4 :: b :: t)) (i := 5) (v := .null) (pv1_s (i := 4) (a := a4) rfl hc1))) hc hn)
theorem wp_istore_6 {a0 a1 a2 a3 a4 a5 : Option Value} {b : Option Value} {t : List (Option Value)} {x : Int32} (hd : decode cc pc0 = .ok (.istore 6, 2)) (e : pc = pc0) (hL : 6 < nL) (hc1 : oc1 a5 = true) (k : WP g d y cc nL ret (pc0 + 2) (a0 :: a1 :: a2 :: a3 :: a4 :: a5 :: some (.int x) :: t) st h c n Q) : WP g d y cc nL ret pc (a0 :: a1 :: a2 :: a3 :: a4 :: a5 :: b :: t) (.int x :: st) h c n Q := by
  subst e
  intro p l e R s m args below meth cd H locs cells slots arr C hS hP hl hc hn
  exact lv_istore C.1 C.2.1 hd hl hL rfl (fun arr1 hl1 => k p l e R s m args below meth cd H locs cells slots arr1 C hS hP (hl1.less (g_st1 (g := g) (ls := (a0 :: a1 :: a2 :: a3 :: a4 :: a5 :: b :: t)) (i := 6) (v := (.int x)) (pv1_s (i := 5) (a := a5) rfl hc1))) hc hn)
theorem wp_lstore_6 {a0 a1 a2 a3 a4 a5 : Option Value} {b b2 : Option Value} {t : List (Option Value)} {x : Int64} (hd : decode cc pc0 = .ok (.lstore 6, 2)) (e : pc = pc0) (hL : 6 + 1 < nL) (hc1 : oc1 a5 = true) (k : WP g d y cc nL ret (pc0 + 2) (a0 :: a1 :: a2 :: a3 :: a4 :: a5 :: some (.long x) :: none :: t) st h c n Q) : WP g d y cc nL ret pc (a0 :: a1 :: a2 :: a3 :: a4 :: a5 :: b :: b2 :: t) (.long x :: st) h c n Q := by
  subst e
  intro p l e R s m args below meth cd H locs cells slots arr C hS hP hl hc hn
  exact lv_lstore C.1 C.2.1 hd hl hL rfl (fun arr1 hl1 => k p l e R s m args below meth cd H locs cells slots arr1 C hS hP (hl1.less (g_st2 (g := g) (ls := (a0 :: a1 :: a2 :: a3 :: a4 :: a5 :: b :: b2 :: t)) (i := 6) (v := (.long x)) (pv1_s (i := 5) (a := a5) rfl hc1))) hc hn)
theorem wp_astore_6 {a0 a1 a2 a3 a4 a5 : Option Value} {b : Option Value} {t : List (Option Value)} {x : Nat} (hd : decode cc pc0 = .ok (.astore 6, 2)) (e : pc = pc0) (hL : 6 < nL) (hc1 : oc1 a5 = true) (k : WP g d y cc nL ret (pc0 + 2) (a0 :: a1 :: a2 :: a3 :: a4 :: a5 :: some (.ref x) :: t) st h c n Q) : WP g d y cc nL ret pc (a0 :: a1 :: a2 :: a3 :: a4 :: a5 :: b :: t) (.ref x :: st) h c n Q := by
  subst e
  intro p l e R s m args below meth cd H locs cells slots arr C hS hP hl hc hn
  exact lv_astore C.1 C.2.1 hd hl hL rfl (fun arr1 hl1 => k p l e R s m args below meth cd H locs cells slots arr1 C hS hP (hl1.less (g_st1 (g := g) (ls := (a0 :: a1 :: a2 :: a3 :: a4 :: a5 :: b :: t)) (i := 6) (v := (.ref x)) (pv1_s (i := 5) (a := a5) rfl hc1))) hc hn)
theorem wp_astoreN_6 {a0 a1 a2 a3 a4 a5 : Option Value} {b : Option Value} {t : List (Option Value)} (hd : decode cc pc0 = .ok (.astore 6, 2)) (e : pc = pc0) (hL : 6 < nL) (hc1 : oc1 a5 = true) (k : WP g d y cc nL ret (pc0 + 2) (a0 :: a1 :: a2 :: a3 :: a4 :: a5 :: some .null :: t) st h c n Q) : WP g d y cc nL ret pc (a0 :: a1 :: a2 :: a3 :: a4 :: a5 :: b :: t) (.null :: st) h c n Q := by
  subst e
  intro p l e R s m args below meth cd H locs cells slots arr C hS hP hl hc hn
  exact lv_astoreN C.1 C.2.1 hd hl hL rfl (fun arr1 hl1 => k p l e R s m args below meth cd H locs cells slots arr1 C hS hP (hl1.less (g_st1 (g := g) (ls := (a0 :: a1 :: a2 :: a3 :: a4 :: a5 :: b :: t)) (i := 6) (v := .null) (pv1_s (i := 5) (a := a5) rfl hc1))) hc hn)
theorem wp_istore_7 {a0 a1 a2 a3 a4 a5 a6 : Option Value} {b : Option Value} {t : List (Option Value)} {x : Int32} (hd : decode cc pc0 = .ok (.istore 7, 2)) (e : pc = pc0) (hL : 7 < nL) (hc1 : oc1 a6 = true) (k : WP g d y cc nL ret (pc0 + 2) (a0 :: a1 :: a2 :: a3 :: a4 :: a5 :: a6 :: some (.int x) :: t) st h c n Q) : WP g d y cc nL ret pc (a0 :: a1 :: a2 :: a3 :: a4 :: a5 :: a6 :: b :: t) (.int x :: st) h c n Q := by
  subst e
  intro p l e R s m args below meth cd H locs cells slots arr C hS hP hl hc hn
  exact lv_istore C.1 C.2.1 hd hl hL rfl (fun arr1 hl1 => k p l e R s m args below meth cd H locs cells slots arr1 C hS hP (hl1.less (g_st1 (g := g) (ls := (a0 :: a1 :: a2 :: a3 :: a4 :: a5 :: a6 :: b :: t)) (i := 7) (v := (.int x)) (pv1_s (i := 6) (a := a6) rfl hc1))) hc hn)
theorem wp_lstore_7 {a0 a1 a2 a3 a4 a5 a6 : Option Value} {b b2 : Option Value} {t : List (Option Value)} {x : Int64} (hd : decode cc pc0 = .ok (.lstore 7, 2)) (e : pc = pc0) (hL : 7 + 1 < nL) (hc1 : oc1 a6 = true) (k : WP g d y cc nL ret (pc0 + 2) (a0 :: a1 :: a2 :: a3 :: a4 :: a5 :: a6 :: some (.long x) :: none :: t) st h c n Q) : WP g d y cc nL ret pc (a0 :: a1 :: a2 :: a3 :: a4 :: a5 :: a6 :: b :: b2 :: t) (.long x :: st) h c n Q := by
  subst e
  intro p l e R s m args below meth cd H locs cells slots arr C hS hP hl hc hn
  exact lv_lstore C.1 C.2.1 hd hl hL rfl (fun arr1 hl1 => k p l e R s m args below meth cd H locs cells slots arr1 C hS hP (hl1.less (g_st2 (g := g) (ls := (a0 :: a1 :: a2 :: a3 :: a4 :: a5 :: a6 :: b :: b2 :: t)) (i := 7) (v := (.long x)) (pv1_s (i := 6) (a := a6) rfl hc1))) hc hn)
theorem wp_astore_7 {a0 a1 a2 a3 a4 a5 a6 : Option Value} {b : Option Value} {t : List (Option Value)} {x : Nat} (hd : decode cc pc0 = .ok (.astore 7, 2)) (e : pc = pc0) (hL : 7 < nL) (hc1 : oc1 a6 = true) (k : WP g d y cc nL ret (pc0 + 2) (a0 :: a1 :: a2 :: a3 :: a4 :: a5 :: a6 :: some (.ref x) :: t) st h c n Q) : WP g d y cc nL ret pc (a0 :: a1 :: a2 :: a3 :: a4 :: a5 :: a6 :: b :: t) (.ref x :: st) h c n Q := by
  subst e
  intro p l e R s m args below meth cd H locs cells slots arr C hS hP hl hc hn
  exact lv_astore C.1 C.2.1 hd hl hL rfl (fun arr1 hl1 => k p l e R s m args below meth cd H locs cells slots arr1 C hS hP (hl1.less (g_st1 (g := g) (ls := (a0 :: a1 :: a2 :: a3 :: a4 :: a5 :: a6 :: b :: t)) (i := 7) (v := (.ref x)) (pv1_s (i := 6) (a := a6) rfl hc1))) hc hn)
theorem wp_astoreN_7 {a0 a1 a2 a3 a4 a5 a6 : Option Value} {b : Option Value} {t : List (Option Value)} (hd : decode cc pc0 = .ok (.astore 7, 2)) (e : pc = pc0) (hL : 7 < nL) (hc1 : oc1 a6 = true) (k : WP g d y cc nL ret (pc0 + 2) (a0 :: a1 :: a2 :: a3 :: a4 :: a5 :: a6 :: some .null :: t) st h c n Q) : WP g d y cc nL ret pc (a0 :: a1 :: a2 :: a3 :: a4 :: a5 :: a6 :: b :: t) (.null :: st) h c n Q := by
  subst e
  intro p l e R s m args below meth cd H locs cells slots arr C hS hP hl hc hn
  exact lv_astoreN C.1 C.2.1 hd hl hL rfl (fun arr1 hl1 => k p l e R s m args below meth cd H locs cells slots arr1 C hS hP (hl1.less (g_st1 (g := g) (ls := (a0 :: a1 :: a2 :: a3 :: a4 :: a5 :: a6 :: b :: t)) (i := 7) (v := .null) (pv1_s (i := 6) (a := a6) rfl hc1))) hc hn)
theorem wp_istore_8 {a0 a1 a2 a3 a4 a5 a6 a7 : Option Value} {b : Option Value} {t : List (Option Value)} {x : Int32} (hd : decode cc pc0 = .ok (.istore 8, 2)) (e : pc = pc0) (hL : 8 < nL) (hc1 : oc1 a7 = true) (k : WP g d y cc nL ret (pc0 + 2) (a0 :: a1 :: a2 :: a3 :: a4 :: a5 :: a6 :: a7 :: some (.int x) :: t) st h c n Q) : WP g d y cc nL ret pc (a0 :: a1 :: a2 :: a3 :: a4 :: a5 :: a6 :: a7 :: b :: t) (.int x :: st) h c n Q := by
  subst e
  intro p l e R s m args below meth cd H locs cells slots arr C hS hP hl hc hn
  exact lv_istore C.1 C.2.1 hd hl hL rfl (fun arr1 hl1 => k p l e R s m args below meth cd H locs cells slots arr1 C hS hP (hl1.less (g_st1 (g := g) (ls := (a0 :: a1 :: a2 :: a3 :: a4 :: a5 :: a6 :: a7 :: b :: t)) (i := 8) (v := (.int x)) (pv1_s (i := 7) (a := a7) rfl hc1))) hc hn)
theorem wp_lstore_8 {a0 a1 a2 a3 a4 a5 a6 a7 : Option Value} {b b2 : Option Value} {t : List (Option Value)} {x : Int64} (hd : decode cc pc0 = .ok (.lstore 8, 2)) (e : pc = pc0) (hL : 8 + 1 < nL) (hc1 : oc1 a7 = true) (k : WP g d y cc nL ret (pc0 + 2) (a0 :: a1 :: a2 :: a3 :: a4 :: a5 :: a6 :: a7 :: some (.long x) :: none :: t) st h c n Q) : WP g d y cc nL ret pc (a0 :: a1 :: a2 :: a3 :: a4 :: a5 :: a6 :: a7 :: b :: b2 :: t) (.long x :: st) h c n Q := by
  subst e
  intro p l e R s m args below meth cd H locs cells slots arr C hS hP hl hc hn
  exact lv_lstore C.1 C.2.1 hd hl hL rfl (fun arr1 hl1 => k p l e R s m args below meth cd H locs cells slots arr1 C hS hP (hl1.less (g_st2 (g := g) (ls := (a0 :: a1 :: a2 :: a3 :: a4 :: a5 :: a6 :: a7 :: b :: b2 :: t)) (i := 8) (v := (.long x)) (pv1_s (i := 7) (a := a7) rfl hc1))) hc hn)
theorem wp_astore_8 {a0 a1 a2 a3 a4 a5 a6 a7 : Option Value} {b : Option Value} {t : List (Option Value)} {x : Nat} (hd : decode cc pc0 = .ok (.astore 8, 2)) (e : pc = pc0) (hL : 8 < nL) (hc1 : oc1 a7 = true) (k : WP g d y cc nL ret (pc0 + 2) (a0 :: a1 :: a2 :: a3 :: a4 :: a5 :: a6 :: a7 :: some (.ref x) :: t) st h c n Q) : WP g d y cc nL ret pc (a0 :: a1 :: a2 :: a3 :: a4 :: a5 :: a6 :: a7 :: b :: t) (.ref x :: st) h c n Q := by
  subst e
  intro p l e R s m args below meth cd H locs cells slots arr C hS hP hl hc hn
  exact lv_astore C.1 C.2.1 hd hl hL rfl (fun arr1 hl1 => k p l e R s m args below meth cd H locs cells slots arr1 C hS hP (hl1.less (g_st1 (g := g) (ls := (a0 :: a1 :: a2 :: a3 :: a4 :: a5 :: a6 :: a7 :: b :: t)) (i := 8) (v := (.ref x)) (pv1_s (i := 7) (a := a7) rfl hc1))) hc hn)
theorem wp_astoreN_8 {a0 a1 a2 a3 a4 a5 a6 a7 : Option Value} {b : Option Value} {t : List (Option Value)} (hd : decode cc pc0 = .ok (.astore 8, 2)) (e : pc = pc0) (hL : 8 < nL) (hc1 : oc1 a7 = true) (k : WP g d y cc nL ret (pc0 + 2) (a0 :: a1 :: a2 :: a3 :: a4 :: a5 :: a6 :: a7 :: some .null :: t) st h c n Q) : WP g d y cc nL ret pc (a0 :: a1 :: a2 :: a3 :: a4 :: a5 :: a6 :: a7 :: b :: t) (.null :: st) h c n Q := by
  subst e
  intro p l e R s m args below meth cd H locs cells slots arr C hS hP hl hc hn
  exact lv_astoreN C.1 C.2.1 hd hl hL rfl (fun arr1 hl1 => k p l e R s m args below meth cd H locs cells slots arr1 C hS hP (hl1.less (g_st1 (g := g) (ls := (a0 :: a1 :: a2 :: a3 :: a4 :: a5 :: a6 :: a7 :: b :: t)) (i := 8) (v := .null) (pv1_s (i := 7) (a := a7) rfl hc1))) hc hn)
theorem wp_istore_9 {a0 a1 a2 a3 a4 a5 a6 a7 a8 : Option Value} {b : Option Value} {t : List (Option Value)} {x : Int32} (hd : decode cc pc0 = .ok (.istore 9, 2)) (e : pc = pc0) (hL : 9 < nL) (hc1 : oc1 a8 = true) (k : WP g d y cc nL ret (pc0 + 2) (a0 :: a1 :: a2 :: a3 :: a4 :: a5 :: a6 :: a7 :: a8 :: some (.int x) :: t) st h c n Q) : WP g d y cc nL ret pc (a0 :: a1 :: a2 :: a3 :: a4 :: a5 :: a6 :: a7 :: a8 :: b :: t) (.int x :: st) h c n Q := by
  subst e
  intro p l e R s m args below meth cd H locs cells slots arr C hS hP hl hc hn
  exact lv_istore C.1 C.2.1 hd hl hL rfl (fun arr1 hl1 => k p l e R s m args below meth cd H locs cells slots arr1 C hS hP (hl1.less (g_st1 (g := g) (ls := (a0 :: a1 :: a2 :: a3 :: a4 :: a5 :: a6 :: a7 :: a8 :: b :: t)) (i := 9) (v := (.int x)) (pv1_s (i := 8) (a := a8) rfl hc1))) hc hn)
theorem wp_lstore_9 {a0 a1 a2 a3 a4 a5 a6 a7 a8 : Option Value} {b b2 : Option Value} {t : List (Option Value)} {x : Int64} (hd : decode cc pc0 = .ok (.lstore 9, 2)) (e : pc = pc0) (hL : 9 + 1 < nL) (hc1 : oc1 a8 = true) (k : WP g d y cc nL ret (pc0 + 2) (a0 :: a1 :: a2 :: a3 :: a4 :: a5 :: a6 :: a7 :: a8 :: some (.long x) :: none :: t) st h c n Q) : WP g d y cc nL ret pc (a0 :: a1 :: a2 :: a3 :: a4 :: a5 :: a6 :: a7 :: a8 :: b :: b2 :: t) (.long x :: st) h c n Q := by
  subst e
  intro p l e R s m args below meth cd H locs cells slots arr C hS hP hl hc hn
  exact lv_lstore C.1 C.2.1 hd hl hL rfl (fun arr1 hl1 => k p l e R s m args below meth cd H locs cells slots arr1 C hS hP (hl1.less (g_st2 (g := g) (ls := (a0 :: a1 :: a2 :: a3 :: a4 :: a5 :: a6 :: a7 :: a8 :: b :: b2 :: t)) (i := 9) (v := (.long x)) (pv1_s (i := 8) (a := a8) rfl hc1))) hc hn)
theorem wp_astore_9 {a0 a1 a2 a3 a4 a5 a6 a7 a8 : Option Value} {b : Option Value} {t : List (Option Value)} {x : Nat} (hd : decode cc pc0 = .ok (.astore 9, 2)) (e : pc = pc0) (hL : 9 < nL) (hc1 : oc1 a8 = true) (k : WP g d y cc nL ret (pc0 + 2) (a0 :: a1 :: a2 :: a3 :: a4 :: a5 :: a6 :: a7 :: a8 :: some (.ref x) :: t) st h c n Q) : WP g d y cc nL ret pc (a0 :: a1 :: a2 :: a3 :: a4 :: a5 :: a6 :: a7 :: a8 :: b :: t) (.ref x :: st) h c n Q := by
  subst e
  intro p l e R s m args below meth cd H locs cells slots arr C hS hP hl hc hn
  exact lv_astore C.1 C.2.1 hd hl hL rfl (fun arr1 hl1 => k p l e R s m args below meth cd H locs cells slots arr1 C hS hP (hl1.less (g_st1 (g := g) (ls := (a0 :: a1 :: a2 :: a3 :: a4 :: a5 :: a6 :: a7 :: a8 :: b :: t)) (i := 9) (v := (.ref x)) (pv1_s (i := 8) (a := a8) rfl hc1))) hc hn)
theorem wp_astoreN_9 {a0 a1 a2 a3 a4 a5 a6 a7 a8 : Option Value} {b : Option Value} {t : List (Option Value)} (hd : decode cc pc0 = .ok (.astore 9, 2)) (e : pc = pc0) (hL : 9 < nL) (hc1 : oc1 a8 = true) (k : WP g d y cc nL ret (pc0 + 2) (a0 :: a1 :: a2 :: a3 :: a4 :: a5 :: a6 :: a7 :: a8 :: some .null :: t) st h c n Q) : WP g d y cc nL ret pc (a0 :: a1 :: a2 :: a3 :: a4 :: a5 :: a6 :: a7 :: a8 :: b :: t) (.null :: st) h c n Q := by
  subst e
  intro p l e R s m args below meth cd H locs cells slots arr C hS hP hl hc hn
  exact lv_astoreN C.1 C.2.1 hd hl hL rfl (fun arr1 hl1 => k p l e R s m args below meth cd H locs cells slots arr1 C hS hP (hl1.less (g_st1 (g := g) (ls := (a0 :: a1 :: a2 :: a3 :: a4 :: a5 :: a6 :: a7 :: a8 :: b :: t)) (i := 9) (v := .null) (pv1_s (i := 8) (a := a8) rfl hc1))) hc hn)
theorem wp_istore_10 {a0 a1 a2 a3 a4 a5 a6 a7 a8 a9 : Option Value} {b : Option Value} {t : List (Option Value)} {x : Int32} (hd : decode cc pc0 = .ok (.istore 10, 2)) (e : pc = pc0) (hL : 10 < nL) (hc1 : oc1 a9 = true) (k : WP g d y cc nL ret (pc0 + 2) (a0 :: a1 :: a2 :: a3 :: a4 :: a5 :: a6 :: a7 :: a8 :: a9 :: some (.int x) :: t) st h c n Q) : WP g d y cc nL ret pc (a0 :: a1 :: a2 :: a3 :: a4 :: a5 :: a6 :: a7 :: a8 :: a9 :: b :: t) (.int x :: st) h c n Q := by
  subst e
  intro p l e R s m args below meth cd H locs cells slots arr C hS hP hl hc hn
  exact lv_istore C.1 C.2.1 hd hl hL rfl (fun arr1 hl1 => k p l e R s m args below meth cd H locs cells slots arr1 C hS hP (hl1.less (g_st1 (g := g) (ls := (a0 :: a1 :: a2 :: a3 :: a4 :: a5 :: a6 :: a7 :: a8 :: a9 :: b :: t)) (i := 10) (v := (.int x)) (pv1_s (i := 9) (a := a9) rfl hc1))) hc hn)
theorem wp_lstore_10 {a0 a1 a2 a3 a4 a5 a6 a7 a8 a9 : Option Value} {b b2 : Option Value} {t : List (Option Value)} {x : Int64} (hd : decode cc pc0 = .ok (.lstore 10, 2)) (e : pc = pc0) (hL : 10 + 1 < nL) (hc1 : oc1 a9 = true) (k : WP g d y cc nL ret (pc0 + 2) (a0 :: a1 :: a2 :: a3 :: a4 :: a5 :: a6 :: a7 :: a8 :: a9 :: some (.long x) :: none :: t) st h c n Q) : WP g d y cc nL ret pc (a0 :: a1 :: a2 :: a3 :: a4 :: a5 :: a6 :: a7 :: a8 :: a9 :: b :: b2 :: t) (.long x :: st) h c n Q := by
  subst e
  intro p l e R s m args below meth cd H locs cells slots arr C hS hP hl hc hn
  exact lv_lstore C.1 C.2.1 hd hl hL rfl (fun arr1 hl1 => k p l e R s m args below meth cd H locs cells slots arr1 C hS hP (hl1.less (g_st2 (g := g) (ls := (a0 :: a1 :: a2 :: a3 :: a4 :: a5 :: a6 :: a7 :: a8 :: a9 :: b :: b2 :: t)) (i := 10) (v := (.long x)) (pv1_s (i := 9) (a := a9) rfl hc1))) hc hn)
theorem wp_astore_10 {a0 a1 a2 a3 a4 a5 a6 a7 a8 a9 : Option Value} {b : Option Value} {t : List (Option Value)} {x : Nat} (hd : decode cc pc0 = .ok (.astore 10, 2)) (e : pc = pc0) (hL : 10 < nL) (hc1 : oc1 a9 = true) (k : WP g d y cc nL ret (pc0 + 2) (a0 :: a1 :: a2 :: a3 :: a4 :: a5 :: a6 :: a7 :: a8 :: a9 :: some (.ref x) :: t) st h c n Q) : WP g d y cc nL ret pc (a0 :: a1 :: a2 :: a3 :: a4 :: a5 :: a6 :: a7 :: a8 :: a9 :: b :: t) (.ref x :: st) h c n Q := by
  subst e
  intro p l e R s m args below meth cd H locs cells slots arr C hS hP hl hc hn
  exact lv_astore C.1 C.2.1 hd hl hL rfl (fun arr1 hl1 => k p l e R s m args below meth cd H locs cells slots arr1 C hS hP (hl1.less (g_st1 (g := g) (ls := (a0 :: a1 :: a2 :: a3 :: a4 :: a5 :: a6 :: a7 :: a8 :: a9 :: b :: t)) (i := 10) (v := (.ref x)) (pv1_s (i := 9) (a := a9) rfl hc1))) hc hn)
theorem wp_astoreN_10 {a0 a1 a2 a3 a4 a5 a6 a7 a8 a9 : Option Value} {b : Option Value} {t : List (Option Value)} (hd : decode cc pc0 = .ok (.astore 10, 2)) (e : pc = pc0) (hL : 10 < nL) (hc1 : oc1 a9 = true) (k : WP g d y cc nL ret (pc0 + 2) (a0 :: a1 :: a2 :: a3 :: a4 :: a5 :: a6 :: a7 :: a8 :: a9 :: some .null :: t) st h c n Q) : WP g d y cc nL ret pc (a0 :: a1 :: a2 :: a3 :: a4 :: a5 :: a6 :: a7 :: a8 :: a9 :: b :: t) (.null :: st) h c n Q := by
  subst e
  intro p l e R s m args below meth cd H locs cells slots arr C hS hP hl hc hn
  exact lv_astoreN C.1 C.2.1 hd hl hL rfl (fun arr1 hl1 => k p l e R s m args below meth cd H locs cells slots arr1 C hS hP (hl1.less (g_st1 (g := g) (ls := (a0 :: a1 :: a2 :: a3 :: a4 :: a5 :: a6 :: a7 :: a8 :: a9 :: b :: t)) (i := 10) (v := .null) (pv1_s (i := 9) (a := a9) rfl hc1))) hc hn)
theorem wp_istore_11 {a0 a1 a2 a3 a4 a5 a6 a7 a8 a9 a10 : Option Value} {b : Option Value} {t : List (Option Value)} {x : Int32} (hd : decode cc pc0 = .ok (.istore 11, 2)) (e : pc = pc0) (hL : 11 < nL) (hc1 : oc1 a10 = true) (k : WP g d y cc nL ret (pc0 + 2) (a0 :: a1 :: a2 :: a3 :: a4 :: a5 :: a6 :: a7 :: a8 :: a9 :: a10 :: some (.int x) :: t) st h c n Q) : WP g d y cc nL ret pc (a0 :: a1 :: a2 :: a3 :: a4 :: a5 :: a6 :: a7 :: a8 :: a9 :: a10 :: b :: t) (.int x :: st) h c n Q := by
  subst e
  intro p l e R s m args below meth cd H locs cells slots arr C hS hP hl hc hn
  exact lv_istore C.1 C.2.1 hd hl hL rfl (fun arr1 hl1 => k p l e R s m args below meth cd H locs cells slots arr1 C hS hP (hl1.less (g_st1 (g := g) (ls := (a0 :: a1 :: a2 :: a3 :: a4 :: a5 :: a6 :: a7 :: a8 :: a9 :: a10 :: b :: t)) (i := 11) (v := (.int x)) (pv1_s (i := 10) (a := a10) rfl hc1))) hc hn)
theorem wp_lstore_11 {a0 a1 a2 a3 a4 a5 a6 a7 a8 a9 a10 : Option Value} {b b2 : Option Value} {t : List (Option Value)} {x : Int64} (hd : decode cc pc0 = .ok (.lstore 11, 2)) (e : pc = pc0) (hL : 11 + 1 < nL) (hc1 : oc1 a10 = true) (k : WP g d y cc nL ret (pc0 + 2) (a0 :: a1 :: a2 :: a3 :: a4 :: a5 :: a6 :: a7 :: a8 :: a9 :: a10 :: some (.long x) :: none :: t) st h c n Q) : WP g d y cc nL ret pc (a0 :: a1 :: a2 :: a3 :: a4 :: a5 :: a6 :: a7 :: a8 :: a9 :: a10 :: b :: b2 :: t) (.long x :: st) h c n Q := by
  subst e
  intro p l e R s m args below meth cd H locs cells slots arr C hS hP hl hc hn
  exact lv_lstore C.1 C.2.1 hd hl hL rfl (fun arr1 hl1 => k p l e R s m args below meth cd H locs cells slots arr1 C hS hP (hl1.less (g_st2 (g := g) (ls := (a0 :: a1 :: a2 :: a3 :: a4 :: a5 :: a6 :: a7 :: a8 :: a9 :: a10 :: b :: b2 :: t)) (i := 11) (v := (.long x)) (pv1_s (i := 10) (a := a10) rfl hc1))) hc hn)
theorem wp_astore_11 {a0 a1 a2 a3 a4 a5 a6 a7 a8 a9 a10 : Option Value} {b : Option Value} {t : List (Option Value)} {x : Nat} (hd : decode cc pc0 = .ok (.astore 11, 2)) (e : pc = pc0) (hL : 11 < nL) (hc1 : oc1 a10 = true) (k : WP g d y cc nL ret (pc0 + 2) (a0 :: a1 :: a2 :: a3 :: a4 :: a5 :: a6 :: a7 :: a8 :: a9 :: a10 :: some (.ref x) :: t) st h c n Q) : WP g d y cc nL ret pc (a0 :: a1 :: a2 :: a3 :: a4 :: a5 :: a6 :: a7 :: a8 :: a9 :: a10 :: b :: t) (.ref x :: st) h c n Q := by
  subst e
  intro p l e R s m args below meth cd H locs cells slots arr C hS hP hl hc hn
  exact lv_astore C.1 C.2.1 hd hl hL rfl (fun arr1 hl1 => k p l e R s m args below meth cd H locs cells slots arr1 C hS hP (hl1.less (g_st1 (g := g) (ls := (a0 :: a1 :: a2 :: a3 :: a4 :: a5 :: a6 :: a7 :: a8 :: a9 :: a10 :: b :: t)) (i := 11) (v := (.ref x)) (pv1_s (i := 10) (a := a10) rfl hc1))) hc hn)
theorem wp_astoreN_11 {a0 a1 a2 a3 a4 a5 a6 a7 a8 a9 a10 : Option Value} {b : Option Value} {t : List (Option Value)} (hd : decode cc pc0 = .ok (.astore 11, 2)) (e : pc = pc0) (hL : 11 < nL) (hc1 : oc1 a10 = true) (k : WP g d y cc nL ret (pc0 + 2) (a0 :: a1 :: a2 :: a3 :: a4 :: a5 :: a6 :: a7 :: a8 :: a9 :: a10 :: some .null :: t) st h c n Q) : WP g d y cc nL ret pc (a0 :: a1 :: a2 :: a3 :: a4 :: a5 :: a6 :: a7 :: a8 :: a9 :: a10 :: b :: t) (.null :: st) h c n Q := by
  subst e
  intro p l e R s m args below meth cd H locs cells slots arr C hS hP hl hc hn
  exact lv_astoreN C.1 C.2.1 hd hl hL rfl (fun arr1 hl1 => k p l e R s m args below meth cd H locs cells slots arr1 C hS hP (hl1.less (g_st1 (g := g) (ls := (a0 :: a1 :: a2 :: a3 :: a4 :: a5 :: a6 :: a7 :: a8 :: a9 :: a10 :: b :: t)) (i := 11) (v := .null) (pv1_s (i := 10) (a := a10) rfl hc1))) hc hn)
theorem wp_istore_12 {a0 a1 a2 a3 a4 a5 a6 a7 a8 a9 a10 a11 : Option Value} {b : Option Value} {t : List (Option Value)} {x : Int32} (hd : decode cc pc0 = .ok (.istore 12, 2)) (e : pc = pc0) (hL : 12 < nL) (hc1 : oc1 a11 = true) (k : WP g d y cc nL ret (pc0 + 2) (a0 :: a1 :: a2 :: a3 :: a4 :: a5 :: a6 :: a7 :: a8 :: a9 :: a10 :: a11 :: some (.int x) :: t) st h c n Q) : WP g d y cc nL ret pc (a0 :: a1 :: a2 :: a3 :: a4 :: a5 :: a6 :: a7 :: a8 :: a9 :: a10 :: a11 :: b :: t) (.int x :: st) h c n Q := by
  subst e
  intro p l e R s m args below meth cd H locs cells slots arr C hS hP hl hc hn
  exact lv_istore C.1 C.2.1 hd hl hL rfl (fun arr1 hl1 => k p l e R s m args below meth cd H locs cells slots arr1 C hS hP (hl1.less (g_st1 (g := g) (ls := (a0 :: a1 :: a2 :: a3 :: a4 :: a5 :: a6 :: a7 :: a8 :: a9 :: a10 :: a11 :: b :: t)) (i := 12) (v := (.int x)) (pv1_s (i := 11) (a := a11) rfl hc1))) hc hn)
theorem wp_lstore_12 {a0 a1 a2 a3 a4 a5 a6 a7 a8 a9 a10 a11 : Option Value} {b b2 : Option Value} {t : List (Option Value)} {x : Int64} (hd : decode cc pc0 = .ok (.lstore 12, 2)) (e : pc = pc0) (hL : 12 + 1 < nL) (hc1 : oc1 a11 = true) (k : WP g d y cc nL ret (pc0 + 2) (a0 :: a1 :: a2 :: a3 :: a4 :: a5 :: a6 :: a7 :: a8 :: a9 :: a10 :: a11 :: some (.long x) :: none :: t) st h c n Q) : WP g d y cc nL ret pc (a0 :: a1 :: a2 :: a3 :: a4 :: a5 :: a6 :: a7 :: a8 :: a9 :: a10 :: a11 :: b :: b2 :: t) (.long x :: st) h c n Q := by
  subst e
  intro p l e R s m args below meth cd H locs cells slots arr C hS hP hl hc hn
  exact lv_lstore C.1 C.2.1 hd hl hL rfl (fun arr1 hl1 => k p l e R s m args below meth cd H locs cells slots arr1 C hS hP (hl1.less (g_st2 (g := g) (ls := (a0 :: a1 :: a2 :: a3 :: a4 :: a5 :: a6 :: a7 :: a8 :: a9 :: a10 :: a11 :: b :: b2 :: t)) (i := 12) (v := (.long x)) (pv1_s (i := 11) (a := a11) rfl hc1))) hc hn)
theorem wp_astore_12 {a0 a1 a2 a3 a4 a5 a6 a7 a8 a9 a10 a11 : Option Value} {b : Option Value} {t : List (Option Value)} {x : Nat} (hd : decode cc pc0 = .ok (.astore 12, 2)) (e : pc = pc0) (hL : 12 < nL) (hc1 : oc1 a11 = true) (k : WP g d y cc nL ret (pc0 + 2) (a0 :: a1 :: a2 :: a3 :: a4 :: a5 :: a6 :: a7 :: a8 :: a9 :: a10 :: a11 :: some (.ref x) :: t) st h c n Q) : WP g d y cc nL ret pc (a0 :: a1 :: a2 :: a3 :: a4 :: a5 :: a6 :: a7 :: a8 :: a9 :: a10 :: a11 :: b :: t) (.ref x :: st) h c n Q := by
  subst e
  intro p l e R s m args below meth cd H locs cells slots arr C hS hP hl hc hn
  exact lv_astore C.1 C.2.1 hd hl hL rfl (fun arr1 hl1 => k p l e R s m args below meth cd H locs cells slots arr1 C hS hP (hl1.less (g_st1 (g := g) (ls := (a0 :: a1 :: a2 :: a3 :: a4 :: a5 :: a6 :: a7 :: a8 :: a9 :: a10 :: a11 :: b :: t)) (i := 12) (v := (.ref x)) (pv1_s (i := 11) (a := a11) rfl hc1))) hc hn)
theorem wp_astoreN_12 {a0 a1 a2 a3 a4 a5 a6 a7 a8 a9 a10 a11 : Option Value} {b : Option Value} {t : List (Option Value)} (hd : decode cc pc0 = .ok (.astore 12, 2)) (e : pc = pc0) (hL : 12 < nL) (hc1 : oc1 a11 = true) (k : WP g d y cc nL ret (pc0 + 2) (a0 :: a1 :: a2 :: a3 :: a4 :: a5 :: a6 :: a7 :: a8 :: a9 :: a10 :: a11 :: some .null :: t) st h c n Q) : WP g d y cc nL ret pc (a0 :: a1 :: a2 :: a3 :: a4 :: a5 :: a6 :: a7 :: a8 :: a9 :: a10 :: a11 :: b :: t) (.null :: st) h c n Q := by
  subst e
  intro p l e R s m args below meth cd H locs cells slots arr C hS hP hl hc hn
  exact lv_astoreN C.1 C.2.1 hd hl hL rfl (fun arr1 hl1 => k p l e R s m args below meth cd H locs cells slots arr1 C hS hP (hl1.less (g_st1 (g := g) (ls := (a0 :: a1 :: a2 :: a3 :: a4 :: a5 :: a6 :: a7 :: a8 :: a9 :: a10 :: a11 :: b :: t)) (i := 12) (v := .null) (pv1_s (i := 11) (a := a11) rfl hc1))) hc hn)
theorem wp_istore_13 {a0 a1 a2 a3 a4 a5 a6 a7 a8 a9 a10 a11 a12 : Option Value} {b : Option Value} {t : List (Option Value)} {x : Int32} (hd : decode cc pc0 = .ok (.istore 13, 2)) (e : pc = pc0) (hL : 13 < nL) (hc1 : oc1 a12 = true) (k : WP g d y cc nL ret (pc0 + 2) (a0 :: a1 :: a2 :: a3 :: a4 :: a5 :: a6 :: a7 :: a8 :: a9 :: a10 :: a11 :: a12 :: some (.int x) :: t) st h c n Q) : WP g d y cc nL ret pc (a0 :: a1 :: a2 :: a3 :: a4 :: a5 :: a6 :: a7 :: a8 :: a9 :: a10 :: a11 :: a12 :: b :: t) (.int x :: st) h c n Q := by
  subst e
  intro p l e R s m args below meth cd H locs cells slots arr C hS hP hl hc hn
  exact lv_istore C.1 C.2.1 hd hl hL rfl (fun arr1 hl1 => k p l e R s m args below meth cd H locs cells slots arr1 C hS hP (hl1.less (g_st1 (g := g) (ls := (a0 :: a1 :: a2 :: a3 :: a4 :: a5 :: a6 :: a7 :: a8 :: a9 :: a10 :: a11 :: a12 :: b :: t)) (i := 13) (v := (.int x)) (pv1_s (i := 12) (a := a12) rfl hc1))) hc hn)
theorem wp_lstore_13 {a0 a1 a2 a3 a4 a5 a6 a7 a8 a9 a10 a11 a12 : Option Value} {b b2 : Option Value} {t : List (Option Value)} {x : Int64} (hd : decode cc pc0 = .ok (.lstore 13, 2)) (e : pc = pc0) (hL : 13 + 1 < nL) (hc1 : oc1 a12 = true) (k : WP g d y cc nL ret (pc0 + 2) (a0 :: a1 :: a2 :: a3 :: a4 :: a5 :: a6 :: a7 :: a8 :: a9 :: a10 :: a11 :: a12 :: some (.long x) :: none :: t) st h c n Q) : WP g d y cc nL ret pc (a0 :: a1 :: a2 :: a3 :: a4 :: a5 :: a6 :: a7 :: a8 :: a9 :: a10 :: a11 :: a12 :: b :: b2 :: t) (.long x :: st) h c n Q := by
  subst e
  intro p l e R s m args below meth cd H locs cells slots arr C hS hP hl hc hn
  exact lv_lstore C.1 C.2.1 hd hl hL rfl (fun arr1 hl1 => k p l e R s m args below meth cd H locs cells slots arr1 C hS hP (hl1.less (g_st2 (g := g) (ls := (a0 :: a1 :: a2 :: a3 :: a4 :: a5 :: a6 :: a7 :: a8 :: a9 :: a10 :: a11 :: a12 :: b :: b2 :: t)) (i := 13) (v := (.long x)) (pv1_s (i := 12) (a := a12) rfl hc1))) hc hn)
theorem wp_astore_13 {a0 a1 a2 a3 a4 a5 a6 a7 a8 a9 a10 a11 a12 : Option Value} {b : Option Value} {t : List (Option Value)} {x : Nat} (hd : decode cc pc0 = .ok (.astore 13, 2)) (e : pc = pc0) (hL : 13 < nL) (hc1 : oc1 a12 = true) (k : WP g d y cc nL ret (pc0 + 2) (a0 :: a1 :: a2 :: a3 :: a4 :: a5 :: a6 :: a7 :: a8 :: a9 :: a10 :: a11 :: a12 :: some (.ref x) :: t) st h c n Q) : WP g d y cc nL ret pc (a0 :: a1 :: a2 :: a3 :: a4 :: a5 :: a6 :: a7 :: a8 :: a9 :: a10 :: a11 :: a12 :: b :: t) (.ref x :: st) h c n Q := by
  subst e
  intro p l e R s m args below meth cd H locs cells slots arr C hS hP hl hc hn
  exact lv_astore C.1 C.2.1 hd hl hL rfl (fun arr1 hl1 => k p l e R s m args below meth cd H locs cells slots arr1 C hS hP (hl1.less (g_st1 (g := g) (ls := (a0 :: a1 :: a2 :: a3 :: a4 :: a5 :: a6 :: a7 :: a8 :: a9 :: a10 :: a11 :: a12 :: b :: t)) (i := 13) (v := (.ref x)) (pv1_s (i := 12) (a := a12) rfl hc1))) hc hn)
theorem wp_astoreN_13 {a0 a1 a2 a3 a4 a5 a6 a7 a8 a9 a10 a11 a12 : Option Value} {b : Option Value} {t : List (Option Value)} (hd : decode cc pc0 = .ok (.astore 13, 2)) (e : pc = pc0) (hL : 13 < nL) (hc1 : oc1 a12 = true) (k : WP g d y cc nL ret (pc0 + 2) (a0 :: a1 :: a2 :: a3 :: a4 :: a5 :: a6 :: a7 :: a8 :: a9 :: a10 :: a11 :: a12 :: some .null :: t) st h c n Q) : WP g d y cc nL ret pc (a0 :: a1 :: a2 :: a3 :: a4 :: a5 :: a6 :: a7 :: a8 :: a9 :: a10 :: a11 :: a12 :: b :: t) (.null :: st) h c n Q := by
  subst e
  intro p l e R s m args below meth cd H locs cells slots arr C hS hP hl hc hn
  exact lv_astoreN C.1 C.2.1 hd hl hL rfl (fun arr1 hl1 => k p l e R s m args below meth cd H locs cells slots arr1 C hS hP (hl1.less (g_st1 (g := g) (ls := (a0 :: a1 :: a2 :: a3 :: a4 :: a5 :: a6 :: a7 :: a8 :: a9 :: a10 :: a11 :: a12 :: b :: t)) (i := 13) (v := .null) (pv1_s (i := 12) (a := a12) rfl hc1))) hc hn)
theorem wp_istore_14 {a0 a1 a2 a3 a4 a5 a6 a7 a8 a9 a10 a11 a12 a13 : Option Value} {b : Option Value} {t : List (Option Value)} {x : Int32} (hd : decode cc pc0 = .ok (.istore 14, 2)) (e : pc = pc0) (hL : 14 < nL) (hc1 : oc1 a13 = true) (k : WP g d y cc nL ret (pc0 + 2) (a0 :: a1 :: a2 :: a3 :: a4 :: a5 :: a6 :: a7 :: a8 :: a9 :: a10 :: a11 :: a12 :: a13 :: some (.int x) :: t) st h c n Q) : WP g d y cc nL ret pc (a0 :: a1 :: a2 :: a3 :: a4 :: a5 :: a6 :: a7 :: a8 :: a9 :: a10 :: a11 :: a12 :: a13 :: b :: t) (.int x :: st) h c n Q := by
  subst e
  intro p l e R s m args below meth cd H locs cells slots arr C hS hP hl hc hn
  exact lv_istore C.1 C.2.1 hd hl hL rfl (fun arr1 hl1 => k p l e R s m args below meth cd H locs cells slots arr1 C hS hP (hl1.less (g_st1 (g := g) (ls := (a0 :: a1 :: a2 :: a3 :: a4 :: a5 :: a6 :: a7 :: a8 :: a9 :: a10 :: a11 :: a12 :: a13 :: b :: t)) (i := 14) (v := (.int x)) (pv1_s (i := 13) (a := a13) rfl hc1))) hc hn)
theorem wp_lstore_14 {a0 a1 a2 a3 a4 a5 a6 a7 a8 a9 a10 a11 a12 a13 : Option Value} {b b2 : Option Value} {t : List (Option Value)} {x : Int64} (hd : decode cc pc0 = .ok (.lstore 14, 2)) (e : pc = pc0) (hL : 14 + 1 < nL) (hc1 : oc1 a13 = true) (k : WP g d y cc nL ret (pc0 + 2) (a0 :: a1 :: a2 :: a3 :: a4 :: a5 :: a6 :: a7 :: a8 :: a9 :: a10 :: a11 :: a12 :: a13 :: some (.long x) :: none :: t) st h c n Q) : WP g d y cc nL ret pc (a0 :: a1 :: a2 :: a3 :: a4 :: a5 :: a6 :: a7 :: a8 :: a9 :: a10 :: a11 :: a12 :: a13 :: b :: b2 :: t) (.long x :: st) h c n Q := by
  subst e
  intro p l e R s m args below meth cd H locs cells slots arr C hS hP hl hc hn
  exact lv_lstore C.1 C.2.1 hd hl hL rfl (fun arr1 hl1 => k p l e R s m args below meth cd H locs cells slots arr1 C hS hP (hl1.less (g_st2 (g := g) (ls := (a0 :: a1 :: a2 :: a3 :: a4 :: a5 :: a6 :: a7 :: a8 :: a9 :: a10 :: a11 :: a12 :: a13 :: b :: b2 :: t)) (i := 14) (v := (.long x)) (pv1_s (i := 13) (a := a13) rfl hc1))) hc hn)
theorem wp_astore_14 {a0 a1 a2 a3 a4 a5 a6 a7 a8 a9 a10 a11 a12 a13 : Option Value} {b : Option Value} {t : List (Option Value)} {x : Nat} (hd : decode cc pc0 = .ok (.astore 14, 2)) (e : pc = pc0) (hL : 14 < nL) (hc1 : oc1 a13 = true) (k : WP g d y cc nL ret (pc0 + 2) (a0 :: a1 :: a2 :: a3 :: a4 :: a5 :: a6 :: a7 :: a8 :: a9 :: a10 :: a11 :: a12 :: a13 :: some (.ref x) :: t) st h c n Q) : WP g d y cc nL ret pc (a0 :: a1 :: a2 :: a3 :: a4 :: a5 :: a6 :: a7 :: a8 :: a9 :: a10 :: a11 :: a12 :: a13 :: b :: t) (.ref x :: st) h c n Q := by
  subst e
  intro p l e R s m args below meth cd H locs cells slots arr C hS hP hl hc hn
  exact lv_astore C.1 C.2.1 hd hl hL rfl (fun arr1 hl1 => k p l e R s m args below meth cd H locs cells slots arr1 C hS hP (hl1.less (g_st1 (g := g) (ls := (a0 :: a1 :: a2 :: a3 :: a4 :: a5 :: a6 :: a7 :: a8 :: a9 :: a10 :: a11 :: a12 :: a13 :: b :: t)) (i := 14) (v := (.ref x)) (pv1_s (i := 13) (a := a13) rfl hc1))) hc hn)
theorem wp_astoreN_14 {a0 a1 a2 a3 a4 a5 a6 a7 a8 a9 a10 a11 a12 a13 : Option Value} {b : Option Value} {t : List (Option Value)} (hd : decode cc pc0 = .ok (.astore 14, 2)) (e : pc = pc0) (hL : 14 < nL) (hc1 : oc1 a13 = true) (k : WP g d y cc nL ret (pc0 + 2) (a0 :: a1 :: a2 :: a3 :: a4 :: a5 :: a6 :: a7 :: a8 :: a9 :: a10 :: a11 :: a12 :: a13 :: some .null :: t) st h c n Q) : WP g d y cc nL ret pc (a0 :: a1 :: a2 :: a3 :: a4 :: a5 :: a6 :: a7 :: a8 :: a9 :: a10 :: a11 :: a12 :: a13 :: b :: t) (.null :: st) h c n Q := by
  subst e
  intro p l e R s m args below meth cd H locs cells slots arr C hS hP hl hc hn
  exact lv_astoreN C.1 C.2.1 hd hl hL rfl (fun arr1 hl1 => k p l e R s m args below meth cd H locs cells slots arr1 C hS hP (hl1.less (g_st1 (g := g) (ls := (a0 :: a1 :: a2 :: a3 :: a4 :: a5 :: a6 :: a7 :: a8 :: a9 :: a10 :: a11 :: a12 :: a13 :: b :: t)) (i := 14) (v := .null) (pv1_s (i := 13) (a := a13) rfl hc1))) hc hn)
theorem wp_istore_15 {a0 a1 a2 a3 a4 a5 a6 a7 a8 a9 a10 a11 a12 a13 a14 : Option Value} {b : Option Value} {t : List (Option Value)} {x : Int32} (hd : decode cc pc0 = .ok (.istore 15, 2)) (e : pc = pc0) (hL : 15 < nL) (hc1 : oc1 a14 = true) (k : WP g d y cc nL ret (pc0 + 2) (a0 :: a1 :: a2 :: a3 :: a4 :: a5 :: a6 :: a7 :: a8 :: a9 :: a10 :: a11 :: a12 :: a13 :: a14 :: some (.int x) :: t) st h c n Q) : WP g d y cc nL ret pc (a0 :: a1 :: a2 :: a3 :: a4 :: a5 :: a6 :: a7 :: a8 :: a9 :: a10 :: a11 :: a12 :: a13 :: a14 :: b :: t) (.int x :: st) h c n Q := by
  subst e
  intro p l e R s m args below meth cd H locs cells slots arr C hS hP hl hc hn
  exact lv_istore C.1 C.2.1 hd hl hL rfl (fun arr1 hl1 => k p l e R s m args below meth cd H locs cells slots arr1 C hS hP (hl1.less (g_st1 (g := g) (ls := (a0 :: a1 :: a2 :: a3 :: a4 :: a5 :: a6 :: a7 :: a8 :: a9 :: a10 :: a11 :: a12 :: a13 :: a14 :: b :: t)) (i := 15) (v := (.int x)) (pv1_s (i := 14) (a := a14) rfl hc1))) hc hn)
theorem wp_lstore_15 {a0 a1 a2 a3 a4 a5 a6 a7 a8 a9 a10 a11 a12 a13 a14 : Option Value} {b b2 : Option Value} {t : List (Option Value)} {x : Int64} (hd : decode cc pc0 = .ok (.lstore 15, 2)) (e : pc = pc0) (hL : 15 + 1 < nL) (hc1 : oc1 a14 = true) (k : WP g d y cc nL ret (pc0 + 2) (a0 :: a1 :: a2 :: a3 :: a4 :: a5 :: a6 :: a7 :: a8 :: a9 :: a10 :: a11 :: a12 :: a13 :: a14 :: some (.long x) :: none :: t) st h c n Q) : WP g d y cc nL ret pc (a0 :: a1 :: a2 :: a3 :: a4 :: a5 :: a6 :: a7 :: a8 :: a9 :: a10 :: a11 :: a12 :: a13 :: a14 :: b :: b2 :: t) (.long x :: st) h c n Q := by
  subst e
  intro p l e R s m args below meth cd H locs cells slots arr C hS hP hl hc hn
  exact lv_lstore C.1 C.2.1 hd hl hL rfl (fun arr1 hl1 => k p l e R s m args below meth cd H locs cells slots arr1 C hS hP (hl1.less (g_st2 (g := g) (ls := (a0 :: a1 :: a2 :: a3 :: a4 :: a5 :: a6 :: a7 :: a8 :: a9 :: a10 :: a11 :: a12 :: a13 :: a14 :: b :: b2 :: t)) (i := 15) (v := (.long x)) (pv1_s (i := 14) (a := a14) rfl hc1))) hc hn)
theorem wp_astore_15 {a0 a1 a2 a3 a4 a5 a6 a7 a8 a9 a10 a11 a12 a13 a14 : Option Value} {b : Option Value} {t : List (Option Value)} {x : Nat} (hd : decode cc pc0 = .ok (.astore 15, 2)) (e : pc = pc0) (hL : 15 < nL) (hc1 : oc1 a14 = true) (k : WP g d y cc nL ret (pc0 + 2) (a0 :: a1 :: a2 :: a3 :: a4 :: a5 :: a6 :: a7 :: a8 :: a9 :: a10 :: a11 :: a12 :: a13 :: a14 :: some (.ref x) :: t) st h c n Q) : WP g d y cc nL ret pc (a0 :: a1 :: a2 :: a3 :: a4 :: a5 :: a6 :: a7 :: a8 :: a9 :: a10 :: a11 :: a12 :: a13 :: a14 :: b :: t) (.ref x :: st) h c n Q := by
  subst e
  intro p l e R s m args below meth cd H locs cells slots arr C hS hP hl hc hn
  exact lv_astore C.1 C.2.1 hd hl hL rfl (fun arr1 hl1 => k p l e R s m args below meth cd H locs cells slots arr1 C hS hP (hl1.less (g_st1 (g := g) (ls := (a0 :: a1 :: a2 :: a3 :: a4 :: a5 :: a6 :: a7 :: a8 :: a9 :: a10 :: a11 :: a12 :: a13 :: a14 :: b :: t)) (i := 15) (v := (.ref x)) (pv1_s (i := 14) (a := a14) rfl hc1))) hc hn)
theorem wp_astoreN_15 {a0 a1 a2 a3 a4 a5 a6 a7 a8 a9 a10 a11 a12 a13 a14 : Option Value} {b : Option Value} {t : List (Option Value)} (hd : decode cc pc0 = .ok (.astore 15, 2)) (e : pc = pc0) (hL : 15 < nL) (hc1 : oc1 a14 = true) (k : WP g d y cc nL ret (pc0 + 2) (a0 :: a1 :: a2 :: a3 :: a4 :: a5 :: a6 :: a7 :: a8 :: a9 :: a10 :: a11 :: a12 :: a13 :: a14 :: some .null :: t) st h c n Q) : WP g d y cc nL ret pc (a0 :: a1 :: a2 :: a3 :: a4 :: a5 :: a6 :: a7 :: a8 :: a9 :: a10 :: a11 :: a12 :: a13 :: a14 :: b :: t) (.null :: st) h c n Q := by
  subst e
  intro p l e R s m args below meth cd H locs cells slots arr C hS hP hl hc hn
  exact lv_astoreN C.1 C.2.1 hd hl hL rfl (fun arr1 hl1 => k p l e R s m args below meth cd H locs cells slots arr1 C hS hP (hl1.less (g_st1 (g := g) (ls := (a0 :: a1 :: a2 :: a3 :: a4 :: a5 :: a6 :: a7 :: a8 :: a9 :: a10 :: a11 :: a12 :: a13 :: a14 :: b :: t)) (i := 15) (v := .null) (pv1_s (i := 14) (a := a14) rfl hc1))) hc hn)
theorem g_idx {l : List (Nat × Value)} {q : Nat × Value} (h : q ∈ l) : ∃ k : Nat, l[k]? = some q := List.getElem?_of_mem h
theorem g_inl {i : Nat} {x : Int32} (h : ls[i]? = some (some (.int x))) : (i, Value.int x) ∈ g_lv g 0 ls := (g_lv_mem g ls 0 _).mpr ⟨i, .int x, h, by rw [Nat.zero_add]; rfl⟩
theorem wp_iinc_0 {t : List (Option Value)} {x : Int32} {z : Int} (v : Int32) (hd : decode cc pc0 = .ok (.iinc 0 z, 3)) (e : pc = pc0) (hv : Int32.ofInt z = v) (hL : 0 < nL) (k : WP g d y cc nL ret (pc0 + 3) (some (.int (x + v)) :: t) st h c n Q) : WP g d y cc nL ret pc (some (.int x) :: t) st h c n Q := by
  subst e
  intro p l e R s m args below meth cd H locs cells slots arr C hS hP hl hc hn
  obtain ⟨kk, hk⟩ := g_idx (g_inl (g := g) (ls := (some (.int x) :: t)) (i := 0) rfl)
  exact lv_iinc C.1 C.2.1 hd hl hk (by rw [hv]) hL rfl (fun arr1 hl1 => k p l e R s m args below meth cd H locs cells slots arr1 C hS hP (hl1.less (g_st1 (g := g) (ls := (some (.int x) :: t)) (i := 0) (v := .int (x + v)) pv1_0)) hc hn)
theorem wp_iinc_1 {a0 : Option Value} {t : List (Option Value)} {x : Int32} {z : Int} (v : Int32) (hd : decode cc pc0 = .ok (.iinc 1 z, 3)) (e : pc = pc0) (hv : Int32.ofInt z = v) (hL : 1 < nL) (hc1 : oc1 a0 = true) (k : WP g d y cc nL ret (pc0 + 3) (a0 :: some (.int (x + v)) :: t) st h c n Q) : WP g d y cc nL ret pc (a0 :: some (.int x) :: t) st h c n Q := by
  subst e
  intro p l e R s m args below meth cd H locs cells slots arr C hS hP hl hc hn
  obtain ⟨kk, hk⟩ := g_idx (g_inl (g := g) (ls := (a0 :: some (.int x) :: t)) (i := 1) rfl)
  exact lv_iinc C.1 C.2.1 hd hl hk (by rw [hv]) hL rfl (fun arr1 hl1 => k p l e R s m args below meth cd H locs cells slots arr1 C hS hP (hl1.less (g_st1 (g := g) (ls := (a0 :: some (.int x) :: t)) (i := 1) (v := .int (x + v)) (pv1_s (i := 0) (a := a0) rfl hc1))) hc hn)
theorem wp_iinc_2 {a0 a1 : Option Value} {t : List (Option Value)} {x : Int32} {z : Int} (v : Int32) (hd : decode cc pc0 = .ok (.iinc 2 z, 3)) (e : pc = pc0) (hv : Int32.ofInt z = v) (hL : 2 < nL) (hc1 : oc1 a1 = true) (k : WP g d y cc nL ret (pc0 + 3) (a0 :: a1 :: some (.int (x + v)) :: t) st h c n Q) : WP g d y cc nL ret pc (a0 :: a1 :: some (.int x) :: t) st h c n Q := by
  subst e
  intro p l e R s m args below meth cd H locs cells slots arr C hS hP hl hc hn
  obtain ⟨kk, hk⟩ := g_idx (g_inl (g := g) (ls := (a0 :: a1 :: some (.int x) :: t)) (i := 2) rfl)
  exact lv_iinc C.1 C.2.1 hd hl hk (by rw [hv]) hL rfl (fun arr1 hl1 => k p l e R s m args below meth cd H locs cells slots arr1 C hS hP (hl1.less (g_st1 (g := g) (ls := (a0 :: a1 :: some (.int x) :: t)) (i := 2) (v := .int (x + v)) (pv1_s (i := 1) (a := a1) rfl hc1))) hc hn)
theorem wp_iinc_3 {a0 a1 a2 : Option Value} {t : List (Option Value)} {x : Int32} {z : Int} (v : Int32) (hd : decode cc pc0 = .ok (.iinc 3 z, 3)) (e : pc = pc0) (hv : Int32.ofInt z = v) (hL : 3 < nL) (hc1 : oc1 a2 = true) (k : WP g d y cc nL ret (pc0 + 3) (a0 :: a1 :: a2 :: some (.int (x + v)) :: t) st h c n Q) : WP g d y cc nL ret pc (a0 :: a1 :: a2 :: some (.int x) :: t) st h c n Q := by
  subst e
  intro p l e R s m args below meth cd H locs cells slots arr C hS hP hl hc hn
  obtain ⟨kk, hk⟩ := g_idx (g_inl (g := g) (ls := (a0 :: a1 :: a2 :: some (.int x) :: t)) (i := 3) rfl)
  exact lv_iinc C.1 C.2.1 hd hl hk (by rw [hv]) hL rfl (fun arr1 hl1 => k p l e R s m args below meth cd H locs cells slots arr1 C hS hP (hl1.less (g_st1 (g := g) (ls := (a0 :: a1 :: a2 :: some (.int x) :: t)) (i := 3) (v := .int (x + v)) (pv1_s (i := 2) (a := a2) rfl hc1))) hc hn)
theorem wp_iinc_4 {a0 a1 a2 a3 : Option Value} {t : List (Option Value)} {x : Int32} {z : Int} (v : Int32) (hd : decode cc pc0 = .ok (.iinc 4 z, 3)) (e : pc = pc0) (hv : Int32.ofInt z = v) (hL : 4 < nL) (hc1 : oc1 a3 = true) (k : WP g d y cc nL ret (pc0 + 3) (a0 :: a1 :: a2 :: a3 :: some (.int (x + v)) :: t) st h c n Q) : WP g d y cc nL ret pc (a0 :: a1 :: a2 :: a3 :: some (.int x) :: t) st h c n Q := by
  subst e
  intro p l e R s m args below meth cd H locs cells slots arr C hS hP hl hc hn
  obtain ⟨kk, hk⟩ := g_idx (g_inl (g := g) (ls := (a0 :: a1 :: a2 :: a3 :: some (.int x) :: t)) (i := 4) rfl)
  exact lv_iinc C.1 C.2.1 hd hl hk (by rw [hv]) hL rfl (fun arr1 hl1 => k p l e R s m args below meth cd H locs cells slots arr1 C hS hP (hl1.less (g_st1 (g := g) (ls := (a0 :: a1 :: a2 :: a3 :: some (.int x) :: t)) (i := 4) (v := .int (x + v)) (pv1_s (i := 3) (a := a3) rfl hc1))) hc hn)
theorem wp_iinc_5 {a0 a1 a2 a3 a4 : Option Value} {t : List (Option Value)} {x : Int32} {z : Int} (v : Int32) (hd : decode cc pc0 = .ok (.iinc 5 z, 3)) (e : pc = pc0) (hv : Int32.ofInt z = v) (hL : 5 < nL) (hc1 : oc1 a4 = true) (k : WP g d y cc nL ret (pc0 + 3) (a0 :: a1 :: a2 :: a3 :: a4 :: some (.int (x + v)) :: t) st h c n Q) : WP g d y cc nL ret pc (a0 :: a1 :: a2 :: a3 :: a4 :: some (.int x) :: t) st h c n Q := by
  subst e
  intro p l e R s m args below meth cd H locs cells slots arr C hS hP hl hc hn
  obtain ⟨kk, hk⟩ := g_idx (g_inl (g := g) (ls := (a0 :: a1 :: a2 :: a3 :: a4 :: some (.int x) :: t)) (i := 5) rfl)
  exact lv_iinc C.1 C.2.1 hd hl hk (by rw [hv]) hL rfl (fun arr1 hl1 => k p l e R s m args below meth cd H locs cells slots arr1 C hS hP (hl1.less (g_st1 (g := g) (ls := (a0 :: a1 :: a2 :: a3 :: a4 :: some (.int x) :: t)) (i := 5) (v := .int (x + v)) (pv1_s (i := 4) (a := a4) rfl hc1))) hc hn)
theorem wp_iinc_6 {a0 a1 a2 a3 a4 a5 : Option Value} {t : List (Option Value)} {x : Int32} {z : Int} (v : Int32) (hd : decode cc pc0 = .ok (.iinc 6 z, 3)) (e : pc = pc0) (hv : Int32.ofInt z = v) (hL : 6 < nL) (hc1 : oc1 a5 = true) (k : WP g d y cc nL ret (pc0 + 3) (a0 :: a1 :: a2 :: a3 :: a4 :: a5 :: some (.int (x + v)) :: t) st h c n Q) : WP g d y cc nL ret pc (a0 :: a1 :: a2 :: a3 :: a4 :: a5 :: some (.int x) :: t) st h c n Q := by
  subst e
  intro p l e R s m args below meth cd H locs cells slots arr C hS hP hl hc hn
  obtain ⟨kk, hk⟩ := g_idx (g_inl (g := g) (ls := (a0 :: a1 :: a2 :: a3 :: a4 :: a5 :: some (.int x) :: t)) (i := 6) rfl)
  exact lv_iinc C.1 C.2.1 hd hl hk (by rw [hv]) hL rfl (fun arr1 hl1 => k p l e R s m args below meth cd H locs cells slots arr1 C hS hP (hl1.less (g_st1 (g := g) (ls := (a0 :: a1 :: a2 :: a3 :: a4 :: a5 :: some (.int x) :: t)) (i := 6) (v := .int (x + v)) (pv1_s (i := 5) (a := a5) rfl hc1))) hc hn)
theorem wp_iinc_7 {a0 a1 a2 a3 a4 a5 a6 : Option Value} {t : List (Option Value)} {x : Int32} {z : Int} (v : Int32) (hd : decode cc pc0 = .ok (.iinc 7 z, 3)) (e : pc = pc0) (hv : Int32.ofInt z = v) (hL : 7 < nL) (hc1 : oc1 a6 = true) (k : WP g d y cc nL ret (pc0 + 3) (a0 :: a1 :: a2 :: a3 :: a4 :: a5 :: a6 :: some (.int (x + v)) :: t) st h c n Q) : WP g d y cc nL ret pc (a0 :: a1 :: a2 :: a3 :: a4 :: a5 :: a6 :: some (.int x) :: t) st h c n Q := by
  subst e
  intro p l e R s m args below meth cd H locs cells slots arr C hS hP hl hc hn
  obtain ⟨kk, hk⟩ := g_idx (g_inl (g := g) (ls := (a0 :: a1 :: a2 :: a3 :: a4 :: a5 :: a6 :: some (.int x) :: t)) (i := 7) rfl)
  exact lv_iinc C.1 C.2.1 hd hl hk (by rw [hv]) hL rfl (fun arr1 hl1 => k p l e R s m args below meth cd H locs cells slots arr1 C hS hP (hl1.less (g_st1 (g := g) (ls := (a0 :: a1 :: a2 :: a3 :: a4 :: a5 :: a6 :: some (.int x) :: t)) (i := 7) (v := .int (x + v)) (pv1_s (i := 6) (a := a6) rfl hc1))) hc hn)
theorem wp_iinc_8 {a0 a1 a2 a3 a4 a5 a6 a7 : Option Value} {t : List (Option Value)} {x : Int32} {z : Int} (v : Int32) (hd : decode cc pc0 = .ok (.iinc 8 z, 3)) (e : pc = pc0) (hv : Int32.ofInt z = v) (hL : 8 < nL) (hc1 : oc1 a7 = true) (k : WP g d y cc nL ret (pc0 + 3) (a0 :: a1 :: a2 :: a3 :: a4 :: a5 :: a6 :: a7 :: some (.int (x + v)) :: t) st h c n Q) : WP g d y cc nL ret pc (a0 :: a1 :: a2 :: a3 :: a4 :: a5 :: a6 :: a7 :: some (.int x) :: t) st h c n Q := by
  subst e
  intro p l e R s m args below meth cd H locs cells slots arr C hS hP hl hc hn
  obtain ⟨kk, hk⟩ := g_idx (g_inl (g := g) (ls := (a0 :: a1 :: a2 :: a3 :: a4 :: a5 :: a6 :: a7 :: some (.int x) :: t)) (i := 8) rfl)
  exact lv_iinc C.1 C.2.1 hd hl hk (by rw [hv]) hL rfl (fun arr1 hl1 => k p l e R s m args below meth cd H locs cells slots arr1 C hS hP (hl1.less (g_st1 (g := g) (ls := (a0 :: a1 :: a2 :: a3 :: a4 :: a5 :: a6 :: a7 :: some (.int x) :: t)) (i := 8) (v := .int (x + v)) (pv1_s (i := 7) (a := a7) rfl hc1))) hc hn)
theorem wp_iinc_9 {a0 a1 a2 a3 a4 a5 a6 a7 a8 : Option Value} {t : List (Option Value)} {x : Int32} {z : Int} (v : Int32) (hd : decode cc pc0 = .ok (.iinc 9 z, 3)) (e : pc = pc0) (hv : Int32.ofInt z = v) (hL : 9 < nL) (hc1 : oc1 a8 = true) (k : WP g d y cc nL ret (pc0 + 3) (a0 :: a1 :: a2 :: a3 :: a4 :: a5 :: a6 :: a7 :: a8 :: some (.int (x + v)) :: t) st h c n Q) : WP g d y cc nL ret pc (a0 :: a1 :: a2 :: a3 :: a4 :: a5 :: a6 :: a7 :: a8 :: some (.int x) :: t) st h c n Q := by
  subst e
  intro p l e R s m args below meth cd H locs cells slots arr C hS hP hl hc hn
  obtain ⟨kk, hk⟩ := g_idx (g_inl (g := g) (ls := (a0 :: a1 :: a2 :: a3 :: a4 :: a5 :: a6 :: a7 :: a8 :: some (.int x) :: t)) (i := 9) rfl)
  exact lv_iinc C.1 C.2.1 hd hl hk (by rw [hv]) hL rfl (fun arr1 hl1 => k p l e R s m args below meth cd H locs cells slots arr1 C hS hP (hl1.less (g_st1 (g := g) (ls := (a0 :: a1 :: a2 :: a3 :: a4 :: a5 :: a6 :: a7 :: a8 :: some (.int x) :: t)) (i := 9) (v := .int (x + v)) (pv1_s (i := 8) (a := a8) rfl hc1))) hc hn)
theorem wp_iinc_10 {a0 a1 a2 a3 a4 a5 a6 a7 a8 a9 : Option Value} {t : List (Option Value)} {x : Int32} {z : Int} (v : Int32) (hd : decode cc pc0 = .ok (.iinc 10 z, 3)) (e : pc = pc0) (hv : Int32.ofInt z = v) (hL : 10 < nL) (hc1 : oc1 a9 = true) (k : WP g d y cc nL ret (pc0 + 3) (a0 :: a1 :: a2 :: a3 :: a4 :: a5 :: a6 :: a7 :: a8 :: a9 :: some (.int (x + v)) :: t) st h c n Q) : WP g d y cc nL ret pc (a0 :: a1 :: a2 :: a3 :: a4 :: a5 :: a6 :: a7 :: a8 :: a9 :: some (.int x) :: t) st h c n Q := by
  subst e
  intro p l e R s m args below meth cd H locs cells slots arr C hS hP hl hc hn
  obtain ⟨kk, hk⟩ := g_idx (g_inl (g := g) (ls := (a0 :: a1 :: a2 :: a3 :: a4 :: a5 :: a6 :: a7 :: a8 :: a9 :: some (.int x) :: t)) (i := 10) rfl)
  exact lv_iinc C.1 C.2.1 hd hl hk (by rw [hv]) hL rfl (fun arr1 hl1 => k p l e R s m args below meth cd H locs cells slots arr1 C hS hP (hl1.less (g_st1 (g := g) (ls := (a0 :: a1 :: a2 :: a3 :: a4 :: a5 :: a6 :: a7 :: a8 :: a9 :: some (.int x) :: t)) (i := 10) (v := .int (x + v)) (pv1_s (i := 9) (a := a9) rfl hc1))) hc hn)
theorem wp_iinc_11 {a0 a1 a2 a3 a4 a5 a6 a7 a8 a9 a10 : Option Value} {t : List (Option Value)} {x : Int32} {z : Int} (v : Int32) (hd : decode cc pc0 = .ok (.iinc 11 z, 3)) (e : pc = pc0) (hv : Int32.ofInt z = v) (hL : 11 < nL) (hc1 : oc1 a10 = true) (k : WP g d y cc nL ret (pc0 + 3) (a0 :: a1 :: a2 :: a3 :: a4 :: a5 :: a6 :: a7 :: a8 :: a9 :: a10 :: some (.int (x + v)) :: t) st h c n Q) : WP g d y cc nL ret pc (a0 :: a1 :: a2 :: a3 :: a4 :: a5 :: a6 :: a7 :: a8 :: a9 :: a10 :: some (.int x) :: t) st h c n Q := by
  subst e
  intro p l e R s m args below meth cd H locs cells slots arr C hS hP hl hc hn
  obtain ⟨kk, hk⟩ := g_idx (g_inl (g := g) (ls := (a0 :: a1 :: a2 :: a3 :: a4 :: a5 :: a6 :: a7 :: a8 :: a9 :: a10 :: some (.int x) :: t)) (i := 11) rfl)
  exact lv_iinc C.1 C.2.1 hd hl hk (by rw [hv]) hL rfl (fun arr1 hl1 => k p l e R s m args below meth cd H locs cells slots arr1 C hS hP (hl1.less (g_st1 (g := g) (ls := (a0 :: a1 :: a2 :: a3 :: a4 :: a5 :: a6 :: a7 :: a8 :: a9 :: a10 :: some (.int x) :: t)) (i := 11) (v := .int (x + v)) (pv1_s (i := 10) (a := a10) rfl hc1))) hc hn)
theorem wp_iinc_12 {a0 a1 a2 a3 a4 a5 a6 a7 a8 a9 a10 a11 : Option Value} {t : List (Option Value)} {x : Int32} {z : Int} (v : Int32) (hd : decode cc pc0 = .ok (.iinc 12 z, 3)) (e : pc = pc0) (hv : Int32.ofInt z = v) (hL : 12 < nL) (hc1 : oc1 a11 = true) (k : WP g d y cc nL ret (pc0 + 3) (a0 :: a1 :: a2 :: a3 :: a4 :: a5 :: a6 :: a7 :: a8 :: a9 :: a10 :: a11 :: some (.int (x + v)) :: t) st h c n Q) : WP g d y cc nL ret pc (a0 :: a1 :: a2 :: a3 :: a4 :: a5 :: a6 :: a7 :: a8 :: a9 :: a10 :: a11 :: some (.int x) :: t) st h c n Q := by
  subst e
  intro p l e R s m args below meth cd H locs cells slots arr C hS hP hl hc hn
  obtain ⟨kk, hk⟩ := g_idx (g_inl (g := g) (ls := (a0 :: a1 :: a2 :: a3 :: a4 :: a5 :: a6 :: a7 :: a8 :: a9 :: a10 :: a11 :: some (.int x) :: t)) (i := 12) rfl)
  exact lv_iinc C.1 C.2.1 hd hl hk (by rw [hv]) hL rfl (fun arr1 hl1 => k p l e R s m args below meth cd H locs cells slots arr1 C hS hP (hl1.less (g_st1 (g := g) (ls := (a0 :: a1 :: a2 :: a3 :: a4 :: a5 :: a6 :: a7 :: a8 :: a9 :: a10 :: a11 :: some (.int x) :: t)) (i := 12) (v := .int (x + v)) (pv1_s (i := 11) (a := a11) rfl hc1))) hc hn)
theorem wp_iinc_13 {a0 a1 a2 a3 a4 a5 a6 a7 a8 a9 a10 a11 a12 : Option Value} {t : List (Option Value)} {x : Int32} {z : Int} (v : Int32) (hd : decode cc pc0 = .ok (.iinc 13 z, 3)) (e : pc = pc0) (hv : Int32.ofInt z = v) (hL : 13 < nL) (hc1 : oc1 a12 = true) (k : WP g d y cc nL ret (pc0 + 3) (a0 :: a1 :: a2 :: a3 :: a4 :: a5 :: a6 :: a7 :: a8 :: a9 :: a10 :: a11 :: a12 :: some (.int (x + v)) :: t) st h c n Q) : WP g d y cc nL ret pc (a0 :: a1 :: a2 :: a3 :: a4 :: a5 :: a6 :: a7 :: a8 :: a9 :: a10 :: a11 :: a12 :: some (.int x) :: t) st h c n Q := by
  subst e
  intro p l e R s m args below meth cd H locs cells slots arr C hS hP hl hc hn
  obtain ⟨kk, hk⟩ := g_idx (g_inl (g := g) (ls := (a0 :: a1 :: a2 :: a3 :: a4 :: a5 :: a6 :: a7 :: a8 :: a9 :: a10 :: a11 :: a12 :: some (.int x) :: t)) (i := 13) rfl)
  exact lv_iinc C.1 C.2.1 hd hl hk (by rw [hv]) hL rfl (fun arr1 hl1 => k p l e R s m args below meth cd H locs cells slots arr1 C hS hP (hl1.less (g_st1 (g := g) (ls := (a0 :: a1 :: a2 :: a3 :: a4 :: a5 :: a6 :: a7 :: a8 :: a9 :: a10 :: a11 :: a12 :: some (.int x) :: t)) (i := 13) (v := .int (x + v)) (pv1_s (i := 12) (a := a12) rfl hc1))) hc hn)
theorem wp_iinc_14 {a0 a1 a2 a3 a4 a5 a6 a7 a8 a9 a10 a11 a12 a13 : Option Value} {t : List (Option Value)} {x : Int32} {z : Int} (v : Int32) (hd : decode cc pc0 = .ok (.iinc 14 z, 3)) (e : pc = pc0) (hv : Int32.ofInt z = v) (hL : 14 < nL) (hc1 : oc1 a13 = true) (k : WP g d y cc nL ret (pc0 + 3) (a0 :: a1 :: a2 :: a3 :: a4 :: a5 :: a6 :: a7 :: a8 :: a9 :: a10 :: a11 :: a12 :: a13 :: some (.int (x + v)) :: t) st h c n Q) : WP g d y cc nL ret pc (a0 :: a1 :: a2 :: a3 :: a4 :: a5 :: a6 :: a7 :: a8 :: a9 :: a10 :: a11 :: a12 :: a13 :: some (.int x) :: t) st h c n Q := by
  subst e
  intro p l e R s m args below meth cd H locs cells slots arr C hS hP hl hc hn
  obtain ⟨kk, hk⟩ := g_idx (g_inl (g := g) (ls := (a0 :: a1 :: a2 :: a3 :: a4 :: a5 :: a6 :: a7 :: a8 :: a9 :: a10 :: a11 :: a12 :: a13 :: some (.int x) :: t)) (i := 14) rfl)
  exact lv_iinc C.1 C.2.1 hd hl hk (by rw [hv]) hL rfl (fun arr1 hl1 => k p l e R s m args below meth cd H locs cells slots arr1 C hS hP (hl1.less (g_st1 (g := g) (ls := (a0 :: a1 :: a2 :: a3 :: a4 :: a5 :: a6 :: a7 :: a8 :: a9 :: a10 :: a11 :: a12 :: a13 :: some (.int x) :: t)) (i := 14) (v := .int (x + v)) (pv1_s (i := 13) (a := a13) rfl hc1))) hc hn)
theorem wp_iinc_15 {a0 a1 a2 a3 a4 a5 a6 a7 a8 a9 a10 a11 a12 a13 a14 : Option Value} {t : List (Option Value)} {x : Int32} {z : Int} (v : Int32) (hd : decode cc pc0 = .ok (.iinc 15 z, 3)) (e : pc = pc0) (hv : Int32.ofInt z = v) (hL : 15 < nL) (hc1 : oc1 a14 = true) (k : WP g d y cc nL ret (pc0 + 3) (a0 :: a1 :: a2 :: a3 :: a4 :: a5 :: a6 :: a7 :: a8 :: a9 :: a10 :: a11 :: a12 :: a13 :: a14 :: some (.int (x + v)) :: t) st h c n Q) : WP g d y cc nL ret pc (a0 :: a1 :: a2 :: a3 :: a4 :: a5 :: a6 :: a7 :: a8 :: a9 :: a10 :: a11 :: a12 :: a13 :: a14 :: some (.int x) :: t) st h c n Q := by
  subst e
  intro p l e R s m args below meth cd H locs cells slots arr C hS hP hl hc hn
  obtain ⟨kk, hk⟩ := g_idx (g_inl (g := g) (ls := (a0 :: a1 :: a2 :: a3 :: a4 :: a5 :: a6 :: a7 :: a8 :: a9 :: a10 :: a11 :: a12 :: a13 :: a14 :: some (.int x) :: t)) (i := 15) rfl)
  exact lv_iinc C.1 C.2.1 hd hl hk (by rw [hv]) hL rfl (fun arr1 hl1 => k p l e R s m args below meth cd H locs cells slots arr1 C hS hP (hl1.less (g_st1 (g := g) (ls := (a0 :: a1 :: a2 :: a3 :: a4 :: a5 :: a6 :: a7 :: a8 :: a9 :: a10 :: a11 :: a12 :: a13 :: a14 :: some (.int x) :: t)) (i := 15) (v := .int (x + v)) (pv1_s (i := 14) (a := a14) rfl hc1))) hc hn)
end RW
