section ROWA
variable {g : dwG} {z : Nat × Nat} {M0 : dwSt} {p : Program} {l : Launch} {e : Env} {R : Room} {s : State} {m : MethodId} {args : Array Value} {below : List Frame} {meth : Method} {c : Code} {M : dwSt} {Q : State → Prop} {own : String} {cc : ByteArray} {nL : Nat} {pc : Nat} {ls : Array Slot} {rest : List Value} {ρ : Type} {res : ρ}
theorem v_iconst (cx : dwCx g z M0 p l R s m args meth c own cc nL) {n : Int} {v : Int32} (hdg : decode cc pc = .ok (.iconst n, 1)) (hv : Int32.ofInt n = v) (k : dwV g z p l e R s m args below meth c M Q (F0 m (pc + 1) ls (.int v :: rest))) : dwV g z p l e R s m args below meth c M Q (F0 m pc ls (rest)) := fun H locs cells slots hS hL => lv_iconst cx.1 cx.2.1  hdg hv (k H locs cells slots hS hL)
theorem v_bipush (cx : dwCx g z M0 p l R s m args meth c own cc nL) {n : Int} {v : Int32} (hdg : decode cc pc = .ok (.bipush n, 2)) (hv : (Int8.ofInt n).toInt32 = v) (k : dwV g z p l e R s m args below meth c M Q (F0 m (pc + 2) ls (.int v :: rest))) : dwV g z p l e R s m args below meth c M Q (F0 m pc ls (rest)) := fun H locs cells slots hS hL => lv_bipush cx.1 cx.2.1  hdg hv (k H locs cells slots hS hL)
theorem v_sipush (cx : dwCx g z M0 p l R s m args meth c own cc nL) {n : Int} {v : Int32} (hdg : decode cc pc = .ok (.sipush n, 3)) (hv : (Int16.ofInt n).toInt32 = v) (k : dwV g z p l e R s m args below meth c M Q (F0 m (pc + 3) ls (.int v :: rest))) : dwV g z p l e R s m args below meth c M Q (F0 m pc ls (rest)) := fun H locs cells slots hS hL => lv_sipush cx.1 cx.2.1  hdg hv (k H locs cells slots hS hL)
theorem v_lconst (cx : dwCx g z M0 p l R s m args meth c own cc nL) {n : Fin 2} {v : Int64} (hdg : decode cc pc = .ok (.lconst n, 1)) (hv : Int64.ofNat (n : Nat) = v) (k : dwV g z p l e R s m args below meth c M Q (F0 m (pc + 1) ls (.long v :: rest))) : dwV g z p l e R s m args below meth c M Q (F0 m pc ls (rest)) := fun H locs cells slots hS hL => lv_lconst cx.1 cx.2.1  hdg hv (k H locs cells slots hS hL)
theorem v_iload_n (cx : dwCx g z M0 p l R s m args meth c own cc nL) {k0 : Fin 4} {i : Nat} {x : Int32} (hdg : decode cc pc = .ok (.iload_n k0, 1)) (hi : (k0 : Nat) = i) (hl : ls[i]? = some (.val (.int x))) (k : dwV g z p l e R s m args below meth c M Q (F0 m (pc + 1) ls (.int x :: rest))) : dwV g z p l e R s m args below meth c M Q (F0 m pc ls (rest)) := fun H locs cells slots hS hL => lv_iload_n cx.1 cx.2.1  hdg hi hl (k H locs cells slots hS hL)
theorem v_iload (cx : dwCx g z M0 p l R s m args meth c own cc nL) {i : Nat} {x : Int32} (hdg : decode cc pc = .ok (.iload i, 2)) (hl : ls[i]? = some (.val (.int x))) (k : dwV g z p l e R s m args below meth c M Q (F0 m (pc + 2) ls (.int x :: rest))) : dwV g z p l e R s m args below meth c M Q (F0 m pc ls (rest)) := fun H locs cells slots hS hL => lv_iload cx.1 cx.2.1  hdg hl (k H locs cells slots hS hL)
theorem v_lload_n (cx : dwCx g z M0 p l R s m args meth c own cc nL) {k0 : Fin 4} {i : Nat} {x : Int64} (hdg : decode cc pc = .ok (.lload_n k0, 1)) (hi : (k0 : Nat) = i) (hl : ls[i]? = some (.val (.long x))) (k : dwV g z p l e R s m args below meth c M Q (F0 m (pc + 1) ls (.long x :: rest))) : dwV g z p l e R s m args below meth c M Q (F0 m pc ls (rest)) := fun H locs cells slots hS hL => lv_lload_n cx.1 cx.2.1  hdg hi hl (k H locs cells slots hS hL)
theorem v_lload (cx : dwCx g z M0 p l R s m args meth c own cc nL) {i : Nat} {x : Int64} (hdg : decode cc pc = .ok (.lload i, 2)) (hl : ls[i]? = some (.val (.long x))) (k : dwV g z p l e R s m args below meth c M Q (F0 m (pc + 2) ls (.long x :: rest))) : dwV g z p l e R s m args below meth c M Q (F0 m pc ls (rest)) := fun H locs cells slots hS hL => lv_lload cx.1 cx.2.1  hdg hl (k H locs cells slots hS hL)
theorem v_aload_n (cx : dwCx g z M0 p l R s m args meth c own cc nL) {k0 : Fin 4} {i : Nat} {x : Nat} (hdg : decode cc pc = .ok (.aload_n k0, 1)) (hi : (k0 : Nat) = i) (hl : ls[i]? = some (.val (.ref x))) (k : dwV g z p l e R s m args below meth c M Q (F0 m (pc + 1) ls (.ref x :: rest))) : dwV g z p l e R s m args below meth c M Q (F0 m pc ls (rest)) := fun H locs cells slots hS hL => lv_aload_n cx.1 cx.2.1  hdg hi hl (k H locs cells slots hS hL)
theorem v_aload (cx : dwCx g z M0 p l R s m args meth c own cc nL) {i : Nat} {x : Nat} (hdg : decode cc pc = .ok (.aload i, 2)) (hl : ls[i]? = some (.val (.ref x))) (k : dwV g z p l e R s m args below meth c M Q (F0 m (pc + 2) ls (.ref x :: rest))) : dwV g z p l e R s m args below meth c M Q (F0 m pc ls (rest)) := fun H locs cells slots hS hL => lv_aload cx.1 cx.2.1  hdg hl (k H locs cells slots hS hL)
theorem v_aload_nN (cx : dwCx g z M0 p l R s m args meth c own cc nL) {k0 : Fin 4} {i : Nat} (hdg : decode cc pc = .ok (.aload_n k0, 1)) (hi : (k0 : Nat) = i) (hl : ls[i]? = some (.val .null)) (k : dwV g z p l e R s m args below meth c M Q (F0 m (pc + 1) ls (.null :: rest))) : dwV g z p l e R s m args below meth c M Q (F0 m pc ls rest) := fun H locs cells slots hS hL => lv_aload_nN cx.1 cx.2.1 hdg hi hl (k H locs cells slots hS hL)
theorem v_aload_nO (cx : dwCx g z M0 p l R s m args meth c own cc nL) {k0 : Fin 4} {i : Nat} {x : Option Nat} (hdg : decode cc pc = .ok (.aload_n k0, 1)) (hi : (k0 : Nat) = i) (hl : ls[i]? = some (.val (va_rf x))) (k : dwV g z p l e R s m args below meth c M Q (F0 m (pc + 1) ls (va_rf x :: rest))) : dwV g z p l e R s m args below meth c M Q (F0 m pc ls rest) := by
  cases x with
  | none => exact v_aload_nN cx hdg hi hl k
  | some y => exact v_aload_n cx hdg hi hl k
theorem v_istore_n (cx : dwCx g z M0 p l R s m args meth c own cc nL) {k0 : Fin 4} {i n : Nat} {x : Int32} {lv lv' : List (Nat × Value)} (hdg : decode cc pc = .ok (.istore_n k0, 1)) (hi : (k0 : Nat) = i) (h : lv_has ls n lv) (hn : (i < n)) (hl : (i, Value.int x) :: lv.filter (fun q => !(q.1 == i) && !(q.1 + 1 == i && q.2.category == 2)) = lv') (kk : ∀ ls' : Array Slot, lv_has ls' n lv' → dwV g z p l e R s m args below meth c M Q (F0 m (pc + 1) ls' rest)) : dwV g z p l e R s m args below meth c M Q (F0 m pc ls (.int x :: rest)) := fun H locs cells slots hS hL => lv_istore_n cx.1 cx.2.1 hdg hi h hn hl (fun ls' hl' => kk ls' hl' H locs cells slots hS hL)
theorem v_istore (cx : dwCx g z M0 p l R s m args meth c own cc nL) {i n : Nat} {x : Int32} {lv lv' : List (Nat × Value)} (hdg : decode cc pc = .ok (.istore i, 2)) (h : lv_has ls n lv) (hn : (i < n)) (hl : (i, Value.int x) :: lv.filter (fun q => !(q.1 == i) && !(q.1 + 1 == i && q.2.category == 2)) = lv') (kk : ∀ ls' : Array Slot, lv_has ls' n lv' → dwV g z p l e R s m args below meth c M Q (F0 m (pc + 2) ls' rest)) : dwV g z p l e R s m args below meth c M Q (F0 m pc ls (.int x :: rest)) := fun H locs cells slots hS hL => lv_istore cx.1 cx.2.1 hdg h hn hl (fun ls' hl' => kk ls' hl' H locs cells slots hS hL)
theorem v_lstore_n (cx : dwCx g z M0 p l R s m args meth c own cc nL) {k0 : Fin 4} {i n : Nat} {x : Int64} {lv lv' : List (Nat × Value)} (hdg : decode cc pc = .ok (.lstore_n k0, 1)) (hi : (k0 : Nat) = i) (h : lv_has ls n lv) (hn : (i + 1 < n)) (hl : (i, Value.long x) :: lv.filter (fun q => !(q.1 == i) && (!(q.1 == i + 1) && !(q.1 + 1 == i && q.2.category == 2))) = lv') (kk : ∀ ls' : Array Slot, lv_has ls' n lv' → dwV g z p l e R s m args below meth c M Q (F0 m (pc + 1) ls' rest)) : dwV g z p l e R s m args below meth c M Q (F0 m pc ls (.long x :: rest)) := fun H locs cells slots hS hL => lv_lstore_n cx.1 cx.2.1 hdg hi h hn hl (fun ls' hl' => kk ls' hl' H locs cells slots hS hL)
theorem v_lstore (cx : dwCx g z M0 p l R s m args meth c own cc nL) {i n : Nat} {x : Int64} {lv lv' : List (Nat × Value)} (hdg : decode cc pc = .ok (.lstore i, 2)) (h : lv_has ls n lv) (hn : (i + 1 < n)) (hl : (i, Value.long x) :: lv.filter (fun q => !(q.1 == i) && (!(q.1 == i + 1) && !(q.1 + 1 == i && q.2.category == 2))) = lv') (kk : ∀ ls' : Array Slot, lv_has ls' n lv' → dwV g z p l e R s m args below meth c M Q (F0 m (pc + 2) ls' rest)) : dwV g z p l e R s m args below meth c M Q (F0 m pc ls (.long x :: rest)) := fun H locs cells slots hS hL => lv_lstore cx.1 cx.2.1 hdg h hn hl (fun ls' hl' => kk ls' hl' H locs cells slots hS hL)
theorem v_astore_n (cx : dwCx g z M0 p l R s m args meth c own cc nL) {k0 : Fin 4} {i n : Nat} {x : Nat} {lv lv' : List (Nat × Value)} (hdg : decode cc pc = .ok (.astore_n k0, 1)) (hi : (k0 : Nat) = i) (h : lv_has ls n lv) (hn : (i < n)) (hl : (i, Value.ref x) :: lv.filter (fun q => !(q.1 == i) && !(q.1 + 1 == i && q.2.category == 2)) = lv') (kk : ∀ ls' : Array Slot, lv_has ls' n lv' → dwV g z p l e R s m args below meth c M Q (F0 m (pc + 1) ls' rest)) : dwV g z p l e R s m args below meth c M Q (F0 m pc ls (.ref x :: rest)) := fun H locs cells slots hS hL => lv_astore_n cx.1 cx.2.1 hdg hi h hn hl (fun ls' hl' => kk ls' hl' H locs cells slots hS hL)
theorem v_astore (cx : dwCx g z M0 p l R s m args meth c own cc nL) {i n : Nat} {x : Nat} {lv lv' : List (Nat × Value)} (hdg : decode cc pc = .ok (.astore i, 2)) (h : lv_has ls n lv) (hn : (i < n)) (hl : (i, Value.ref x) :: lv.filter (fun q => !(q.1 == i) && !(q.1 + 1 == i && q.2.category == 2)) = lv') (kk : ∀ ls' : Array Slot, lv_has ls' n lv' → dwV g z p l e R s m args below meth c M Q (F0 m (pc + 2) ls' rest)) : dwV g z p l e R s m args below meth c M Q (F0 m pc ls (.ref x :: rest)) := fun H locs cells slots hS hL => lv_astore cx.1 cx.2.1 hdg h hn hl (fun ls' hl' => kk ls' hl' H locs cells slots hS hL)
theorem v_iinc (cx : dwCx g z M0 p l R s m args meth c own cc nL) {i n k0 : Nat} {d : Int} {x v : Int32} {lv lv' : List (Nat × Value)} (hdg : decode cc pc = .ok (.iinc i d, 3)) (h : lv_has ls n lv) (hk : lv[k0]? = some (i, .int x)) (hv : x + Int32.ofInt d = v) (hn : i < n) (hl : (i, Value.int v) :: lv.filter (fun q => !(q.1 == i) && !(q.1 + 1 == i && q.2.category == 2)) = lv') (kk : ∀ ls' : Array Slot, lv_has ls' n lv' → dwV g z p l e R s m args below meth c M Q (F0 m (pc + 3) ls' rest)) : dwV g z p l e R s m args below meth c M Q (F0 m pc ls rest) := fun H locs cells slots hS hL => lv_iinc cx.1 cx.2.1 hdg h hk hv hn hl (fun ls' hl' => kk ls' hl' H locs cells slots hS hL)
theorem v_iadd (cx : dwCx g z M0 p l R s m args meth c own cc nL) {x y : Int32} (hdg : decode cc pc = .ok (.iadd, 1))  (k : dwV g z p l e R s m args below meth c M Q (F0 m (pc + 1) ls (.int (x + y) :: rest))) : dwV g z p l e R s m args below meth c M Q (F0 m pc ls (.int y :: .int x :: rest)) := fun H locs cells slots hS hL => lv_iadd cx.1 cx.2.1  hdg  (k H locs cells slots hS hL)
theorem v_isub (cx : dwCx g z M0 p l R s m args meth c own cc nL) {x y : Int32} (hdg : decode cc pc = .ok (.isub, 1))  (k : dwV g z p l e R s m args below meth c M Q (F0 m (pc + 1) ls (.int (x - y) :: rest))) : dwV g z p l e R s m args below meth c M Q (F0 m pc ls (.int y :: .int x :: rest)) := fun H locs cells slots hS hL => lv_isub cx.1 cx.2.1  hdg  (k H locs cells slots hS hL)
theorem v_imul (cx : dwCx g z M0 p l R s m args meth c own cc nL) {x y : Int32} (hdg : decode cc pc = .ok (.imul, 1))  (k : dwV g z p l e R s m args below meth c M Q (F0 m (pc + 1) ls (.int (x * y) :: rest))) : dwV g z p l e R s m args below meth c M Q (F0 m pc ls (.int y :: .int x :: rest)) := fun H locs cells slots hS hL => lv_imul cx.1 cx.2.1  hdg  (k H locs cells slots hS hL)
theorem v_iand (cx : dwCx g z M0 p l R s m args meth c own cc nL) {x y : Int32} (hdg : decode cc pc = .ok (.iand, 1))  (k : dwV g z p l e R s m args below meth c M Q (F0 m (pc + 1) ls (.int (x &&& y) :: rest))) : dwV g z p l e R s m args below meth c M Q (F0 m pc ls (.int y :: .int x :: rest)) := fun H locs cells slots hS hL => lv_iand cx.1 cx.2.1  hdg  (k H locs cells slots hS hL)
theorem v_ior (cx : dwCx g z M0 p l R s m args meth c own cc nL) {x y : Int32} (hdg : decode cc pc = .ok (.ior, 1))  (k : dwV g z p l e R s m args below meth c M Q (F0 m (pc + 1) ls (.int (x ||| y) :: rest))) : dwV g z p l e R s m args below meth c M Q (F0 m pc ls (.int y :: .int x :: rest)) := fun H locs cells slots hS hL => lv_ior cx.1 cx.2.1  hdg  (k H locs cells slots hS hL)
theorem v_ixor (cx : dwCx g z M0 p l R s m args meth c own cc nL) {x y : Int32} (hdg : decode cc pc = .ok (.ixor, 1))  (k : dwV g z p l e R s m args below meth c M Q (F0 m (pc + 1) ls (.int (x ^^^ y) :: rest))) : dwV g z p l e R s m args below meth c M Q (F0 m pc ls (.int y :: .int x :: rest)) := fun H locs cells slots hS hL => lv_ixor cx.1 cx.2.1  hdg  (k H locs cells slots hS hL)
theorem v_ishl (cx : dwCx g z M0 p l R s m args meth c own cc nL) {x y : Int32} (hdg : decode cc pc = .ok (.ishl, 1))  (k : dwV g z p l e R s m args below meth c M Q (F0 m (pc + 1) ls (.int (x <<< (y &&& 31)) :: rest))) : dwV g z p l e R s m args below meth c M Q (F0 m pc ls (.int y :: .int x :: rest)) := fun H locs cells slots hS hL => lv_ishl cx.1 cx.2.1  hdg  (k H locs cells slots hS hL)
theorem v_ishr (cx : dwCx g z M0 p l R s m args meth c own cc nL) {x y : Int32} (hdg : decode cc pc = .ok (.ishr, 1))  (k : dwV g z p l e R s m args below meth c M Q (F0 m (pc + 1) ls (.int (x >>> (y &&& 31)) :: rest))) : dwV g z p l e R s m args below meth c M Q (F0 m pc ls (.int y :: .int x :: rest)) := fun H locs cells slots hS hL => lv_ishr cx.1 cx.2.1  hdg  (k H locs cells slots hS hL)
theorem v_iushr (cx : dwCx g z M0 p l R s m args meth c own cc nL) {x y v : Int32} (hdg : decode cc pc = .ok (.iushr, 1)) (hv : (x.toUInt32 >>> (y.toUInt32 &&& Int32.toUInt32 31)).toInt32 = v) (k : dwV g z p l e R s m args below meth c M Q (F0 m (pc + 1) ls (.int v :: rest))) : dwV g z p l e R s m args below meth c M Q (F0 m pc ls (.int y :: .int x :: rest)) := fun H locs cells slots hS hL => lv_iushr cx.1 cx.2.1  hdg hv (k H locs cells slots hS hL)
theorem v_ineg (cx : dwCx g z M0 p l R s m args meth c own cc nL) {x : Int32} (hdg : decode cc pc = .ok (.ineg, 1))  (k : dwV g z p l e R s m args below meth c M Q (F0 m (pc + 1) ls (.int (-x) :: rest))) : dwV g z p l e R s m args below meth c M Q (F0 m pc ls (.int x :: rest)) := fun H locs cells slots hS hL => lv_ineg cx.1 cx.2.1  hdg  (k H locs cells slots hS hL)
theorem v_ladd (cx : dwCx g z M0 p l R s m args meth c own cc nL) {x y : Int64} (hdg : decode cc pc = .ok (.ladd, 1))  (k : dwV g z p l e R s m args below meth c M Q (F0 m (pc + 1) ls (.long (x + y) :: rest))) : dwV g z p l e R s m args below meth c M Q (F0 m pc ls (.long y :: .long x :: rest)) := fun H locs cells slots hS hL => lv_ladd cx.1 cx.2.1  hdg  (k H locs cells slots hS hL)
theorem v_lsub (cx : dwCx g z M0 p l R s m args meth c own cc nL) {x y : Int64} (hdg : decode cc pc = .ok (.lsub, 1))  (k : dwV g z p l e R s m args below meth c M Q (F0 m (pc + 1) ls (.long (x - y) :: rest))) : dwV g z p l e R s m args below meth c M Q (F0 m pc ls (.long y :: .long x :: rest)) := fun H locs cells slots hS hL => lv_lsub cx.1 cx.2.1  hdg  (k H locs cells slots hS hL)
theorem v_lmul (cx : dwCx g z M0 p l R s m args meth c own cc nL) {x y : Int64} (hdg : decode cc pc = .ok (.lmul, 1))  (k : dwV g z p l e R s m args below meth c M Q (F0 m (pc + 1) ls (.long (x * y) :: rest))) : dwV g z p l e R s m args below meth c M Q (F0 m pc ls (.long y :: .long x :: rest)) := fun H locs cells slots hS hL => lv_lmul cx.1 cx.2.1  hdg  (k H locs cells slots hS hL)
theorem v_i2l (cx : dwCx g z M0 p l R s m args meth c own cc nL) {x : Int32} {v : Int64} (hdg : decode cc pc = .ok (.i2l, 1)) (hv : x.toInt64 = v) (k : dwV g z p l e R s m args below meth c M Q (F0 m (pc + 1) ls (.long v :: rest))) : dwV g z p l e R s m args below meth c M Q (F0 m pc ls (.int x :: rest)) := fun H locs cells slots hS hL => lv_i2l cx.1 cx.2.1  hdg hv (k H locs cells slots hS hL)
theorem v_l2i (cx : dwCx g z M0 p l R s m args meth c own cc nL) {x : Int64} {v : Int32} (hdg : decode cc pc = .ok (.l2i, 1)) (hv : x.toInt32 = v) (k : dwV g z p l e R s m args below meth c M Q (F0 m (pc + 1) ls (.int v :: rest))) : dwV g z p l e R s m args below meth c M Q (F0 m pc ls (.long x :: rest)) := fun H locs cells slots hS hL => lv_l2i cx.1 cx.2.1  hdg hv (k H locs cells slots hS hL)
theorem v_i2b (cx : dwCx g z M0 p l R s m args meth c own cc nL) {x v : Int32} (hdg : decode cc pc = .ok (.i2b, 1)) (hv : x.toInt8.toInt32 = v) (k : dwV g z p l e R s m args below meth c M Q (F0 m (pc + 1) ls (.int v :: rest))) : dwV g z p l e R s m args below meth c M Q (F0 m pc ls (.int x :: rest)) := fun H locs cells slots hS hL => lv_i2b cx.1 cx.2.1  hdg hv (k H locs cells slots hS hL)
theorem v_i2c (cx : dwCx g z M0 p l R s m args meth c own cc nL) {x v : Int32} (hdg : decode cc pc = .ok (.i2c, 1)) (hv : (x.toUInt32 % 65536).toInt32 = v) (k : dwV g z p l e R s m args below meth c M Q (F0 m (pc + 1) ls (.int v :: rest))) : dwV g z p l e R s m args below meth c M Q (F0 m pc ls (.int x :: rest)) := fun H locs cells slots hS hL => lv_i2c cx.1 cx.2.1  hdg hv (k H locs cells slots hS hL)
theorem v_lshl (cx : dwCx g z M0 p l R s m args meth c own cc nL) {x v : Int64} {y : Int32} (hdg : decode cc pc = .ok (.lshl, 1)) (hv : x <<< (y.toInt64 &&& 63) = v) (k : dwV g z p l e R s m args below meth c M Q (F0 m (pc + 1) ls (.long v :: rest))) : dwV g z p l e R s m args below meth c M Q (F0 m pc ls (.int y :: .long x :: rest)) := fun H locs cells slots hS hL => lv_lshl cx.1 cx.2.1  hdg hv (k H locs cells slots hS hL)
theorem v_dup (cx : dwCx g z M0 p l R s m args meth c own cc nL) {va : Value} (hdg : decode cc pc = .ok (.dup, 1)) (hva : va.category = 1) (k : dwV g z p l e R s m args below meth c M Q (F0 m (pc + 1) ls (va :: va :: rest))) : dwV g z p l e R s m args below meth c M Q (F0 m pc ls (va :: rest)) := fun H locs cells slots hS hL => lv_dup cx.1 cx.2.1  hdg hva (k H locs cells slots hS hL)
theorem v_pop (cx : dwCx g z M0 p l R s m args meth c own cc nL) {va : Value} (hdg : decode cc pc = .ok (.pop, 1)) (hva : va.category = 1) (k : dwV g z p l e R s m args below meth c M Q (F0 m (pc + 1) ls (rest))) : dwV g z p l e R s m args below meth c M Q (F0 m pc ls (va :: rest)) := fun H locs cells slots hS hL => lv_pop cx.1 cx.2.1  hdg hva (k H locs cells slots hS hL)
theorem v_dup_x1 (cx : dwCx g z M0 p l R s m args meth c own cc nL) {va vb : Value} (hdg : decode cc pc = .ok (.dup_x1, 1)) (hva : va.category = 1) (hvb : vb.category = 1) (k : dwV g z p l e R s m args below meth c M Q (F0 m (pc + 1) ls (va :: vb :: va :: rest))) : dwV g z p l e R s m args below meth c M Q (F0 m pc ls (va :: vb :: rest)) := fun H locs cells slots hS hL => lv_dup_x1 cx.1 cx.2.1  hdg hva hvb (k H locs cells slots hS hL)
theorem v_dup2_11 (cx : dwCx g z M0 p l R s m args meth c own cc nL) {va vb : Value} (hdg : decode cc pc = .ok (.dup2, 1)) (hva : va.category = 1) (hvb : vb.category = 1) (k : dwV g z p l e R s m args below meth c M Q (F0 m (pc + 1) ls (va :: vb :: va :: vb :: rest))) : dwV g z p l e R s m args below meth c M Q (F0 m pc ls (va :: vb :: rest)) := fun H locs cells slots hS hL => lv_dup2_11 cx.1 cx.2.1  hdg hva hvb (k H locs cells slots hS hL)
theorem v_null (cx : dwCx g z M0 p l R s m args meth c own cc nL)  (hdg : decode cc pc = .ok (.aconst_null, 1))  (k : dwV g z p l e R s m args below meth c M Q (F0 m (pc + 1) ls (.null :: rest))) : dwV g z p l e R s m args below meth c M Q (F0 m pc ls (rest)) := fun H locs cells slots hS hL => lv_null cx.1 cx.2.1  hdg  (k H locs cells slots hS hL)
theorem v_goto (cx : dwCx g z M0 p l R s m args meth c own cc nL) {off : Int} {tgt : Nat} (hdg : decode cc pc = .ok (.goto off, 3)) (ht : (pc : Int) + off = (tgt : Int)) (k : dwV g z p l e R s m args below meth c M Q (F0 m tgt ls rest)) : dwV g z p l e R s m args below meth c M Q (F0 m pc ls rest) := fun H locs cells slots hS hL => lv_goto cx.1 cx.2.1 hdg ht (k H locs cells slots hS hL)
theorem v_ldc (cx : dwCx g z M0 p l R s m args meth c own cc nL) {index : Nat} {v : Int32} (hdg : decode cc pc = .ok (.ldc index, 2)) (hc : Cond.constant own index v ∈ lw_all) (k : dwV g z p l e R s m args below meth c M Q (F0 m (pc + 2) ls (.int v :: rest))) : dwV g z p l e R s m args below meth c M Q (F0 m pc ls rest) := fun H locs cells slots hS hL => lv_ldc cx.1 cx.2.1 cx.2.2.2.2.1 (cx.2.2.2.2.2.1 _ hc) hdg (k H locs cells slots hS hL)
theorem v_ldcw (cx : dwCx g z M0 p l R s m args meth c own cc nL) {index : Nat} {v : Int32} (hdg : decode cc pc = .ok (.ldc_w index, 3)) (hc : Cond.constant own index v ∈ lw_all) (k : dwV g z p l e R s m args below meth c M Q (F0 m (pc + 3) ls (.int v :: rest))) : dwV g z p l e R s m args below meth c M Q (F0 m pc ls rest) := fun H locs cells slots hS hL => lv_ldcw cx.1 cx.2.1 cx.2.2.2.2.1 (cx.2.2.2.2.2.1 _ hc) hdg (k H locs cells slots hS hL)
theorem v_ldc2 (cx : dwCx g z M0 p l R s m args meth c own cc nL) {index : Nat} {v : Int64} (hdg : decode cc pc = .ok (.ldc2_w index, 3)) (hc : Cond.constantLong own index v ∈ lw_all) (k : dwV g z p l e R s m args below meth c M Q (F0 m (pc + 3) ls (.long v :: rest))) : dwV g z p l e R s m args below meth c M Q (F0 m pc ls rest) := fun H locs cells slots hS hL => lv_ldc2 cx.1 cx.2.1 cx.2.2.2.2.1 (cx.2.2.2.2.2.1 _ hc) hdg (k H locs cells slots hS hL)
theorem v_lcmp (cx : dwCx g z M0 p l R s m args meth c own cc nL) {x y : Int64} (hdg : decode cc pc = .ok (.lcmp, 1)) (k : dwV g z p l e R s m args below meth c M Q (F0 m (pc + 1) ls (.int (lg_cmp x y) :: rest))) : dwV g z p l e R s m args below meth c M Q (F0 m pc ls (.long y :: .long x :: rest)) := fun H locs cells slots hS hL => W.lcmp cx.1 cx.2.1 hdg (k H locs cells slots hS hL)
theorem v_icmp_eq (cx : dwCx g z M0 p l R s m args meth c own cc nL) {x y : Int32} {off : Int} {tgt : Nat} {A B : Option ρ} (hf : (if x = y then A else B) = some res) (hdg : decode cc pc = .ok (.if_icmp .eq off, 3)) (ht : (pc : Int) + off = (tgt : Int)) (kt : A = some res → dwV g z p l e R s m args below meth c M Q (F0 m tgt ls rest)) (kf : B = some res → dwV g z p l e R s m args below meth c M Q (F0 m (pc + 3) ls rest)) : dwV g z p l e R s m args below meth c M Q (F0 m pc ls (.int y :: .int x :: rest)) := fun H locs cells slots hS hL => lv_icmp_eq cx.1 cx.2.1 hdg ht (fun h => kt (by rw [if_pos h] at hf; exact hf) H locs cells slots hS hL) (fun h => kf (by rw [if_neg h] at hf; exact hf) H locs cells slots hS hL)
theorem v_if_eq (cx : dwCx g z M0 p l R s m args meth c own cc nL) {x : Int32} {off : Int} {tgt : Nat} {A B : Option ρ} (hf : (if x = 0 then A else B) = some res) (hdg : decode cc pc = .ok (.ifCond .eq off, 3)) (ht : (pc : Int) + off = (tgt : Int)) (kt : A = some res → dwV g z p l e R s m args below meth c M Q (F0 m tgt ls rest)) (kf : B = some res → dwV g z p l e R s m args below meth c M Q (F0 m (pc + 3) ls rest)) : dwV g z p l e R s m args below meth c M Q (F0 m pc ls (.int x :: rest)) := fun H locs cells slots hS hL => lv_if_eq cx.1 cx.2.1 hdg ht (fun h => kt (by rw [if_pos h] at hf; exact hf) H locs cells slots hS hL) (fun h => kf (by rw [if_neg h] at hf; exact hf) H locs cells slots hS hL)
theorem v_icmp_ne (cx : dwCx g z M0 p l R s m args meth c own cc nL) {x y : Int32} {off : Int} {tgt : Nat} {A B : Option ρ} (hf : (if x = y then A else B) = some res) (hdg : decode cc pc = .ok (.if_icmp .ne off, 3)) (ht : (pc : Int) + off = (tgt : Int)) (kt : B = some res → dwV g z p l e R s m args below meth c M Q (F0 m tgt ls rest)) (kf : A = some res → dwV g z p l e R s m args below meth c M Q (F0 m (pc + 3) ls rest)) : dwV g z p l e R s m args below meth c M Q (F0 m pc ls (.int y :: .int x :: rest)) := fun H locs cells slots hS hL => lv_icmp_ne cx.1 cx.2.1 hdg ht (fun h => kt (by rw [if_neg h] at hf; exact hf) H locs cells slots hS hL) (fun h => kf (by rw [if_pos h] at hf; exact hf) H locs cells slots hS hL)
theorem v_if_ne (cx : dwCx g z M0 p l R s m args meth c own cc nL) {x : Int32} {off : Int} {tgt : Nat} {A B : Option ρ} (hf : (if x = 0 then A else B) = some res) (hdg : decode cc pc = .ok (.ifCond .ne off, 3)) (ht : (pc : Int) + off = (tgt : Int)) (kt : B = some res → dwV g z p l e R s m args below meth c M Q (F0 m tgt ls rest)) (kf : A = some res → dwV g z p l e R s m args below meth c M Q (F0 m (pc + 3) ls rest)) : dwV g z p l e R s m args below meth c M Q (F0 m pc ls (.int x :: rest)) := fun H locs cells slots hS hL => lv_if_ne cx.1 cx.2.1 hdg ht (fun h => kt (by rw [if_neg h] at hf; exact hf) H locs cells slots hS hL) (fun h => kf (by rw [if_pos h] at hf; exact hf) H locs cells slots hS hL)
theorem v_icmp_lt (cx : dwCx g z M0 p l R s m args meth c own cc nL) {x y : Int32} {off : Int} {tgt : Nat} {A B : Option ρ} (hf : (if x < y then A else B) = some res) (hdg : decode cc pc = .ok (.if_icmp .lt off, 3)) (ht : (pc : Int) + off = (tgt : Int)) (kt : A = some res → dwV g z p l e R s m args below meth c M Q (F0 m tgt ls rest)) (kf : B = some res → dwV g z p l e R s m args below meth c M Q (F0 m (pc + 3) ls rest)) : dwV g z p l e R s m args below meth c M Q (F0 m pc ls (.int y :: .int x :: rest)) := fun H locs cells slots hS hL => lv_icmp_lt cx.1 cx.2.1 hdg ht (fun h => kt (by rw [if_pos h] at hf; exact hf) H locs cells slots hS hL) (fun h => kf (by rw [if_neg h] at hf; exact hf) H locs cells slots hS hL)
theorem v_if_lt (cx : dwCx g z M0 p l R s m args meth c own cc nL) {x : Int32} {off : Int} {tgt : Nat} {A B : Option ρ} (hf : (if x < 0 then A else B) = some res) (hdg : decode cc pc = .ok (.ifCond .lt off, 3)) (ht : (pc : Int) + off = (tgt : Int)) (kt : A = some res → dwV g z p l e R s m args below meth c M Q (F0 m tgt ls rest)) (kf : B = some res → dwV g z p l e R s m args below meth c M Q (F0 m (pc + 3) ls rest)) : dwV g z p l e R s m args below meth c M Q (F0 m pc ls (.int x :: rest)) := fun H locs cells slots hS hL => lv_if_lt cx.1 cx.2.1 hdg ht (fun h => kt (by rw [if_pos h] at hf; exact hf) H locs cells slots hS hL) (fun h => kf (by rw [if_neg h] at hf; exact hf) H locs cells slots hS hL)
theorem v_icmp_ge (cx : dwCx g z M0 p l R s m args meth c own cc nL) {x y : Int32} {off : Int} {tgt : Nat} {A B : Option ρ} (hf : (if y ≤ x then A else B) = some res) (hdg : decode cc pc = .ok (.if_icmp .ge off, 3)) (ht : (pc : Int) + off = (tgt : Int)) (kt : A = some res → dwV g z p l e R s m args below meth c M Q (F0 m tgt ls rest)) (kf : B = some res → dwV g z p l e R s m args below meth c M Q (F0 m (pc + 3) ls rest)) : dwV g z p l e R s m args below meth c M Q (F0 m pc ls (.int y :: .int x :: rest)) := fun H locs cells slots hS hL => lv_icmp_ge cx.1 cx.2.1 hdg ht (fun h => kt (by rw [if_pos h] at hf; exact hf) H locs cells slots hS hL) (fun h => kf (by rw [if_neg h] at hf; exact hf) H locs cells slots hS hL)
theorem v_if_ge (cx : dwCx g z M0 p l R s m args meth c own cc nL) {x : Int32} {off : Int} {tgt : Nat} {A B : Option ρ} (hf : (if 0 ≤ x then A else B) = some res) (hdg : decode cc pc = .ok (.ifCond .ge off, 3)) (ht : (pc : Int) + off = (tgt : Int)) (kt : A = some res → dwV g z p l e R s m args below meth c M Q (F0 m tgt ls rest)) (kf : B = some res → dwV g z p l e R s m args below meth c M Q (F0 m (pc + 3) ls rest)) : dwV g z p l e R s m args below meth c M Q (F0 m pc ls (.int x :: rest)) := fun H locs cells slots hS hL => lv_if_ge cx.1 cx.2.1 hdg ht (fun h => kt (by rw [if_pos h] at hf; exact hf) H locs cells slots hS hL) (fun h => kf (by rw [if_neg h] at hf; exact hf) H locs cells slots hS hL)
theorem v_icmp_gt (cx : dwCx g z M0 p l R s m args meth c own cc nL) {x y : Int32} {off : Int} {tgt : Nat} {A B : Option ρ} (hf : (if y < x then A else B) = some res) (hdg : decode cc pc = .ok (.if_icmp .gt off, 3)) (ht : (pc : Int) + off = (tgt : Int)) (kt : A = some res → dwV g z p l e R s m args below meth c M Q (F0 m tgt ls rest)) (kf : B = some res → dwV g z p l e R s m args below meth c M Q (F0 m (pc + 3) ls rest)) : dwV g z p l e R s m args below meth c M Q (F0 m pc ls (.int y :: .int x :: rest)) := fun H locs cells slots hS hL => lv_icmp_gt cx.1 cx.2.1 hdg ht (fun h => kt (by rw [if_pos h] at hf; exact hf) H locs cells slots hS hL) (fun h => kf (by rw [if_neg h] at hf; exact hf) H locs cells slots hS hL)
theorem v_if_gt (cx : dwCx g z M0 p l R s m args meth c own cc nL) {x : Int32} {off : Int} {tgt : Nat} {A B : Option ρ} (hf : (if 0 < x then A else B) = some res) (hdg : decode cc pc = .ok (.ifCond .gt off, 3)) (ht : (pc : Int) + off = (tgt : Int)) (kt : A = some res → dwV g z p l e R s m args below meth c M Q (F0 m tgt ls rest)) (kf : B = some res → dwV g z p l e R s m args below meth c M Q (F0 m (pc + 3) ls rest)) : dwV g z p l e R s m args below meth c M Q (F0 m pc ls (.int x :: rest)) := fun H locs cells slots hS hL => lv_if_gt cx.1 cx.2.1 hdg ht (fun h => kt (by rw [if_pos h] at hf; exact hf) H locs cells slots hS hL) (fun h => kf (by rw [if_neg h] at hf; exact hf) H locs cells slots hS hL)
theorem v_icmp_le (cx : dwCx g z M0 p l R s m args meth c own cc nL) {x y : Int32} {off : Int} {tgt : Nat} {A B : Option ρ} (hf : (if x ≤ y then A else B) = some res) (hdg : decode cc pc = .ok (.if_icmp .le off, 3)) (ht : (pc : Int) + off = (tgt : Int)) (kt : A = some res → dwV g z p l e R s m args below meth c M Q (F0 m tgt ls rest)) (kf : B = some res → dwV g z p l e R s m args below meth c M Q (F0 m (pc + 3) ls rest)) : dwV g z p l e R s m args below meth c M Q (F0 m pc ls (.int y :: .int x :: rest)) := fun H locs cells slots hS hL => lv_icmp_le cx.1 cx.2.1 hdg ht (fun h => kt (by rw [if_pos h] at hf; exact hf) H locs cells slots hS hL) (fun h => kf (by rw [if_neg h] at hf; exact hf) H locs cells slots hS hL)
theorem v_if_le (cx : dwCx g z M0 p l R s m args meth c own cc nL) {x : Int32} {off : Int} {tgt : Nat} {A B : Option ρ} (hf : (if x ≤ 0 then A else B) = some res) (hdg : decode cc pc = .ok (.ifCond .le off, 3)) (ht : (pc : Int) + off = (tgt : Int)) (kt : A = some res → dwV g z p l e R s m args below meth c M Q (F0 m tgt ls rest)) (kf : B = some res → dwV g z p l e R s m args below meth c M Q (F0 m (pc + 3) ls rest)) : dwV g z p l e R s m args below meth c M Q (F0 m pc ls (.int x :: rest)) := fun H locs cells slots hS hL => lv_if_le cx.1 cx.2.1 hdg ht (fun h => kt (by rw [if_pos h] at hf; exact hf) H locs cells slots hS hL) (fun h => kf (by rw [if_neg h] at hf; exact hf) H locs cells slots hS hL)
theorem v_ifnonnull (cx : dwCx g z M0 p l R s m args meth c own cc nL) {x : Option Nat} {off : Int} {tgt : Nat} {A : Option ρ} {B : Nat → Option ρ} (hf : (match x with | none => A | some o => B o) = some res) (hdg : decode cc pc = .ok (.ifnonnull off, 3)) (ht : (pc : Int) + off = (tgt : Int)) (kt : ∀ o, x = some o → B o = some res → dwV g z p l e R s m args below meth c M Q (F0 m tgt ls rest)) (kf : x = none → A = some res → dwV g z p l e R s m args below meth c M Q (F0 m (pc + 3) ls rest)) : dwV g z p l e R s m args below meth c M Q (F0 m pc ls (va_rf x :: rest)) := by
  intro H locs cells slots hS hL
  cases x with
  | none => exact lv_ifnonnullN cx.1 cx.2.1 hdg (kf rfl hf H locs cells slots hS hL)
  | some o => exact lv_ifnonnull cx.1 cx.2.1 hdg ht (kt o rfl hf H locs cells slots hS hL)
theorem v_idiv (cx : dwCx g z M0 p l R s m args meth c own cc nL) {x y : Int32} {K : Int32 → Option ρ} (hf : xdiv x y K = some res) (hdg : decode cc pc = .ok (.idiv, 1)) (k : ∀ v, K v = some res → dwV g z p l e R s m args below meth c M Q (F0 m (pc + 1) ls (.int v :: rest))) : dwV g z p l e R s m args below meth c M Q (F0 m pc ls (.int y :: .int x :: rest)) := by
  intro H locs cells slots hS hL
  unfold xdiv at hf
  by_cases h : y = 0
  · rw [if_pos h] at hf
    exact dw_no hf
  · rw [if_neg h] at hf
    exact lv_idiv cx.1 cx.2.1 hdg h (k _ hf H locs cells slots hS hL)
theorem v_irem (cx : dwCx g z M0 p l R s m args meth c own cc nL) {x y : Int32} {K : Int32 → Option ρ} (hf : xrem x y K = some res) (hdg : decode cc pc = .ok (.irem, 1)) (k : ∀ v, K v = some res → dwV g z p l e R s m args below meth c M Q (F0 m (pc + 1) ls (.int v :: rest))) : dwV g z p l e R s m args below meth c M Q (F0 m pc ls (.int y :: .int x :: rest)) := by
  intro H locs cells slots hS hL
  unfold xrem at hf
  by_cases h : y = 0
  · rw [if_pos h] at hf
    exact dw_no hf
  · rw [if_neg h] at hf
    exact lv_irem cx.1 cx.2.1 hdg h (k _ hf H locs cells slots hS hL)
theorem v_ldiv (cx : dwCx g z M0 p l R s m args meth c own cc nL) {x y : Int64} {K : Int64 → Option ρ} (hf : xldiv x y K = some res) (hdg : decode cc pc = .ok (.ldiv, 1)) (k : ∀ v, K v = some res → dwV g z p l e R s m args below meth c M Q (F0 m (pc + 1) ls (.long v :: rest))) : dwV g z p l e R s m args below meth c M Q (F0 m pc ls (.long y :: .long x :: rest)) := by
  intro H locs cells slots hS hL
  unfold xldiv at hf
  by_cases h : y = 0
  · rw [if_pos h] at hf
    exact dw_no hf
  · rw [if_neg h] at hf
    exact lv_ldiv cx.1 cx.2.1 hdg h (k _ hf H locs cells slots hS hL)
theorem v_lrem (cx : dwCx g z M0 p l R s m args meth c own cc nL) {x y : Int64} {K : Int64 → Option ρ} (hf : xlrem x y K = some res) (hdg : decode cc pc = .ok (.lrem, 1)) (k : ∀ v, K v = some res → dwV g z p l e R s m args below meth c M Q (F0 m (pc + 1) ls (.long v :: rest))) : dwV g z p l e R s m args below meth c M Q (F0 m pc ls (.long y :: .long x :: rest)) := by
  intro H locs cells slots hS hL
  unfold xlrem at hf
  by_cases h : y = 0
  · rw [if_pos h] at hf
    exact dw_no hf
  · rw [if_neg h] at hf
    exact lv_lrem cx.1 cx.2.1 hdg h (k _ hf H locs cells slots hS hL)
theorem v_tableIn (cx : dwCx g z M0 p l R s m args meth c own cc nL) {dflt lo hi : Int} {offs : Array Int} {len : Nat} {x : Int32} {off : Int} {tgt : Nat} (hdg : decode cc pc = .ok (.tableswitch dflt lo hi offs, len)) (h1 : ¬ x.toInt < lo) (h2 : ¬ hi < x.toInt) (ho : offs[(x.toInt - lo).toNat]? = some off) (ht : (pc : Int) + off = (tgt : Int)) (k : dwV g z p l e R s m args below meth c M Q (F0 m tgt ls rest)) : dwV g z p l e R s m args below meth c M Q (F0 m pc ls (.int x :: rest)) := fun H locs cells slots hS hL => lv_tableIn cx.1 cx.2.1 hdg h1 h2 ho ht (k H locs cells slots hS hL)
theorem v_tableOut (cx : dwCx g z M0 p l R s m args meth c own cc nL) {dflt lo hi : Int} {offs : Array Int} {len : Nat} {x : Int32} {tgt : Nat} (hdg : decode cc pc = .ok (.tableswitch dflt lo hi offs, len)) (h : x.toInt < lo ∨ hi < x.toInt) (ht : (pc : Int) + dflt = (tgt : Int)) (k : dwV g z p l e R s m args below meth c M Q (F0 m tgt ls rest)) : dwV g z p l e R s m args below meth c M Q (F0 m pc ls (.int x :: rest)) := fun H locs cells slots hS hL => lv_tableOut cx.1 cx.2.1 hdg h ht (k H locs cells slots hS hL)
theorem v_lookup (cx : dwCx g z M0 p l R s m args meth c own cc nL) {dflt : Int} {ps : Array (Int × Int)} {len : Nat} {x : Int32} {off : Int} {tgt : Nat} (hdg : decode cc pc = .ok (.lookupswitch dflt ps, len)) (hp : (ps.toList.zip (ps.toList.drop 1)).all (fun (a, next) => a.1 < next.1) = true) (ho : Op.lookupswitch.offset ps.toList dflt x.toInt = off) (ht : (pc : Int) + off = (tgt : Int)) (k : dwV g z p l e R s m args below meth c M Q (F0 m tgt ls rest)) : dwV g z p l e R s m args below meth c M Q (F0 m pc ls (.int x :: rest)) := fun H locs cells slots hS hL => lv_lookup cx.1 cx.2.1 hdg hp ho ht (k H locs cells slots hS hL)
theorem v_swIn (cx : dwCx g z M0 p l R s m args meth c own cc nL) {dflt lo hi n : Int} {offs : Array Int} {len : Nat} {x v : Int32} {off : Int} {tgt : Nat} {A B : Option ρ} (hf : (if x = v then A else B) = some res) (hdg : decode cc pc = .ok (.tableswitch dflt lo hi offs, len)) (hv : v.toInt = n) (h1 : ¬ n < lo) (h2 : ¬ hi < n) (ho : offs[(n - lo).toNat]? = some off) (ht : (pc : Int) + off = (tgt : Int)) (kt : A = some res → dwV g z p l e R s m args below meth c M Q (F0 m tgt ls rest)) (kf : x.toInt ≠ n → B = some res → dwV g z p l e R s m args below meth c M Q (F0 m pc ls (.int x :: rest))) : dwV g z p l e R s m args below meth c M Q (F0 m pc ls (.int x :: rest)) := by
  by_cases h : x = v
  · rw [if_pos h] at hf
    subst h
    exact v_tableIn cx hdg (by rw [hv]; exact h1) (by rw [hv]; exact h2) (by rw [hv]; exact ho) ht (kt hf)
  · rw [if_neg h] at hf
    exact kf (fun q => h (Int32.toInt_inj.mp (q.trans hv.symm))) hf
theorem v_lkIn (cx : dwCx g z M0 p l R s m args meth c own cc nL) {dflt : Int} {ps : Array (Int × Int)} {len : Nat} {x v : Int32} {off : Int} {tgt : Nat} {A B : Option ρ} (hf : (if x = v then A else B) = some res) (hdg : decode cc pc = .ok (.lookupswitch dflt ps, len)) (hp : (ps.toList.zip (ps.toList.drop 1)).all (fun (a, next) => a.1 < next.1) = true) (ho : Op.lookupswitch.offset ps.toList dflt v.toInt = off) (ht : (pc : Int) + off = (tgt : Int)) (kt : A = some res → dwV g z p l e R s m args below meth c M Q (F0 m tgt ls rest)) (kf : ¬ x = v → B = some res → dwV g z p l e R s m args below meth c M Q (F0 m pc ls (.int x :: rest))) : dwV g z p l e R s m args below meth c M Q (F0 m pc ls (.int x :: rest)) := by
  by_cases h : x = v
  · rw [if_pos h] at hf
    subst h
    exact v_lookup cx hdg hp ho ht (kt hf)
  · rw [if_neg h] at hf
    exact kf h hf
end ROWA
section ROWB
variable {g : dwG} {z : Nat × Nat} {M0 : dwSt} {p : Program} {l : Launch} {e : Env} {R : Room} {s : State} {m : MethodId} {args : Array Value} {below : List Frame} {meth : Method} {c : Code} {M : dwSt} {Q : State → Prop} {own : String} {cc : ByteArray} {nL : Nat} {pc : Nat} {ls : Array Slot} {rest : List Value} {ρ : Type} {res : ρ}
theorem dw_fsk {ci k f : Nat} (h : (dwFs ci)[k]? = some f) : (dwFs ci).getD k 0 = f := by rw [List.getD_eq_getElem?_getD, h]; rfl
theorem va_rf_some (a : Nat) : va_rf (some a) = .ref a := rfl
theorem dw_has {kd : Nat × Nat} {f : Nat} (h : dwHas kd f = true) : (kd.1 = 0 ∧ f ∈ dwFs kd.2) ∨ (kd.1 = 10 ∧ f ∈ (dwFs kd.2).take 2) := by
  unfold dwHas at h
  simp only [Bool.or_eq_true, Bool.and_eq_true, beq_iff_eq, List.contains_iff_mem] at h
  exact h
theorem dw_hasW {kd : Nat × Nat} {f : Nat} (h : dwHasW kd f = true) : kd.1 = 0 ∧ f ∈ dwFs kd.2 := by
  unfold dwHasW at h
  simp only [Bool.and_eq_true, beq_iff_eq, List.contains_iff_mem] at h
  exact h
/-- a field that is read -/
theorem dw_rd {H : Heap} (hS : dwSat g z M H) {f o : Nat} {on n d : String} {fin : Bool} {ty : FieldType} {tag : Nat} (hF : dwFO f on n d fin ty tag) (hK : va_K (g.2.1, g.2.2.1) dwCl (dwTys g) s) (hts : ∀ w ∈ lw_all, w.before args s = true) (h : dwHas (dwK M o) f = true) :
    ∃ (cf : Nat) (k : Class) (i : Nat) (fd : Field) (cell : Cell), s.fieldFound? on n d = some (cf, k, i, fd) ∧ fd.isStatic = false ∧ H[o]? = some cell ∧ cell.vm ≠ .unknown ∧ cell.slots[fd.slot]? = some (dwFv M o f) := by
  obtain ⟨-, -, hF3⟩ := hF
  have hok := hS.2.2.2.2.2.1 o
  rcases dw_has h with ⟨e0, hm⟩ | ⟨e0, hm⟩
  · obtain ⟨hCO, k0, hk0, hT⟩ := hF3 _ hm
    have hCO' := hCO
    obtain ⟨h1, h2, h3, h4, h5, h6⟩ := hCO
    obtain ⟨-, cell, c1, c2, c3, c4⟩ := hok.1 (dwK M o).2 (by rw [← e0])
    have hlt : k0 < (dwCc (dwK M o).2).2.2 := by rw [← h2]; exact (List.getElem?_eq_some_iff.mp hk0).1
    obtain ⟨hSl, hfc, kC, hkC, -⟩ := hK.1 _ _ h1
    obtain ⟨cf, kf, fi, fd, hi, hsl⟩ := hSl k0 hlt
    have hst := (u_facts hfc hkC (u_lays hts h4 hlt) hi).1
    rw [hT] at hi
    refine ⟨cf, kf, fi, fd, cell, hi, hst, c1, (by rw [c3]; exact fun q => nomatch q), ?_⟩
    rw [hsl]
    refine (c4 k0 hlt).trans ?_
    show some (dwFv M o ((dwFs _).getD k0 0)) = _
    rw [dw_fsk hk0]
  · obtain ⟨hCO, k0, hk0, hT⟩ := hF3 _ (List.mem_of_mem_take hm)
    obtain ⟨h1, h2, h3, h4, h5, h6⟩ := hCO
    obtain ⟨-, cell, c1, c2, c3, c3', c4⟩ := hok.2.2.2.2.2.1 (dwK M o).2 (by rw [← e0])
    have hlt : k0 < (dwCc (dwK M o).2).2.2 := by rw [← h2]; exact (List.getElem?_eq_some_iff.mp hk0).1
    have hk2 : k0 < 2 := by
      obtain ⟨j, hj⟩ := List.getElem?_of_mem hm
      rw [List.getElem?_take] at hj
      by_cases h9 : j < 2
      · rw [if_pos h9] at hj
        have := (List.getElem?_inj (List.getElem?_eq_some_iff.mp hj).1 h3).mp (hj.trans hk0.symm)
        omega
      · rw [if_neg h9] at hj
        cases hj
    obtain ⟨hSl, hfc, kC, hkC, -⟩ := hK.1 _ _ h1
    obtain ⟨cf, kf, fi, fd, hi, hsl⟩ := hSl k0 hlt
    have hst := (u_facts hfc hkC (u_lays hts h4 hlt) hi).1
    rw [hT] at hi
    refine ⟨cf, kf, fi, fd, cell, hi, hst, c1, c3, ?_⟩
    rw [hsl]
    refine (c4 k0 hk2).trans ?_
    show some (dwFv M o ((dwFs _).getD k0 0)) = _
    rw [dw_fsk hk0]
/-- a field's link from its own class or a nest mate -/
def dwLk (own : String) (index : Nat) (ref n d : String) : Prop := Cond.fieldLink own index ref n d ∈ lw_all ∨ ∃ host, Cond.fieldLinkNest own index ref n d host ∈ lw_tbl
def dwSm (ref o n d : String) : Prop := ref = o ∨ Cond.sameField ref o n d ∈ lw_all
theorem dw_nF (cx : dwCx g z M0 p l R s m args meth c own cc nL) {a : String} {i : Nat} {b n d h : String} (hw : Cond.fieldLinkNest a i b n d h ∈ lw_tbl) : (Cond.fieldLinkNest a i b n d h).before args s = true := by
  obtain ⟨⟨b0, h0, -⟩, -⟩ := cx.2.2.2.2.2.2.1
  exact va_Nw.use rfl (va_Nw.warmF cx.2.2.2.2.2.2.2.1 (va_Nw.of rfl (h0 _ hw)))
theorem dw_nM (cx : dwCx g z M0 p l R s m args meth c own cc nL) {a : String} {i : Nat} {x : MethodName} {h : String} (hw : Cond.methodLinkNest a i x h ∈ lw_tbl) : va_Nw (.methodLinkNest a i x h) s := by
  obtain ⟨⟨b0, h0, -⟩, -⟩ := cx.2.2.2.2.2.2.1
  exact va_Nw.warmM cx.2.2.2.2.2.2.2.1 (va_Nw.of rfl (h0 _ hw))
theorem dw_nD (cx : dwCx g z M0 p l R s m args meth c own cc nL) {x : MethodName} (hw : Cond.declares x ∈ lw_tbl) : va_Nw (.declares x) s := by
  obtain ⟨⟨b0, h0, -⟩, -⟩ := cx.2.2.2.2.2.2.1
  exact va_Nw.warmD cx.2.2.2.2.2.2.2.1 (va_Nw.of rfl (h0 _ hw))
theorem dw_nC (cx : dwCx g z M0 p l R s m args meth c own cc nL) {x y : String} (hw : Cond.castable x y ∈ lw_tbl) : va_Nw (.castable x y) s := by
  obtain ⟨⟨b0, h0, -⟩, -⟩ := cx.2.2.2.2.2.2.1
  exact va_Nw.warmC cx.2.2.2.2.2.2.2.1 (va_Nw.of rfl (h0 _ hw))
theorem dw_same (cx : dwCx g z M0 p l R s m args meth c own cc nL) {ref o n d : String} (h : dwSm ref o n d) (x : ClassId × Class × Nat × Field) (ho : s.fieldFound? o n d = some x) : s.fieldFound? ref n d = some x := by
  rcases h with h | h
  · rw [h]; exact ho
  · exact u_same (cx.2.2.2.2.2.1 _ h) x ho
theorem v_getf (cx : dwCx g z M0 p l R s m args meth c own cc nL) {f o index : Nat} {on n d ref : String} {fin : Bool} {ty : FieldType} {tag : Nat} (hF : dwFO f on n d fin ty tag) (hl : dwLk own index ref n d) (hsm : dwSm ref on n d) (h : dwHas (dwK M o) f = true) (hdg : decode cc pc = .ok (.getfield index, 3)) (k : dwV g z p l e R s m args below meth c M Q (F0 m (pc + 3) ls (dwFv M o f :: rest))) : dwV g z p l e R s m args below meth c M Q (F0 m pc ls (.ref o :: rest)) := by
  intro H locs cells slots hS hL
  obtain ⟨cf, kC, i, fd, cell, h1, h2, h3, h4, h5⟩ := dw_rd hS hF (dw_kn cx) cx.2.2.2.2.2.1 h
  rcases hl with hl | ⟨host, hl⟩
  · exact W.getf cx.1 cx.2.1 cx.2.2.2.2.1 (cx.2.2.2.2.2.1 _ hl) (dw_same cx hsm _ h1) h2 h3 h4 h5 rfl rfl hdg (k H locs cells slots hS hL)
  · exact va_Wgetf cx.1 cx.2.1 cx.2.2.2.2.1 (dw_nF cx hl) (dw_same cx hsm _ h1) h2 h3 h4 h5 rfl rfl hdg (k H locs cells slots hS hL)
theorem v_gI (cx : dwCx g z M0 p l R s m args meth c own cc nL) {f o index : Nat} {on n d ref : String} {fin : Bool} {ty : FieldType} (hF : dwFO f on n d fin ty 0) (hl : dwLk own index ref n d) (hsm : dwSm ref on n d) {K : Int32 → Option ρ} (hf : xgI M f o K = some res) (hdg : decode cc pc = .ok (.getfield index, 3)) (k : ∀ v, K v = some res → dwV g z p l e R s m args below meth c M Q (F0 m (pc + 3) ls (.int v :: rest))) : dwV g z p l e R s m args below meth c M Q (F0 m pc ls (.ref o :: rest)) := by
  unfold xgI at hf
  obtain ⟨h1, h2⟩ := ite_e hf
  refine v_getf cx hF hl hsm h1 hdg ?_
  have e : dwFv M o f = .int (dwI M o f) := by unfold dwFv; rw [hF.1]; rfl
  rw [e]
  exact k _ h2
theorem v_gL (cx : dwCx g z M0 p l R s m args meth c own cc nL) {f o index : Nat} {on n d ref : String} {fin : Bool} {ty : FieldType} (hF : dwFO f on n d fin ty 1) (hl : dwLk own index ref n d) (hsm : dwSm ref on n d) {K : Int64 → Option ρ} (hf : xgL M f o K = some res) (hdg : decode cc pc = .ok (.getfield index, 3)) (k : ∀ v, K v = some res → dwV g z p l e R s m args below meth c M Q (F0 m (pc + 3) ls (.long v :: rest))) : dwV g z p l e R s m args below meth c M Q (F0 m pc ls (.ref o :: rest)) := by
  unfold xgL at hf
  obtain ⟨h1, h2⟩ := ite_e hf
  refine v_getf cx hF hl hsm h1 hdg ?_
  have e : dwFv M o f = .long (dwL M o f) := by unfold dwFv; rw [hF.1]; rfl
  rw [e]
  exact k _ h2
theorem v_gN (cx : dwCx g z M0 p l R s m args meth c own cc nL) {f o index : Nat} {on n d ref : String} {fin : Bool} {ty : FieldType} (hF : dwFO f on n d fin ty 2) (hl : dwLk own index ref n d) (hsm : dwSm ref on n d) {K : Option Nat → Option ρ} (hf : xgN M f o K = some res) (hdg : decode cc pc = .ok (.getfield index, 3)) (k : ∀ v, K v = some res → dwV g z p l e R s m args below meth c M Q (F0 m (pc + 3) ls (va_rf v :: rest))) : dwV g z p l e R s m args below meth c M Q (F0 m pc ls (.ref o :: rest)) := by
  unfold xgN at hf
  obtain ⟨h1, h2⟩ := ite_e hf
  refine v_getf cx hF hl hsm h1 hdg ?_
  have e : dwFv M o f = va_rf (dwR M o f) := by unfold dwFv; rw [hF.1]; rfl
  rw [e]
  exact k _ h2
theorem v_gR (cx : dwCx g z M0 p l R s m args meth c own cc nL) {f o index : Nat} {on n d ref : String} {fin : Bool} {ty : FieldType} (hF : dwFO f on n d fin ty 2) (hl : dwLk own index ref n d) (hsm : dwSm ref on n d) {K : Nat → Option ρ} (hf : xgR M f o K = some res) (hdg : decode cc pc = .ok (.getfield index, 3)) (k : ∀ v, K v = some res → dwV g z p l e R s m args below meth c M Q (F0 m (pc + 3) ls (.ref v :: rest))) : dwV g z p l e R s m args below meth c M Q (F0 m pc ls (.ref o :: rest)) := by
  unfold xgR at hf
  obtain ⟨h1, h2⟩ := ite_e hf
  refine v_getf cx hF hl hsm h1 hdg ?_
  have e : dwFv M o f = va_rf (dwR M o f) := by unfold dwFv; rw [hF.1]; rfl
  rw [e]
  cases hr : dwR M o f with
  | none => rw [hr] at h2; exact dw_no h2
  | some v => rw [hr] at h2; exact k v h2
/-- the written object, in the new picture -/
theorem dw_wr {M' : dwSt} {H H' : Heap} {f o ci : Nat} {cell : Cell} {v : Value} (hS : dwSat g z M H) (hts : ∀ w ∈ lw_all, w.before args s = true) (hK : va_K (g.2.1, g.2.2.1) dwCl (dwTys g) s) (hCO : dwCO ci) (hk0 : dwK M o = (0, ci)) {k0 : Nat} (hf : (dwFs ci)[k0]? = some f) (c1 : H[o]? = some cell) (e1 : H'[o]? = some (cell.setSlot (g.2.2.1 ci k0) v)) (ek : dwK M' o = dwK M o) (hv : dwFv M' o f = v) (hv2 : ∀ f', f' ≠ f → dwFv M' o f' = dwFv M o f') : dwOK g M' o H' := by
  obtain ⟨-, cell', d1, d2, d3, d4⟩ := (hS.2.2.2.2.2.1 o).1 ci hk0
  cases c1.symm.trans d1
  have hne : ∀ t n, t ≠ 0 → dwK M' o ≠ (t, n) := fun t n ht h => by rw [ek, hk0] at h; exact ht (congrArg Prod.fst h).symm
  refine ⟨fun ci' h => ?_, fun n h => absurd h (hne 1 n (by decide)), fun n h => absurd h (hne 2 n (by decide)), fun n h => absurd h (hne 3 n (by decide)), fun t n h1 h2 h => absurd h (hne t n (by omega)), fun n h => absurd h (hne 10 n (by decide)), fun n h => absurd h (hne 11 n (by decide)), fun n h => absurd h (hne 12 n (by decide))⟩
  rw [ek, hk0] at h
  cases h
  have hCO' := hCO
  obtain ⟨h1, h2, h3, h4, ⟨tyf, h5, -⟩, h6⟩ := hCO
  have hlt : k0 < (dwCc ci).2.2 := by rw [← h2]; exact (List.getElem?_eq_some_iff.mp hf).1
  have hap := va_apart (own := "") hts h4 tyf h5 h6 hK h1
  refine ⟨hCO', _, e1, d2, d3, fun k hk => ?_⟩
  have h7 := t_set d4 hap hlt v k hk
  rw [h7]
  unfold updV
  by_cases hkk : k = k0
  · rw [if_pos hkk, hkk]
    show some v = some (dwFv M' o ((dwFs ci).getD k0 0))
    rw [dw_fsk hf, hv]
  · rw [if_neg hkk]
    have hkl : k < (dwFs ci).length := by rw [h2]; exact hk
    have hg : (dwFs ci).getD k 0 = (dwFs ci)[k] := by rw [List.getD_eq_getElem?_getD, List.getElem?_eq_getElem hkl]; rfl
    have hne2 : (dwFs ci)[k] ≠ f := fun q => hkk (by
      exact (List.getElem?_inj hkl h3 (j := k0)).mp (by rw [hf, List.getElem?_eq_getElem hkl, q]))
    show some (dwFv M o ((dwFs ci).getD k 0)) = some (dwFv M' o ((dwFs ci).getD k 0))
    rw [hg, hv2 _ hne2]
theorem v_putf (cx : dwCx g z M0 p l R s m args meth c own cc nL) {f o index : Nat} {on n d ref : String} {fin : Bool} {ty : FieldType} {tag : Nat} (hF : dwFO f on n d fin ty tag) (hl : dwLk own index ref n d) (hsm : dwSm ref on n d) (hfin : fin = false ∨ (meth.name = "<init>" ∧ on = own)) {v : Value} (hn : narrow ty v = v) (hfit : fits ty v = true) (h : dwHasW (dwK M o) f = true) (hdg : decode cc pc = .ok (.putfield index, 3))
    {M' : dwSt} (ek : dwK M' = dwK M) (en : dwN M' = dwN M) (eu : dwU M' = dwU M) (ec : dwC M' = dwC M) (ex : dwX M' = dwX M) (hb : ∀ b, b ≠ o → dwI M' b = dwI M b ∧ dwL M' b = dwL M b ∧ dwR M' b = dwR M b) (hv : dwFv M' o f = v) (hv2 : ∀ f', f' ≠ f → dwFv M' o f' = dwFv M o f')
    (k : dwV g z p l e R s m args below meth c M' Q (F0 m (pc + 3) ls rest)) : dwV g z p l e R s m args below meth c M Q (F0 m pc ls (v :: .ref o :: rest)) := by
  intro H locs cells slots hS hL
  obtain ⟨e0, hm⟩ := dw_hasW h
  obtain ⟨-, hd, hF3⟩ := hF
  obtain ⟨hCO, k0, hk0, hT⟩ := hF3 _ hm
  have hK := dw_kn cx
  have hts := cx.2.2.2.2.2.1
  have hko : dwK M o = (0, (dwK M o).2) := by rw [← e0]
  generalize (dwK M o).2 = ci at *
  have hCO' := hCO
  obtain ⟨h1, h2, h3, h4, h5, h6⟩ := hCO
  obtain ⟨-, cell, c1, c2, c3, c4⟩ := (hS.2.2.2.2.2.1 o).1 ci hko
  have hlt : k0 < (dwCc ci).2.2 := by rw [← h2]; exact (List.getElem?_eq_some_iff.mp hk0).1
  obtain ⟨hSl, hfc, kC, hkC, hkind⟩ := hK.1 _ _ h1
  obtain ⟨cf, kf, fi, fd, hi, hsl⟩ := hSl k0 hlt
  have hst := (u_facts hfc hkC (u_lays hts h4 hlt) hi).1
  have hlay := hts _ (h4 _ (u_in_lay hlt))
  have hob : g.1.heap.size ≤ o := (hS.2.2.2.1 o (by rw [hko]; exact Nat.lt_of_sub_eq_succ rfl)).1
  have hfin' : ∀ (H' : Heap), H'[o]? = some (cell.setSlot fd.slot v) → H'.size = H.size → (∀ q, q ≠ o → H'[q]? = H[q]?) → dwSat g z M' H' := by
    intro H' e1 e2 e3
    refine hS.upd (by rw [hko]; exact Nat.lt_of_sub_eq_succ rfl) ek en eu ec ex hb e2 e3 (fun x x' y y' => ?_) (dw_wr hS hts hK hCO' hko hk0 c1 (by have e9 := e1; rw [hsl] at e9; exact e9) (by rw [ek]) hv hv2)
    cases c1.symm.trans y
    cases e1.symm.trans y'
    exact k2_slotsz _ _ _
  have hL' : ∀ q ∈ locs ++ [(⟨o, fd.slot⟩ : Loc)], g.1.heap.size ≤ q.base := by
    intro q hq
    rcases List.mem_append.mp hq with h9 | h9
    · exact hL q h9
    · rw [List.mem_singleton.mp h9]; exact hob
  have hss : fd.slot < cell.slots.size := by rw [hsl]; exact k2_hasslot (c4 k0 hlt)
  cases fin with
  | false =>
    unfold u_lay at hlay
    rw [if_neg (by rw [hT]; exact fun q => nomatch q)] at hlay
    have h7 := u_store hfc hkC hkind hlay hi (by rw [hT]; exact hd) hn hfit
    rw [hT] at hi
    rcases hl with hl | ⟨host, hl⟩
    · exact W.putK cx.1 cx.2.1 (f := fd) ⟨cx.2.2.2.2.1, hts _ hl, ⟨_, _, _, dw_same cx hsm _ hi⟩, hst⟩ (by rw [c2]; exact h7) c1 c3 hss rfl rfl hdg fun H' e1 e2 e3 => k H' _ cells slots (hfin' H' e1 e2 e3) hL'
    · exact va_WputK cx.1 cx.2.1 (f := fd) cx.2.2.2.2.1 (dw_nF cx hl) (dw_same cx hsm _ hi) hst (by rw [c2]; exact h7) c1 c3 hss rfl rfl hdg fun H' e1 e2 e3 => k H' _ cells slots (hfin' H' e1 e2 e3) hL'
  | true =>
    obtain ⟨hin2, hdecl⟩ := hfin.resolve_left (by decide)
    unfold u_lay at hlay
    rw [if_pos (by rw [hT])] at hlay
    have hcf : m.cls = cf := by
      obtain ⟨_, _, c', _, _, _, -, -, hf', -, -, -, hown2, -⟩ := Cond.laysFinal_spec hlay
      have e1 : c' = cf := by have := hi.symm.trans hf'; simp at this; exact this.1.symm
      rw [hT] at hown2
      rw [hdecl] at hown2
      rw [← e1]; exact Option.some.inj (cx.2.2.2.2.1.symm.trans hown2)
    have h7 := u_fits hfc hkC hkind (Or.inr hlay) hi (by rw [hT]; exact hd) hn hfit
    rw [hT] at hi
    rcases hl with hl | ⟨host, hl⟩
    · exact W.putFinK cx.1 cx.2.1 cx.2.2.2.2.1 (hts _ hl) (dw_same cx hsm _ hi) hst hcf hin2 (by rw [c2]; exact h7) c1 c3 hss rfl rfl hdg fun H' e1 e2 e3 => k H' _ cells slots (hfin' H' e1 e2 e3) hL'
    · refine va_Wputf cx.1 cx.2.1 cx.2.2.2.2.1 (dw_nF cx hl) (dw_same cx hsm _ hi) hst (Or.inr ⟨hcf, hin2⟩) c1 (by rw [c3]; exact fun q => by cases q) hss h7.1 (by rw [c2, c3]; exact h7.2) rfl rfl hdg (k _ _ cells slots (hfin' _ ?_ ?_ ?_) hL')
      · have ha : o < H.size := (Array.getElem?_eq_some_iff.mp c1).1
        simp [Array.getElem?_setIfInBounds, ha]
      · simp
      · intro q hq
        simp [Array.getElem?_setIfInBounds, Ne.symm hq]
theorem v_pI (cx : dwCx g z M0 p l R s m args meth c own cc nL) {f o index : Nat} {on n d ref : String} {fin : Bool} {ty : FieldType} (hF : dwFO f on n d fin ty 0) (hl : dwLk own index ref n d) (hsm : dwSm ref on n d) (hfin : fin = false ∨ (meth.name = "<init>" ∧ on = own)) {v : Int32} (hn : narrow ty (.int v) = .int v) (hfit : fits ty (.int v) = true) {K : dwSt → Option ρ} (hf : xpI M f o v K = some res) (hdg : decode cc pc = .ok (.putfield index, 3)) (k : ∀ M', K M' = some res → dwV g z p l e R s m args below meth c M' Q (F0 m (pc + 3) ls rest)) : dwV g z p l e R s m args below meth c M Q (F0 m pc ls (.int v :: .ref o :: rest)) := by
  unfold xpI at hf
  obtain ⟨h1, h2⟩ := ite_e hf
  refine v_putf cx hF hl hsm hfin hn hfit h1 hdg (M' := dwPI M o f v) rfl rfl rfl rfl rfl (fun b hb => ?_) ?_ (fun f' hf' => ?_) (k _ h2)
  · refine ⟨?_, ?_, ?_⟩ <;> first | rfl | (funext j; simp [dwPI, dwPL, dwPR, dwI, dwL, dwR, up2, hb])
  · unfold dwFv; rw [hF.1]; simp [dwPI, dwPL, dwPR, dwI, dwL, dwR, up2, va_rf]
  · unfold dwFv; split <;> simp [dwPI, dwPL, dwPR, dwI, dwL, dwR, up2, hf']
theorem v_pL (cx : dwCx g z M0 p l R s m args meth c own cc nL) {f o index : Nat} {on n d ref : String} {fin : Bool} {ty : FieldType} (hF : dwFO f on n d fin ty 1) (hl : dwLk own index ref n d) (hsm : dwSm ref on n d) (hfin : fin = false ∨ (meth.name = "<init>" ∧ on = own)) {v : Int64} (hn : narrow ty (.long v) = .long v) (hfit : fits ty (.long v) = true) {K : dwSt → Option ρ} (hf : xpL M f o v K = some res) (hdg : decode cc pc = .ok (.putfield index, 3)) (k : ∀ M', K M' = some res → dwV g z p l e R s m args below meth c M' Q (F0 m (pc + 3) ls rest)) : dwV g z p l e R s m args below meth c M Q (F0 m pc ls (.long v :: .ref o :: rest)) := by
  unfold xpL at hf
  obtain ⟨h1, h2⟩ := ite_e hf
  refine v_putf cx hF hl hsm hfin hn hfit h1 hdg (M' := dwPL M o f v) rfl rfl rfl rfl rfl (fun b hb => ?_) ?_ (fun f' hf' => ?_) (k _ h2)
  · refine ⟨?_, ?_, ?_⟩ <;> first | rfl | (funext j; simp [dwPI, dwPL, dwPR, dwI, dwL, dwR, up2, hb])
  · unfold dwFv; rw [hF.1]; simp [dwPI, dwPL, dwPR, dwI, dwL, dwR, up2, va_rf]
  · unfold dwFv; split <;> simp [dwPI, dwPL, dwPR, dwI, dwL, dwR, up2, hf']
theorem v_pR (cx : dwCx g z M0 p l R s m args meth c own cc nL) {f o index : Nat} {on n d ref : String} {fin : Bool} {ty : FieldType} (hF : dwFO f on n d fin ty 2) (hl : dwLk own index ref n d) (hsm : dwSm ref on n d) (hfin : fin = false ∨ (meth.name = "<init>" ∧ on = own)) {v : Nat} (hn : narrow ty (.ref v) = .ref v) (hfit : fits ty (.ref v) = true) {K : dwSt → Option ρ} (hf : xpR M f o v K = some res) (hdg : decode cc pc = .ok (.putfield index, 3)) (k : ∀ M', K M' = some res → dwV g z p l e R s m args below meth c M' Q (F0 m (pc + 3) ls rest)) : dwV g z p l e R s m args below meth c M Q (F0 m pc ls (.ref v :: .ref o :: rest)) := by
  unfold xpR at hf
  obtain ⟨h1, h2⟩ := ite_e hf
  refine v_putf cx hF hl hsm hfin hn hfit h1 hdg (M' := dwPR M o f (some v)) rfl rfl rfl rfl rfl (fun b hb => ?_) ?_ (fun f' hf' => ?_) (k _ h2)
  · refine ⟨?_, ?_, ?_⟩ <;> first | rfl | (funext j; simp [dwPI, dwPL, dwPR, dwI, dwL, dwR, up2, hb])
  · unfold dwFv; rw [hF.1]; simp [dwPI, dwPL, dwPR, dwI, dwL, dwR, up2, va_rf]
  · unfold dwFv; split <;> simp [dwPI, dwPL, dwPR, dwI, dwL, dwR, up2, hf']
theorem v_pN (cx : dwCx g z M0 p l R s m args meth c own cc nL) {f o index : Nat} {on n d ref : String} {fin : Bool} {ty : FieldType} (hF : dwFO f on n d fin ty 2) (hl : dwLk own index ref n d) (hsm : dwSm ref on n d) (hfin : fin = false ∨ (meth.name = "<init>" ∧ on = own)) {v : Option Nat} (hn : narrow ty (va_rf v) = va_rf v) (hfit : fits ty (va_rf v) = true) {K : dwSt → Option ρ} (hf : xpN M f o v K = some res) (hdg : decode cc pc = .ok (.putfield index, 3)) (k : ∀ M', K M' = some res → dwV g z p l e R s m args below meth c M' Q (F0 m (pc + 3) ls rest)) : dwV g z p l e R s m args below meth c M Q (F0 m pc ls (va_rf v :: .ref o :: rest)) := by
  unfold xpN at hf
  obtain ⟨h1, h2⟩ := ite_e hf
  refine v_putf cx hF hl hsm hfin hn hfit h1 hdg (M' := dwPR M o f v) rfl rfl rfl rfl rfl (fun b hb => ?_) ?_ (fun f' hf' => ?_) (k _ h2)
  · refine ⟨?_, ?_, ?_⟩ <;> first | rfl | (funext j; simp [dwPI, dwPL, dwPR, dwI, dwL, dwR, up2, hb])
  · unfold dwFv; rw [hF.1]; simp [dwPI, dwPL, dwPR, dwI, dwL, dwR, up2, va_rf]
  · unfold dwFv; split <;> simp [dwPI, dwPL, dwPR, dwI, dwL, dwR, up2, hf']
end ROWB
