set_option maxRecDepth 100000
section
variable {K : gK} {cc : ByteArray} {nL : Nat} {own nm : String} {ret : Option FieldType} {fr lo : Nat} {h : gH} {pc : Nat} {lv : List (Nat × Value)} {st : List Value}
theorem v_iadd (X : gX K cc nL own nm ret fr lo) {x y : Int32} (hd : decode cc pc = .ok (.iadd, 1)) (k : V K nL h (pc + 1) lv (.int (x + y) :: st)) : V K nL h pc lv (.int y :: .int x :: st) :=
  fun ls hl H locs cells slots r => lv_iadd X.hx X.hb hd (k ls hl H locs cells slots r)
theorem v_isub (X : gX K cc nL own nm ret fr lo) {x y : Int32} (hd : decode cc pc = .ok (.isub, 1)) (k : V K nL h (pc + 1) lv (.int (x - y) :: st)) : V K nL h pc lv (.int y :: .int x :: st) :=
  fun ls hl H locs cells slots r => lv_isub X.hx X.hb hd (k ls hl H locs cells slots r)
theorem v_imul (X : gX K cc nL own nm ret fr lo) {x y : Int32} (hd : decode cc pc = .ok (.imul, 1)) (k : V K nL h (pc + 1) lv (.int (x * y) :: st)) : V K nL h pc lv (.int y :: .int x :: st) :=
  fun ls hl H locs cells slots r => lv_imul X.hx X.hb hd (k ls hl H locs cells slots r)
theorem v_iand (X : gX K cc nL own nm ret fr lo) {x y : Int32} (hd : decode cc pc = .ok (.iand, 1)) (k : V K nL h (pc + 1) lv (.int (x &&& y) :: st)) : V K nL h pc lv (.int y :: .int x :: st) :=
  fun ls hl H locs cells slots r => lv_iand X.hx X.hb hd (k ls hl H locs cells slots r)
theorem v_ior (X : gX K cc nL own nm ret fr lo) {x y : Int32} (hd : decode cc pc = .ok (.ior, 1)) (k : V K nL h (pc + 1) lv (.int (x ||| y) :: st)) : V K nL h pc lv (.int y :: .int x :: st) :=
  fun ls hl H locs cells slots r => lv_ior X.hx X.hb hd (k ls hl H locs cells slots r)
theorem v_ixor (X : gX K cc nL own nm ret fr lo) {x y : Int32} (hd : decode cc pc = .ok (.ixor, 1)) (k : V K nL h (pc + 1) lv (.int (x ^^^ y) :: st)) : V K nL h pc lv (.int y :: .int x :: st) :=
  fun ls hl H locs cells slots r => lv_ixor X.hx X.hb hd (k ls hl H locs cells slots r)
theorem v_ishl (X : gX K cc nL own nm ret fr lo) {x y : Int32} (hd : decode cc pc = .ok (.ishl, 1)) (k : V K nL h (pc + 1) lv (.int (x <<< (y &&& 31)) :: st)) : V K nL h pc lv (.int y :: .int x :: st) :=
  fun ls hl H locs cells slots r => lv_ishl X.hx X.hb hd (k ls hl H locs cells slots r)
theorem v_ishr (X : gX K cc nL own nm ret fr lo) {x y : Int32} (hd : decode cc pc = .ok (.ishr, 1)) (k : V K nL h (pc + 1) lv (.int (x >>> (y &&& 31)) :: st)) : V K nL h pc lv (.int y :: .int x :: st) :=
  fun ls hl H locs cells slots r => lv_ishr X.hx X.hb hd (k ls hl H locs cells slots r)
theorem v_idiv (X : gX K cc nL own nm ret fr lo) {x y : Int32} (hd : decode cc pc = .ok (.idiv, 1)) (hne : ¬ y = 0) (k : V K nL h (pc + 1) lv (.int (x / y) :: st)) : V K nL h pc lv (.int y :: .int x :: st) :=
  fun ls hl H locs cells slots r => lv_idiv X.hx X.hb hd hne (k ls hl H locs cells slots r)
theorem v_irem (X : gX K cc nL own nm ret fr lo) {x y : Int32} (hd : decode cc pc = .ok (.irem, 1)) (hne : ¬ y = 0) (k : V K nL h (pc + 1) lv (.int (x - x / y * y) :: st)) : V K nL h pc lv (.int y :: .int x :: st) :=
  fun ls hl H locs cells slots r => lv_irem X.hx X.hb hd hne (k ls hl H locs cells slots r)
theorem v_ineg (X : gX K cc nL own nm ret fr lo) {x : Int32} (hd : decode cc pc = .ok (.ineg, 1)) (k : V K nL h (pc + 1) lv (.int (-x) :: st)) : V K nL h pc lv (.int x :: st) :=
  fun ls hl H locs cells slots r => lv_ineg X.hx X.hb hd (k ls hl H locs cells slots r)
theorem v_ladd (X : gX K cc nL own nm ret fr lo) {x y : Int64} (hd : decode cc pc = .ok (.ladd, 1)) (k : V K nL h (pc + 1) lv (.long (x + y) :: st)) : V K nL h pc lv (.long y :: .long x :: st) :=
  fun ls hl H locs cells slots r => lv_ladd X.hx X.hb hd (k ls hl H locs cells slots r)
theorem v_lsub (X : gX K cc nL own nm ret fr lo) {x y : Int64} (hd : decode cc pc = .ok (.lsub, 1)) (k : V K nL h (pc + 1) lv (.long (x - y) :: st)) : V K nL h pc lv (.long y :: .long x :: st) :=
  fun ls hl H locs cells slots r => lv_lsub X.hx X.hb hd (k ls hl H locs cells slots r)
theorem v_lmul (X : gX K cc nL own nm ret fr lo) {x y : Int64} (hd : decode cc pc = .ok (.lmul, 1)) (k : V K nL h (pc + 1) lv (.long (x * y) :: st)) : V K nL h pc lv (.long y :: .long x :: st) :=
  fun ls hl H locs cells slots r => lv_lmul X.hx X.hb hd (k ls hl H locs cells slots r)
theorem v_land (X : gX K cc nL own nm ret fr lo) {x y : Int64} (hd : decode cc pc = .ok (.land, 1)) (k : V K nL h (pc + 1) lv (.long (x &&& y) :: st)) : V K nL h pc lv (.long y :: .long x :: st) :=
  fun ls hl H locs cells slots r => lv_land X.hx X.hb hd (k ls hl H locs cells slots r)
theorem v_lor (X : gX K cc nL own nm ret fr lo) {x y : Int64} (hd : decode cc pc = .ok (.lor, 1)) (k : V K nL h (pc + 1) lv (.long (x ||| y) :: st)) : V K nL h pc lv (.long y :: .long x :: st) :=
  fun ls hl H locs cells slots r => lv_lor X.hx X.hb hd (k ls hl H locs cells slots r)
theorem v_lshl (X : gX K cc nL own nm ret fr lo) {x : Int64} {y : Int32} (hd : decode cc pc = .ok (.lshl, 1)) (k : V K nL h (pc + 1) lv (.long (x <<< (y.toInt64 &&& 63)) :: st)) : V K nL h pc lv (.int y :: .long x :: st) :=
  fun ls hl H locs cells slots r => lv_lshl X.hx X.hb hd rfl (k ls hl H locs cells slots r)
theorem v_lshr (X : gX K cc nL own nm ret fr lo) {x : Int64} {y : Int32} (hd : decode cc pc = .ok (.lshr, 1)) (k : V K nL h (pc + 1) lv (.long (x >>> (y.toInt64 &&& 63)) :: st)) : V K nL h pc lv (.int y :: .long x :: st) :=
  fun ls hl H locs cells slots r => lv_lshr X.hx X.hb hd rfl (k ls hl H locs cells slots r)
theorem v_lushr (X : gX K cc nL own nm ret fr lo) {x : Int64} {y : Int32} (hd : decode cc pc = .ok (.lushr, 1)) (k : V K nL h (pc + 1) lv (.long ((x.toUInt64 >>> (y.toInt64.toUInt64 &&& Int64.toUInt64 63)).toInt64) :: st)) : V K nL h pc lv (.int y :: .long x :: st) :=
  fun ls hl H locs cells slots r => lv_lushr X.hx X.hb hd rfl (k ls hl H locs cells slots r)
theorem v_iushr (X : gX K cc nL own nm ret fr lo) {x y : Int32} (hd : decode cc pc = .ok (.iushr, 1)) (k : V K nL h (pc + 1) lv (.int ((x.toUInt32 >>> (y.toUInt32 &&& Int32.toUInt32 31)).toInt32) :: st)) : V K nL h pc lv (.int y :: .int x :: st) :=
  fun ls hl H locs cells slots r => lv_iushr X.hx X.hb hd rfl (k ls hl H locs cells slots r)
theorem v_i2l (X : gX K cc nL own nm ret fr lo) {x : Int32} (hd : decode cc pc = .ok (.i2l, 1)) (k : V K nL h (pc + 1) lv (.long x.toInt64 :: st)) : V K nL h pc lv (.int x :: st) :=
  fun ls hl H locs cells slots r => lv_i2l X.hx X.hb hd rfl (k ls hl H locs cells slots r)
theorem v_l2i (X : gX K cc nL own nm ret fr lo) {x : Int64} (hd : decode cc pc = .ok (.l2i, 1)) (k : V K nL h (pc + 1) lv (.int x.toInt32 :: st)) : V K nL h pc lv (.long x :: st) :=
  fun ls hl H locs cells slots r => lv_l2i X.hx X.hb hd rfl (k ls hl H locs cells slots r)
theorem v_i2b (X : gX K cc nL own nm ret fr lo) {x : Int32} (hd : decode cc pc = .ok (.i2b, 1)) (k : V K nL h (pc + 1) lv (.int x.toInt8.toInt32 :: st)) : V K nL h pc lv (.int x :: st) :=
  fun ls hl H locs cells slots r => lv_i2b X.hx X.hb hd rfl (k ls hl H locs cells slots r)
theorem v_i2c (X : gX K cc nL own nm ret fr lo) {x : Int32} (hd : decode cc pc = .ok (.i2c, 1)) (k : V K nL h (pc + 1) lv (.int (x.toUInt32 % 65536).toInt32 :: st)) : V K nL h pc lv (.int x :: st) :=
  fun ls hl H locs cells slots r => lv_i2c X.hx X.hb hd rfl (k ls hl H locs cells slots r)
theorem v_lcmp (X : gX K cc nL own nm ret fr lo) {x y : Int64} (hd : decode cc pc = .ok (.lcmp, 1)) (k : V K nL h (pc + 1) lv (.int (lg_cmp x y) :: st)) : V K nL h pc lv (.long y :: .long x :: st) :=
  fun ls hl H locs cells slots r => W.lcmp X.hx X.hb hd (k ls hl H locs cells slots r)
theorem v_iconst (X : gX K cc nL own nm ret fr lo) {n : Int} {v : Int32} (hd : decode cc pc = .ok (.iconst n, 1)) (hv : Int32.ofInt n = v) (k : V K nL h (pc + 1) lv (.int v :: st)) : V K nL h pc lv (st) :=
  fun ls hl H locs cells slots r => lv_iconst X.hx X.hb hd hv (k ls hl H locs cells slots r)
theorem v_bipush (X : gX K cc nL own nm ret fr lo) {n : Int} {v : Int32} (hd : decode cc pc = .ok (.bipush n, 2)) (hv : (Int8.ofInt n).toInt32 = v) (k : V K nL h (pc + 2) lv (.int v :: st)) : V K nL h pc lv (st) :=
  fun ls hl H locs cells slots r => lv_bipush X.hx X.hb hd hv (k ls hl H locs cells slots r)
theorem v_sipush (X : gX K cc nL own nm ret fr lo) {n : Int} {v : Int32} (hd : decode cc pc = .ok (.sipush n, 3)) (hv : (Int16.ofInt n).toInt32 = v) (k : V K nL h (pc + 3) lv (.int v :: st)) : V K nL h pc lv (st) :=
  fun ls hl H locs cells slots r => lv_sipush X.hx X.hb hd hv (k ls hl H locs cells slots r)
theorem v_lconst (X : gX K cc nL own nm ret fr lo) {n : Fin 2} {v : Int64} (hd : decode cc pc = .ok (.lconst n, 1)) (hv : Int64.ofNat (n : Nat) = v) (k : V K nL h (pc + 1) lv (.long v :: st)) : V K nL h pc lv (st) :=
  fun ls hl H locs cells slots r => lv_lconst X.hx X.hb hd hv (k ls hl H locs cells slots r)
theorem v_null (X : gX K cc nL own nm ret fr lo)  (hd : decode cc pc = .ok (.aconst_null, 1)) (k : V K nL h (pc + 1) lv (.null :: st)) : V K nL h pc lv (st) :=
  fun ls hl H locs cells slots r => lv_null X.hx X.hb hd (k ls hl H locs cells slots r)
theorem v_dup (X : gX K cc nL own nm ret fr lo) {va : Value} (hd : decode cc pc = .ok (.dup, 1)) (hc : va.category = 1) (k : V K nL h (pc + 1) lv (va :: va :: st)) : V K nL h pc lv (va :: st) :=
  fun ls hl H locs cells slots r => lv_dup X.hx X.hb hd hc (k ls hl H locs cells slots r)
theorem v_dup2 (X : gX K cc nL own nm ret fr lo) {va vb : Value} (hd : decode cc pc = .ok (.dup2, 1)) (hc : va.category = 1) (hc2 : vb.category = 1) (k : V K nL h (pc + 1) lv (va :: vb :: va :: vb :: st)) : V K nL h pc lv (va :: vb :: st) :=
  fun ls hl H locs cells slots r => lv_dup2_11 X.hx X.hb hd hc hc2 (k ls hl H locs cells slots r)
theorem v_dup_x1 (X : gX K cc nL own nm ret fr lo) {va vb : Value} (hd : decode cc pc = .ok (.dup_x1, 1)) (hc : va.category = 1) (hc2 : vb.category = 1) (k : V K nL h (pc + 1) lv (va :: vb :: va :: st)) : V K nL h pc lv (va :: vb :: st) :=
  fun ls hl H locs cells slots r => lv_dup_x1 X.hx X.hb hd hc hc2 (k ls hl H locs cells slots r)
theorem v_pop (X : gX K cc nL own nm ret fr lo) {va : Value} (hd : decode cc pc = .ok (.pop, 1)) (hc : va.category = 1) (k : V K nL h (pc + 1) lv (st)) : V K nL h pc lv (va :: st) :=
  fun ls hl H locs cells slots r => lv_pop X.hx X.hb hd hc (k ls hl H locs cells slots r)
theorem v_ldc (X : gX K cc nL own nm ret fr lo) {index : Nat} {v : Int32} (hw : Jvm.Cond.constant own index v ∈ lw_all) (hd : decode cc pc = .ok (.ldc index, 2)) (k : V K nL h (pc + 2) lv (.int v :: st)) : V K nL h pc lv (st) :=
  fun ls hl H locs cells slots r => lv_ldc X.hx X.hb X.hown (X.hts _ hw) hd (k ls hl H locs cells slots r)
theorem v_ldcw (X : gX K cc nL own nm ret fr lo) {index : Nat} {v : Int32} (hw : Jvm.Cond.constant own index v ∈ lw_all) (hd : decode cc pc = .ok (.ldc_w index, 3)) (k : V K nL h (pc + 3) lv (.int v :: st)) : V K nL h pc lv (st) :=
  fun ls hl H locs cells slots r => lv_ldcw X.hx X.hb X.hown (X.hts _ hw) hd (k ls hl H locs cells slots r)
theorem v_ldc2 (X : gX K cc nL own nm ret fr lo) {index : Nat} {v : Int64} (hw : Jvm.Cond.constantLong own index v ∈ lw_all) (hd : decode cc pc = .ok (.ldc2_w index, 3)) (k : V K nL h (pc + 3) lv (.long v :: st)) : V K nL h pc lv (st) :=
  fun ls hl H locs cells slots r => lv_ldc2 X.hx X.hb X.hown (X.hts _ hw) hd (k ls hl H locs cells slots r)
theorem v_iload_n (X : gX K cc nL own nm ret fr lo) {j : Fin 4} {x : Int32} (hd : decode cc pc = .ok (.iload_n j, 1)) (q i : Nat) (hi : (j : Nat) = i) (hl0 : lv[q]? = some (i, .int x)) (k : V K nL h (pc + 1) lv (.int x :: st)) : V K nL h pc lv (st) :=
  fun ls hl H locs cells slots r => lv_iload_n X.hx X.hb hd hi (lv_at hl q hl0) (k ls hl H locs cells slots r)
theorem v_iload (X : gX K cc nL own nm ret fr lo) {i : Nat} {x : Int32} (hd : decode cc pc = .ok (.iload i, 2)) (q : Nat) (hl0 : lv[q]? = some (i, .int x)) (k : V K nL h (pc + 2) lv (.int x :: st)) : V K nL h pc lv (st) :=
  fun ls hl H locs cells slots r => lv_iload X.hx X.hb hd (lv_at hl q hl0) (k ls hl H locs cells slots r)
theorem v_lload_n (X : gX K cc nL own nm ret fr lo) {j : Fin 4} {x : Int64} (hd : decode cc pc = .ok (.lload_n j, 1)) (q i : Nat) (hi : (j : Nat) = i) (hl0 : lv[q]? = some (i, .long x)) (k : V K nL h (pc + 1) lv (.long x :: st)) : V K nL h pc lv (st) :=
  fun ls hl H locs cells slots r => lv_lload_n X.hx X.hb hd hi (lv_at hl q hl0) (k ls hl H locs cells slots r)
theorem v_lload (X : gX K cc nL own nm ret fr lo) {i : Nat} {x : Int64} (hd : decode cc pc = .ok (.lload i, 2)) (q : Nat) (hl0 : lv[q]? = some (i, .long x)) (k : V K nL h (pc + 2) lv (.long x :: st)) : V K nL h pc lv (st) :=
  fun ls hl H locs cells slots r => lv_lload X.hx X.hb hd (lv_at hl q hl0) (k ls hl H locs cells slots r)
theorem v_aload_n (X : gX K cc nL own nm ret fr lo) {j : Fin 4} {x : Nat} (hd : decode cc pc = .ok (.aload_n j, 1)) (q i : Nat) (hi : (j : Nat) = i) (hl0 : lv[q]? = some (i, .ref x)) (k : V K nL h (pc + 1) lv (.ref x :: st)) : V K nL h pc lv (st) :=
  fun ls hl H locs cells slots r => lv_aload_n X.hx X.hb hd hi (lv_at hl q hl0) (k ls hl H locs cells slots r)
theorem v_aload (X : gX K cc nL own nm ret fr lo) {i : Nat} {x : Nat} (hd : decode cc pc = .ok (.aload i, 2)) (q : Nat) (hl0 : lv[q]? = some (i, .ref x)) (k : V K nL h (pc + 2) lv (.ref x :: st)) : V K nL h pc lv (st) :=
  fun ls hl H locs cells slots r => lv_aload X.hx X.hb hd (lv_at hl q hl0) (k ls hl H locs cells slots r)
theorem v_istore_n (X : gX K cc nL own nm ret fr lo) {j : Fin 4} {x : Int32} {lv2 : List (Nat × Value)} (hd : decode cc pc = .ok (.istore_n j, 1)) (i : Nat) (hi : (j : Nat) = i) (hn : i < nL) (hl2 : (i, Value.int x) :: lv.filter (fun q => !(q.1 == i) && !(q.1 + 1 == i && q.2.category == 2)) = lv2) (k : V K nL h (pc + 1) lv2 st) : V K nL h pc lv (.int x :: st) :=
  fun ls hl H locs cells slots r => lv_istore_n X.hx X.hb hd hi hl hn hl2 (fun ls2 hl2 => k ls2 hl2 H locs cells slots r)
theorem v_istore (X : gX K cc nL own nm ret fr lo) {i : Nat} {x : Int32} {lv2 : List (Nat × Value)} (hd : decode cc pc = .ok (.istore i, 2)) (hn : i < nL) (hl2 : (i, Value.int x) :: lv.filter (fun q => !(q.1 == i) && !(q.1 + 1 == i && q.2.category == 2)) = lv2) (k : V K nL h (pc + 2) lv2 st) : V K nL h pc lv (.int x :: st) :=
  fun ls hl H locs cells slots r => lv_istore X.hx X.hb hd hl hn hl2 (fun ls2 hl2 => k ls2 hl2 H locs cells slots r)
theorem v_astore_n (X : gX K cc nL own nm ret fr lo) {j : Fin 4} {x : Nat} {lv2 : List (Nat × Value)} (hd : decode cc pc = .ok (.astore_n j, 1)) (i : Nat) (hi : (j : Nat) = i) (hn : i < nL) (hl2 : (i, Value.ref x) :: lv.filter (fun q => !(q.1 == i) && !(q.1 + 1 == i && q.2.category == 2)) = lv2) (k : V K nL h (pc + 1) lv2 st) : V K nL h pc lv (.ref x :: st) :=
  fun ls hl H locs cells slots r => lv_astore_n X.hx X.hb hd hi hl hn hl2 (fun ls2 hl2 => k ls2 hl2 H locs cells slots r)
theorem v_astore (X : gX K cc nL own nm ret fr lo) {i : Nat} {x : Nat} {lv2 : List (Nat × Value)} (hd : decode cc pc = .ok (.astore i, 2)) (hn : i < nL) (hl2 : (i, Value.ref x) :: lv.filter (fun q => !(q.1 == i) && !(q.1 + 1 == i && q.2.category == 2)) = lv2) (k : V K nL h (pc + 2) lv2 st) : V K nL h pc lv (.ref x :: st) :=
  fun ls hl H locs cells slots r => lv_astore X.hx X.hb hd hl hn hl2 (fun ls2 hl2 => k ls2 hl2 H locs cells slots r)
theorem v_lstore_n (X : gX K cc nL own nm ret fr lo) {j : Fin 4} {x : Int64} {lv2 : List (Nat × Value)} (hd : decode cc pc = .ok (.lstore_n j, 1)) (i : Nat) (hi : (j : Nat) = i) (hn : i + 1 < nL) (hl2 : (i, Value.long x) :: lv.filter (fun q => !(q.1 == i) && (!(q.1 == i + 1) && !(q.1 + 1 == i && q.2.category == 2))) = lv2) (k : V K nL h (pc + 1) lv2 st) : V K nL h pc lv (.long x :: st) :=
  fun ls hl H locs cells slots r => lv_lstore_n X.hx X.hb hd hi hl hn hl2 (fun ls2 hl2 => k ls2 hl2 H locs cells slots r)
theorem v_lstore (X : gX K cc nL own nm ret fr lo) {i : Nat} {x : Int64} {lv2 : List (Nat × Value)} (hd : decode cc pc = .ok (.lstore i, 2)) (hn : i + 1 < nL) (hl2 : (i, Value.long x) :: lv.filter (fun q => !(q.1 == i) && (!(q.1 == i + 1) && !(q.1 + 1 == i && q.2.category == 2))) = lv2) (k : V K nL h (pc + 2) lv2 st) : V K nL h pc lv (.long x :: st) :=
  fun ls hl H locs cells slots r => lv_lstore X.hx X.hb hd hl hn hl2 (fun ls2 hl2 => k ls2 hl2 H locs cells slots r)
theorem v_iinc (X : gX K cc nL own nm ret fr lo) {i : Nat} {n : Int} {x v : Int32} {lv2 : List (Nat × Value)} (hd : decode cc pc = .ok (.iinc i n, 3)) (q : Nat) (hk : lv[q]? = some (i, .int x)) (hv : x + Int32.ofInt n = v) (hn : i < nL) (hl2 : (i, Value.int v) :: lv.filter (fun q => !(q.1 == i) && !(q.1 + 1 == i && q.2.category == 2)) = lv2) (k : V K nL h (pc + 3) lv2 st) : V K nL h pc lv st :=
  fun ls hl H locs cells slots r => lv_iinc X.hx X.hb hd hl hk hv hn hl2 (fun ls2 hl2 => k ls2 hl2 H locs cells slots r)
theorem v_loc {lv2 : List (Nat × Value)} (qs : List Nat) (hl2 : lv_pick lv qs = lv2) (k : V K nL h pc lv2 st) : V K nL h pc lv st :=
  fun ls hl H locs cells slots r => k ls (lv_sub hl qs hl2) H locs cells slots r
theorem v_if_eq (X : gX K cc nL own nm ret fr lo) {x : Int32} {off : Int} {tgt : Nat} (hd : decode cc pc = .ok (.ifCond .eq off, 3)) (ht : (pc : Int) + off = (tgt : Int)) (kt : x = 0 → V K nL h tgt lv st) (kf : ¬ (x = 0) → V K nL h (pc + 3) lv st) : V K nL h pc lv (.int x :: st) :=
  fun ls hl H locs cells slots r => lv_if_eq X.hx X.hb hd ht (fun q => kt q ls hl H locs cells slots r) (fun q => kf q ls hl H locs cells slots r)
theorem v_icmp_eq (X : gX K cc nL own nm ret fr lo) {x y : Int32} {off : Int} {tgt : Nat} (hd : decode cc pc = .ok (.if_icmp .eq off, 3)) (ht : (pc : Int) + off = (tgt : Int)) (kt : x = y → V K nL h tgt lv st) (kf : ¬ (x = y) → V K nL h (pc + 3) lv st) : V K nL h pc lv (.int y :: .int x :: st) :=
  fun ls hl H locs cells slots r => lv_icmp_eq X.hx X.hb hd ht (fun q => kt q ls hl H locs cells slots r) (fun q => kf q ls hl H locs cells slots r)
theorem v_if_ne (X : gX K cc nL own nm ret fr lo) {x : Int32} {off : Int} {tgt : Nat} (hd : decode cc pc = .ok (.ifCond .ne off, 3)) (ht : (pc : Int) + off = (tgt : Int)) (kt : ¬ x = 0 → V K nL h tgt lv st) (kf : x = 0 → V K nL h (pc + 3) lv st) : V K nL h pc lv (.int x :: st) :=
  fun ls hl H locs cells slots r => lv_if_ne X.hx X.hb hd ht (fun q => kt q ls hl H locs cells slots r) (fun q => kf q ls hl H locs cells slots r)
theorem v_icmp_ne (X : gX K cc nL own nm ret fr lo) {x y : Int32} {off : Int} {tgt : Nat} (hd : decode cc pc = .ok (.if_icmp .ne off, 3)) (ht : (pc : Int) + off = (tgt : Int)) (kt : ¬ x = y → V K nL h tgt lv st) (kf : x = y → V K nL h (pc + 3) lv st) : V K nL h pc lv (.int y :: .int x :: st) :=
  fun ls hl H locs cells slots r => lv_icmp_ne X.hx X.hb hd ht (fun q => kt q ls hl H locs cells slots r) (fun q => kf q ls hl H locs cells slots r)
theorem v_if_lt (X : gX K cc nL own nm ret fr lo) {x : Int32} {off : Int} {tgt : Nat} (hd : decode cc pc = .ok (.ifCond .lt off, 3)) (ht : (pc : Int) + off = (tgt : Int)) (kt : x < 0 → V K nL h tgt lv st) (kf : ¬ (x < 0) → V K nL h (pc + 3) lv st) : V K nL h pc lv (.int x :: st) :=
  fun ls hl H locs cells slots r => lv_if_lt X.hx X.hb hd ht (fun q => kt q ls hl H locs cells slots r) (fun q => kf q ls hl H locs cells slots r)
theorem v_icmp_lt (X : gX K cc nL own nm ret fr lo) {x y : Int32} {off : Int} {tgt : Nat} (hd : decode cc pc = .ok (.if_icmp .lt off, 3)) (ht : (pc : Int) + off = (tgt : Int)) (kt : x < y → V K nL h tgt lv st) (kf : ¬ (x < y) → V K nL h (pc + 3) lv st) : V K nL h pc lv (.int y :: .int x :: st) :=
  fun ls hl H locs cells slots r => lv_icmp_lt X.hx X.hb hd ht (fun q => kt q ls hl H locs cells slots r) (fun q => kf q ls hl H locs cells slots r)
theorem v_if_ge (X : gX K cc nL own nm ret fr lo) {x : Int32} {off : Int} {tgt : Nat} (hd : decode cc pc = .ok (.ifCond .ge off, 3)) (ht : (pc : Int) + off = (tgt : Int)) (kt : 0 ≤ x → V K nL h tgt lv st) (kf : ¬ (0 ≤ x) → V K nL h (pc + 3) lv st) : V K nL h pc lv (.int x :: st) :=
  fun ls hl H locs cells slots r => lv_if_ge X.hx X.hb hd ht (fun q => kt q ls hl H locs cells slots r) (fun q => kf q ls hl H locs cells slots r)
theorem v_icmp_ge (X : gX K cc nL own nm ret fr lo) {x y : Int32} {off : Int} {tgt : Nat} (hd : decode cc pc = .ok (.if_icmp .ge off, 3)) (ht : (pc : Int) + off = (tgt : Int)) (kt : y ≤ x → V K nL h tgt lv st) (kf : ¬ (y ≤ x) → V K nL h (pc + 3) lv st) : V K nL h pc lv (.int y :: .int x :: st) :=
  fun ls hl H locs cells slots r => lv_icmp_ge X.hx X.hb hd ht (fun q => kt q ls hl H locs cells slots r) (fun q => kf q ls hl H locs cells slots r)
theorem v_if_gt (X : gX K cc nL own nm ret fr lo) {x : Int32} {off : Int} {tgt : Nat} (hd : decode cc pc = .ok (.ifCond .gt off, 3)) (ht : (pc : Int) + off = (tgt : Int)) (kt : 0 < x → V K nL h tgt lv st) (kf : ¬ (0 < x) → V K nL h (pc + 3) lv st) : V K nL h pc lv (.int x :: st) :=
  fun ls hl H locs cells slots r => lv_if_gt X.hx X.hb hd ht (fun q => kt q ls hl H locs cells slots r) (fun q => kf q ls hl H locs cells slots r)
theorem v_icmp_gt (X : gX K cc nL own nm ret fr lo) {x y : Int32} {off : Int} {tgt : Nat} (hd : decode cc pc = .ok (.if_icmp .gt off, 3)) (ht : (pc : Int) + off = (tgt : Int)) (kt : y < x → V K nL h tgt lv st) (kf : ¬ (y < x) → V K nL h (pc + 3) lv st) : V K nL h pc lv (.int y :: .int x :: st) :=
  fun ls hl H locs cells slots r => lv_icmp_gt X.hx X.hb hd ht (fun q => kt q ls hl H locs cells slots r) (fun q => kf q ls hl H locs cells slots r)
theorem v_if_le (X : gX K cc nL own nm ret fr lo) {x : Int32} {off : Int} {tgt : Nat} (hd : decode cc pc = .ok (.ifCond .le off, 3)) (ht : (pc : Int) + off = (tgt : Int)) (kt : x ≤ 0 → V K nL h tgt lv st) (kf : ¬ (x ≤ 0) → V K nL h (pc + 3) lv st) : V K nL h pc lv (.int x :: st) :=
  fun ls hl H locs cells slots r => lv_if_le X.hx X.hb hd ht (fun q => kt q ls hl H locs cells slots r) (fun q => kf q ls hl H locs cells slots r)
theorem v_icmp_le (X : gX K cc nL own nm ret fr lo) {x y : Int32} {off : Int} {tgt : Nat} (hd : decode cc pc = .ok (.if_icmp .le off, 3)) (ht : (pc : Int) + off = (tgt : Int)) (kt : x ≤ y → V K nL h tgt lv st) (kf : ¬ (x ≤ y) → V K nL h (pc + 3) lv st) : V K nL h pc lv (.int y :: .int x :: st) :=
  fun ls hl H locs cells slots r => lv_icmp_le X.hx X.hb hd ht (fun q => kt q ls hl H locs cells slots r) (fun q => kf q ls hl H locs cells slots r)
theorem v_goto (X : gX K cc nL own nm ret fr lo) {off : Int} {tgt : Nat} (hd : decode cc pc = .ok (.goto off, 3)) (ht : (pc : Int) + off = (tgt : Int)) (k : V K nL h tgt lv st) : V K nL h pc lv st :=
  fun ls hl H locs cells slots r => lv_goto X.hx X.hb hd ht (k ls hl H locs cells slots r)
end
