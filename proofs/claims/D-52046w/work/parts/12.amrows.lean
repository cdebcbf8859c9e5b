section
set_option maxRecDepth 100000
variable {G : aG} {K : aK} {P : aP} {pc n : Nat} {lv lv' : List (Nat × Value)} {st st' : List Value} {h h' : hH} {ce sl : Nat}

theorem aw_iconst {i : Int} {v : Int32} (hd : decode K.2.1 pc = .ok (.iconst i, 1)) (hv : Int32.ofInt i = v) (hn : pc + 1 = n) (k : AW G K P n lv (.int v :: st) h ce sl) : AW G K P pc lv (st) h ce sl := by
  intro p l e s m args below meth c C H locs ls hR hl hf
  subst hn
  exact lv_iconst C.1 C.2.1 hd hv (k p l e s m args below meth c C H locs ls hR hl hf)

theorem aw_bipush {i : Int} {v : Int32} (hd : decode K.2.1 pc = .ok (.bipush i, 2)) (hv : (Int8.ofInt i).toInt32 = v) (hn : pc + 2 = n) (k : AW G K P n lv (.int v :: st) h ce sl) : AW G K P pc lv (st) h ce sl := by
  intro p l e s m args below meth c C H locs ls hR hl hf
  subst hn
  exact lv_bipush C.1 C.2.1 hd hv (k p l e s m args below meth c C H locs ls hR hl hf)

theorem aw_sipush {i : Int} {v : Int32} (hd : decode K.2.1 pc = .ok (.sipush i, 3)) (hv : (Int16.ofInt i).toInt32 = v) (hn : pc + 3 = n) (k : AW G K P n lv (.int v :: st) h ce sl) : AW G K P pc lv (st) h ce sl := by
  intro p l e s m args below meth c C H locs ls hR hl hf
  subst hn
  exact lv_sipush C.1 C.2.1 hd hv (k p l e s m args below meth c C H locs ls hR hl hf)

theorem aw_lconst {i : Fin 2} {v : Int64} (hd : decode K.2.1 pc = .ok (.lconst i, 1)) (hv : Int64.ofNat (i : Nat) = v) (hn : pc + 1 = n) (k : AW G K P n lv (.long v :: st) h ce sl) : AW G K P pc lv (st) h ce sl := by
  intro p l e s m args below meth c C H locs ls hR hl hf
  subst hn
  exact lv_lconst C.1 C.2.1 hd hv (k p l e s m args below meth c C H locs ls hR hl hf)

theorem aw_null  (hd : decode K.2.1 pc = .ok (.aconst_null, 1))  (hn : pc + 1 = n) (k : AW G K P n lv (.null :: st) h ce sl) : AW G K P pc lv (st) h ce sl := by
  intro p l e s m args below meth c C H locs ls hR hl hf
  subst hn
  exact lv_null C.1 C.2.1 hd  (k p l e s m args below meth c C H locs ls hR hl hf)

theorem aw_dconst0 (hd : decode K.2.1 pc = .ok (.dconst 0, 1)) (hn : pc + 1 = n) (k : AW G K P n lv (.double 0 :: st) h ce sl) : AW G K P pc lv st h ce sl := by
  intro p l e s m args below meth c C H locs ls hR hl hf
  subst hn
  exact lv_dconst0 C.1 C.2.1 hd (k p l e s m args below meth c C H locs ls hR hl hf)

theorem aw_dconst1 (hd : decode K.2.1 pc = .ok (.dconst 1, 1)) (hn : pc + 1 = n) (k : AW G K P n lv (.double 0x3ff0000000000000 :: st) h ce sl) : AW G K P pc lv st h ce sl := by
  intro p l e s m args below meth c C H locs ls hR hl hf
  subst hn
  exact lv_dconst1 C.1 C.2.1 hd (k p l e s m args below meth c C H locs ls hR hl hf)

theorem aw_iload_n {q : Fin 4} {i : Nat} {x : Int32} (hd : decode K.2.1 pc = .ok (.iload_n q, 1)) (hi : (q : Nat) = i) (j : Nat) (hj : lv[j]? = some (i, .int x)) (hn : pc + 1 = n) (k : AW G K P n lv (.int x :: st) h ce sl) : AW G K P pc lv (st) h ce sl := by
  intro p l e s m args below meth c C H locs ls hR hl hf
  subst hn
  exact lv_iload_n C.1 C.2.1 hd hi (lv_at hl j hj) (k p l e s m args below meth c C H locs ls hR hl hf)

theorem aw_iload {i : Nat} {x : Int32} (hd : decode K.2.1 pc = .ok (.iload i, 2)) (j : Nat) (hj : lv[j]? = some (i, .int x)) (hn : pc + 2 = n) (k : AW G K P n lv (.int x :: st) h ce sl) : AW G K P pc lv (st) h ce sl := by
  intro p l e s m args below meth c C H locs ls hR hl hf
  subst hn
  exact lv_iload C.1 C.2.1 hd (lv_at hl j hj) (k p l e s m args below meth c C H locs ls hR hl hf)

theorem aw_aload_n {q : Fin 4} {i : Nat} {x : Nat} (hd : decode K.2.1 pc = .ok (.aload_n q, 1)) (hi : (q : Nat) = i) (j : Nat) (hj : lv[j]? = some (i, .ref x)) (hn : pc + 1 = n) (k : AW G K P n lv (.ref x :: st) h ce sl) : AW G K P pc lv (st) h ce sl := by
  intro p l e s m args below meth c C H locs ls hR hl hf
  subst hn
  exact lv_aload_n C.1 C.2.1 hd hi (lv_at hl j hj) (k p l e s m args below meth c C H locs ls hR hl hf)

theorem aw_aload {i : Nat} {x : Nat} (hd : decode K.2.1 pc = .ok (.aload i, 2)) (j : Nat) (hj : lv[j]? = some (i, .ref x)) (hn : pc + 2 = n) (k : AW G K P n lv (.ref x :: st) h ce sl) : AW G K P pc lv (st) h ce sl := by
  intro p l e s m args below meth c C H locs ls hR hl hf
  subst hn
  exact lv_aload C.1 C.2.1 hd (lv_at hl j hj) (k p l e s m args below meth c C H locs ls hR hl hf)

theorem aw_lload_n {q : Fin 4} {i : Nat} {x : Int64} (hd : decode K.2.1 pc = .ok (.lload_n q, 1)) (hi : (q : Nat) = i) (j : Nat) (hj : lv[j]? = some (i, .long x)) (hn : pc + 1 = n) (k : AW G K P n lv (.long x :: st) h ce sl) : AW G K P pc lv (st) h ce sl := by
  intro p l e s m args below meth c C H locs ls hR hl hf
  subst hn
  exact lv_lload_n C.1 C.2.1 hd hi (lv_at hl j hj) (k p l e s m args below meth c C H locs ls hR hl hf)

theorem aw_lload {i : Nat} {x : Int64} (hd : decode K.2.1 pc = .ok (.lload i, 2)) (j : Nat) (hj : lv[j]? = some (i, .long x)) (hn : pc + 2 = n) (k : AW G K P n lv (.long x :: st) h ce sl) : AW G K P pc lv (st) h ce sl := by
  intro p l e s m args below meth c C H locs ls hR hl hf
  subst hn
  exact lv_lload C.1 C.2.1 hd (lv_at hl j hj) (k p l e s m args below meth c C H locs ls hR hl hf)

theorem aw_dload {i : Nat} {x : UInt64} (hd : decode K.2.1 pc = .ok (.dload i, 2)) (j : Nat) (hj : lv[j]? = some (i, .double x)) (hn : pc + 2 = n) (k : AW G K P n lv (.double x :: st) h ce sl) : AW G K P pc lv (st) h ce sl := by
  intro p l e s m args below meth c C H locs ls hR hl hf
  subst hn
  exact lv_dload C.1 C.2.1 hd (lv_at hl j hj) (k p l e s m args below meth c C H locs ls hR hl hf)

theorem aw_fload {i : Nat} {x : UInt32} (hd : decode K.2.1 pc = .ok (.fload i, 2)) (j : Nat) (hj : lv[j]? = some (i, .float x)) (hn : pc + 2 = n) (k : AW G K P n lv (.float x :: st) h ce sl) : AW G K P pc lv (st) h ce sl := by
  intro p l e s m args below meth c C H locs ls hR hl hf
  subst hn
  exact lv_fload C.1 C.2.1 hd (lv_at hl j hj) (k p l e s m args below meth c C H locs ls hR hl hf)

theorem aw_aload_nN {q : Fin 4} {i : Nat} (hd : decode K.2.1 pc = .ok (.aload_n q, 1)) (hi : (q : Nat) = i) (j : Nat) (hj : lv[j]? = some (i, .null)) (hn : pc + 1 = n) (k : AW G K P n lv (.null :: st) h ce sl) : AW G K P pc lv (st) h ce sl := by
  intro p l e s m args below meth c C H locs ls hR hl hf
  subst hn
  exact lv_aload_nN C.1 C.2.1 hd hi (lv_at hl j hj) (k p l e s m args below meth c C H locs ls hR hl hf)

theorem aw_aloadN {i : Nat} (hd : decode K.2.1 pc = .ok (.aload i, 2)) (j : Nat) (hj : lv[j]? = some (i, .null)) (hn : pc + 2 = n) (k : AW G K P n lv (.null :: st) h ce sl) : AW G K P pc lv (st) h ce sl := by
  intro p l e s m args below meth c C H locs ls hR hl hf
  subst hn
  exact lv_aloadN C.1 C.2.1 hd (lv_at hl j hj) (k p l e s m args below meth c C H locs ls hR hl hf)

theorem aw_aload_nQ {q : Fin 4} {i : Nat} {x : Option Nat} (hd : decode K.2.1 pc = .ok (.aload_n q, 1)) (hi : (q : Nat) = i) (j : Nat) (hj : lv[j]? = some (i, va_rf x)) (hn : pc + 1 = n) (k : AW G K P n lv (va_rf x :: st) h ce sl) : AW G K P pc lv st h ce sl := by
  cases x with
  | none => exact aw_aload_nN hd hi j hj hn k
  | some x => exact aw_aload_n hd hi j hj hn k

theorem aw_aloadQ {i : Nat} {x : Option Nat} (hd : decode K.2.1 pc = .ok (.aload i, 2)) (j : Nat) (hj : lv[j]? = some (i, va_rf x)) (hn : pc + 2 = n) (k : AW G K P n lv (va_rf x :: st) h ce sl) : AW G K P pc lv st h ce sl := by
  cases x with
  | none => exact aw_aloadN hd j hj hn k
  | some x => exact aw_aload hd j hj hn k

theorem aw_istore_n {q : Fin 4} {i : Nat} {x : Int32} (hd : decode K.2.1 pc = .ok (.istore_n q, 1)) (hi : (q : Nat) = i) (hlt : i < K.2.2.1) (hl2 : (i, Value.int x) :: lv.filter (fun q => !(q.1 == i) && !(q.1 + 1 == i && q.2.category == 2)) = lv') (hn : pc + 1 = n) (k : AW G K P n lv' st h ce sl) : AW G K P pc lv (.int x :: st) h ce sl := by
  intro p l e s m args below meth c C H locs ls hR hl hf
  subst hn
  exact lv_istore_n C.1 C.2.1 hd hi hl hlt hl2 (fun ls' hl' => k p l e s m args below meth c C H locs ls' hR hl' hf)

theorem aw_istore {i : Nat} {x : Int32} (hd : decode K.2.1 pc = .ok (.istore i, 2)) (hlt : i < K.2.2.1) (hl2 : (i, Value.int x) :: lv.filter (fun q => !(q.1 == i) && !(q.1 + 1 == i && q.2.category == 2)) = lv') (hn : pc + 2 = n) (k : AW G K P n lv' st h ce sl) : AW G K P pc lv (.int x :: st) h ce sl := by
  intro p l e s m args below meth c C H locs ls hR hl hf
  subst hn
  exact lv_istore C.1 C.2.1 hd hl hlt hl2 (fun ls' hl' => k p l e s m args below meth c C H locs ls' hR hl' hf)

theorem aw_astore_n {q : Fin 4} {i : Nat} {x : Nat} (hd : decode K.2.1 pc = .ok (.astore_n q, 1)) (hi : (q : Nat) = i) (hlt : i < K.2.2.1) (hl2 : (i, Value.ref x) :: lv.filter (fun q => !(q.1 == i) && !(q.1 + 1 == i && q.2.category == 2)) = lv') (hn : pc + 1 = n) (k : AW G K P n lv' st h ce sl) : AW G K P pc lv (.ref x :: st) h ce sl := by
  intro p l e s m args below meth c C H locs ls hR hl hf
  subst hn
  exact lv_astore_n C.1 C.2.1 hd hi hl hlt hl2 (fun ls' hl' => k p l e s m args below meth c C H locs ls' hR hl' hf)

theorem aw_astore {i : Nat} {x : Nat} (hd : decode K.2.1 pc = .ok (.astore i, 2)) (hlt : i < K.2.2.1) (hl2 : (i, Value.ref x) :: lv.filter (fun q => !(q.1 == i) && !(q.1 + 1 == i && q.2.category == 2)) = lv') (hn : pc + 2 = n) (k : AW G K P n lv' st h ce sl) : AW G K P pc lv (.ref x :: st) h ce sl := by
  intro p l e s m args below meth c C H locs ls hR hl hf
  subst hn
  exact lv_astore C.1 C.2.1 hd hl hlt hl2 (fun ls' hl' => k p l e s m args below meth c C H locs ls' hR hl' hf)

theorem aw_lstore_n {q : Fin 4} {i : Nat} {x : Int64} (hd : decode K.2.1 pc = .ok (.lstore_n q, 1)) (hi : (q : Nat) = i) (hlt : i + 1 < K.2.2.1) (hl2 : (i, Value.long x) :: lv.filter (fun q => !(q.1 == i) && (!(q.1 == i + 1) && !(q.1 + 1 == i && q.2.category == 2))) = lv') (hn : pc + 1 = n) (k : AW G K P n lv' st h ce sl) : AW G K P pc lv (.long x :: st) h ce sl := by
  intro p l e s m args below meth c C H locs ls hR hl hf
  subst hn
  exact lv_lstore_n C.1 C.2.1 hd hi hl hlt hl2 (fun ls' hl' => k p l e s m args below meth c C H locs ls' hR hl' hf)

theorem aw_lstore {i : Nat} {x : Int64} (hd : decode K.2.1 pc = .ok (.lstore i, 2)) (hlt : i + 1 < K.2.2.1) (hl2 : (i, Value.long x) :: lv.filter (fun q => !(q.1 == i) && (!(q.1 == i + 1) && !(q.1 + 1 == i && q.2.category == 2))) = lv') (hn : pc + 2 = n) (k : AW G K P n lv' st h ce sl) : AW G K P pc lv (.long x :: st) h ce sl := by
  intro p l e s m args below meth c C H locs ls hR hl hf
  subst hn
  exact lv_lstore C.1 C.2.1 hd hl hlt hl2 (fun ls' hl' => k p l e s m args below meth c C H locs ls' hR hl' hf)

theorem aw_dstore {i : Nat} {x : UInt64} (hd : decode K.2.1 pc = .ok (.dstore i, 2)) (hlt : i + 1 < K.2.2.1) (hl2 : (i, Value.double x) :: lv.filter (fun q => !(q.1 == i) && (!(q.1 == i + 1) && !(q.1 + 1 == i && q.2.category == 2))) = lv') (hn : pc + 2 = n) (k : AW G K P n lv' st h ce sl) : AW G K P pc lv (.double x :: st) h ce sl := by
  intro p l e s m args below meth c C H locs ls hR hl hf
  subst hn
  exact lv_dstore C.1 C.2.1 hd hl hlt hl2 (fun ls' hl' => k p l e s m args below meth c C H locs ls' hR hl' hf)

theorem aw_fstore {i : Nat} {x : UInt32} (hd : decode K.2.1 pc = .ok (.fstore i, 2)) (hlt : i < K.2.2.1) (hl2 : (i, Value.float x) :: lv.filter (fun q => !(q.1 == i) && !(q.1 + 1 == i && q.2.category == 2)) = lv') (hn : pc + 2 = n) (k : AW G K P n lv' st h ce sl) : AW G K P pc lv (.float x :: st) h ce sl := by
  intro p l e s m args below meth c C H locs ls hR hl hf
  subst hn
  exact lv_fstore C.1 C.2.1 hd hl hlt hl2 (fun ls' hl' => k p l e s m args below meth c C H locs ls' hR hl' hf)

theorem aw_astore_nN {q : Fin 4} {i : Nat} (hd : decode K.2.1 pc = .ok (.astore_n q, 1)) (hi : (q : Nat) = i) (hlt : i < K.2.2.1) (hl2 : (i, Value.null) :: lv.filter (fun q => !(q.1 == i) && !(q.1 + 1 == i && q.2.category == 2)) = lv') (hn : pc + 1 = n) (k : AW G K P n lv' st h ce sl) : AW G K P pc lv (.null :: st) h ce sl := by
  intro p l e s m args below meth c C H locs ls hR hl hf
  subst hn
  exact lv_astore_nN C.1 C.2.1 hd hi hl hlt hl2 (fun ls' hl' => k p l e s m args below meth c C H locs ls' hR hl' hf)

theorem aw_astoreN {i : Nat} (hd : decode K.2.1 pc = .ok (.astore i, 2)) (hlt : i < K.2.2.1) (hl2 : (i, Value.null) :: lv.filter (fun q => !(q.1 == i) && !(q.1 + 1 == i && q.2.category == 2)) = lv') (hn : pc + 2 = n) (k : AW G K P n lv' st h ce sl) : AW G K P pc lv (.null :: st) h ce sl := by
  intro p l e s m args below meth c C H locs ls hR hl hf
  subst hn
  exact lv_astoreN C.1 C.2.1 hd hl hlt hl2 (fun ls' hl' => k p l e s m args below meth c C H locs ls' hR hl' hf)

theorem aw_astore_nQ {q : Fin 4} {i : Nat} {x : Option Nat} (hd : decode K.2.1 pc = .ok (.astore_n q, 1)) (hi : (q : Nat) = i) (hlt : i < K.2.2.1) (hl2 : (i, va_rf x) :: lv.filter (fun q => !(q.1 == i) && !(q.1 + 1 == i && q.2.category == 2)) = lv') (hn : pc + 1 = n) (k : AW G K P n lv' st h ce sl) : AW G K P pc lv (va_rf x :: st) h ce sl := by
  cases x with
  | none => exact aw_astore_nN hd hi hlt hl2 hn k
  | some x => exact aw_astore_n hd hi hlt hl2 hn k

theorem aw_astoreQ {i : Nat} {x : Option Nat} (hd : decode K.2.1 pc = .ok (.astore i, 2)) (hlt : i < K.2.2.1) (hl2 : (i, va_rf x) :: lv.filter (fun q => !(q.1 == i) && !(q.1 + 1 == i && q.2.category == 2)) = lv') (hn : pc + 2 = n) (k : AW G K P n lv' st h ce sl) : AW G K P pc lv (va_rf x :: st) h ce sl := by
  cases x with
  | none => exact aw_astoreN hd hlt hl2 hn k
  | some x => exact aw_astore hd hlt hl2 hn k

theorem aw_iinc {i : Nat} {z : Int} {x v : Int32} (hd : decode K.2.1 pc = .ok (.iinc i z, 3)) (j : Nat) (hj : lv[j]? = some (i, .int x)) (hv : x + Int32.ofInt z = v) (hlt : i < K.2.2.1) (hl2 : (i, Value.int v) :: lv.filter (fun q => !(q.1 == i) && !(q.1 + 1 == i && q.2.category == 2)) = lv') (hn : pc + 3 = n) (k : AW G K P n lv' st h ce sl) : AW G K P pc lv st h ce sl := by
  intro p l e s m args below meth c C H locs ls hR hl hf
  subst hn
  exact lv_iinc C.1 C.2.1 hd hl hj hv hlt hl2 (fun ls' hl' => k p l e s m args below meth c C H locs ls' hR hl' hf)

theorem aw_iadd {x y : Int32} (hd : decode K.2.1 pc = .ok (.iadd, 1))  (hn : pc + 1 = n) (k : AW G K P n lv (.int (x + y) :: st) h ce sl) : AW G K P pc lv (.int y :: .int x :: st) h ce sl := by
  intro p l e s m args below meth c C H locs ls hR hl hf
  subst hn
  exact lv_iadd C.1 C.2.1 hd  (k p l e s m args below meth c C H locs ls hR hl hf)

theorem aw_isub {x y : Int32} (hd : decode K.2.1 pc = .ok (.isub, 1))  (hn : pc + 1 = n) (k : AW G K P n lv (.int (x - y) :: st) h ce sl) : AW G K P pc lv (.int y :: .int x :: st) h ce sl := by
  intro p l e s m args below meth c C H locs ls hR hl hf
  subst hn
  exact lv_isub C.1 C.2.1 hd  (k p l e s m args below meth c C H locs ls hR hl hf)

theorem aw_imul {x y : Int32} (hd : decode K.2.1 pc = .ok (.imul, 1))  (hn : pc + 1 = n) (k : AW G K P n lv (.int (x * y) :: st) h ce sl) : AW G K P pc lv (.int y :: .int x :: st) h ce sl := by
  intro p l e s m args below meth c C H locs ls hR hl hf
  subst hn
  exact lv_imul C.1 C.2.1 hd  (k p l e s m args below meth c C H locs ls hR hl hf)

theorem aw_iand {x y : Int32} (hd : decode K.2.1 pc = .ok (.iand, 1))  (hn : pc + 1 = n) (k : AW G K P n lv (.int (x &&& y) :: st) h ce sl) : AW G K P pc lv (.int y :: .int x :: st) h ce sl := by
  intro p l e s m args below meth c C H locs ls hR hl hf
  subst hn
  exact lv_iand C.1 C.2.1 hd  (k p l e s m args below meth c C H locs ls hR hl hf)

theorem aw_ior {x y : Int32} (hd : decode K.2.1 pc = .ok (.ior, 1))  (hn : pc + 1 = n) (k : AW G K P n lv (.int (x ||| y) :: st) h ce sl) : AW G K P pc lv (.int y :: .int x :: st) h ce sl := by
  intro p l e s m args below meth c C H locs ls hR hl hf
  subst hn
  exact lv_ior C.1 C.2.1 hd  (k p l e s m args below meth c C H locs ls hR hl hf)

theorem aw_ixor {x y : Int32} (hd : decode K.2.1 pc = .ok (.ixor, 1))  (hn : pc + 1 = n) (k : AW G K P n lv (.int (x ^^^ y) :: st) h ce sl) : AW G K P pc lv (.int y :: .int x :: st) h ce sl := by
  intro p l e s m args below meth c C H locs ls hR hl hf
  subst hn
  exact lv_ixor C.1 C.2.1 hd  (k p l e s m args below meth c C H locs ls hR hl hf)

theorem aw_ishl {x y : Int32} (hd : decode K.2.1 pc = .ok (.ishl, 1))  (hn : pc + 1 = n) (k : AW G K P n lv (.int (x <<< (y &&& 31)) :: st) h ce sl) : AW G K P pc lv (.int y :: .int x :: st) h ce sl := by
  intro p l e s m args below meth c C H locs ls hR hl hf
  subst hn
  exact lv_ishl C.1 C.2.1 hd  (k p l e s m args below meth c C H locs ls hR hl hf)

theorem aw_ishr {x y : Int32} (hd : decode K.2.1 pc = .ok (.ishr, 1))  (hn : pc + 1 = n) (k : AW G K P n lv (.int (x >>> (y &&& 31)) :: st) h ce sl) : AW G K P pc lv (.int y :: .int x :: st) h ce sl := by
  intro p l e s m args below meth c C H locs ls hR hl hf
  subst hn
  exact lv_ishr C.1 C.2.1 hd  (k p l e s m args below meth c C H locs ls hR hl hf)

theorem aw_idiv {x y : Int32} (hd : decode K.2.1 pc = .ok (.idiv, 1)) (h0 : ¬ y = 0) (hn : pc + 1 = n) (k : AW G K P n lv (.int (x / y) :: st) h ce sl) : AW G K P pc lv (.int y :: .int x :: st) h ce sl := by
  intro p l e s m args below meth c C H locs ls hR hl hf
  subst hn
  exact lv_idiv C.1 C.2.1 hd h0 (k p l e s m args below meth c C H locs ls hR hl hf)

theorem aw_irem {x y : Int32} (hd : decode K.2.1 pc = .ok (.irem, 1)) (h0 : ¬ y = 0) (hn : pc + 1 = n) (k : AW G K P n lv (.int (x - x / y * y) :: st) h ce sl) : AW G K P pc lv (.int y :: .int x :: st) h ce sl := by
  intro p l e s m args below meth c C H locs ls hR hl hf
  subst hn
  exact lv_irem C.1 C.2.1 hd h0 (k p l e s m args below meth c C H locs ls hR hl hf)

theorem aw_ineg {x : Int32} (hd : decode K.2.1 pc = .ok (.ineg, 1))  (hn : pc + 1 = n) (k : AW G K P n lv (.int (-x) :: st) h ce sl) : AW G K P pc lv (.int x :: st) h ce sl := by
  intro p l e s m args below meth c C H locs ls hR hl hf
  subst hn
  exact lv_ineg C.1 C.2.1 hd  (k p l e s m args below meth c C H locs ls hR hl hf)

theorem aw_iushr {x y v : Int32} (hd : decode K.2.1 pc = .ok (.iushr, 1)) (hv : (x.toUInt32 >>> (y.toUInt32 &&& Int32.toUInt32 31)).toInt32 = v) (hn : pc + 1 = n) (k : AW G K P n lv (.int v :: st) h ce sl) : AW G K P pc lv (.int y :: .int x :: st) h ce sl := by
  intro p l e s m args below meth c C H locs ls hR hl hf
  subst hn
  exact lv_iushr C.1 C.2.1 hd hv (k p l e s m args below meth c C H locs ls hR hl hf)

theorem aw_ladd {x y : Int64} (hd : decode K.2.1 pc = .ok (.ladd, 1))  (hn : pc + 1 = n) (k : AW G K P n lv (.long (x + y) :: st) h ce sl) : AW G K P pc lv (.long y :: .long x :: st) h ce sl := by
  intro p l e s m args below meth c C H locs ls hR hl hf
  subst hn
  exact lv_ladd C.1 C.2.1 hd  (k p l e s m args below meth c C H locs ls hR hl hf)

theorem aw_lsub {x y : Int64} (hd : decode K.2.1 pc = .ok (.lsub, 1))  (hn : pc + 1 = n) (k : AW G K P n lv (.long (x - y) :: st) h ce sl) : AW G K P pc lv (.long y :: .long x :: st) h ce sl := by
  intro p l e s m args below meth c C H locs ls hR hl hf
  subst hn
  exact lv_lsub C.1 C.2.1 hd  (k p l e s m args below meth c C H locs ls hR hl hf)

theorem aw_lmul {x y : Int64} (hd : decode K.2.1 pc = .ok (.lmul, 1))  (hn : pc + 1 = n) (k : AW G K P n lv (.long (x * y) :: st) h ce sl) : AW G K P pc lv (.long y :: .long x :: st) h ce sl := by
  intro p l e s m args below meth c C H locs ls hR hl hf
  subst hn
  exact lv_lmul C.1 C.2.1 hd  (k p l e s m args below meth c C H locs ls hR hl hf)

theorem aw_land {x y : Int64} (hd : decode K.2.1 pc = .ok (.land, 1))  (hn : pc + 1 = n) (k : AW G K P n lv (.long (x &&& y) :: st) h ce sl) : AW G K P pc lv (.long y :: .long x :: st) h ce sl := by
  intro p l e s m args below meth c C H locs ls hR hl hf
  subst hn
  exact lv_land C.1 C.2.1 hd  (k p l e s m args below meth c C H locs ls hR hl hf)

theorem aw_lor {x y : Int64} (hd : decode K.2.1 pc = .ok (.lor, 1))  (hn : pc + 1 = n) (k : AW G K P n lv (.long (x ||| y) :: st) h ce sl) : AW G K P pc lv (.long y :: .long x :: st) h ce sl := by
  intro p l e s m args below meth c C H locs ls hR hl hf
  subst hn
  exact lv_lor C.1 C.2.1 hd  (k p l e s m args below meth c C H locs ls hR hl hf)

theorem aw_ldiv {x y : Int64} (hd : decode K.2.1 pc = .ok (.ldiv, 1)) (h0 : ¬ y = 0) (hn : pc + 1 = n) (k : AW G K P n lv (.long (x / y) :: st) h ce sl) : AW G K P pc lv (.long y :: .long x :: st) h ce sl := by
  intro p l e s m args below meth c C H locs ls hR hl hf
  subst hn
  exact lv_ldiv C.1 C.2.1 hd h0 (k p l e s m args below meth c C H locs ls hR hl hf)

theorem aw_lrem {x y : Int64} (hd : decode K.2.1 pc = .ok (.lrem, 1)) (h0 : ¬ y = 0) (hn : pc + 1 = n) (k : AW G K P n lv (.long (x - x / y * y) :: st) h ce sl) : AW G K P pc lv (.long y :: .long x :: st) h ce sl := by
  intro p l e s m args below meth c C H locs ls hR hl hf
  subst hn
  exact lv_lrem C.1 C.2.1 hd h0 (k p l e s m args below meth c C H locs ls hR hl hf)

theorem aw_lneg {x : Int64} (hd : decode K.2.1 pc = .ok (.lneg, 1))  (hn : pc + 1 = n) (k : AW G K P n lv (.long (-x) :: st) h ce sl) : AW G K P pc lv (.long x :: st) h ce sl := by
  intro p l e s m args below meth c C H locs ls hR hl hf
  subst hn
  exact lv_lneg C.1 C.2.1 hd  (k p l e s m args below meth c C H locs ls hR hl hf)

theorem aw_lshl {x v : Int64} {y : Int32} (hd : decode K.2.1 pc = .ok (.lshl, 1)) (hv : x <<< (y.toInt64 &&& 63) = v) (hn : pc + 1 = n) (k : AW G K P n lv (.long v :: st) h ce sl) : AW G K P pc lv (.int y :: .long x :: st) h ce sl := by
  intro p l e s m args below meth c C H locs ls hR hl hf
  subst hn
  exact lv_lshl C.1 C.2.1 hd hv (k p l e s m args below meth c C H locs ls hR hl hf)

theorem aw_i2l {x : Int32} {v : Int64} (hd : decode K.2.1 pc = .ok (.i2l, 1)) (hv : x.toInt64 = v) (hn : pc + 1 = n) (k : AW G K P n lv (.long v :: st) h ce sl) : AW G K P pc lv (.int x :: st) h ce sl := by
  intro p l e s m args below meth c C H locs ls hR hl hf
  subst hn
  exact lv_i2l C.1 C.2.1 hd hv (k p l e s m args below meth c C H locs ls hR hl hf)

theorem aw_l2i {x : Int64} {v : Int32} (hd : decode K.2.1 pc = .ok (.l2i, 1)) (hv : x.toInt32 = v) (hn : pc + 1 = n) (k : AW G K P n lv (.int v :: st) h ce sl) : AW G K P pc lv (.long x :: st) h ce sl := by
  intro p l e s m args below meth c C H locs ls hR hl hf
  subst hn
  exact lv_l2i C.1 C.2.1 hd hv (k p l e s m args below meth c C H locs ls hR hl hf)

theorem aw_i2b {x v : Int32} (hd : decode K.2.1 pc = .ok (.i2b, 1)) (hv : x.toInt8.toInt32 = v) (hn : pc + 1 = n) (k : AW G K P n lv (.int v :: st) h ce sl) : AW G K P pc lv (.int x :: st) h ce sl := by
  intro p l e s m args below meth c C H locs ls hR hl hf
  subst hn
  exact lv_i2b C.1 C.2.1 hd hv (k p l e s m args below meth c C H locs ls hR hl hf)

theorem aw_i2c {x v : Int32} (hd : decode K.2.1 pc = .ok (.i2c, 1)) (hv : (x.toUInt32 % 65536).toInt32 = v) (hn : pc + 1 = n) (k : AW G K P n lv (.int v :: st) h ce sl) : AW G K P pc lv (.int x :: st) h ce sl := by
  intro p l e s m args below meth c C H locs ls hR hl hf
  subst hn
  exact lv_i2c C.1 C.2.1 hd hv (k p l e s m args below meth c C H locs ls hR hl hf)

theorem aw_lcmp {x y : Int64} (hd : decode K.2.1 pc = .ok (.lcmp, 1)) (hn : pc + 1 = n) (k : AW G K P n lv (.int (lg_cmp x y) :: st) h ce sl) : AW G K P pc lv (.long y :: .long x :: st) h ce sl := by
  intro p l e s m args below meth c C H locs ls hR hl hf
  subst hn
  exact W.lcmp C.1 C.2.1 hd (k p l e s m args below meth c C H locs ls hR hl hf)

theorem aw_pop {a : Value} (hd : decode K.2.1 pc = .ok (.pop, 1)) (ha : a.category = 1) (hn : pc + 1 = n) (k : AW G K P n lv (st) h ce sl) : AW G K P pc lv (a :: st) h ce sl := by
  intro p l e s m args below meth c C H locs ls hR hl hf
  subst hn
  exact lv_pop C.1 C.2.1 hd ha (k p l e s m args below meth c C H locs ls hR hl hf)

theorem aw_dup {a : Value} (hd : decode K.2.1 pc = .ok (.dup, 1)) (ha : a.category = 1) (hn : pc + 1 = n) (k : AW G K P n lv (a :: a :: st) h ce sl) : AW G K P pc lv (a :: st) h ce sl := by
  intro p l e s m args below meth c C H locs ls hR hl hf
  subst hn
  exact lv_dup C.1 C.2.1 hd ha (k p l e s m args below meth c C H locs ls hR hl hf)

theorem aw_dup_x1 {a b : Value} (hd : decode K.2.1 pc = .ok (.dup_x1, 1)) (ha : a.category = 1) (hb : b.category = 1) (hn : pc + 1 = n) (k : AW G K P n lv (a :: b :: a :: st) h ce sl) : AW G K P pc lv (a :: b :: st) h ce sl := by
  intro p l e s m args below meth c C H locs ls hR hl hf
  subst hn
  exact lv_dup_x1 C.1 C.2.1 hd ha hb (k p l e s m args below meth c C H locs ls hR hl hf)

theorem aw_dup_x2 {a b d : Value} (hd : decode K.2.1 pc = .ok (.dup_x2, 1)) (ha : a.category = 1) (hb : b.category = 1) (hc : d.category = 1) (hn : pc + 1 = n) (k : AW G K P n lv (a :: b :: d :: a :: st) h ce sl) : AW G K P pc lv (a :: b :: d :: st) h ce sl := by
  intro p l e s m args below meth c C H locs ls hR hl hf
  subst hn
  exact lv_dup_x2 C.1 C.2.1 hd ha hb hc (k p l e s m args below meth c C H locs ls hR hl hf)

theorem aw_dup2 {a b : Value} (hd : decode K.2.1 pc = .ok (.dup2, 1)) (ha : a.category = 1) (hb : b.category = 1) (hn : pc + 1 = n) (k : AW G K P n lv (a :: b :: a :: b :: st) h ce sl) : AW G K P pc lv (a :: b :: st) h ce sl := by
  intro p l e s m args below meth c C H locs ls hR hl hf
  subst hn
  exact lv_dup2_11 C.1 C.2.1 hd ha hb (k p l e s m args below meth c C H locs ls hR hl hf)

theorem aw_goto {off : Int} {tgt : Nat} (hd : decode K.2.1 pc = .ok (.goto off, 3)) (ht : (pc : Int) + off = (tgt : Int)) (k : AW G K P tgt lv st h ce sl) : AW G K P pc lv st h ce sl := by
  intro p l e s m args below meth c C H locs ls hR hl hf
  exact lv_goto C.1 C.2.1 hd ht (k p l e s m args below meth c C H locs ls hR hl hf)

theorem aw_if_eq {x : Int32} {off : Int} {tgt : Nat} (hd : decode K.2.1 pc = .ok (.ifCond .eq off, 3)) (ht : (pc : Int) + off = (tgt : Int)) (hn : pc + 3 = n) (kt : (x = 0) → AW G K P tgt lv st h ce sl) (kf : ¬ (x = 0) → AW G K P n lv st h ce sl) : AW G K P pc lv (.int x :: st) h ce sl := by
  intro p l e s m args below meth c C H locs ls hR hl hf
  subst hn
  exact lv_if_eq C.1 C.2.1 hd ht (fun q => kt q p l e s m args below meth c C H locs ls hR hl hf) (fun q => kf q p l e s m args below meth c C H locs ls hR hl hf)

theorem aw_if_ne {x : Int32} {off : Int} {tgt : Nat} (hd : decode K.2.1 pc = .ok (.ifCond .ne off, 3)) (ht : (pc : Int) + off = (tgt : Int)) (hn : pc + 3 = n) (kt : (x ≠ 0) → AW G K P tgt lv st h ce sl) (kf : (x = 0) → AW G K P n lv st h ce sl) : AW G K P pc lv (.int x :: st) h ce sl := by
  intro p l e s m args below meth c C H locs ls hR hl hf
  subst hn
  exact lv_if_ne C.1 C.2.1 hd ht (fun q => kt q p l e s m args below meth c C H locs ls hR hl hf) (fun q => kf q p l e s m args below meth c C H locs ls hR hl hf)

theorem aw_if_lt {x : Int32} {off : Int} {tgt : Nat} (hd : decode K.2.1 pc = .ok (.ifCond .lt off, 3)) (ht : (pc : Int) + off = (tgt : Int)) (hn : pc + 3 = n) (kt : (x < 0) → AW G K P tgt lv st h ce sl) (kf : ¬ (x < 0) → AW G K P n lv st h ce sl) : AW G K P pc lv (.int x :: st) h ce sl := by
  intro p l e s m args below meth c C H locs ls hR hl hf
  subst hn
  exact lv_if_lt C.1 C.2.1 hd ht (fun q => kt q p l e s m args below meth c C H locs ls hR hl hf) (fun q => kf q p l e s m args below meth c C H locs ls hR hl hf)

theorem aw_if_ge {x : Int32} {off : Int} {tgt : Nat} (hd : decode K.2.1 pc = .ok (.ifCond .ge off, 3)) (ht : (pc : Int) + off = (tgt : Int)) (hn : pc + 3 = n) (kt : (0 ≤ x) → AW G K P tgt lv st h ce sl) (kf : ¬ (0 ≤ x) → AW G K P n lv st h ce sl) : AW G K P pc lv (.int x :: st) h ce sl := by
  intro p l e s m args below meth c C H locs ls hR hl hf
  subst hn
  exact lv_if_ge C.1 C.2.1 hd ht (fun q => kt q p l e s m args below meth c C H locs ls hR hl hf) (fun q => kf q p l e s m args below meth c C H locs ls hR hl hf)

theorem aw_if_gt {x : Int32} {off : Int} {tgt : Nat} (hd : decode K.2.1 pc = .ok (.ifCond .gt off, 3)) (ht : (pc : Int) + off = (tgt : Int)) (hn : pc + 3 = n) (kt : (0 < x) → AW G K P tgt lv st h ce sl) (kf : ¬ (0 < x) → AW G K P n lv st h ce sl) : AW G K P pc lv (.int x :: st) h ce sl := by
  intro p l e s m args below meth c C H locs ls hR hl hf
  subst hn
  exact lv_if_gt C.1 C.2.1 hd ht (fun q => kt q p l e s m args below meth c C H locs ls hR hl hf) (fun q => kf q p l e s m args below meth c C H locs ls hR hl hf)

theorem aw_if_le {x : Int32} {off : Int} {tgt : Nat} (hd : decode K.2.1 pc = .ok (.ifCond .le off, 3)) (ht : (pc : Int) + off = (tgt : Int)) (hn : pc + 3 = n) (kt : (x ≤ 0) → AW G K P tgt lv st h ce sl) (kf : ¬ (x ≤ 0) → AW G K P n lv st h ce sl) : AW G K P pc lv (.int x :: st) h ce sl := by
  intro p l e s m args below meth c C H locs ls hR hl hf
  subst hn
  exact lv_if_le C.1 C.2.1 hd ht (fun q => kt q p l e s m args below meth c C H locs ls hR hl hf) (fun q => kf q p l e s m args below meth c C H locs ls hR hl hf)

theorem aw_icmp_eq {x y : Int32} {off : Int} {tgt : Nat} (hd : decode K.2.1 pc = .ok (.if_icmp .eq off, 3)) (ht : (pc : Int) + off = (tgt : Int)) (hn : pc + 3 = n) (kt : (x = y) → AW G K P tgt lv st h ce sl) (kf : ¬ (x = y) → AW G K P n lv st h ce sl) : AW G K P pc lv (.int y :: .int x :: st) h ce sl := by
  intro p l e s m args below meth c C H locs ls hR hl hf
  subst hn
  exact lv_icmp_eq C.1 C.2.1 hd ht (fun q => kt q p l e s m args below meth c C H locs ls hR hl hf) (fun q => kf q p l e s m args below meth c C H locs ls hR hl hf)

theorem aw_icmp_ne {x y : Int32} {off : Int} {tgt : Nat} (hd : decode K.2.1 pc = .ok (.if_icmp .ne off, 3)) (ht : (pc : Int) + off = (tgt : Int)) (hn : pc + 3 = n) (kt : (x ≠ y) → AW G K P tgt lv st h ce sl) (kf : (x = y) → AW G K P n lv st h ce sl) : AW G K P pc lv (.int y :: .int x :: st) h ce sl := by
  intro p l e s m args below meth c C H locs ls hR hl hf
  subst hn
  exact lv_icmp_ne C.1 C.2.1 hd ht (fun q => kt q p l e s m args below meth c C H locs ls hR hl hf) (fun q => kf q p l e s m args below meth c C H locs ls hR hl hf)

theorem aw_icmp_lt {x y : Int32} {off : Int} {tgt : Nat} (hd : decode K.2.1 pc = .ok (.if_icmp .lt off, 3)) (ht : (pc : Int) + off = (tgt : Int)) (hn : pc + 3 = n) (kt : (x < y) → AW G K P tgt lv st h ce sl) (kf : ¬ (x < y) → AW G K P n lv st h ce sl) : AW G K P pc lv (.int y :: .int x :: st) h ce sl := by
  intro p l e s m args below meth c C H locs ls hR hl hf
  subst hn
  exact lv_icmp_lt C.1 C.2.1 hd ht (fun q => kt q p l e s m args below meth c C H locs ls hR hl hf) (fun q => kf q p l e s m args below meth c C H locs ls hR hl hf)

theorem aw_icmp_ge {x y : Int32} {off : Int} {tgt : Nat} (hd : decode K.2.1 pc = .ok (.if_icmp .ge off, 3)) (ht : (pc : Int) + off = (tgt : Int)) (hn : pc + 3 = n) (kt : (y ≤ x) → AW G K P tgt lv st h ce sl) (kf : ¬ (y ≤ x) → AW G K P n lv st h ce sl) : AW G K P pc lv (.int y :: .int x :: st) h ce sl := by
  intro p l e s m args below meth c C H locs ls hR hl hf
  subst hn
  exact lv_icmp_ge C.1 C.2.1 hd ht (fun q => kt q p l e s m args below meth c C H locs ls hR hl hf) (fun q => kf q p l e s m args below meth c C H locs ls hR hl hf)

theorem aw_icmp_gt {x y : Int32} {off : Int} {tgt : Nat} (hd : decode K.2.1 pc = .ok (.if_icmp .gt off, 3)) (ht : (pc : Int) + off = (tgt : Int)) (hn : pc + 3 = n) (kt : (y < x) → AW G K P tgt lv st h ce sl) (kf : ¬ (y < x) → AW G K P n lv st h ce sl) : AW G K P pc lv (.int y :: .int x :: st) h ce sl := by
  intro p l e s m args below meth c C H locs ls hR hl hf
  subst hn
  exact lv_icmp_gt C.1 C.2.1 hd ht (fun q => kt q p l e s m args below meth c C H locs ls hR hl hf) (fun q => kf q p l e s m args below meth c C H locs ls hR hl hf)

theorem aw_icmp_le {x y : Int32} {off : Int} {tgt : Nat} (hd : decode K.2.1 pc = .ok (.if_icmp .le off, 3)) (ht : (pc : Int) + off = (tgt : Int)) (hn : pc + 3 = n) (kt : (x ≤ y) → AW G K P tgt lv st h ce sl) (kf : ¬ (x ≤ y) → AW G K P n lv st h ce sl) : AW G K P pc lv (.int y :: .int x :: st) h ce sl := by
  intro p l e s m args below meth c C H locs ls hR hl hf
  subst hn
  exact lv_icmp_le C.1 C.2.1 hd ht (fun q => kt q p l e s m args below meth c C H locs ls hR hl hf) (fun q => kf q p l e s m args below meth c C H locs ls hR hl hf)

theorem aw_acmp_eq {x y : Option Nat} {off : Int} {tgt : Nat} (hd : decode K.2.1 pc = .ok (.if_acmp .eq off, 3)) (ht : (pc : Int) + off = (tgt : Int)) (hn : pc + 3 = n) (kt : (x = y) → AW G K P tgt lv st h ce sl) (kf : ¬ (x = y) → AW G K P n lv st h ce sl) : AW G K P pc lv (va_rf y :: va_rf x :: st) h ce sl := by
  intro p l e s m args below meth c C H locs ls hR hl hf
  subst hn
  exact lv_acmp_eq C.1 C.2.1 hd ht (fun q => kt q p l e s m args below meth c C H locs ls hR hl hf) (fun q => kf q p l e s m args below meth c C H locs ls hR hl hf)

theorem aw_acmp_ne {x y : Option Nat} {off : Int} {tgt : Nat} (hd : decode K.2.1 pc = .ok (.if_acmp .ne off, 3)) (ht : (pc : Int) + off = (tgt : Int)) (hn : pc + 3 = n) (kt : (x ≠ y) → AW G K P tgt lv st h ce sl) (kf : (x = y) → AW G K P n lv st h ce sl) : AW G K P pc lv (va_rf y :: va_rf x :: st) h ce sl := by
  intro p l e s m args below meth c C H locs ls hR hl hf
  subst hn
  exact lv_acmp_ne C.1 C.2.1 hd ht (fun q => kt q p l e s m args below meth c C H locs ls hR hl hf) (fun q => kf q p l e s m args below meth c C H locs ls hR hl hf)

theorem aw_ifnonnull {x : Nat} {off : Int} {tgt : Nat} (hd : decode K.2.1 pc = .ok (.ifnonnull off, 3)) (ht : (pc : Int) + off = (tgt : Int)) (k : AW G K P tgt lv st h ce sl) : AW G K P pc lv (.ref x :: st) h ce sl := by
  intro p l e s m args below meth c C H locs ls hR hl hf
  exact lv_ifnonnull C.1 C.2.1 hd ht (k p l e s m args below meth c C H locs ls hR hl hf)

theorem aw_ifnullN {off : Int} {tgt : Nat} (hd : decode K.2.1 pc = .ok (.ifnull off, 3)) (ht : (pc : Int) + off = (tgt : Int)) (k : AW G K P tgt lv st h ce sl) : AW G K P pc lv (.null :: st) h ce sl := by
  intro p l e s m args below meth c C H locs ls hR hl hf
  exact lv_ifnullN C.1 C.2.1 hd ht (k p l e s m args below meth c C H locs ls hR hl hf)

theorem aw_ifnull {x : Nat} {off : Int} (hd : decode K.2.1 pc = .ok (.ifnull off, 3))  (hn : pc + 3 = n) (k : AW G K P n lv (st) h ce sl) : AW G K P pc lv (.ref x :: st) h ce sl := by
  intro p l e s m args below meth c C H locs ls hR hl hf
  subst hn
  exact lv_ifnull C.1 C.2.1 hd  (k p l e s m args below meth c C H locs ls hR hl hf)

theorem aw_ifnonnullN {off : Int} (hd : decode K.2.1 pc = .ok (.ifnonnull off, 3))  (hn : pc + 3 = n) (k : AW G K P n lv (st) h ce sl) : AW G K P pc lv (.null :: st) h ce sl := by
  intro p l e s m args below meth c C H locs ls hR hl hf
  subst hn
  exact lv_ifnonnullN C.1 C.2.1 hd  (k p l e s m args below meth c C H locs ls hR hl hf)

theorem aw_lookup {dflt : Int} {ps : Array (Int × Int)} {len : Nat} {x : Int32} {off : Int} {tgt : Nat} (hd : decode K.2.1 pc = .ok (.lookupswitch dflt ps, len)) (hp : (ps.toList.zip (ps.toList.drop 1)).all (fun (a, next) => a.1 < next.1) = true) (ho : Op.lookupswitch.offset ps.toList dflt x.toInt = off) (ht : (pc : Int) + off = (tgt : Int)) (k : AW G K P tgt lv st h ce sl) : AW G K P pc lv (.int x :: st) h ce sl := by
  intro p l e s m args below meth c C H locs ls hR hl hf
  exact lv_lookup C.1 C.2.1 hd hp ho ht (k p l e s m args below meth c C H locs ls hR hl hf)
theorem aw_tableOut {dflt lo hi : Int} {offs : Array Int} {len : Nat} {x : Int32} {tgt : Nat} (hd : decode K.2.1 pc = .ok (.tableswitch dflt lo hi offs, len)) (hx : x.toInt < lo ∨ hi < x.toInt) (ht : (pc : Int) + dflt = (tgt : Int)) (k : AW G K P tgt lv st h ce sl) : AW G K P pc lv (.int x :: st) h ce sl := by
  intro p l e s m args below meth c C H locs ls hR hl hf
  exact lv_tableOut C.1 C.2.1 hd hx ht (k p l e s m args below meth c C H locs ls hR hl hf)
theorem aw_tableIn {dflt lo hi : Int} {offs : Array Int} {len : Nat} {x : Int32} {off : Int} {tgt : Nat} (hd : decode K.2.1 pc = .ok (.tableswitch dflt lo hi offs, len)) (h1 : ¬ x.toInt < lo) (h2 : ¬ hi < x.toInt) (ho : offs[(x.toInt - lo).toNat]? = some off) (ht : (pc : Int) + off = (tgt : Int)) (k : AW G K P tgt lv st h ce sl) : AW G K P pc lv (.int x :: st) h ce sl := by
  intro p l e s m args below meth c C H locs ls hR hl hf
  exact lv_tableIn C.1 C.2.1 hd h1 h2 ho ht (k p l e s m args below meth c C H locs ls hR hl hf)

end
