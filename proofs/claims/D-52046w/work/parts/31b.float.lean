/-! Floats and doubles: rows. -/
section
set_option maxRecDepth 100000
section WFloat
variable {p : Program} {l : Launch} {e : Env} {R : Room} {s : State} {m : MethodId} {args : Array Value} {below : List Frame} {meth : Method} {c : Code} {H : Heap} {locs : List Loc} {cells slots : Nat} {Q : State → Prop}
theorem fw_i2d {cc : ByteArray} (hexec : p.tables.exec = Jvm.exec) (hb : c.code = cc) {x : Int32} {pc : Nat} {ls : Array Slot} {rest : List Value} (hdg : decode cc pc = .ok (.i2d, 1)) 
    (k : W p l e R s m args below meth c H locs cells slots Q (F0 m (pc + 1) ls (.double (FP.i2d x) :: rest))) : W p l e R s m args below meth c H locs cells slots Q (F0 m pc ls (.int x :: rest)) := by
  intro T hT X
  obtain ⟨t, a, b⟩ := k T hT X
  refine ⟨t, ?_, b⟩
  jvm_step X.here [X.here.top, hexec, hb, hdg]
  exact a
theorem fw_ddiv {cc : ByteArray} (hexec : p.tables.exec = Jvm.exec) (hb : c.code = cc) {x y : UInt64} {pc : Nat} {ls : Array Slot} {rest : List Value} (hdg : decode cc pc = .ok (.ddiv, 1)) (hr : FP.ddiv x y &&& 0x7fffffffffffffff ≤ 0x7ff0000000000000)
    (k : W p l e R s m args below meth c H locs cells slots Q (F0 m (pc + 1) ls (.double (FP.ddiv x y) :: rest))) : W p l e R s m args below meth c H locs cells slots Q (F0 m pc ls (.double y :: .double x :: rest)) := by
  intro T hT X
  obtain ⟨t, a, b⟩ := k T hT X
  refine ⟨t, ?_, b⟩
  jvm_step X.here [X.here.top, hexec, hb, hdg]
  refine (ddiv.wp_number (f := F0 m pc ls (.double y :: .double x :: rest)) (by simp [X.here.top]) rfl hr).mpr ?_
  intro acts
  rw [afterInstr_ok]
  exact a
theorem fw_dcmp {cc : ByteArray} (hexec : p.tables.exec = Jvm.exec) (hb : c.code = cc) {x y : UInt64} {o : CmpOp} {pc : Nat} {ls : Array Slot} {rest : List Value} (hdg : decode cc pc = .ok (.dcmp o, 1)) 
    (k : W p l e R s m args below meth c H locs cells slots Q (F0 m (pc + 1) ls (.int (cmpValue (FP.dcmp x y) o) :: rest))) : W p l e R s m args below meth c H locs cells slots Q (F0 m pc ls (.double y :: .double x :: rest)) := by
  intro T hT X
  obtain ⟨t, a, b⟩ := k T hT X
  refine ⟨t, ?_, b⟩
  jvm_step X.here [X.here.top, hexec, hb, hdg]
  exact a
theorem fw_i2f {cc : ByteArray} (hexec : p.tables.exec = Jvm.exec) (hb : c.code = cc) {x : Int32} {pc : Nat} {ls : Array Slot} {rest : List Value} (hdg : decode cc pc = .ok (.i2f, 1)) 
    (k : W p l e R s m args below meth c H locs cells slots Q (F0 m (pc + 1) ls (.float (FP.i2f x) :: rest))) : W p l e R s m args below meth c H locs cells slots Q (F0 m pc ls (.int x :: rest)) := by
  intro T hT X
  obtain ⟨t, a, b⟩ := k T hT X
  refine ⟨t, ?_, b⟩
  jvm_step X.here [X.here.top, hexec, hb, hdg]
  exact a
theorem fw_fmul {cc : ByteArray} (hexec : p.tables.exec = Jvm.exec) (hb : c.code = cc) {x y : UInt32} {pc : Nat} {ls : Array Slot} {rest : List Value} (hdg : decode cc pc = .ok (.fmul, 1)) (hr : FP.fmul x y &&& 0x7fffffff ≤ 0x7f800000)
    (k : W p l e R s m args below meth c H locs cells slots Q (F0 m (pc + 1) ls (.float (FP.fmul x y) :: rest))) : W p l e R s m args below meth c H locs cells slots Q (F0 m pc ls (.float y :: .float x :: rest)) := by
  intro T hT X
  obtain ⟨t, a, b⟩ := k T hT X
  refine ⟨t, ?_, b⟩
  jvm_step X.here [X.here.top, hexec, hb, hdg]
  refine (fmul.wp_number (f := F0 m pc ls (.float y :: .float x :: rest)) (by simp [X.here.top]) rfl hr).mpr ?_
  intro acts
  rw [afterInstr_ok]
  exact a
theorem fw_fdiv {cc : ByteArray} (hexec : p.tables.exec = Jvm.exec) (hb : c.code = cc) {x y : UInt32} {pc : Nat} {ls : Array Slot} {rest : List Value} (hdg : decode cc pc = .ok (.fdiv, 1)) (hr : FP.fdiv x y &&& 0x7fffffff ≤ 0x7f800000)
    (k : W p l e R s m args below meth c H locs cells slots Q (F0 m (pc + 1) ls (.float (FP.fdiv x y) :: rest))) : W p l e R s m args below meth c H locs cells slots Q (F0 m pc ls (.float y :: .float x :: rest)) := by
  intro T hT X
  obtain ⟨t, a, b⟩ := k T hT X
  refine ⟨t, ?_, b⟩
  jvm_step X.here [X.here.top, hexec, hb, hdg]
  refine (fdiv.wp_number (f := F0 m pc ls (.float y :: .float x :: rest)) (by simp [X.here.top]) rfl hr).mpr ?_
  intro acts
  rw [afterInstr_ok]
  exact a
theorem fw_fcmp {cc : ByteArray} (hexec : p.tables.exec = Jvm.exec) (hb : c.code = cc) {x y : UInt32} {o : CmpOp} {pc : Nat} {ls : Array Slot} {rest : List Value} (hdg : decode cc pc = .ok (.fcmp o, 1)) 
    (k : W p l e R s m args below meth c H locs cells slots Q (F0 m (pc + 1) ls (.int (cmpValue (FP.fcmp x y) o) :: rest))) : W p l e R s m args below meth c H locs cells slots Q (F0 m pc ls (.float y :: .float x :: rest)) := by
  intro T hT X
  obtain ⟨t, a, b⟩ := k T hT X
  refine ⟨t, ?_, b⟩
  jvm_step X.here [X.here.top, hexec, hb, hdg]
  exact a
theorem fw_f2i {cc : ByteArray} (hexec : p.tables.exec = Jvm.exec) (hb : c.code = cc) {x : UInt32} {pc : Nat} {ls : Array Slot} {rest : List Value} (hdg : decode cc pc = .ok (.f2i, 1)) 
    (k : W p l e R s m args below meth c H locs cells slots Q (F0 m (pc + 1) ls (.int (FP.f2i x) :: rest))) : W p l e R s m args below meth c H locs cells slots Q (F0 m pc ls (.float x :: rest)) := by
  intro T hT X
  obtain ⟨t, a, b⟩ := k T hT X
  refine ⟨t, ?_, b⟩
  jvm_step X.here [X.here.top, hexec, hb, hdg]
  exact a
end WFloat
variable {G : aG} {K : aK} {P : aP} {pc n : Nat} {lv : List (Nat × Value)} {st : List Value} {h : hH} {ce sl : Nat}
theorem aw_i2d {x : Int32} (hd : decode K.2.1 pc = .ok (.i2d, 1))  (hn : pc + 1 = n) (k : AW G K P n lv (.double (FP.i2d x) :: st) h ce sl) : AW G K P pc lv (.int x :: st) h ce sl := by
  intro p l e s m args below meth c C H locs ls hR hl hf
  subst hn
  exact fw_i2d C.1 C.2.1 hd  (k p l e s m args below meth c C H locs ls hR hl hf)
theorem aw_ddiv {x y : UInt64} (hd : decode K.2.1 pc = .ok (.ddiv, 1)) (hr : FP.ddiv x y &&& 0x7fffffffffffffff ≤ 0x7ff0000000000000) (hn : pc + 1 = n) (k : AW G K P n lv (.double (FP.ddiv x y) :: st) h ce sl) : AW G K P pc lv (.double y :: .double x :: st) h ce sl := by
  intro p l e s m args below meth c C H locs ls hR hl hf
  subst hn
  exact fw_ddiv C.1 C.2.1 hd hr (k p l e s m args below meth c C H locs ls hR hl hf)
theorem aw_dcmp {x y : UInt64} {o : CmpOp} (hd : decode K.2.1 pc = .ok (.dcmp o, 1))  (hn : pc + 1 = n) (k : AW G K P n lv (.int (cmpValue (FP.dcmp x y) o) :: st) h ce sl) : AW G K P pc lv (.double y :: .double x :: st) h ce sl := by
  intro p l e s m args below meth c C H locs ls hR hl hf
  subst hn
  exact fw_dcmp C.1 C.2.1 hd  (k p l e s m args below meth c C H locs ls hR hl hf)
theorem aw_i2f {x : Int32} (hd : decode K.2.1 pc = .ok (.i2f, 1))  (hn : pc + 1 = n) (k : AW G K P n lv (.float (FP.i2f x) :: st) h ce sl) : AW G K P pc lv (.int x :: st) h ce sl := by
  intro p l e s m args below meth c C H locs ls hR hl hf
  subst hn
  exact fw_i2f C.1 C.2.1 hd  (k p l e s m args below meth c C H locs ls hR hl hf)
theorem aw_fmul {x y : UInt32} (hd : decode K.2.1 pc = .ok (.fmul, 1)) (hr : FP.fmul x y &&& 0x7fffffff ≤ 0x7f800000) (hn : pc + 1 = n) (k : AW G K P n lv (.float (FP.fmul x y) :: st) h ce sl) : AW G K P pc lv (.float y :: .float x :: st) h ce sl := by
  intro p l e s m args below meth c C H locs ls hR hl hf
  subst hn
  exact fw_fmul C.1 C.2.1 hd hr (k p l e s m args below meth c C H locs ls hR hl hf)
theorem aw_fdiv {x y : UInt32} (hd : decode K.2.1 pc = .ok (.fdiv, 1)) (hr : FP.fdiv x y &&& 0x7fffffff ≤ 0x7f800000) (hn : pc + 1 = n) (k : AW G K P n lv (.float (FP.fdiv x y) :: st) h ce sl) : AW G K P pc lv (.float y :: .float x :: st) h ce sl := by
  intro p l e s m args below meth c C H locs ls hR hl hf
  subst hn
  exact fw_fdiv C.1 C.2.1 hd hr (k p l e s m args below meth c C H locs ls hR hl hf)
theorem aw_fcmp {x y : UInt32} {o : CmpOp} (hd : decode K.2.1 pc = .ok (.fcmp o, 1))  (hn : pc + 1 = n) (k : AW G K P n lv (.int (cmpValue (FP.fcmp x y) o) :: st) h ce sl) : AW G K P pc lv (.float y :: .float x :: st) h ce sl := by
  intro p l e s m args below meth c C H locs ls hR hl hf
  subst hn
  exact fw_fcmp C.1 C.2.1 hd  (k p l e s m args below meth c C H locs ls hR hl hf)
theorem aw_f2i {x : UInt32} (hd : decode K.2.1 pc = .ok (.f2i, 1))  (hn : pc + 1 = n) (k : AW G K P n lv (.int (FP.f2i x) :: st) h ce sl) : AW G K P pc lv (.float x :: st) h ce sl := by
  intro p l e s m args below meth c C H locs ls hR hl hf
  subst hn
  exact fw_f2i C.1 C.2.1 hd  (k p l e s m args below meth c C H locs ls hR hl hf)
end
