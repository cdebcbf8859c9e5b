/-! AW row: ldc of a float. -/
section
section WLdc
variable {p : Program} {l : Launch} {e : Env} {R : Room} {s : State} {m : MethodId} {args : Array Value} {below : List Frame} {meth : Method} {c : Code} {H : Heap} {locs : List Loc} {cells slots : Nat} {Q : State → Prop}
theorem fw_ldcF {cc : ByteArray} (hexec : p.tables.exec = Jvm.exec) (hb : c.code = cc) {own : String} {index : Nat} {v : UInt32} (hown : s.vm.findClass own = some m.cls) (hconst : (Jvm.Cond.constantFloat own index v).before args s = true) {pc : Nat} {ls : Array Slot} {rest : List Value} (hdg : decode cc pc = .ok (.ldc index, 2))
    (k : W p l e R s m args below meth c H locs cells slots Q (F0 m (pc + 2) ls (.float v :: rest))) : W p l e R s m args below meth c H locs cells slots Q (F0 m pc ls rest) := by
  intro T hT X
  obtain ⟨t, a, b⟩ := k T hT X
  refine ⟨t, ?_, b⟩
  exact X.ldcFloatC hexec hown hconst rfl (by rw [hb]; exact hdg) t a
end WLdc
variable {G : aG} {K : aK} {P : aP} {pc n : Nat} {lv : List (Nat × Value)} {st : List Value} {h : hH} {ce sl : Nat}
theorem aw_ldcF {idx : Nat} {v : UInt32} (hd : decode K.2.1 pc = .ok (.ldc idx, 2)) (hc : Cond.constantFloat K.1.cls idx v ∈ lw_all) (hn : pc + 2 = n) (k : AW G K P n lv (.float v :: st) h ce sl) : AW G K P pc lv st h ce sl := by
  intro p l e s m args below meth c C H locs ls hR hl hf
  subst hn
  exact fw_ldcF C.1 C.2.1 C.own (C.ts _ hc) hd (k p l e s m args below meth c C H locs ls hR hl hf)
end
