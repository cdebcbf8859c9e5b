/-! AW rows: stores of references, casts, instanceof. -/
section
set_option maxRecDepth 100000
variable {G : aG} {K : aK} {P : aP} {pc n : Nat} {lv lv' : List (Nat × Value)} {st st' : List Value} {h h' : hH} {ce sl : Nat}
theorem cast_of {p : Program} {l : Launch} {s : State} {m : MethodId} {args : Array Value} {meth : Method} {c : Code} (C : aCx G K p l s m args meth c) {a b : String} (h : Cond.castable a b ∈ lw_tbl) : va_Nw (.castable a b) s := va_Nw.warmC C.wm (by obtain ⟨b9, hb9⟩ := C.gd.2.1; exact va_Nw.of rfl (hb9 _ h))
theorem aw_aast {a ti N v ci NN : Nat} {f f' : Nat → Value} {i : Int32} {C0 E : String} {T : u_T} {fs : List Value} (hd : decode K.2.1 pc = .ok (.aastore, 1)) (ht : arT[ti]? = some (.object E)) (j : Nat) (hi : i = nI j) (hg : h.2 a = some (har ti N f)) (hb : gB G ≤ a) (hj : j < N) (h31 : N < 2 ^ 31) (hT : clT[ci]? = some (C0, T, NN)) (hv : h.2 v = some (hob ci fs)) (hc : C0 = E ∨ Cond.castable C0 E ∈ lw_tbl) (hf' : updV f j (.ref v) = f') (hn : pc + 1 = n) (k : AW G K P n lv st (hset h a (har ti N f')) ce sl) : AW G K P pc lv (.ref v :: .int i :: .ref a :: st) h ce sl := by
  intro p l e s m args below meth c C H locs ls hR hl hf
  subst hn; subst hf'
  obtain ⟨ty, cell, g1, g2, g3, g4, g5, g6, g7, g8⟩ := hR.2.2.1 a _ hg
  dsimp only at g1 g3 g7 g8
  cases g1.symm.trans ht
  obtain ⟨q1, q2⟩ := arr_in hi hj h31
  rw [← g7] at q1
  obtain ⟨cellV, v1, v2, v3⟩ := recv_at C hR hT hv
  obtain ⟨kA, comp, k1, k2, k3, -⟩ := (C.k.2 ti _ ht).2
  obtain ⟨kE, hkE, -⟩ := Vm.findClass_spec k3
  obtain ⟨kV, hkV, -⟩ := Vm.findClass_spec v3
  have hinst : s.vm.assignable cellV.cls comp = true := by
    rcases hc with e1 | e1
    · subst e1
      cases k3.symm.trans v3
      exact va_asg _ _
    · obtain ⟨c0, t1, f1, f2, f3⟩ := Cond.castable_spec (va_Nw.use (A := args) rfl (cast_of C e1))
      cases v3.symm.trans f1
      cases k3.symm.trans f2
      exact f3
  refine W.aast C.1 C.2.1 g2 (fun q z => by rw [z] at g5; cases g5) g4 (by rw [g3]; exact k1) k2 rfl hkE ⟨fun z => q1 (Or.inl z), Nat.not_le.mp fun z => q1 (Or.inr z)⟩ v1 (fun q z => by rw [z] at v2; cases v2) hkV hinst rfl rfl hd fun H' e1 e2 e3 => ?_
  rw [q2] at e1 ⊢
  refine k p l e s m args below meth c C H' _ ls (arr_st hR hb hj ht g3 g4 g5 g6 g7 g8 e1 e2 e3) hl (fun q hq => ?_)
  rcases List.mem_append.mp hq with h1 | h1
  · exact hf q h1
  · rw [List.mem_singleton.mp h1]; exact hb
theorem aw_aastN {a ti N : Nat} {f f' : Nat → Value} {i : Int32} {E : String} (hd : decode K.2.1 pc = .ok (.aastore, 1)) (ht : arT[ti]? = some (.object E)) (j : Nat) (hi : i = nI j) (hg : h.2 a = some (har ti N f)) (hb : gB G ≤ a) (hj : j < N) (h31 : N < 2 ^ 31) (hf' : updV f j .null = f') (hn : pc + 1 = n) (k : AW G K P n lv st (hset h a (har ti N f')) ce sl) : AW G K P pc lv (.null :: .int i :: .ref a :: st) h ce sl := by
  intro p l e s m args below meth c C H locs ls hR hl hf
  subst hn; subst hf'
  obtain ⟨ty, cell, g1, g2, g3, g4, g5, g6, g7, g8⟩ := hR.2.2.1 a _ hg
  dsimp only at g1 g3 g7 g8
  cases g1.symm.trans ht
  have hA := isArr (C.k.2 ti _ ht).1 g3 g5
  obtain ⟨q1, q2⟩ := arr_in hi hj h31
  refine va_WaastN C.1 C.2.1 g2 hA g4 (by rw [g7]; exact q1) rfl rfl hd fun H' e1 e2 e3 => ?_
  rw [q2] at e1 ⊢
  refine k p l e s m args below meth c C H' _ ls (arr_st hR hb hj ht g3 g4 g5 g6 g7 g8 e1 e2 e3) hl (fun q hq => ?_)
  rcases List.mem_append.mp hq with h1 | h1
  · exact hf q h1
  · rw [List.mem_singleton.mp h1]; exact hb
theorem aw_cast {idx a ci NN : Nat} {C0 nm : String} {T : u_T} {fs : List Value} (hd : decode K.2.1 pc = .ok (.checkcast idx, 3)) (hlink : Cond.classLink K.1.cls idx nm ∈ lw_all) (hT : clT[ci]? = some (C0, T, NN)) (hv : h.2 a = some (hob ci fs)) (hc : C0 = nm ∨ Cond.castable C0 nm ∈ lw_tbl) (hn : pc + 3 = n) (k : AW G K P n lv (.ref a :: st) h ce sl) : AW G K P pc lv (.ref a :: st) h ce sl := by
  intro p l e s m args below meth c C H locs ls hR hl hf
  subst hn
  rcases hc with e1 | e1
  · subst e1
    exact va_castE C.1 C.2.1 C.own (C.ts _ hlink) (recv_at C hR hT hv) hd (k p l e s m args below meth c C H locs ls hR hl hf)
  · exact va_castY C.1 C.2.1 C.own (C.ts _ hlink) (cast_of C e1) (recv_at C hR hT hv) hd (k p l e s m args below meth c C H locs ls hR hl hf)
theorem aw_inst {idx a ci NN : Nat} {C0 nm : String} {T : u_T} {fs : List Value} (hd : decode K.2.1 pc = .ok (.instanceof idx, 3)) (hlink : Cond.classLink K.1.cls idx nm ∈ lw_all) (hT : clT[ci]? = some (C0, T, NN)) (hv : h.2 a = some (hob ci fs)) (hc : C0 = nm ∨ Cond.castable C0 nm ∈ lw_tbl) (hn : pc + 3 = n) (k : AW G K P n lv (.int 1 :: st) h ce sl) : AW G K P pc lv (.ref a :: st) h ce sl := by
  intro p l e s m args below meth c C H locs ls hR hl hf
  subst hn
  rcases hc with e1 | e1
  · subst e1
    exact va_instE C.1 C.2.1 C.own (C.ts _ hlink) (recv_at C hR hT hv) hd (k p l e s m args below meth c C H locs ls hR hl hf)
  · exact va_instY C.1 C.2.1 C.own (C.ts _ hlink) (cast_of C e1) (recv_at C hR hT hv) hd (k p l e s m args below meth c C H locs ls hR hl hf)
theorem aw_instNo {idx a ci NN : Nat} {C0 nm : String} {T : u_T} {fs : List Value} (hd : decode K.2.1 pc = .ok (.instanceof idx, 3)) (hlink : Cond.classLink K.1.cls idx nm ∈ lw_all) (hT : clT[ci]? = some (C0, T, NN)) (hv : h.2 a = some (hob ci fs)) (hc : ncast C0 nm) (hn : pc + 3 = n) (k : AW G K P n lv (.int 0 :: st) h ce sl) : AW G K P pc lv (.ref a :: st) h ce sl := by
  intro p l e s m args below meth c C H locs ls hR hl hf
  subst hn
  exact va_instNo C.1 C.2.1 C.own (C.ts _ hlink) (ncast_at C hc) (recv_at C hR hT hv) hd (k p l e s m args below meth c C H locs ls hR hl hf)
end
