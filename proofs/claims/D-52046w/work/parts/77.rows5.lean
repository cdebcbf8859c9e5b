/-! AW row: System.arraycopy of references. -/
section
set_option maxRecDepth 100000
section WCopy
variable {p : Program} {l : Launch} {e : Env} {R : Room} {s : State} {m : MethodId} {args : Array Value} {below : List Frame} {meth : Method} {c : Code} {H : Heap} {locs : List Loc} {cells slots : Nat} {Q : State → Prop}
theorem fw_acopyR {cc : ByteArray} (hexec : p.tables.exec = Jvm.exec) (hb : c.code = cc) {own : String} {idx : Nat} (hown : s.vm.findClass own = some m.cls) (hlink : (Cond.methodLink own idx arraycopyName).before args s = true) (hnat : (Cond.native arraycopyName).before args s = true) (hstat : (Cond.static arraycopyName).before args s = true) (hinit : (Cond.initialized "java/lang/System").before args s = true)
    {src dst sp dp n : Nat} {cs cd : Cell} {E : String} {cA : ClassId} (hs : H[src]? = some cs) (hd : H[dst]? = some cd) (has : s.isArrayOf cs (.object E)) (had : s.isArrayOf cd (.object E)) (hcA : cd.cls = cA) (hRA : va_RA s cA (.object E)) (hsu : cs.vm ≠ .unknown) (hdu : cd.vm ≠ .unknown) (h1 : sp + n ≤ cs.slots.size) (h2 : dp + n ≤ cd.slots.size) (h3 : cs.slots.size < 2 ^ 31) (h4 : cd.slots.size < 2 ^ 31)
    (hv : ∀ i, i < n → cs.slots.getD (sp + i) .null = .null ∨ ∃ (y : Nat) (cellV : Cell) (ad : String), cs.slots.getD (sp + i) .null = .ref y ∧ H[y]? = some cellV ∧ cellV.vm.isStatics = false ∧ s.vm.findClass ad = some cellV.cls ∧ ∀ comp : ClassId, s.vm.findClass E = some comp → s.vm.assignable cellV.cls comp = true)
    {pc : Nat} {ls : Array Slot} {rest : List Value} (hdg : decode cc pc = .ok (.invokestatic idx, 3)) (hsize : ls.size = c.maxLocals) (hf : 1 ≤ R.frames) (hl : (rest.map fun v => v.category).sum + (nativeFrameWords "java/lang/System" "arraycopy" 5 + 11) ≤ R.locals)
    (k : ∀ H' : Heap, H'[dst]? = some (cd.storeRun dp (cs.stretch sp n)) → H'.size = H.size → (∀ q : Nat, q ≠ dst → H'[q]? = H[q]?) → W p l e R s m args below meth c H' (locs ++ (cs.stretch sp n).zipIdx.map fun q => ⟨dst, dp + q.2⟩) cells slots Q (F0 m (pc + 3) ls rest)) :
    W p l e R s m args below meth c H locs cells slots Q (F0 m pc ls (.int (nI n) :: .int (nI dp) :: .ref dst :: .int (nI sp) :: .ref src :: rest)) := by
  intro T hT X
  obtain ⟨a1, ks, hks, sC, hsk⟩ := has
  obtain ⟨a2, kd, hkd, dC, hdk⟩ := had
  have e1 : (nI sp).toNatClampNeg = sp := nI_clamp (by omega)
  have e2 : (nI dp).toNatClampNeg = dp := nI_clamp (by omega)
  have e3 : (nI n).toNatClampNeg = n := nI_clamp (by omega)
  have hd' : T.heap[dst]? = some cd := by rw [hT]; exact hd
  obtain ⟨vm', X', st⟩ := X.arraycopy hexec hown hlink hnat hstat hinit (srcPos := nI sp) (destPos := nI dp) (n := nI n) (by rw [hT]; exact hs) hd' a1 a2 hsu hdu hks hkd hsk hdk rfl (nI_pos (by omega)) (nI_pos (by omega)) (nI_pos (by omega))
    (by rw [nI_toInt (by omega), nI_toInt (by omega)]; omega) (by rw [nI_toInt (by omega), nI_toInt (by omega)]; omega)
    (fun vm₁ hal i hi => by
      rw [e1] at *
      rw [e3] at hi
      rcases hv i hi with e | ⟨y, cellV, ad, e, g1, g2, g3, g4⟩
      · rw [e]; exact ⟨rfl, trivial⟩
      · rw [e]
        obtain ⟨kA, comp, r1, r2, r3, -⟩ := hRA
        rw [hcA] at hkd
        cases hkd.symm.trans r1
        cases hdk.symm.trans r2
        obtain ⟨kC, hkC, -⟩ := Vm.findClass_spec g3
        obtain ⟨kE, hkE, -⟩ := Vm.findClass_spec r3
        obtain ⟨kC', hkC', -⟩ := hal.2.2 _ _ hkC
        obtain ⟨kE', hkE', -⟩ := hal.2.2 _ _ hkE
        refine ⟨rfl, cellV, (show T.heap[y]? = some cellV by rw [hT]; exact g1), (fun q h => by rw [h] at g2; cases g2), ⟨kC', hkC'⟩, ⟨kE', hkE'⟩, ?_⟩
        show vm₁.assignable _ _ = true
        rw [hal.assignable]
        exact g4 _ r3)
    (g := F0 m pc ls (.int (nI n) :: .int (nI dp) :: .ref dst :: .int (nI sp) :: .ref src :: rest)) rfl hsize rfl (by rw [hb]; exact hdg) hf (by show 2 * 0 + _ + _ ≤ _; omega)
  have hc : Jvm.copied cs cd (nI sp) (nI dp) (nI n) = cd.storeRun dp (cs.stretch sp n) := by
    show cd.storeRun (nI dp).toNatClampNeg (cs.stretch (nI sp).toNatClampNeg (nI n).toNatClampNeg) = _
    rw [e1, e2, e3]
  rw [hc] at X' st
  rw [e1, e2, e3] at X'
  have hlt : dst < (T.setVm vm').heap.size := (Array.getElem?_eq_some_iff.mp hd').1
  obtain ⟨t, a, b⟩ := k _ (heapAt_setCell_self _ hlt) (by rw [size_setCell]; show T.heap.size = _; rw [hT]) (fun q hq => by rw [heapAt_setCell_ne _ (Ne.symm hq)]; show T.heap[q]? = _; rw [hT]) ((T.setVm vm').setCell dst (cd.storeRun dp (cs.stretch sp n))) rfl X'
  exact ⟨t, st t a, b⟩
end WCopy
variable {G : aG} {K : aK} {P : aP} {pc n : Nat} {lv : List (Nat × Value)} {rest : List Value} {h : hH} {ce sl : Nat}
theorem acopy_rep {G : aG} {h : hH} {H H' : Heap} {src dst sp dp c0 ti N1 N2 : Nat} {f g : Nat → Value} {cs cd : Cell} {ty : FieldType} (hR : hRep G h H) (hb : gB G ≤ dst) (ht : arT[ti]? = some ty) (g7 : cs.slots.size = N1) (g8 : ∀ j, j < N1 → cs.slots[j]? = some (f j)) (k3 : cd.cls = gA G ti) (k4 : cd.vm ≠ .unknown) (k5 : cd.vm.isStatics = false) (k6 : gB G ≤ dst → cd.vm = .none) (k7 : cd.slots.size = N2) (k8 : ∀ j, j < N2 → cd.slots[j]? = some (g j)) (b1 : sp + c0 ≤ N1) (b2 : dp + c0 ≤ N2)
    (e1 : H'[dst]? = some (cd.storeRun dp (cs.stretch sp c0))) (e2 : H'.size = H.size) (e3 : ∀ q : Nat, q ≠ dst → H'[q]? = H[q]?) : hRep G (hset h dst (har ti N2 (cpF f g sp dp c0))) H' := by
  have hget : ∀ j, j < N1 → cs.slots.getD j .null = f j := fun j hj => by
    rw [Array.getD_eq_getD_getElem?, g8 j hj]; rfl
  obtain ⟨f1, f2, f3, -, -⟩ := cd.storeRun_facts dp (cs.stretch sp c0)
  refine hR.set hb ⟨_, _, ht, e1, f1.trans k3, by rw [f2]; exact k4, by rw [f2]; exact k5, by rw [f2]; exact k6, f3.trans k7, fun i hi => ?_⟩ e2 e3
  rw [Cell.storeRun_get _ _ _ _ (by rw [Cell.stretch_length]; omega), Cell.stretch_length]
  simp only [cpF]
  by_cases hi2 : dp ≤ i ∧ i < dp + c0
  · rw [if_pos hi2, if_pos hi2]
    simp only [Cell.stretch, List.getElem?_map]
    rw [List.getElem?_range (by omega)]
    simp only [Option.map_some]
    rw [hget _ (by omega)]
  · rw [if_neg hi2, if_neg hi2]
    exact k8 i hi
/-- null, or a cell of a class that may stand in an array of E -/
def elOK (h : hH) (E : String) (v : Value) : Prop := v = .null ∨ ∃ (y : Nat) (ad : String), v = .ref y ∧ kindA h y ad ∧ (ad = E ∨ Cond.castable ad E ∈ lw_tbl)
theorem asg_of {p : Program} {l : Launch} {s : State} {m : MethodId} {args : Array Value} {meth : Method} {c : Code} (C : aCx G K p l s m args meth c) {ad E : String} {cv comp : ClassId} (hc : ad = E ∨ Cond.castable ad E ∈ lw_tbl) (h1 : s.vm.findClass ad = some cv) (h2 : s.vm.findClass E = some comp) : s.vm.assignable cv comp = true := by
  rcases hc with e1 | e1
  · subst e1
    cases h2.symm.trans h1
    exact va_asg _ _
  · obtain ⟨c0, t1, f1, f2, f3⟩ := Cond.castable_spec (va_Nw.use (A := args) rfl (cast_of C e1))
    cases h1.symm.trans f1
    cases h2.symm.trans f2
    exact f3
theorem aw_acopyRK {idx src dst sp dp c0 ti N1 N2 : Nat} {f g f' : Nat → Value} {E : String} (hd : decode K.2.1 pc = .ok (.invokestatic idx, 3)) (w1 : Cond.methodLink K.1.cls idx arraycopyName ∈ lw_all) (w2 : Cond.native arraycopyName ∈ lw_all) (w3 : Cond.static arraycopyName ∈ lw_all) (w4 : Cond.initialized "java/lang/System" ∈ lw_all) (ht : arT[ti]? = some (.object E))
    (hs : h.2 src = some (har ti N1 f)) (hg : h.2 dst = some (har ti N2 g)) (hb : gB G ≤ dst) (b1 : sp + c0 ≤ N1) (b2 : dp + c0 ≤ N2) (h1 : N1 < 2 ^ 31) (h2 : N2 < 2 ^ 31) (hel : ∀ j, j < c0 → elOK h E (f (sp + j))) (hcat : (rest.map fun v => v.category).sum ≤ 8) (hroom : 1 ≤ P.1.1 ∧ 8 + (nativeFrameWords "java/lang/System" "arraycopy" 5 + 11) ≤ P.1.2.1) (hf' : cpF f g sp dp c0 = f') (hn : pc + 3 = n) (k : ∀ h1 : hH, hW1 h h1 dst (har ti N2 f') → AW G K P n lv rest h1 ce sl) :
    AW G K P pc lv (.int (nI c0) :: .int (nI dp) :: .ref dst :: .int (nI sp) :: .ref src :: rest) h ce sl := by
  intro p l e s m args below meth c C H locs ls hR hl hf
  subst hn; subst hf'
  obtain ⟨ty1, cs, g1, g2, g3, g4, g5, g6, g7, g8⟩ := hR.2.2.1 src _ hs
  obtain ⟨ty2, cd, k1, k2, k3, k4, k5, k6, k7, k8⟩ := hR.2.2.1 dst _ hg
  dsimp only at g1 g3 g7 g8 k1 k3 k7 k8
  cases g1.symm.trans ht
  cases k1.symm.trans ht
  have hA := isArr (C.k.2 ti _ ht).1 g3 g5
  have hB := isArr (C.k.2 ti _ ht).1 k3 k5
  refine fw_acopyR C.1 C.2.1 C.own (C.ts _ w1) (C.ts _ w2) (C.ts _ w3) (C.ts _ w4) g2 k2 hA hB k3 (C.k.2 ti _ ht).2 g4 k4 (by omega) (by omega) (by omega) (by omega) (fun i hi => ?_) hd (hl.1.trans C.2.2.1.symm) hroom.1 (Nat.le_trans (by omega) hroom.2) fun H' e1 e2 e3 => ?_
  · have e9 : cs.slots.getD (sp + i) .null = f (sp + i) := by
      rw [Array.getD_eq_getD_getElem?, g8 (sp + i) (by omega)]; rfl
    rw [e9]
    rcases hel i hi with z | ⟨y, ad, z, z2, z3⟩
    · exact Or.inl z
    · obtain ⟨cellV, v1, v2, v3⟩ := kind_at C hR z2
      exact Or.inr ⟨y, cellV, ad, z, v1, v2, v3, fun comp h9 => asg_of C z3 v3 h9⟩
  · refine k _ hW1.set p l e s m args below meth c C H' _ ls (acopy_rep (src := src) hR hb ht g7 g8 k3 k4 k5 k6 k7 k8 b1 b2 e1 e2 e3) hl (fun q hq => ?_)
    rcases List.mem_append.mp hq with z | z
    · exact hf q z
    · obtain ⟨x, _, rfl⟩ := List.mem_map.mp z
      exact hb
theorem aw_acopyK {idx src dst sp dp c0 ti N1 N2 : Nat} {f g f' : Nat → Value} {ty : FieldType} (hd : decode K.2.1 pc = .ok (.invokestatic idx, 3)) (w1 : Cond.methodLink K.1.cls idx arraycopyName ∈ lw_all) (w2 : Cond.native arraycopyName ∈ lw_all) (w3 : Cond.static arraycopyName ∈ lw_all) (w4 : Cond.initialized "java/lang/System" ∈ lw_all) (ht : arT[ti]? = some ty) (hp : refKind ty = false)
    (hs : h.2 src = some (har ti N1 f)) (hg : h.2 dst = some (har ti N2 g)) (hb : gB G ≤ dst) (b1 : sp + c0 ≤ N1) (b2 : dp + c0 ≤ N2) (h1 : N1 < 2 ^ 31) (h2 : N2 < 2 ^ 31) (hfit : ∀ j, j < N1 → fits ty (f j) = true) (hcat : (rest.map fun v => v.category).sum ≤ 8) (hroom : 1 ≤ P.1.1 ∧ 8 + (nativeFrameWords "java/lang/System" "arraycopy" 5 + 11) ≤ P.1.2.1) (hf' : cpF f g sp dp c0 = f') (hn : pc + 3 = n) (k : ∀ h1 : hH, hW1 h h1 dst (har ti N2 f') → AW G K P n lv rest h1 ce sl) :
    AW G K P pc lv (.int (nI c0) :: .int (nI dp) :: .ref dst :: .int (nI sp) :: .ref src :: rest) h ce sl := by
  subst hf'
  exact aw_acopy hd w1 w2 w3 w4 ht hp hs hg hb b1 b2 h1 h2 hfit hcat hroom hn (k _ hW1.set)
/-- an array or an object of another kind is stored: any cell -/
theorem aw_aastAK {a ti N v : Nat} {f f' : Nat → Value} {i : Int32} {ad E : String} (hd : decode K.2.1 pc = .ok (.aastore, 1)) (ht : arT[ti]? = some (.object E)) (j : Nat) (hi : i = nI j) (hg : h.2 a = some (har ti N f)) (hb : gB G ≤ a) (hj : j < N) (h31 : N < 2 ^ 31) (hv : kindA h v ad) (hc : ad = E ∨ Cond.castable ad E ∈ lw_tbl) (hf' : updV f j (.ref v) = f') (hn : pc + 1 = n) (k : ∀ h1 : hH, hW1 h h1 a (har ti N f') → AW G K P n lv rest h1 ce sl) : AW G K P pc lv (.ref v :: .int i :: .ref a :: rest) h ce sl := by
  intro p l e s m args below meth c C H locs ls hR hl hf
  subst hn; subst hf'
  obtain ⟨ty, cell, g1, g2, g3, g4, g5, g6, g7, g8⟩ := hR.2.2.1 a _ hg
  dsimp only at g1 g3 g7 g8
  cases g1.symm.trans ht
  obtain ⟨q1, q2⟩ := arr_in hi hj h31
  rw [← g7] at q1
  obtain ⟨cellV, v1, v2, v3⟩ := kind_at C hR hv
  obtain ⟨kA, comp, k1, k2, k3, -⟩ := (C.k.2 ti _ ht).2
  obtain ⟨kE, hkE, -⟩ := Vm.findClass_spec k3
  obtain ⟨kV, hkV, -⟩ := Vm.findClass_spec v3
  refine W.aast C.1 C.2.1 g2 (fun q z => by rw [z] at g5; cases g5) g4 (by rw [g3]; exact k1) k2 rfl hkE ⟨fun z => q1 (Or.inl z), Nat.not_le.mp fun z => q1 (Or.inr z)⟩ v1 (fun q z => by rw [z] at v2; cases v2) hkV (asg_of C hc v3 k3) rfl rfl hd fun H' e1 e2 e3 => ?_
  rw [q2] at e1 ⊢
  refine k _ hW1.set p l e s m args below meth c C H' _ ls (arr_st hR hb hj ht g3 g4 g5 g6 g7 g8 e1 e2 e3) hl (fun q hq => ?_)
  rcases List.mem_append.mp hq with h1 | h1
  · exact hf q h1
  · rw [List.mem_singleton.mp h1]; exact hb
/-- a cast of anything -/
theorem aw_castA {idx a : Nat} {ad nm : String} (hd : decode K.2.1 pc = .ok (.checkcast idx, 3)) (hlink : Cond.classLink K.1.cls idx nm ∈ lw_all) (hv : kindA h a ad) (hc : ad = nm ∨ Cond.castable ad nm ∈ lw_tbl) (hn : pc + 3 = n) (k : AW G K P n lv (.ref a :: rest) h ce sl) : AW G K P pc lv (.ref a :: rest) h ce sl := by
  intro p l e s m args below meth c C H locs ls hR hl hf
  subst hn
  rcases hc with e1 | e1
  · subst e1
    exact va_castE C.1 C.2.1 C.own (C.ts _ hlink) (kind_at C hR hv) hd (k p l e s m args below meth c C H locs ls hR hl hf)
  · exact va_castY C.1 C.2.1 C.own (C.ts _ hlink) (cast_of C e1) (kind_at C hR hv) hd (k p l e s m args below meth c C H locs ls hR hl hf)
end
/-! A private method of a superclass. -/
section
set_option maxRecDepth 100000
theorem sel_up {y : MethodName} {s : State} {args : Array Value} {C0 : String} {n : Nat} (hy : y.cls ≠ "java/lang/invoke/MethodHandle" ∧ y.cls ≠ "java/lang/invoke/VarHandle") (hins : (Cond.instantiable C0 n).before args s = true) (hsame : (Cond.sameMethod y.cls y.cls y.name y.desc).before args s = true) (hpriv : (Cond.privateMethod y).before args s = true) (hinst : (Cond.instanceMethod y).before args s = true) : (Cond.selects C0 y y).before args s = true := by
  obtain ⟨c, k, hc, hk, -, hniab, -, -⟩ := Cond.instantiable_spec hins
  obtain ⟨cn, ck, r1, hcn, hck, hni, hf, hn1⟩ := Cond.sameMethod_found hsame
  obtain ⟨mk, methM, hnamed, hmethM, -, -⟩ := Cond.instanceMethod_spec hinst
  have hfound : s.methodFound? y.cls y.name y.desc = some mk := State.methodFound?_of_named hnamed hy
  have hcls : mk.cls = cn := Option.some.inj ((findClass_of_methodNamed hnamed).symm.trans hcn)
  have hsel : selectMethod {} s.vm c mk = .method mk := selectMethod_private hmethM (Cond.privateMethod_at hpriv mk methM hnamed hmethM)
  simp only [Cond.before, Cond.holds, Cond.value, hc, hfound, hnamed, hsel, hcls, hck]
  simp; exact hni
variable {G : aG} {K : aK} {P P2 : aP} {pc n : Nat} {lv lv' : List (Nat × Value)} {st rest As : List Value} {h h' : hH} {ce sl : Nat}
theorem aw_callUP {K2 : aK} {idx b M : Nat} {ci N : Nat} {fs : List Value} {C0 : String} {T : u_T} (hd : decode K.2.1 pc = .ok (.invokevirtual idx, 3)) (w1 : Cond.methodLink K.1.cls idx K2.1 ∈ lw_all) (w2 : Cond.sameMethod K2.1.cls K2.1.cls K2.1.name K2.1.desc ∈ lw_all) (wp : Cond.privateMethod K2.1 ∈ lw_tbl) (wi : Cond.instantiable C0 M ∈ lw_all) (w4 : Cond.instanceMethod K2.1 ∈ lw_all) (w5 : Cond.initialized K2.1.cls ∈ lw_all) (w6 : Cond.code K2.1 K2.2.1 K2.2.2.1 K2.2.2.2.1 ∈ lw_all) (hcl : K2.1.cls ≠ "java/lang/invoke/MethodHandle" ∧ K2.1.cls ≠ "java/lang/invoke/VarHandle" ∧ (parseMethodDescriptor K2.1.desc).map (fun d => d.parameters.length) = some As.length) (hT : clT[ci]? = some (C0, T, N)) (hg : h.2 b = some (hob ci fs)) (hC : Con G K2 (.ref b :: As) h P2) (hst : st = As.reverse ++ .ref b :: rest) (hcat : (rest.map fun v => v.category).sum ≤ 8) (hroom : P2.1.1 + 1 ≤ P.1.1 ∧ 8 + (K2.2.2.1 + 11) + P2.1.2.1 ≤ P.1.2.1) (hc : ce + P2.1.2.2.1 ≤ P.1.2.2.1 ∧ sl + P2.1.2.2.2 ≤ P.1.2.2.2) (kx : ∀ (ci q : Nat) (h' : hH), P2.2.2 ci q h' → AX G K P pc lv rest h' (ce + P2.1.2.2.1) (sl + P2.1.2.2.2) ci q) (hn : pc + 3 = n) (kk : ∀ (r : Option Value) (h' : hH), P2.2.1 r h' → AW G K P n lv (r.toList ++ rest) h' (ce + P2.1.2.2.1) (sl + P2.1.2.2.2)) : AW G K P pc lv st h ce sl := by
  subst hn; subst hst
  refine aw_run (len := 3) (fun p l e s m args below meth c C H locs ls hR hl => ⟨(Value.ref b :: As).toArray, ?_⟩) kx kk
  have hse : (Cond.selects C0 K2.1 K2.1).before args s = true := by
    obtain ⟨b9, hb9⟩ := C.gd.2.1
    exact word_at C.wm (Or.inl rfl) (sel_up ⟨hcl.1, hcl.2.1⟩ (hb9 _ (lw_all_tbl wi)) (hb9 _ (lw_all_tbl w2)) (hb9 _ wp) (hb9 _ (lw_all_tbl w4)))
  exact vx_runU ⟨C.1, C.2.1, C.2.2.1, C.own, C.ts⟩ (hC C.gd l C.ns) (owner := K2.1.cls) ⟨⟨rfl, rfl, hroom.1, hroom.2, pay_in C.ts (lw_meth w6), List.mem_cons_self⟩, C.ts _ w6, C.ts _ w5, ⟨hcl.1, hcl.2.1⟩, fun sig hsig => by have h2 := hcl.2.2; rw [hsig] at h2; exact (Option.some.inj h2).symm, C.ts _ w1, C.ts _ w2, decl_of C (Or.inr ⟨w4, _, _, _, w6⟩), hse, C.ts _ w4⟩ ⟨cPc_blind, recv_at C hR hT hg, cPc_at C hR _⟩ rfl rfl hl.1 rfl (lv_room hcat) hd hc
end
