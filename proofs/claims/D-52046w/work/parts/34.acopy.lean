/-! System.arraycopy of arrays of plain numbers: the row. -/
section
set_option maxRecDepth 100000
section WCopy
variable {p : Program} {l : Launch} {e : Env} {R : Room} {s : State} {m : MethodId} {args : Array Value} {below : List Frame} {meth : Method} {c : Code} {H : Heap} {locs : List Loc} {cells slots : Nat} {Q : State → Prop}
theorem fw_acopy {cc : ByteArray} (hexec : p.tables.exec = Jvm.exec) (hb : c.code = cc) {own : String} {idx : Nat} (hown : s.vm.findClass own = some m.cls) (hlink : (Cond.methodLink own idx arraycopyName).before args s = true) (hnat : (Cond.native arraycopyName).before args s = true) (hstat : (Cond.static arraycopyName).before args s = true) (hinit : (Cond.initialized "java/lang/System").before args s = true)
    {src dst sp dp n : Nat} {cs cd : Cell} {ty : FieldType} (hs : H[src]? = some cs) (hd : H[dst]? = some cd) (has : s.isArrayOf cs ty) (had : s.isArrayOf cd ty) (hsu : cs.vm ≠ .unknown) (hdu : cd.vm ≠ .unknown) (hty : refKind ty = false) (h1 : sp + n ≤ cs.slots.size) (h2 : dp + n ≤ cd.slots.size) (h3 : cs.slots.size < 2 ^ 31) (h4 : cd.slots.size < 2 ^ 31) (hv : ∀ i, i < n → fits ty (cs.slots.getD (sp + i) .null) = true)
    {pc : Nat} {ls : Array Slot} {rest : List Value} (hdg : decode cc pc = .ok (.invokestatic idx, 3)) (hsize : ls.size = c.maxLocals) (hf : 1 ≤ R.frames) (hl : (rest.map fun v => v.category).sum + (nativeFrameWords "java/lang/System" "arraycopy" 5 + 11) ≤ R.locals)
    (k : ∀ H' : Heap, H'[dst]? = some (cd.storeRun dp (cs.stretch sp n)) → H'.size = H.size → (∀ q : Nat, q ≠ dst → H'[q]? = H[q]?) → W p l e R s m args below meth c H' (locs ++ (cs.stretch sp n).zipIdx.map fun q => ⟨dst, dp + q.2⟩) cells slots Q (F0 m (pc + 3) ls rest)) :
    W p l e R s m args below meth c H locs cells slots Q (F0 m pc ls (.int (nI n) :: .int (nI dp) :: .ref dst :: .int (nI sp) :: .ref src :: rest)) := by
  intro T hT X
  obtain ⟨a1, ks, hks, sC, hsk⟩ := has
  obtain ⟨a2, kd, hkd, dC, hdk⟩ := had
  have e1 : (nI sp).toNatClampNeg = sp := nI_clamp (by omega)
  have e2 : (nI dp).toNatClampNeg = dp := nI_clamp (by omega)
  have e3 : (nI n).toNatClampNeg = n := nI_clamp (by omega)
  have hd' : T.heap[dst]? = some cd := by rw [hT]; exact hd
  obtain ⟨vm', X', st⟩ := X.arraycopy hexec hown hlink hnat hstat hinit (srcPos := nI sp) (destPos := nI dp) (n := nI n) (by rw [hT]; exact hs) hd' a1 a2 hsu hdu hks hkd hsk hdk (by rw [hty]; simp) (nI_pos (by omega)) (nI_pos (by omega)) (nI_pos (by omega))
    (by rw [nI_toInt (by omega), nI_toInt (by omega)]; omega) (by rw [nI_toInt (by omega), nI_toInt (by omega)]; omega)
    (fun vm' _ i hi => by rw [e1] at *; rw [e3] at hi; exact ⟨hv i hi, State.takes_of_prim _ _ hty (hv i hi)⟩)
    (g := F0 m pc ls (.int (nI n) :: .int (nI dp) :: .ref dst :: .int (nI sp) :: .ref src :: rest)) rfl hsize rfl (by rw [hb]; exact hdg) hf (by show 2 * 0 + _ + _ ≤ _; omega)
  have hc : Jvm.copied cs cd (nI sp) (nI dp) (nI n) = cd.storeRun dp (cs.stretch sp n) := by
    show cd.storeRun (nI dp).toNatClampNeg (cs.stretch (nI sp).toNatClampNeg (nI n).toNatClampNeg) = _
    rw [e1, e2, e3]
  rw [hc] at X' st
  rw [e1, e2, e3] at X'
  have hlt : dst < (T.setVm vm').heap.size := (Array.getElem?_eq_some_iff.mp hd').1
  obtain ⟨t, a, b⟩ := k _ (heapAt_setCell_self _ hlt) (by rw [size_setCell]; show T.heap.size = _; rw [hT]) (fun q hq => by rw [heapAt_setCell_ne _ (Ne.symm hq)]; show T.heap[q]? = _; rw [hT]) ((T.setVm vm').setCell dst (cd.storeRun dp (cs.stretch sp n))) rfl X'
  exact ⟨t, st t a, b⟩
end WCopy
/-- c0 places of f, from sp on, laid over g from dp on -/
def cpF (f g : Nat → Value) (sp dp c0 : Nat) : Nat → Value := fun j => if dp ≤ j ∧ j < dp + c0 then f (sp + (j - dp)) else g j
variable {G : aG} {K : aK} {P : aP} {pc n : Nat} {lv : List (Nat × Value)} {rest : List Value} {h : hH} {ce sl : Nat}
theorem aw_acopy {idx src dst sp dp c0 ti N1 N2 : Nat} {f g : Nat → Value} {ty : FieldType} (hd : decode K.2.1 pc = .ok (.invokestatic idx, 3)) (w1 : Cond.methodLink K.1.cls idx arraycopyName ∈ lw_all) (w2 : Cond.native arraycopyName ∈ lw_all) (w3 : Cond.static arraycopyName ∈ lw_all) (w4 : Cond.initialized "java/lang/System" ∈ lw_all) (ht : arT[ti]? = some ty) (hp : refKind ty = false)
    (hs : h.2 src = some (har ti N1 f)) (hg : h.2 dst = some (har ti N2 g)) (hb : gB G ≤ dst) (b1 : sp + c0 ≤ N1) (b2 : dp + c0 ≤ N2) (h1 : N1 < 2 ^ 31) (h2 : N2 < 2 ^ 31) (hfit : ∀ j, j < N1 → fits ty (f j) = true) (hcat : (rest.map fun v => v.category).sum ≤ 8) (hroom : 1 ≤ P.1.1 ∧ 8 + (nativeFrameWords "java/lang/System" "arraycopy" 5 + 11) ≤ P.1.2.1) (hn : pc + 3 = n) (k : AW G K P n lv rest (hset h dst (har ti N2 (cpF f g sp dp c0))) ce sl) :
    AW G K P pc lv (.int (nI c0) :: .int (nI dp) :: .ref dst :: .int (nI sp) :: .ref src :: rest) h ce sl := by
  intro p l e s m args below meth c C H locs ls hR hl hf
  subst hn
  obtain ⟨ty1, cs, g1, g2, g3, g4, g5, g6, g7, g8⟩ := hR.2.2.1 src _ hs
  obtain ⟨ty2, cd, k1, k2, k3, k4, k5, k6, k7, k8⟩ := hR.2.2.1 dst _ hg
  dsimp only at g1 g3 g7 g8 k1 k3 k7 k8
  cases g1.symm.trans ht
  cases k1.symm.trans ht
  have hA := isArr (C.k.2 ti _ ht).1 g3 g5
  have hB := isArr (C.k.2 ti _ ht).1 k3 k5
  have hget : ∀ j, j < N1 → cs.slots.getD j .null = f j := fun j hj => by
    rw [Array.getD_eq_getD_getElem?, g8 j hj]; rfl
  refine fw_acopy C.1 C.2.1 C.own (C.ts _ w1) (C.ts _ w2) (C.ts _ w3) (C.ts _ w4) g2 k2 hA hB g4 k4 hp (by omega) (by omega) (by omega) (by omega) (fun i hi => by rw [hget _ (by omega)]; exact hfit _ (by omega)) hd (hl.1.trans C.2.2.1.symm) hroom.1 (Nat.le_trans (by omega) hroom.2) fun H' e1 e2 e3 => ?_
  obtain ⟨f1, f2, f3, -, -⟩ := cd.storeRun_facts dp (cs.stretch sp c0)
  refine k p l e s m args below meth c C H' _ ls (hR.set hb ⟨_, _, ht, e1, f1.trans k3, by rw [f2]; exact k4, by rw [f2]; exact k5, by rw [f2]; exact k6, f3.trans k7, fun i hi => ?_⟩ e2 e3) hl (fun q hq => ?_)
  · rw [Cell.storeRun_get _ _ _ _ (by rw [Cell.stretch_length]; omega), Cell.stretch_length]
    simp only [cpF]
    by_cases hi2 : dp ≤ i ∧ i < dp + c0
    · rw [if_pos hi2, if_pos hi2]
      simp only [Cell.stretch, List.getElem?_map]
      rw [List.getElem?_range (by omega)]
      simp only [Option.map_some]
      rw [hget _ (by omega)]
    · rw [if_neg hi2, if_neg hi2]
      exact k8 i hi
  · rcases List.mem_append.mp hq with z | z
    · exact hf q z
    · obtain ⟨x, _, rfl⟩ := List.mem_map.mp z
      exact hb
end
