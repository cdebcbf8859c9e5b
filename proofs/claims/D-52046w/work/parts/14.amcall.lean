/-! AW: calls, ends, handlers; a contract out of a walk. -/
section
set_option maxRecDepth 100000
def ncast (a b : String) : Prop := (a, b) ∈ ncT
theorem ncast_at {G : aG} {K : aK} {p : Program} {l : Launch} {s : State} {m : MethodId} {args : Array Value} {meth : Method} {c : Code} (C : aCx G K p l s m args meth c) {a b : String} (h : ncast a b) : va_Nc a b s := va_Nc.moved C.wm.alike (C.gd.2.2.2.2.2.2.1 (a, b) h)
theorem cPc_blind {G : aG} {as : List Value} {h : hH} : FrameBlind (cPc G as h) := fun _ _ _ _ q => q
theorem cPc_at {G : aG} {K : aK} {p : Program} {l : Launch} {s : State} {m : MethodId} {args : Array Value} {meth : Method} {c : Code} (C : aCx G K p l s m args meth c) {h : hH} {H : Heap} (hR : hRep G h H) (as : List Value) : ∀ U : State, U.heap = H → s.WarmedH U.vm → cPc G as h as.toArray U := fun U hU hW => ⟨rfl, by rw [hU]; exact hR, State.WarmedH.trans C.wm hW⟩
theorem recv_at {G : aG} {K : aK} {p : Program} {l : Launch} {s : State} {m : MethodId} {args : Array Value} {meth : Method} {c : Code} (C : aCx G K p l s m args meth c) {h : hH} {H : Heap} (hR : hRep G h H) {b ci : Nat} {fs : List Value} {C0 : String} {T : u_T} {N : Nat} (hT : clT[ci]? = some (C0, T, N)) (hg : h.2 b = some (hob ci fs)) : ∃ cell : Cell, H[b]? = some cell ∧ cell.vm.isStatics = false ∧ s.vm.findClass C0 = some cell.cls := by
  obtain ⟨r, cell, g1, g2, g3, g4, g5, g6, g7⟩ := hR.2.2.1 b _ hg
  dsimp only at g1 g3
  exact ⟨cell, g2, g5, by rw [g3]; exact (C.k.1 ci _ hT).2.1⟩
variable {G : aG} {K : aK} {P P2 : aP} {pc n : Nat} {lv lv' : List (Nat × Value)} {st rest As : List Value} {h h' : hH} {ce sl : Nat}
theorem aw_run {len : Nat} (hrun : ∀ (p : Program) (l : Launch) (e : Env) (s : State) (m : MethodId) (args : Array Value) (below : List Frame) (meth : Method) (c : Code), aCx G K p l s m args meth c → ∀ (H : Heap) (locs : List Loc) (ls : Array Slot), hRep G h H → lv_has ls K.2.2.1 lv → ∃ a2 : Array Value,
    ∀ T : State, T.heap = H → Stand p l e (aR P) s m args below meth c T locs ce sl →
    (∃ (v : Option Value) (st₀ t T' : State) (L : List Loc), st₀.heap = H ∧ Stand p l e (aR P) s m args below meth c T' (locs ++ L) (ce + P2.1.2.2.1) (sl + P2.1.2.2.2) ∧ (∀ q ∈ L, fB G q.base) ∧ T'.heap = t.heap ∧ T'.vm = t.vm ∧ cQ G P2.2.1 a2 st₀ (.returned v) t ∧
      Goes p e below T (F0 m pc ls st) T' { (F0 m pc ls st) with pc := pc + len, stack := v.toList ++ rest }) ∨
    (∃ (q : Addr) (st₀ t T' : State) (L : List Loc) (E : String) (ce9 : Cell), st₀.heap = H ∧ Stand p l e (aR P) s m args below meth c T' (locs ++ L) (ce + P2.1.2.2.1) (sl + P2.1.2.2.2) ∧ (∀ z ∈ L, fB G z.base) ∧ T'.heap = t.heap ∧ T'.vm = t.vm ∧ cX G P2.2.2 E q st₀ t ∧ t.heap[q]? = some ce9 ∧ ce9.vm = .none ∧ s.vm.findClass E = some ce9.cls ∧
      Steps p.tables e below (T.setTop (F0 m pc ls st)) ((T'.setTop { (F0 m pc ls st) with stack := rest }).pushFrame (.throwing q))))
    (kx : ∀ (ci q : Nat) (h' : hH), P2.2.2 ci q h' → AX G K P pc lv rest h' (ce + P2.1.2.2.1) (sl + P2.1.2.2.2) ci q)
    (kk : ∀ (r : Option Value) (h' : hH), P2.2.1 r h' → AW G K P (pc + len) lv (r.toList ++ rest) h' (ce + P2.1.2.2.1) (sl + P2.1.2.2.2)) : AW G K P pc lv st h ce sl := by
  intro p l e s m args below meth c C H locs ls hR hl hf T hT X
  obtain ⟨a2, hrun⟩ := hrun p l e s m args below meth c C H locs ls hR hl
  have hf' : ∀ L : List Loc, (∀ q ∈ L, fB G q.base) → ∀ q ∈ locs ++ L, gB G ≤ q.base := fun L hL q hq => by
    rcases List.mem_append.mp hq with h1 | h1
    · exact hf q h1
    · exact hL q h1
  rcases hrun T hT X with ⟨v, st₀, t, T', L, h0, X', hL, e1, e2, ⟨r, h', hr, hQ, hR'⟩, stp⟩ | ⟨q, st₀, t, T', L, E, ce9, h0, X', hL, e1, e2, ⟨ci, r, h', hr1, hr2, hX, hR'⟩, hce, hcv, hcl, stp⟩
  · cases hr
    rw [← e1] at hR'
    obtain ⟨t2, a1, b1⟩ := kk v h' hQ p l e s m args below meth c C T'.heap (locs ++ L) ls hR' hl (hf' L hL) T' rfl X'
    exact ⟨t2, stp t2 a1, b1⟩
  · rw [← e1] at hR' hce
    subst hr2
    obtain ⟨t2, a1, b1⟩ := kx ci q h' hX p l e s m args below meth c C T'.heap (locs ++ L) ls r ce9 hR' hl (hf' L hL) hr1 hce hcv hcl T' rfl X'
    exact ⟨t2, stp.trans a1, b1⟩

theorem aw_callS {K2 : aK} {idx : Nat} (hd : decode K.2.1 pc = .ok (.invokestatic idx, 3)) (w1 : Cond.methodLink K.1.cls idx K2.1 ∈ lw_all) (w2 : Cond.static K2.1 ∈ lw_all) (w3 : Cond.initialized K2.1.cls ∈ lw_all) (w4 : Cond.code K2.1 K2.2.1 K2.2.2.1 K2.2.2.2.1 ∈ lw_all) (hcl : K2.1.cls ≠ "java/lang/invoke/MethodHandle" ∧ K2.1.cls ≠ "java/lang/invoke/VarHandle" ∧ (parseMethodDescriptor K2.1.desc).map (fun d => d.parameters.length) = some As.length) (hC : Con G K2 As h P2) (hst : st = As.reverse ++ rest) (hcat : (rest.map fun v => v.category).sum ≤ 8) (hroom : P2.1.1 + 1 ≤ P.1.1 ∧ 8 + (K2.2.2.1 + 11) + P2.1.2.1 ≤ P.1.2.1) (hc : ce + P2.1.2.2.1 ≤ P.1.2.2.1 ∧ sl + P2.1.2.2.2 ≤ P.1.2.2.2) (kx : ∀ (ci q : Nat) (h' : hH), P2.2.2 ci q h' → AX G K P pc lv rest h' (ce + P2.1.2.2.1) (sl + P2.1.2.2.2) ci q) (hn : pc + 3 = n) (kk : ∀ (r : Option Value) (h' : hH), P2.2.1 r h' → AW G K P n lv (r.toList ++ rest) h' (ce + P2.1.2.2.1) (sl + P2.1.2.2.2)) : AW G K P pc lv st h ce sl := by
  subst hn; subst hst
  refine aw_run (len := 3) (fun p l e s m args below meth c C H locs ls hR hl => ⟨As.toArray, ?_⟩) kx kk
  exact vx_runS ⟨C.1, C.2.1, C.2.2.1, C.own, C.ts⟩ (hC C.gd l C.ns) (va_cwS As.length C.ts (lw_S w1 w2 w3 w4) rfl rfl rfl hcl hroom) ⟨cPc_blind, cPc_at C hR _⟩ rfl rfl hl.1 rfl (lv_room hcat) hd hc

theorem aw_callV {K2 : aK} {idx b : Nat} {ci N : Nat} {fs : List Value} {C0 : String} {T : u_T} (hd : decode K.2.1 pc = .ok (.invokevirtual idx, 3)) (w1 : Cond.methodLink K.1.cls idx K2.1 ∈ lw_all) (w2 : Cond.instanceMethod K2.1 ∈ lw_all) (w3 : Cond.selects C0 K2.1 K2.1 ∈ lw_all) (w4 : Cond.initialized C0 ∈ lw_all) (w5 : Cond.code K2.1 K2.2.1 K2.2.2.1 K2.2.2.2.1 ∈ lw_all) (hcl : K2.1.cls = C0 ∧ K2.1.cls ≠ "java/lang/invoke/MethodHandle" ∧ K2.1.cls ≠ "java/lang/invoke/VarHandle" ∧ (parseMethodDescriptor K2.1.desc).map (fun d => d.parameters.length) = some As.length) (hT : clT[ci]? = some (C0, T, N)) (hg : h.2 b = some (hob ci fs)) (hC : Con G K2 (.ref b :: As) h P2) (hst : st = As.reverse ++ .ref b :: rest) (hcat : (rest.map fun v => v.category).sum ≤ 8) (hroom : P2.1.1 + 1 ≤ P.1.1 ∧ 8 + (K2.2.2.1 + 11) + P2.1.2.1 ≤ P.1.2.1) (hc : ce + P2.1.2.2.1 ≤ P.1.2.2.1 ∧ sl + P2.1.2.2.2 ≤ P.1.2.2.2) (kx : ∀ (ci q : Nat) (h' : hH), P2.2.2 ci q h' → AX G K P pc lv rest h' (ce + P2.1.2.2.1) (sl + P2.1.2.2.2) ci q) (hn : pc + 3 = n) (kk : ∀ (r : Option Value) (h' : hH), P2.2.1 r h' → AW G K P n lv (r.toList ++ rest) h' (ce + P2.1.2.2.1) (sl + P2.1.2.2.2)) : AW G K P pc lv st h ce sl := by
  subst hn; subst hst
  refine aw_run (len := 3) (fun p l e s m args below meth c C H locs ls hR hl => ⟨(Value.ref b :: As).toArray, ?_⟩) kx kk
  exact vx_runV ⟨C.1, C.2.1, C.2.2.1, C.own, C.ts⟩ (hC C.gd l C.ns) (cwV As.length C.ts (lw_V w1 w2 w3 w4 w5) rfl rfl rfl hcl hroom) ⟨cPc_blind, recv_at C hR hT hg, cPc_at C hR _⟩ rfl rfl hl.1 rfl (lv_room hcat) hd hc

theorem aw_callSW {K2 : aK} {idx : Nat} (hd : decode K.2.1 pc = .ok (.invokestatic idx, 3)) (w1 : Cond.methodLink K.1.cls idx K2.1 ∈ lw_all) (w2 : Cond.static K2.1 ∈ lw_all) (w3 : Cond.initialized K2.1.cls ∈ lw_all) (w4 : Cond.codeWith K2.1 K2.2.1 K2.2.2.1 K2.2.2.2.1 K2.2.2.2.2 ∈ lw_all) (hcl : K2.1.cls ≠ "java/lang/invoke/MethodHandle" ∧ K2.1.cls ≠ "java/lang/invoke/VarHandle" ∧ (parseMethodDescriptor K2.1.desc).map (fun d => d.parameters.length) = some As.length) (hC : ConW G K2 As h P2) (hst : st = As.reverse ++ rest) (hcat : (rest.map fun v => v.category).sum ≤ 8) (hroom : P2.1.1 + 1 ≤ P.1.1 ∧ 8 + (K2.2.2.1 + 11) + P2.1.2.1 ≤ P.1.2.1) (hc : ce + P2.1.2.2.1 ≤ P.1.2.2.1 ∧ sl + P2.1.2.2.2 ≤ P.1.2.2.2) (kx : ∀ (ci q : Nat) (h' : hH), P2.2.2 ci q h' → AX G K P pc lv rest h' (ce + P2.1.2.2.1) (sl + P2.1.2.2.2) ci q) (hn : pc + 3 = n) (kk : ∀ (r : Option Value) (h' : hH), P2.2.1 r h' → AW G K P n lv (r.toList ++ rest) h' (ce + P2.1.2.2.1) (sl + P2.1.2.2.2)) : AW G K P pc lv st h ce sl := by
  subst hn; subst hst
  refine aw_run (len := 3) (fun p l e s m args below meth c C H locs ls hR hl => ⟨As.toArray, ?_⟩) kx kk
  exact vx_runSX ⟨C.1, C.2.1, C.2.2.1, C.own, C.ts⟩ (hC C.gd l C.ns) (vx_cwSW As.length C.ts (lw_SW w1 w2 w3 w4) rfl rfl rfl hcl hroom) ⟨cPc_blind, cPc_at C hR _⟩ rfl rfl hl.1 rfl (lv_room hcat) hd hc

theorem aw_callVW {K2 : aK} {idx b : Nat} {ci N : Nat} {fs : List Value} {C0 : String} {T : u_T} (hd : decode K.2.1 pc = .ok (.invokevirtual idx, 3)) (w1 : Cond.methodLink K.1.cls idx K2.1 ∈ lw_all) (w2 : Cond.instanceMethod K2.1 ∈ lw_all) (w3 : Cond.selects C0 K2.1 K2.1 ∈ lw_all) (w4 : Cond.initialized C0 ∈ lw_all) (w5 : Cond.codeWith K2.1 K2.2.1 K2.2.2.1 K2.2.2.2.1 K2.2.2.2.2 ∈ lw_all) (hcl : K2.1.cls = C0 ∧ K2.1.cls ≠ "java/lang/invoke/MethodHandle" ∧ K2.1.cls ≠ "java/lang/invoke/VarHandle" ∧ (parseMethodDescriptor K2.1.desc).map (fun d => d.parameters.length) = some As.length) (hT : clT[ci]? = some (C0, T, N)) (hg : h.2 b = some (hob ci fs)) (hC : ConW G K2 (.ref b :: As) h P2) (hst : st = As.reverse ++ .ref b :: rest) (hcat : (rest.map fun v => v.category).sum ≤ 8) (hroom : P2.1.1 + 1 ≤ P.1.1 ∧ 8 + (K2.2.2.1 + 11) + P2.1.2.1 ≤ P.1.2.1) (hc : ce + P2.1.2.2.1 ≤ P.1.2.2.1 ∧ sl + P2.1.2.2.2 ≤ P.1.2.2.2) (kx : ∀ (ci q : Nat) (h' : hH), P2.2.2 ci q h' → AX G K P pc lv rest h' (ce + P2.1.2.2.1) (sl + P2.1.2.2.2) ci q) (hn : pc + 3 = n) (kk : ∀ (r : Option Value) (h' : hH), P2.2.1 r h' → AW G K P n lv (r.toList ++ rest) h' (ce + P2.1.2.2.1) (sl + P2.1.2.2.2)) : AW G K P pc lv st h ce sl := by
  subst hn; subst hst
  refine aw_run (len := 3) (fun p l e s m args below meth c C H locs ls hR hl => ⟨(Value.ref b :: As).toArray, ?_⟩) kx kk
  exact vx_runVX ⟨C.1, C.2.1, C.2.2.1, C.own, C.ts⟩ (hC C.gd l C.ns) (vx_cwVW As.length C.ts (lw_VW w1 w2 w3 w4 w5) rfl rfl rfl hcl hroom) ⟨cPc_blind, recv_at C hR hT hg, cPc_at C hR _⟩ rfl rfl hl.1 rfl (lv_room hcat) hd hc

theorem aw_callI {K2 : aK} {idx b : Nat} (hd : decode K.2.1 pc = .ok (.invokespecial idx, 3)) (w1 : Cond.methodLink K.1.cls idx K2.1 ∈ lw_all) (w2 : Cond.instanceMethod K2.1 ∈ lw_all) (w3 : Cond.initialized K2.1.cls ∈ lw_all) (w4 : Cond.code K2.1 K2.2.1 K2.2.2.1 K2.2.2.2.1 ∈ lw_all) (hr : K2.2.2.2.1 = none) (hy : K2.1.name = "<init>") (hcl : K2.1.cls ≠ "java/lang/invoke/MethodHandle" ∧ K2.1.cls ≠ "java/lang/invoke/VarHandle" ∧ (parseMethodDescriptor K2.1.desc).map (fun d => d.parameters.length) = some As.length) (hC : Con G K2 (.ref b :: As) h P2) (hst : st = As.reverse ++ .ref b :: rest) (hcat : (rest.map fun v => v.category).sum ≤ 8) (hroom : P2.1.1 + 1 ≤ P.1.1 ∧ 8 + (K2.2.2.1 + 11) + P2.1.2.1 ≤ P.1.2.1) (hc : ce + P2.1.2.2.1 ≤ P.1.2.2.1 ∧ sl + P2.1.2.2.2 ≤ P.1.2.2.2) (kx : ∀ (ci q : Nat) (h' : hH), P2.2.2 ci q h' → AX G K P pc lv rest h' (ce + P2.1.2.2.1) (sl + P2.1.2.2.2) ci q) (hn : pc + 3 = n) (kk : ∀ (r : Option Value) (h' : hH), P2.2.1 r h' → AW G K P n lv (r.toList ++ rest) h' (ce + P2.1.2.2.1) (sl + P2.1.2.2.2)) : AW G K P pc lv st h ce sl := by
  subst hn; subst hst
  refine aw_run (len := 3) (fun p l e s m args below meth c C H locs ls hR hl => ⟨(Value.ref b :: As).toArray, ?_⟩) kx kk
  have hM := hC C.gd l C.ns
  rw [hr] at hM w4
  exact vx_runI ⟨C.1, C.2.1, C.2.2.1, C.own, C.ts⟩ hM (cwI As.length C.ts (lw_meth w4) rfl rfl rfl (C.ts _ w3) (C.ts _ w1) (C.ts _ w2) hy hcl hroom) ⟨cPc_blind, cPc_at C hR _⟩ rfl rfl hl.1 rfl (lv_room hcat) hd hc

theorem aw_callIN {K2 : aK} {idx b : Nat} {host : String} (hd : decode K.2.1 pc = .ok (.invokespecial idx, 3)) (w1 : Cond.methodLinkNest K.1.cls idx K2.1 host ∈ lw_tbl) (w2 : Cond.instanceMethod K2.1 ∈ lw_all) (w3 : Cond.initialized K2.1.cls ∈ lw_all) (w4 : Cond.code K2.1 K2.2.1 K2.2.2.1 K2.2.2.2.1 ∈ lw_all) (hr : K2.2.2.2.1 = none) (hy : K2.1.name = "<init>") (hcl : K2.1.cls ≠ "java/lang/invoke/MethodHandle" ∧ K2.1.cls ≠ "java/lang/invoke/VarHandle" ∧ (parseMethodDescriptor K2.1.desc).map (fun d => d.parameters.length) = some As.length) (hC : Con G K2 (.ref b :: As) h P2) (hst : st = As.reverse ++ .ref b :: rest) (hcat : (rest.map fun v => v.category).sum ≤ 8) (hroom : P2.1.1 + 1 ≤ P.1.1 ∧ 8 + (K2.2.2.1 + 11) + P2.1.2.1 ≤ P.1.2.1) (hc : ce + P2.1.2.2.1 ≤ P.1.2.2.1 ∧ sl + P2.1.2.2.2 ≤ P.1.2.2.2) (kx : ∀ (ci q : Nat) (h' : hH), P2.2.2 ci q h' → AX G K P pc lv rest h' (ce + P2.1.2.2.1) (sl + P2.1.2.2.2) ci q) (hn : pc + 3 = n) (kk : ∀ (r : Option Value) (h' : hH), P2.2.1 r h' → AW G K P n lv (r.toList ++ rest) h' (ce + P2.1.2.2.1) (sl + P2.1.2.2.2)) : AW G K P pc lv st h ce sl := by
  subst hn; subst hst
  refine aw_run (len := 3) (fun p l e s m args below meth c C H locs ls hR hl => ⟨(Value.ref b :: As).toArray, ?_⟩) kx kk
  have hnl : va_Nw (.methodLinkNest K.1.cls idx K2.1 host) s := va_Nw.warmM C.wm (by obtain ⟨b9, hb9⟩ := C.gd.2.1; exact va_Nw.of rfl (hb9 _ w1))
  have hM := hC C.gd l C.ns
  rw [hr] at hM w4
  exact vx_runIN ⟨C.1, C.2.1, C.2.2.1, C.own, C.ts⟩ hM ⟨va_cnB As.length C.ts (lw_meth w4) rfl rfl rfl hnl (C.ts _ w3) hcl hroom, hy, C.ts _ w2⟩ ⟨cPc_blind, cPc_at C hR _⟩ rfl rfl hl.1 rfl (lv_room hcat) hd hc

theorem aw_callSN {K2 : aK} {idx : Nat} {host : String} (hd : decode K.2.1 pc = .ok (.invokestatic idx, 3)) (w1 : Cond.methodLinkNest K.1.cls idx K2.1 host ∈ lw_tbl) (w2 : Cond.static K2.1 ∈ lw_all) (w3 : Cond.initialized K2.1.cls ∈ lw_all) (w4 : Cond.code K2.1 K2.2.1 K2.2.2.1 K2.2.2.2.1 ∈ lw_all) (hcl : K2.1.cls ≠ "java/lang/invoke/MethodHandle" ∧ K2.1.cls ≠ "java/lang/invoke/VarHandle" ∧ (parseMethodDescriptor K2.1.desc).map (fun d => d.parameters.length) = some As.length) (hC : Con G K2 As h P2) (hst : st = As.reverse ++ rest) (hcat : (rest.map fun v => v.category).sum ≤ 8) (hroom : P2.1.1 + 1 ≤ P.1.1 ∧ 8 + (K2.2.2.1 + 11) + P2.1.2.1 ≤ P.1.2.1) (hc : ce + P2.1.2.2.1 ≤ P.1.2.2.1 ∧ sl + P2.1.2.2.2 ≤ P.1.2.2.2) (kx : ∀ (ci q : Nat) (h' : hH), P2.2.2 ci q h' → AX G K P pc lv rest h' (ce + P2.1.2.2.1) (sl + P2.1.2.2.2) ci q) (hn : pc + 3 = n) (kk : ∀ (r : Option Value) (h' : hH), P2.2.1 r h' → AW G K P n lv (r.toList ++ rest) h' (ce + P2.1.2.2.1) (sl + P2.1.2.2.2)) : AW G K P pc lv st h ce sl := by
  subst hn; subst hst
  refine aw_run (len := 3) (fun p l e s m args below meth c C H locs ls hR hl => ⟨As.toArray, ?_⟩) kx kk
  have hnl : va_Nw (.methodLinkNest K.1.cls idx K2.1 host) s := va_Nw.warmM C.wm (by obtain ⟨b9, hb9⟩ := C.gd.2.1; exact va_Nw.of rfl (hb9 _ w1))
  exact vx_runSN ⟨C.1, C.2.1, C.2.2.1, C.own, C.ts⟩ (hC C.gd l C.ns) ⟨va_cnB As.length C.ts (lw_meth w4) rfl rfl rfl hnl (C.ts _ w3) hcl hroom, C.ts _ w2, trivial⟩ ⟨cPc_blind, cPc_at C hR _⟩ rfl rfl hl.1 rfl (lv_room hcat) hd hc

theorem decl_of {G : aG} {K : aK} {p : Program} {l : Launch} {s : State} {m : MethodId} {args : Array Value} {meth : Method} {c : Code} (C : aCx G K p l s m args meth c) {x : MethodName} (hD : Cond.declares x ∈ lw_tbl ∨ (Cond.instanceMethod x ∈ lw_all ∧ ∃ (b : ByteArray) (L : Nat) (r : Option FieldType), Cond.code x b L r ∈ lw_all)) : va_Decl s x := by
  rcases hD with h1 | ⟨h1, b, L, r, h2⟩
  · have h3 : va_Nw (.declares x) s := va_Nw.warmD C.wm (by obtain ⟨b9, hb9⟩ := C.gd.2.1; exact va_Nw.of rfl (hb9 _ h1))
    obtain ⟨r0, r, q1, q2, q3, q4⟩ := Cond.declares_spec h3
    exact ⟨r0, r, q1, q2, q3, q4⟩
  · exact va_Decl.of (C.ts _ h1) (C.ts _ h2)

theorem aw_callU {K2 : aK} {idx b : Nat} {x : MethodName} (owner : String) {ci N : Nat} {fs : List Value} {C0 : String} {T : u_T} (hd : decode K.2.1 pc = .ok (.invokevirtual idx, 3)) (w1 : Cond.methodLink K.1.cls idx x ∈ lw_all) (w2 : Cond.sameMethod x.cls owner x.name x.desc ∈ lw_all) (hD : Cond.declares ⟨owner, x.name, x.desc⟩ ∈ lw_tbl ∨ (Cond.instanceMethod ⟨owner, x.name, x.desc⟩ ∈ lw_all ∧ ∃ (b : ByteArray) (L : Nat) (r : Option FieldType), Cond.code ⟨owner, x.name, x.desc⟩ b L r ∈ lw_all)) (w3 : Cond.selects C0 x K2.1 ∈ lw_all) (w4 : Cond.instanceMethod K2.1 ∈ lw_all) (w5 : Cond.initialized K2.1.cls ∈ lw_all) (w6 : Cond.code K2.1 K2.2.1 K2.2.2.1 K2.2.2.2.1 ∈ lw_all) (hcl : owner ≠ "java/lang/invoke/MethodHandle" ∧ owner ≠ "java/lang/invoke/VarHandle" ∧ (parseMethodDescriptor x.desc).map (fun d => d.parameters.length) = some As.length) (hT : clT[ci]? = some (C0, T, N)) (hg : h.2 b = some (hob ci fs)) (hC : Con G K2 (.ref b :: As) h P2) (hst : st = As.reverse ++ .ref b :: rest) (hcat : (rest.map fun v => v.category).sum ≤ 8) (hroom : P2.1.1 + 1 ≤ P.1.1 ∧ 8 + (K2.2.2.1 + 11) + P2.1.2.1 ≤ P.1.2.1) (hc : ce + P2.1.2.2.1 ≤ P.1.2.2.1 ∧ sl + P2.1.2.2.2 ≤ P.1.2.2.2) (kx : ∀ (ci q : Nat) (h' : hH), P2.2.2 ci q h' → AX G K P pc lv rest h' (ce + P2.1.2.2.1) (sl + P2.1.2.2.2) ci q) (hn : pc + 3 = n) (kk : ∀ (r : Option Value) (h' : hH), P2.2.1 r h' → AW G K P n lv (r.toList ++ rest) h' (ce + P2.1.2.2.1) (sl + P2.1.2.2.2)) : AW G K P pc lv st h ce sl := by
  subst hn; subst hst
  refine aw_run (len := 3) (fun p l e s m args below meth c C H locs ls hR hl => ⟨(Value.ref b :: As).toArray, ?_⟩) kx kk
  exact vx_runU ⟨C.1, C.2.1, C.2.2.1, C.own, C.ts⟩ (hC C.gd l C.ns) (owner := owner) ⟨⟨rfl, rfl, hroom.1, hroom.2, pay_in C.ts (lw_meth w6), List.mem_cons_self⟩, C.ts _ w6, C.ts _ w5, ⟨hcl.1, hcl.2.1⟩, fun sig hsig => by have h2 := hcl.2.2; rw [hsig] at h2; exact (Option.some.inj h2).symm, C.ts _ w1, C.ts _ w2, decl_of C hD, C.ts _ w3, C.ts _ w4⟩ ⟨cPc_blind, recv_at C hR hT hg, cPc_at C hR _⟩ rfl rfl hl.1 rfl (lv_room hcat) hd hc

theorem face_of {G : aG} {K : aK} {p : Program} {l : Launch} {s : State} {m : MethodId} {args : Array Value} {meth : Method} {c : Code} (C : aCx G K p l s m args meth c) {C0 : String} {x y : MethodName} (hx : x.cls ≠ "java/lang/invoke/MethodHandle" ∧ x.cls ≠ "java/lang/invoke/VarHandle") (f1 : Cond.declares x ∈ lw_tbl) (f2 : Cond.interfaceMethod x.cls x.cls x.name x.desc ∈ lw_tbl) (f3 : Cond.publicMethod y ∈ lw_tbl) (f4 : Cond.unhidden C0 x.name x.desc ∈ lw_tbl) (f5 : Cond.castable C0 x.cls ∈ lw_tbl) : va_Fw C0 x y s := by
  obtain ⟨b9, hb9⟩ := C.gd.2.1
  exact va_Fw.moved hx C.wm.alike (va_Fw.of (hb9 _ f1) (hb9 _ f2) (hb9 _ f3) (hb9 _ f4) (hb9 _ f5))

theorem classAt_cx {G : aG} {K : aK} {p : Program} {l : Launch} {s : State} {m : MethodId} {args : Array Value} {meth : Method} {c : Code} (C : aCx G K p l s m args meth c) {C0 : String} {M : Nat} (h : Cond.instantiable C0 M ∈ lw_all) : ∃ cC : ClassId, ClassAt s C0 cC := by
  obtain ⟨cC, kC, q1, q2, q3, -⟩ := Cond.instantiable_spec (C.ts _ h)
  exact ⟨cC, q1, kC, q2, q3⟩

theorem aw_callF {K2 : aK} {idx cnt b M : Nat} {x : MethodName} {ci N : Nat} {fs : List Value} {C0 : String} {T : u_T} (hd : decode K.2.1 pc = .ok (.invokeinterface idx cnt, 5)) (w1 : Cond.methodLink K.1.cls idx x ∈ lw_all) (w2 : Cond.selects C0 x K2.1 ∈ lw_all) (w3 : Cond.instanceMethod K2.1 ∈ lw_all) (w4 : Cond.initialized K2.1.cls ∈ lw_all) (w5 : Cond.code K2.1 K2.2.1 K2.2.2.1 K2.2.2.2.1 ∈ lw_all) (w6 : Cond.instantiable C0 M ∈ lw_all) (f1 : Cond.declares x ∈ lw_tbl) (f2 : Cond.interfaceMethod x.cls x.cls x.name x.desc ∈ lw_tbl) (f3 : Cond.publicMethod K2.1 ∈ lw_tbl) (f4 : Cond.unhidden C0 x.name x.desc ∈ lw_tbl) (f5 : Cond.castable C0 x.cls ∈ lw_tbl) (hcl : x.cls ≠ "java/lang/invoke/MethodHandle" ∧ x.cls ≠ "java/lang/invoke/VarHandle" ∧ (parseMethodDescriptor x.desc).map (fun d => d.parameters.length) = some As.length) (hT : clT[ci]? = some (C0, T, N)) (hg : h.2 b = some (hob ci fs)) (hC : Con G K2 (.ref b :: As) h P2) (hst : st = As.reverse ++ .ref b :: rest) (hcat : (rest.map fun v => v.category).sum ≤ 8) (hroom : P2.1.1 + 1 ≤ P.1.1 ∧ 8 + (K2.2.2.1 + 11) + P2.1.2.1 ≤ P.1.2.1) (hc : ce + P2.1.2.2.1 ≤ P.1.2.2.1 ∧ sl + P2.1.2.2.2 ≤ P.1.2.2.2) (kx : ∀ (ci q : Nat) (h' : hH), P2.2.2 ci q h' → AX G K P pc lv rest h' (ce + P2.1.2.2.1) (sl + P2.1.2.2.2) ci q) (hn : pc + 5 = n) (kk : ∀ (r : Option Value) (h' : hH), P2.2.1 r h' → AW G K P n lv (r.toList ++ rest) h' (ce + P2.1.2.2.1) (sl + P2.1.2.2.2)) : AW G K P pc lv st h ce sl := by
  subst hn; subst hst
  refine aw_run (len := 5) (fun p l e s m args below meth c C H locs ls hR hl => ⟨(Value.ref b :: As).toArray, ?_⟩) kx kk
  obtain ⟨cC, hat⟩ := classAt_cx C w6
  refine vx_runF hat ⟨C.1, C.2.1, C.2.2.1, C.own, C.ts⟩ (hC C.gd l C.ns) (va_cwF As.length C.ts (lw_app ?_ (lw_meth w5)) rfl rfl rfl (face_of C ⟨hcl.1, hcl.2.1⟩ f1 f2 f3 f4 f5) hcl hroom) ⟨cPc_blind, recv_at C hR hT hg, cPc_at C hR _⟩ rfl rfl hl.1 rfl (lv_room hcat) hd hc
  intro w hw
  simp only [List.mem_cons, List.not_mem_nil, or_false] at hw
  rcases hw with e9 | e9 | e9 | e9
  · rw [e9]; exact w1
  · rw [e9]; exact w2
  · rw [e9]; exact w3
  · rw [e9]; exact w4

theorem aw_callSU {K2 : aK} {idx b M : Nat} {ci N : Nat} {fs : List Value} {C0 : String} {T : u_T} (hd : decode K.2.1 pc = .ok (.invokespecial idx, 3)) (w1 : Cond.methodLink K.1.cls idx K2.1 ∈ lw_all) (w2 : Cond.sameMethod K2.1.cls K2.1.cls K2.1.name K2.1.desc ∈ lw_all) (w3 : Cond.superclass K.1.cls K2.1.cls ∈ lw_all) (w4 : Cond.instanceMethod K2.1 ∈ lw_all) (w5 : Cond.initialized K2.1.cls ∈ lw_all) (w6 : Cond.code K2.1 K2.2.1 K2.2.2.1 K2.2.2.2.1 ∈ lw_all) (w7 : Cond.instantiable C0 M ∈ lw_all) (hcl : K2.1.name ≠ "<init>" ∧ (parseMethodDescriptor K2.1.desc).map (fun d => d.parameters.length) = some As.length) (hT : clT[ci]? = some (C0, T, N)) (hg : h.2 b = some (hob ci fs)) (hC : Con G K2 (.ref b :: As) h P2) (hst : st = As.reverse ++ .ref b :: rest) (hcat : (rest.map fun v => v.category).sum ≤ 8) (hroom : P2.1.1 + 1 ≤ P.1.1 ∧ 8 + (K2.2.2.1 + 11) + P2.1.2.1 ≤ P.1.2.1) (hc : ce + P2.1.2.2.1 ≤ P.1.2.2.1 ∧ sl + P2.1.2.2.2 ≤ P.1.2.2.2) (kx : ∀ (ci q : Nat) (h' : hH), P2.2.2 ci q h' → AX G K P pc lv rest h' (ce + P2.1.2.2.1) (sl + P2.1.2.2.2) ci q) (hn : pc + 3 = n) (kk : ∀ (r : Option Value) (h' : hH), P2.2.1 r h' → AW G K P n lv (r.toList ++ rest) h' (ce + P2.1.2.2.1) (sl + P2.1.2.2.2)) : AW G K P pc lv st h ce sl := by
  subst hn; subst hst
  refine aw_run (len := 3) (fun p l e s m args below meth c C H locs ls hR hl => ⟨(Value.ref b :: As).toArray, ?_⟩) kx kk
  obtain ⟨cC, hat⟩ := classAt_cx C w7
  exact vx_runSU hat ⟨C.1, C.2.1, C.2.2.1, C.own, C.ts⟩ (hC C.gd l C.ns) ⟨⟨rfl, rfl, hroom.1, hroom.2, pay_in C.ts (lw_meth w6), List.mem_cons_self⟩, C.ts _ w1, C.ts _ w2, C.ts _ w3, C.ts _ w4, C.ts _ w5, C.ts _ w6, hcl.1, fun sig hsig => by have h2 := hcl.2; rw [hsig] at h2; exact (Option.some.inj h2).symm⟩ ⟨cPc_blind, recv_at C hR hT hg, cPc_at C hR _⟩ rfl rfl hl.1 rfl (lv_room hcat) hd hc

theorem aw_iret {v : Int32} (hd : decode K.2.1 pc = .ok (.ireturn, 1)) (hr : K.2.2.2.1 = some .int) (hq : P.2.1 (some (.int v)) h) (hc : ce ≤ P.1.2.2.1 ∧ sl ≤ P.1.2.2.2) : AW G K P pc lv [.int v] h ce sl := by
  intro p l e s m args below meth c C H locs ls hR hl hf
  refine W.widen hc.1 hc.2 ?_
  exact vx_ret (W.iret C.1 C.2.1 (C.rt.trans hr) (fun t ht _ => ⟨_, h, rfl, hq, by rw [ht]; exact hR⟩) hf hd C.lk)

theorem aw_zret {v : Int32} {ty : FieldType} (hd : decode K.2.1 pc = .ok (.ireturn, 1)) (hr : K.2.2.2.1 = some ty) (hv : narrow ty (.int v) = .int v) (hq : P.2.1 (some (.int v)) h) (hc : ce ≤ P.1.2.2.1 ∧ sl ≤ P.1.2.2.2) : AW G K P pc lv [.int v] h ce sl := by
  intro p l e s m args below meth c C H locs ls hR hl hf
  refine W.widen hc.1 hc.2 ?_
  exact vx_ret (W.zret C.1 C.2.1 (C.rt.trans hr) hv (fun t ht _ => ⟨_, h, rfl, hq, by rw [ht]; exact hR⟩) hf hd C.lk)

theorem aw_lret {v : Int64} (hd : decode K.2.1 pc = .ok (.lreturn, 1)) (hr : K.2.2.2.1 = some .long) (hq : P.2.1 (some (.long v)) h) (hc : ce ≤ P.1.2.2.1 ∧ sl ≤ P.1.2.2.2) : AW G K P pc lv [.long v] h ce sl := by
  intro p l e s m args below meth c C H locs ls hR hl hf
  refine W.widen hc.1 hc.2 ?_
  exact vx_ret (W.lret C.1 C.2.1 (C.rt.trans hr) (fun t ht _ => ⟨_, h, rfl, hq, by rw [ht]; exact hR⟩) hf hd C.lk)

theorem aw_dret {v : UInt64} (hd : decode K.2.1 pc = .ok (.dreturn, 1)) (hr : K.2.2.2.1 = some .double) (hq : P.2.1 (some (.double v)) h) (hc : ce ≤ P.1.2.2.1 ∧ sl ≤ P.1.2.2.2) : AW G K P pc lv [.double v] h ce sl := by
  intro p l e s m args below meth c C H locs ls hR hl hf
  refine W.widen hc.1 hc.2 ?_
  exact vx_ret (W.dret C.1 C.2.1 (C.rt.trans hr) (fun t ht _ => ⟨_, h, rfl, hq, by rw [ht]; exact hR⟩) hf hd C.lk)

theorem aw_aret {v : Value} {rt : FieldType} (hd : decode K.2.1 pc = .ok (.areturn, 1)) (hr : K.2.2.2.1 = some rt) (hrt : (∃ n, rt = .object n) ∨ ∃ t, rt = .array t) (hv : v = .null ∨ ∃ a, v = .ref a) (hq : P.2.1 (some v) h) (hc : ce ≤ P.1.2.2.1 ∧ sl ≤ P.1.2.2.2) : AW G K P pc lv [v] h ce sl := by
  intro p l e s m args below meth c C H locs ls hR hl hf
  refine W.widen hc.1 hc.2 ?_
  exact vx_ret (W.aret C.1 C.2.1 (C.rt.trans hr) hrt hv (fun t ht _ => ⟨_, h, rfl, hq, by rw [ht]; exact hR⟩) hf hd C.lk)

theorem aw_vret (hd : decode K.2.1 pc = .ok (.return_, 1)) (hr : K.2.2.2.1 = none) (hq : P.2.1 none h) (hc : ce ≤ P.1.2.2.1 ∧ sl ≤ P.1.2.2.2) : AW G K P pc lv [] h ce sl := by
  intro p l e s m args below meth c C H locs ls hR hl hf
  refine W.widen hc.1 hc.2 ?_
  exact vx_ret (W.vret C.1 C.2.1 (C.rt.trans hr) (fun t ht _ => ⟨_, h, rfl, hq, by rw [ht]; exact hR⟩) hf hd C.lk)

theorem ax_out {ci q : Nat} (ht : ∀ x ∈ tableOf K.2.2.2.2, covers x pc = false) (hx : P.2.2 ci q h) (hc : ce ≤ P.1.2.2.1 ∧ sl ≤ P.1.2.2.2) : AX G K P pc lv st h ce sl ci q := by
  intro p l e s m args below meth c C H locs ls r cell hR hl hf g1 g2 g3 g4
  exact vx_out (E := r.1) (by rw [C.tb]; exact ht) C.lk g2 g3 g4 (fun t ht _ => ⟨ci, r, h, g1, rfl, hx, by rw [ht]; exact hR⟩) hf hc.1 hc.2
/-- pure heap facts behind a throw -/
theorem ax_know {ci q : Nat} (k : GoodG G → hInv G h → q < h.1 → AX G K P pc lv st h ce sl ci q) : AX G K P pc lv st h ce sl ci q := by
  intro p l e s m args below meth c C H locs ls r cell hR hl hf g1 g2 g3 g4
  exact k C.gd hR.inv (by rw [← hR.1]; exact (Array.getElem?_eq_some_iff.mp g2).1) p l e s m args below meth c C H locs ls r cell hR hl hf g1 g2 g3 g4
theorem ax_catch {ci q k0 tgt : Nat} {C0 nm : String} {T : u_T} {N : Nat} (hT : clT[ci]? = some (C0, T, N)) (pre : List ExceptionTableEntry) (x : ExceptionTableEntry) (suf : List ExceptionTableEntry) (hsplit : tableOf K.2.2.2.2 = pre ++ x :: suf)
    (hpass : ∀ z ∈ pre, covers z pc = false ∨ (z.catchType ≠ 0 ∧ ∃ nm : String, Cond.classLink K.1.cls z.catchType nm ∈ lw_all ∧ ncast C0 nm)) (hx : covers x pc = true) (h0 : x.catchType = k0) (hk0 : k0 ≠ 0) (hp : x.handlerPc = tgt)
    (hlink : Cond.classLink K.1.cls k0 nm ∈ lw_all) (hcast : Cond.castable C0 nm ∈ lw_tbl) (k : AW G K P tgt lv [.ref q] h ce sl) : AX G K P pc lv st h ce sl ci q := by
  intro p l e s m args below meth c C H locs ls r cell hR hl hf g1 g2 g3 g4
  cases g1.symm.trans hT
  subst h0; subst hp
  refine vx_catch C.own pre x suf (by rw [C.tb]; exact hsplit) (fun z hz => ?_) hx hk0 (C.ts _ hlink) (va_Nw.use rfl (va_Nw.warmC C.wm (by obtain ⟨b9, hb9⟩ := C.gd.2.1; exact va_Nw.of rfl (hb9 _ hcast)))) g2 g3 g4 (k p l e s m args below meth c C H locs ls hR hl hf)
  rcases hpass z hz with h1 | ⟨h1, nm9, h2, h3⟩
  · exact Or.inl h1
  · exact Or.inr ⟨h1, nm9, C.ts _ h2, ncast_at C h3⟩

theorem Con.of {G : aG} {K : aK} {as : List Value} {h : hH} {P : aP} (hy : plainFor K.1 = true) (hh : K.2.2.2.2 = []) (hlen : (lg_sl as).length ≤ K.2.2.1) (k : AW G K P 0 (lv_args 0 as) [] h 0 0) : Con G K as h P := by
  intro hG l hl
  refine vx_ofW (cc := K.2.1) (maxL := K.2.2.1) (ret := K.2.2.2.1) hy rfl ?_
  intro p e s m args below meth c s₁ B hml htab hv
  obtain ⟨rfl, hR, hW⟩ := hv
  have hts := atoms_spec (ws := ws_ K.1 K.2.1 K.2.2.1 K.2.2.2.1) B.pre
  have C : aCx G K p l s m as.toArray meth c := ⟨B.exec, B.bytes, hml, B.returns, (name_of_methodNamed B.named B.method).1, B.notSynchronized, by rw [hh]; exact List.eq_nil_iff_forall_not_mem.mpr (fun x hx => htab x hx), findClass_of_methodNamed B.named, fun w hw => hts w (List.mem_cons_of_mem _ hw), hW, hl, hG, h, hR⟩
  have hls := lv_entry as (n := K.2.2.1) hlen
  rw [lg_entry_eq]
  exact k p l e s m _ below meth c C s.heap [] _ hR hls (fun q hq => by cases hq)
theorem ConW.of {G : aG} {K : aK} {as : List Value} {h : hH} {P : aP} (hy : plainFor K.1 = true) (hlen : (lg_sl as).length ≤ K.2.2.1) (k : AW G K P 0 (lv_args 0 as) [] h 0 0) : ConW G K as h P := by
  intro hG l hl
  refine vx_ofWH (cc := K.2.1) (maxL := K.2.2.1) (ret := K.2.2.2.1) hy rfl ?_
  intro p e s m args below meth c s₁ B hml hv
  obtain ⟨rfl, hR, hW⟩ := hv
  have hts := atoms_spec (ws := wsW_ K.1 K.2.1 K.2.2.1 K.2.2.2.1 K.2.2.2.2) B.pre
  have C : aCx G K p l s m as.toArray meth c := ⟨B.exec, B.bytes, hml, B.returns, (name_of_methodNamed B.named B.method).1, B.notSynchronized, vx_table (x := K.1) B (hts _ List.mem_cons_self), findClass_of_methodNamed B.named, fun w hw => hts w (List.mem_cons_of_mem _ hw), hW, hl, hG, h, hR⟩
  have hls := lv_entry as (n := K.2.2.1) hlen
  rw [lg_entry_eq]
  exact k p l e s m _ below meth c C s.heap [] _ hR hls (fun q hq => by cases hq)
end
