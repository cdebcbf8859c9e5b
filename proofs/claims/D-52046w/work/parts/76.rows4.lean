/-! AW rows whose heap is opaque behind them; nest mates' fields; class objects; clones; copies of references. -/
section
set_option maxRecDepth 100000
/-- one cell is written -/
def hW1 (h h1 : hH) (a : Nat) (e : hE) : Prop := h1.2 a = some e ∧ (∀ q, q ≠ a → h1.2 q = h.2 q) ∧ h1.1 = h.1
/-- a new cell -/
def hN1 (h h1 : hH) (x : Nat) (e : hE) : Prop := h1.2 x = some e ∧ (∀ q, q ≠ x → h1.2 q = h.2 q) ∧ x = h.1 ∧ h1.1 = x + 1
theorem hW1.set {h : hH} {a : Nat} {e : hE} : hW1 h (hset h a e) a e := ⟨if_pos rfl, fun _ hq => if_neg hq, rfl⟩
theorem hN1.new {h : hH} {e : hE} : hN1 h (hnew h e) h.1 e := ⟨if_pos rfl, fun _ hq => if_neg hq, rfl, rfl⟩
theorem hW1.k {h h1 : hH} {a q : Nat} {e e' : hE} (w : hW1 h h1 a e) (hn : q ≠ a) (f : h.2 q = some e') : h1.2 q = some e' := (w.2.1 q hn).trans f
theorem hN1.k {h h1 : hH} {a q : Nat} {e e' : hE} (w : hN1 h h1 a e) (hn : q ≠ a) (f : h.2 q = some e') : h1.2 q = some e' := (w.2.1 q hn).trans f
/-- two cells of other kinds stand apart -/
theorem ne_kind {h : hH} {a b : Nat} {x y : hE} (f : h.2 a = some x) (g : h.2 b = some y) (hn : x ≠ y) : a ≠ b := fun e => hn (Option.some.inj (f.symm.trans ((congrArg h.2 e).trans g)))
theorem ob_ar {c t n : Nat} {fs : List Value} {f : Nat → Value} : hob c fs ≠ har t n f := fun z => nomatch z
theorem ar_ob {c t n : Nat} {fs : List Value} {f : Nat → Value} : har t n f ≠ hob c fs := fun z => nomatch z
theorem ob_ob {c d : Nat} {fs gs : List Value} (hn : c ≠ d) : hob c fs ≠ hob d gs := fun z => hn (congrArg Prod.fst (Sum.inl.inj z))
theorem ar_ar {c d n m : Nat} {f g : Nat → Value} (hn : c ≠ d) : har c n f ≠ har d m g := fun z => hn (congrArg Prod.fst (Sum.inr.inj z))
theorem Fr.w {S : Nat → Prop} {h0 h h1 : hH} {a : Nat} {e : hE} (hF : Fr S h0 h) (w : hW1 h h1 a e) (ha : S a ∨ h0.1 ≤ a) : Fr S h0 h1 := by
  refine ⟨by rw [w.2.2]; exact hF.1, fun q hq hs => (w.2.1 q (fun z => ?_)).trans (hF.2 q hq hs)⟩
  subst z
  rcases ha with h9 | h9
  · exact hs h9
  · omega
theorem Fr.n {S : Nat → Prop} {h0 h h1 : hH} {a : Nat} {e : hE} (hF : Fr S h0 h) (w : hN1 h h1 a e) : Fr S h0 h1 := by
  obtain ⟨w1, w2, w3, w4⟩ := w
  have := hF.1
  exact ⟨by omega, fun q hq hs => (w2 q (by omega)).trans (hF.2 q hq hs)⟩
/-- a call's frame -/
theorem Fr.c {S S' : Nat → Prop} {h0 h h1 : hH} (hF : Fr S h0 h) (hC : Fr S' h h1) (ha : ∀ a, S' a → S a ∨ h0.1 ≤ a) : Fr S h0 h1 := by
  refine ⟨Nat.le_trans hF.1 hC.1, fun q hq hs => (hC.2 q (Nat.lt_of_lt_of_le hq hF.1) (fun z => ?_)).trans (hF.2 q hq hs)⟩
  rcases ha q z with h9 | h9
  · exact hs h9
  · omega
theorem Fr.k {S : Nat → Prop} {h h1 : hH} {q : Nat} {e : hE} (hF : Fr S h h1) (hl : q < h.1) (hn : ¬ S q) (f : h.2 q = some e) : h1.2 q = some e := (hF.2 q hl hn).trans f
/-- nothing old is written -/
abbrev nS : Nat → Prop := fun _ => False
variable {G : aG} {K : aK} {P : aP} {pc n : Nat} {lv lv' : List (Nat × Value)} {st st' : List Value} {h h' : hH} {ce sl ce' sl' : Nat}
theorem aw_putK {idx a ci N n0 : Nat} {fs fs' : List Value} {v : Value} {C0 : String} {T : u_T} {ref : String} {ty : FieldType} (hd : decode K.2.1 pc = .ok (.putfield idx, 3)) (hT : clT[ci]? = some (C0, T, N)) (hin : ∀ w ∈ u_ws C0 T N, w ∈ lw_all) (ty0 : Nat → FieldType) (hty : ∀ k, k < N → parseFieldDescriptor (T k).2.2.1 = some (ty0 k)) (hnm : ∀ a, a < N → ∀ b, b < N → a ≠ b → (T a).2.1 ≠ (T b).2.1) (hinst : Cond.instantiable C0 n0 ∈ lw_all) (j : Nat) (hj : j < N) (hlink : Cond.fieldLink K.1.cls idx ref (T j).2.1 (T j).2.2.1 ∈ lw_all) (hsame : (T j).1 = ref ∨ Cond.sameField ref (T j).1 (T j).2.1 (T j).2.2.1 ∈ lw_all)
    (hfin : (T j).2.2.2 = false ∨ ((T j).2.2.2 = true ∧ K.1.name = "<init>" ∧ (T j).1 = K.1.cls)) (ht : parseFieldDescriptor (T j).2.2.1 = some ty) (hg : h.2 a = some (hob ci fs)) (hb : gB G ≤ a) (hw : narrow ty v = v) (hv : fits ty v = true) (hlen : j < fs.length) (hfs : fs.set j v = fs') (hn : pc + 3 = n) (k : ∀ h1 : hH, hW1 h h1 a (hob ci fs') → AW G K P n lv st h1 ce sl) : AW G K P pc lv (v :: .ref a :: st) h ce sl :=
  aw_putf hd hT hin ty0 hty hnm hinst j hj hlink hsame hfin ht hg hb hw hv hlen hn (k _ (by rw [hfs]; exact hW1.set))
theorem nest_f {p : Program} {l : Launch} {s : State} {m : MethodId} {args : Array Value} {meth : Method} {c : Code} (C : aCx G K p l s m args meth c) {a b nm d hst : String} {i : Nat} (h : Cond.fieldLinkNest a i b nm d hst ∈ lw_tbl) : (Cond.fieldLinkNest a i b nm d hst).before args s = true := va_Nw.use rfl (va_Nw.warmF C.wm (by obtain ⟨b9, hb9⟩ := C.gd.2.1; exact va_Nw.of rfl (hb9 _ h)))
theorem aw_getfN {idx a ci N : Nat} {fs : List Value} {v : Value} {C0 : String} {T : u_T} {ref host : String} (hd : decode K.2.1 pc = .ok (.getfield idx, 3)) (hT : clT[ci]? = some (C0, T, N)) (j : Nat) (hlink : Cond.fieldLinkNest K.1.cls idx ref (T j).2.1 (T j).2.2.1 host ∈ lw_tbl) (hsame : (T j).1 = ref ∨ Cond.sameField ref (T j).1 (T j).2.1 (T j).2.2.1 ∈ lw_all) (hin : ∀ w ∈ u_ws C0 T N, w ∈ lw_all) (hg : h.2 a = some (hob ci fs)) (hv : fs[j]? = some v) (hn : pc + 3 = n) (k : AW G K P n lv (v :: st) h ce sl) : AW G K P pc lv (.ref a :: st) h ce sl := by
  intro p l e s m args below meth c C H locs ls hR hl hf
  subst hn
  obtain ⟨r, cell, g1, g2, g3, g4, g5, g6, g7⟩ := hR.2.2.1 a _ hg
  have hr : r = (C0, T, N) := Option.some.inj (g1.symm.trans hT)
  subst hr
  obtain ⟨hj, hs⟩ := g7 j v hv
  obtain ⟨f1, f2, kC, f3⟩ := C.k.1 ci _ hT
  obtain ⟨cf, kf, fi, fd, i1, i2, i3⟩ := f1 j hj
  have hi : s.fieldFound? ref (T j).2.1 (T j).2.2.1 = some (cf, kf, fi, fd) := by
    rcases hsame with e1 | e1
    · rw [← e1]; exact i1
    · exact u_same (C.ts _ e1) _ i1
  exact va_Wgetf C.1 C.2.1 C.own (nest_f C hlink) hi i3 g2 g4 (by rw [i2]; exact hs) rfl rfl hd (k p l e s m args below meth c C H locs ls hR hl hf)
theorem aw_putKN {idx a ci N n0 : Nat} {fs fs' : List Value} {v : Value} {C0 : String} {T : u_T} {ref host : String} {ty : FieldType} (hd : decode K.2.1 pc = .ok (.putfield idx, 3)) (hT : clT[ci]? = some (C0, T, N)) (hin : ∀ w ∈ u_ws C0 T N, w ∈ lw_all) (ty0 : Nat → FieldType) (hty : ∀ k, k < N → parseFieldDescriptor (T k).2.2.1 = some (ty0 k)) (hnm : ∀ a, a < N → ∀ b, b < N → a ≠ b → (T a).2.1 ≠ (T b).2.1) (hinst : Cond.instantiable C0 n0 ∈ lw_all) (j : Nat) (hj : j < N) (hlink : Cond.fieldLinkNest K.1.cls idx ref (T j).2.1 (T j).2.2.1 host ∈ lw_tbl) (hsame : (T j).1 = ref ∨ Cond.sameField ref (T j).1 (T j).2.1 (T j).2.2.1 ∈ lw_all)
    (hfin : (T j).2.2.2 = false) (ht : parseFieldDescriptor (T j).2.2.1 = some ty) (hg : h.2 a = some (hob ci fs)) (hb : gB G ≤ a) (hw : narrow ty v = v) (hv : fits ty v = true) (hlen : j < fs.length) (hfs : fs.set j v = fs') (hn : pc + 3 = n) (k : ∀ h1 : hH, hW1 h h1 a (hob ci fs') → AW G K P n lv st h1 ce sl) : AW G K P pc lv (v :: .ref a :: st) h ce sl := by
  intro p l e s m args below meth c C H locs ls hR hl hf
  subst hn; subst hfs
  obtain ⟨r, cell, g1, g2, g3, g4, g5, g6, g7⟩ := hR.2.2.1 a _ hg
  have hr : r = (C0, T, N) := Option.some.inj (g1.symm.trans hT)
  subst hr
  obtain ⟨v0, hv0⟩ : ∃ v0, fs[j]? = some v0 := ⟨_, List.getElem?_eq_getElem hlen⟩
  obtain ⟨-, hs⟩ := g7 j v0 hv0
  obtain ⟨f1, f2, kC0, f3⟩ := C.k.1 ci _ hT
  have hap := putf_at C.ts hin ty0 hty hnm f1
  obtain ⟨cf, kf, fi, fd, i1, i2, i3⟩ := f1 j hj
  have hi : s.fieldFound? ref (T j).2.1 (T j).2.2.1 = some (cf, kf, fi, fd) := by
    rcases hsame with e1 | e1
    · rw [← e1]; exact i1
    · exact u_same (C.ts _ e1) _ i1
  obtain ⟨cC, kC, q1, q2, q3, -⟩ := Cond.instantiable_spec (C.ts _ hinst)
  cases f2.symm.trans q1
  have hlt : gI G ci j < cell.slots.size := k2_hasslot hs
  have hvm0 := g6 hb
  have hlay := C.ts _ (hin _ (u_in_lay hj))
  unfold u_lay at hlay
  rw [if_neg (by rw [hfin]; decide)] at hlay
  have h6 := u_store q1 q2 q3 hlay i1 ht hw hv
  refine va_WputK C.1 C.2.1 (f := fd) C.own (nest_f C hlink) hi i3 (by rw [g3]; exact h6) g2 hvm0 (by rw [i2]; exact hlt) rfl rfl hd fun H' e1 e2 e3 => ?_
  rw [i2] at e1
  refine k (hset h a (hob ci (fs.set j v))) hW1.set p l e s m args below meth c C H' _ ls (hR.set hb ⟨_, _, g1, e1, g3, g4, g5, g6, putf_cell g7 hap hj hlt⟩ e2 e3) hl (fun q hq => ?_)
  rcases List.mem_append.mp hq with h1 | h1
  · exact hf q h1
  · rw [List.mem_singleton.mp h1]; exact hb
theorem aw_newK {idx ci N : Nat} {C0 : String} {T : u_T} {fs : List Value} (hd : decode K.2.1 pc = .ok (.new idx, 3)) (hT : clT[ci]? = some (C0, T, N)) (hin : ∀ w ∈ u_ws C0 T N, w ∈ lw_all) (ty0 : Nat → FieldType) (hty : ∀ k, k < N → parseFieldDescriptor (T k).2.2.1 = some (ty0 k)) (hlink : Cond.classLink K.1.cls idx C0 ∈ lw_all) (M : Nat) (hinst : Cond.instantiable C0 M ∈ lw_all) (hini : Cond.initialized C0 ∈ lw_all) (hfl : fs.length = N) (hfs : ∀ j, j < N → fs[j]? = some (defaultValue (ty0 j))) (hc : ce + 1 ≤ P.1.2.2.1) (hs : sl + M ≤ P.1.2.2.2) (hn : pc + 3 = n) (hce : ce + 1 = ce') (hsl : sl + M = sl') (k : ∀ (h1 : hH) (x : Nat), gB G ≤ x → hN1 h h1 x (hob ci fs) → AW G K P n lv (.ref x :: st) h1 ce' sl') : AW G K P pc lv st h ce sl := by
  subst hce; subst hsl
  exact aw_know fun _ hi => aw_new hd hT hin ty0 hty hlink M hinst hini hfl hfs hc hs hn (k _ _ hi.1 hN1.new)
theorem aw_newaK {ti N : Nat} {i : Int32} {atype : ArrayType} {ty : FieldType} {v : Value} (hd : decode K.2.1 pc = .ok (.newarray atype, 2)) (ht : arT[ti]? = some ty) (hty : newarray.typeOf atype = ty) (hnr : ty.isReference = false) (hw : Cond.arrayClass ty ∈ lw_all) (hv : defaultValue ty = v) (hi : i = nI N) (hN : N * componentBytes ty ≤ 536870912) (h31 : N < 2 ^ 31) (hc : ce + 1 ≤ P.1.2.2.1) (hs : sl + N ≤ P.1.2.2.2) (hn : pc + 2 = n) (hce : ce + 1 = ce') (hsl : sl + N = sl') (k : ∀ (h1 : hH) (x : Nat), gB G ≤ x → hN1 h h1 x (har ti N (fun _ => v)) → AW G K P n lv (.ref x :: st) h1 ce' sl') : AW G K P pc lv (.int i :: st) h ce sl := by
  subst hce; subst hsl
  exact aw_know fun _ hi0 => aw_newa hd ht hty hnr hw hv hi hN h31 hc hs hn (k _ _ hi0.1 hN1.new)
theorem aw_anewK {idx ti N : Nat} {i : Int32} {C0 : String} (hd : decode K.2.1 pc = .ok (.anewarray idx, 3)) (ht : arT[ti]? = some (.object C0)) (hlink : Cond.classLink K.1.cls idx C0 ∈ lw_all) (hw : Cond.arrayOver (.object C0) ∈ lw_tbl) (hi : i = nI N) (hN : N * 4 ≤ 536870912) (h31 : N < 2 ^ 31) (hc : ce + 1 ≤ P.1.2.2.1) (hs : sl + N ≤ P.1.2.2.2) (hn : pc + 3 = n) (hce : ce + 1 = ce') (hsl : sl + N = sl') (k : ∀ (h1 : hH) (x : Nat), gB G ≤ x → hN1 h h1 x (har ti N (fun _ => .null)) → AW G K P n lv (.ref x :: st) h1 ce' sl') : AW G K P pc lv (.int i :: st) h ce sl := by
  subst hce; subst hsl
  exact aw_know fun _ hi0 => aw_anew hd ht hlink hw hi hN h31 hc hs hn (k _ _ hi0.1 hN1.new)
theorem aw_iastK {a ti N : Nat} {f f' : Nat → Value} {i x : Int32} (hd : decode K.2.1 pc = .ok (.iastore, 1)) (ht : arT[ti]? = some .int) (j : Nat) (hi : i = nI j) (hg : h.2 a = some (har ti N f)) (hb : gB G ≤ a) (hj : j < N) (h31 : N < 2 ^ 31) (hf' : updV f j (.int x) = f') (hn : pc + 1 = n) (k : ∀ h1 : hH, hW1 h h1 a (har ti N f') → AW G K P n lv st h1 ce sl) : AW G K P pc lv (.int x :: .int i :: .ref a :: st) h ce sl := aw_iast hd ht j hi hg hb hj h31 hf' hn (k _ hW1.set)
theorem aw_lastK {a ti N : Nat} {f f' : Nat → Value} {i : Int32} {x : Int64} (hd : decode K.2.1 pc = .ok (.lastore, 1)) (ht : arT[ti]? = some .long) (j : Nat) (hi : i = nI j) (hg : h.2 a = some (har ti N f)) (hb : gB G ≤ a) (hj : j < N) (h31 : N < 2 ^ 31) (hf' : updV f j (.long x) = f') (hn : pc + 1 = n) (k : ∀ h1 : hH, hW1 h h1 a (har ti N f') → AW G K P n lv st h1 ce sl) : AW G K P pc lv (.long x :: .int i :: .ref a :: st) h ce sl := aw_last hd ht j hi hg hb hj h31 hf' hn (k _ hW1.set)
theorem aw_bastK {a ti N : Nat} {f f' : Nat → Value} {i x : Int32} (hd : decode K.2.1 pc = .ok (.bastore, 1)) (ht : arT[ti]? = some .byte) (j : Nat) (hi : i = nI j) (hg : h.2 a = some (har ti N f)) (hb : gB G ≤ a) (hj : j < N) (h31 : N < 2 ^ 31) (hf' : updV f j (.int x.toInt8.toInt32) = f') (hn : pc + 1 = n) (k : ∀ h1 : hH, hW1 h h1 a (har ti N f') → AW G K P n lv st h1 ce sl) : AW G K P pc lv (.int x :: .int i :: .ref a :: st) h ce sl := aw_bast hd ht j hi hg hb hj h31 hf' hn (k _ hW1.set)
theorem aw_dastK {a ti N : Nat} {f f' : Nat → Value} {i : Int32} {x : UInt64} (hd : decode K.2.1 pc = .ok (.dastore, 1)) (ht : arT[ti]? = some .double) (j : Nat) (hi : i = nI j) (hg : h.2 a = some (har ti N f)) (hb : gB G ≤ a) (hj : j < N) (h31 : N < 2 ^ 31) (hf' : updV f j (.double x) = f') (hn : pc + 1 = n) (k : ∀ h1 : hH, hW1 h h1 a (har ti N f') → AW G K P n lv st h1 ce sl) : AW G K P pc lv (.double x :: .int i :: .ref a :: st) h ce sl := aw_dast hd ht j hi hg hb hj h31 hf' hn (k _ hW1.set)
theorem aw_aastK {a ti N v ci NN : Nat} {f f' : Nat → Value} {i : Int32} {C0 E : String} {T : u_T} {fs : List Value} (hd : decode K.2.1 pc = .ok (.aastore, 1)) (ht : arT[ti]? = some (.object E)) (j : Nat) (hi : i = nI j) (hg : h.2 a = some (har ti N f)) (hb : gB G ≤ a) (hj : j < N) (h31 : N < 2 ^ 31) (hT : clT[ci]? = some (C0, T, NN)) (hv : h.2 v = some (hob ci fs)) (hc : C0 = E ∨ Cond.castable C0 E ∈ lw_tbl) (hf' : updV f j (.ref v) = f') (hn : pc + 1 = n) (k : ∀ h1 : hH, hW1 h h1 a (har ti N f') → AW G K P n lv st h1 ce sl) : AW G K P pc lv (.ref v :: .int i :: .ref a :: st) h ce sl := aw_aast hd ht j hi hg hb hj h31 hT hv hc hf' hn (k _ hW1.set)
theorem aw_aastNK {a ti N : Nat} {f f' : Nat → Value} {i : Int32} {E : String} (hd : decode K.2.1 pc = .ok (.aastore, 1)) (ht : arT[ti]? = some (.object E)) (j : Nat) (hi : i = nI j) (hg : h.2 a = some (har ti N f)) (hb : gB G ≤ a) (hj : j < N) (h31 : N < 2 ^ 31) (hf' : updV f j .null = f') (hn : pc + 1 = n) (k : ∀ h1 : hH, hW1 h h1 a (har ti N f') → AW G K P n lv st h1 ce sl) : AW G K P pc lv (.null :: .int i :: .ref a :: st) h ce sl := aw_aastN hd ht j hi hg hb hj h31 hf' hn (k _ hW1.set)
theorem RA_nm {s : State} {c : ClassId} {ty : FieldType} (h : va_RA s c ty) : s.vm.findClass ("[" ++ ty.toString) = some c := by
  cases ty with
  | object C =>
    obtain ⟨kA, comp, -, -, -, k5⟩ := h
    exact k5
  | _ => exact h
/-- the class of a cell, as the tables know it -/
def kindA (h : hH) (v : Nat) (ad : String) : Prop := (∃ (ci : Nat) (fs : List Value) (T : u_T) (N : Nat), h.2 v = some (hob ci fs) ∧ clT[ci]? = some (ad, T, N)) ∨ ∃ (ti n : Nat) (f : Nat → Value) (ty : FieldType), h.2 v = some (har ti n f) ∧ arT[ti]? = some ty ∧ "[" ++ ty.toString = ad
theorem kind_at {p : Program} {l : Launch} {s : State} {m : MethodId} {args : Array Value} {meth : Method} {c : Code} (C : aCx G K p l s m args meth c) {H : Heap} (hR : hRep G h H) {v : Nat} {ad : String} (hk : kindA h v ad) : ∃ cell : Cell, H[v]? = some cell ∧ cell.vm.isStatics = false ∧ s.vm.findClass ad = some cell.cls := by
  rcases hk with ⟨ci, fs, T, N, h1, h2⟩ | ⟨ti, n, f, ty, h1, h2, h3⟩
  · exact recv_at C hR h2 h1
  · obtain ⟨ty', cell, g1, g2, g3, g4, g5, g6, g7, g8⟩ := hR.2.2.1 v _ h1
    dsimp only at g1 g3
    cases g1.symm.trans h2
    exact ⟨cell, g2, g5, by rw [g3, ← h3]; exact RA_nm (C.k.2 ti _ h2).2⟩
theorem aw_ldcM {idx q : Nat} {nm : String} (hd : decode K.2.1 pc = .ok (.ldc idx, 2)) (hlink : Cond.classLink K.1.cls idx nm ∈ lw_all) (hm : (nm, q) ∈ miT) (hn : pc + 2 = n) (k : AW G K P n lv (.ref (gM G q) :: st) h ce sl) : AW G K P pc lv st h ce sl := by
  intro p l e s m args below meth c C H locs ls hR hl hf
  subst hn
  exact va_ldcM C.1 C.2.1 C.own (C.ts _ hlink) (va_Mi.moved C.wm.alike (C.gd.2.2.2.2.2.1 _ hm)) hd (k p l e s m args below meth c C H locs ls hR hl hf)
theorem aw_getC {idx q a : Nat} {nm : String} (hd : decode K.2.1 pc = .ok (.invokevirtual idx, 3)) (w1 : Cond.methodLink K.1.cls idx ⟨"java/lang/Object", "getClass", "()Ljava/lang/Class;"⟩ ∈ lw_all) (w2 : Cond.declares ⟨"java/lang/Object", "getClass", "()Ljava/lang/Class;"⟩ ∈ lw_tbl) (w3 : Cond.selects nm ⟨"java/lang/Object", "getClass", "()Ljava/lang/Class;"⟩ ⟨"java/lang/Object", "getClass", "()Ljava/lang/Class;"⟩ ∈ lw_all) (w4 : Cond.instanceMethod ⟨"java/lang/Object", "getClass", "()Ljava/lang/Class;"⟩ ∈ lw_all) (w5 : Cond.native ⟨"java/lang/Object", "getClass", "()Ljava/lang/Class;"⟩ ∈ lw_all) (hm : (nm, q) ∈ miT) (hk : kindA h a nm) (hr : 1 ≤ P.1.1 ∧ (st.map (fun v => v.category)).sum + 14 ≤ P.1.2.1) (hn : pc + 3 = n) (k : AW G K P n lv (.ref (gM G q) :: st) h ce sl) : AW G K P pc lv (.ref a :: st) h ce sl := by
  intro p l e s m args below meth c C H locs ls hR hl hf
  subst hn
  refine va_getC C.1 C.2.1 (C.2.2.1.trans hl.1.symm) C.own (C.ts _ w1) ?_ (C.ts _ w3) (C.ts _ w4) (C.ts _ w5) (va_Mi.moved C.wm.alike (C.gd.2.2.2.2.2.1 _ hm)) (kind_at C hR hk) hr.1 hr.2 hd (k p l e s m args below meth c C H locs ls hR hl hf)
  exact va_Dc.use (va_Dc.moved C.wm.alike (by obtain ⟨b9, hb9⟩ := C.gd.2.1; exact va_Dc.of (hb9 _ w2)))
theorem aw_clone {idx a ti N : Nat} {f : Nat → Value} {ad : String} {ty : FieldType} (hd : decode K.2.1 pc = .ok (.invokevirtual idx, 3)) (w1 : Cond.methodLink K.1.cls idx ⟨ad, "clone", "()Ljava/lang/Object;"⟩ ∈ lw_all) (w2 : Cond.sameMethod ad "java/lang/Object" "clone" "()Ljava/lang/Object;" ∈ lw_all) (w3 : Cond.native ⟨"java/lang/Object", "clone", "()Ljava/lang/Object;"⟩ ∈ lw_all) (w4 : Cond.instanceMethod ⟨"java/lang/Object", "clone", "()Ljava/lang/Object;"⟩ ∈ lw_all) (w5 : Cond.selects ad ⟨ad, "clone", "()Ljava/lang/Object;"⟩ ⟨"java/lang/Object", "clone", "()Ljava/lang/Object;"⟩ ∈ lw_all) (w6 : Cond.castable ad "java/lang/Cloneable" ∈ lw_tbl)
    (ht : arT[ti]? = some ty) (had : "[" ++ ty.toString = ad) (hg : h.2 a = some (har ti N f)) (hfit : ∀ j, j < N → fits ty (f j) = true) (hr : 1 ≤ P.1.1 ∧ (st.map (fun v => v.category)).sum + 14 ≤ P.1.2.1) (hc : ce + 1 ≤ P.1.2.2.1) (hs : sl + N ≤ P.1.2.2.2) (hn : pc + 3 = n) (hce : ce + 1 = ce') (hsl : sl + N = sl') (k : ∀ (h1 : hH) (x : Nat), gB G ≤ x → hN1 h h1 x (har ti N f) → AW G K P n lv (.ref x :: st) h1 ce' sl') : AW G K P pc lv (.ref a :: st) h ce sl := by
  intro p l e s m args below meth c C H locs ls hR hl hf
  subst hn; subst hce; subst hsl
  obtain ⟨ty', cell, g1, g2, g3, g4, g5, g6, g7, g8⟩ := hR.2.2.1 a _ hg
  dsimp only at g1 g3 g7 g8
  cases g1.symm.trans ht
  have hnm : s.vm.findClass ad = some cell.cls := by
    rw [g3, ← had]; exact RA_nm (C.k.2 ti _ ht).2
  obtain ⟨c0, t0', f1, f2, f3⟩ := Cond.castable_spec (va_Nw.use (A := args) rfl (cast_of C w6))
  cases hnm.symm.trans f1
  have hA := (C.k.2 ti _ ht).1
  intro T hT X
  obtain ⟨-, kA, hkA, comp, hkind⟩ := State.isArrayOf_alike X.warmed.alike (hA 0 (fun _ => .null))
  obtain ⟨-, kS, hkS, compS, hkindS⟩ := hA 0 (fun _ => .null)
  obtain ⟨vm', X', st1⟩ := X.cloneArray C.1 C.own (C.ts _ w1) (C.ts _ w2) (C.ts _ w3) (C.ts _ w4) (C.ts _ w5) (a := a) (cell := cell) (by rw [hT]; exact g2) (fun q z => by rw [z] at g5; cases g5) g4 hnm f2 f3
    (fun i v hv => by
      have hi : i < N := by
        have := (Array.getElem?_eq_some_iff.mp hv).1
        omega
      have e1 : f i = v := Option.some.inj ((g8 i hi).symm.trans hv)
      have hk' : T.vm.classes[gA G ti]? = some kA := hkA
      rw [g3]
      simpa [State.fitsSlot, State.slotType?, hk', hkind, ← e1] using hfit i hi)
    (g := F0 m pc ls (.ref a :: st)) rfl (by rw [C.2.2.1]; exact hl.1) rfl (by rw [C.2.1]; exact hd) hr.1 (by show 2 * 0 + _ + 14 ≤ P.1.2.1; have := hr.2; omega) hc (by rw [g7]; exact hs) (hloader := by rw [g3]; exact Vm.clonesLoader_of_array hkS hkindS)
  rw [g7] at X'
  have hi0 := hR.inv
  have hz : H.size = h.1 := hR.1
  obtain ⟨t, b1, b2⟩ := k (hnew h (har ti N f)) h.1 hi0.1 hN1.new p l e s m args below meth c C (H.push { cls := cell.cls, slots := cell.slots }) locs ls (hR.new ⟨_, { cls := cell.cls, slots := cell.slots }, ht, by rw [← hz]; exact Array.getElem?_push_size, g3, (fun z => by cases z), rfl, fun _ => rfl, g7, g8⟩ (by rw [Array.size_push, hz]) (fun q hq => by rw [Array.getElem?_push, if_neg (by omega)])) hl hf ((T.setVm vm').pushCell { cls := cell.cls, slots := cell.slots }) (by rw [← hT]; rfl) X'
  refine ⟨t, st1 t ?_, b2⟩
  rw [hT, hz]
  exact b1
end
