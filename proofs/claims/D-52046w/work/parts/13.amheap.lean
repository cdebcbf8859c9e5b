/-! AW rows that touch the heap, calls, ends; a contract out of a walk. -/
section
set_option maxRecDepth 100000
theorem hAt.kept {G : aG} {a : Nat} {e : hE} {H H1 : Heap} (h : hAt G a e H) (hq : H1[a]? = H[a]?) : hAt G a e H1 := by
  cases e with
  | inl o =>
    obtain ⟨r, cell, h1, h2, h3⟩ := h
    exact ⟨r, cell, h1, hq.trans h2, h3⟩
  | inr x =>
    obtain ⟨r, cell, h1, h2, h3⟩ := h
    exact ⟨r, cell, h1, hq.trans h2, h3⟩
theorem hAt.lt {G : aG} {a : Nat} {e : hE} {H : Heap} (h : hAt G a e H) : a < H.size := by
  cases e with
  | inl o =>
    obtain ⟨r, cell, h1, h2, h3⟩ := h
    exact (Array.getElem?_eq_some_iff.mp h2).1
  | inr x =>
    obtain ⟨r, cell, h1, h2, h3⟩ := h
    exact (Array.getElem?_eq_some_iff.mp h2).1
theorem hRep.inv {G : aG} {h : hH} {H : Heap} (R : hRep G h H) : hInv G h := ⟨R.2.1, fun a e q => by rw [← R.1]; exact (R.2.2.1 a e q).lt, R.2.2.2.2⟩
theorem hRep.set {G : aG} {h : hH} {H H1 : Heap} {a : Nat} {e : hE} (R : hRep G h H) (ha : gB G ≤ a) (he : hAt G a e H1) (z : H1.size = H.size) (o : ∀ q : Nat, q ≠ a → H1[q]? = H[q]?) : hRep G (hset h a e) H1 := by
  obtain ⟨r1, r2, r3, r4, r5⟩ := R
  refine ⟨z.trans r1, r2, fun q e' hq => ?_, fun q hq => ?_, fun q hq => ?_⟩
  · by_cases hqa : q = a
    · subst hqa
      simp only [hset, if_pos] at hq
      cases hq
      exact he
    · simp only [hset, if_neg hqa] at hq
      exact (r3 q e' hq).kept (o q hqa)
  · rw [o q (by omega)]
    exact r4 q hq
  · simp only [hset]
    rw [if_neg (by omega)]
    exact r5 q hq
theorem hRep.new {G : aG} {h : hH} {H H1 : Heap} {e : hE} (R : hRep G h H) (he : hAt G h.1 e H1) (z : H1.size = h.1 + 1) (o : ∀ q : Nat, q < h.1 → H1[q]? = H[q]?) : hRep G (hnew h e) H1 := by
  obtain ⟨r1, r2, r3, r4, r5⟩ := R
  refine ⟨z, by show gB G ≤ h.1 + 1; omega, fun q e' hq => ?_, fun q hq => ?_, fun q hq => ?_⟩
  · by_cases hqa : q = h.1
    · subst hqa
      simp only [hnew, if_pos] at hq
      cases hq
      exact he
    · simp only [hnew, if_neg hqa] at hq
      have hl := (r3 q e' hq).lt
      exact (r3 q e' hq).kept (o q (by omega))
  · rw [o q (by omega)]
    exact r4 q hq
  · simp only [hnew]
    rw [if_neg (by omega)]
    exact r5 q hq
theorem gSl.moved {u U : State} {O f d : String} {i : Nat} (hvm : u.vm.Alike U.vm) (h : gSl u O f d i) : gSl U O f d i := by
  obtain ⟨cf, kf, fi, fd, h1, h2, h3⟩ := h
  obtain ⟨kf', hi', -⟩ := State.fieldFound?_setVm hvm h1
  exact ⟨cf, kf', fi, fd, hi', h2, h3⟩
theorem gK.moved {G : aG} {u U : State} (hvm : u.vm.Alike U.vm) (h : gK G u) : gK G U := by
  refine ⟨fun c q hq => ?_, fun t ty ht => ⟨arrOfT_moved hvm (h.2 t ty ht).1, (h.2 t ty ht).2.moved hvm⟩⟩
  obtain ⟨h1, h2, kC, h3⟩ := h.1 c q hq
  obtain ⟨k', hk', -⟩ := hvm.2.2 _ _ h3
  exact ⟨fun k hk => (h1 k hk).moved hvm, by rw [hvm.findClass]; exact h2, k', hk'⟩
theorem isArr {s : State} {cA : ClassId} {ty : FieldType} {cell : Cell} (h : ArrOfT s cA ty) (hc : cell.cls = cA) (hs : cell.vm.isStatics = false) : s.isArrayOf cell ty := by
  obtain ⟨-, k, hk, comp, hkind⟩ := h 0 (fun _ => .null)
  exact ⟨fun q e => (by rw [e] at hs; cases hs), k, (by rw [hc]; exact hk), comp, hkind⟩
section
variable {G : aG} {K : aK} {p : Program} {l : Launch} {s : State} {m : MethodId} {args : Array Value} {meth : Method} {c : Code}
theorem aCx.own (C : aCx G K p l s m args meth c) : s.vm.findClass K.1.cls = some m.cls := C.2.2.2.2.2.2.2.1
theorem aCx.ts (C : aCx G K p l s m args meth c) : ∀ w ∈ lw_all, w.before args s = true := C.2.2.2.2.2.2.2.2.1
theorem aCx.wm (C : aCx G K p l s m args meth c) : (gS G).WarmedH s.vm := C.2.2.2.2.2.2.2.2.2.1
theorem aCx.ns (C : aCx G K p l s m args meth c) : l.stackTraces = false := C.2.2.2.2.2.2.2.2.2.2.1
theorem aCx.gd (C : aCx G K p l s m args meth c) : GoodG G := C.2.2.2.2.2.2.2.2.2.2.2.1
theorem aCx.h0 (C : aCx G K p l s m args meth c) : ∃ h0 : hH, hRep G h0 s.heap := C.2.2.2.2.2.2.2.2.2.2.2.2
theorem aCx.tb (C : aCx G K p l s m args meth c) : c.exceptionTable.toList = tableOf K.2.2.2.2 := C.2.2.2.2.2.2.1
theorem aCx.lk (C : aCx G K p l s m args meth c) : meth.locks = false := C.2.2.2.2.2.1
theorem aCx.nm (C : aCx G K p l s m args meth c) : meth.name = K.1.name := C.2.2.2.2.1
theorem aCx.rt (C : aCx G K p l s m args meth c) : meth.sig.returnType = K.2.2.2.1 := C.2.2.2.1
theorem aCx.k (C : aCx G K p l s m args meth c) : gK G s := C.gd.1.moved C.wm.alike
/-- any word of the tables, in a method's walk -/
theorem aCx.w (C : aCx G K p l s m args meth c) {w : Cond} (h : w ∈ lw_tbl) (hw : (w.onTables && w.keeps) = true) : w.before args s = true := by
  obtain ⟨b, hb⟩ := C.gd.2.1
  exact word_at C.wm (Or.inl hw) (hb w h)
end
variable {G : aG} {K : aK} {P : aP} {pc n : Nat} {lv lv' : List (Nat × Value)} {st st' : List Value} {h h' : hH} {ce sl : Nat}
/-- what every heap of a run has, and what the constants are, may be asked at any place -/
theorem aw_know (k : GoodG G → hInv G h → AW G K P pc lv st h ce sl) : AW G K P pc lv st h ce sl := by
  intro p l e s m args below meth c C H locs ls hR hl hf
  exact k C.gd hR.inv p l e s m args below meth c C H locs ls hR hl hf
theorem AW.lvs (k : AW G K P pc lv' st h ce sl) (hs : ∀ q ∈ lv', q ∈ lv) : AW G K P pc lv st h ce sl := by
  intro p l e s m args below meth c C H locs ls hR hl hf
  exact k p l e s m args below meth c C H locs ls hR ⟨hl.1, hl.2.1, fun q hq => hl.2.2 q (hs q hq)⟩ hf
theorem AW.sts (e : st = st') (k : AW G K P pc lv st' h ce sl) : AW G K P pc lv st h ce sl := e ▸ k
theorem AW.eq {lv1 lv2 : List (Nat × Value)} {s1 s2 : List Value} {h1 h2 : hH} {c1 c2 d1 d2 : Nat} (e1 : lv1 = lv2) (e2 : s1 = s2) (e3 : h1 = h2) (e4 : c1 = c2) (e5 : d1 = d2) (k : AW G K P pc lv2 s2 h2 c2 d2) : AW G K P pc lv1 s1 h1 c1 d1 := by
  subst e1; subst e2; subst e3; subst e4; subst e5; exact k
theorem AW.wide {ce' sl' : Nat} (h1 : ce ≤ ce') (h2 : sl ≤ sl') (k : AW G K P pc lv st h ce' sl') : AW G K P pc lv st h ce sl := by
  intro p l e s m args below meth c C H locs ls hR hl hf
  exact W.widen h1 h2 (k p l e s m args below meth c C H locs ls hR hl hf)
theorem aw_getf {idx a ci N : Nat} {fs : List Value} {v : Value} {C0 : String} {T : u_T} {ref : String} (hd : decode K.2.1 pc = .ok (.getfield idx, 3)) (hT : clT[ci]? = some (C0, T, N)) (j : Nat) (hlink : Cond.fieldLink K.1.cls idx ref (T j).2.1 (T j).2.2.1 ∈ lw_all) (hsame : (T j).1 = ref ∨ Cond.sameField ref (T j).1 (T j).2.1 (T j).2.2.1 ∈ lw_all) (hg : h.2 a = some (hob ci fs)) (hv : fs[j]? = some v) (hn : pc + 3 = n) (k : AW G K P n lv (v :: st) h ce sl) : AW G K P pc lv (.ref a :: st) h ce sl := by
  intro p l e s m args below meth c C H locs ls hR hl hf
  subst hn
  obtain ⟨r, cell, g1, g2, g3, g4, g5, g6, g7⟩ := hR.2.2.1 a _ hg
  have hr : r = (C0, T, N) := Option.some.inj (g1.symm.trans hT)
  subst hr
  obtain ⟨hj, hs⟩ := g7 j v hv
  obtain ⟨f1, f2, kC, f3⟩ := C.k.1 ci _ hT
  obtain ⟨cf, kf, fi, fd, i1, i2, i3⟩ := f1 j hj
  have hi : s.fieldFound? ref (T j).2.1 (T j).2.2.1 = some (cf, kf, fi, fd) := by
    rcases hsame with e1 | e1
    · rw [← e1]; exact i1
    · exact u_same (C.ts _ e1) _ i1
  exact W.getf C.1 C.2.1 C.own (C.ts _ hlink) hi i3 g2 g4 (by rw [i2]; exact hs) rfl rfl hd (k p l e s m args below meth c C H locs ls hR hl hf)
theorem putf_at {s : State} {args : Array Value} {C : String} {T : u_T} {N : Nat} {iS : Nat → Nat} (hts : ∀ w ∈ lw_all, w.before args s = true) (hin : ∀ w ∈ u_ws C T N, w ∈ lw_all) (ty : Nat → FieldType) (hty : ∀ k, k < N → parseFieldDescriptor (T k).2.2.1 = some (ty k)) (hnm : ∀ a, a < N → ∀ b, b < N → a ≠ b → (T a).2.1 ≠ (T b).2.1)
    (f1 : ∀ k, k < N → gSl s (T k).1 (T k).2.1 (T k).2.2.1 (iS k)) : ∀ x y, x < N → y < N → x ≠ y → iS x ≠ iS y := by
  intro x y hx hy hne
  obtain ⟨_, _, _, fa, hia, ea, -⟩ := f1 x hx
  obtain ⟨_, _, _, fb, hib, eb, -⟩ := f1 y hy
  rw [← ea, ← eb]
  refine u_apart (u_lays hts hin hx) (u_lays hts hin hy) hia hib ?_
  rw [(State.fieldFound?_type hia (hty x hx)).1, (State.fieldFound?_type hib (hty y hy)).1]
  exact hnm x hx y hy hne
theorem putf_cell {cell : Cell} {N j : Nat} {iS : Nat → Nat} {fs : List Value} {v : Value} (g7 : ∀ (k : Nat) (v : Value), fs[k]? = some v → k < N ∧ cell.slots[iS k]? = some v) (hap : ∀ x y, x < N → y < N → x ≠ y → iS x ≠ iS y) (hj : j < N) (hlt : iS j < cell.slots.size) : ∀ (k : Nat) (w : Value), (fs.set j v)[k]? = some w → k < N ∧ (cell.setSlot (iS j) v).slots[iS k]? = some w := by
  intro k w hw
  by_cases hk : k = j
  · subst hk
    have hl : k < fs.length := by
      have := (List.getElem?_eq_some_iff.mp hw).1
      simpa using this
    rw [List.getElem?_set_self hl] at hw
    cases hw
    exact ⟨hj, by simp [Cell.setSlot, hlt]⟩
  · rw [List.getElem?_set_ne (Ne.symm hk)] at hw
    obtain ⟨h1, h2⟩ := g7 k w hw
    refine ⟨h1, ?_⟩
    have hne := hap j k hj h1 (Ne.symm hk)
    rw [← h2]
    simp only [Cell.setSlot, Array.set!_eq_setIfInBounds]
    rw [Array.getElem?_setIfInBounds_ne hne]
theorem aw_putf {idx a ci N n0 : Nat} {fs : List Value} {v : Value} {C0 : String} {T : u_T} {ref : String} {ty : FieldType} (hd : decode K.2.1 pc = .ok (.putfield idx, 3)) (hT : clT[ci]? = some (C0, T, N)) (hin : ∀ w ∈ u_ws C0 T N, w ∈ lw_all) (ty0 : Nat → FieldType) (hty : ∀ k, k < N → parseFieldDescriptor (T k).2.2.1 = some (ty0 k)) (hnm : ∀ a, a < N → ∀ b, b < N → a ≠ b → (T a).2.1 ≠ (T b).2.1) (hinst : Cond.instantiable C0 n0 ∈ lw_all) (j : Nat) (hj : j < N) (hlink : Cond.fieldLink K.1.cls idx ref (T j).2.1 (T j).2.2.1 ∈ lw_all) (hsame : (T j).1 = ref ∨ Cond.sameField ref (T j).1 (T j).2.1 (T j).2.2.1 ∈ lw_all)
    (hfin : (T j).2.2.2 = false ∨ ((T j).2.2.2 = true ∧ K.1.name = "<init>" ∧ (T j).1 = K.1.cls)) (ht : parseFieldDescriptor (T j).2.2.1 = some ty) (hg : h.2 a = some (hob ci fs)) (hb : gB G ≤ a) (hw : narrow ty v = v) (hv : fits ty v = true) (hlen : j < fs.length) (hn : pc + 3 = n) (k : AW G K P n lv st (hset h a (hob ci (fs.set j v))) ce sl) : AW G K P pc lv (v :: .ref a :: st) h ce sl := by
  intro p l e s m args below meth c C H locs ls hR hl hf
  subst hn
  obtain ⟨r, cell, g1, g2, g3, g4, g5, g6, g7⟩ := hR.2.2.1 a _ hg
  have hr : r = (C0, T, N) := Option.some.inj (g1.symm.trans hT)
  subst hr
  obtain ⟨v0, hv0⟩ : ∃ v0, fs[j]? = some v0 := ⟨_, List.getElem?_eq_getElem hlen⟩
  obtain ⟨-, hs⟩ := g7 j v0 hv0
  obtain ⟨f1, f2, kC0, f3⟩ := C.k.1 ci _ hT
  have hap := putf_at C.ts hin ty0 hty hnm f1
  obtain ⟨cf, kf, fi, fd, i1, i2, i3⟩ := f1 j hj
  have hi : s.fieldFound? ref (T j).2.1 (T j).2.2.1 = some (cf, kf, fi, fd) := by
    rcases hsame with e1 | e1
    · rw [← e1]; exact i1
    · exact u_same (C.ts _ e1) _ i1
  obtain ⟨cC, kC, q1, q2, q3, -⟩ := Cond.instantiable_spec (C.ts _ hinst)
  cases f2.symm.trans q1
  have hlt : gI G ci j < cell.slots.size := k2_hasslot hs
  have hvm0 := g6 hb
  have key : ∀ H' : Heap, H'[a]? = some (cell.setSlot fd.slot v) → H'.size = H.size → (∀ q, q ≠ a → H'[q]? = H[q]?) → W p l e (aR P) s m args below meth c H' (locs ++ [⟨a, fd.slot⟩]) ce sl (vx_MQ below (cQ G P.2.1) (cX G P.2.2) args s P.1.2.2.1 P.1.2.2.2 (fB G)) (F0 m (pc + 3) ls st) := by
    intro H' e1 e2 e3
    rw [i2] at e1
    refine k p l e s m args below meth c C H' _ ls (hR.set hb ⟨_, _, g1, e1, g3, g4, g5, g6, putf_cell g7 hap hj hlt⟩ e2 e3) hl (fun q hq => ?_)
    rcases List.mem_append.mp hq with h1 | h1
    · exact hf q h1
    · rw [List.mem_singleton.mp h1]; exact hb
  rcases hfin with hfin | ⟨hfin, hname, hcls⟩
  · have hlay := C.ts _ (hin _ (u_in_lay hj))
    unfold u_lay at hlay
    rw [if_neg (by rw [hfin]; decide)] at hlay
    have h6 := u_store q1 q2 q3 hlay i1 ht hw hv
    exact W.putK C.1 C.2.1 (f := fd) ⟨C.own, C.ts _ hlink, ⟨_, _, _, hi⟩, i3⟩ (by rw [g3]; exact h6) g2 hvm0 (by rw [i2]; exact hlt) rfl rfl hd key
  · have hlay := C.ts _ (hin _ (u_in_lay hj))
    unfold u_lay at hlay
    rw [if_pos hfin] at hlay
    have hcf : m.cls = cf := by
      obtain ⟨_, _, c', _, _, _, -, -, hf', -, -, -, hown2, -⟩ := Cond.laysFinal_spec hlay
      have e1 : c' = cf := by have := i1.symm.trans hf'; simp at this; exact this.1.symm
      rw [hcls] at hown2
      rw [← e1]; exact Option.some.inj (C.own.symm.trans hown2)
    have h6 := u_fits q1 q2 q3 (Or.inr hlay) i1 ht hw hv
    exact W.putFinK C.1 C.2.1 C.own (C.ts _ hlink) hi i3 hcf (C.nm.trans hname) (by rw [g3]; exact h6) g2 hvm0 (by rw [i2]; exact hlt) rfl rfl hd key
theorem aw_gets {idx : Nat} {ref C0 n0 d0 : String} {v : Value} (hd : decode K.2.1 pc = .ok (.getstatic idx, 3)) (i : Nat) (hs : stT[i]? = some (C0, n0, d0)) (hlink : Cond.fieldLink K.1.cls idx ref n0 d0 ∈ lw_all) (hr : C0 = ref) (hv : gV G i = v) (hn : pc + 3 = n) (k : AW G K P n lv (v :: st) h ce sl) : AW G K P pc lv st h ce sl := by
  intro p l e s m args below meth c C H locs ls hR hl hf
  subst hn; subst hr; subst hv
  obtain ⟨cf, kf, fi, f, a, cell, h1, h2, h3, h4, h5, h6, h7, h8⟩ := va_Z.moved C.wm.alike (C.gd.2.2.1 i _ hs)
  have ha : a < gB G := (Array.getElem?_eq_some_iff.mp h5).1
  exact W.gets C.1 C.2.1 C.own (C.ts _ hlink) h1 h2 h3 h4 (by rw [hR.2.2.2.1 a ha]; exact h5) (fun e => by rw [e] at h6; cases h6) h7 rfl hd (k p l e s m args below meth c C H locs ls hR hl hf)
theorem aw_ldcS {idx q : Nat} {tx : String} (hd : decode K.2.1 pc = .ok (.ldc idx, 2)) (i : Nat) (hs : srT[i]? = some (K.1.cls, idx, tx, q)) (hn : pc + 2 = n) (k : AW G K P n lv (.ref (gT G q) :: st) h ce sl) : AW G K P pc lv st h ce sl := by
  intro p l e s m args below meth c C H locs ls hR hl hf
  subst hn
  exact va_ldcS C.1 C.2.1 C.own (vk_R.warm C.wm (C.gd.2.2.2.1 i _ hs)) hd (k p l e s m args below meth c C H locs ls hR hl hf)
theorem aw_ldcI {idx : Nat} {v : Int32} (hd : decode K.2.1 pc = .ok (.ldc idx, 2)) (hc : Cond.constant K.1.cls idx v ∈ lw_all) (hn : pc + 2 = n) (k : AW G K P n lv (.int v :: st) h ce sl) : AW G K P pc lv st h ce sl := by
  intro p l e s m args below meth c C H locs ls hR hl hf
  subst hn
  exact lv_ldc C.1 C.2.1 C.own (C.ts _ hc) hd (k p l e s m args below meth c C H locs ls hR hl hf)
theorem aw_ldcwI {idx : Nat} {v : Int32} (hd : decode K.2.1 pc = .ok (.ldc_w idx, 3)) (hc : Cond.constant K.1.cls idx v ∈ lw_all) (hn : pc + 3 = n) (k : AW G K P n lv (.int v :: st) h ce sl) : AW G K P pc lv st h ce sl := by
  intro p l e s m args below meth c C H locs ls hR hl hf
  subst hn
  exact lv_ldcw C.1 C.2.1 C.own (C.ts _ hc) hd (k p l e s m args below meth c C H locs ls hR hl hf)
theorem aw_ldc2 {idx : Nat} {v : Int64} (hd : decode K.2.1 pc = .ok (.ldc2_w idx, 3)) (hc : Cond.constantLong K.1.cls idx v ∈ lw_all) (hn : pc + 3 = n) (k : AW G K P n lv (.long v :: st) h ce sl) : AW G K P pc lv st h ce sl := by
  intro p l e s m args below meth c C H locs ls hR hl hf
  subst hn
  exact lv_ldc2 C.1 C.2.1 C.own (C.ts _ hc) hd (k p l e s m args below meth c C H locs ls hR hl hf)
theorem arr_in {j N : Nat} {i : Int32} (hi : i = nI j) (hj : j < N) (h31 : N < 2 ^ 31) : ¬ (i < 0 ∨ N ≤ i.toNatClampNeg) ∧ i.toNatClampNeg = j := by
  subst hi
  exact ⟨nI_in hj h31, nI_clamp (by omega)⟩
theorem aw_iald {a ti N : Nat} {f : Nat → Value} {i : Int32} {v : Value} (hd : decode K.2.1 pc = .ok (.iaload, 1)) (ht : arT[ti]? = some .int) (j : Nat) (hi : i = nI j) (hg : h.2 a = some (har ti N f)) (hj : j < N) (h31 : N < 2 ^ 31) (hv : f j = v) (hn : pc + 1 = n) (k : AW G K P n lv (v :: st) h ce sl) : AW G K P pc lv (.int i :: .ref a :: st) h ce sl := by
  intro p l e s m args below meth c C H locs ls hR hl hf
  subst hn
  obtain ⟨ty, cell, g1, g2, g3, g4, g5, g6, g7, g8⟩ := hR.2.2.1 a _ hg
  dsimp only at g1 g3 g7 g8
  cases g1.symm.trans ht
  have hA := isArr (C.k.2 ti _ ht).1 g3 g5
  obtain ⟨q1, q2⟩ := arr_in hi hj h31
  exact W.iald C.1 C.2.1 g2 hA g4 (by rw [g7]; exact q1) (by rw [q2, g8 j hj, hv]) rfl rfl hd (k p l e s m args below meth c C H locs ls hR hl hf)
theorem aw_lald {a ti N : Nat} {f : Nat → Value} {i : Int32} {v : Value} (hd : decode K.2.1 pc = .ok (.laload, 1)) (ht : arT[ti]? = some .long) (j : Nat) (hi : i = nI j) (hg : h.2 a = some (har ti N f)) (hj : j < N) (h31 : N < 2 ^ 31) (hv : f j = v) (hn : pc + 1 = n) (k : AW G K P n lv (v :: st) h ce sl) : AW G K P pc lv (.int i :: .ref a :: st) h ce sl := by
  intro p l e s m args below meth c C H locs ls hR hl hf
  subst hn
  obtain ⟨ty, cell, g1, g2, g3, g4, g5, g6, g7, g8⟩ := hR.2.2.1 a _ hg
  dsimp only at g1 g3 g7 g8
  cases g1.symm.trans ht
  have hA := isArr (C.k.2 ti _ ht).1 g3 g5
  obtain ⟨q1, q2⟩ := arr_in hi hj h31
  exact W.lald C.1 C.2.1 g2 hA g4 (by rw [g7]; exact q1) (by rw [q2, g8 j hj, hv]) rfl rfl hd (k p l e s m args below meth c C H locs ls hR hl hf)
theorem aw_bald {a ti N : Nat} {f : Nat → Value} {i : Int32} {v : Value} (hd : decode K.2.1 pc = .ok (.baload, 1)) (ht : arT[ti]? = some .byte) (j : Nat) (hi : i = nI j) (hg : h.2 a = some (har ti N f)) (hj : j < N) (h31 : N < 2 ^ 31) (hv : f j = v) (hn : pc + 1 = n) (k : AW G K P n lv (v :: st) h ce sl) : AW G K P pc lv (.int i :: .ref a :: st) h ce sl := by
  intro p l e s m args below meth c C H locs ls hR hl hf
  subst hn
  obtain ⟨ty, cell, g1, g2, g3, g4, g5, g6, g7, g8⟩ := hR.2.2.1 a _ hg
  dsimp only at g1 g3 g7 g8
  cases g1.symm.trans ht
  have hA := isArr (C.k.2 ti _ ht).1 g3 g5
  obtain ⟨q1, q2⟩ := arr_in hi hj h31
  exact W.bald C.1 C.2.1 g2 hA g4 (by rw [g7]; exact q1) (by rw [q2, g8 j hj, hv]) rfl rfl hd (k p l e s m args below meth c C H locs ls hR hl hf)
theorem aw_aald {a ti N : Nat} {f : Nat → Value} {i : Int32} {v : Value} {ty0 : FieldType} (hd : decode K.2.1 pc = .ok (.aaload, 1)) (ht : arT[ti]? = some ty0) (hty : ty0.isReference = true) (j : Nat) (hi : i = nI j) (hg : h.2 a = some (har ti N f)) (hj : j < N) (h31 : N < 2 ^ 31) (hv : f j = v) (hn : pc + 1 = n) (k : AW G K P n lv (v :: st) h ce sl) : AW G K P pc lv (.int i :: .ref a :: st) h ce sl := by
  intro p l e s m args below meth c C H locs ls hR hl hf
  subst hn
  obtain ⟨ty, cell, g1, g2, g3, g4, g5, g6, g7, g8⟩ := hR.2.2.1 a _ hg
  dsimp only at g1 g3 g7 g8
  cases g1.symm.trans ht
  have hA := isArr (C.k.2 ti _ ht).1 g3 g5
  obtain ⟨q1, q2⟩ := arr_in hi hj h31
  exact W.aald C.1 C.2.1 g2 hA hty g4 (by rw [g7]; exact q1) (by rw [q2, g8 j hj, hv]) rfl rfl hd (k p l e s m args below meth c C H locs ls hR hl hf)
theorem aw_dald {a ti N : Nat} {f : Nat → Value} {i : Int32} {v : Value} (hd : decode K.2.1 pc = .ok (.daload, 1)) (ht : arT[ti]? = some .double) (j : Nat) (hi : i = nI j) (hg : h.2 a = some (har ti N f)) (hj : j < N) (h31 : N < 2 ^ 31) (hv : f j = v) (hn : pc + 1 = n) (k : AW G K P n lv (v :: st) h ce sl) : AW G K P pc lv (.int i :: .ref a :: st) h ce sl := by
  intro p l e s m args below meth c C H locs ls hR hl hf
  subst hn
  obtain ⟨ty, cell, g1, g2, g3, g4, g5, g6, g7, g8⟩ := hR.2.2.1 a _ hg
  dsimp only at g1 g3 g7 g8
  cases g1.symm.trans ht
  have hA := isArr (C.k.2 ti _ ht).1 g3 g5
  obtain ⟨q1, q2⟩ := arr_in hi hj h31
  exact W.dald C.1 C.2.1 g2 hA g4 (by rw [g7]; exact q1) (by rw [q2, g8 j hj, hv]) rfl rfl hd (k p l e s m args below meth c C H locs ls hR hl hf)
theorem arr_st {G : aG} {h : hH} {H H1 : Heap} {a ti N j : Nat} {f : Nat → Value} {v : Value} {cell : Cell} {ty : FieldType} (hR : hRep G h H) (hb : gB G ≤ a) (hj : j < N) (g1 : arT[ti]? = some ty) (g3 : cell.cls = gA G ti) (g4 : cell.vm ≠ .unknown) (g5 : cell.vm.isStatics = false) (g6 : gB G ≤ a → cell.vm = .none) (g7 : cell.slots.size = N) (g8 : ∀ j : Nat, j < N → cell.slots[j]? = some (f j)) (e1 : H1[a]? = some (cell.setSlot j v)) (z : H1.size = H.size) (o : ∀ q : Nat, q ≠ a → H1[q]? = H[q]?) : hRep G (hset h a (har ti N (updV f j v))) H1 := by
  refine hR.set hb ⟨ty, _, g1, e1, g3, g4, g5, g6, by simp [Cell.setSlot, g7], fun i hi => ?_⟩ z o
  by_cases hij : i = j
  · subst hij
    simp [Cell.setSlot, updV, g7, hj]
  · simp only [Cell.setSlot, updV, Array.set!_eq_setIfInBounds]
    rw [Array.getElem?_setIfInBounds_ne (Ne.symm hij), if_neg hij]
    exact g8 i hi
theorem aw_iast {a ti N : Nat} {f f' : Nat → Value} {i : Int32} {x : Int32} (hd : decode K.2.1 pc = .ok (.iastore, 1)) (ht : arT[ti]? = some .int) (j : Nat) (hi : i = nI j) (hg : h.2 a = some (har ti N f)) (hb : gB G ≤ a) (hj : j < N) (h31 : N < 2 ^ 31) (hf' : updV f j (.int x) = f') (hn : pc + 1 = n) (k : AW G K P n lv st (hset h a (har ti N f')) ce sl) : AW G K P pc lv (.int x :: .int i :: .ref a :: st) h ce sl := by
  intro p l e s m args below meth c C H locs ls hR hl hf
  subst hn; subst hf'
  obtain ⟨ty, cell, g1, g2, g3, g4, g5, g6, g7, g8⟩ := hR.2.2.1 a _ hg
  dsimp only at g1 g3 g7 g8
  cases g1.symm.trans ht
  have hA := isArr (C.k.2 ti _ ht).1 g3 g5
  obtain ⟨q1, q2⟩ := arr_in hi hj h31
  refine W.iast C.1 C.2.1 g2 hA g4 (by rw [g7]; exact q1) rfl rfl hd fun H' e1 e2 e3 => ?_
  rw [q2] at e1 ⊢
  refine k p l e s m args below meth c C H' _ ls (arr_st hR hb hj ht g3 g4 g5 g6 g7 g8 e1 e2 e3) hl (fun q hq => ?_)
  rcases List.mem_append.mp hq with h1 | h1
  · exact hf q h1
  · rw [List.mem_singleton.mp h1]; exact hb
theorem aw_last {a ti N : Nat} {f f' : Nat → Value} {i : Int32} {x : Int64} (hd : decode K.2.1 pc = .ok (.lastore, 1)) (ht : arT[ti]? = some .long) (j : Nat) (hi : i = nI j) (hg : h.2 a = some (har ti N f)) (hb : gB G ≤ a) (hj : j < N) (h31 : N < 2 ^ 31) (hf' : updV f j (.long x) = f') (hn : pc + 1 = n) (k : AW G K P n lv st (hset h a (har ti N f')) ce sl) : AW G K P pc lv (.long x :: .int i :: .ref a :: st) h ce sl := by
  intro p l e s m args below meth c C H locs ls hR hl hf
  subst hn; subst hf'
  obtain ⟨ty, cell, g1, g2, g3, g4, g5, g6, g7, g8⟩ := hR.2.2.1 a _ hg
  dsimp only at g1 g3 g7 g8
  cases g1.symm.trans ht
  have hA := isArr (C.k.2 ti _ ht).1 g3 g5
  obtain ⟨q1, q2⟩ := arr_in hi hj h31
  refine W.last C.1 C.2.1 g2 hA g4 (by rw [g7]; exact q1) rfl rfl hd fun H' e1 e2 e3 => ?_
  rw [q2] at e1 ⊢
  refine k p l e s m args below meth c C H' _ ls (arr_st hR hb hj ht g3 g4 g5 g6 g7 g8 e1 e2 e3) hl (fun q hq => ?_)
  rcases List.mem_append.mp hq with h1 | h1
  · exact hf q h1
  · rw [List.mem_singleton.mp h1]; exact hb
theorem aw_bast {a ti N : Nat} {f f' : Nat → Value} {i : Int32} {x : Int32} (hd : decode K.2.1 pc = .ok (.bastore, 1)) (ht : arT[ti]? = some .byte) (j : Nat) (hi : i = nI j) (hg : h.2 a = some (har ti N f)) (hb : gB G ≤ a) (hj : j < N) (h31 : N < 2 ^ 31) (hf' : updV f j (.int x.toInt8.toInt32) = f') (hn : pc + 1 = n) (k : AW G K P n lv st (hset h a (har ti N f')) ce sl) : AW G K P pc lv (.int x :: .int i :: .ref a :: st) h ce sl := by
  intro p l e s m args below meth c C H locs ls hR hl hf
  subst hn; subst hf'
  obtain ⟨ty, cell, g1, g2, g3, g4, g5, g6, g7, g8⟩ := hR.2.2.1 a _ hg
  dsimp only at g1 g3 g7 g8
  cases g1.symm.trans ht
  have hA := isArr (C.k.2 ti _ ht).1 g3 g5
  obtain ⟨q1, q2⟩ := arr_in hi hj h31
  refine W.bast C.1 C.2.1 g2 hA g4 (by rw [g7]; exact q1) rfl rfl hd fun H' e1 e2 e3 => ?_
  rw [q2] at e1 ⊢
  refine k p l e s m args below meth c C H' _ ls (arr_st hR hb hj ht g3 g4 g5 g6 g7 g8 e1 e2 e3) hl (fun q hq => ?_)
  rcases List.mem_append.mp hq with h1 | h1
  · exact hf q h1
  · rw [List.mem_singleton.mp h1]; exact hb
theorem aw_dast {a ti N : Nat} {f f' : Nat → Value} {i : Int32} {x : UInt64} (hd : decode K.2.1 pc = .ok (.dastore, 1)) (ht : arT[ti]? = some .double) (j : Nat) (hi : i = nI j) (hg : h.2 a = some (har ti N f)) (hb : gB G ≤ a) (hj : j < N) (h31 : N < 2 ^ 31) (hf' : updV f j (.double x) = f') (hn : pc + 1 = n) (k : AW G K P n lv st (hset h a (har ti N f')) ce sl) : AW G K P pc lv (.double x :: .int i :: .ref a :: st) h ce sl := by
  intro p l e s m args below meth c C H locs ls hR hl hf
  subst hn; subst hf'
  obtain ⟨ty, cell, g1, g2, g3, g4, g5, g6, g7, g8⟩ := hR.2.2.1 a _ hg
  dsimp only at g1 g3 g7 g8
  cases g1.symm.trans ht
  have hA := isArr (C.k.2 ti _ ht).1 g3 g5
  obtain ⟨q1, q2⟩ := arr_in hi hj h31
  refine W.dast C.1 C.2.1 g2 hA g4 (by rw [g7]; exact q1) rfl rfl hd fun H' e1 e2 e3 => ?_
  rw [q2] at e1 ⊢
  refine k p l e s m args below meth c C H' _ ls (arr_st hR hb hj ht g3 g4 g5 g6 g7 g8 e1 e2 e3) hl (fun q hq => ?_)
  rcases List.mem_append.mp hq with h1 | h1
  · exact hf q h1
  · rw [List.mem_singleton.mp h1]; exact hb
theorem aw_alen {a ti N : Nat} {f : Nat → Value} {ty0 : FieldType} {v : Int32} (hd : decode K.2.1 pc = .ok (.arraylength, 1)) (ht : arT[ti]? = some ty0) (hg : h.2 a = some (har ti N f)) (hv : nI N = v) (hn : pc + 1 = n) (k : AW G K P n lv (.int v :: st) h ce sl) : AW G K P pc lv (.ref a :: st) h ce sl := by
  intro p l e s m args below meth c C H locs ls hR hl hf
  subst hn
  obtain ⟨ty, cell, g1, g2, g3, g4, g5, g6, g7, g8⟩ := hR.2.2.1 a _ hg
  dsimp only at g1 g3 g7 g8
  cases g1.symm.trans ht
  exact W.alen C.1 C.2.1 g2 (isArr (C.k.2 ti _ ht).1 g3 g5) (n := v) (by rw [g7, ← hv]; rfl) rfl rfl hd (k p l e s m args below meth c C H locs ls hR hl hf)
theorem aw_newa {ti N : Nat} {i : Int32} {atype : ArrayType} {ty : FieldType} {v : Value} (hd : decode K.2.1 pc = .ok (.newarray atype, 2)) (ht : arT[ti]? = some ty) (hty : newarray.typeOf atype = ty) (hnr : ty.isReference = false) (hw : Cond.arrayClass ty ∈ lw_all) (hv : defaultValue ty = v) (hi : i = nI N) (hN : N * componentBytes ty ≤ 536870912) (h31 : N < 2 ^ 31) (hc : ce + 1 ≤ P.1.2.2.1) (hs : sl + N ≤ P.1.2.2.2) (hn : pc + 2 = n) (k : AW G K P n lv (.ref h.1 :: st) (hnew h (har ti N (fun _ => v))) (ce + 1) (sl + N)) : AW G K P pc lv (.int i :: st) h ce sl := by
  intro p l e s m args below meth c C H locs ls hR hl hf
  subst hn; subst hty; subst hv; subst hi
  refine va_newaK C.1 C.2.1 (C.ts _ hw) rfl hd rfl (nI_pos h31) (nI_clamp h31) hN hc hs rfl fun H1 cA e1 z1 o1 hAr hNm => ?_
  have hcA : cA = gA G ti := by
    have h2 := (C.k.2 ti _ ht).2
    cases atype <;> exact Option.some.inj (hNm.symm.trans h2)
  have e1' := e1
  rw [hR.1] at z1 o1 e1 ⊢
  refine k p l e s m args below meth c C H1 locs ls (hR.new ⟨_, _, ht, e1, hcA, by simp [arrV], rfl, fun _ => rfl, arrV_size _ _ _, fun j hj => arrV_read _ _ hj⟩ z1 o1) hl hf
theorem aw_anew {idx ti N : Nat} {i : Int32} {C0 : String} (hd : decode K.2.1 pc = .ok (.anewarray idx, 3)) (ht : arT[ti]? = some (.object C0)) (hlink : Cond.classLink K.1.cls idx C0 ∈ lw_all) (hw : Cond.arrayOver (.object C0) ∈ lw_tbl) (hi : i = nI N) (hN : N * 4 ≤ 536870912) (h31 : N < 2 ^ 31) (hc : ce + 1 ≤ P.1.2.2.1) (hs : sl + N ≤ P.1.2.2.2) (hn : pc + 3 = n) (k : AW G K P n lv (.ref h.1 :: st) (hnew h (har ti N (fun _ => .null))) (ce + 1) (sl + N)) : AW G K P pc lv (.int i :: st) h ce sl := by
  intro p l e s m args below meth c C H locs ls hR hl hf
  subst hn; subst hi
  have hAO : (Cond.arrayOver (.object C0)).before args s = true := by
    obtain ⟨b, hb⟩ := C.gd.2.1
    have q1 : va_AO C0 (gS G) := by simpa [va_AO, Cond.before, Cond.holds, Cond.value] using hb _ hw
    have q2 := va_AO.moved C.wm.alike q1
    simpa [va_AO, Cond.before, Cond.holds, Cond.value] using q2
  refine W.anew C.1 C.2.1 C.own (C.ts _ hlink) hAO rfl hd rfl (nI_pos h31) (by rw [nI_clamp h31]; exact hN) hc (by rw [nI_clamp h31]; exact hs) fun cA kA comp h1 h2 h3 h4 => ?_
  rw [nI_clamp h31, hR.1]
  have hcA : cA = gA G ti := by
    obtain ⟨kA', comp', -, -, -, h5⟩ := (C.k.2 ti _ ht).2
    exact Option.some.inj (h1.symm.trans h5)
  refine k p l e s m args below meth c C _ locs ls (hR.new (e := har ti N (fun _ => .null)) ⟨_, ⟨cA, Array.replicate N .null, {}, none, .none⟩, ht, ?_, hcA, by simp, rfl, fun _ => rfl, by simp, fun j hj => by simp [hj]⟩ (by simp [hR.1]) (fun q hq => ?_)) hl hf
  · rw [← hR.1]; simp
  · rw [Array.getElem?_push, if_neg (by rw [hR.1]; omega)]
theorem aw_new {idx ci N : Nat} {C0 : String} {T : u_T} {fs : List Value} (hd : decode K.2.1 pc = .ok (.new idx, 3)) (hT : clT[ci]? = some (C0, T, N)) (hin : ∀ w ∈ u_ws C0 T N, w ∈ lw_all) (ty0 : Nat → FieldType) (hty : ∀ k, k < N → parseFieldDescriptor (T k).2.2.1 = some (ty0 k)) (hlink : Cond.classLink K.1.cls idx C0 ∈ lw_all) (M : Nat) (hinst : Cond.instantiable C0 M ∈ lw_all) (hini : Cond.initialized C0 ∈ lw_all) (hfl : fs.length = N) (hfs : ∀ j, j < N → fs[j]? = some (defaultValue (ty0 j))) (hc : ce + 1 ≤ P.1.2.2.1) (hs : sl + M ≤ P.1.2.2.2) (hn : pc + 3 = n) (k : AW G K P n lv (.ref h.1 :: st) (hnew h (hob ci fs)) (ce + 1) (sl + M)) : AW G K P pc lv st h ce sl := by
  intro p l e s m args below meth c C H locs ls hR hl hf
  subst hn
  obtain ⟨f1, f2, kC0, f3⟩ := C.k.1 ci _ hT
  refine W.newcK C.1 C.2.1 C.own (C.ts _ hlink) (C.ts _ hinst) (C.ts _ hini) rfl hd hc hs f2 rfl fun H1 kC hkC e1 z1 o1 => ?_
  rw [hR.1] at z1 o1 e1 ⊢
  refine k p l e s m args below meth c C H1 locs ls (hR.new ⟨_, _, hT, e1, rfl, by simp [blank], rfl, fun _ => rfl, fun j v hv => ?_⟩ z1 o1) hl hf
  have hj : j < N := by rw [← hfl]; exact (List.getElem?_eq_some_iff.mp hv).1
  refine ⟨hj, ?_⟩
  rw [hfs j hj] at hv
  cases hv
  obtain ⟨cf, kf, fi, fd, i1, i2, i3⟩ := f1 j hj
  have h3 := (u_facts f2 hkC (u_lays C.ts hin hj) i1).2.2
  rw [(State.fieldFound?_type i1 (hty j hj)).2, i2] at h3
  exact k2_blank h3
end
