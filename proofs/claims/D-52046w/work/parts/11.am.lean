/-! THE ABSTRACT MACHINE: an abstract heap (size, cells by address), method walks AW over it, contracts Con. Everything of the JVM's state (frames, rooms, written places) is hidden here. -/
/-- an abstract cell: an object (number of its class in clT, its fields), or an array (number of its type in arT, its length, its contents) -/
abbrev hH : Type := Nat × (Nat → Option hE)
/-- a cell is written, or made -/
def hset (h : hH) (a : Nat) (e : hE) : hH := (h.1, fun q => if q = a then some e else h.2 q)
def hnew (h : hH) (e : hE) : hH := (h.1 + 1, fun q => if q = h.1 then some e else h.2 q)
def clT : List vw_C := [(RX1, TX1, 11), (RX3, TX3, 41), (RX2, TX2, 7), (RX4, TX4, 6), (RX5, TX5, 3), (RX6, TX6, 8), (RX8, TX8, 4), (RX10, TX10, 4), (RX11, TX11, 2), (RX12, TX12, 5), (RX13, TX13, 3), (RX14, TX14, 3), (RX15, TX15, 3), (RX16, TX16, 4), (RX17, TX17, 3), (RX18, TX18, 3), (RX19, TX19, 4), (RX20, TX20, 5), (RX22, TX22, 5), (RX23, TX23, 5), (RX24, TX24, 4), (RX25, TX25, 4), (RX26, TX26, 2), (RX27, TX27, 2), (RJ2, TJ2, 3), (RJ4, TJ4, 8), (RJ25, TJ25, 4), (RJ27, TJ27, 11), (RJ11, TJ11, 4), (RJ12, TJ12, 4), (RJ30, TJ30, 4), (RJ8, TJ8, 0), (RJ9, TJ9, 0), (RJ28, TJ28, 0), ("PastWatch$Sort", TEn, 1), ("PastWatch$Look$1", TEn, 1), ("PastWatch$Look$2", TEn, 1), ("PastWatch$Look$3", TEn, 1), ("PastWatch$Look$4", TEn, 1), ("PastWatch$Op", TOp, 2), ("PastWatch$Over", TEn, 1), ("jdk/internal/misc/Unsafe", TEn, 0)]
def arT : List FieldType := [.int, .long, .byte, .double, .object "java/lang/Object", .object "java/util/HashMap$Node", .object "java/lang/String", .object "PastWatch$Op"]
/-- what a run of the law stands on: class numbers, slots, array classes; the start; the abstract cells that stood there; statics; String constants; Class objects -/
abbrev aG : Type := ((Nat → ClassId) × (Nat → Nat → Nat) × (Nat → ClassId)) × State × (Nat → Option hE) × (Nat → Value) × (Nat → Nat) × (Nat → Nat)
abbrev gC (G : aG) : Nat → ClassId := G.1.1
abbrev gI (G : aG) : Nat → Nat → Nat := G.1.2.1
abbrev gA (G : aG) : Nat → ClassId := G.1.2.2
abbrev gS (G : aG) : State := G.2.1
abbrev gB (G : aG) : Nat := G.2.1.heap.size
abbrev gH (G : aG) : Nat → Option hE := G.2.2.1
abbrev gV (G : aG) : Nat → Value := G.2.2.2.1
abbrev gT (G : aG) : Nat → Nat := G.2.2.2.2.1
abbrev gM (G : aG) : Nat → Nat := G.2.2.2.2.2
def hAt (G : aG) (a : Nat) (e : hE) (H : Heap) : Prop := match e with
  | .inl o => ∃ (r : vw_C) (cell : Cell), clT[o.1]? = some r ∧ H[a]? = some cell ∧ cell.cls = gC G o.1 ∧ cell.vm ≠ .unknown ∧ cell.vm.isStatics = false ∧ (gB G ≤ a → cell.vm = .none) ∧ ∀ (k : Nat) (v : Value), o.2[k]? = some v → k < r.2.2 ∧ cell.slots[gI G o.1 k]? = some v
  | .inr x => ∃ (ty : FieldType) (cell : Cell), arT[x.1]? = some ty ∧ H[a]? = some cell ∧ cell.cls = gA G x.1 ∧ cell.vm ≠ .unknown ∧ cell.vm.isStatics = false ∧ (gB G ≤ a → cell.vm = .none) ∧ cell.slots.size = x.2.1 ∧ ∀ j : Nat, j < x.2.1 → cell.slots[j]? = some (x.2.2 j)
def hRep (G : aG) (h : hH) (H : Heap) : Prop := H.size = h.1 ∧ gB G ≤ h.1 ∧ (∀ (a : Nat) (e : hE), h.2 a = some e → hAt G a e H) ∧ (∀ q : Nat, q < gB G → H[q]? = (gS G).heap[q]?) ∧ ∀ q : Nat, q < gB G → h.2 q = gH G q
/-- what every abstract heap of a run has -/
def hInv (G : aG) (h : hH) : Prop := gB G ≤ h.1 ∧ (∀ (a : Nat) (e : hE), h.2 a = some e → a < h.1) ∧ ∀ q : Nat, q < gB G → h.2 q = gH G q
def gSl (s : State) (O f d : String) (i : Nat) : Prop := ∃ (cf : ClassId) (kf : Class) (fi : Nat) (fd : Field), s.fieldFound? O f d = some (cf, kf, fi, fd) ∧ fd.slot = i ∧ fd.isStatic = false
def gK (G : aG) (s : State) : Prop := (∀ (c : Nat) (q : vw_C), clT[c]? = some q → (∀ k, k < q.2.2 → gSl s (q.2.1 k).1 (q.2.1 k).2.1 (q.2.1 k).2.2.1 (gI G c k)) ∧ s.vm.findClass q.1 = some (gC G c) ∧ ∃ kC : Class, s.vm.classes[gC G c]? = some kC) ∧ ∀ (t : Nat) (ty : FieldType), arT[t]? = some ty → ArrOfT s (gA G t) ty ∧ va_RA s (gA G t) ty
def GoodG (G : aG) : Prop := gK G (gS G) ∧ (∃ b : Nat, ∀ w ∈ lw_tbl, w.before #[Value.ref b] (gS G) = true) ∧
  (∀ (i : Nat) (q : String × String × String), stT[i]? = some q → va_Z q.1 q.2.1 q.2.2 (gV G i) (fun a => gB G ≤ a) (gS G) (gS G).heap) ∧
  (∀ (i : Nat) (q : String × Nat × String × Nat), srT[i]? = some q → vk_R q.1 q.2.1 q.2.2.1 (gT G q.2.2.2) (gS G)) ∧
  (vx_Zq Bundle.tN "UNASSIGNED_STACK" Bundle.steD (fun a => gB G ≤ a) (gS G) (gS G).heap ∧ vx_Zq Bundle.tN "SUPPRESSED_SENTINEL" Bundle.listD (fun a => gB G ≤ a) (gS G) (gS G).heap) ∧
  (∀ q : String × Nat, q ∈ miT → va_Mi q.1 (gM G q.2) (gS G)) ∧ (∀ q : String × String, q ∈ ncT → va_Nc q.1 q.2 (gS G)) ∧ gP (gH G) (gV G) (gT G) (gM G) ∧ ∀ (a : Nat) (e : hE), gH G a = some e → a < gB G
/-- a method: its name, code, number of locals, answer's type, handlers -/
abbrev aK : Type := MethodName × ByteArray × Nat × Option FieldType × List (Nat × Nat × Nat × Nat)
/-- a contract's numbers (frames, words, cells, slots), its answer and its throw -/
abbrev aP : Type := (Nat × Nat × Nat × Nat) × (Option Value → hH → Prop) × (Nat → Nat → hH → Prop)
abbrev aR (P : aP) : Room := { frames := P.1.1, cells := P.1.2.2.1, slots := P.1.2.2.2, locals := P.1.2.1 }
abbrev nX : Nat → Nat → hH → Prop := fun _ _ _ => False
def cPc (G : aG) (as : List Value) (h : hH) : Array Value → State → Prop := fun v U => v = as.toArray ∧ hRep G h U.heap ∧ (gS G).WarmedH U.vm
def cQ (G : aG) (Q : Option Value → hH → Prop) : Array Value → State → Outcome → State → Prop := fun _ _ o t => ∃ (r : Option Value) (h' : hH), o = .returned r ∧ Q r h' ∧ hRep G h' t.heap
def cX (G : aG) (X : Nat → Nat → hH → Prop) : String → Addr → State → State → Prop := fun E q _ t => ∃ (ci : Nat) (r : vw_C) (h' : hH), clT[ci]? = some r ∧ r.1 = E ∧ X ci q h' ∧ hRep G h' t.heap
abbrev fB (G : aG) : Addr → Prop := fun q => gB G ≤ q
def Con (G : aG) (K : aK) (as : List Value) (h : hH) (P : aP) : Prop := GoodG G → ∀ l : Launch, l.stackTraces = false → vx_Met l K.1 (ws_ K.1 K.2.1 K.2.2.1 K.2.2.2.1) (aR P) (cPc G as h) (cQ G P.2.1) (cX G P.2.2) P.1.2.2.1 P.1.2.2.2 (fB G)
def ConW (G : aG) (K : aK) (as : List Value) (h : hH) (P : aP) : Prop := GoodG G → ∀ l : Launch, l.stackTraces = false → vx_Met l K.1 (wsW_ K.1 K.2.1 K.2.2.1 K.2.2.2.1 K.2.2.2.2) (aR P) (cPc G as h) (cQ G P.2.1) (cX G P.2.2) P.1.2.2.1 P.1.2.2.2 (fB G)
/-- what holds in a method's walk -/
def aCx (G : aG) (K : aK) (p : Program) (l : Launch) (s : State) (m : MethodId) (args : Array Value) (meth : Method) (c : Code) : Prop :=
  p.tables.exec = Jvm.exec ∧ c.code = K.2.1 ∧ c.maxLocals = K.2.2.1 ∧ meth.sig.returnType = K.2.2.2.1 ∧ meth.name = K.1.name ∧ meth.locks = false ∧ c.exceptionTable.toList = tableOf K.2.2.2.2 ∧ s.vm.findClass K.1.cls = some m.cls ∧ (∀ w ∈ lw_all, w.before args s = true) ∧ (gS G).WarmedH s.vm ∧ l.stackTraces = false ∧ GoodG G ∧ ∃ h0 : hH, hRep G h0 s.heap
def AW (G : aG) (K : aK) (P : aP) (pc : Nat) (lv : List (Nat × Value)) (st : List Value) (h : hH) (ce sl : Nat) : Prop :=
  ∀ (p : Program) (l : Launch) (e : Env) (s : State) (m : MethodId) (args : Array Value) (below : List Frame) (meth : Method) (c : Code), aCx G K p l s m args meth c → ∀ (H : Heap) (locs : List Loc) (ls : Array Slot), hRep G h H → lv_has ls K.2.2.1 lv → (∀ q ∈ locs, gB G ≤ q.base) →
    W p l e (aR P) s m args below meth c H locs ce sl (vx_MQ below (cQ G P.2.1) (cX G P.2.2) args s P.1.2.2.1 P.1.2.2.2 (fB G)) (F0 m pc ls st)
/-- an exception of class ci at q goes through the frame at pc -/
def AX (G : aG) (K : aK) (P : aP) (pc : Nat) (lv : List (Nat × Value)) (st : List Value) (h : hH) (ce sl ci q : Nat) : Prop :=
  ∀ (p : Program) (l : Launch) (e : Env) (s : State) (m : MethodId) (args : Array Value) (below : List Frame) (meth : Method) (c : Code), aCx G K p l s m args meth c → ∀ (H : Heap) (locs : List Loc) (ls : Array Slot) (r : vw_C) (cell : Cell), hRep G h H → lv_has ls K.2.2.1 lv → (∀ q ∈ locs, gB G ≤ q.base) →
    clT[ci]? = some r → H[q]? = some cell → cell.vm = .none → s.vm.findClass r.1 = some cell.cls →
    vx_W p l e (aR P) s m args below meth c H locs ce sl (vx_MQ below (cQ G P.2.1) (cX G P.2.2) args s P.1.2.2.1 P.1.2.2.2 (fB G)) (F0 m pc ls st) q
