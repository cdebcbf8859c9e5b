/-! The bins of a HashMap, the map. -/
section
set_option maxRecDepth 100000
abbrev kF : Type := Nat → Int32 × Nat × Nat
/-- nodes of a plain bin -/
def CPic (G : aG) (h : hH) (N : Nat → Prop) (κ : kF) (nx : oF) : Prop := ∀ x, N x → h.2 x = some (hob 26 [.int (κ x).1, .ref (κ x).2.1, .ref (κ x).2.2, va_rf (nx x)]) ∧ gB G ≤ x
theorem CPic.pnx {G : aG} {h h1 : hH} {N : Nat → Prop} {κ : kF} {nx : oF} {a : Nat} (H : CPic G h N κ nx) {v : Option Nat} (w : hW1 h h1 a (hob 26 [.int (κ a).1, .ref (κ a).2.1, .ref (κ a).2.2, va_rf v])) : CPic G h1 N κ (up nx a v) := fun x hx => by
  refine ⟨?_, (H x hx).2⟩
  by_cases e : x = a
  · subst e; rw [w.1]; simp [up]
  · rw [w.2.1 x e, (H x hx).1]; simp [up, e]
theorem CPic.add {G : aG} {h : hH} {N : Nat → Prop} {κ : kF} {nx : oF} {x k v : Nat} {w : Int32} {xn : Option Nat} (H : CPic G h N κ nx) (hn : ¬ N x) (hx : h.2 x = some (hob 26 [.int w, .ref k, .ref v, va_rf xn])) (hb : gB G ≤ x) : CPic G h (fun q => N q ∨ q = x) (fun q => if q = x then (w, k, v) else κ q) (up nx x xn) := fun q hq => by
  by_cases e : q = x
  · subst e
    refine ⟨?_, hb⟩
    rw [hx]
    simp [up]
  · rcases hq with hq | hq
    · refine ⟨?_, (H q hq).2⟩
      rw [(H q hq).1]
      simp [up, e]
    · exact absurd hq e
theorem CPic.cg {G : aG} {h : hH} {N N' : Nat → Prop} {κ κ' : kF} {nx nx' : oF} (H : CPic G h N κ nx) (hN : ∀ x, N' x → N x) (e0 : ∀ x, N' x → κ' x = κ x) (e1 : ∀ x, N' x → nx' x = nx x) : CPic G h N' κ' nx' := fun x hx => by
  rw [e0 x hx, e1 x hx]
  exact H x (hN x hx)
theorem CPic.fr {G : aG} {h h1 : hH} {N S : Nat → Prop} {κ : kF} {nx : oF} (hi : hInv G h) (H : CPic G h N κ nx) (hF : Fr S h h1) (hn : ∀ x, N x → ¬ S x) : CPic G h1 N κ nx := fun x hx => ⟨(hF.2 x (hi.2.1 _ _ (H x hx).1) (hn x hx)).trans (H x hx).1, (H x hx).2⟩
/-- E is part of the heap -/
def sub (E h : hH) : Prop := ∀ a e, E.2 a = some e → h.2 a = some e
theorem isSt.sub {E h : hH} {a v : Nat} {bs : List Nat} {w z : Int32} (hs : sub E h) (L : isSt E a v bs w z) : isSt h a v bs w z := by
  obtain ⟨f, q1, q2, q3⟩ := L
  exact ⟨f, hs _ _ q1, hs _ _ q2, q3⟩
theorem KP.sub {E h : hH} {N : Nat → Prop} {κ : kF} {tx : Nat → List Nat} (hs : sub E h) (hK : KP E N κ tx) : KP h N κ tx := fun x hx => by
  obtain ⟨⟨u, g⟩, k2, k3⟩ := hK x hx
  exact ⟨⟨u, g.sub hs⟩, k2, k3⟩
/-- what the nodes M of bin i hold, against g -/
def GPic (g : List Nat → Option Nat) (n i : Nat) (M : Nat → Prop) (κ : kF) (tx : Nat → List Nat) : Prop := ∀ bs, (nI n - 1) &&& spT bs = nI i → ∀ a, (g bs = some a ↔ ∃ y, M y ∧ tx y = bs ∧ (κ y).2.2 = a)
def BinK (E : hH) (g : List Nat → Option Nat) (n i : Nat) (M : Nat → Prop) (κ : kF) (tx : Nat → List Nat) : Prop := KP E M κ tx ∧ (∀ y, M y → (nI n - 1) &&& (κ y).1 = nI i) ∧ (∀ y z, M y → M z → y ≠ z → tx y ≠ tx z) ∧ GPic g n i M κ tx
def BinC (G : aG) (h : hH) (v : Value) (M : Nat → Prop) (κ : kF) (nx : oF) (L : List Nat) : Prop := ∃ o, v = va_rf o ∧ chn nx o L ∧ L.Nodup ∧ (∀ q, M q ↔ q ∈ L) ∧ CPic G h M κ nx
def BinT (G : aG) (h : hH) (v : Value) (M : Nat → Prop) (κ : kF) (tx : Nat → List Nat) : Prop := ∃ (nx pa lf rt pv : oF) (rd : Nat → Bool) (root : Nat) (lo hi : oF) (ht : Nat → Nat) (B : Nat), v = .ref root ∧ TPic G h M κ nx pa lf rt pv rd ∧ BT (ltM tx) M pa lf rt root lo hi ht B ∧ LW M nx pv ∧ nx root ≠ none
def Bin (G : aG) (E h : hH) (g : List Nat → Option Nat) (n i : Nat) (v : Value) (M : Nat → Prop) (sz : Nat) : Prop := ∃ κ tx, BinK E g n i M κ tx ∧ ((∃ nx L, L.length ≤ sz ∧ BinC G h v M κ nx L) ∨ (n = 64 ∧ BinT G h v M κ tx))
/-- the table and its bins -/
def isTB (G : aG) (E h : hH) (g : List Nat → Option Nat) (t n : Nat) (f : Nat → Value) (M : Nat → Nat → Prop) (sz : Nat) : Prop := h.2 t = some (har 5 n f) ∧ gB G ≤ t ∧ nOK n ∧ ∀ i, i < n → Bin G E h g n i (f i) (M i) sz
/-- the map's own cells -/
abbrev hobM (tb : Value) (sz : Nat) (mc : Int32) (thr : Nat) (lv : Value) : hE := hob 25 [.null, .null, tb, .null, .int (nI sz), .int mc, .int (nI thr), lv]
def isHM (G : aG) (E h : hH) (m : Nat) (O : Nat → Prop) (g : List Nat → Option Nat) (sz : Nat) : Prop := gB G ≤ m ∧ sz ≤ 24 ∧ ∃ (mc : Int32) (lv : Value), (h.2 m = some (hobM .null 0 mc 0 lv) ∧ sz = 0 ∧ (∀ bs, g bs = none) ∧ ∀ q, ¬ O q) ∨ ∃ (t n : Nat) (f : Nat → Value) (M : Nat → Nat → Prop), h.2 m = some (hobM (.ref t) sz mc (3 * n / 4) lv) ∧ sz ≤ 3 * n / 4 ∧ isTB G E h g t n f M sz ∧ ∀ q, O q ↔ q = t ∨ ∃ i, i < n ∧ M i q
/-- a node with the value a -/
def nodV (h : hH) (x a : Nat) : Prop := (∃ w k o, h.2 x = some (hob 26 [.int w, .ref k, .ref a, o])) ∨ ∃ w k v1 v2 v3 v4 v5 v6, h.2 x = some (hob 27 [.null, .null, .int w, .ref k, .ref a, v1, v2, v3, v4, v5, v6])
theorem GPic.no {g : List Nat → Option Nat} {n i : Nat} {M : Nat → Prop} {κ : kF} {tx : Nat → List Nat} (H : GPic g n i M κ tx) {bs : List Nat} (hx : (nI n - 1) &&& spT bs = nI i) (hn : ∀ y, M y → tx y ≠ bs) : g bs = none := by
  cases e : g bs with
  | none => rfl
  | some a =>
    obtain ⟨y, y1, y2, _⟩ := (H bs hx a).mp e
    exact absurd y2 (hn y y1)
theorem GPic.yes {g : List Nat → Option Nat} {n i : Nat} {M : Nat → Prop} {κ : kF} {tx : Nat → List Nat} (H : GPic g n i M κ tx) {bs : List Nat} (hx : (nI n - 1) &&& spT bs = nI i) {y : Nat} (h1 : M y) (h2 : tx y = bs) : g bs = some (κ y).2.2 := (H bs hx _).mpr ⟨y, h1, h2, rfl⟩
end
