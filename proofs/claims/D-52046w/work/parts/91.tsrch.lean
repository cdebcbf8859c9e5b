/-! PURE: searching a tree; its keys. -/
section
set_option maxRecDepth 100000
/-- the keys of the nodes: Strings asked for their hash -/
def KP (h : hH) (N : Nat → Prop) (κ : Nat → Int32 × Nat × Nat) (tx : Nat → List Nat) : Prop := ∀ x, N x → (∃ u, isSt h (κ x).2.1 u (tx x) (hashT (tx x)) (zfT (tx x))) ∧ (κ x).1 = spT (tx x) ∧ (tx x).length ≤ 8
/-- the order of a map's nodes -/
abbrev ltM (tx : Nat → List Nat) : Nat → Nat → Prop := ltN (fun x => (spT (tx x), tx x))
theorem isSt.ok {h : hH} {a v : Nat} {bs : List Nat} {w z : Int32} (L : isSt h a v bs w z) : okTx bs := by
  obtain ⟨f, q1, q2, q3, q4, q5⟩ := L
  exact ⟨q5, q4⟩
theorem isSt.uniq {h : hH} {a v v' : Nat} {bs cs : List Nat} {w z w' z' : Int32} (hS : isSt h a v bs w z) (hK : isSt h a v' cs w' z') : bs = cs := by
  obtain ⟨f, g1, g2, g3, g4, g5⟩ := hS
  obtain ⟨g, j1, j2, j3, j4, j5⟩ := hK
  have z1 := g1.symm.trans j1
  have e1 : v = v' := by simp at z1; exact z1.1
  subst e1
  have z2 := g2.symm.trans j2
  have z3 : bs.length = cs.length ∧ f = g := by simpa using z2
  refine getD_ext z3.1 (fun j hj => sb_inj _ (g4 j hj) _ (j4 j (by omega)) ?_)
  have z4 := g3 j hj
  have z5 := j3 j (by omega)
  rw [z3.2] at z4
  have z6 := z4.symm.trans z5
  simpa using z6
/-- what is sought stands within p's bounds -/
def tgt (lt : Nat → Nat → Prop) (N : Nat → Prop) (tx : Nat → List Nat) (bs : List Nat) (lo hi : oF) (p : Nat) : Prop := ∀ z, N z → tx z = bs → ltL lt (lo p) z ∧ ltH lt z (hi p)
theorem tgt.root {lt : Nat → Nat → Prop} {N : Nat → Prop} {pa lf rt : oF} {root : Nat} {lo hi : oF} {ht : Nat → Nat} {B : Nat} (h : BT lt N pa lf rt root lo hi ht B) (tx : Nat → List Nat) (bs : List Nat) : tgt lt N tx bs lo hi root := fun z _ _ => ⟨(fun y e => by rw [h.2.2.1] at e; cases e), (fun y e => by rw [h.2.2.2.1] at e; cases e)⟩
theorem tgt.L {lt : Nat → Nat → Prop} {N : Nat → Prop} {pa lf rt : oF} {root : Nat} {lo hi : oF} {ht : Nat → Nat} {B p y : Nat} {tx : Nat → List Nat} {bs : List Nat} (h : BT lt N pa lf rt root lo hi ht B) (hp : N p) (t : tgt lt N tx bs lo hi p) (hl : ∀ z, N z → tx z = bs → lt z p) (hy : lf p = some y) : N y ∧ ht y < ht p ∧ tgt lt N tx bs lo hi y := by
  obtain ⟨y1, y2, y3, y4, y5⟩ := (h.2.2.2.2 p hp).2.2.2.1 y hy
  exact ⟨y1, y5, fun z hz e => ⟨by rw [y3]; exact (t z hz e).1, fun v ev => by rw [y4] at ev; cases ev; exact hl z hz e⟩⟩
theorem tgt.L0 {lt : Nat → Nat → Prop} {N : Nat → Prop} {pa lf rt : oF} {root : Nat} {lo hi : oF} {ht : Nat → Nat} {B p : Nat} {tx : Nat → List Nat} {bs : List Nat} (h : BT lt N pa lf rt root lo hi ht B) (hp : N p) (t : tgt lt N tx bs lo hi p) (hy : lf p = none) : ∀ z, N z → tx z = bs → ¬ lt z p := fun z hz e => (h.2.2.2.2 p hp).2.2.2.2.1 hy z hz (t z hz e).1
theorem tgt.R {lt : Nat → Nat → Prop} {N : Nat → Prop} {pa lf rt : oF} {root : Nat} {lo hi : oF} {ht : Nat → Nat} {B p y : Nat} {tx : Nat → List Nat} {bs : List Nat} (h : BT lt N pa lf rt root lo hi ht B) (hp : N p) (t : tgt lt N tx bs lo hi p) (hl : ∀ z, N z → tx z = bs → lt p z) (hy : rt p = some y) : N y ∧ ht y < ht p ∧ tgt lt N tx bs lo hi y := by
  obtain ⟨y1, y2, y3, y4, y5⟩ := (h.2.2.2.2 p hp).2.2.2.2.2.1 y hy
  exact ⟨y1, y5, fun z hz e => ⟨fun v ev => by rw [y3] at ev; cases ev; exact hl z hz e, by rw [y4]; exact (t z hz e).2⟩⟩
theorem tgt.R0 {lt : Nat → Nat → Prop} {N : Nat → Prop} {pa lf rt : oF} {root : Nat} {lo hi : oF} {ht : Nat → Nat} {B p : Nat} {tx : Nat → List Nat} {bs : List Nat} (h : BT lt N pa lf rt root lo hi ht B) (hp : N p) (t : tgt lt N tx bs lo hi p) (hy : rt p = none) : ∀ z, N z → tx z = bs → ¬ lt p z := fun z hz e k => (h.2.2.2.2 p hp).2.2.2.2.2.2.1 hy z hz k (t z hz e).2
/-- texts apart: one stands ahead of the other -/
theorem ltM.tri {tx : Nat → List Nat} {x y : Nat} (hx : okTx (tx x)) (hy : okTx (tx y)) (hn : tx x ≠ tx y) : ltM tx x y ∨ ltM tx y x := ltK.tri (a := (spT (tx x), tx x)) (b := (spT (tx y), tx y)) hx hy hn
theorem ltM.h1 {tx : Nat → List Nat} {x y : Nat} (h : spT (tx x) < spT (tx y)) : ltM tx x y := Or.inl h
end
