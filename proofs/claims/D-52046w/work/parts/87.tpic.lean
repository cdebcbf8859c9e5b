/-! The nodes of a bin's tree in the heap. -/
section
set_option maxRecDepth 100000
theorem optc (x : Option Nat) : x = none ∨ ∃ y, x = some y := by cases x <;> simp
def up (f : oF) (a : Nat) (v : Option Nat) : oF := fun q => if q = a then v else f q
def ub (f : Nat → Bool) (a : Nat) (v : Bool) : Nat → Bool := fun q => if q = a then v else f q
/-- the nodes N: hash, key and value by κ; next, parent, left, right, previous, red -/
def TPic (G : aG) (h : hH) (N : Nat → Prop) (κ : Nat → Int32 × Nat × Nat) (nx pa lf rt pv : oF) (rd : Nat → Bool) : Prop := ∀ x, N x → h.2 x = some (hob 27 [.null, .null, .int (κ x).1, .ref (κ x).2.1, .ref (κ x).2.2, va_rf (nx x), va_rf (pa x), va_rf (lf x), va_rf (rt x), va_rf (pv x), .int (bI (rd x))]) ∧ gB G ≤ x
section
variable {G : aG} {h h1 : hH} {N : Nat → Prop} {κ : Nat → Int32 × Nat × Nat} {nx pa lf rt pv : oF} {rd : Nat → Bool} {a : Nat}
theorem TPic.pnx (H : TPic G h N κ nx pa lf rt pv rd) {v : Option Nat} (w : hW1 h h1 a (hob 27 [.null, .null, .int (κ a).1, .ref (κ a).2.1, .ref (κ a).2.2, va_rf v, va_rf (pa a), va_rf (lf a), va_rf (rt a), va_rf (pv a), .int (bI (rd a))])) : TPic G h1 N κ (up nx a v) pa lf rt pv rd := fun x hx => by
  refine ⟨?_, (H x hx).2⟩
  by_cases e : x = a
  · subst e; rw [w.1]; simp [up]
  · rw [w.2.1 x e, (H x hx).1]; simp [up, e]
theorem TPic.ppa (H : TPic G h N κ nx pa lf rt pv rd) {v : Option Nat} (w : hW1 h h1 a (hob 27 [.null, .null, .int (κ a).1, .ref (κ a).2.1, .ref (κ a).2.2, va_rf (nx a), va_rf v, va_rf (lf a), va_rf (rt a), va_rf (pv a), .int (bI (rd a))])) : TPic G h1 N κ nx (up pa a v) lf rt pv rd := fun x hx => by
  refine ⟨?_, (H x hx).2⟩
  by_cases e : x = a
  · subst e; rw [w.1]; simp [up]
  · rw [w.2.1 x e, (H x hx).1]; simp [up, e]
theorem TPic.plf (H : TPic G h N κ nx pa lf rt pv rd) {v : Option Nat} (w : hW1 h h1 a (hob 27 [.null, .null, .int (κ a).1, .ref (κ a).2.1, .ref (κ a).2.2, va_rf (nx a), va_rf (pa a), va_rf v, va_rf (rt a), va_rf (pv a), .int (bI (rd a))])) : TPic G h1 N κ nx pa (up lf a v) rt pv rd := fun x hx => by
  refine ⟨?_, (H x hx).2⟩
  by_cases e : x = a
  · subst e; rw [w.1]; simp [up]
  · rw [w.2.1 x e, (H x hx).1]; simp [up, e]
theorem TPic.prt (H : TPic G h N κ nx pa lf rt pv rd) {v : Option Nat} (w : hW1 h h1 a (hob 27 [.null, .null, .int (κ a).1, .ref (κ a).2.1, .ref (κ a).2.2, va_rf (nx a), va_rf (pa a), va_rf (lf a), va_rf v, va_rf (pv a), .int (bI (rd a))])) : TPic G h1 N κ nx pa lf (up rt a v) pv rd := fun x hx => by
  refine ⟨?_, (H x hx).2⟩
  by_cases e : x = a
  · subst e; rw [w.1]; simp [up]
  · rw [w.2.1 x e, (H x hx).1]; simp [up, e]
theorem TPic.ppv (H : TPic G h N κ nx pa lf rt pv rd) {v : Option Nat} (w : hW1 h h1 a (hob 27 [.null, .null, .int (κ a).1, .ref (κ a).2.1, .ref (κ a).2.2, va_rf (nx a), va_rf (pa a), va_rf (lf a), va_rf (rt a), va_rf v, .int (bI (rd a))])) : TPic G h1 N κ nx pa lf rt (up pv a v) rd := fun x hx => by
  refine ⟨?_, (H x hx).2⟩
  by_cases e : x = a
  · subst e; rw [w.1]; simp [up]
  · rw [w.2.1 x e, (H x hx).1]; simp [up, e]
theorem TPic.prd (H : TPic G h N κ nx pa lf rt pv rd) {v : Bool} (w : hW1 h h1 a (hob 27 [.null, .null, .int (κ a).1, .ref (κ a).2.1, .ref (κ a).2.2, va_rf (nx a), va_rf (pa a), va_rf (lf a), va_rf (rt a), va_rf (pv a), .int (bI v)])) : TPic G h1 N κ nx pa lf rt pv (ub rd a v) := fun x hx => by
  refine ⟨?_, (H x hx).2⟩
  by_cases e : x = a
  · subst e; rw [w.1]; simp [ub]
  · rw [w.2.1 x e, (H x hx).1]; simp [ub, e]
theorem TPic.cg {nx' pa' lf' rt' pv' : oF} {rd' : Nat → Bool} {κ' : Nat → Int32 × Nat × Nat} {N' : Nat → Prop} (H : TPic G h N κ nx pa lf rt pv rd) (hN : ∀ x, N' x → N x) (e0 : ∀ x, N' x → κ' x = κ x) (e1 : ∀ x, N' x → nx' x = nx x) (e2 : ∀ x, N' x → pa' x = pa x) (e3 : ∀ x, N' x → lf' x = lf x) (e4 : ∀ x, N' x → rt' x = rt x) (e5 : ∀ x, N' x → pv' x = pv x) (e6 : ∀ x, N' x → rd' x = rd x) : TPic G h N' κ' nx' pa' lf' rt' pv' rd' := fun x hx => by
  rw [e0 x hx, e1 x hx, e2 x hx, e3 x hx, e4 x hx, e5 x hx, e6 x hx]
  exact H x (hN x hx)
theorem TPic.fr {S : Nat → Prop} (hi : hInv G h) (H : TPic G h N κ nx pa lf rt pv rd) (hF : Fr S h h1) (hn : ∀ x, N x → ¬ S x) : TPic G h1 N κ nx pa lf rt pv rd := fun x hx => ⟨(hF.2 x (hi.2.1 _ _ (H x hx).1) (hn x hx)).trans (H x hx).1, (H x hx).2⟩
end
theorem BT.at {lt : Nat → Nat → Prop} {N : Nat → Prop} {pa lf rt : oF} {root : Nat} {lo hi : oF} {ht : Nat → Nat} {B p r : Nat} (h : BT lt N pa lf rt root lo hi ht B) (hp : N p) (hr : rt p = some r) : (N r ∧ pa r = some p ∧ p ≠ r) ∧ (∀ y, lf r = some y → N y ∧ y ≠ p ∧ y ≠ r ∧ pa y = some r) ∧ ∀ y, pa p = some y → N y ∧ y ≠ p ∧ y ≠ r ∧ (lf y = some p ∨ rt y = some p) := by
  obtain ⟨ha, hb, hc, hd, he⟩ := h
  obtain ⟨p1, p2, p3, p4, p5, p6, p7, p8, p9⟩ := he p hp
  obtain ⟨q1, q2, q3, q4, q5⟩ := p6 r hr
  obtain ⟨r1, r2, r3, r4, r5, r6, r7, r8, r9⟩ := he r q1
  refine ⟨⟨q1, q2, fun e => by rw [← e] at q5; omega⟩, fun y hy => ?_, fun y hy => ?_⟩
  · obtain ⟨y1, y2, y3, y4, y5⟩ := r4 y hy
    exact ⟨y1, fun e => by rw [e] at y5; omega, fun e => by rw [e] at y5; omega, y2⟩
  · obtain ⟨y1, y2⟩ := p8 y hy
    obtain ⟨z1, z2, z3, z4, z5, z6, z7, z8, z9⟩ := he y y1
    have hlt : ht p < ht y := by
      rcases y2 with k | k
      · exact (z4 p k).2.2.2.2
      · exact (z6 p k).2.2.2.2
    exact ⟨y1, fun e => by rw [e] at hlt; omega, fun e => by rw [e] at hlt; omega, y2⟩
end
