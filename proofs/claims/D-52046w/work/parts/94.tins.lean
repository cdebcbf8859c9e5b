/-! PURE: a key is put into a tree. -/
section
set_option maxRecDepth 100000
theorem BT.clt {lt lt' : Nat → Nat → Prop} {N : Nat → Prop} {pa lf rt : oF} {root : Nat} {lo hi : oF} {ht : Nat → Nat} {B : Nat} (h : BT lt N pa lf rt root lo hi ht B) (hl : ∀ x y, N x → N y → (lt x y ↔ lt' x y)) : BT lt' N pa lf rt root lo hi ht B := by
  have hlo : ∀ x y, N x → lo x = some y → N y := fun x y hx e => (h.lo (B - ht x + 1) x hx (Nat.lt_succ_self _) e).1
  have hhi : ∀ x y, N x → hi x = some y → N y := fun x y hx e => (h.flip.lo (B - ht x + 1) x hx (Nat.lt_succ_self _) e).1
  obtain ⟨ha, hb, hc, hd, he⟩ := h
  refine ⟨ha, hb, hc, hd, fun x hx => ?_⟩
  obtain ⟨x1, x2, x3, x4, x5, x6, x7, x8, x9⟩ := he x hx
  exact ⟨x1, fun y e => (hl y x (hlo x y hx e) hx).mp (x2 y e), fun y e => (hl x y hx (hhi x y hx e)).mp (x3 y e), x4, fun hn z hz g1 g2 => x5 hn z hz (fun y e => (hl y z (hlo x y hx e) hz).mpr (g1 y e)) ((hl z x hz hx).mpr g2), x6, fun hn z hz g1 g2 => x7 hn z hz ((hl x z hx hz).mpr g1) (fun y e => (hl z y hz (hhi x y hx e)).mpr (g2 y e)), x8, x9⟩
theorem TPic.add {G : aG} {h : hH} {N : Nat → Prop} {κ : Nat → Int32 × Nat × Nat} {nx pa lf rt pv : oF} {rd : Nat → Bool} {x k v : Nat} {w : Int32} {xn : Option Nat} (H : TPic G h N κ nx pa lf rt pv rd) (hn : ¬ N x) (hx : h.2 x = some (hob 27 [.null, .null, .int w, .ref k, .ref v, va_rf xn, .null, .null, .null, .null, .int 0])) (hb : gB G ≤ x) : TPic G h (fun q => N q ∨ q = x) (fun q => if q = x then (w, k, v) else κ q) (up nx x xn) (up pa x none) (up lf x none) (up rt x none) (up pv x none) (ub rd x false) := fun q hq => by
  by_cases e : q = x
  · subst e
    refine ⟨?_, hb⟩
    rw [hx]
    simp [up, ub, va_rf, bI]
  · rcases hq with hq | hq
    · refine ⟨?_, (H q hq).2⟩
      rw [(H q hq).1]
      simp [up, ub, e]
    · exact absurd hq e
theorem LW.add {N : Nat → Prop} {nx pv : oF} {x : Nat} {xn : Option Nat} (h : LW N nx pv) (hx : ∀ y, xn = some y → N y) : LW (fun q => N q ∨ q = x) (up nx x xn) (up pv x none) := fun q hq => by
  by_cases e : q = x
  · refine ⟨fun y hy => ?_, fun y hy => ?_⟩
    · simp only [up, if_pos e] at hy; exact Or.inl (hx y hy)
    · simp only [up, if_pos e] at hy; cases hy
  · rcases hq with hq | hq
    · refine ⟨fun y hy => ?_, fun y hy => ?_⟩
      · simp only [up, if_neg e] at hy; exact Or.inl ((h q hq).1 y hy)
      · simp only [up, if_neg e] at hy; exact Or.inl ((h q hq).2 y hy)
    · exact absurd hq e
/-- the place of a key below p -/
def kL (tx : Nat → List Nat) (bs : List Nat) (lo : oF) (p : Nat) : Prop := ∀ y, lo p = some y → ltK (spT (tx y), tx y) (spT bs, bs)
def kH (tx : Nat → List Nat) (bs : List Nat) (hi : oF) (p : Nat) : Prop := ∀ y, hi p = some y → ltK (spT bs, bs) (spT (tx y), tx y)
theorem kLH_L {tx : Nat → List Nat} {bs : List Nat} {N : Nat → Prop} {pa lf rt : oF} {root : Nat} {lo hi : oF} {ht : Nat → Nat} {B p y : Nat} (h : BT (ltM tx) N pa lf rt root lo hi ht B) (hp : N p) (g1 : kL tx bs lo p) (hd : ltK (spT bs, bs) (spT (tx p), tx p)) (hy : lf p = some y) : N y ∧ ht y < ht p ∧ kL tx bs lo y ∧ kH tx bs hi y := by
  obtain ⟨y1, y2, y3, y4, y5⟩ := (h.2.2.2.2 p hp).2.2.2.1 y hy
  exact ⟨y1, y5, fun v e => g1 v (by rw [← y3]; exact e), fun v e => by rw [y4] at e; cases e; exact hd⟩
theorem kLH_R {tx : Nat → List Nat} {bs : List Nat} {N : Nat → Prop} {pa lf rt : oF} {root : Nat} {lo hi : oF} {ht : Nat → Nat} {B p y : Nat} (h : BT (ltM tx) N pa lf rt root lo hi ht B) (hp : N p) (g1 : kH tx bs hi p) (hd : ltK (spT (tx p), tx p) (spT bs, bs)) (hy : rt p = some y) : N y ∧ ht y < ht p ∧ kL tx bs lo y ∧ kH tx bs hi y := by
  obtain ⟨y1, y2, y3, y4, y5⟩ := (h.2.2.2.2 p hp).2.2.2.2.2.1 y hy
  exact ⟨y1, y5, fun v e => by rw [y3] at e; cases e; exact hd, fun v e => g1 v (by rw [← y4]; exact e)⟩
theorem ltM_cg {tx : Nat → List Nat} {x : Nat} {bs : List Nat} {N : Nat → Prop} (hx : ¬ N x) : ∀ y z, N y → N z → (ltM tx y z ↔ ltM (fun q => if q = x then bs else tx q) y z) := fun y z hy hz => by
  have e1 : y ≠ x := fun e => hx (e ▸ hy)
  have e2 : z ≠ x := fun e => hx (e ▸ hz)
  unfold ltM ltN
  simp only [if_neg e1, if_neg e2]
/-- a leaf with the key bs at p's left -/
theorem leafL {tx : Nat → List Nat} {bs : List Nat} {N : Nat → Prop} {pa lf rt : oF} {root : Nat} {lo hi : oF} {ht : Nat → Nat} {B p x : Nat} (h : BT (ltM tx) N pa lf rt root lo hi ht B) (htr : ∀ y z, N y → N z → y ≠ z → tx y ≠ tx z) (hok : ∀ y, N y → okTx (tx y)) (hx : ¬ N x) (hp : N p) (g1 : kL tx bs lo p) (hd : ltK (spT bs, bs) (spT (tx p), tx p)) (hn : lf p = none) :
    ∃ (lo1 hi1 : oF) (ht1 : Nat → Nat), BT (ltM (fun q => if q = x then bs else tx q)) (fun q => N q ∨ q = x) (up (up pa x none) x (some p)) (up (up lf x none) p (some x)) (up rt x none) root lo1 hi1 ht1 (B + 1) := by
  have h2 := h.clt (ltM_cg (bs := bs) hx)
  have hpx : p ≠ x := fun e => hx (e ▸ hp)
  have hlo : ∀ y, lo p = some y → N y := fun y e => (h.lo (B - ht p + 1) p hp (Nat.lt_succ_self _) e).1
  have L := BT.leaf (ltN3 _) h2 hp hx (fun y z hy hz hyz => by
    have e1 : y ≠ x := fun e => hx (e ▸ hy)
    have e2 : z ≠ x := fun e => hx (e ▸ hz)
    refine ltM.tri ?_ ?_ ?_
    · rw [if_neg e1]; exact hok y hy
    · rw [if_neg e2]; exact hok z hz
    · rw [if_neg e1, if_neg e2]; exact htr y z hy hz hyz) hn (fun y e => by
    have e1 : y ≠ x := fun k => hx (k ▸ hlo y e)
    show ltK _ _
    simp only [if_neg e1, if_pos]
    exact g1 y e) (by
    show ltK _ _
    simp only [if_neg hpx, if_pos]
    exact hd)
  refine ⟨_, _, _, BT.cg L (fun _ => Iff.rfl) (fun q hq => ?_) (fun q hq => ?_) (fun q hq => ?_)⟩
  · by_cases e : q = x <;> simp [up, e]
  · by_cases e : q = x
    · subst e; simp [up, Ne.symm hpx]
    · simp [up, e]
  · by_cases e : q = x <;> simp [up, e]
theorem leafR {tx : Nat → List Nat} {bs : List Nat} {N : Nat → Prop} {pa lf rt : oF} {root : Nat} {lo hi : oF} {ht : Nat → Nat} {B p x : Nat} (h : BT (ltM tx) N pa lf rt root lo hi ht B) (htr : ∀ y z, N y → N z → y ≠ z → tx y ≠ tx z) (hok : ∀ y, N y → okTx (tx y)) (hx : ¬ N x) (hp : N p) (g1 : kH tx bs hi p) (hd : ltK (spT (tx p), tx p) (spT bs, bs)) (hn : rt p = none) :
    ∃ (lo1 hi1 : oF) (ht1 : Nat → Nat), BT (ltM (fun q => if q = x then bs else tx q)) (fun q => N q ∨ q = x) (up (up pa x none) x (some p)) (up lf x none) (up (up rt x none) p (some x)) root lo1 hi1 ht1 (B + 1) := by
  have h2 := h.clt (ltM_cg (bs := bs) hx)
  have hpx : p ≠ x := fun e => hx (e ▸ hp)
  have hhi : ∀ y, hi p = some y → N y := fun y e => (h.flip.lo (B - ht p + 1) p hp (Nat.lt_succ_self _) e).1
  have L := BT.leaf (lt3.flip (ltN3 _)) h2.flip hp hx (fun y z hy hz hyz => by
    have e1 : y ≠ x := fun e => hx (e ▸ hy)
    have e2 : z ≠ x := fun e => hx (e ▸ hz)
    refine (ltM.tri ?_ ?_ ?_).symm
    · rw [if_neg e1]; exact hok y hy
    · rw [if_neg e2]; exact hok z hz
    · rw [if_neg e1, if_neg e2]; exact htr y z hy hz hyz) hn (fun y e => by
    have e1 : y ≠ x := fun k => hx (k ▸ hhi y e)
    show ltK _ _
    simp only [if_neg e1, if_pos]
    exact g1 y e) (by
    show ltK _ _
    simp only [if_neg hpx, if_pos]
    exact hd)
  refine ⟨_, _, _, BT.cg L.flip (fun _ => Iff.rfl) (fun q hq => ?_) (fun q hq => ?_) (fun q hq => ?_)⟩
  · by_cases e : q = x <;> simp [up, e]
  · by_cases e : q = x <;> simp [up, e]
  · by_cases e : q = x
    · subst e; simp [up, Ne.symm hpx]
    · simp [up, e]
end
