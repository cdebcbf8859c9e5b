/-! A chain of nodes that becomes a tree. -/
section
set_option maxRecDepth 100000
def chn (nx : oF) : Option Nat → List Nat → Prop
  | o, [] => o = none
  | o, x :: L => o = some x ∧ chn nx (nx x) L
abbrev nF : oF := fun _ => none
abbrev fF : Nat → Bool := fun _ => false
theorem TPic.more {G : aG} {h : hH} {N : Nat → Prop} {κ : Nat → Int32 × Nat × Nat} {nx pa lf rt pv : oF} {rd : Nat → Bool} {x : Nat} (H : TPic G h N κ nx pa lf rt pv rd) (hn : ¬ N x) (hx : h.2 x = some (hob 27 [.null, .null, .int (κ x).1, .ref (κ x).2.1, .ref (κ x).2.2, va_rf (nx x), va_rf (nF x), va_rf (nF x), va_rf (nF x), va_rf (pv x), .int (bI (fF x))])) (hb : gB G ≤ x) : TPic G h (fun q => N q ∨ q = x) κ nx (up pa x none) (up lf x none) (up rt x none) pv (ub rd x false) := fun q hq => by
  by_cases e : q = x
  · subst e
    refine ⟨?_, hb⟩
    rw [hx]
    simp [up, ub]
  · rcases hq with hq | hq
    · refine ⟨?_, (H q hq).2⟩
      rw [(H q hq).1]
      simp [up, ub, e]
    · exact absurd hq e
theorem KP.fr {G : aG} {h h1 : hH} {N S : Nat → Prop} {κ : Nat → Int32 × Nat × Nat} {tx : Nat → List Nat} (hi : hInv G h) (hK : KP h N κ tx) (hF : Fr S h h1) (hS : ∀ a, S a → (∃ fs, h.2 a = some (hob 27 fs)) ∨ ∃ n f, h.2 a = some (har 5 n f)) : KP h1 N κ tx := fun x hx => by
  obtain ⟨⟨u, g, f1, f2, f3⟩, k2, k3⟩ := hK x hx
  refine ⟨⟨u, isSt.fr ⟨g, f1, f2, f3⟩ hi hF (fun z => ?_) (fun z => ?_)⟩, k2, k3⟩
  · rcases hS _ z with ⟨fs, e⟩ | ⟨n, f, e⟩
    · exact ne_kind f1 e (ob_ob (by decide)) rfl
    · exact ne_kind f1 e ob_ar rfl
  · rcases hS _ z with ⟨fs, e⟩ | ⟨n, f, e⟩
    · exact ne_kind f2 e ar_ob rfl
    · exact ne_kind f2 e (ar_ar (by decide)) rfl
theorem leafL2 {tx : Nat → List Nat} {N : Nat → Prop} {pa lf rt : oF} {root : Nat} {lo hi : oF} {ht : Nat → Nat} {B p x : Nat} (h : BT (ltM tx) N pa lf rt root lo hi ht B) (htr : ∀ y z, N y → N z → y ≠ z → tx y ≠ tx z) (hok : ∀ y, N y → okTx (tx y)) (hx : ¬ N x) (hp : N p) (g1 : kL tx (tx x) lo p) (hd : ltK (spT (tx x), tx x) (spT (tx p), tx p)) (hn : lf p = none) :
    ∃ (lo1 hi1 : oF) (ht1 : Nat → Nat), BT (ltM tx) (fun q => N q ∨ q = x) (up (up pa x none) x (some p)) (up (up (up lf x none) x none) p (some x)) (up (up rt x none) x none) root lo1 hi1 ht1 (B + 1) := by
  obtain ⟨lo1, hi1, ht1, H⟩ := leafL h htr hok hx hp g1 hd hn
  have e : (fun q => if q = x then tx x else tx q) = tx := funext fun q => by by_cases e : q = x <;> simp [e]
  rw [e] at H
  exact ⟨lo1, hi1, ht1, H.cg (fun _ => Iff.rfl) (fun _ _ => rfl) (fun q _ => by by_cases e1 : q = p <;> by_cases e2 : q = x <;> simp [up, e1, e2]) (fun q _ => by by_cases e2 : q = x <;> simp [up, e2])⟩
theorem leafR2 {tx : Nat → List Nat} {N : Nat → Prop} {pa lf rt : oF} {root : Nat} {lo hi : oF} {ht : Nat → Nat} {B p x : Nat} (h : BT (ltM tx) N pa lf rt root lo hi ht B) (htr : ∀ y z, N y → N z → y ≠ z → tx y ≠ tx z) (hok : ∀ y, N y → okTx (tx y)) (hx : ¬ N x) (hp : N p) (g1 : kH tx (tx x) hi p) (hd : ltK (spT (tx p), tx p) (spT (tx x), tx x)) (hn : rt p = none) :
    ∃ (lo1 hi1 : oF) (ht1 : Nat → Nat), BT (ltM tx) (fun q => N q ∨ q = x) (up (up pa x none) x (some p)) (up (up lf x none) x none) (up (up (up rt x none) x none) p (some x)) root lo1 hi1 ht1 (B + 1) := by
  obtain ⟨lo1, hi1, ht1, H⟩ := leafR h htr hok hx hp g1 hd hn
  have e : (fun q => if q = x then tx x else tx q) = tx := funext fun q => by by_cases e : q = x <;> simp [e]
  rw [e] at H
  exact ⟨lo1, hi1, ht1, H.cg (fun _ => Iff.rfl) (fun _ _ => rfl) (fun q _ => by by_cases e2 : q = x <;> simp [up, e2]) (fun q _ => by by_cases e1 : q = p <;> by_cases e2 : q = x <;> simp [up, e1, e2])⟩
end
