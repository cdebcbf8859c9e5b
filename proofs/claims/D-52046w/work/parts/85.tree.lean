/-! PURE: the trees of a HashMap's bins: search order, rotations, a new leaf. -/
section
set_option maxRecDepth 100000
abbrev oF : Type := Nat → Option Nat
def ltL (lt : Nat → Nat → Prop) (a : Option Nat) (z : Nat) : Prop := ∀ y, a = some y → lt y z
def ltH (lt : Nat → Nat → Prop) (z : Nat) (a : Option Nat) : Prop := ∀ y, a = some y → lt z y
/-- what node x of a tree has: its height, its bounds, its children, its parent -/
def BN (lt : Nat → Nat → Prop) (N : Nat → Prop) (pa lf rt : oF) (root : Nat) (lo hi : oF) (ht : Nat → Nat) (B x : Nat) : Prop :=
  ht x < B ∧ ltL lt (lo x) x ∧ ltH lt x (hi x) ∧ (∀ y, lf x = some y → N y ∧ pa y = some x ∧ lo y = lo x ∧ hi y = some x ∧ ht y < ht x) ∧ (lf x = none → ∀ z, N z → ltL lt (lo x) z → ¬ lt z x) ∧ (∀ y, rt x = some y → N y ∧ pa y = some x ∧ lo y = some x ∧ hi y = hi x ∧ ht y < ht x) ∧ (rt x = none → ∀ z, N z → lt x z → ¬ ltH lt z (hi x)) ∧ (∀ y, pa x = some y → N y ∧ (lf y = some x ∨ rt y = some x)) ∧ (pa x = none → x = root)
def BT (lt : Nat → Nat → Prop) (N : Nat → Prop) (pa lf rt : oF) (root : Nat) (lo hi : oF) (ht : Nat → Nat) (B : Nat) : Prop :=
  N root ∧ pa root = none ∧ lo root = none ∧ hi root = none ∧ ∀ x, N x → BN lt N pa lf rt root lo hi ht B x
def lt3 (lt : Nat → Nat → Prop) : Prop := (∀ x, ¬ lt x x) ∧ ∀ x y z, lt x y → lt y z → lt x z
/-- the mirror -/
theorem BT.flip {lt : Nat → Nat → Prop} {N : Nat → Prop} {pa lf rt : oF} {root : Nat} {lo hi : oF} {ht : Nat → Nat} {B : Nat} (h : BT lt N pa lf rt root lo hi ht B) : BT (fun x y => lt y x) N pa rt lf root hi lo ht B := by
  obtain ⟨a, b, c, d, e⟩ := h
  refine ⟨a, b, d, c, fun x hx => ?_⟩
  obtain ⟨e1, e2, e3, e4, e5, e6, e7, e8, e9⟩ := e x hx
  exact ⟨e1, e3, e2, fun y hy => ⟨(e6 y hy).1, (e6 y hy).2.1, (e6 y hy).2.2.2.1, (e6 y hy).2.2.1, (e6 y hy).2.2.2.2⟩, fun hn z hz h1 h2 => e7 hn z hz h2 h1, fun y hy => ⟨(e4 y hy).1, (e4 y hy).2.1, (e4 y hy).2.2.2.1, (e4 y hy).2.2.1, (e4 y hy).2.2.2.2⟩, fun hn z hz h1 h2 => e5 hn z hz h2 h1, fun y hy => ⟨(e8 y hy).1, (e8 y hy).2.symm⟩, e9⟩
theorem lt3.flip {lt : Nat → Nat → Prop} (h : lt3 lt) : lt3 (fun x y => lt y x) := ⟨h.1, fun x y z a b => h.2 z y x b a⟩
-- a left rotation at p, whose right child is r
def rPa (p r : Nat) (pa lf : oF) : oF := fun q => if q = p then some r else if q = r then pa p else if lf r = some q then some p else pa q
def rRt (p r : Nat) (pa lf rt : oF) : oF := fun q => if q = p then lf r else if pa p = some q ∧ lf q ≠ some p then some r else rt q
def rLf (p r : Nat) (pa lf : oF) : oF := fun q => if q = r then some p else if pa p = some q ∧ lf q = some p then some r else lf q
def rRoot (p r : Nat) (pa : oF) (root : Nat) : Nat := if pa p = none then r else root
theorem BT.rot {lt : Nat → Nat → Prop} (h3 : lt3 lt) {N : Nat → Prop} {pa lf rt : oF} {root : Nat} {lo hi : oF} {ht : Nat → Nat} {B p r : Nat} (h : BT lt N pa lf rt root lo hi ht B) (hp : N p) (hr : rt p = some r) :
    BT lt N (rPa p r pa lf) (rLf p r pa lf) (rRt p r pa lf rt) (rRoot p r pa root) (fun q => if q = r then lo p else lo q) (fun q => if q = r then hi p else if q = p then some r else hi q) (fun q => if q = r then 2 * ht p else if q = p then 2 * ht p - 1 else 2 * ht q) (2 * B) := by
  obtain ⟨ha, hb, hc, hd, he⟩ := h
  obtain ⟨p1, p2, p3, p4, p5, p6, p7, p8, p9⟩ := he p hp
  obtain ⟨q1, q2, q3, q4, q5⟩ := p6 r hr
  obtain ⟨r1, r2, r3, r4, r5, r6, r7, r8, r9⟩ := he r q1
  have hpr : p ≠ r := fun e => by rw [← e] at q5; omega
  have hlpr : lt p r := r2 p q3
  have hlfp : lf p ≠ some r := fun e => h3.1 p (h3.2 p r p hlpr (r3 p (p4 r e).2.2.2.1))
  have hrr : ∀ y, lf r = some y → rt r ≠ some y := fun y e1 e2 => by
    have g1 := r4 y e1; have g2 := r6 y e2
    obtain ⟨y1, y2, y3, y4⟩ := he y g1.1
    exact h3.1 r (h3.2 r y r (y2 r g2.2.2.1) (y3 r g1.2.2.2.1))
  have hup : ∀ y, pa p = some y → ht p < ht y := fun y e => by
    obtain ⟨y1, y2⟩ := p8 y e
    obtain ⟨z1, z2, z3, z4, z5, z6, z7, z8, z9⟩ := he y y1
    rcases y2 with k | k
    · exact (z4 p k).2.2.2.2
    · exact (z6 p k).2.2.2.2
  unfold BT rRoot rPa rLf rRt BN ltL ltH
  unfold BN ltL ltH at he
  refine ⟨?_, ?_, ?_, ?_, fun x hx => ⟨?_, ?_, ?_, ?_, ?_, ?_, ?_, ?_, ?_⟩⟩
  · grind
  · grind
  · grind
  · grind
  · grind
  · intro y hy
    by_cases e1 : x = r
    · have e2 : lo p = some y := by grind
      rw [e1]; exact h3.2 y p r (p2 y e2) hlpr
    · exact (he x hx).2.1 y (by grind)
  · grind
  · intro y hy
    have hpos : 0 < ht p := by omega
    by_cases e1 : x = r
    · grind
    · by_cases e2 : pa p = some x ∧ lf x = some p
      · have e3 := hup x e2.1
        have e4 := (he x hx).2.2.2.1 p e2.2
        grind
      · have ey : lf x = some y := by grind
        obtain ⟨y1, y2, y3, y4, y5⟩ := (he x hx).2.2.2.1 y ey
        have k1 : y ≠ p := by grind
        have k2 : y ≠ r := by grind
        have k3 : lf r ≠ some y := by grind
        grind
  · grind
  · intro y hy
    have hpos : 0 < ht p := by omega
    by_cases e1 : x = p
    · have e2 : lf r = some y := by grind
      obtain ⟨y1, y2, y3, y4, y5⟩ := r4 y e2
      have k1 : y ≠ p := by grind
      have k2 : y ≠ r := by grind
      grind
    · by_cases e2 : x = r
      · have k : ¬ pa p = some r := fun e => by have := hup r e; omega
        have e3 : rt r = some y := by grind
        obtain ⟨y1, y2, y3, y4, y5⟩ := r6 y e3
        have k1 : y ≠ p := by grind
        have k2 : y ≠ r := by grind
        have k3 : lf r ≠ some y := fun z => hrr y z e3
        grind
      · by_cases e3 : pa p = some x ∧ lf x ≠ some p
        · have e4 : rt x = some p := by
            rcases (p8 x e3.1).2 with k | k
            · exact absurd k e3.2
            · exact k
          have e5 := hup x e3.1
          obtain ⟨y1, y2, y3, y4, y5⟩ := (he x hx).2.2.2.2.2.1 p e4
          grind
        · have e4 : rt x = some y := by grind
          obtain ⟨y1, y2, y3, y4, y5⟩ := (he x hx).2.2.2.2.2.1 y e4
          have k1 : y ≠ p := fun z => by
            subst z
            have e5 : lf x = some y := by grind
            have e6 := ((he x hx).2.2.2.1 y e5).2.2.2.1
            exact h3.1 x (h3.2 x y x ((he y hp).2.1 x y3) ((he y hp).2.2.1 x e6))
          have k2 : y ≠ r := by grind
          have k3 : lf r ≠ some y := by grind
          grind
  · grind
  · intro y hy
    by_cases e1 : x = p
    · grind
    · by_cases e2 : x = r
      · have e3 : pa p = some y := by grind
        obtain ⟨y1, y2⟩ := p8 y e3
        have e4 := hup y e3
        grind
      · by_cases e3 : lf r = some x
        · grind
        · have e4 : pa x = some y := by grind
          obtain ⟨y1, y2⟩ := (he x hx).2.2.2.2.2.2.2.1 y e4
          rcases y2 with k | k
          · grind
          · have k1 : y ≠ p := by grind
            have k2 : ¬ (pa p = some y ∧ lf y ≠ some p) := by
              intro z
              have z2 := (p8 y z.1).2
              grind
            grind
  · grind
/-- a lower bound is a node with a right child -/
theorem BT.lo {lt : Nat → Nat → Prop} {N : Nat → Prop} {pa lf rt : oF} {root : Nat} {lo hi : oF} {ht : Nat → Nat} {B : Nat} (h : BT lt N pa lf rt root lo hi ht B) {z : Nat} : ∀ (m x : Nat), N x → B - ht x < m → lo x = some z → N z ∧ rt z ≠ none
  | 0, _, _, hm, _ => absurd hm (Nat.not_lt_zero _)
  | m + 1, x, hx, hm, hl => by
    obtain ⟨ha, hb, hc, hd, he⟩ := h
    obtain ⟨x1, x2, x3, x4, x5, x6, x7, x8, x9⟩ := he x hx
    cases hp : pa x with
    | none =>
      have := x9 hp
      rw [this, hc] at hl
      cases hl
    | some q =>
      obtain ⟨q1, q2⟩ := x8 q hp
      obtain ⟨y1, y2, y3, y4, y5, y6, y7, y8, y9⟩ := he q q1
      rcases q2 with k | k
      · have g := y4 x k
        exact BT.lo ⟨ha, hb, hc, hd, he⟩ m q q1 (by omega) (by rw [← g.2.2.1]; exact hl)
      · have g := y6 x k
        have e : q = z := Option.some.inj (g.2.2.1.symm.trans hl)
        subst e
        exact ⟨q1, fun n => by rw [n] at k; cases k⟩
/-- a new leaf x under w, at its left -/
theorem BT.leaf {lt : Nat → Nat → Prop} (h3 : lt3 lt) {N : Nat → Prop} {pa lf rt : oF} {root : Nat} {lo hi : oF} {ht : Nat → Nat} {B w x : Nat} (h : BT lt N pa lf rt root lo hi ht B) (hw : N w) (hx : ¬ N x) (ht3 : ∀ y z, N y → N z → y ≠ z → lt y z ∨ lt z y) (hl : lf w = none) (h1 : ltL lt (lo w) x) (h2 : lt x w) :
    BT lt (fun q => N q ∨ q = x) (fun q => if q = x then some w else pa q) (fun q => if q = x then none else if q = w then some x else lf q) (fun q => if q = x then none else rt q) root (fun q => if q = x then lo w else lo q) (fun q => if q = x then some w else hi q) (fun q => if q = x then 0 else ht q + 1) (B + 1) := by
  have hlo := fun z => h.lo (z := z) (B - ht w + 1) w hw (Nat.lt_succ_self _)
  obtain ⟨ha, hb, hc, hd, he⟩ := h
  obtain ⟨w1, w2, w3, w4, w5, w6, w7, w8, w9⟩ := he w hw
  obtain ⟨hi3, htr⟩ := h3
  have hxw : x ≠ w := fun e => hx (e ▸ hw)
  have hrx : root ≠ x := fun e => hx (e ▸ ha)
  -- the new leaf stands in no other empty place
  have hL : ∀ z, N z → z ≠ w → lf z = none → ltL lt (lo z) x → ¬ lt x z := fun z hz hzw hn g1 g2 => by
    obtain ⟨z1, z2, z3, z4, z5, z6, z7, z8, z9⟩ := he z hz
    rcases ht3 z w hz hw hzw with k | k
    · exact w5 hl z hz (fun y e => htr y x z (h1 y e) g2) k
    · exact z5 hn w hw (fun y e => htr y x w (g1 y e) h2) k
  have hR : ∀ z, N z → rt z = none → lt z x → ¬ ltH lt x (hi z) := fun z hz hn g1 g2 => by
    obtain ⟨z1, z2, z3, z4, z5, z6, z7, z8, z9⟩ := he z hz
    by_cases hzw : z = w
    · subst hzw; exact hi3 x (htr x z x h2 g1)
    rcases ht3 z w hz hw hzw with k | k
    · refine w5 hl z hz (fun y e => ?_) k
      obtain ⟨y1, y2⟩ := hlo y e
      by_cases ezy : z = y
      · subst ezy; exact absurd hn y2
      rcases ht3 z y hz y1 ezy with k2 | k2
      · exact absurd (fun v ev => htr y x v (h1 y e) (g2 v ev)) (z7 hn y y1 k2)
      · exact k2
    · exact hi3 x (htr x w x h2 (htr w z x k g1))
  have hxl : ∀ y, lo w = some y → y ≠ x := fun y e k => by have := (hlo y e).1; rw [k] at this; exact hx this
  unfold BT BN
  refine ⟨Or.inl ha, (if_neg hrx).trans hb, (if_neg hrx).trans hc, (if_neg hrx).trans hd, fun z hz => ?_⟩
  rcases hz with hz | hz
  · have hzx : z ≠ x := fun e => hx (e ▸ hz)
    obtain ⟨z1, z2, z3, z4, z5, z6, z7, z8, z9⟩ := he z hz
    simp only [if_neg hzx]
    refine ⟨by omega, z2, z3, fun y hy => ?_, fun hn v hv g1 g2 => ?_, fun y hy => ?_, fun hn v hv g1 g2 => ?_, fun y hy => ?_, z9⟩
    · by_cases ezw : z = w
      · subst ezw
        rw [if_pos rfl] at hy
        cases hy
        exact ⟨Or.inr rfl, if_pos rfl, if_pos rfl, if_pos rfl, by rw [if_pos rfl]; omega⟩
      · rw [if_neg ezw] at hy
        obtain ⟨g1, g2, g3, g4, g5⟩ := z4 y hy
        have hyx : y ≠ x := fun e => hx (e ▸ g1)
        simp only [if_neg hyx]
        exact ⟨Or.inl g1, g2, g3, g4, by omega⟩
    · by_cases ezw : z = w
      · rw [if_pos ezw] at hn; cases hn
      · rw [if_neg ezw] at hn
        rcases hv with hv | hv
        · exact z5 hn v hv g1 g2
        · rw [hv] at g1 g2; exact hL z hz ezw hn g1 g2
    · obtain ⟨g1, g2, g3, g4, g5⟩ := z6 y hy
      have hyx : y ≠ x := fun e => hx (e ▸ g1)
      simp only [if_neg hyx]
      exact ⟨Or.inl g1, g2, g3, g4, by omega⟩
    · rcases hv with hv | hv
      · exact z7 hn v hv g1 g2
      · rw [hv] at g1 g2; exact hR z hz hn g1 g2
    · obtain ⟨g1, g2⟩ := z8 y hy
      have hyx : y ≠ x := fun e => hx (e ▸ g1)
      simp only [if_neg hyx]
      refine ⟨Or.inl g1, ?_⟩
      by_cases eyw : y = w
      · subst eyw
        rcases g2 with k | k
        · rw [hl] at k; cases k
        · exact Or.inr k
      · rw [if_neg eyw]; exact g2
  · subst hz
    simp only [if_pos rfl]
    refine ⟨Nat.succ_pos _, h1, fun y hy => by cases hy; exact h2, (fun y hy => by cases hy), fun _ v hv g1 g2 => ?_, (fun y hy => by cases hy), fun _ v hv g1 g2 => ?_, fun y hy => ?_, (fun hn => by cases hn)⟩
    · rcases hv with hv | hv
      · exact w5 hl v hv g1 (htr v z w g2 h2)
      · rw [hv] at g2; exact hi3 z g2
    · rcases hv with hv | hv
      · exact w5 hl v hv (fun y e => htr y z v (h1 y e) g1) (g2 w rfl)
      · rw [hv] at g1; exact hi3 z g1
    · cases hy
      rw [if_neg (Ne.symm hxw), if_pos rfl]
      exact ⟨Or.inl hw, Or.inl rfl⟩
/-- one node -/
theorem BT.one {lt : Nat → Nat → Prop} (h3 : lt3 lt) {pa lf rt : oF} {x : Nat} (h1 : pa x = none) (h2 : lf x = none) (h4 : rt x = none) : BT lt (fun q => q = x) pa lf rt x (fun _ => none) (fun _ => none) (fun _ => 0) 1 := by
  refine ⟨rfl, h1, rfl, rfl, fun z hz => ?_⟩
  subst hz
  exact ⟨Nat.zero_lt_one, (fun y e => by cases e), (fun y e => by cases e), (fun y e => by rw [h2] at e; cases e), (fun _ v hv _ g => by rw [hv] at g; exact h3.1 _ g), (fun y e => by rw [h4] at e; cases e), (fun _ v hv g _ => by rw [hv] at g; exact h3.1 _ g), (fun y e => by rw [h1] at e; cases e), fun _ => rfl⟩
/-- pictures that agree on the nodes -/
theorem BT.cg {lt : Nat → Nat → Prop} {N N' : Nat → Prop} {pa lf rt pa' lf' rt' : oF} {root : Nat} {lo hi : oF} {ht : Nat → Nat} {B : Nat} (h : BT lt N pa lf rt root lo hi ht B) (hN : ∀ x, N' x ↔ N x) (e1 : ∀ x, N x → pa' x = pa x) (e2 : ∀ x, N x → lf' x = lf x) (e3 : ∀ x, N x → rt' x = rt x) : BT lt N' pa' lf' rt' root lo hi ht B := by
  obtain ⟨ha, hb, hc, hd, he⟩ := h
  refine ⟨(hN _).mpr ha, (e1 _ ha).trans hb, hc, hd, fun x hx => ?_⟩
  have hx' := (hN x).mp hx
  obtain ⟨x1, x2, x3, x4, x5, x6, x7, x8, x9⟩ := he x hx'
  refine ⟨x1, x2, x3, fun y hy => ?_, fun hn z hz => x5 (by rw [← e2 x hx']; exact hn) z ((hN z).mp hz), fun y hy => ?_, fun hn z hz => x7 (by rw [← e3 x hx']; exact hn) z ((hN z).mp hz), fun y hy => ?_, fun hn => x9 (by rw [← e1 x hx']; exact hn)⟩
  · obtain ⟨g1, g2, g3⟩ := x4 y (by rw [← e2 x hx']; exact hy)
    exact ⟨(hN y).mpr g1, (e1 y g1).trans g2, g3⟩
  · obtain ⟨g1, g2, g3⟩ := x6 y (by rw [← e3 x hx']; exact hy)
    exact ⟨(hN y).mpr g1, (e1 y g1).trans g2, g3⟩
  · obtain ⟨g1, g2⟩ := x8 y (by rw [← e1 x hx']; exact hy)
    exact ⟨(hN y).mpr g1, by rw [e2 y g1, e3 y g1]; exact g2⟩
end
