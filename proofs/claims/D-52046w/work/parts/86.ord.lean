/-! PURE: the order of texts (String.compareTo), the order of a map's keys. -/
section
set_option maxRecDepth 100000
/-- from place j on, c places more: the first at which x and y differ, or the end -/
def fxT (x y : Nat → Nat) : Nat → Nat → Nat
  | 0, j => j
  | c + 1, j => if x j = y j then fxT x y c (j + 1) else j
theorem fxT_in (x y : Nat → Nat) : ∀ c j : Nat, j ≤ fxT x y c j ∧ fxT x y c j ≤ j + c ∧ (∀ i, j ≤ i → i < fxT x y c j → x i = y i) ∧ (fxT x y c j < j + c → x (fxT x y c j) ≠ y (fxT x y c j))
  | 0, j => ⟨Nat.le_refl _, Nat.le_refl _, fun i h1 h2 => absurd h2 (by show ¬ i < j; omega), fun h => absurd h (by show ¬ j < j + 0; omega)⟩
  | c + 1, j => by
    rw [fxT]
    by_cases e : x j = y j
    · rw [if_pos e]
      obtain ⟨h1, h2, h3, h4⟩ := fxT_in x y c (j + 1)
      refine ⟨by omega, by omega, fun i g1 g2 => ?_, fun g => h4 (by omega)⟩
      by_cases e2 : i = j
      · rw [e2]; exact e
      · exact h3 i (by omega) g2
    · rw [if_neg e]
      exact ⟨Nat.le_refl _, by omega, fun i g1 g2 => absurd g2 (by omega), fun _ => e⟩
abbrev gD (bs : List Nat) : Nat → Nat := fun j => bs.getD j 0
def mmN (bs cs : List Nat) : Nat := fxT (gD bs) (gD cs) (min bs.length cs.length) 0
/-- what compareTo answers -/
def cmpT (bs cs : List Nat) : Int32 := if mmN bs cs = min bs.length cs.length then nI bs.length - nI cs.length else nI (gD bs (mmN bs cs)) - nI (gD cs (mmN bs cs))
/-- bs stands ahead of cs -/
def ltX (bs cs : List Nat) : Prop := ∃ k : Nat, (∀ j, j < k → gD bs j = gD cs j) ∧ k < cs.length ∧ (k = bs.length ∨ (k < bs.length ∧ gD bs k < gD cs k))
theorem ltX.irr (bs : List Nat) : ¬ ltX bs bs := fun ⟨k, _, h2, h3⟩ => by rcases h3 with h | h <;> omega
theorem ltX.tr {bs cs ds : List Nat} (h1 : ltX bs cs) (h2 : ltX cs ds) : ltX bs ds := by
  obtain ⟨k, a1, a2, a3⟩ := h1
  obtain ⟨m, b1, b2, b3⟩ := h2
  rcases Nat.lt_trichotomy k m with g | g | g
  · refine ⟨k, fun j hj => (a1 j hj).trans (b1 j (by omega)), by omega, ?_⟩
    rcases a3 with a | ⟨a, a'⟩
    · exact Or.inl a
    · exact Or.inr ⟨a, by rw [← b1 k g]; exact a'⟩
  · subst g
    refine ⟨k, fun j hj => (a1 j hj).trans (b1 j hj), b2, ?_⟩
    rcases a3 with a | ⟨a, a'⟩
    · exact Or.inl a
    · refine Or.inr ⟨a, ?_⟩
      rcases b3 with b | ⟨b, b'⟩
      · omega
      · omega
  · refine ⟨m, fun j hj => (a1 j (by omega)).trans (b1 j hj), b2, ?_⟩
    rcases b3 with b | ⟨b, b'⟩
    · omega
    · exact Or.inr ⟨by rcases a3 with a | a <;> omega, by rw [a1 m g]; exact b'⟩
theorem ltX.as {bs cs : List Nat} (h1 : ltX bs cs) : ¬ ltX cs bs := fun h2 => ltX.irr bs (h1.tr h2)
theorem ltX_cmp {bs cs : List Nat} (hb : bs.length ≤ 2000) (hc : cs.length ≤ 2000) (hb2 : ∀ j, j < bs.length → gD bs j < 256) (hc2 : ∀ j, j < cs.length → gD cs j < 256) : (cmpT bs cs < 0 ∧ ltX bs cs) ∨ (cmpT bs cs = 0 ∧ bs = cs) ∨ (0 < cmpT bs cs ∧ ltX cs bs) := by
  obtain ⟨h1, h2, h3, h4⟩ := fxT_in (gD bs) (gD cs) (min bs.length cs.length) 0
  rw [Nat.zero_add] at h2 h4
  have hm1 := Nat.min_le_left bs.length cs.length
  have hm2 := Nat.min_le_right bs.length cs.length
  have neg : ∀ a b : Nat, a < b → b < 2 ^ 30 → nI a - nI b < 0 := fun a b g1 g2 => pk_sneg g2 g1
  have pos : ∀ a b : Nat, b < a → a < 2 ^ 30 → 0 < nI a - nI b := fun a b g1 g2 => by
    rw [pk_sub (Nat.le_of_lt g1)]
    exact (nI_ltI (a := 0) (by decide) (by omega)).mpr (by omega)
  unfold cmpT mmN
  by_cases e : fxT (gD bs) (gD cs) (min bs.length cs.length) 0 = min bs.length cs.length
  · rw [if_pos e]
    rw [e] at h3
    rcases Nat.lt_trichotomy bs.length cs.length with g | g | g
    · refine Or.inl ⟨neg _ _ g (by omega), bs.length, fun j hj => h3 j (Nat.zero_le _) (by omega), g, Or.inl rfl⟩
    · refine Or.inr (Or.inl ⟨by rw [g]; exact Int32.sub_self _, getD_ext g fun j hj => h3 j (Nat.zero_le _) (by omega)⟩)
    · refine Or.inr (Or.inr ⟨pos _ _ g (by omega), cs.length, fun j hj => (h3 j (Nat.zero_le _) (by omega)).symm, g, Or.inl rfl⟩)
  · rw [if_neg e]
    have h5 := h4 (by omega)
    generalize fxT (gD bs) (gD cs) (min bs.length cs.length) 0 = k at *
    have k1 : k < bs.length := by omega
    have k2 : k < cs.length := by omega
    have b1 := hb2 k k1
    have b2 := hc2 k k2
    rcases Nat.lt_trichotomy (gD bs k) (gD cs k) with g | g | g
    · exact Or.inl ⟨neg _ _ g (by omega), k, fun j hj => h3 j (Nat.zero_le _) hj, k2, Or.inr ⟨k1, g⟩⟩
    · exact absurd g h5
    · exact Or.inr (Or.inr ⟨pos _ _ g (by omega), k, fun j hj => (h3 j (Nat.zero_le _) hj).symm, k1, Or.inr ⟨k2, g⟩⟩)
/-- a map's keys: the hash, then the text -/
def ltK (a b : Int32 × List Nat) : Prop := a.1 < b.1 ∨ (a.1 = b.1 ∧ ltX a.2 b.2)
theorem ltK.irr (a : Int32 × List Nat) : ¬ ltK a a := fun h => by
  rcases h with h | h
  · exact Int32.lt_irrefl h
  · exact ltX.irr _ h.2
theorem ltK.tr {a b c : Int32 × List Nat} (h1 : ltK a b) (h2 : ltK b c) : ltK a c := by
  rcases h1 with h | h <;> rcases h2 with g | g
  · exact Or.inl (Int32.lt_trans h g)
  · exact Or.inl (by rw [← g.1]; exact h)
  · exact Or.inl (by rw [h.1]; exact g)
  · exact Or.inr ⟨h.1.trans g.1, h.2.tr g.2⟩
/-- a text of a key -/
def okTx (bs : List Nat) : Prop := bs.length ≤ 2000 ∧ ∀ j, j < bs.length → gD bs j < 256
theorem ltK.tri {a b : Int32 × List Nat} (ha : okTx a.2) (hb : okTx b.2) (hn : a.2 ≠ b.2) : ltK a b ∨ ltK b a := by
  by_cases e : a.1 = b.1
  · rcases ltX_cmp ha.1 hb.1 ha.2 hb.2 with h | h | h
    · exact Or.inl (Or.inr ⟨e, h.2⟩)
    · exact absurd h.2 hn
    · exact Or.inr (Or.inr ⟨e.symm, h.2⟩)
  · rcases Int32.lt_or_lt_of_ne e with h | h
    · exact Or.inl (Or.inl h)
    · exact Or.inr (Or.inl h)
/-- which way a search goes from b's node for a -/
def dirT (a b : Int32 × List Nat) : Int32 := if a.1 < b.1 then -1 else if b.1 < a.1 then 1 else cmpT a.2 b.2
theorem dirT_lt {a b : Int32 × List Nat} (ha : okTx a.2) (hb : okTx b.2) (hn : a.2 ≠ b.2) : (dirT a b < 0 ∧ ltK a b) ∨ (0 < dirT a b ∧ ltK b a) := by
  unfold dirT
  by_cases e1 : a.1 < b.1
  · rw [if_pos e1]; exact Or.inl ⟨by decide, Or.inl e1⟩
  · rw [if_neg e1]
    by_cases e2 : b.1 < a.1
    · rw [if_pos e2]; exact Or.inr ⟨by decide, Or.inl e2⟩
    · rw [if_neg e2]
      have e : a.1 = b.1 := Int32.le_antisymm (Int32.not_lt.mp e2) (Int32.not_lt.mp e1)
      rcases ltX_cmp ha.1 hb.1 ha.2 hb.2 with h | h | h
      · exact Or.inl ⟨h.1, Or.inr ⟨e, h.2⟩⟩
      · exact absurd h.2 hn
      · exact Or.inr ⟨h.1, Or.inr ⟨e.symm, h.2⟩⟩
/-- the order of nodes by their keys -/
def ltN (κ : Nat → Int32 × List Nat) (x y : Nat) : Prop := ltK (κ x) (κ y)
theorem ltN3 (κ : Nat → Int32 × List Nat) : lt3 (ltN κ) := ⟨fun x => ltK.irr _, fun _ _ _ => ltK.tr⟩
end
