/-! PURE: items of a program; what they keep. -/
section
set_option maxRecDepth 100000
/-- what is not of the program's meaning stays -/
def gF (ms m : tM) : Prop := (∀ k : Nat, k ≠ 3 → k ≠ 7 → k ≠ 8 → k ≠ 17 → k ≠ 19 → k ≠ 37 → k ≠ 38 → m.1 k = ms.1 k) ∧ (∀ k : Nat, k < 9 ∨ 15 < k → k ≠ 21 → k ≠ 22 → k ≠ 23 → k ≠ 25 → k ≠ 26 → m.2.1 k = ms.2.1 k) ∧ ∀ k : Nat, k ≠ 20 → k ≠ 24 → m.2.2 k = ms.2.2 k
theorem gF.rf (ms : tM) : gF ms ms := ⟨fun _ _ _ _ _ _ _ _ => rfl, fun _ _ _ _ _ _ _ => rfl, fun _ _ _ => rfl⟩
theorem gF.tr {m1 m2 m3 : tM} (h : gF m1 m2) (g : gF m2 m3) : gF m1 m3 := ⟨fun k a b c d e f i => (g.1 k a b c d e f i).trans (h.1 k a b c d e f i), fun k a b c d e f => (g.2.1 k a b c d e f).trans (h.2.1 k a b c d e f), fun k a b => (g.2.2 k a b).trans (h.2.2 k a b)⟩
theorem gF.of {ms m : tM} (h : mE ms m) : gF ms m := ⟨fun k h3 h7 h8 h17 _ h37 h38 => h.1 k h3 h7 h8 h17 h37 h38, fun k hk _ _ _ _ _ => h.2.1 k hk, fun k _ _ => by rw [h.2.2.2]⟩
theorem gF.S {ms m : tM} {k : Nat} {v : Int32} (h : gF ms m) (hk : k = 3 ∨ k = 7 ∨ k = 8 ∨ k = 17 ∨ k = 19 ∨ k = 37 ∨ k = 38) : gF ms (tS m k v) := ⟨fun j h3 h7 h8 h17 h19 h37 h38 => by
    show upd m.1 k v j = ms.1 j
    simp only [upd]
    rw [if_neg (by omega)]
    exact h.1 j h3 h7 h8 h17 h19 h37 h38, h.2⟩
theorem gF.I {ms m : tM} {k n : Nat} {v : Int32} (h : gF ms m) (hk : k = 21 ∨ k = 22 ∨ k = 23 ∨ k = 25 ∨ k = 26) : gF ms (tI m k n v) := ⟨h.1, fun j a b c d e f => by
    show (if j = k then upd (m.2.1 k) n v else m.2.1 j) = ms.2.1 j
    rw [if_neg (by omega)]
    exact h.2.1 j a b c d e f, h.2.2⟩
theorem gF.L {ms m : tM} {k n : Nat} {v : Int64} (h : gF ms m) (hk : k = 20 ∨ k = 24) : gF ms (tL m k n v) := ⟨h.1, h.2.1, fun j a b => by
    show (if j = k then vp_updL (m.2.2 k) n v else m.2.2 j) = ms.2.2 j
    rw [if_neg (by omega)]
    exact h.2.2 j a b⟩
theorem tkS.g {ms m : tM} {T : Tv} {N : Nat} (h : tkS ms T N) (g : gF ms m) : tkS m T N := ⟨fun t ht => tkAt_cg (g.2.1 1 (by decide) (by decide) (by decide) (by decide) (by decide) (by decide)) (g.2.1 4 (by decide) (by decide) (by decide) (by decide) (by decide) (by decide)) (g.2.1 5 (by decide) (by decide) (by decide) (by decide) (by decide) (by decide)) (g.2.1 6 (by decide) (by decide) (by decide) (by decide) (by decide) (by decide)) (h.1 t ht), h.2⟩
/-- a program that is made so far -/
def pgI (ms : tM) : Prop := (∀ k : Nat, k < 4 → ms.2.1 23 k = nI (mnN ms k)) ∧ mnN ms 0 ≤ 8 ∧ (∀ k : Nat, 0 < k → k < 4 → mnN ms k ≤ 12) ∧ nN (ms.1 19) = mnN ms 0 + mnN ms 1 + mnN ms 2 + mnN ms 3 ∧ (∀ k j : Nat, 0 < k → k < 4 → j < mnN ms k → mL (k != 2) ms (ms.2.1 25 (12 * k + j))) ∧ ∀ j : Nat, j < nN (ms.1 19) → nN (ms.2.1 22 j) < mnN ms (nN (ms.2.1 21 j))
theorem pgI.kept {ms ms' : tM} (h : pgI ms) (g : mF ms ms') : pgI ms' := by
  have e19 := g.2.1 19 (by decide) (by decide) (by decide) (by decide) (by decide)
  unfold pgI mnN
  rw [e19, g.2.2.1 21 (by decide), g.2.2.1 22 (by decide), g.2.2.1 25 (by decide), g.2.2.1 23 (by decide)]
  exact ⟨h.1, h.2.1, h.2.2.1, h.2.2.2.1, fun k j a b c => (h.2.2.2.2.1 k j a b c).kept g, h.2.2.2.2.2⟩
/-- a table other than the parts', the names' and the items' is written -/
theorem mS.I {B a k n : Nat} {ms : tM} {v : Int32} (h : mS B a ms) (hk : k = 23 ∨ k = 26) : mS B a (tI ms k n v) := by
  have e : ∀ j : Nat, j ≠ k → (tI ms k n v).2.1 j = ms.2.1 j := fun j hj => if_neg hj
  refine ⟨h.1, h.2.1, h.2.2.1, fun i hi => okC_fr (fun q j _ hq => by rw [e q (by omega)]) (h.2.2.2.1 i hi), ?_⟩
  have hn := h.2.2.2.2
  refine ⟨hn.1, hn.2.1, fun j hj => ?_⟩
  obtain ⟨s, q, h1, h2, h3, h4, h5, h6⟩ := hn.2.2 j hj
  refine ⟨s, q, h1, (by rw [e 21 (by omega)]; exact h2), (by rw [e 22 (by omega)]; exact h3), h4, h5, fun z => ?_⟩
  rw [e 25 (by omega)]
  obtain ⟨z1, z2, z3⟩ := h6 z
  refine ⟨z1, z2, ?_⟩
  show nN ((tI ms k n v).2.1 9 _) < 14 ↔ _
  rw [e 9 (by omega)]
  exact z3
theorem mL.I {f : Bool} {k n : Nat} {ms : tM} {l v : Int32} (h : mL f ms l) (hk : k = 21 ∨ k = 22 ∨ k = 23 ∨ k = 25 ∨ k = 26) : mL f (tI ms k n v) l := by
  refine ⟨h.1, h.2.1, ?_⟩
  show nN ((tI ms k n v).2.1 9 _) < 14 ↔ _
  rw [show (tI ms k n v).2.1 9 = ms.2.1 9 from if_neg (by omega)]
  exact h.2.2
theorem pgI.I26 {n : Nat} {ms : tM} {v : Int32} (h : pgI ms) : pgI (tI ms 26 n v) := ⟨h.1, h.2.1, h.2.2.1, h.2.2.2.1, fun k j a b c => (h.2.2.2.2.1 k j a b c).I (by decide), h.2.2.2.2.2⟩
theorem topT_25 (s : Nat) (m : tM) (i : Nat) : (topT s m).2.1 25 i = if i = 12 * s + mnN m s then m.1 17 else m.2.1 25 i := by
  show (if 25 = 25 then upd (m.2.1 25) (12 * s + mnN m s) (m.1 17) else m.2.1 25) i = _
  rw [if_pos rfl]
  rfl
/-- a new item of sort s: its part first (s > 0), then its name -/
theorem new_ok {T : Tv} {B a s t : Nat} {m : tM} (hs : s < 4) (hm : mS B a m) (hp : pgI m) (hlt : mnN m s < if s = 0 then 8 else 12) (ht : 0 < s → m.2.1 25 (12 * s + mnN m s) = m.2.1 25 (12 * s + mnN m s) ∧ mL (s != 2) m (m.2.1 25 (12 * s + mnN m s))) : mS B a (newT T s t m) ∧ pgI (newT T s t m) ∧ gF m (newT T s t m) := by
  obtain ⟨p1, p2, p3, p4, p5, p6⟩ := hp
  have hn := hm.2.2.2.2
  have hnl : nN (m.1 19) < 44 := by
    have := p3 1 (by decide) (by decide); have := p3 2 (by decide) (by decide); have := p3 3 (by decide) (by decide)
    rcases (by omega : s = 0 ∨ s = 1 ∨ s = 2 ∨ s = 3) with rfl | rfl | rfl | rfl <;> simp at hlt <;> omega
  have h12 : mnN m s < 12 := by split at hlt <;> omega
  have e19 : (newT T s t m).1 19 = nI (nN (m.1 19) + 1) := rfl
  have n19 : nN ((newT T s t m).1 19) = nN (m.1 19) + 1 := by rw [e19]; exact nN_nI (by omega)
  have e21 : ∀ j : Nat, (newT T s t m).2.1 21 j = if j = nN (m.1 19) then nI s else m.2.1 21 j := fun j => rfl
  have e22 : ∀ j : Nat, (newT T s t m).2.1 22 j = if j = nN (m.1 19) then m.2.1 23 s else m.2.1 22 j := fun j => rfl
  have e23 : ∀ j : Nat, (newT T s t m).2.1 23 j = if j = s then m.2.1 23 s + 1 else m.2.1 23 j := fun j => rfl
  have ek : ∀ k : Nat, k ≠ 21 → k ≠ 22 → k ≠ 23 → (newT T s t m).2.1 k = m.2.1 k := fun k h1 h2 h3 => by
    show (if k = 23 then _ else if k = 22 then _ else if k = 21 then _ else m.2.1 k) = m.2.1 k
    rw [if_neg h3, if_neg h2, if_neg h1]
  have hL : ∀ {f : Bool} {l : Int32}, mL f m l → mL f (newT T s t m) l := fun hl => ⟨hl.1, hl.2.1, by
    show nN ((newT T s t m).2.1 9 _) < 14 ↔ _
    rw [ek 9 (by decide) (by decide) (by decide)]
    exact hl.2.2⟩
  have mn : ∀ k : Nat, k < 4 → mnN (newT T s t m) k = if k = s then mnN m s + 1 else mnN m k := fun k hk => by
    show nN ((newT T s t m).2.1 23 k) = _
    rw [e23 k]
    by_cases e : k = s
    · subst e
      rw [if_pos rfl, if_pos rfl, p1 k hk, nI_1]
      exact nN_nI (by omega)
    · rw [if_neg e, if_neg e]
  refine ⟨⟨hm.1, hm.2.1, hm.2.2.1, fun i hi => okC_fr (fun k j _ hk => by rw [ek k (by omega) (by omega) (by omega)]) (hm.2.2.2.1 i hi), ?_⟩, ⟨?_, ?_, ?_, ?_, ?_, ?_⟩, ?_⟩
  · refine ⟨by rw [n19]; rfl, by rw [n19]; omega, fun j hj => ?_⟩
    rw [n19] at hj
    rw [e21, e22, ek 25 (by decide) (by decide) (by decide)]
    by_cases e : j = nN (m.1 19)
    · rw [if_pos e, if_pos e]
      refine ⟨s, mnN m s, hs, rfl, p1 s hs, h12, fun z => by rw [if_pos z] at hlt; exact hlt, fun z => hL (ht z).2⟩
    · rw [if_neg e, if_neg e]
      obtain ⟨s', q, h1, h2, h3, h4, h5, h6⟩ := hn.2.2 j (by omega)
      exact ⟨s', q, h1, h2, h3, h4, h5, fun z => hL (h6 z)⟩
  · intro k hk
    rw [e23, mn k hk]
    by_cases e : k = s
    · subst e; rw [if_pos rfl, if_pos rfl, p1 k hk, nI_1]
    · rw [if_neg e, if_neg e]; exact p1 k hk
  · rw [mn 0 (by decide)]
    split at hlt <;> split <;> omega
  · intro k h0 hk
    rw [mn k hk]
    have := p3 k h0 hk
    split at hlt <;> split <;> omega
  · rw [n19, mn 0 (by decide), mn 1 (by decide), mn 2 (by decide), mn 3 (by decide), p4]
    rcases (by omega : s = 0 ∨ s = 1 ∨ s = 2 ∨ s = 3) with rfl | rfl | rfl | rfl <;> simp <;> omega
  · intro k j h0 hk hj
    rw [ek 25 (by decide) (by decide) (by decide)]
    rw [mn k hk] at hj
    by_cases e : k = s
    · subst e
      rw [if_pos rfl] at hj
      rcases Nat.lt_or_ge j (mnN m k) with l | l
      · exact hL (p5 k j h0 hk l)
      · have e2 : j = mnN m k := by omega
        rw [e2]
        exact hL (ht h0).2
    · rw [if_neg e] at hj
      exact hL (p5 k j h0 hk hj)
  · intro j hj
    rw [n19] at hj
    rw [e21, e22]
    by_cases e : j = nN (m.1 19)
    · rw [if_pos e, if_pos e, nN_nI (by omega), mn s hs, if_pos rfl]
      exact Nat.lt_succ_self _
    · rw [if_neg e, if_neg e]
      have h6 := p6 j (by omega)
      obtain ⟨s', q, h1, h2, h3, -⟩ := hn.2.2 j (by omega)
      rw [h2] at h6 ⊢
      rw [nN_nI (by omega)] at h6 ⊢
      rw [mn s' h1]
      split
      · next e9 => rw [e9] at h6; omega
      · exact h6
  · exact (((((gF.rf m).L (Or.inl rfl)).I (Or.inl rfl)).I (Or.inr (Or.inl rfl))).S (by decide)).I (by decide)
theorem top_ok {B a s : Nat} {m : tM} (hs0 : 0 < s) (hs : s < 4) (hm : mS B a m) (hp : pgI m) (hlt : mnN m s < 12) (hl : mL (s != 2) m (m.1 17)) : mS B a (topT s m) ∧ pgI (topT s m) ∧ gF m (topT s m) ∧ mL (s != 2) (topT s m) ((topT s m).2.1 25 (12 * s + mnN (topT s m) s)) := by
  obtain ⟨p1, p2, p3, p4, p5, p6⟩ := hp
  have hn := hm.2.2.2.2
  have ek : ∀ k : Nat, k ≠ 25 → (topT s m).2.1 k = m.2.1 k := fun k h => if_neg h
  have ne : ∀ (s' q : Nat), 0 < s' → s' < 4 → q < 12 → q < mnN m s' → (topT s m).2.1 25 (12 * s' + q) = m.2.1 25 (12 * s' + q) := fun s' q h0 h4 h12 hq => by
    rw [topT_25, if_neg]
    intro z
    by_cases e : s' = s
    · subst e; omega
    · omega
  refine ⟨⟨hm.1, hm.2.1, hm.2.2.1, fun i hi => okC_fr (fun k j _ hk => by rw [ek k (by omega)]) (hm.2.2.2.1 i hi), ?_⟩, ⟨p1, p2, p3, p4, fun k j h0 hk hj => ?_, p6⟩, (gF.rf m).I (by decide), ?_⟩
  · refine ⟨hn.1, hn.2.1, fun j hj => ?_⟩
    obtain ⟨s', q, h1, h2, h3, h4, h5, h6⟩ := hn.2.2 j hj
    have h7 := p6 j hj
    rw [h2, h3, nN_nI (by omega), nN_nI (by omega)] at h7
    refine ⟨s', q, h1, h2, h3, h4, h5, fun z => ?_⟩
    rw [ne s' q z h1 h4 h7]
    exact (h6 z).I (by decide)
  · have := p3 k h0 hk
    rw [ne k j h0 hk (by have : j < mnN m k := hj; omega) hj]
    exact (p5 k j h0 hk hj).I (by decide)
  · show mL (s != 2) (topT s m) ((topT s m).2.1 25 (12 * s + mnN m s))
    rw [topT_25, if_pos rfl]
    exact hl.I (by decide)
end
