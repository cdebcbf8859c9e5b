/-! Lists: the picture of an ArrayList. -/
section
set_option maxRecDepth 100000
theorem aw_castN {G : aG} {K : aK} {P : aP} {pc n : Nat} {lv : List (Nat × Value)} {rest : List Value} {h : hH} {ce sl : Nat} {idx : Nat} (hd : decode K.2.1 pc = .ok (.checkcast idx, 3)) (hn : pc + 3 = n) (k : AW G K P n lv (.null :: rest) h ce sl) : AW G K P pc lv (.null :: rest) h ce sl := by
  intro p l e s m args below meth c C H locs ls hR hl hf
  subst hn
  exact lv_castN C.1 C.2.1 hd (k p l e s m args below meth c C H locs ls hR hl hf)
theorem va_rf_fit {C : String} (x : Option Nat) : fits (.object C) (va_rf x) = true := by cases x <;> rfl
theorem va_rf_nar {C : String} (x : Option Nat) : narrow (.object C) (va_rf x) = va_rf x := by cases x <;> rfl
theorem kindA.at_lt {G : aG} {h : hH} {v : Nat} {ad : String} (hi : hInv G h) (k : kindA h v ad) : v < h.1 := by
  rcases k with ⟨_, _, _, _, h1, _⟩ | ⟨_, _, _, _, h1, _⟩ <;> exact hi.2.1 _ _ h1
theorem kindA.mv {h h1 : hH} {v : Nat} {ad : String} (k : kindA h v ad) (e : h1.2 v = h.2 v) : kindA h1 v ad := by
  rcases k with ⟨ci, fs, T, N, q1, q2⟩ | ⟨ti, n, f, ty, q1, q2, q3⟩
  · exact Or.inl ⟨ci, fs, T, N, e.trans q1, q2⟩
  · exact Or.inr ⟨ti, n, f, ty, e.trans q1, q2, q3⟩
theorem kindA.w {h h1 : hH} {v a : Nat} {ad : String} {e : hE} (k : kindA h v ad) (w : hW1 h h1 a e) (hn : v ≠ a) : kindA h1 v ad := k.mv (w.2.1 v hn)
theorem kindA.nw {G : aG} {h h1 : hH} {v a : Nat} {ad : String} {e : hE} (k : kindA h v ad) (hi : hInv G h) (w : hN1 h h1 a e) : kindA h1 v ad := k.mv (w.2.1 v (by have := k.at_lt hi; have := w.2.2.1; omega))
theorem kindA.fr {G : aG} {h h1 : hH} {v : Nat} {ad : String} {S : Nat → Prop} (k : kindA h v ad) (hi : hInv G h) (hF : Fr S h h1) (hn : ¬ S v) : kindA h1 v ad := k.mv (hF.2 v (k.at_lt hi) hn)
/-- a cell that may stand in an array of Object -/
def elO (h : hH) (v : Nat) : Prop := ∃ ad : String, kindA h v ad ∧ Cond.castable ad "java/lang/Object" ∈ lw_tbl
theorem elO.mv {h h1 : hH} {v : Nat} (k : elO h v) (e : h1.2 v = h.2 v) : elO h1 v := by
  obtain ⟨ad, k1, k2⟩ := k
  exact ⟨ad, k1.mv e, k2⟩
theorem elO.lt {G : aG} {h : hH} {v : Nat} (k : elO h v) (hi : hInv G h) : v < h.1 := by
  obtain ⟨ad, k1, k2⟩ := k
  exact k1.at_lt hi
theorem elO.fr {G : aG} {h h1 : hH} {v : Nat} {S : Nat → Prop} (k : elO h v) (hi : hInv G h) (hF : Fr S h h1) (hn : ¬ S v) : elO h1 v := k.mv (hF.2 v (k.lt hi) hn)
theorem elO.ok {h : hH} {v : Nat} (k : elO h v) : elOK h "java/lang/Object" (.ref v) := by
  obtain ⟨ad, k1, k2⟩ := k
  exact Or.inr ⟨v, ad, rfl, k1, Or.inr k2⟩
/-- an ArrayList at o, its array at a, its elements -/
def isAL (G : aG) (h : hH) (o a : Nat) (xs : List Nat) : Prop := ∃ (mc : Int32) (cap : Nat) (f : Nat → Value), h.2 o = some (hob 24 [.int mc, .ref a, .int (nI xs.length)]) ∧ h.2 a = some (har 4 cap f) ∧ xs.length ≤ cap ∧ cap < 2000 ∧ (∀ j, j < xs.length → f j = .ref (xs.getD j 0)) ∧ ((cap = 0 ∧ Value.ref a = gV G 33 ∧ a < gB G) ∨ (0 < cap ∧ gB G ≤ a))
/-- with the number of its changes -/
def isALm (G : aG) (h : hH) (o a : Nat) (mc : Int32) (xs : List Nat) : Prop := ∃ (cap : Nat) (f : Nat → Value), h.2 o = some (hob 24 [.int mc, .ref a, .int (nI xs.length)]) ∧ h.2 a = some (har 4 cap f) ∧ xs.length ≤ cap ∧ cap < 2000 ∧ (∀ j, j < xs.length → f j = .ref (xs.getD j 0)) ∧ ((cap = 0 ∧ Value.ref a = gV G 33 ∧ a < gB G) ∨ (0 < cap ∧ gB G ≤ a))
theorem isALm.al {G : aG} {h : hH} {o a : Nat} {mc : Int32} {xs : List Nat} (L : isALm G h o a mc xs) : isAL G h o a xs := ⟨mc, L⟩
theorem isALm.mv {G : aG} {h h1 : hH} {o a : Nat} {mc : Int32} {xs : List Nat} (L : isALm G h o a mc xs) (e1 : h1.2 o = h.2 o) (e2 : h1.2 a = h.2 a) : isALm G h1 o a mc xs := by
  obtain ⟨cap, f, q1, q2, q3⟩ := L
  exact ⟨cap, f, e1.trans q1, e2.trans q2, q3⟩
theorem isAL.mv {G : aG} {h h1 : hH} {o a : Nat} {xs : List Nat} (L : isAL G h o a xs) (e1 : h1.2 o = h.2 o) (e2 : h1.2 a = h.2 a) : isAL G h1 o a xs := by
  obtain ⟨mc, cap, f, q1, q2, q3⟩ := L
  exact ⟨mc, cap, f, e1.trans q1, e2.trans q2, q3⟩
theorem isAL.lt {G : aG} {h : hH} {o a : Nat} {xs : List Nat} (L : isAL G h o a xs) (hi : hInv G h) : o < h.1 ∧ a < h.1 := by
  obtain ⟨mc, cap, f, q1, q2, q3⟩ := L
  exact ⟨hi.2.1 _ _ q1, hi.2.1 _ _ q2⟩
/-- what stood before the run stands for ever -/
theorem low_eq {G : aG} {h h1 : hH} (hi : hInv G h) (hi1 : hInv G h1) {q : Nat} (hq : q < gB G) : h1.2 q = h.2 q := (hi1.2.2 q hq).trans (hi.2.2 q hq).symm
theorem isAL.fr {G : aG} {h h1 : hH} {o a : Nat} {xs : List Nat} {S : Nat → Prop} (L : isAL G h o a xs) (hi : hInv G h) (hi1 : hInv G h1) (hF : Fr S h h1) (ho : ¬ S o) (ha : ¬ S a ∨ a < gB G) : isAL G h1 o a xs := by
  obtain ⟨l1, l2⟩ := L.lt hi
  refine L.mv (hF.2 o l1 ho) ?_
  rcases ha with ha | ha
  · exact hF.2 a l2 ha
  · exact low_eq hi hi1 ha
theorem isALm.fr {G : aG} {h h1 : hH} {o a : Nat} {mc : Int32} {xs : List Nat} {S : Nat → Prop} (L : isALm G h o a mc xs) (hi : hInv G h) (hi1 : hInv G h1) (hF : Fr S h h1) (ho : ¬ S o) (ha : ¬ S a ∨ a < gB G) : isALm G h1 o a mc xs := by
  obtain ⟨l1, l2⟩ := L.al.lt hi
  refine L.mv (hF.2 o l1 ho) ?_
  rcases ha with ha | ha
  · exact hF.2 a l2 ha
  · exact low_eq hi hi1 ha
theorem isAL.len {G : aG} {h : hH} {o a : Nat} {xs : List Nat} (L : isAL G h o a xs) : xs.length < 2000 := by
  obtain ⟨mc, cap, f, q1, q2, q3, q4, q5⟩ := L
  omega
theorem nI_max {m p : Nat} (hm : m < 2 ^ 31) (hp : p < 2 ^ 31) : (if nI m < nI p then nI p else nI m) = nI (max m p) := by
  by_cases h : m < p
  · rw [if_pos (nI_lt h hp), Nat.max_eq_right (Nat.le_of_lt h)]
  · rw [if_neg (nI_nlt (Nat.not_lt.mp h) hm), Nat.max_eq_left (Nat.not_lt.mp h)]
theorem nI_min {m p : Nat} (hm : m < 2 ^ 31) (hp : p < 2 ^ 31) : (if nI p < nI m then nI p else nI m) = nI (min m p) := by
  by_cases h : p < m
  · rw [if_pos (nI_lt h hm), Nat.min_eq_right (Nat.le_of_lt h)]
  · rw [if_neg (nI_nlt (Nat.not_lt.mp h) hp), Nat.min_eq_left (Nat.not_lt.mp h)]
theorem nI_half {n : Nat} (h : n < 2 ^ 31) : nI n >>> ((1 : Int32) &&& 31) = nI (n / 2) := pk_shrN h _ 1 (by decide)
theorem getD_app {xs : List Nat} {x j : Nat} (h : j < xs.length) : (xs ++ [x]).getD j 0 = xs.getD j 0 := by
  simp [List.getD, List.getElem?_append_left h]
theorem getD_last {xs : List Nat} {x : Nat} : (xs ++ [x]).getD xs.length 0 = x := by simp [List.getD]
end
