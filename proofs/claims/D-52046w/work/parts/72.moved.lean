/-! PURE: the moved question's nodes. -/
section
set_option maxRecDepth 100000
def vq (X : tM) (B sh : Int32) (q k : Nat) : Int32 := if q = 10 then mvI (X.2.1 10 k) B sh (ptI (X.2.1 9 k) 1) else if q = 11 then mvI (X.2.1 11 k) B sh (ptI (X.2.1 9 k) 2) else if q = 12 then mvI (X.2.1 12 k) B sh (ptI (X.2.1 9 k) 3) else X.2.1 q k
theorem mqK_k (X : tM) (t k : Nat) : (mqK X t k).2.1 9 k = X.2.1 9 k := by
  by_cases e : k = t
  · simp [mqK, tI, upd, e]
  · simp [mqK, tI, upd, e]
theorem mq1_at (X : tM) (B sh : Int32) (t k q j : Nat) (h9 : 9 ≤ q) (h15 : q ≤ 15) : (mq1 X B sh t k).2.1 q j = if j = t then vq X B sh q k else X.2.1 q j := by
  unfold mq1
  rw [mqK_k]
  have hq : q = 9 ∨ q = 10 ∨ q = 11 ∨ q = 12 ∨ q = 13 ∨ q = 14 ∨ q = 15 := by omega
  rcases hq with rfl | rfl | rfl | rfl | rfl | rfl | rfl <;> (by_cases e : j = t <;> simp [mqK, tI, upd, vq, e])
theorem mqS_at (ms : tM) {P B sh : Nat} (hP : P + sh = B) : ∀ c q j : Nat, 9 ≤ q → q ≤ 15 → (mqS ms B sh c).2.1 q j = if P ≤ j ∧ j < P + c then vq ms (nI B) (nI sh) q (j + sh) else ms.2.1 q j
  | 0, q, j, _, _ => by rw [if_neg (by omega)]; rfl
  | c + 1, q, j, h9, h15 => by
    have ih := mqS_at ms hP c
    have src : ∀ p : Nat, 9 ≤ p → p ≤ 15 → (mqS ms B sh c).2.1 p (B + c) = ms.2.1 p (B + c) ∨ sh = 0 ∧ False := fun p a b => Or.inl (by rw [ih p _ a b, if_neg (by omega)])
    have s9 : ∀ p : Nat, 9 ≤ p → p ≤ 15 → (mqS ms B sh c).2.1 p (B + c) = ms.2.1 p (B + c) := fun p a b => (src p a b).elim id (fun z => z.2.elim)
    have hv : vq (mqS ms B sh c) (nI B) (nI sh) q (B + c) = vq ms (nI B) (nI sh) q (B + c) := by
      unfold vq
      rw [s9 9 (by decide) (by decide), s9 10 (by decide) (by decide), s9 11 (by decide) (by decide), s9 12 (by decide) (by decide), s9 q h9 h15]
    show (mq1 (mqS ms B sh c) (nI B) (nI sh) (B + c - sh) (B + c)).2.1 q j = _
    rw [mq1_at _ _ _ _ _ _ _ h9 h15, hv, ih q j h9 h15]
    by_cases e : j = B + c - sh
    · rw [if_pos e, if_pos (by omega), show j + sh = B + c by omega]
    · rw [if_neg e]
      by_cases e2 : P ≤ j ∧ j < P + c
      · rw [if_pos e2, if_pos (by omega)]
      · rw [if_neg e2, if_neg (by omega)]
def phi (B sh x : Nat) : Nat := if x < B then x else x - sh
theorem mvI_t {a B sh : Nat} (ha : a < 2000) (hB : B < 2000) (hs : sh ≤ B) : mvI (nI a) (nI B) (nI sh) true = nI (phi B sh a) := by
  unfold mvI phi
  rw [if_pos rfl]
  by_cases e : a < B
  · rw [if_pos ((nI_ltI (by omega) (by omega)).mpr e), if_pos e]
  · rw [if_neg (fun z => e ((nI_ltI (by omega) (by omega)).mp z)), if_neg e, nI_sub2 (by omega)]
theorem ptI_12 : ∀ k : Nat, k < 35 → (k ≠ 20 → k ≠ 21 → ptI (nI k) 1 = true ∧ ptI (nI k) 2 = true) ∧ ptI (nI k) 3 = (k == 33) ∧ ptI (nI 21) 1 = false := by decide +kernel
theorem us_21 : ∀ k : Nat, k < 35 → us1 k = true → k ≠ 20 := by decide +kernel
theorem us_22 : ∀ k : Nat, k < 35 → us2 k = true → k ≠ 20 ∧ k ≠ 21 := by decide +kernel
theorem us_33 : us1 33 = true ∧ us3 33 = true := by decide
theorem mq_okC {ms : tM} {P B sh c i : Nat} (hP : P + sh = B) (hB : B ≤ 802) (hi : i < c) (hc : B + c ≤ 1203) (hk : okC ms (B + i)) (hs : (us1 (nk ms (B + i)) = true → nk ms (B + i) ≠ 21 → okX P B (ms.2.1 10 (B + i))) ∧ (us2 (nk ms (B + i)) = true → okX P B (ms.2.1 11 (B + i))) ∧ (nk ms (B + i) = 33 → okX P B (ms.2.1 12 (B + i)))) : okC (mqS ms B sh c) (P + i) := by
  have at9 : ∀ q : Nat, 9 ≤ q → q ≤ 15 → (mqS ms B sh c).2.1 q (P + i) = vq ms (nI B) (nI sh) q (B + i) := fun q a b => by rw [mqS_at ms hP c q _ a b, if_pos (by omega), show P + i + sh = B + i by omega]
  have out : ∀ j : Nat, j < P → nk (mqS ms B sh c) j = nk ms j := fun j hj => by show nN _ = nN _; rw [mqS_at ms hP c 9 j (by decide) (by decide), if_neg (by omega)]
  have inn : ∀ j : Nat, B ≤ j → j < B + i → nk (mqS ms B sh c) (j - sh) = nk ms j := fun j h1 h2 => by
    show nN _ = nN _
    rw [mqS_at ms hP c 9 _ (by decide) (by decide), if_pos (by omega), show j - sh + sh = j by omega]
    rfl
  have ph : ∀ x : Nat, x < B + i → (x < P ∨ B ≤ x) → phi B sh x < P + i ∧ nk (mqS ms B sh c) (phi B sh x) = nk ms x := fun x h1 h2 => by
    unfold phi
    rcases h2 with h2 | h2
    · rw [if_pos (by omega)]; exact ⟨by omega, out x h2⟩
    · rw [if_neg (by omega)]; exact ⟨by omega, inn x h2 h1⟩
  obtain ⟨⟨⟨o1, o2, o3, o4, o5, o6⟩, w2, w3, w4, w5⟩, c1, c2, c3, c4, c5, c6⟩ := hk
  obtain ⟨k, hkk⟩ : ∃ k : Nat, k = nk ms (B + i) := ⟨_, rfl⟩
  rw [← hkk] at o2 o3 o4 o5 o6 w2 w3 w4 w5 c1 c2 c3 c4 c5 c6 hs
  have e9 : (mqS ms B sh c).2.1 9 (P + i) = nI k := (at9 9 (by decide) (by decide)).trans o3
  have ek : nk (mqS ms B sh c) (P + i) = k := by show nN ((mqS ms B sh c).2.1 9 (P + i)) = k; rw [e9]; exact nN_nI (by omega)
  have pt := ptI_12 k o2
  have e10 : (mqS ms B sh c).2.1 10 (P + i) = mvI (ms.2.1 10 (B + i)) (nI B) (nI sh) (ptI (nI k) 1) := (at9 10 (by decide) (by decide)).trans (by rw [← o3]; rfl)
  have e11 : (mqS ms B sh c).2.1 11 (P + i) = mvI (ms.2.1 11 (B + i)) (nI B) (nI sh) (ptI (nI k) 2) := (at9 11 (by decide) (by decide)).trans (by rw [← o3]; rfl)
  have e12 : (mqS ms B sh c).2.1 12 (P + i) = mvI (ms.2.1 12 (B + i)) (nI B) (nI sh) (ptI (nI k) 3) := (at9 12 (by decide) (by decide)).trans (by rw [← o3]; rfl)
  have a1 : us1 k = true → k ≠ 21 → (mqS ms B sh c).2.1 10 (P + i) = nI (phi B sh (na ms (B + i))) ∧ na (mqS ms B sh c) (P + i) = phi B sh (na ms (B + i)) := fun u v => by
    have z : (mqS ms B sh c).2.1 10 (P + i) = nI (phi B sh (na ms (B + i))) := by rw [e10, (pt.1 (us_21 k o2 u) v).1, (o4 u).1]; exact mvI_t (by have := (o4 u).2; omega) (by omega) (by omega)
    exact ⟨z, by show nN ((mqS ms B sh c).2.1 10 (P + i)) = _; rw [z]; exact nN_nI (by have := (o4 u).2; unfold phi; split <;> omega)⟩
  have a1' : k = 21 → (mqS ms B sh c).2.1 10 (P + i) = ms.2.1 10 (B + i) := fun v => by rw [e10, v, pt.2.2]; rfl
  have a2 : us2 k = true → (mqS ms B sh c).2.1 11 (P + i) = nI (phi B sh (nb ms (B + i))) ∧ nb (mqS ms B sh c) (P + i) = phi B sh (nb ms (B + i)) := fun u => by
    have z : (mqS ms B sh c).2.1 11 (P + i) = nI (phi B sh (nb ms (B + i))) := by rw [e11, (pt.1 (us_22 k o2 u).1 (us_22 k o2 u).2).2, (o5 u).1]; exact mvI_t (by have := (o5 u).2; omega) (by omega) (by omega)
    exact ⟨z, by show nN ((mqS ms B sh c).2.1 11 (P + i)) = _; rw [z]; exact nN_nI (by have := (o5 u).2; unfold phi; split <;> omega)⟩
  have a3 : k = 33 → (mqS ms B sh c).2.1 12 (P + i) = nI (phi B sh (nc ms (B + i))) ∧ nc (mqS ms B sh c) (P + i) = phi B sh (nc ms (B + i)) := fun u => by
    have u3 : us3 k = true := by rw [u]; exact us_33.2
    have z : (mqS ms B sh c).2.1 12 (P + i) = nI (phi B sh (nc ms (B + i))) := by rw [e12, pt.2.1, show (k == 33) = true from beq_iff_eq.mpr u, (o6 u3).1]; exact mvI_t (by have := (o6 u3).2; omega) (by omega) (by omega)
    exact ⟨z, by show nN ((mqS ms B sh c).2.1 12 (P + i)) = _; rw [z]; exact nN_nI (by have := (o6 u3).2; unfold phi; split <;> omega)⟩
  have a3' : k ≠ 33 → (mqS ms B sh c).2.1 12 (P + i) = ms.2.1 12 (B + i) := fun u => by rw [e12, pt.2.1, show (k == 33) = false from beq_false_of_ne u]; rfl
  have n3' : k ≠ 33 → nc (mqS ms B sh c) (P + i) = nc ms (B + i) := fun u => by show nN _ = nN _; rw [a3' u]
  have n1' : k = 21 → na (mqS ms B sh c) (P + i) = na ms (B + i) := fun u => by show nN _ = nN _; rw [a1' u]
  have le : ∀ x : Nat, x < 1203 → phi B sh x < 1203 := fun x hx => by unfold phi; split <;> omega
  unfold okC okW okN
  rw [ek]
  refine ⟨⟨⟨by omega, o2, e9, fun u => ?_, fun u => ?_, fun u => ?_⟩, w2, fun u => by rw [n3' (by omega)]; exact w3 u, fun u => by rw [n3' (by omega)]; exact w4 u, fun u => by rw [n1' u]; exact w5 u⟩, fun u v => ?_, fun u => ?_, fun u => ?_, fun u v => ?_, fun u => ?_, fun u => ?_⟩
  · by_cases v : k = 21
    · rw [a1' v, n1' v]; exact o4 u
    · rw [(a1 u v).2]; exact ⟨(a1 u v).1, le _ (o4 u).2⟩
  · rw [(a2 u).2]; exact ⟨(a2 u).1, le _ (o5 u).2⟩
  · by_cases v : k = 33
    · rw [(a3 v).2]; exact ⟨(a3 v).1, le _ (o6 u).2⟩
    · rw [a3' v, n3' v]; exact o6 u
  · rw [(a1 u v).2]; exact (ph _ (c1 u v) (hs.1 u v)).1
  · rw [(a2 u).2]; exact (ph _ (c2 u) (hs.2.1 u)).1
  · rw [(a3 u).2]; exact (ph _ (c3 u) (hs.2.2 u)).1
  · rw [(a1 u v).2, (ph _ (c1 u v) (hs.1 u v)).2]; exact c4 u v
  · rw [(a2 u).2, (ph _ (c2 u) (hs.2.1 u)).2]; exact c5 u
  · rw [(a3 u).2, (ph _ (c3 u) (hs.2.2 u)).2]; exact c6 u
end
