/-! PURE: a refused question keeps the twin's state right; feed and the texts. -/
section
set_option maxRecDepth 100000
theorem aqNO_tOK {ms m : tM} {n : Nat} (hI : tOK ms) (hn : nmI ms) (hg : mE (aF ms n) m) : tOK (tS m 2 0) ∧ nmI (tS m 2 0) := by
  have hb := bsN_P hI
  have e := aF_nn (n := n) hI
  obtain ⟨X, hX⟩ : ∃ X : tM, X = tS m 2 0 := ⟨_, rfl⟩
  have y : ∀ k : Nat, k ≠ 0 → k ≠ 2 → k ≠ 3 → k ≠ 7 → k ≠ 8 → k ≠ 17 → k ≠ 37 → k ≠ 38 → X.1 k = ms.1 k := fun k h0 h2 h3 h7 h8 h17 h37 h38 => by
    rw [hX]
    show upd m.1 2 0 k = ms.1 k
    simp only [upd, if_neg h2]
    exact (hg.1 k h3 h7 h8 h17 h37 h38).trans (aF_1 ms n h0 h3 h7 h8)
  have xk : ∀ k : Nat, 15 < k → X.2.1 k = ms.2.1 k := fun k hk => by rw [hX]; exact (hg.2.1 k (Or.inr hk)).trans (aF_k ms n ⟨by omega, by omega, by omega⟩)
  have xl : ∀ k j : Nat, 9 ≤ k → j < bsN ms → X.2.1 k j = ms.2.1 k j := fun k j h9 hj => by rw [hX]; exact (hg.2.2.1 k j (by rw [e]; exact hj)).trans (by rw [aF_k ms n ⟨by omega, by omega, by omega⟩])
  have xn : ∀ j : Nat, j < bsN ms → nk X j = nk ms j := fun j hj => by show nN _ = nN _; rw [xl 9 j (by decide) hj]
  have x2 : X.1 2 = 0 := by rw [hX]; rfl
  have y29 : X.1 29 = ms.1 29 := y 29 (by decide) (by decide) (by decide) (by decide) (by decide) (by decide) (by decide) (by decide)
  have y33 : X.1 33 = ms.1 33 := y 33 (by decide) (by decide) (by decide) (by decide) (by decide) (by decide) (by decide) (by decide)
  have y34 : X.1 34 = ms.1 34 := y 34 (by decide) (by decide) (by decide) (by decide) (by decide) (by decide) (by decide) (by decide)
  have y27 : X.1 27 = ms.1 27 := y 27 (by decide) (by decide) (by decide) (by decide) (by decide) (by decide) (by decide) (by decide)
  have y18 : X.1 18 = ms.1 18 := y 18 (by decide) (by decide) (by decide) (by decide) (by decide) (by decide) (by decide) (by decide)
  have y19 : X.1 19 = ms.1 19 := y 19 (by decide) (by decide) (by decide) (by decide) (by decide) (by decide) (by decide) (by decide)
  have y28 : X.1 28 = ms.1 28 := y 28 (by decide) (by decide) (by decide) (by decide) (by decide) (by decide) (by decide) (by decide)
  have y40 : X.1 40 = ms.1 40 := y 40 (by decide) (by decide) (by decide) (by decide) (by decide) (by decide) (by decide) (by decide)
  have yP : Pn X = Pn ms := by unfold Pn; rw [y27]
  have yE : En X = En ms := by unfold En; rw [y40]
  have yM : ∀ k : Nat, Mn X k = Mn ms k := fun k => by unfold Mn; rw [xk 23 (by decide)]
  have yT : ∀ k j : Nat, tp X k j = tp ms k j := fun k j => by unfold tp; rw [xk 25 (by decide)]
  have low : ∀ i : Nat, i < bsN ms → okC ms i → okC X i := fun i hi ho => okC_fr (fun k j hj hk => xl k j (by omega) (by omega)) ho
  rw [← hX]
  refine ⟨⟨⟨?_, ?_⟩, ⟨?_, ?_⟩, ⟨?_, ?_⟩, ⟨?_, ?_⟩, ⟨fun k hk => ?_, ?_, ?_, ?_, ?_⟩, ⟨?_, ?_⟩, fun k j h0 hk hj => ?_, fun i hi => ?_, ?_, fun z => ?_⟩, ?_⟩
  · show X.1 2 = nI (nN (X.1 2)); rw [x2]; rfl
  · show nN (X.1 2) ≤ 1800; rw [x2]; exact Nat.zero_le _
  · show X.1 29 = nI (nN (X.1 29)); rw [y29]; exact hI.S
  · show nN (X.1 29) ≤ 120; rw [y29]; exact hI.S2
  · show X.1 33 = nI (nN (X.1 33)); rw [y33]; exact hI.K
  · show nN (X.1 33) ≤ 120; rw [y33]; exact hI.K2
  · show X.1 34 = nI (nN (X.1 34)); rw [y34]; exact hI.KM
  · show nN (X.1 34) ≤ 8; rw [y34]; exact hI.KM2
  · rw [yM, xk 23 (by decide)]; exact hI.M hk
  · rw [yM]; exact hI.M0
  · rw [yM]; exact hI.M1
  · rw [yM]; exact hI.M2
  · rw [yM]; exact hI.M3
  · rw [yP, y27]; exact hI.P
  · rw [yP]; exact hI.P2
  · rw [yM] at hj
    have ht := hI.T2 h0 hk hj
    rw [yT, yP, xk 25 (by decide), xn _ (by omega)]
    exact ⟨hI.T h0 hk hj, ht, hI.T3 h0 hk hj⟩
  · rw [yP] at hi
    exact low i (by omega) (hI.W hi)
  · rw [yM, y18]; exact hI.I
  · rw [y28] at z ⊢
    rw [y40, yE, yP]
    obtain ⟨-, -, -, -, -, -, -, -, -, q⟩ := hI
    obtain ⟨q1, q2, q3, q4, q5, q6⟩ := q z
    refine ⟨q1, q2, q3, q4, q5, fun i hi => low i ?_ (q6 i hi)⟩
    unfold bsN
    rw [if_neg z]
    exact hi
  · refine ⟨by show X.1 19 = nI (nN (X.1 19)); rw [y19]; exact hn.1, by show nN (X.1 19) ≤ 44; rw [y19]; exact hn.2.1, fun j hj => ?_⟩
    obtain ⟨s, q, a1, a2, a3, a4, a5, a6⟩ := hn.2.2 j (by show j < nN (ms.1 19); rw [← y19]; exact hj)
    refine ⟨s, q, a1, by show X.2.1 21 j = _; rw [xk 21 (by decide)]; exact a2, by show X.2.1 22 j = _; rw [xk 22 (by decide)]; exact a3, a4, a5, fun z => ?_⟩
    obtain ⟨c1, c2, c3⟩ := a6 z
    have c2' : nN (ms.2.1 25 (12 * s + q)) < Pn ms := c2
    show mL (s != 2) (tS X 8 (X.1 27)) (X.2.1 25 (12 * s + q))
    rw [xk 25 (by decide)]
    exact ⟨c1, by show nN (ms.2.1 25 (12 * s + q)) < Pn X; rw [yP]; exact c2', by show nk X (nN (ms.2.1 25 (12 * s + q))) < 14 ↔ _; rw [xn _ (by omega)]; exact c3⟩
end
