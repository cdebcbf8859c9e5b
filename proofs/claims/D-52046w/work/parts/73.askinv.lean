/-! PURE: ask keeps the twin's state right. -/
section
set_option maxRecDepth 100000
theorem aF_1 (ms : tM) (n : Nat) {k : Nat} (h0 : k ≠ 0) (h3 : k ≠ 3) (h7 : k ≠ 7) (h8 : k ≠ 8) : (aF ms n).1 k = ms.1 k := by
  show upd (aS ms n).1 8 (nI (bsN ms)) k = ms.1 k
  simp [upd, h8, aS_1 ms n h0 h3 h7]
theorem aF_k (ms : tM) (n : Nat) {k : Nat} (h : k ≠ 4 ∧ k ≠ 5 ∧ k ≠ 6) : (aF ms n).2.1 k = ms.2.1 k := scT_k (aM ms) h (n + 1)
theorem aF_nn {ms : tM} {n : Nat} (hI : tOK ms) : nn (aF ms n) = bsN ms := nN_nI (by have := (bsN_P hI).2; omega)
theorem aF_cJ {ms : tM} {n : Nat} (hI : tOK ms) (hn : nmI ms) : cJ (Pn ms) (bsN ms) (bsN ms) 0 (aF ms n) := by
  have hb := bsN_P hI
  have e := aF_nn (n := n) hI
  have e19 : (aF ms n).1 19 = ms.1 19 := aF_1 ms n (k := 19) (by decide) (by decide) (by decide) (by decide)
  refine ⟨by show (nn (aF ms n) : Int) ≤ bsN ms + (0 : Nat); rw [e]; omega, by decide, by omega, by rw [e]; exact Nat.le_refl _, fun i h1 h2 => absurd h2 (by rw [e]; omega), by rw [e19]; exact hn.2.1, fun j hj => ?_⟩
  obtain ⟨s, q, a1, a2, a3, a4, a5, a6⟩ := hn.2.2 j (by rw [e19] at hj; exact hj)
  refine ⟨s, q, a1, ?_, ?_, a4, fun z => ?_⟩
  · rw [aF_k ms n (k := 21) (by decide)]; exact a2
  · rw [aF_k ms n (k := 22) (by decide)]; exact a3
  · rw [aF_k ms n (k := 25) (by decide)]; exact (a6 z).2.1
theorem aq_M {ms w : tM} {n a8 : Nat} (hI : tOK ms) (hV : pM 802 0 (aF ms n) a8 w) :
    (∀ k : Nat, k ≠ 0 → k ≠ 3 → k ≠ 7 → k ≠ 8 → k ≠ 17 → k ≠ 37 → k ≠ 38 → w.1 k = ms.1 k) ∧ (∀ k : Nat, 15 < k → w.2.1 k = ms.2.1 k) ∧ (∀ k j : Nat, 9 ≤ k → j < bsN ms → w.2.1 k j = ms.2.1 k j) ∧ bsN ms ≤ nn w := by
  obtain ⟨-, -, -, g1, g2, g3, g4, -⟩ := hV
  have e := aF_nn (n := n) hI
  refine ⟨fun k h0 h3 h7 h8 h17 h37 h38 => (g2 k h7 h8 h17 h37 h38).trans (aF_1 ms n h0 h3 h7 h8), fun k hk => (g3 k (Or.inr hk)).trans (aF_k ms n ⟨by omega, by omega, by omega⟩), fun k j hk hj => (g4 k j (by rw [e]; exact hj)).trans (by rw [aF_k ms n ⟨by omega, by omega, by omega⟩]), by rw [← e]; exact g1⟩
theorem aqOK_tOK {ms w : tM} {n a8 : Nat} (hI : tOK ms) (hn : nmI ms) (hV : pW true 802 0 (aF ms n) a8 w) (hF : cW (Pn ms) (bsN ms) (bsN ms) a8 w) : tOK (aqOK ms w) ∧ nmI (aqOK ms w) := by
  have hb := bsN_P hI
  obtain ⟨f1, f2, f3, f4⟩ := aq_M hI hV.1
  obtain ⟨⟨v1, v2, v3, v4⟩, v5⟩ := hV
  obtain ⟨⟨k1, k2, k3, k4, k5, k6⟩, k7⟩ := hF
  have kc : (nn w : Int) ≤ bsN ms + a8 := k1
  have hp2 := hI.P2
  obtain ⟨sh, hsh⟩ : ∃ sh : Nat, sh = bsN ms - Pn ms := ⟨_, rfl⟩
  obtain ⟨c, hc⟩ : ∃ c : Nat, c = nn w - bsN ms := ⟨_, rfl⟩
  have hP : Pn ms + sh = bsN ms := by omega
  obtain ⟨X, hX⟩ : ∃ X : tM, X = aqOK ms w := ⟨_, rfl⟩
  have x1 : ∀ k : Nat, k ≠ 40 → k ≠ 28 → k ≠ 8 → k ≠ 2 → X.1 k = w.1 k := fun k a b c d => by
    rw [hX]
    show upd (upd (upd (mqS (tS w 2 0) (bsN ms) (bsN ms - Pn ms) (nn w - bsN ms)).1 8 _) 28 _) 40 _ k = w.1 k
    rw [mqS_1]
    simp [upd, tS, a, b, c, d]
  have x2 : X.1 2 = 0 := by
    rw [hX]
    show (mqS (tS w 2 0) (bsN ms) (bsN ms - Pn ms) (nn w - bsN ms)).1 2 = 0
    rw [mqS_1]; rfl
  have x28 : X.1 28 = w.1 17 - nI sh := by rw [hX, hsh]; rfl
  have x40 : X.1 40 = nI (nn w - sh) := by rw [hX, hsh]; rfl
  have xa : X.2.1 = (mqS (tS w 2 0) (bsN ms) sh c).2.1 := by rw [hX, hsh, hc]; rfl
  have xk : ∀ k : Nat, 15 < k → X.2.1 k = ms.2.1 k := fun k hk => by rw [xa, mqS_k _ _ _ (Or.inr hk)]; exact f2 k hk
  have xl : ∀ k j : Nat, 9 ≤ k → k ≤ 15 → j < Pn ms → X.2.1 k j = ms.2.1 k j := fun k j h9 h15 hj => by
    rw [xa, mqS_at (tS w 2 0) hP c k j h9 h15, if_neg (by omega)]
    exact f3 k j h9 (by omega)
  have xn : ∀ j : Nat, j < Pn ms → nk X j = nk ms j := fun j hj => by show nN _ = nN _; rw [xl 9 j (by decide) (by decide) hj]
  have y : ∀ k : Nat, k ≠ 40 → k ≠ 28 → k ≠ 8 → k ≠ 2 → k ≠ 0 → k ≠ 3 → k ≠ 7 → k ≠ 17 → k ≠ 37 → k ≠ 38 → X.1 k = ms.1 k := fun k a b c d e f g h i j => (x1 k a b c d).trans (f1 k e f g c h i j)
  have y29 : X.1 29 = ms.1 29 := y 29 (by decide) (by decide) (by decide) (by decide) (by decide) (by decide) (by decide) (by decide) (by decide) (by decide)
  have y33 : X.1 33 = ms.1 33 := y 33 (by decide) (by decide) (by decide) (by decide) (by decide) (by decide) (by decide) (by decide) (by decide) (by decide)
  have y34 : X.1 34 = ms.1 34 := y 34 (by decide) (by decide) (by decide) (by decide) (by decide) (by decide) (by decide) (by decide) (by decide) (by decide)
  have y27 : X.1 27 = ms.1 27 := y 27 (by decide) (by decide) (by decide) (by decide) (by decide) (by decide) (by decide) (by decide) (by decide) (by decide)
  have y18 : X.1 18 = ms.1 18 := y 18 (by decide) (by decide) (by decide) (by decide) (by decide) (by decide) (by decide) (by decide) (by decide) (by decide)
  have y19 : X.1 19 = ms.1 19 := y 19 (by decide) (by decide) (by decide) (by decide) (by decide) (by decide) (by decide) (by decide) (by decide) (by decide)
  have yP : Pn X = Pn ms := by unfold Pn; rw [y27]
  have yM : ∀ k : Nat, Mn X k = Mn ms k := fun k => by unfold Mn; rw [xk 23 (by decide)]
  have yT : ∀ k j : Nat, tp X k j = tp ms k j := fun k j => by unfold tp; rw [xk 25 (by decide)]
  have low : ∀ i : Nat, i < Pn ms → okC X i := fun i hi => okC_fr (fun k j hj hk => xl k j (by omega) (by omega) (by omega)) (hI.W hi)
  have l17 := v5.1
  have l17b := v5.2.1
  have yE : En X = nn w - sh := by unfold En; rw [x40]; exact nN_nI (by omega)
  have e28 : X.1 28 = nI (nN (w.1 17) - sh) := by rw [x28, l17, nN_nI (by omega)]; exact nI_sub2 (by omega)
  have n28 : nN (X.1 28) = nN (w.1 17) - sh := by rw [e28]; exact nN_nI (by omega)
  rw [← hX]
  refine ⟨⟨⟨?_, ?_⟩, ⟨?_, ?_⟩, ⟨?_, ?_⟩, ⟨?_, ?_⟩, ⟨fun k hk => ?_, ?_, ?_, ?_, ?_⟩, ⟨?_, ?_⟩, fun k j h0 hk hj => ?_, fun i hi => low i (by rw [← yP]; exact hi), ?_, fun _ => ⟨?_, ?_, ?_, ?_, ?_, fun i hi => ?_⟩⟩, ?_⟩
  · show X.1 2 = nI (nN (X.1 2)); rw [x2]; rfl
  · show nN (X.1 2) ≤ 1800; rw [x2]; exact Nat.zero_le _
  · show X.1 29 = nI (nN (X.1 29)); rw [y29]; exact hI.S
  · show nN (X.1 29) ≤ 120; rw [y29]; exact hI.S2
  · show X.1 33 = nI (nN (X.1 33)); rw [y33]; exact hI.K
  · show nN (X.1 33) ≤ 120; rw [y33]; exact hI.K2
  · show X.1 34 = nI (nN (X.1 34)); rw [y34]; exact hI.KM
  · show nN (X.1 34) ≤ 8; rw [y34]; exact hI.KM2
  · rw [yM, xk 23 (by decide)]; exact hI.M hk
  · rw [yM]; exact hI.M0
  · rw [yM]; exact hI.M1
  · rw [yM]; exact hI.M2
  · rw [yM]; exact hI.M3
  · rw [yP, y27]; exact hI.P
  · rw [yP]; exact hI.P2
  · rw [yM] at hj
    rw [yT, yP, xk 25 (by decide), xn _ (hI.T2 h0 hk hj)]
    exact ⟨hI.T h0 hk hj, hI.T2 h0 hk hj, hI.T3 h0 hk hj⟩
  · rw [yM, y18]; exact hI.I
  · rw [n28]; exact e28
  · rw [n28, yE]; omega
  · rw [yE]; exact x40
  · rw [yE]; omega
  · rw [yP, yE]; omega
  · rw [yE] at hi
    by_cases e : i < Pn ms
    · exact low i e
    · obtain ⟨d, rfl⟩ : ∃ d : Nat, i = Pn ms + d := ⟨i - Pn ms, by omega⟩
      have h1 := mq_okC (ms := tS w 2 0) (c := c) (i := d) hP (by omega) (by omega) (by omega) (okC_fr (ms := w) (fun _ _ _ _ => rfl) (v3.2.2.2.1 (bsN ms + d) (by omega))) (k5 (bsN ms + d) (by omega) (by omega))
      exact okC_fr (fun k j _ _ => congrFun (congrFun xa k) j) h1
  · refine ⟨by show X.1 19 = nI (nN (X.1 19)); rw [y19]; exact hn.1, by show nN (X.1 19) ≤ 44; rw [y19]; exact hn.2.1, fun j hj => ?_⟩
    obtain ⟨s, q, a1, a2, a3, a4, a5, a6⟩ := hn.2.2 j (by show j < nN (ms.1 19); rw [← y19]; exact hj)
    refine ⟨s, q, a1, by show X.2.1 21 j = _; rw [xk 21 (by decide)]; exact a2, by show X.2.1 22 j = _; rw [xk 22 (by decide)]; exact a3, a4, a5, fun z => ?_⟩
    obtain ⟨c1, c2, c3⟩ := a6 z
    have c2' : nN (ms.2.1 25 (12 * s + q)) < Pn ms := c2
    show mL (s != 2) (tS X 8 (X.1 27)) (X.2.1 25 (12 * s + q))
    rw [xk 25 (by decide)]
    exact ⟨c1, by show nN (ms.2.1 25 (12 * s + q)) < Pn X; rw [yP]; exact c2', by show nk X (nN (ms.2.1 25 (12 * s + q))) < 14 ↔ _; rw [xn _ c2']; exact c3⟩
end
