/-! PURE: the twin's state is right behind its constructor and behind compile. -/
section
set_option maxRecDepth 100000
theorem nmOK_cg {m m' : tM} (e8 : m'.1 8 = m.1 8) (e19 : m'.1 19 = m.1 19) (ek : ∀ k : Nat, 9 ≤ k → m'.2.1 k = m.2.1 k) (h : nmOK m) : nmOK m' := by
  obtain ⟨h5, h6, h7⟩ := h
  refine ⟨by rw [e19]; exact h5, by rw [e19]; exact h6, fun j hj => ?_⟩
  obtain ⟨s, q, a1, a2, a3, a4, a5, a6⟩ := h7 j (by rw [← e19]; exact hj)
  refine ⟨s, q, a1, by rw [ek 21 (by decide)]; exact a2, by rw [ek 22 (by decide)]; exact a3, a4, a5, fun z => ?_⟩
  have := a6 z
  unfold mL nk nn at this ⊢
  rw [ek 25 (by decide), ek 9 (by decide), e8]
  exact this
/-- the names of the program stand within the program -/
def nmI (ms : tM) : Prop := nmOK (tS ms 8 (ms.1 27))
theorem nmI_beg {X : tM} (h : nmI X) : nmI (begT X) := by
  have e1 : (begT X).1 27 = X.1 27 := congrFun (bgS_1 X (Mn X 0)) 27
  have e2 : (begT X).1 19 = X.1 19 := congrFun (bgS_1 X (Mn X 0)) 19
  have e3 : (begT X).2.1 = X.2.1 := bgS_21 X (Mn X 0)
  exact nmOK_cg (m := tS X 8 (X.1 27)) (m' := tS (begT X) 8 ((begT X).1 27)) e1 e2 (fun k _ => congrFun e3 k) h
theorem cS_1 (ms : tM) (n : Nat) {k : Nat} (h0 : k ≠ 0) (h3 : k ≠ 3) (h7 : k ≠ 7) (h8 : k ≠ 8) (h18 : k ≠ 18) (h19 : k ≠ 19) (h27 : k ≠ 27) (h28 : k ≠ 28) (h29 : k ≠ 29) : (cS ms n).1 k = ms.1 k := by
  show upd (scT (cM ms) (n + 1)).1 7 0 k = ms.1 k
  rw [scT_1]
  have := fgT_1 (k := k) (tS ms 0 0) h18 h19 h8 h27 h28 h29
  simp [upd, cM, tS, h7, h3] at this ⊢
  simp [this, h0]
theorem cS_28 (ms : tM) (n : Nat) : (cS ms n).1 28 = -1 := by
  show (scT (cM ms) (n + 1)).1 28 = -1
  rw [scT_1]; rfl
theorem cS_29 (ms : tM) (n : Nat) : (cS ms n).1 29 = 0 := by
  show (scT (cM ms) (n + 1)).1 29 = 0
  rw [scT_1]; rfl
theorem cpOK_tOK {ms w : tM} {n a8 : Nat} (hI : tOK ms) (hV : pG 802 0 (cS ms n) a8 w) (h3 : 0 < mnN w 3) (hc : cI 0 a8 w) : tOK (cpOK w) ∧ nmI (cpOK w) := by
  obtain ⟨v1, v2, v3, v4, v5⟩ := hV
  have g : ∀ k : Nat, k ≠ 3 → k ≠ 7 → k ≠ 8 → k ≠ 17 → k ≠ 19 → k ≠ 37 → k ≠ 38 → w.1 k = (cS ms n).1 k := v5.1
  have e28 : w.1 28 = -1 := (g 28 (by decide) (by decide) (by decide) (by decide) (by decide) (by decide) (by decide)).trans (cS_28 ms n)
  have e29 : w.1 29 = 0 := (g 29 (by decide) (by decide) (by decide) (by decide) (by decide) (by decide) (by decide)).trans (cS_29 ms n)
  have e33 : w.1 33 = ms.1 33 := (g 33 (by decide) (by decide) (by decide) (by decide) (by decide) (by decide) (by decide)).trans (cS_1 ms n (k := 33) (by decide) (by decide) (by decide) (by decide) (by decide) (by decide) (by decide) (by decide) (by decide))
  have e34 : w.1 34 = ms.1 34 := (g 34 (by decide) (by decide) (by decide) (by decide) (by decide) (by decide) (by decide)).trans (cS_1 ms n (k := 34) (by decide) (by decide) (by decide) (by decide) (by decide) (by decide) (by decide) (by decide) (by decide))
  have hn4 : nn w ≤ 400 := by
    have : (nn w : Int) ≤ 0 + a8 := hc
    omega
  have hX : tOK (tS (tS (tS w 2 0) 18 1) 27 (w.1 8)) := by
    refine ⟨⟨rfl, Nat.zero_le _⟩, ⟨?_, ?_⟩, ⟨?_, ?_⟩, ⟨?_, ?_⟩, ⟨v4.1, v4.2.1, v4.2.2.1 1 (by decide) (by decide), v4.2.2.1 2 (by decide) (by decide), v4.2.2.1 3 (by decide) (by decide)⟩, ⟨v3.2.1, hn4⟩, fun k j h0 hk hj => ?_, fun i hi => okC_fr (fun _ _ _ _ => rfl) (v3.2.2.2.1 i hi), ?_, fun z => absurd e28 z⟩
    · show w.1 29 = nI (nN (w.1 29)); rw [e29]; rfl
    · show nN (w.1 29) ≤ 120; rw [e29]; exact Nat.zero_le _
    · show w.1 33 = nI (nN (w.1 33)); rw [e33]; exact hI.K
    · show nN (w.1 33) ≤ 120; rw [e33]; exact hI.K2
    · show w.1 34 = nI (nN (w.1 34)); rw [e34]; exact hI.KM
    · show nN (w.1 34) ≤ 8; rw [e34]; exact hI.KM2
    · obtain ⟨m1, m2, m3⟩ := v4.2.2.2.2.1 k j h0 hk hj
      exact ⟨m1, m2, m3.trans (by simp)⟩
    · show (1 : Int32) = bI (decide (0 < mnN w 3))
      rw [decide_eq_true h3]; rfl
  refine ⟨begT_ok hX, nmI_beg ?_⟩
  exact nmOK_cg (m := w) rfl rfl (fun _ _ => rfl) v3.2.2.2.2
theorem cpNO_tOK {ms m : tM} {n : Nat} (hI : tOK ms) (hg : gF (cS ms n) m) : tOK (cpNO m) ∧ nmI (cpNO m) := by
  have e33 : m.1 33 = ms.1 33 := (hg.1 33 (by decide) (by decide) (by decide) (by decide) (by decide) (by decide) (by decide)).trans (cS_1 ms n (k := 33) (by decide) (by decide) (by decide) (by decide) (by decide) (by decide) (by decide) (by decide) (by decide))
  have e34 : m.1 34 = ms.1 34 := (hg.1 34 (by decide) (by decide) (by decide) (by decide) (by decide) (by decide) (by decide)).trans (cS_1 ms n (k := 34) (by decide) (by decide) (by decide) (by decide) (by decide) (by decide) (by decide) (by decide) (by decide))
  obtain ⟨X, hXe⟩ : ∃ X : tM, X = tS (tS (fgT (tS m 2 0)) 18 0) 27 0 := ⟨_, rfl⟩
  have f1 : ∀ k : Nat, k ≠ 18 → k ≠ 19 → k ≠ 8 → k ≠ 27 → k ≠ 28 → k ≠ 29 → X.1 k = (tS m 2 0).1 k := fun k a b c d e f => by
    rw [hXe, ← fgT_1 (tS m 2 0) a b c d e f]
    simp [tS, upd, a, d]
  have x2 : X.1 2 = 0 := (f1 2 (by decide) (by decide) (by decide) (by decide) (by decide) (by decide)).trans rfl
  have x33 : X.1 33 = ms.1 33 := (f1 33 (by decide) (by decide) (by decide) (by decide) (by decide) (by decide)).trans e33
  have x34 : X.1 34 = ms.1 34 := (f1 34 (by decide) (by decide) (by decide) (by decide) (by decide) (by decide)).trans e34
  have x29 : X.1 29 = 0 := by rw [hXe]; rfl
  have x28 : X.1 28 = -1 := by rw [hXe]; rfl
  have x27 : X.1 27 = 0 := by rw [hXe]; rfl
  have x18 : X.1 18 = 0 := by rw [hXe]; rfl
  have x19 : X.1 19 = 0 := by rw [hXe]; exact fgT_19 (tS m 2 0)
  have x23 : ∀ k : Nat, k < 4 → X.2.1 23 k = 0 := fun k hk => by rw [hXe]; exact fgT_z (tS m 2 0) hk
  have hM : ∀ k : Nat, k < 4 → Mn X k = 0 := fun k hk => by unfold Mn; rw [x23 k hk]; rfl
  have hP : Pn X = 0 := by unfold Pn; rw [x27]; rfl
  have hX : tOK X := by
    refine ⟨⟨?_, ?_⟩, ⟨?_, ?_⟩, ⟨?_, ?_⟩, ⟨?_, ?_⟩, ⟨fun k hk => by rw [x23 k hk, hM k hk]; rfl, by rw [hM 0 (by decide)]; exact Nat.zero_le _, by rw [hM 1 (by decide)]; exact Nat.zero_le _, by rw [hM 2 (by decide)]; exact Nat.zero_le _, by rw [hM 3 (by decide)]; exact Nat.zero_le _⟩, ⟨by rw [hP, x27]; rfl, by rw [hP]; exact Nat.zero_le _⟩, fun k j _ hk hj => absurd hj (by rw [hM k hk]; exact Nat.not_lt_zero _), fun i hi => absurd hi (by rw [hP]; exact Nat.not_lt_zero _), ?_, fun z => absurd x28 z⟩
    · show X.1 2 = nI (nN (X.1 2)); rw [x2]; rfl
    · show nN (X.1 2) ≤ 1800; rw [x2]; exact Nat.zero_le _
    · show X.1 29 = nI (nN (X.1 29)); rw [x29]; rfl
    · show nN (X.1 29) ≤ 120; rw [x29]; exact Nat.zero_le _
    · show X.1 33 = nI (nN (X.1 33)); rw [x33]; exact hI.K
    · show nN (X.1 33) ≤ 120; rw [x33]; exact hI.K2
    · show X.1 34 = nI (nN (X.1 34)); rw [x34]; exact hI.KM
    · show nN (X.1 34) ≤ 8; rw [x34]; exact hI.KM2
    · rw [x18, hM 3 (by decide)]; rfl
  have e : cpNO m = begT X := by rw [hXe]; rfl
  rw [e]
  refine ⟨begT_ok hX, nmI_beg ?_⟩
  refine ⟨?_, ?_, fun j hj => absurd hj ?_⟩
  · show X.1 19 = nI (nN (X.1 19)); rw [x19]; rfl
  · show nN (X.1 19) ≤ 44; rw [x19]; exact Nat.zero_le _
  · show ¬ j < nN (X.1 19); rw [x19]; exact Nat.not_lt_zero _
theorem iM_tOK : tOK iM ∧ nmI iM := by
  refine ⟨⟨⟨rfl, Nat.zero_le _⟩, ⟨rfl, Nat.zero_le _⟩, ⟨rfl, Nat.zero_le _⟩, ⟨rfl, Nat.zero_le _⟩, ⟨fun _ _ => rfl, Nat.zero_le _, Nat.zero_le _, Nat.zero_le _, Nat.zero_le _⟩, ⟨rfl, Nat.zero_le _⟩, fun k j _ _ hj => absurd hj (Nat.not_lt_zero j), fun i hi => absurd hi (Nat.not_lt_zero i), rfl, fun z => absurd rfl z⟩, ⟨rfl, Nat.zero_le _, fun j hj => absurd hj (Nat.not_lt_zero j)⟩⟩
theorem bsN_P {ms : tM} (h : tOK ms) : Pn ms ≤ bsN ms ∧ bsN ms ≤ 800 := by
  unfold bsN
  obtain ⟨-, -, -, -, -, p, -, -, -, q⟩ := h
  by_cases e : ms.1 28 = -1
  · rw [if_pos e]; exact ⟨Nat.le_refl _, by have := p.2; omega⟩
  · rw [if_neg e]; obtain ⟨-, -, -, q1, q2, -⟩ := q e; exact ⟨q2, q1⟩
theorem ask_mS {ms : tM} (h : tOK ms) (hn : nmI ms) : mS 802 0 (tS (tS ms 7 0) 8 (nI (bsN ms))) := by
  have hb := bsN_P h
  have e8 : nn (tS (tS ms 7 0) 8 (nI (bsN ms))) = bsN ms := nN_nI (by omega)
  refine ⟨rfl, by rw [e8]; rfl, by rw [e8]; omega, fun i hi => ?_, ?_⟩
  · rw [e8] at hi
    refine okC_fr (ms := ms) (fun _ _ _ _ => rfl) ?_
    obtain ⟨-, -, -, -, -, p, -, r, -, q⟩ := h
    unfold bsN at hi
    by_cases e : ms.1 28 = -1
    · rw [if_pos e] at hi; exact r i hi
    · rw [if_neg e] at hi; obtain ⟨-, -, -, -, -, q5⟩ := q e; exact q5 i hi
  · obtain ⟨n1, n2, n3⟩ := hn
    refine ⟨n1, n2, fun j hj => ?_⟩
    obtain ⟨s, q, a1, a2, a3, a4, a5, a6⟩ := n3 j hj
    refine ⟨s, q, a1, a2, a3, a4, a5, fun z => ?_⟩
    obtain ⟨c1, c2, c3⟩ := a6 z
    refine ⟨c1, ?_, c3⟩
    rw [e8]
    have : nN ((tS ms 8 (ms.1 27)).2.1 25 (12 * s + q)) < Pn ms := c2
    exact Nat.lt_of_lt_of_le this hb.1
end
