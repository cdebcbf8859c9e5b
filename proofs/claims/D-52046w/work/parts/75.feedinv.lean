/-! PURE: feed keeps the twin's state right. -/
section
set_option maxRecDepth 100000
theorem and255 (y : Int32) : ∃ x : Nat, x < 256 ∧ y &&& 255 = nI x := by
  have hle : y.toBitVec.toNat &&& 255 ≤ 255 := Nat.and_le_right
  refine ⟨y.toBitVec.toNat &&& 255, by omega, ?_⟩
  apply Int32.toBitVec_inj.mp
  rw [Int32.toBitVec_and]
  show y.toBitVec &&& 255#32 = BitVec.ofNat 32 (y.toBitVec.toNat &&& 255)
  apply BitVec.eq_of_toNat_eq
  rw [BitVec.toNat_and, BitVec.toNat_ofNat, BitVec.toNat_ofNat]
  have h3 : (y.toBitVec.toNat &&& 255) % 2 ^ 32 = y.toBitVec.toNat &&& 255 := Nat.mod_eq_of_lt (Nat.lt_of_le_of_lt hle (by decide))
  rw [h3]
theorem tOK_cg2 {ms X : tM} (h2 : X.1 2 = nI (nN (X.1 2)) ∧ nN (X.1 2) ≤ 1800) (h1 : ∀ k : Nat, k ≠ 0 → k ≠ 2 → X.1 k = ms.1 k) (hk : ∀ k : Nat, 9 ≤ k → k ≠ 30 → X.2.1 k = ms.2.1 k) (hI : tOK ms) : tOK X := by
  have e18 := h1 18 (by decide) (by decide)
  have e27 := h1 27 (by decide) (by decide)
  have e28 := h1 28 (by decide) (by decide)
  have e29 := h1 29 (by decide) (by decide)
  have e33 := h1 33 (by decide) (by decide)
  have e34 := h1 34 (by decide) (by decide)
  have e40 := h1 40 (by decide) (by decide)
  have k23 := hk 23 (by decide) (by decide)
  have k25 := hk 25 (by decide) (by decide)
  have k9 := hk 9 (by decide) (by decide)
  have oc : ∀ i : Nat, okC ms i → okC X i := fun i h => okC_fr (fun k j _ hq => by rw [hk k (by omega) (by omega)]) h
  obtain ⟨a1, a2, a3, a4, a5, a6, a7, a8, a9, a10⟩ := hI
  refine ⟨h2, ?_, ?_, ?_, ?_, ?_, ?_, ?_, ?_, ?_⟩
  · unfold Sn; rw [e29]; exact a2
  · unfold Kn; rw [e33]; exact a3
  · unfold KMn; rw [e34]; exact a4
  · unfold Mn; rw [k23]; exact a5
  · unfold Pn; rw [e27]; exact a6
  · unfold Mn tp Pn nk; rw [k23, k25, k9, e27]; exact a7
  · unfold Pn; rw [e27]; exact fun i hi => oc i (a8 i hi)
  · unfold Mn; rw [e18, k23]; exact a9
  · unfold En Pn; rw [e28, e40, e27]
    exact fun z => ⟨(a10 z).1, (a10 z).2.1, (a10 z).2.2.1, (a10 z).2.2.2.1, (a10 z).2.2.2.2.1, fun i hi => oc i ((a10 z).2.2.2.2.2 i hi)⟩
theorem nmI_cg {ms X : tM} (h1 : ∀ k : Nat, k ≠ 0 → k ≠ 2 → X.1 k = ms.1 k) (hk : ∀ k : Nat, 9 ≤ k → k ≠ 30 → X.2.1 k = ms.2.1 k) (hn : nmI ms) : nmI X := by
  obtain ⟨h5, h6, h7⟩ := hn
  have e19 := h1 19 (by decide) (by decide)
  have e27 := h1 27 (by decide) (by decide)
  refine ⟨by show X.1 19 = nI (nN (X.1 19)); rw [e19]; exact h5, by show nN (X.1 19) ≤ 44; rw [e19]; exact h6, fun j hj => ?_⟩
  obtain ⟨s, q, a1, a2, a3, a4, a5, a6⟩ := h7 j (by show j < nN (ms.1 19); rw [← e19]; exact hj)
  refine ⟨s, q, a1, by show X.2.1 21 j = _; rw [hk 21 (by decide) (by decide)]; exact a2, by show X.2.1 22 j = _; rw [hk 22 (by decide) (by decide)]; exact a3, a4, a5, fun z => ?_⟩
  obtain ⟨c1, c2, c3⟩ := a6 z
  show mL (s != 2) (tS X 8 (X.1 27)) (X.2.1 25 (12 * s + q))
  rw [hk 25 (by decide) (by decide)]
  exact ⟨c1, by show nN (ms.2.1 25 (12 * s + q)) < nN (X.1 27); rw [e27]; exact c2, by show nN (X.2.1 9 (nN (ms.2.1 25 (12 * s + q)))) < 14 ↔ _; rw [hk 9 (by decide) (by decide)]; exact c3⟩
theorem fdT_1 (ms : tM) (f : Nat → Int32) {k : Nat} (hk : k ≠ 2) : ∀ t, (fdT ms f t).1 k = ms.1 k
  | 0 => rfl
  | t + 1 => by
    show upd (fdT ms f t).1 2 _ k = ms.1 k
    simp only [upd, if_neg hk]
    exact fdT_1 ms f hk t
theorem fdT_k (ms : tM) (f : Nat → Int32) {k : Nat} (hk : k ≠ 1) : ∀ t, (fdT ms f t).2.1 k = ms.2.1 k
  | 0 => rfl
  | t + 1 => by
    show (if k = 1 then _ else (fdT ms f t).2.1 k) = ms.2.1 k
    rw [if_neg hk]
    exact fdT_k ms f hk t
theorem fdT_tp {ms : tM} {f : Nat → Int32} (h : ∀ k : Nat, k < Ln ms → ∃ x : Nat, x < 256 ∧ ms.2.1 1 k = nI x) : ∀ t k : Nat, k < Ln ms + t → ∃ x : Nat, x < 256 ∧ (fdT ms f t).2.1 1 k = nI x
  | 0, k, hk => h k hk
  | t + 1, k, hk => by
    by_cases e : k = Ln ms + t
    · obtain ⟨x, h1, h2⟩ := and255 (f (t / 4) >>> ((8 * nI (3 - t % 4)) &&& 31))
      refine ⟨x, h1, ?_⟩
      show upd ((fdT ms f t).2.1 1) (Ln ms + t) _ k = nI x
      simp only [upd, if_pos e]
      exact h2
    · obtain ⟨x, h1, h2⟩ := fdT_tp h t k (by omega)
      refine ⟨x, h1, ?_⟩
      show upd ((fdT ms f t).2.1 1) (Ln ms + t) _ k = nI x
      simp only [upd, if_neg e]
      exact h2
theorem feed_ok {ms : tM} (hI : tOK ms) (hn : nmI ms) (hY : tpOK ms) (x1 x2 x3 x4 x5 : Int32) : tOK (opFeed ms x1 x2 x3 x4 x5).2 ∧ nmI (opFeed ms x1 x2 x3 x4 x5).2 ∧ tpOK (opFeed ms x1 x2 x3 x4 x5).2 := by
  unfold opFeed
  by_cases e : Ln ms ≤ 1780
  · rw [if_pos e]
    obtain ⟨f, hf⟩ : ∃ f : Nat → Int32, f = fvT x1 x2 x3 x4 x5 := ⟨_, rfl⟩
    rw [← hf]
    have hL : (fdT (tS ms 0 0) f 20).1 2 = nI (Ln ms + 20) := fdT_L (ms := tS ms 0 0) (f := f) hI.L 20
    have hL2 : nN ((fdT (tS ms 0 0) f 20).1 2) = Ln ms + 20 := by rw [hL]; exact nN_nI (by omega)
    have h1 : ∀ k : Nat, k ≠ 0 → k ≠ 2 → (fdT (tS ms 0 0) f 20).1 k = ms.1 k := fun k h0 h2 => by
      rw [fdT_1 _ _ h2]
      show upd ms.1 0 0 k = ms.1 k
      simp only [upd, if_neg h0]
    have hk : ∀ k : Nat, 9 ≤ k → k ≠ 30 → (fdT (tS ms 0 0) f 20).2.1 k = ms.2.1 k := fun k h9 _ => fdT_k (tS ms 0 0) f (by omega) 20
    refine ⟨tOK_cg2 ⟨by rw [hL2]; exact hL, by rw [hL2]; omega⟩ h1 hk hI, nmI_cg h1 hk hn, fun k hk => ?_⟩
    exact fdT_tp (ms := tS ms 0 0) (f := f) hY 20 k (by
      have : k < nN ((fdT (tS ms 0 0) f 20).1 2) := hk
      rw [hL2] at this
      exact this)
  · rw [if_neg e]
    refine ⟨hI.thrown _, nmI_cg (ms := ms) (fun k h0 _ => ?_) (fun _ _ _ => rfl) hn, hY⟩
    show upd ms.1 0 1 k = ms.1 k
    simp only [upd, if_neg h0]
end
