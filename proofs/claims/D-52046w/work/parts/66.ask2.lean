/-! PURE: ask. -/
section
set_option maxRecDepth 100000
def aM (ms : tM) : tM := tS (tS ms 0 0) 3 (-1)
def aS (ms : tM) (n : Nat) : tM := tS (scT (aM ms) (n + 1)) 7 0
def bsN (ms : tM) : Nat := if ms.1 28 = -1 then Pn ms else En ms
def aF (ms : tM) (n : Nat) : tM := tS (aS ms n) 8 (nI (bsN ms))
theorem aM_Y {ms : tM} (h : tpOK ms) : tpOK (aM ms) := h
theorem aM_TkV (ms : tM) : TkV (aM ms) = TkV ms := rfl
theorem aS_1 (ms : tM) (n : Nat) {k : Nat} (h0 : k ≠ 0) (h3 : k ≠ 3) (h7 : k ≠ 7) : (aS ms n).1 k = ms.1 k := by
  show upd (scT (aM ms) (n + 1)).1 7 0 k = ms.1 k
  rw [scT_1]
  simp [upd, aM, tS, h7, h0, h3]
theorem aS_tk {ms : tM} {n : Nat} (hY : tpOK ms) (hL2 : Ln ms ≤ 1800) (h0 : kinT (byT ms) (Ln ms) n = 0) (hne : ∀ i : Nat, i < n → kinT (byT ms) (Ln ms) i ≠ 0) : tkS (aS ms n) (TkV ms) n :=
  tkS_sc (ms := aM ms) (n := n) (aM_Y hY) hL2 h0 hne
theorem mS_cg {B a : Nat} {m m' : tM} (e7 : m'.1 7 = m.1 7) (e8 : m'.1 8 = m.1 8) (e19 : m'.1 19 = m.1 19) (ek : ∀ k : Nat, 9 ≤ k → m'.2.1 k = m.2.1 k) (h : mS B a m) : mS B a m' := by
  obtain ⟨h1, h2, h3, h4, h5, h6, h7⟩ := h
  have en : nn m' = nn m := by unfold nn; rw [e8]
  refine ⟨e7.trans h1, by rw [en, e8]; exact h2, by rw [en]; exact h3, fun n hn => okC_fr (fun k j _ hk => by rw [ek k (by omega)]) (h4 n (by rw [← en]; exact hn)), by rw [e19]; exact h5, by rw [e19]; exact h6, fun j hj => ?_⟩
  obtain ⟨s, q, a1, a2, a3, a4, a5, a6⟩ := h7 j (by rw [← e19]; exact hj)
  refine ⟨s, q, a1, by rw [ek 21 (by decide)]; exact a2, by rw [ek 22 (by decide)]; exact a3, a4, a5, fun z => ?_⟩
  have := a6 z
  unfold mL nk nn at this ⊢
  rw [ek 25 (by decide), ek 9 (by decide), e8]
  exact this
theorem aF_mS {B : Nat} {ms : tM} {n : Nat} (h : mS B 0 (tS (tS ms 7 0) 8 (nI (bsN ms)))) : mS B 0 (aF ms n) :=
  mS_cg (m := tS (tS ms 7 0) 8 (nI (bsN ms))) (m' := aF ms n) rfl rfl (by show (aS ms n).1 19 = ms.1 19; exact aS_1 ms n (k := 19) (by decide) (by decide) (by decide)) (fun k hk => by show (scT (aM ms) (n + 1)).2.1 k = (aM ms).2.1 k; exact scT_k (aM ms) (k := k) ⟨by omega, by omega, by omega⟩ (n + 1)) h
def aqOK (ms m : tM) : tM := tS (tS (tS (mqS (tS m 2 0) (bsN ms) (bsN ms - Pn ms) (nn m - bsN ms)) 8 (nI (nn m - (bsN ms - Pn ms)))) 28 (m.1 17 - nI (bsN ms - Pn ms))) 40 (nI (nn m - (bsN ms - Pn ms)))
def aqE (ms : tM) (n e pl : Nat) : Prop :=
  (((qX (TkV ms) 520 0 0 0).1 ≠ 0 ∨ (qX (TkV ms) 520 0 0 0).2 = 400 ∧ (TkV ms).1 400 ≠ 0 ∨ (TkV ms).1 (qX (TkV ms) 520 0 0 0).2 ≠ 0) ∧ e = 1 ∧ pl = (TkV ms).2.1 (qX (TkV ms) 520 0 0 0).2) ∨
  ((qX (TkV ms) 520 0 0 0).1 = 0 ∧ (TkV ms).1 (qX (TkV ms) 520 0 0 0).2 = 0 ∧ n ≤ 400 ∧ e = (pX (TkV ms) true 520 0 0 0 (aF ms n)).1 ∧ (e ≠ 0 → e < 50 ∧ pl = (pX (TkV ms) true 520 0 0 0 (aF ms n)).2.1))
end
