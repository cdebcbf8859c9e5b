/-! PURE: the twin's table made for a step; its queries. -/
section
set_option maxRecDepth 100000
abbrev nk (ms : tM) (n : Nat) : Nat := nN (ms.2.1 9 n)
abbrev na (ms : tM) (n : Nat) : Nat := nN (ms.2.1 10 n)
abbrev nb (ms : tM) (n : Nat) : Nat := nN (ms.2.1 11 n)
abbrev nc (ms : tM) (n : Nat) : Nat := nN (ms.2.1 12 n)
def okW (ms : tM) (n : Nat) : Prop := okN ms n (nk ms n) (na ms n) (nb ms n) (nc ms n) ∧ (nk ms n < 14 ∨ 20 ≤ nk ms n) ∧ (nk ms n = 9 → nc ms n < 6) ∧ (nk ms n = 34 → nc ms n < 5) ∧ (nk ms n = 21 → na ms n < 8)
def valT (ms : tM) (n i : Nat) : Int64 := if nk ms n < 20 then lb (itT ms (nk ms n) n (na ms n) (nb ms n) (nc ms n) i) else woT ms (nk ms n) (ms.2.1 10 n) (na ms n) (nb ms n) (nc ms n) i
def tL (ms : tM) (k j : Nat) (v : Int64) : tM := (ms.1, ms.2.1, fun q => if q = k then vp_updL (ms.2.2 k) j v else ms.2.2 q)
def tS (ms : tM) (k : Nat) (v : Int32) : tM := (upd ms.1 k v, ms.2)
def tI (ms : tM) (k j : Nat) (v : Int32) : tM := (ms.1, (fun q => if q = k then upd (ms.2.1 k) j v else ms.2.1 q), ms.2.2)
/-- the table's rows fr, fr+1 .. (c of them) at step i -/
def rkT (ms : tM) (fr i : Nat) : Nat → tM
  | 0 => ms
  | c + 1 => tL (rkT ms fr i c) 16 (120 * (fr + c) + i) (valT (rkT ms fr i c) (fr + c) i)
theorem rkT_1 (ms : tM) (fr i : Nat) : ∀ c, (rkT ms fr i c).1 = ms.1
  | 0 => rfl
  | c + 1 => rkT_1 ms fr i c
theorem rkT_21 (ms : tM) (fr i : Nat) : ∀ c, (rkT ms fr i c).2.1 = ms.2.1
  | 0 => rfl
  | c + 1 => rkT_21 ms fr i c
theorem okW_of {ms ms' : tM} (h : ms'.2.1 = ms.2.1) {n : Nat} (hk : okW ms n) : okW ms' n := by
  obtain ⟨a, b, c⟩ := ms
  obtain ⟨a', b', c'⟩ := ms'
  dsimp only at h
  subst h
  exact hk
/-- v is one of 0 .. n-1 -/
def inS (v : Int32) (n : Nat) : Bool := decide (0 ≤ v) && decide (v ≤ nI n - 1)
theorem inS_of {v : Int32} {n : Nat} (h : inS v n = true) (hn : n < 2 ^ 31) : ∃ j : Nat, j < n ∧ v = nI j := by
  simp only [inS, Bool.and_eq_true, decide_eq_true_eq] at h
  obtain ⟨h1, h2⟩ := h
  obtain ⟨j, hj, rfl⟩ := nI_of (x := v) (Int32.not_lt.mpr h1)
  refine ⟨j, ?_, rfl⟩
  cases n with
  | zero =>
    rw [show nI 0 - 1 = -1 from by decide] at h2
    exact absurd (Int32.le_trans h1 h2) (by decide)
  | succ n =>
    rw [nI_pred] at h2
    have := (nI_leI hj (by omega)).mp h2
    omega
theorem inS_nI {j n : Nat} (hj : j < 2 ^ 31) (hn : n < 2 ^ 31) : inS (nI j) n = decide (j < n) := by
  by_cases h : j < n
  · simp only [inS, h, decide_true, Bool.and_eq_true, decide_eq_true_eq]
    refine ⟨nI_pos' hj, ?_⟩
    cases n with
    | zero => omega
    | succ n => rw [nI_pred]; exact nI_le (by omega) (by omega)
  · cases e : inS (nI j) n with
    | false => simp [h]
    | true =>
      obtain ⟨i, h1, h2⟩ := inS_of e hn
      have := (nI_eq hj (by omega)).mp h2
      omega
theorem inS_iff {v : Int32} {n : Nat} (hn : n < 2 ^ 31) : inS v n = false ↔ (v < 0 ∨ nI n ≤ v) := by
  rcases pk_ix v hn with h | h | ⟨j, hj, rfl⟩
  · refine ⟨fun _ => Or.inl h, fun _ => ?_⟩
    simp only [inS, Bool.and_eq_false_iff, decide_eq_false_iff_not]
    exact Or.inl (Int32.not_le.mpr h)
  · refine ⟨fun _ => Or.inr h, fun _ => ?_⟩
    cases e : inS v n with
    | false => rfl
    | true =>
      obtain ⟨i, h1, rfl⟩ := inS_of e hn
      exact absurd h (nI_ge h1 hn)
  · rw [inS_nI (by omega) hn]
    refine ⟨fun h => ?_, fun h => ?_⟩
    · simp [hj] at h
    · rcases h with h | h
      · exact absurd h (nI_pos (by omega))
      · exact absurd h (nI_ge hj hn)
theorem tS_tS (ms : tM) (k : Nat) (x y : Int32) : tS (tS ms k x) k y = tS ms k y := by
  unfold tS
  congr 1
  funext j
  by_cases h : j = k <;> simp [upd, h]
abbrev Ln (ms : tM) : Nat := nN (ms.1 2)
abbrev Sn (ms : tM) : Nat := nN (ms.1 29)
abbrev Kn (ms : tM) : Nat := nN (ms.1 33)
abbrev KMn (ms : tM) : Nat := nN (ms.1 34)
abbrev Mn (ms : tM) (k : Nat) : Nat := nN (ms.2.1 23 k)
abbrev Pn (ms : tM) : Nat := nN (ms.1 27)
abbrev En (ms : tM) : Nat := nN (ms.1 40)
abbrev tp (ms : tM) (k j : Nat) : Nat := nN (ms.2.1 25 (12 * k + j))
/-- a part's parts are elder ones -/
def okC (ms : tM) (n : Nat) : Prop := okW ms n ∧ (us1 (nk ms n) = true → nk ms n ≠ 21 → na ms n < n) ∧ (us2 (nk ms n) = true → nb ms n < n) ∧ (nk ms n = 33 → nc ms n < n) ∧
  (us1 (nk ms n) = true → nk ms n ≠ 21 → (nk ms (na ms n) < 14 ↔ ((nk ms n < 14 ∧ nk ms n ≠ 9) ∨ (30 ≤ nk ms n ∧ nk ms n ≤ 33)))) ∧ (us2 (nk ms n) = true → (nk ms (nb ms n) < 14 ↔ (10 ≤ nk ms n ∧ nk ms n ≤ 13))) ∧ (nk ms n = 33 → ¬ nk ms (nc ms n) < 14)
/-- the twin's state between calls -/
def tOK (ms : tM) : Prop := (ms.1 2 = nI (Ln ms) ∧ Ln ms ≤ 1800) ∧ (ms.1 29 = nI (Sn ms) ∧ Sn ms ≤ 120) ∧ (ms.1 33 = nI (Kn ms) ∧ Kn ms ≤ 120) ∧ (ms.1 34 = nI (KMn ms) ∧ KMn ms ≤ 8) ∧ ((∀ k, k < 4 → ms.2.1 23 k = nI (Mn ms k)) ∧ Mn ms 0 ≤ 8 ∧ Mn ms 1 ≤ 12 ∧ Mn ms 2 ≤ 12 ∧ Mn ms 3 ≤ 12) ∧ (ms.1 27 = nI (Pn ms) ∧ Pn ms ≤ 400) ∧
  (∀ k j, 0 < k → k < 4 → j < Mn ms k → ms.2.1 25 (12 * k + j) = nI (tp ms k j) ∧ tp ms k j < Pn ms ∧ (nk ms (tp ms k j) < 14 ↔ k ≠ 2)) ∧ (∀ n, n < Pn ms → okC ms n) ∧
  (ms.1 18 = bI (decide (0 < Mn ms 3))) ∧ (ms.1 28 ≠ -1 → ms.1 28 = nI (nN (ms.1 28)) ∧ nN (ms.1 28) < En ms ∧ ms.1 40 = nI (En ms) ∧ En ms ≤ 800 ∧ Pn ms ≤ En ms ∧ ∀ n, n < En ms → okC ms n)
theorem tOK.L {ms : tM} (h : tOK ms) : ms.1 2 = nI (Ln ms) := h.1.1
theorem tOK.L2 {ms : tM} (h : tOK ms) : Ln ms ≤ 1800 := h.1.2
theorem tOK.S {ms : tM} (h : tOK ms) : ms.1 29 = nI (Sn ms) := h.2.1.1
theorem tOK.S2 {ms : tM} (h : tOK ms) : Sn ms ≤ 120 := h.2.1.2
theorem tOK.K {ms : tM} (h : tOK ms) : ms.1 33 = nI (Kn ms) := h.2.2.1.1
theorem tOK.K2 {ms : tM} (h : tOK ms) : Kn ms ≤ 120 := h.2.2.1.2
theorem tOK.KM {ms : tM} (h : tOK ms) : ms.1 34 = nI (KMn ms) := h.2.2.2.1.1
theorem tOK.KM2 {ms : tM} (h : tOK ms) : KMn ms ≤ 8 := h.2.2.2.1.2
theorem tOK.M {ms : tM} (h : tOK ms) {k : Nat} (hk : k < 4) : ms.2.1 23 k = nI (Mn ms k) := h.2.2.2.2.1.1 k hk
theorem tOK.M0 {ms : tM} (h : tOK ms) : Mn ms 0 ≤ 8 := h.2.2.2.2.1.2.1
theorem tOK.M1 {ms : tM} (h : tOK ms) : Mn ms 1 ≤ 12 := h.2.2.2.2.1.2.2.1
theorem tOK.M2 {ms : tM} (h : tOK ms) : Mn ms 2 ≤ 12 := h.2.2.2.2.1.2.2.2.1
theorem tOK.M3 {ms : tM} (h : tOK ms) : Mn ms 3 ≤ 12 := h.2.2.2.2.1.2.2.2.2
theorem tOK.P {ms : tM} (h : tOK ms) : ms.1 27 = nI (Pn ms) := h.2.2.2.2.2.1.1
theorem tOK.P2 {ms : tM} (h : tOK ms) : Pn ms ≤ 400 := h.2.2.2.2.2.1.2
theorem tOK.T {ms : tM} (h : tOK ms) {k j : Nat} (hk0 : 0 < k) (hk : k < 4) (hj : j < Mn ms k) : ms.2.1 25 (12 * k + j) = nI (tp ms k j) := (h.2.2.2.2.2.2.1 k j hk0 hk hj).1
theorem tOK.T2 {ms : tM} (h : tOK ms) {k j : Nat} (hk0 : 0 < k) (hk : k < 4) (hj : j < Mn ms k) : tp ms k j < Pn ms := (h.2.2.2.2.2.2.1 k j hk0 hk hj).2.1
theorem tOK.T3 {ms : tM} (h : tOK ms) {k j : Nat} (hk0 : 0 < k) (hk : k < 4) (hj : j < Mn ms k) : nk ms (tp ms k j) < 14 ↔ k ≠ 2 := (h.2.2.2.2.2.2.1 k j hk0 hk hj).2.2
theorem tOK.W {ms : tM} (h : tOK ms) {n : Nat} (hn : n < Pn ms) : okC ms n := h.2.2.2.2.2.2.2.1 n hn
theorem tOK.I {ms : tM} (h : tOK ms) : ms.1 18 = bI (decide (0 < Mn ms 3)) := h.2.2.2.2.2.2.2.2.1
theorem tOK.A {ms : tM} (h : tOK ms) (ha : ms.1 28 ≠ -1) : ms.1 28 = nI (nN (ms.1 28)) ∧ nN (ms.1 28) < En ms ∧ ms.1 40 = nI (En ms) ∧ En ms ≤ 800 ∧ Pn ms ≤ En ms ∧ ∀ n, n < En ms → okC ms n := h.2.2.2.2.2.2.2.2.2 ha
theorem tOK.thrown {ms : tM} (h : tOK ms) (x : Int32) : tOK (tS ms 0 x) := h
-- ---- the answers
def opTrim (ms : tM) (v : Int32) : Int32 × tM := if (decide (0 ≤ v) && decide (v ≤ ms.1 2)) = true then (v, tS (tS ms 0 0) 2 v) else (0, tS ms 0 1)
def cntT (ms : tM) (k : Nat) : Int32 := if k < 4 then ms.2.1 23 k else if k = 4 then ms.1 29 else if k = 5 then ms.1 33 else ms.1 2
def opCount (ms : tM) (v : Int32) : Int32 × tM := if inS v 7 = true then (cntT ms (nN v), tS ms 0 0) else (0, tS ms 0 1)
def opSet (ms : tM) (v : Int32) (x : Int64) : Int64 × tM := if inS v (Mn ms 0) = true then (ms.2.2 32 (nN v), tL (tS ms 0 0) 32 (nN v) x) else (0, tS ms 0 1)
def opTime (ms : tM) (v : Int32) : Int32 × tM := if inS v (Sn ms) = true then (ms.2.1 30 (nN v), tS ms 0 0) else (0, tS ms 0 1)
def opSig (ms : tM) (v i : Int32) : Int64 × tM := if (inS v (Mn ms 0) && inS i (Sn ms)) = true then (ms.2.2 31 (8 * nN i + nN v), tS ms 0 0) else (0, tS ms 0 1)
def opVal (ms : tM) (v i : Int32) : Int64 × tM := if (inS v (Mn ms 2) && inS i (Sn ms)) = true then (tb ms (tp ms 2 (nN v)) (nN i), tS ms 0 0) else (0, tS ms 0 1)
def opLet (ms : tM) (v i : Int32) : Int32 × tM := if (inS v (Mn ms 1) && inS i (Sn ms)) = true then (bI (hd ms (tp ms 1 (nN v)) (nN i)), tS ms 0 0) else (0, tS ms 0 1)
def opWatch (ms : tM) (v i : Int32) : Int32 × tM := if (inS v (Mn ms 3) && inS i (Sn ms)) = true then (bI (hd ms (tp ms 3 (nN v)) (nN i)), tS ms 0 0) else (0, tS ms 0 1)
def opBack (ms : tM) (v : Int32) : Int32 × tM := if inS v (Sn ms + 1) = true then ((if v = 0 then 0 else ms.2.1 30 (nN v - 1)), tS (tS ms 0 0) 29 v) else (0, tS ms 0 1)
/-- misses, the first one, the row that runs, the longest row -/
def tdS (p : Nat → Bool) : Nat → Int32 × Int32 × Int32 × Int32
  | 0 => (0, -1, 0, 0)
  | c + 1 => ((tdS p c).1 + (if p c = true then 0 else 1), (if p c = true then (tdS p c).2.1 else if (tdS p c).2.1 = -1 then nI c else (tdS p c).2.1), (if p c = true then 0 else (tdS p c).2.2.1 + 1), (if (tdS p c).2.2.2 < (if p c = true then 0 else (tdS p c).2.2.1 + 1) then (if p c = true then 0 else (tdS p c).2.2.1 + 1) else (tdS p c).2.2.2))
def toT (lvl : Int32) (p : Nat → Bool) (k s : Nat) : Int32 := if k = 0 then lvl else if k = 1 then (tdS p s).1 else if k = 2 then (tdS p s).2.1 else if k = 3 then (tdS p s).2.2.2 else (tdS p s).2.2.1
def tdT (ms : tM) (w k : Nat) : Int32 := toT (ms.2.1 26 w) (hd ms (tp ms 3 w)) k (Sn ms)
def opTold (ms : tM) (v k : Int32) : Int32 × tM := if (inS v (Mn ms 3) && inS k 5) = true then (tdT ms (nN v) (nN k), tS ms 0 0) else (0, tS ms 0 1)
def alT (ms : tM) (v : Int32) : Nat → Int32
  | 0 => 0
  | c + 1 => alT ms v c + (if (decide (0 < Sn ms) && decide (v ≤ ms.2.1 26 c) && !hd ms (tp ms 3 c) (Sn ms - 1)) = true then 1 else 0)
def opAlarms (ms : tM) (v : Int32) : Int32 × tM := if inS v 10 = true then (alT ms v (Mn ms 3), tS ms 0 0) else (0, tS ms 0 1)
/-- the first step below s, from c on, at which p and q differ; -1 -/
def dfT (p q : Nat → Bool) (s : Nat) : Nat → Int32
  | 0 => -1
  | c + 1 => if p (s - (c + 1)) = q (s - (c + 1)) then dfT p q s c else nI (s - (c + 1))
def opDiffer (ms : tM) (v w : Int32) : Int32 × tM := if (inS v (Mn ms 3) && inS w (Mn ms 3)) = true then (dfT (hd ms (tp ms 3 (nN v))) (hd ms (tp ms 3 (nN w))) (Sn ms) (Sn ms), tS ms 0 0) else (0, tS ms 0 1)
/-- the signals at their first values, c of them -/
def bgS (ms : tM) : Nat → tM
  | 0 => tS ms 29 0
  | c + 1 => tL (bgS ms c) 32 c (ms.2.2 24 c)
def begT (ms : tM) : tM := bgS ms (Mn ms 0)
def opRestart (ms : tM) : Int32 × tM := if 0 < Mn ms 3 then (ms.2.1 23 3, begT (tS ms 0 0)) else (0, tS ms 0 1)
theorem bgS_1 (ms : tM) : ∀ c, (bgS ms c).1 = (tS ms 29 0).1
  | 0 => rfl
  | c + 1 => bgS_1 ms c
theorem bgS_21 (ms : tM) : ∀ c, (bgS ms c).2.1 = ms.2.1
  | 0 => rfl
  | c + 1 => bgS_21 ms c
theorem bgS_22 (ms : tM) (k : Nat) (hk : k ≠ 32) : ∀ c, (bgS ms c).2.2 k = ms.2.2 k
  | 0 => rfl
  | c + 1 => by simp [bgS, tL, hk, bgS_22 ms k hk c]
/-- a step: the time, the signals as they are set, the table's row, the step's number -/
def sgS (ms : tM) (t : Int32) : Nat → tM
  | 0 => tI ms 30 (Sn ms) t
  | c + 1 => tL (sgS ms t c) 31 (8 * Sn ms + c) (ms.2.2 32 c)
theorem sgS_1 (ms : tM) (t : Int32) : ∀ c, (sgS ms t c).1 = ms.1
  | 0 => rfl
  | c + 1 => sgS_1 ms t c
theorem sgS_21 (ms : tM) (t : Int32) : ∀ c, (sgS ms t c).2.1 = (tI ms 30 (Sn ms) t).2.1
  | 0 => rfl
  | c + 1 => sgS_21 ms t c
theorem sgS_22 (ms : tM) (t : Int32) (k : Nat) (hk : k ≠ 31) : ∀ c, (sgS ms t c).2.2 k = ms.2.2 k
  | 0 => rfl
  | c + 1 => by simp [sgS, tL, hk, sgS_22 ms t k hk c]
def stM (ms : tM) (t : Int32) : tM := rkT (sgS ms t (Mn ms 0)) 0 (Sn ms) (Pn ms)
/-- how many of the first c watches don't hold at step i -/
def notT (ms : tM) (i : Nat) : Nat → Int32
  | 0 => 0
  | c + 1 => notT ms i c + (if hd ms (tp ms 3 c) i = true then 0 else 1)
def stepT (ms : tM) (t : Int32) : Int32 × tM := (notT (stM ms t) (Sn ms) (Mn ms 3), tS (stM ms t) 29 (nI (Sn ms + 1)))
def lastT (ms : tM) : Int32 := if Sn ms = 0 then 0 else ms.2.1 30 (Sn ms - 1)
def opTick (ms : tM) (v : Int32) : Int32 × tM := if inS v 1001 = false then (0, tS ms 0 1) else if Mn ms 3 = 0 ∨ Sn ms = 120 then (0, tS ms 0 2) else stepT (tS ms 0 0) (lastT ms + v)
theorem okW_cg {ms ms' : tM} (h : ∀ k, k ≠ 30 → ms'.2.1 k = ms.2.1 k) {n : Nat} (hk : okW ms n) : okW ms' n := by
  unfold okW okN nk na nb nc at *
  rw [h 9 (by decide), h 10 (by decide), h 11 (by decide), h 12 (by decide)]
  exact hk
theorem okC_cg {ms ms' : tM} (h : ∀ k, k ≠ 30 → ms'.2.1 k = ms.2.1 k) {n : Nat} (hk : okC ms n) : okC ms' n := by
  refine ⟨okW_cg h hk.1, ?_⟩
  have := hk.2
  unfold nk na nb nc at *
  rw [h 9 (by decide), h 10 (by decide), h 11 (by decide), h 12 (by decide)]
  exact this
theorem tOK_cg {ms ms' : tM} (h1 : ms'.1 = ms.1) (h : ∀ k, k ≠ 30 → ms'.2.1 k = ms.2.1 k) (hI : tOK ms) : tOK ms' := by
  obtain ⟨a1, a2, a3, a4, a5, a6, a7, a8, a9, a10⟩ := hI
  unfold tOK Ln Sn Kn KMn Mn Pn En tp
  rw [h1, h 23 (by decide), h 25 (by decide)]
  unfold nk
  rw [h 9 (by decide)]
  exact ⟨a1, a2, a3, a4, a5, a6, a7, fun n hn => okC_cg h (a8 n hn), a9, fun z => ⟨(a10 z).1, (a10 z).2.1, (a10 z).2.2.1, (a10 z).2.2.2.1, (a10 z).2.2.2.2.1, fun n hn => okC_cg h ((a10 z).2.2.2.2.2 n hn)⟩⟩
theorem stM_1 (ms : tM) (t : Int32) : (stM ms t).1 = ms.1 := by rw [stM, rkT_1, sgS_1]
theorem stM_21 (ms : tM) (t : Int32) (k : Nat) (hk : k ≠ 30) : (stM ms t).2.1 k = ms.2.1 k := by
  rw [stM, rkT_21, sgS_21]
  simp [tI, hk]
theorem stM_ok {ms : tM} (hI : tOK ms) (t : Int32) : tOK (stM ms t) := tOK_cg (stM_1 ms t) (stM_21 ms t) hI
def dgU (f : Nat → Int64) (d : Int64) : Nat → Int64
  | 0 => d
  | c + 1 => dgU f d c * 31 + f c
def dgS (ms : tM) (d : Int64) : Nat → Int64
  | 0 => d
  | c + 1 => dgU (fun w => tb ms (tp ms 3 w) c) (dgU (fun w => tb ms (tp ms 1 w) c) (dgU (fun w => tb ms (tp ms 2 w) c) (dgU (fun w => ms.2.2 31 (8 * c + w)) (dgS ms d c * 31 + (ms.2.1 30 c).toInt64) (Mn ms 0)) (Mn ms 2)) (Mn ms 1)) (Mn ms 3)
def dgW (ms : tM) (d : Int64) : Nat → Int64
  | 0 => d
  | c + 1 => dgU (fun k => (tdT ms c k).toInt64) (dgW ms d c) 5
def digT (ms : tM) : Int64 := dgU (fun w => ms.2.2 32 w) (dgW ms (dgS ms (dgU (fun k => (cntT ms k).toInt64) 383 7) (Sn ms)) (Mn ms 3)) (Mn ms 0)
/-- where the reason stands, and when -/
def rsT (ms : tM) : Nat → Nat → Nat → Int32 × Nat
  | 0, n, i => (ms.2.1 15 n, i)
  | f + 1, n, i => if nk ms n = 11 then rsT ms f (if hd ms (na ms n) i = true then nb ms n else na ms n) i else if nk ms n = 12 ∨ nk ms n = 13 then rsT ms f (nb ms n) i else if nk ms n = 5 then rsT ms f (na ms n) (nN (fmT ms n (na ms n) i)) else if nk ms n = 8 then rsT ms f (na ms n) i else if nk ms n = 1 ∧ 0 < i then rsT ms f (na ms n) (i - 1) else (ms.2.1 15 n, i)
/-- the table's rows are what the parts are -/
def tbOK (ms : tM) : Prop := ∀ n, n < Pn ms → ∀ i, i < Sn ms → tb ms n i = valT ms n i
end
