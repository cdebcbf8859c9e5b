/-! PURE: what meanings keep: the parts made are right ones (okC), elder parts stay, names stay. -/
section
set_option maxRecDepth 100000
abbrev nn (ms : tM) : Nat := nN (ms.1 8)
/-- l is a part, a formula's (f) or an expression's -/
def mL (f : Bool) (ms : tM) (l : Int32) : Prop := l = nI (nN l) ∧ nN l < nn ms ∧ (nk ms (nN l) < 14 ↔ f = true)
def nmOK (ms : tM) : Prop := ms.1 19 = nI (nN (ms.1 19)) ∧ nN (ms.1 19) ≤ 44 ∧ ∀ j : Nat, j < nN (ms.1 19) → ∃ s q : Nat, s < 4 ∧ ms.2.1 21 j = nI s ∧ ms.2.1 22 j = nI q ∧ q < 12 ∧ (s = 0 → q < 8) ∧ (0 < s → mL (s != 2) ms (ms.2.1 25 (12 * s + q)))
def mS (B a : Nat) (ms : tM) : Prop := ms.1 7 = nI a ∧ ms.1 8 = nI (nn ms) ∧ nn ms ≤ B + a ∧ (∀ n : Nat, n < nn ms → okC ms n) ∧ nmOK ms
def mF (ms ms' : tM) : Prop := nn ms ≤ nn ms' ∧ (∀ k : Nat, k ≠ 7 → k ≠ 8 → k ≠ 17 → k ≠ 37 → k ≠ 38 → ms'.1 k = ms.1 k) ∧ (∀ k : Nat, k < 9 ∨ 15 < k → ms'.2.1 k = ms.2.1 k) ∧ (∀ k j : Nat, j < nn ms → ms'.2.1 k j = ms.2.1 k j) ∧ ms'.2.2 = ms.2.2
theorem mF.rf (ms : tM) : mF ms ms := ⟨Nat.le_refl _, fun _ _ _ _ _ _ => rfl, fun _ _ => rfl, fun _ _ _ => rfl, rfl⟩
theorem mF.trans {m1 m2 m3 : tM} (h : mF m1 m2) (g : mF m2 m3) : mF m1 m3 := ⟨Nat.le_trans h.1 g.1, fun k a b c d e => (g.2.1 k a b c d e).trans (h.2.1 k a b c d e), fun k hk => (g.2.2.1 k hk).trans (h.2.2.1 k hk), fun k j hj => (g.2.2.2.1 k j (Nat.lt_of_lt_of_le hj h.1)).trans (h.2.2.2.1 k j hj), g.2.2.2.2.trans h.2.2.2.2⟩
theorem mF.S {ms : tM} {k : Nat} {v : Int32} (hk : k = 7 ∨ k = 17 ∨ k = 37 ∨ k = 38) : mF ms (tS ms k v) := by
  refine ⟨?_, fun j h7 h8 h17 h37 h38 => ?_, fun _ _ => rfl, fun _ _ _ => rfl, rfl⟩
  · show nN (ms.1 8) ≤ nN (upd ms.1 k v 8)
    rw [show upd ms.1 k v 8 = ms.1 8 from by simp only [upd]; rw [if_neg (by omega)]]
    exact Nat.le_refl _
  · show upd ms.1 k v j = ms.1 j
    simp only [upd]
    rw [if_neg (by omega)]
theorem mL.kept {f : Bool} {ms ms' : tM} {l : Int32} (h : mL f ms l) (g : mF ms ms') : mL f ms' l := by
  refine ⟨h.1, Nat.lt_of_lt_of_le h.2.1 g.1, ?_⟩
  have : nk ms' (nN l) = nk ms (nN l) := by show nN (ms'.2.1 9 (nN l)) = nN (ms.2.1 9 (nN l)); rw [g.2.2.2.1 9 _ h.2.1]
  rw [this]
  exact h.2.2
theorem okC_fr {ms ms' : tM} {i : Nat} (e : ∀ k j : Nat, j ≤ i → (k = 9 ∨ k = 10 ∨ k = 11 ∨ k = 12) → ms'.2.1 k j = ms.2.1 k j) (h : okC ms i) : okC ms' i := by
  have e9 : ∀ j : Nat, j ≤ i → nk ms' j = nk ms j := fun j hj => by show nN (ms'.2.1 9 j) = nN (ms.2.1 9 j); rw [e 9 j hj (by omega)]
  have e10 : na ms' i = na ms i := by show nN (ms'.2.1 10 i) = nN (ms.2.1 10 i); rw [e 10 i (Nat.le_refl _) (by omega)]
  have e11 : nb ms' i = nb ms i := by show nN (ms'.2.1 11 i) = nN (ms.2.1 11 i); rw [e 11 i (Nat.le_refl _) (by omega)]
  have e12 : nc ms' i = nc ms i := by show nN (ms'.2.1 12 i) = nN (ms.2.1 12 i); rw [e 12 i (Nat.le_refl _) (by omega)]
  obtain ⟨h1, h2, h3, h4, h5, h6, h7⟩ := h
  unfold okC okW okN
  rw [e9 i (Nat.le_refl _), e10, e11, e12, e 9 i (Nat.le_refl _) (by omega), e 10 i (Nat.le_refl _) (by omega), e 11 i (Nat.le_refl _) (by omega), e 12 i (Nat.le_refl _) (by omega)]
  refine ⟨h1, h2, h3, h4, fun u v => ?_, fun u => ?_, fun u => ?_⟩
  · rw [e9 _ (Nat.le_of_lt (h2 u v))]; exact h5 u v
  · rw [e9 _ (Nat.le_of_lt (h3 u))]; exact h6 u
  · rw [e9 _ (Nat.le_of_lt (h4 u))]; exact h7 u
theorem nmOK.kept {ms ms' : tM} (h : nmOK ms) (g : mF ms ms') : nmOK ms' := by
  have e19 := g.2.1 19 (by decide) (by decide) (by decide) (by decide) (by decide)
  unfold nmOK
  rw [e19, g.2.2.1 21 (by decide), g.2.2.1 22 (by decide), g.2.2.1 25 (by decide)]
  refine ⟨h.1, h.2.1, fun j hj => ?_⟩
  obtain ⟨s, q, h1, h2, h3, h4, h5, h6⟩ := h.2.2 j hj
  exact ⟨s, q, h1, h2, h3, h4, h5, fun z => (h6 z).kept g⟩
theorem mS.at0 {B a a' : Nat} {ms : tM} (h : mS B a ms) (ha : a ≤ a') : mS B a' (ats ms a') := ⟨rfl, h.2.1, Nat.le_trans h.2.2.1 (by omega), fun n hn => okC_fr (fun _ _ _ _ => rfl) (h.2.2.2.1 n hn), h.2.2.2.2.kept (mF.S (Or.inl rfl))⟩
theorem mS.at1 {B a : Nat} {ms : tM} (h : mS (B + 1) a ms) : mS B (a + 1) (ats ms (a + 1)) := ⟨rfl, h.2.1, by have := h.2.2.1; show nn ms ≤ _; omega, fun n hn => okC_fr (fun _ _ _ _ => rfl) (h.2.2.2.1 n hn), h.2.2.2.2.kept (mF.S (Or.inl rfl))⟩
theorem mS.up {B a : Nat} {ms : tM} (h : mS B a ms) : mS (B + 1) a ms := ⟨h.1, h.2.1, Nat.le_trans h.2.2.1 (by omega), h.2.2.2⟩
theorem mS.S {B a k : Nat} {ms : tM} {v : Int32} (h : mS B a ms) (hk : k = 17 ∨ k = 37 ∨ k = 38) : mS B a (tS ms k v) := by
  have e7 : (tS ms k v).1 7 = ms.1 7 := by show upd ms.1 k v 7 = ms.1 7; simp only [upd]; rw [if_neg (by omega)]
  have e8 : (tS ms k v).1 8 = ms.1 8 := by show upd ms.1 k v 8 = ms.1 8; simp only [upd]; rw [if_neg (by omega)]
  refine ⟨e7.trans h.1, ?_, ?_, ?_, h.2.2.2.2.kept (mF.S (Or.inr hk))⟩
  · show (tS ms k v).1 8 = nI (nN ((tS ms k v).1 8)); rw [e8]; exact h.2.1
  · show nN ((tS ms k v).1 8) ≤ _; rw [e8]; exact h.2.2.1
  · show ∀ n, n < nN ((tS ms k v).1 8) → _
    rw [e8]
    exact fun n hn => okC_fr (fun _ _ _ _ => rfl) (h.2.2.2.1 n hn)
-- ---- a new part
theorem nod_8 (ms : tM) (so a b c fr : Int32) : (nodT ms so a b c fr).1 8 = nI (nn ms + 1) := rfl
theorem nod_17 (ms : tM) (so a b c fr : Int32) : (nodT ms so a b c fr).1 17 = ms.1 8 := rfl
theorem nod_at (ms : tM) (so a b c fr : Int32) : (nodT ms so a b c fr).2.1 9 (nn ms) = so ∧ (nodT ms so a b c fr).2.1 10 (nn ms) = a ∧ (nodT ms so a b c fr).2.1 11 (nn ms) = b ∧ (nodT ms so a b c fr).2.1 12 (nn ms) = c ∧ (nodT ms so a b c fr).2.1 13 (nn ms) = 0 ∧ (nodT ms so a b c fr).2.1 14 (nn ms) = -1 ∧ (nodT ms so a b c fr).2.1 15 (nn ms) = fr := by
  refine ⟨?_, ?_, ?_, ?_, ?_, ?_, ?_⟩ <;> simp [nodT, tS, tI, upd]
theorem tI_ne {ms : tM} {k n j : Nat} {v : Int32} (h : j ≠ n) (q : Nat) : (tI ms k n v).2.1 q j = ms.2.1 q j := by
  show (if q = k then upd (ms.2.1 k) n v else ms.2.1 q) j = ms.2.1 q j
  by_cases e : q = k
  · subst e
    rw [if_pos rfl]
    simp [upd, h]
  · rw [if_neg e]
theorem nod_ne (ms : tM) (so a b c fr : Int32) (k j : Nat) (hj : j ≠ nn ms) : (nodT ms so a b c fr).2.1 k j = ms.2.1 k j :=
  (tI_ne hj k).trans ((tI_ne hj k).trans ((tI_ne hj k).trans ((tI_ne hj k).trans ((tI_ne hj k).trans ((tI_ne hj k).trans (tI_ne hj k))))))
theorem nod_k (ms : tM) (so a b c fr : Int32) (k : Nat) (hk : k < 9 ∨ 15 < k) : (nodT ms so a b c fr).2.1 k = ms.2.1 k := by
  simp only [nodT, tS, tI]
  rw [if_neg (by omega), if_neg (by omega), if_neg (by omega), if_neg (by omega), if_neg (by omega), if_neg (by omega), if_neg (by omega)]
theorem nod_1 (ms : tM) (so a b c fr : Int32) (k : Nat) (h8 : k ≠ 8) (h17 : k ≠ 17) : (nodT ms so a b c fr).1 k = ms.1 k := by
  show upd (upd ms.1 17 _) 8 _ k = ms.1 k
  simp only [upd]
  rw [if_neg h8, if_neg h17]
theorem nn_nod {B a0 : Nat} {ms : tM} (h : mS B a0 ms) (hB : B + a0 < 100000) (so a b c fr : Int32) : nn (nodT ms so a b c fr) = nn ms + 1 := by
  show nN (nI (nn ms + 1)) = nn ms + 1
  exact nN_nI (by have := h.2.2.1; omega)
theorem mF.nod {B a0 : Nat} {ms : tM} (h : mS B a0 ms) (hB : B + a0 < 100000) (so a b c fr : Int32) : mF ms (nodT ms so a b c fr) := by
  refine ⟨by rw [nn_nod h hB]; omega, fun k _ h8 h17 _ _ => nod_1 _ _ _ _ _ _ k h8 h17, fun k hk => nod_k _ _ _ _ _ _ k hk, fun k j hj => nod_ne _ _ _ _ _ _ k j (by omega), rfl⟩
theorem mL_nod {B a0 : Nat} {ms : tM} (h : mS B a0 ms) (hB : B + a0 < 100000) {k : Nat} (hk : k < 35) (x y z fr : Int32) (f : Bool) (hf : k < 14 ↔ f = true) : mL f (nodT ms (nI k) x y z fr) ((nodT ms (nI k) x y z fr).1 17) := by
  rw [nod_17, h.2.1]
  have e : nN (nI (nn ms)) = nn ms := nN_nI (by have := h.2.2.1; omega)
  refine ⟨by rw [e], by rw [e, nn_nod h hB]; omega, ?_⟩
  show nN ((nodT ms (nI k) x y z fr).2.1 9 (nN (nI (nn ms)))) < 14 ↔ f = true
  rw [e, (nod_at ms (nI k) x y z fr).1, nN_nI (by omega)]
  exact hf
theorem mS_nod {B a0 : Nat} {ms : tM} (h : mS B a0 ms) (hB : B + a0 < 1203) {k : Nat} (hk : k < 14 ∨ (20 ≤ k ∧ k < 35)) {x y z fr : Int32}
    (h1 : us1 k = true → k ≠ 21 → mL (decide ((k < 14 ∧ k ≠ 9) ∨ (30 ≤ k ∧ k ≤ 33))) ms x) (h21 : k = 21 → x = nI (nN x) ∧ nN x < 8) (h2 : us2 k = true → mL (decide (10 ≤ k ∧ k ≤ 13)) ms y) (h3 : k = 33 → mL false ms z) (h9 : k = 9 → z = nI (nN z) ∧ nN z < 6) (h34 : k = 34 → z = nI (nN z) ∧ nN z < 5) :
    mS (B + 1) a0 (nodT ms (nI k) x y z fr) := by
  have hnn := nn_nod h (by omega : B + a0 < 100000) (nI k) x y z fr
  have hle := h.2.2.1
  have hne : ∀ (kk j : Nat), j < nn ms → (nodT ms (nI k) x y z fr).2.1 kk j = ms.2.1 kk j := fun kk j hj => nod_ne _ _ _ _ _ _ kk j (by omega)
  obtain ⟨q9, q10, q11, q12, -⟩ := nod_at ms (nI k) x y z fr
  have hkk : nk (nodT ms (nI k) x y z fr) (nn ms) = k := by show nN ((nodT ms (nI k) x y z fr).2.1 9 (nn ms)) = k; rw [q9]; exact nN_nI (by omega)
  have ha : na (nodT ms (nI k) x y z fr) (nn ms) = nN x := by show nN ((nodT ms (nI k) x y z fr).2.1 10 (nn ms)) = _; rw [q10]
  have hb : nb (nodT ms (nI k) x y z fr) (nn ms) = nN y := by show nN ((nodT ms (nI k) x y z fr).2.1 11 (nn ms)) = _; rw [q11]
  have hc : nc (nodT ms (nI k) x y z fr) (nn ms) = nN z := by show nN ((nodT ms (nI k) x y z fr).2.1 12 (nn ms)) = _; rw [q12]
  have hnk : ∀ {f : Bool} {l : Int32}, mL f ms l → (nk (nodT ms (nI k) x y z fr) (nN l) < 14 ↔ f = true) := fun hl => (hl.kept (mF.nod h (by omega) _ _ _ _ _)).2.2
  refine ⟨h.1, by rw [hnn]; rfl, by omega, fun n hn => ?_, h.2.2.2.2.kept (mF.nod h (by omega) _ _ _ _ _)⟩
  rw [hnn] at hn
  rcases Nat.lt_or_ge n (nn ms) with hl | hl
  · exact okC_fr (fun kk j hj _ => hne kk j (by omega)) (h.2.2.2.1 n hl)
  · have en : n = nn ms := by omega
    subst en
    unfold okC okW okN
    rw [hkk, ha, hb, hc, q9, q10, q11, q12]
    refine ⟨⟨⟨by omega, by omega, rfl, fun u => ?_, fun u => ?_, fun u => ?_⟩, by omega, fun u => (h9 u).2, fun u => (h34 u).2, fun u => (h21 u).2⟩, fun u v => (h1 u v).2.1, fun u => (h2 u).2.1, fun u => (h3 u).2.1, fun u v => ?_, fun u => ?_, fun u => ?_⟩
    · by_cases e : k = 21
      · exact ⟨(h21 e).1, by have := (h21 e).2; omega⟩
      · exact ⟨(h1 u e).1, by have := (h1 u e).2.1; omega⟩
    · exact ⟨(h2 u).1, by have := (h2 u).2.1; omega⟩
    · have hu : k = 9 ∨ k = 33 ∨ k = 34 := by
        simp only [us3, Bool.or_eq_true, beq_iff_eq] at u
        omega
      rcases hu with e | e | e
      · exact ⟨(h9 e).1, by have := (h9 e).2; omega⟩
      · exact ⟨(h3 e).1, by have := (h3 e).2.1; omega⟩
      · exact ⟨(h34 e).1, by have := (h34 e).2; omega⟩
    · rw [hnk (h1 u v)]
      exact decide_eq_true_iff
    · rw [hnk (h2 u)]
      exact decide_eq_true_iff
    · rw [hnk (h3 u)]
      decide
theorem mS.low {B a : Nat} {ms : tM} (h : mS B a ms) (x y : Int32) : mS B a (lowT ms x y) := by
  refine ⟨h.1, h.2.1, h.2.2.1, fun n hn => okC_fr (fun k j _ hk => ?_) (h.2.2.2.1 n hn), ?_⟩
  · simp only [lowT, tI]
    rw [if_neg (by omega), if_neg (by omega)]
  · refine ⟨h.2.2.2.2.1, h.2.2.2.2.2.1, fun j hj => ?_⟩
    obtain ⟨s, q, h1, h2, h3, h4, h5, h6⟩ := h.2.2.2.2.2.2 j hj
    exact ⟨s, q, h1, h2, h3, h4, h5, h6⟩
theorem mL.low {f : Bool} {ms : tM} {l : Int32} (h : mL f ms l) (x y : Int32) : mL f (lowT ms x y) l := h
/-- the new part's bounds: elder parts stay -/
theorem mF.low {ms ms' : tM} (g : mF ms ms') (hm : nn ms ≤ nN (ms'.1 17)) (x y : Int32) : mF ms (lowT ms' x y) := by
  refine ⟨g.1, g.2.1, fun k hk => ?_, fun k j hj => ?_, g.2.2.2.2⟩
  · simp only [lowT, tI]
    rw [if_neg (by omega), if_neg (by omega)]
    exact g.2.2.1 k hk
  · refine Eq.trans ?_ (g.2.2.2.1 k j hj)
    have hne : ¬ j = nN (ms'.1 17) := by omega
    simp only [lowT, tI]
    repeat' split
    all_goals simp_all [upd]
-- ---- what holds behind a right meaning
def pP (Φ : Nat → tM → Prop) (r : pR) : Prop := r.1 = 0 → Φ r.2.2.1 r.2.2.2
theorem pP.b {Φ Ψ : Nat → tM → Prop} {r : pR} {k : Nat → tM → pR} (h : pP Φ r) (hk : ∀ (a : Nat) (m : tM), Φ a m → pP Ψ (k a m)) : pP Ψ (pb r k) := by
  unfold pb
  by_cases e : r.1 = 0
  · rw [if_pos e]; exact hk _ _ (h e)
  · rw [if_neg e]; exact fun z => absurd z e
theorem pP.c {Φ : Nat → tM → Prop} {x y : pR} {b : Bool} (h1 : b = true → pP Φ x) (h2 : b = false → pP Φ y) : pP Φ (cond b x y) := by
  cases b with
  | true => exact h1 rfl
  | false => exact h2 rfl
theorem pP.o {Φ : Nat → tM → Prop} {a : Nat} {m : tM} (h : Φ a m) : pP Φ (pO a m) := fun _ => h
theorem pP.e {Φ : Nat → tM → Prop} {T : Tv} {e t a : Nat} {m : tM} : pP Φ (pE T (e + 1) t a m) := fun z => absurd z (Nat.succ_ne_zero e)
theorem pP.w {Φ Ψ : Nat → tM → Prop} {r : pR} (h : pP Φ r) (hk : ∀ (a : Nat) (m : tM), Φ a m → Ψ a m) : pP Ψ r := fun z => hk _ _ (h z)
/-- behind a part's meaning that began in ms -/
def pV (f : Bool) (B : Nat) (ms : tM) (a' : Nat) (ms' : tM) : Prop := mS B a' ms' ∧ mL f ms' (ms'.1 17) ∧ mF ms ms'
def pU (B : Nat) (ms : tM) (a' : Nat) (ms' : tM) : Prop := mS B a' ms' ∧ mF ms ms'
theorem pU.t {T : Tv} {B a : Nat} {b : Bool} {ms : tM} (h : mS B a ms) : pP (fun a' ms' => a' = a + 1 ∧ ms' = ats ms (a + 1)) (pI T b a ms) := pP.c (fun _ => pP.o ⟨rfl, rfl⟩) (fun _ => pP.e)
end
