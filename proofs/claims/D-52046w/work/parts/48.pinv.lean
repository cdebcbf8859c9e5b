/-! PURE: a right meaning keeps the tables right. -/
section
set_option maxRecDepth 100000
def pM (B a0 : Nat) (ms : tM) (a : Nat) (m : tM) : Prop := a0 ≤ a ∧ a ≤ 400 ∧ mS B a m ∧ mF ms m
def pW (f : Bool) (B a0 : Nat) (ms : tM) (a : Nat) (m : tM) : Prop := pM B a0 ms a m ∧ mL f m (m.1 17)
theorem pM.S {B a0 a k : Nat} {ms m : tM} {v : Int32} (h : pM B a0 ms a m) (hk : k = 17 ∨ k = 37 ∨ k = 38) : pM B a0 ms a (tS m k v) := ⟨h.1, h.2.1, h.2.2.1.S hk, h.2.2.2.trans (mF.S (Or.inr hk))⟩
theorem pM.at {B a0 a a' : Nat} {ms m : tM} (h : pM B a0 ms a m) (h1 : a ≤ a') (h2 : a' ≤ 400) : pM B a0 ms a' (ats m a') := ⟨Nat.le_trans h.1 h1, h2, h.2.2.1.at0 h1, h.2.2.2.trans (mF.S (Or.inl rfl))⟩
theorem pM.at1 {B a0 a : Nat} {ms m : tM} (h : pM (B + 1) a0 ms a m) (h2 : a < 400) : pM B a0 ms (a + 1) (ats m (a + 1)) := ⟨Nat.le_trans h.1 (Nat.le_succ _), h2, h.2.2.1.at1, h.2.2.2.trans (mF.S (Or.inl rfl))⟩
theorem pM.rf {B a : Nat} {ms : tM} (h : mS B a ms) (h4 : a ≤ 400) : pM B a ms a ms := ⟨Nat.le_refl _, h4, h, mF.rf ms⟩
theorem pM.up {B a0 a : Nat} {ms m : tM} (h : pM B a0 ms a m) : pM (B + 1) a0 ms a m := ⟨h.1, h.2.1, h.2.2.1.up, h.2.2.2⟩
theorem pM.tr {B B' a0 a a' : Nat} {ms m m' : tM} (h : pM B a0 ms a m) (g : pM B' a m a' m') : pM B' a0 ms a' m' := ⟨Nat.le_trans h.1 g.1, g.2.1, g.2.2.1, h.2.2.2.trans g.2.2.2⟩
theorem pM.trW {f : Bool} {B B' a0 a a' : Nat} {ms m m' : tM} (h : pM B a0 ms a m) (g : pW f B' a m a' m') : pW f B' a0 ms a' m' := ⟨h.tr g.1, g.2⟩
theorem pM.nod {k b a0 a : Nat} {ms m : tM} {x y z fr : Int32} (h : pM b a0 ms a m) (hb : b < 803) (hk : k < 14 ∨ (20 ≤ k ∧ k < 35)) (f : Bool) (hf : k < 14 ↔ f = true)
    (h1 : us1 k = true → k ≠ 21 → mL (decide ((k < 14 ∧ k ≠ 9) ∨ (30 ≤ k ∧ k ≤ 33))) m x) (h21 : k = 21 → x = nI (nN x) ∧ nN x < 8) (h2 : us2 k = true → mL (decide (10 ≤ k ∧ k ≤ 13)) m y) (h3 : k = 33 → mL false m z) (h9 : k = 9 → z = nI (nN z) ∧ nN z < 6) (h34 : k = 34 → z = nI (nN z) ∧ nN z < 5) :
    pW f (b + 1) a0 ms a (nodT m (nI k) x y z fr) := by
  have h4 := h.2.1
  exact ⟨⟨h.1, h.2.1, mS_nod h.2.2.1 (by omega) hk h1 h21 h2 h3 h9 h34, h.2.2.2.trans (mF.nod h.2.2.1 (by omega) _ _ _ _ _)⟩, mL_nod h.2.2.1 (by omega) (by omega) x y z fr f hf⟩
theorem pW.low {f : Bool} {k b a0 a : Nat} {ms m : tM} {x y z fr lo hi : Int32} (h0 : pM b a0 ms a m) (h : pW f (b + 1) a0 ms a (nodT m (nI k) x y z fr)) : pW f (b + 1) a0 ms a (lowT (nodT m (nI k) x y z fr) lo hi) :=
  ⟨⟨h.1.1, h.1.2.1, h.1.2.2.1.low lo hi, h.1.2.2.2.low (by show nn ms ≤ nN (m.1 8); exact h0.2.2.2.1) lo hi⟩, h.2.low lo hi⟩
theorem wh_in (T : Tv) (a k : Nat) : whP T a k = -1 ∨ ∃ j : Nat, j < (wlW k).length ∧ whP T a k = nI j := by
  unfold whP
  by_cases ha : a < 400
  · rw [if_pos ha]
    rcases fU_lt (fun j => seesB T a ((wlW k).getD j [])) (wlW k).length with e | ⟨j, h1, h2, -⟩
    · exact Or.inl e
    · exact Or.inr ⟨j, h1, h2⟩
  · rw [if_neg ha]; exact Or.inl rfl
theorem wl_len : (wlW 1).length = 6 ∧ (wlW 2).length = 5 ∧ (wlW 3).length = 6 ∧ (wlW 4).length = 5 := by decide +kernel
theorem wh_n {T : Tv} {a k n : Nat} (h : whP T a k ≠ -1) (hn : (wlW k).length = n) (h9 : n < 100) : ∃ j : Nat, j < n ∧ whP T a k = nI j := by
  rcases wh_in T a k with e | ⟨j, h1, h2⟩
  · exact absurd e h
  · exact ⟨j, by omega, h2⟩
theorem fU_some {p : Nat → Bool} {j : Nat} (hj : p j = true) : ∀ n : Nat, j < n → n < 1000 → fU p n ≠ -1
  | 0, h, _ => absurd h (Nat.not_lt_zero j)
  | n + 1, h, h9 => by
    simp only [fU]
    by_cases e : p n = true
    · rw [if_pos e]; exact m1_ne' (by omega)
    · rw [if_neg e]
      have : j ≠ n := fun z => e (by rw [← z]; exact hj)
      exact fU_some hj n (by omega) (by omega)
theorem wl2_at : ∀ j : Nat, j < 5 → (wlW 2).getD j [] = sw (37 + j) := by decide +kernel
theorem sgn_wh {T : Tv} {a i : Nat} (hi : i < 5) (h : seesP T a (sw (37 + i)) = true) : whP T a 2 ≠ -1 := by
  simp only [seesP, Bool.and_eq_true, decide_eq_true_eq] at h
  unfold whP whT
  rw [if_pos h.1]
  refine fU_some (j := i) ?_ _ (by rw [wl_len.2.1]; exact hi) (by rw [wl_len.2.1]; decide)
  show seesB T a ((wlW 2).getD i []) = true
  rw [wl2_at i hi]
  exact h.2
theorem bin_wh {T : Tv} {a : Nat} (h : gSum T a = true ∨ gPro T a = true) : ∃ j : Nat, j < 5 ∧ whP T a 2 = nI j := by
  refine wh_n ?_ wl_len.2.1 (by decide)
  rcases h with h | h
  · rcases (Bool.or_eq_true _ _).mp h with e | e
    · exact sgn_wh (i := 0) (by decide) e
    · exact sgn_wh (i := 1) (by decide) e
  · rcases (Bool.or_eq_true _ _).mp h with e | e
    · rcases (Bool.or_eq_true _ _).mp e with e | e
      · exact sgn_wh (i := 2) (by decide) e
      · exact sgn_wh (i := 3) (by decide) e
    · exact sgn_wh (i := 4) (by decide) e
theorem nN_in {x : Int32} {j n : Nat} (e : x = nI j) (h : j < n) (hn : n < 1000) : x = nI (nN x) ∧ nN x < n := by
  subst e
  rw [nN_nI (by omega)]
  exact ⟨rfl, h⟩
theorem pP.t {Φ : Nat → tM → Prop} {T : Tv} {b : Bool} {a : Nat} {m : tM} (h : b = true → Φ (a + 1) (ats m (a + 1))) : pP Φ (pI T b a m) := pP.c (fun e => pP.o (h e)) (fun _ => pP.e)
theorem pP.bt {Φ : Nat → tM → Prop} {T : Tv} {b : Bool} {a : Nat} {m : tM} {k : Nat → tM → pR} (h : b = true → pP Φ (k (a + 1) (ats m (a + 1)))) : pP Φ (pb (pI T b a m) k) := by
  cases b with
  | true => exact h rfl
  | false => exact pP.e
theorem pP.k {Φ : Nat → tM → Prop} {T : Tv} {b : Bool} {e t a : Nat} {m : tM} {y : pR} (h : b = false → pP Φ y) : pP Φ (cond b (pE T (e + 1) t a m) y) := pP.c (fun _ => pP.e) h
theorem pBd_inv {T : Tv} {B a0 a : Nat} {ms0 ms : tM} (h : pM B a0 ms0 a ms) : pP (pM B a0 ms0) (pBd T true a ms) := by
  have hb : pM B a0 ms0 a (bdT ms 0 (-1)) := (h.S (by decide)).S (by decide)
  refine pP.c (fun e => pP.c (fun e1 => pP.k fun _ => pP.bt fun e2 => pP.c (fun e3 => pP.k fun _ => pP.t fun e4 => ?_) (fun _ => pP.e)) (fun _ => pP.e)) (fun _ => pP.o hb)
  have q1 := (seesP_lt e).1
  have q2 := (nuP_lt e1).1
  have q3 := (seesP_lt e2).1
  have q4 := (nuP_lt e3).1
  have q5 := (seesP_lt e4).1
  exact (((((((hb.at (a' := a + 1) (by omega) (by omega)).S (k := 37) (by decide)).at (a' := a + 2) (by omega) (by omega)).at (a' := a + 2 + 1) (by omega) (by omega)).S (k := 38) (by decide)).at (a' := a + 2 + 1 + 1) (by omega) (by omega)).at (a' := a + 2 + 1 + 1 + 1) (by omega) (by omega))
/-- a row's loop -/
theorem pLp_inv {T : Tv} {f : Bool} {B a0 : Nat} {ms0 : tM} {r : Nat → tM → pR} {g : Nat → Bool} {e : Nat → tM → tM → tM} (hr : ∀ (a : Nat) (m : tM), pM B a0 ms0 a m → pP (pW f B a m) (r a m)) (hg : ∀ a : Nat, g a = true → a < 400)
    (he : ∀ (a a1 : Nat) (m m1 : tM), g a = true → mL f m (m.1 17) → pW f B a0 ms0 a1 m1 → mF m m1 → pW f (B + 1) a0 ms0 a1 (e a m m1)) : ∀ (c a : Nat) (m : tM), pW f (B + 1) a0 ms0 a m → pP (pW f (B + 1) a0 ms0) (pLp r g e c a m)
  | 0, _, _, _ => fun z => absurd (show (99 : Nat) = 0 from z) (by decide)
  | c + 1, a, m, h => pP.c (fun e9 => pP.b (hr _ _ (h.1.at1 (hg a e9))) fun a1 m1 h1 => pLp_inv (T := T) hr hg he c a1 _ (he a a1 m m1 e9 h.2 ((h.1.at1 (hg a e9)).trW h1) ((mF.S (Or.inl rfl)).trans h1.1.2.2.2))) (fun _ => pP.o h)
theorem find_in {T : Tv} {ms : tM} {t : Nat} (h : nmOK ms) (hf : fnT T ms t ≠ -1) : ∃ j s q : Nat, fnT T ms t = nI j ∧ j < nN (ms.1 19) ∧ srtT ms (fnT T ms t) = s ∧ s < 4 ∧ ms.2.1 21 j = nI s ∧ numX ms (fnT T ms t) = nI q ∧ q < 12 ∧ (s = 0 → q < 8) ∧ (0 < s → mL (s != 2) ms (topX ms s (nI q))) := by
  rcases fU_lt (fun k => ms.2.2 20 k == nameT T t) (nN (ms.1 19)) with e | ⟨j, h1, h2, -⟩
  · exact absurd e hf
  · obtain ⟨s, q, g1, g2, g3, g4, g5, g6⟩ := h.2.2 j h1
    have e : fnT T ms t = nI j := h2
    have hj : nN (nI j) = j := nN_nI (by have := h.2.1; omega)
    refine ⟨j, s, q, e, h1, ?_, g1, g2, ?_, g4, g5, fun z => ?_⟩
    · rw [e, srtT, hj, g2]; exact nN_nI (by omega)
    · rw [e, numX, hj]; exact g3
    · have := g6 z
      rw [topX, nN_nI (by omega)]
      exact this
theorem us_lo : ∀ j : Nat, j < 6 → us2 j = false := by decide
theorem us_li : ∀ j : Nat, j < 5 → us2 (25 + j) = false ∧ us1 (25 + j) = true := by decide
theorem pW.at {f : Bool} {B a0 a : Nat} {ms m : tM} (h : pW f B a0 ms a m) (ha : a < 400) : pW f B a0 ms (a + 1) (ats m (a + 1)) := ⟨h.1.at (Nat.le_succ _) ha, h.2.kept (mF.S (Or.inl rfl))⟩
theorem pW.up {f : Bool} {B a0 a : Nat} {ms m : tM} (h : pW f B a0 ms a m) : pW f (B + 1) a0 ms a m := ⟨h.1.up, h.2⟩
theorem nI_lit (k : Nat) (x : Int32) (e : nI k = x) : x = nI k := e.symm
theorem li_add {T : Tv} {a j : Nat} (e : whP T a 4 = nI j) : (25 : Int32) + whP T a 4 = nI (25 + j) := by
  rw [e, show (25 : Int32) = nI 25 from rfl]
  exact nI_add _ _
theorem pX_inv (T : Tv) : ∀ (f nt d a B : Nat) (ms : tM), f ≤ B → B ≤ 802 → a ≤ 400 → mS B a ms → pP (pW (decide (nt < 5)) B a ms) (pX T true f nt d a ms)
  | 0, _, _, _, _, _, _, _, _, _ => fun z => absurd (show (99 : Nat) = 0 from z) (by decide)
  | f + 1, nt, d, a, 0, ms, h, _, _, _ => absurd h (by omega)
  | f + 1, nt, d, a, B + 1, ms, h, hB, ha, hm => by
    have ih : ∀ (nt d a a0 B0 : Nat) (ms m : tM), f ≤ B0 → B0 ≤ 802 → pM B0 a0 ms a m → pP (pW (decide (nt < 5)) B0 a0 ms) (pX T true f nt d a m) := fun nt d a a0 B0 ms m hf hb hp => (pX_inv T f nt d a B0 m hf hb hp.2.1 hp.2.2.1).w fun _ _ z => hp.trW z
    have h0 : pM (B + 1) a ms a ms := pM.rf hm ha
    have hbr : ∀ (x dd : Nat) (m : tM), pM B a ms x m → pP (pW true B a ms) (pBr T (pX T true f) dd x m) := fun x dd m hx => pP.c (fun e => pP.c (fun _ => ih 0 _ _ _ _ _ _ (by omega) (by omega) (hx.at (by omega) (by have := (seesP_lt e).1; omega))) (fun _ => pP.e)) (fun _ => pP.e)
    match nt with
    | 0 =>
      refine pP.b (ih 1 d a a (B + 1) ms ms (by omega) hB h0) fun a1 m1 h1 => pP.c (fun e => ?_) (fun _ => pP.o h1)
      refine pP.b (ih 0 d (a1 + 1) a1 B m1 _ (by omega) (by omega) ((pM.rf h1.1.2.2.1 h1.1.2.1).at1 (seesP_lt e).1)) fun a2 m2 h2 => pP.o ?_
      exact (h1.1.trW h2).1.nod (k := 13) (by omega) (Or.inl (by decide)) true (by decide) (fun _ _ => h1.2.kept h2.1.2.2.2) (fun z => absurd z (by decide)) (fun _ => h2.2) (fun z => absurd z (by decide)) (fun z => absurd z (by decide)) (fun z => absurd z (by decide))
    | 1 =>
      refine pP.b (ih 2 d a a (B + 1) ms ms (by omega) hB h0) fun a1 m1 h1 => ?_
      exact pLp_inv (T := T) (f := true) (B := B) (fun x m hx => pX_inv T f 2 d x B m (by omega) (by omega) hx.2.1 hx.2.2.1) (fun x e => (seesP_lt e).1) (fun x x1 m m1 hg hl h2 hF => h2.1.nod (k := 12) (by omega) (Or.inl (by decide)) true (by decide) (fun _ _ => hl.kept hF) (fun z => absurd z (by decide)) (fun _ => h2.2) (fun z => absurd z (by decide)) (fun z => absurd z (by decide)) (fun z => absurd z (by decide))) 401 a1 m1 h1
    | 2 =>
      refine pP.b (ih 3 d a a (B + 1) ms ms (by omega) hB h0) fun a1 m1 h1 => ?_
      exact pLp_inv (T := T) (f := true) (B := B) (fun x m hx => pX_inv T f 3 d x B m (by omega) (by omega) hx.2.1 hx.2.2.1) (fun x e => (seesP_lt e).1) (fun x x1 m m1 hg hl h2 hF => h2.1.nod (k := 11) (by omega) (Or.inl (by decide)) true (by decide) (fun _ _ => hl.kept hF) (fun z => absurd z (by decide)) (fun _ => h2.2) (fun z => absurd z (by decide)) (fun z => absurd z (by decide)) (fun z => absurd z (by decide))) 401 a1 m1 h1
    | 3 =>
      refine pP.b (ih 4 d a a (B + 1) ms ms (by omega) hB h0) fun a1 m1 h1 => pP.c (fun e => ?_) (fun _ => pP.o h1)
      refine pP.b (pBd_inv ((pM.rf h1.1.2.2.1 h1.1.2.1).at1 (seesP_lt e).1)) fun a2 m2 h2 => ?_
      refine pP.b (ih 4 d a2 a1 B m1 m2 (by omega) (by omega) h2) fun a3 m3 h3 => pP.o ?_
      exact pW.low (h1.1.trW h3).1 ((h1.1.trW h3).1.nod (k := 10) (by omega) (Or.inl (by decide)) true (by decide) (fun _ _ => h1.2.kept h3.1.2.2.2) (fun z => absurd z (by decide)) (fun _ => h3.2) (fun z => absurd z (by decide)) (fun z => absurd z (by decide)) (fun z => absurd z (by decide)))
    | 4 =>
      refine pP.c (fun e => pP.c (fun _ => ?_) (fun _ => pP.e)) (fun _ => ?_)
      · have hx := h0.at1 (whb_lt e).1
        refine pP.b (pP.c (fun _ => pP.o hx) (fun _ => pBd_inv hx)) fun a1 m1 h1 => ?_
        refine pP.b (ih 4 (d + 1) a1 a B ms m1 (by omega) (by omega) h1) fun a2 m2 h2 => pP.o ?_
        obtain ⟨j, hj, ej⟩ := wh_n (T := T) (a := a) (k := 3) (by simpa using e) wl_len.2.2.1 (by decide)
        show pW true (B + 1) a ms a2 (lowT (nodT m2 (whP T a 3) (m2.1 17) (-1) (-1) (frmI T a)) _ _)
        rw [ej]
        exact pW.low h2.1 (h2.1.nod (k := j) (by omega) (Or.inl (by omega)) true (by simp; omega) (fun _ _ => by rw [decide_eq_true (by omega)]; exact h2.2) (fun z => by omega) (fun z => by rw [us_lo j hj] at z; cases z) (fun z => by omega) (fun z => by omega) (fun z => by omega))
      refine pP.c (fun e => ?_) (fun _ => ?_)
      · refine pP.b (pP.c (fun _ => ih 0 (d + 1) (a + 1) a B ms _ (by omega) (by omega) (h0.at1 (seesP_lt e).1)) (fun _ => pP.e)) fun a1 m1 h1 => pP.t fun e2 => (h1.at (seesP_lt e2).1).up
      refine pP.c (fun e => ?_) (fun _ => ?_)
      · have hx := h0.at1 (or_lt seesP_lt seesP_lt e).1
        refine pP.o ?_
        show pW true (B + 1) a ms (a + 1) (nodT (ats ms (a + 1)) (if seesP T a (sw 16) = true then 6 else 7) (-1) (-1) (-1) (frmI T a))
        split
        · exact hx.nod (k := 6) (by omega) (Or.inl (by decide)) true (by decide) (fun z => absurd z (by decide)) (fun z => absurd z (by decide)) (fun z => absurd z (by decide)) (fun z => absurd z (by decide)) (fun z => absurd z (by decide)) (fun z => absurd z (by decide))
        · exact hx.nod (k := 7) (by omega) (Or.inl (by decide)) true (by decide) (fun z => absurd z (by decide)) (fun z => absurd z (by decide)) (fun z => absurd z (by decide)) (fun z => absurd z (by decide)) (fun z => absurd z (by decide)) (fun z => absurd z (by decide))
      refine pP.c (fun e => ?_) (fun _ => ?_)
      · refine pP.c (fun e1 => pP.k fun e2 => pP.o ?_) (fun _ => pP.e)
        have hx : pM B a ms (a + 2) (tS (tS ms 7 (nI (a + 1))) 7 (nI (a + 2))) := (h0.at1 (seesP_lt e).1).at (a' := a + 2) (by omega) (nmP_lt e1).1
        rw [tS_tS] at hx
        simp only [Bool.true_and, nfT, Bool.or_eq_false_iff, beq_eq_false_iff_ne] at e2
        obtain ⟨j, s, q, g1, g2, g3, g4, g5, g6, g7, g8, g9⟩ := find_in (T := T) (t := a + 1) hm.2.2.2.2 e2.1
        rw [g3] at e2
        show pW true (B + 1) a ms (a + 2) (nodT (ats ms (a + 2)) 8 (topX ms (srtT ms (fnT T ms (a + 1))) (numX ms (fnT T ms (a + 1)))) (-1) (-1) (frmI T a))
        rw [g3, g6]
        have hs : (s != 2) = true := by have := e2.2; simp; omega
        have g10 := g9 (by omega)
        rw [hs] at g10
        exact hx.nod (k := 8) (by omega) (Or.inl (by decide)) true (by decide) (fun _ _ => g10.kept (mF.S (Or.inl rfl))) (fun z => absurd z (by decide)) (fun z => absurd z (by decide)) (fun z => absurd z (by decide)) (fun z => absurd z (by decide)) (fun z => absurd z (by decide))
      · refine pP.b (ih 5 d a a (B + 1) ms ms (by omega) hB h0) fun a1 m1 h1 => pP.c (fun e => ?_) (fun _ => pP.e)
        refine pP.b (ih 5 d (a1 + 1) a1 B m1 _ (by omega) (by omega) ((pM.rf h1.1.2.2.1 h1.1.2.1).at1 (whb_lt e).1)) fun a2 m2 h2 => pP.o ?_
        exact (h1.1.trW h2).1.nod (k := 9) (by omega) (Or.inl (by decide)) true (by decide) (fun _ _ => h1.2.kept h2.1.2.2.2) (fun z => absurd z (by decide)) (fun _ => h2.2) (fun z => absurd z (by decide)) (fun _ => by obtain ⟨j, hj, ej⟩ := wh_n (T := T) (a := a1) (k := 1) (by simpa using e) wl_len.1 (by decide); exact nN_in ej hj (by decide)) (fun z => absurd z (by decide))
    | 5 =>
      refine pP.b (ih 6 d a a (B + 1) ms ms (by omega) hB h0) fun a1 m1 h1 => ?_
      exact pLp_inv (T := T) (f := false) (B := B) (fun x m hx => pX_inv T f 6 d x B m (by omega) (by omega) hx.2.1 hx.2.2.1) (fun x e => (gSum_lt e).1) (fun x x1 m m1 hg hl h2 hF => h2.1.nod (k := 34) (by omega) (Or.inr (by decide)) false (by decide) (fun _ _ => hl.kept hF) (fun z => absurd z (by decide)) (fun _ => h2.2) (fun z => absurd z (by decide)) (fun z => absurd z (by decide)) (fun _ => by obtain ⟨j, hj, ej⟩ := bin_wh (T := T) (a := x) (Or.inl hg); exact nN_in ej hj (by decide))) 401 a1 m1 h1
    | 6 =>
      refine pP.b (ih 7 d a a (B + 1) ms ms (by omega) hB h0) fun a1 m1 h1 => ?_
      exact pLp_inv (T := T) (f := false) (B := B) (fun x m hx => pX_inv T f 7 d x B m (by omega) (by omega) hx.2.1 hx.2.2.1) (fun x e => (gPro_lt e).1) (fun x x1 m m1 hg hl h2 hF => h2.1.nod (k := 34) (by omega) (Or.inr (by decide)) false (by decide) (fun _ _ => hl.kept hF) (fun z => absurd z (by decide)) (fun _ => h2.2) (fun z => absurd z (by decide)) (fun z => absurd z (by decide)) (fun _ => by obtain ⟨j, hj, ej⟩ := bin_wh (T := T) (a := x) (Or.inr hg); exact nN_in ej hj (by decide))) 401 a1 m1 h1
    | n + 7 =>
      have e7 : decide (n + 7 < 5) = false := decide_eq_false (by omega)
      rw [e7]
      refine pP.c (fun e => ?_) (fun _ => ?_)
      · have hx := h0.at1 (nuP_lt e).1
        exact pP.o (hx.nod (k := 20) (by omega) (Or.inr (by decide)) false (by decide) (fun z => absurd z (by decide)) (fun z => absurd z (by decide)) (fun z => absurd z (by decide)) (fun z => absurd z (by decide)) (fun z => absurd z (by decide)) (fun z => absurd z (by decide)))
      refine pP.c (fun e => ?_) (fun _ => ?_)
      · have hx := h0.at1 (nmP_lt e).1
        refine pP.k fun e2 => pP.o ?_
        simp only [Bool.true_and, nvT, Bool.or_eq_false_iff, beq_eq_false_iff_ne] at e2
        obtain ⟨j, s, q, g1, g2, g3, g4, g5, g6, g7, g8, g9⟩ := find_in (T := T) (t := a) hm.2.2.2.2 e2.1
        rw [g3] at e2
        show pW false (B + 1) a ms (a + 1) (valX T ms a (ats ms (a + 1)))
        unfold valX
        rw [g3, g6]
        by_cases hs : s = 0
        · rw [if_pos hs]
          exact hx.nod (k := 21) (by omega) (Or.inr (by decide)) false (by decide) (fun _ z => absurd rfl z) (fun _ => nN_in rfl (g8 hs) (by decide)) (fun z => absurd z (by decide)) (fun z => absurd z (by decide)) (fun z => absurd z (by decide)) (fun z => absurd z (by decide))
        · rw [if_neg hs]
          have hs2 : s = 2 := by omega
          subst hs2
          have g10 := g9 (by omega)
          exact hx.nod (k := 22) (by omega) (Or.inr (by decide)) false (by decide) (fun _ _ => g10.kept (mF.S (Or.inl rfl))) (fun z => absurd z (by decide)) (fun z => absurd z (by decide)) (fun z => absurd z (by decide)) (fun z => absurd z (by decide)) (fun z => absurd z (by decide))
      refine pP.c (fun e => ?_) (fun _ => ?_)
      · have hx := h0.at1 (seesP_lt e).1
        exact pP.o (hx.nod (k := 23) (by omega) (Or.inr (by decide)) false (by decide) (fun z => absurd z (by decide)) (fun z => absurd z (by decide)) (fun z => absurd z (by decide)) (fun z => absurd z (by decide)) (fun z => absurd z (by decide)) (fun z => absurd z (by decide)))
      refine pP.c (fun e => ?_) (fun _ => ?_)
      · have hx := h0.at1 (seesP_lt e).1
        exact pP.o (hx.nod (k := 24) (by omega) (Or.inr (by decide)) false (by decide) (fun z => absurd z (by decide)) (fun z => absurd z (by decide)) (fun z => absurd z (by decide)) (fun z => absurd z (by decide)) (fun z => absurd z (by decide)) (fun z => absurd z (by decide)))
      refine pP.c (fun e => pP.c (fun _ => ?_) (fun _ => pP.e)) (fun _ => ?_)
      · exact pP.b (ih 5 (d + 1) (a + 1) a B ms _ (by omega) (by omega) (h0.at1 (seesP_lt e).1)) fun a1 m1 h1 => pP.t fun e2 => (h1.at (seesP_lt e2).1).up
      refine pP.c (fun e => pP.c (fun _ => ?_) (fun _ => pP.e)) (fun _ => ?_)
      · refine pP.b (ih 7 (d + 1) (a + 1) a B ms _ (by omega) (by omega) (h0.at1 (whb_lt e).1)) fun a1 m1 h1 => pP.o ?_
        obtain ⟨j, hj, ej⟩ := wh_n (T := T) (a := a) (k := 4) (by simpa using e) wl_len.2.2.2 (by decide)
        show pW false (B + 1) a ms a1 (nodT m1 (25 + whP T a 4) (m1.1 17) (-1) (-1) (frmI T a))
        rw [li_add ej]
        exact h1.1.nod (k := 25 + j) (by omega) (Or.inr (by omega)) false (by simp; omega) (fun _ _ => by rw [decide_eq_false (by omega)]; exact h1.2) (fun z => by omega) (fun z => by rw [(us_li j hj).1] at z; cases z) (fun z => by omega) (fun z => by omega) (fun z => by omega)
      refine pP.c (fun e => ?_) (fun _ => ?_)
      · refine pP.b (hbr _ _ _ (h0.at1 (or_lt seesP_lt seesP_lt e).1)) fun a1 m1 h1 => pP.bt fun e2 => pP.o ?_
        have hx := h1.at (seesP_lt e2).1
        show pW false (B + 1) a ms (a1 + 1) (nodT (ats m1 (a1 + 1)) (if seesP T a (sw 25) = true then 30 else 31) (m1.1 17) (-1) (-1) (frmI T a))
        split
        · exact hx.1.nod (k := 30) (by omega) (Or.inr (by decide)) false (by decide) (fun _ _ => hx.2) (fun z => absurd z (by decide)) (fun z => absurd z (by decide)) (fun z => absurd z (by decide)) (fun z => absurd z (by decide)) (fun z => absurd z (by decide))
        · exact hx.1.nod (k := 31) (by omega) (Or.inr (by decide)) false (by decide) (fun _ _ => hx.2) (fun z => absurd z (by decide)) (fun z => absurd z (by decide)) (fun z => absurd z (by decide)) (fun z => absurd z (by decide)) (fun z => absurd z (by decide))
      refine pP.c (fun e => ?_) (fun _ => ?_)
      · refine pP.b (hbr _ _ _ (h0.at1 (seesP_lt e).1)) fun a1 m1 h1 => pP.bt fun e2 => ?_
        have hx := h1.at (seesP_lt e2).1
        refine pP.b (ih 7 (d + 1) (a1 + 1) (a1 + 1) B (ats m1 (a1 + 1)) _ (by omega) (by omega) (pM.rf hx.1.2.2.1 hx.1.2.1)) fun a3 m3 h3 => pP.o ?_
        exact (hx.1.trW h3).1.nod (k := 32) (by omega) (Or.inr (by decide)) false (by decide) (fun _ _ => hx.2.kept h3.1.2.2.2) (fun z => absurd z (by decide)) (fun _ => h3.2) (fun z => absurd z (by decide)) (fun z => absurd z (by decide)) (fun z => absurd z (by decide))
      · refine pP.bt fun e0 => ?_
        refine pP.b (hbr _ _ _ (h0.at1 (seesP_lt e0).1)) fun a1 m1 h1 => pP.bt fun e2 => pP.bt fun e3 => ?_
        have hx := (h1.at (seesP_lt e2).1).at (seesP_lt e3).1
        refine pP.b (ih 7 (d + 1) _ (a1 + 1 + 1) B (ats (ats m1 (a1 + 1)) (a1 + 1 + 1)) _ (by omega) (by omega) (pM.rf hx.1.2.2.1 hx.1.2.1)) fun a4 m4 h4 => pP.bt fun e5 => ?_
        have hy := h4.at (seesP_lt e5).1
        refine pP.b (ih 7 (d + 1) _ (a4 + 1) B (ats m4 (a4 + 1)) _ (by omega) (by omega) (pM.rf hy.1.2.2.1 hy.1.2.1)) fun a6 m6 h6 => pP.o ?_
        have hz := hx.1.trW (hy.1.trW h6)
        exact hz.1.nod (k := 33) (by omega) (Or.inr (by decide)) false (by decide) (fun _ _ => (hx.2.kept hy.1.2.2.2).kept h6.1.2.2.2) (fun z => absurd z (by decide)) (fun _ => hy.2.kept h6.1.2.2.2) (fun _ => h6.2) (fun z => absurd z (by decide)) (fun z => absurd z (by decide))
end
