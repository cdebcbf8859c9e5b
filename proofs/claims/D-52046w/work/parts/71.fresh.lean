/-! PURE: a question's nodes point at its own nodes or at the program's. -/
section
set_option maxRecDepth 100000
/-- P program nodes, the question's begin at B -/
def okX (P B : Nat) (x : Int32) : Prop := nN x < P ∨ B ≤ nN x
def sK (P B : Nat) (m : tM) : Prop := ∀ i : Nat, B ≤ i → i < nn m → (us1 (nk m i) = true → nk m i ≠ 21 → okX P B (m.2.1 10 i)) ∧ (us2 (nk m i) = true → okX P B (m.2.1 11 i)) ∧ (nk m i = 33 → okX P B (m.2.1 12 i))
def NM (P : Nat) (m : tM) : Prop := nN (m.1 19) ≤ 44 ∧ ∀ j : Nat, j < nN (m.1 19) → ∃ s q : Nat, s < 4 ∧ m.2.1 21 j = nI s ∧ m.2.1 22 j = nI q ∧ q < 12 ∧ (0 < s → nN (m.2.1 25 (12 * s + q)) < P)
def cJ (P B : Nat) (K : Int) (a : Nat) (m : tM) : Prop := cI K a m ∧ a ≤ 400 ∧ K ≤ 802 ∧ B ≤ nn m ∧ sK P B m ∧ NM P m
def cW (P B : Nat) (K : Int) (a : Nat) (m : tM) : Prop := cJ P B K a m ∧ B ≤ nN (m.1 17)
theorem cJ.at {P B : Nat} {K : Int} {a a' : Nat} {m : tM} (h : cJ P B K a m) (ha : a ≤ a') (h4 : a' ≤ 400) : cJ P B K a' (ats m a') := ⟨h.1.at ha, h4, h.2.2.1, h.2.2.2.1, h.2.2.2.2.1, h.2.2.2.2.2⟩
theorem cJ.at1 {P B : Nat} {K : Int} {a : Nat} {m : tM} (h : cJ P B K a m) (h4 : a < 400) : cJ P B (K - 1) (a + 1) (ats m (a + 1)) := ⟨h.1.at1, h4, by have := h.2.2.1; omega, h.2.2.2.1, h.2.2.2.2.1, h.2.2.2.2.2⟩
theorem cJ.up {P B : Nat} {K : Int} {a : Nat} {m : tM} (h : cJ P B (K - 1) a m) (hK : K ≤ 802) : cJ P B K a m := ⟨h.1.up, h.2.1, hK, h.2.2.2⟩
theorem cW.at {P B : Nat} {K : Int} {a : Nat} {m : tM} (h : cW P B K a m) (h4 : a < 400) : cW P B K (a + 1) (ats m (a + 1)) := ⟨h.1.at (Nat.le_succ _) h4, h.2⟩
theorem tI_nei {m : tM} {k n q i : Nat} {v : Int32} (h : i ≠ n) : (tI m k n v).2.1 q i = m.2.1 q i := by
  by_cases e : q = k
  · subst e; simp [tI, upd, h]
  · simp [tI, upd, e]
theorem cW.ok {P B : Nat} {K : Int} {a : Nat} {m : tM} (h : cW P B K a m) : okX P B (m.1 17) := Or.inr h.2
theorem cJ.nod {P B : Nat} {K : Int} {a k : Nat} {m : tM} {x y z fr : Int32} (h : cJ P B (K - 1) a m) (hK : K ≤ 802) (hk : k < 100) (h1 : us1 k = true → k ≠ 21 → okX P B x) (h2 : us2 k = true → okX P B y) (h3 : k = 33 → okX P B z) : cW P B K a (nodT m (nI k) x y z fr) := by
  obtain ⟨g1, g2, g3, g4, g5, g6⟩ := h
  have c1 : (nn m : Int) ≤ K - 1 + a := g1
  have e8 : nn (nodT m (nI k) x y z fr) = nn m + 1 := nN_nI (by show nN (m.1 8) + 1 < 2 ^ 31; have : nn m = nN (m.1 8) := rfl; omega)
  refine ⟨⟨g1.nod, g2, hK, by rw [e8]; omega, fun i h4 h5 => ?_, g6⟩, g4⟩
  rw [e8] at h5
  by_cases e : i = nn m
  · have k9 : (nodT m (nI k) x y z fr).2.1 9 i = nI k := by rw [e]; simp [nodT, tI, tS, upd]
    have k10 : (nodT m (nI k) x y z fr).2.1 10 i = x := by rw [e]; simp [nodT, tI, tS, upd]
    have k11 : (nodT m (nI k) x y z fr).2.1 11 i = y := by rw [e]; simp [nodT, tI, tS, upd]
    have k12 : (nodT m (nI k) x y z fr).2.1 12 i = z := by rw [e]; simp [nodT, tI, tS, upd]
    have kk : nk (nodT m (nI k) x y z fr) i = k := by show nN ((nodT m (nI k) x y z fr).2.1 9 i) = k; rw [k9]; exact nN_nI (by omega)
    rw [kk, k10, k11, k12]
    exact ⟨h1, h2, h3⟩
  · have kq : ∀ q : Nat, (nodT m (nI k) x y z fr).2.1 q i = m.2.1 q i := fun q => by
      have e' : i ≠ nN (m.1 8) := e
      show (tI (tI (tI (tI (tI (tI (tI m 9 (nN (m.1 8)) (nI k)) 10 (nN (m.1 8)) x) 11 (nN (m.1 8)) y) 12 (nN (m.1 8)) z) 13 (nN (m.1 8)) 0) 14 (nN (m.1 8)) (-1)) 15 (nN (m.1 8)) fr).2.1 q i = m.2.1 q i
      rw [tI_nei e', tI_nei e', tI_nei e', tI_nei e', tI_nei e', tI_nei e', tI_nei e']
    have kk : nk (nodT m (nI k) x y z fr) i = nk m i := by show nN ((nodT m (nI k) x y z fr).2.1 9 i) = nN (m.2.1 9 i); rw [kq]
    rw [kk, kq, kq, kq]
    exact g5 i h4 (by omega)
theorem cW.low {P B : Nat} {K : Int} {a : Nat} {m : tM} {lo hi : Int32} (h : cW P B K a m) : cW P B K a (lowT m lo hi) := h
theorem pBd_fr {P B : Nat} {T : Tv} {K : Int} {a : Nat} {m : tM} (h : cJ P B K a m) : pP (cJ P B K) (pBd T true a m) := by
  refine pP.c (fun e => pP.c (fun e1 => pP.k fun _ => pP.bt fun e2 => pP.c (fun e3 => pP.k fun _ => pP.t fun e4 => ?_) (fun _ => pP.e)) (fun _ => pP.e)) (fun _ => pP.o h)
  have q5 := (seesP_lt e4).1
  exact h.at (a' := a + 2 + 1 + 1 + 1) (by omega) (by omega)
theorem pLp_fr {P B : Nat} {r : Nat → tM → pR} {g : Nat → Bool} {e : Nat → tM → tM → tM} (hr : ∀ (K : Int) (a : Nat) (m : tM), cJ P B K a m → pP (cW P B K) (r a m)) (hg : ∀ a : Nat, g a = true → a < 400) (he : ∀ (K : Int) (a a1 : Nat) (m m1 : tM), g a = true → K ≤ 802 → okX P B (m.1 17) → cW P B (K - 1) a1 m1 → cW P B K a1 (e a m m1)) {K : Int} : ∀ (c a : Nat) (m : tM), cW P B K a m → pP (cW P B K) (pLp r g e c a m)
  | 0, _, _, _ => fun z => absurd (show (99 : Nat) = 0 from z) (by decide)
  | c + 1, a, m, h => pP.c (fun e9 => pP.b (hr _ _ _ (h.1.at1 (hg a e9))) fun a1 m1 h1 => pLp_fr hr hg he c a1 _ (he K a a1 m m1 e9 h.1.2.2.1 h.ok h1)) (fun _ => pP.o h)
theorem find_fr {T : Tv} {P : Nat} {ms : tM} {t : Nat} (h : NM P ms) (hf : fnT T ms t ≠ -1) : ∃ s : Nat, srtT ms (fnT T ms t) = s ∧ (0 < s → nN (topX ms s (numX ms (fnT T ms t))) < P) := by
  rcases fU_lt (fun k => ms.2.2 20 k == nameT T t) (nN (ms.1 19)) with e | ⟨j, h1, h2, -⟩
  · exact absurd e hf
  · obtain ⟨s, q, g4, g1, g2, g3, g6⟩ := h.2 j h1
    have e : fnT T ms t = nI j := h2
    have hj : nN (nI j) = j := nN_nI (by have := h.1; omega)
    refine ⟨s, ?_, fun z => ?_⟩
    · rw [e, srtT, hj, g1]; exact nN_nI (by omega)
    · rw [e, numX, hj, g2, topX, nN_nI (by omega)]; exact g6 z
theorem pX_fr (T : Tv) (P B : Nat) : ∀ (f nt d a : Nat) (K : Int) (ms : tM), cJ P B K a ms → pP (cW P B K) (pX T true f nt d a ms)
  | 0, _, _, _, _, _, _ => fun z => absurd (show (99 : Nat) = 0 from z) (by decide)
  | f + 1, nt, d, a, K, ms, h => by
    have ih : ∀ (nt d : Nat) {a : Nat} {K : Int} {m : tM}, cJ P B K a m → pP (cW P B K) (pX T true f nt d a m) := fun nt d {a K m} hp => pX_fr T P B f nt d a K m hp
    have hK := h.2.2.1
    have hbo : ∀ (x dd : Nat) (m : tM) (K : Int), x < 400 → cJ P B K x m → pP (cW P B (K - 1)) (pBo T (pX T true f) dd x m) := fun x dd m K hx4 hx => pP.c (fun _ => ih 0 _ (hx.at1 hx4)) (fun _ => pP.e)
    have hbr : ∀ (x dd : Nat) (m : tM) (K : Int), cJ P B K x m → pP (cW P B (K - 1)) (pBr T (pX T true f) dd x m) := fun x dd m K hx => pP.c (fun e => hbo x dd m K (seesP_lt e).1 hx) (fun _ => pP.e)
    match nt with
    | 0 => exact pP.b (ih 1 d h) fun a1 m1 h1 => pP.c (fun e => pP.b (ih 0 d (h1.1.at1 (seesP_lt e).1)) fun a2 m2 h2 => pP.o (h2.1.nod (k := 13) hK (by decide) (fun _ _ => h1.ok) (fun _ => h2.ok) (fun z => absurd z (by decide)))) (fun _ => pP.o h1)
    | 1 => exact pP.b (ih 2 d h) fun a1 m1 h1 => pLp_fr (fun K x m hx => ih 2 d hx) (fun x e => (seesP_lt e).1) (fun K x x1 m m1 _ hK2 hl h2 => h2.1.nod (k := 12) hK2 (by decide) (fun _ _ => hl) (fun _ => h2.ok) (fun z => absurd z (by decide))) 401 a1 m1 h1
    | 2 => exact pP.b (ih 3 d h) fun a1 m1 h1 => pLp_fr (fun K x m hx => ih 3 d hx) (fun x e => (seesP_lt e).1) (fun K x x1 m m1 _ hK2 hl h2 => h2.1.nod (k := 11) hK2 (by decide) (fun _ _ => hl) (fun _ => h2.ok) (fun z => absurd z (by decide))) 401 a1 m1 h1
    | 3 => exact pP.b (ih 4 d h) fun a1 m1 h1 => pP.c (fun e => pP.b (pBd_fr (h1.1.at1 (seesP_lt e).1)) fun a2 m2 h2 => pP.b (ih 4 d h2) fun a3 m3 h3 => pP.o (cW.low (h3.1.nod (k := 10) hK (by decide) (fun _ _ => h1.ok) (fun _ => h3.ok) (fun z => absurd z (by decide))))) (fun _ => pP.o h1)
    | 4 =>
      refine pP.c (fun e => pP.c (fun _ => ?_) (fun _ => pP.e)) (fun _ => ?_)
      · have hx := h.at1 (whb_lt e).1
        refine pP.b (pP.c (fun _ => pP.o hx) (fun _ => pBd_fr hx)) fun a1 m1 h1 => pP.b (ih 4 (d + 1) h1) fun a2 m2 h2 => pP.o ?_
        obtain ⟨j, hj, ej⟩ := wh_n (T := T) (a := a) (k := 3) (by simpa using e) wl_len.2.2.1 (by decide)
        show cW P B K a2 (lowT (nodT m2 (whP T a 3) (m2.1 17) (-1) (-1) (frmI T a)) _ _)
        rw [ej]
        exact cW.low (h2.1.nod (k := j) hK (by omega) (fun _ _ => h2.ok) (fun z => by rw [us_lo j hj] at z; cases z) (fun z => by omega))
      refine pP.c (fun e => pP.b (hbo a d ms K (seesP_lt e).1 h) fun a1 m1 h1 => pP.t fun e2 => ⟨(h1.1.at (Nat.le_succ _) (seesP_lt e2).1).up hK, h1.2⟩) (fun _ => ?_)
      refine pP.c (fun e => pP.o ?_) (fun _ => ?_)
      · have hx := h.at1 (or_lt seesP_lt seesP_lt e).1
        show cW P B K (a + 1) (nodT (ats ms (a + 1)) (if seesP T a (sw 16) = true then 6 else 7) (-1) (-1) (-1) (frmI T a))
        split
        · exact hx.nod (k := 6) hK (by decide) (fun z => absurd z (by decide)) (fun z => absurd z (by decide)) (fun z => absurd z (by decide))
        · exact hx.nod (k := 7) hK (by decide) (fun z => absurd z (by decide)) (fun z => absurd z (by decide)) (fun z => absurd z (by decide))
      refine pP.c (fun e => pP.c (fun e1 => pP.k fun e2 => pP.o ?_) (fun _ => pP.e)) (fun _ => ?_)
      · have hx : cJ P B (K - 1) (a + 2) (tS (tS ms 7 (nI (a + 1))) 7 (nI (a + 2))) := (h.at1 (seesP_lt e).1).at (a' := a + 2) (by omega) (nmP_lt e1).1
        rw [tS_tS] at hx
        simp only [Bool.true_and, nfT, Bool.or_eq_false_iff, beq_eq_false_iff_ne] at e2
        obtain ⟨s, g3, g9⟩ := find_fr (T := T) (t := a + 1) h.2.2.2.2.2 e2.1
        rw [g3] at e2
        show cW P B K (a + 2) (nodT (ats ms (a + 2)) 8 (topX ms (srtT ms (fnT T ms (a + 1))) (numX ms (fnT T ms (a + 1)))) (-1) (-1) (frmI T a))
        rw [g3]
        exact hx.nod (k := 8) hK (by decide) (fun _ _ => Or.inl (g9 (by omega))) (fun z => absurd z (by decide)) (fun z => absurd z (by decide))
      exact pP.b (ih 5 d h) fun a1 m1 h1 => pP.c (fun e => pP.b (ih 5 d (h1.1.at1 (whb_lt e).1)) fun a2 m2 h2 => pP.o (h2.1.nod (k := 9) hK (by decide) (fun _ _ => h1.ok) (fun _ => h2.ok) (fun z => absurd z (by decide)))) (fun _ => pP.e)
    | 5 => exact pP.b (ih 6 d h) fun a1 m1 h1 => pLp_fr (fun K x m hx => ih 6 d hx) (fun x e => (gSum_lt e).1) (fun K x x1 m m1 _ hK2 hl h2 => h2.1.nod (k := 34) hK2 (by decide) (fun _ _ => hl) (fun _ => h2.ok) (fun z => absurd z (by decide))) 401 a1 m1 h1
    | 6 => exact pP.b (ih 7 d h) fun a1 m1 h1 => pLp_fr (fun K x m hx => ih 7 d hx) (fun x e => (gPro_lt e).1) (fun K x x1 m m1 _ hK2 hl h2 => h2.1.nod (k := 34) hK2 (by decide) (fun _ _ => hl) (fun _ => h2.ok) (fun z => absurd z (by decide))) 401 a1 m1 h1
    | n + 7 =>
      refine pP.c (fun e => pP.o ((h.at1 (nuP_lt e).1).nod (k := 20) hK (by decide) (fun z => absurd z (by decide)) (fun z => absurd z (by decide)) (fun z => absurd z (by decide)))) (fun _ => ?_)
      refine pP.c (fun e => pP.k fun e2 => pP.o ?_) (fun _ => ?_)
      · have hx := h.at1 (nmP_lt e).1
        simp only [Bool.true_and, nvT, Bool.or_eq_false_iff, beq_eq_false_iff_ne] at e2
        obtain ⟨s, g3, g9⟩ := find_fr (T := T) (t := a) h.2.2.2.2.2 e2.1
        show cW P B K (a + 1) (valX T ms a (ats ms (a + 1)))
        unfold valX
        rw [g3]
        by_cases hs : s = 0
        · rw [if_pos hs]
          exact hx.nod (k := 21) hK (by decide) (fun _ z => absurd rfl z) (fun z => absurd z (by decide)) (fun z => absurd z (by decide))
        · rw [if_neg hs]
          have hs2 : s = 2 := by
            have e3 := e2.2
            rw [g3] at e3
            rcases fU_lt (fun k => ms.2.2 20 k == nameT T a) (nN (ms.1 19)) with e | ⟨j, h1, h2, -⟩
            · exact absurd e e2.1
            · obtain ⟨s', q, g4, g1, -, -, -⟩ := h.2.2.2.2.2.2 j h1
              have e' : fnT T ms a = nI j := h2
              have : s = s' := by
                rw [← g3, e', srtT, nN_nI (by have := h.2.2.2.2.2.1; omega), g1]; exact nN_nI (by omega)
              omega
          subst hs2
          exact hx.nod (k := 22) hK (by decide) (fun _ _ => Or.inl (g9 (by omega))) (fun z => absurd z (by decide)) (fun z => absurd z (by decide))
      refine pP.c (fun e => pP.o ((h.at1 (seesP_lt e).1).nod (k := 23) hK (by decide) (fun z => absurd z (by decide)) (fun z => absurd z (by decide)) (fun z => absurd z (by decide)))) (fun _ => ?_)
      refine pP.c (fun e => pP.o ((h.at1 (seesP_lt e).1).nod (k := 24) hK (by decide) (fun z => absurd z (by decide)) (fun z => absurd z (by decide)) (fun z => absurd z (by decide)))) (fun _ => ?_)
      refine pP.c (fun e => pP.c (fun _ => pP.b (ih 5 (d + 1) (h.at1 (seesP_lt e).1)) fun a1 m1 h1 => pP.t fun e2 => ⟨(h1.1.at (Nat.le_succ _) (seesP_lt e2).1).up hK, h1.2⟩) (fun _ => pP.e)) (fun _ => ?_)
      refine pP.c (fun e => pP.c (fun _ => pP.b (ih 7 (d + 1) (h.at1 (whb_lt e).1)) fun a1 m1 h1 => pP.o ?_) (fun _ => pP.e)) (fun _ => ?_)
      · obtain ⟨j, hj, ej⟩ := wh_n (T := T) (a := a) (k := 4) (by simpa using e) wl_len.2.2.2 (by decide)
        show cW P B K a1 (nodT m1 (25 + whP T a 4) (m1.1 17) (-1) (-1) (frmI T a))
        rw [li_add ej]
        exact h1.1.nod (k := 25 + j) hK (by omega) (fun _ _ => h1.ok) (fun z => by rw [(us_li j hj).1] at z; cases z) (fun z => by omega)
      refine pP.c (fun e => pP.b (hbr _ d _ K (h.at (Nat.le_succ _) (or_lt seesP_lt seesP_lt e).1)) fun a1 m1 h1 => pP.bt fun e2 => pP.o ?_) (fun _ => ?_)
      · have hx := h1.at (seesP_lt e2).1
        show cW P B K (a1 + 1) (nodT (ats m1 (a1 + 1)) (if seesP T a (sw 25) = true then 30 else 31) (m1.1 17) (-1) (-1) (frmI T a))
        split
        · exact hx.1.nod (k := 30) hK (by decide) (fun _ _ => hx.ok) (fun z => absurd z (by decide)) (fun z => absurd z (by decide))
        · exact hx.1.nod (k := 31) hK (by decide) (fun _ _ => hx.ok) (fun z => absurd z (by decide)) (fun z => absurd z (by decide))
      refine pP.c (fun e => pP.b (hbr _ d _ K (h.at (Nat.le_succ _) (seesP_lt e).1)) fun a1 m1 h1 => pP.bt fun e2 => pP.b (ih 7 (d + 1) (h1.1.at (Nat.le_succ _) (seesP_lt e2).1)) fun a3 m3 h3 => pP.o (h3.1.nod (k := 32) hK (by decide) (fun _ _ => h1.ok) (fun _ => h3.ok) (fun z => absurd z (by decide)))) (fun _ => ?_)
      exact pP.bt fun e => pP.b (hbr _ d _ K (h.at (Nat.le_succ _) (seesP_lt e).1)) fun a1 m1 h1 => pP.bt fun e2 => pP.bt fun e3 => pP.b (ih 7 (d + 1) ((h1.1.at (Nat.le_succ _) (seesP_lt e2).1).at (Nat.le_succ _) (seesP_lt e3).1)) fun a4 m4 h4 => pP.bt fun e5 => pP.b (ih 7 (d + 1) (h4.1.at (Nat.le_succ _) (seesP_lt e5).1)) fun a6 m6 h6 => pP.o (h6.1.nod (k := 33) hK (by decide) (fun _ _ => h1.ok) (fun _ => h4.ok) (fun _ => h6.ok))
end
