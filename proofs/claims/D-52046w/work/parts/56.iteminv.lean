/-! PURE: a right program keeps the tables right. -/
section
set_option maxRecDepth 100000
def pG (B a0 : Nat) (ms0 : tM) (a : Nat) (m : tM) : Prop := a0 ≤ a ∧ a ≤ 400 ∧ mS B a m ∧ pgI m ∧ gF ms0 m
theorem pG.at {B a0 a a' : Nat} {ms m : tM} (h : pG B a0 ms a m) (h1 : a ≤ a') (h2 : a' ≤ 400) : pG B a0 ms a' (ats m a') := ⟨Nat.le_trans h.1 h1, h2, h.2.2.1.at0 h1, h.2.2.2.1.kept (mF.S (Or.inl rfl)), h.2.2.2.2.S (by decide)⟩
theorem pG.M {f : Bool} {B a0 a a' : Nat} {ms m m' : tM} (h : pG B a0 ms a m) (g : pW f B a m a' m') : pG B a0 ms a' m' := ⟨Nat.le_trans h.1 g.1.1, g.1.2.1, g.1.2.2.1, h.2.2.2.1.kept g.1.2.2.2, h.2.2.2.2.tr (gF.of (mE.of g.1.2.2.2))⟩
theorem pEnd_inv {T : Tv} {B a0 a s t : Nat} {ms0 m : tM} (hs : s < 4) (h : pG B a0 ms0 a m) (hlt : mnN m s < if s = 0 then 8 else 12) (ht : 0 < s → mL (s != 2) m (m.2.1 25 (12 * s + mnN m s))) : pP (pG B a0 ms0) (pEnd T true s t a m) := by
  obtain ⟨n1, n2, n3⟩ := new_ok (T := T) (t := t) hs h.2.2.1 h.2.2.2.1 hlt (fun z => ⟨rfl, ht z⟩)
  have g : pG B a0 ms0 a (newT T s t m) := ⟨h.1, h.2.1, n1, n2, h.2.2.2.2.tr n3⟩
  exact pP.t fun e => g.at (Nat.le_succ _) (seesP_lt e).1
theorem pName_inv {T : Tv} {Φ : Nat → tM → Prop} {B a0 a s w : Nat} {ms0 m : tM} {k : Nat → tM → pR} (h : pG B a0 ms0 a m) (hlim : mnN m s ≤ if s = 0 then 8 else 12) (hk : ∀ (a3 : Nat) (m3 : tM), pG B a0 ms0 a3 m3 → (mnN m3 s < if s = 0 then 8 else 12) → pP Φ (k a3 m3)) : pP Φ (pName T true s w a m k) := by
  refine pP.k fun e1 => pP.c (fun e2 => pP.k fun _ => pP.bt fun e3 => ?_) (fun _ => pP.e)
  have e1' : ¬ mnN m s = if s = 0 then 8 else 12 := by simpa using e1
  have q2 := (nmP_lt e2).1
  have q3 := (seesP_lt e3).1
  have g : pG B a0 ms0 (a + 2 + 1) (ats (ats m (a + 2)) (a + 2 + 1)) := (h.at (a' := a + 2) (by omega) (by omega)).at (by omega) (by omega)
  exact hk _ _ g (by show mnN m s < _; omega)
theorem pItem_inv {T : Tv} {f B a0 a : Nat} {ms0 ms : tM} (hf : f ≤ B) (hB : B ≤ 802) (h : pG B a0 ms0 a ms) : pP (pG B a0 ms0) (pItem T true (pX T true f) a ms) := by
  have hp := h.2.2.2.1
  have hX : ∀ (nt a3 : Nat) (m3 : tM), pG B a0 ms0 a3 m3 → pP (fun a4 m4 => pG B a0 ms0 a4 m4 ∧ mL (decide (nt < 5)) m4 (m4.1 17) ∧ mF m3 m4) (pX T true f nt 0 a3 m3) := fun nt a3 m3 g => (pX_inv T f nt 0 a3 B m3 hf hB g.2.1 g.2.2.1).w fun a4 m4 z => ⟨g.M z, z.2, z.1.2.2.2⟩
  have hm : ∀ {m3 m4 : tM} {s : Nat}, mF m3 m4 → mnN m4 s = mnN m3 s := fun g => by unfold mnN; rw [g.2.2.1 23 (by decide)]
  refine pP.c (fun e => ?_) (fun _ => ?_)
  · refine pName_inv h (by rw [if_pos rfl]; exact hp.2.1) fun a3 m3 g hl => ?_
    have sg : ∀ (neg : Bool) (x : Nat) (m : tM), pG B a0 ms0 x m → mnN m 0 < 8 → pP (pG B a0 ms0) (pSg T true neg (a + 1) x m) := fun neg x m gx hl => pP.c (fun e9 => by
      have q := (nuP_lt e9).1
      have g1 : pG B a0 ms0 x (sgT T neg x m) := ⟨gx.1, gx.2.1, gx.2.2.1, gx.2.2.2.1, gx.2.2.2.2.L (by decide)⟩
      exact pEnd_inv (s := 0) (by decide) (g1.at (a' := x + 1) (by omega) (by omega)) hl (fun z => absurd z (by decide))) (fun _ => pP.e)
    refine pP.c (fun e4 => ?_) (fun _ => sg false a3 m3 g hl)
    exact sg true (a3 + 1) _ (g.at (Nat.le_succ _) (seesP_lt e4).1) hl
  refine pP.c (fun e => ?_) (fun _ => ?_)
  · refine pName_inv h (hp.2.2.1 1 (by decide) (by decide)) fun a3 m3 g hl => ?_
    refine pP.b (hX 0 a3 m3 g) fun a4 m4 g4 => ?_
    obtain ⟨t1, t2, t3, t4⟩ := top_ok (s := 1) (by decide) (by decide) g4.1.2.2.1 g4.1.2.2.2.1 (by rw [hm g4.2.2]; exact hl) g4.2.1
    exact pEnd_inv (s := 1) (by decide) ⟨g4.1.1, g4.1.2.1, t1, t2, g4.1.2.2.2.2.tr t3⟩ (by show mnN m4 1 < _; rw [hm g4.2.2]; exact hl) (fun _ => t4)
  refine pP.c (fun e => ?_) (fun _ => ?_)
  · refine pName_inv h (hp.2.2.1 2 (by decide) (by decide)) fun a3 m3 g hl => ?_
    refine pP.b (hX 5 a3 m3 g) fun a4 m4 g4 => ?_
    obtain ⟨t1, t2, t3, t4⟩ := top_ok (s := 2) (by decide) (by decide) g4.1.2.2.1 g4.1.2.2.2.1 (by rw [hm g4.2.2]; exact hl) g4.2.1
    exact pEnd_inv (s := 2) (by decide) ⟨g4.1.1, g4.1.2.1, t1, t2, g4.1.2.2.2.2.tr t3⟩ (by show mnN m4 2 < _; rw [hm g4.2.2]; exact hl) (fun _ => t4)
  refine pP.c (fun e => ?_) (fun _ => pP.e)
  refine pName_inv h (hp.2.2.1 3 (by decide) (by decide)) fun a3 m3 g hl => ?_
  refine pP.b (hX 0 a3 m3 g) fun a4 m4 g4 => ?_
  obtain ⟨t1, t2, t3, t4⟩ := top_ok (s := 3) (by decide) (by decide) g4.1.2.2.1 g4.1.2.2.2.1 (by rw [hm g4.2.2]; exact hl) g4.2.1
  have g5 : pG B a0 ms0 a4 (tI (topT 3 m4) 26 (mnN m4 3) 5) := ⟨g4.1.1, g4.1.2.1, t1.I (by decide), t2.I26, (g4.1.2.2.2.2.tr t3).I (by decide)⟩
  have l4 : mnN m4 3 < 12 := by rw [hm g4.2.2]; exact hl
  refine pP.c (fun e5 => pP.c (fun e6 => pP.k fun _ => ?_) (fun _ => pP.e)) (fun _ => pEnd_inv (s := 3) (by decide) g5 l4 (fun _ => t4.I (by decide)))
  have q6 := (nuP_lt e6).1
  have g6 : pG B a0 ms0 a4 (tI (tI (topT 3 m4) 26 (mnN m4 3) 5) 26 (mnN m4 3) (numT T (a4 + 1))) := ⟨g4.1.1, g4.1.2.1, (t1.I (by decide)).I (by decide), t2.I26.I26, g5.2.2.2.2.I (by decide)⟩
  exact pEnd_inv (s := 3) (by decide) (g6.at (a' := a4 + 2) (by omega) (by omega)) l4 (fun _ => ((t4.I (by decide)).I (by decide)).kept (mF.S (Or.inl rfl)))
theorem pPg_inv {T : Tv} {f B a0 : Nat} {ms0 : tM} (hf : f ≤ B) (hB : B ≤ 802) : ∀ (c a : Nat) (ms : tM), pG B a0 ms0 a ms → pP (fun a' m' => pG B a0 ms0 a' m' ∧ 0 < mnN m' 3) (pPg T true (pX T true f) c a ms)
  | 0, _, _, _ => fun z => absurd (show (99 : Nat) = 0 from z) (by decide)
  | c + 1, a, ms, h => pP.b (pItem_inv hf hB h) fun a1 m1 h1 => pP.c (fun _ => pP.k fun e => pP.o ⟨h1, by
      have : ¬ mnN m1 3 = 0 := by simpa using e
      omega⟩) (fun _ => pPg_inv hf hB c a1 m1 h1)
-- ---- forms and meanings of programs
theorem pQ.end {T : Tv} {im : Bool} {s t a : Nat} {m : tM} : pQ (pEnd T im s t a m) (qT T (sw 45) a) := pQ.i
theorem pQ.name {T : Tv} {im : Bool} {s w a : Nat} {m : tM} {k : Nat → tM → pR} {k' : Nat → qR} (hk : ∀ (a3 : Nat) (m3 : tM), pQ (k a3 m3) (k' a3)) : pQ (pName T im s w a m k) (qb (qNm T (a + 1)) fun a1 => qb (qT T (sw w) a1) k') := by
  refine pQ.k (by decide) ?_
  unfold qNm qI
  cases e : nmP T (a + 1) with
  | false => exact pQ.e
  | true =>
    simp only [cond_true, qb_0]
    exact pQ.k (by decide) (pQ.b pQ.i fun a3 m3 => hk a3 m3)
theorem pQ_item (T : Tv) (im : Bool) (f a : Nat) (m : tM) : pQ (pItem T im (pX T im f) a m) (qItem T (qX T f) a) := by
  refine pQ.c (fun _ => pQ.name fun a3 m3 => ?_) (fun _ => ?_)
  · have sg : ∀ (neg : Bool) (x : Nat) (mm : tM), pQ (pSg T im neg (a + 1) x mm) (qb (qNu T x) fun a4 => qT T (sw 45) a4) := fun neg x mm => by
      unfold pSg qNu qI
      cases e : nuP T x with
      | false => exact pQ.e
      | true => exact pQ.end
    cases e : seesP T a3 (sw 38) with
    | true => exact sg true _ _
    | false => exact sg false _ _
  refine pQ.c (fun _ => pQ.name fun a3 m3 => pQ.b (pQ_X T im f _ _ _ _) fun _ _ => pQ.end) (fun _ => ?_)
  refine pQ.c (fun _ => pQ.name fun a3 m3 => pQ.b (pQ_X T im f _ _ _ _) fun _ _ => pQ.end) (fun _ => ?_)
  unfold qT qI
  cases e : seesP T a (sw 3) with
  | false => exact pQ.e
  | true =>
    refine pQ.name fun a3 m3 => pQ.b (pQ_X T im f _ _ _ _) fun a4 m4 => ?_
    cases e4 : seesP T a4 (sw 4) with
    | false => exact pQ.end
    | true =>
      unfold qNu qI
      cases e5 : nuP T (a4 + 1) with
      | false => exact pQ.e
      | true => exact pQ.k (by decide) pQ.end
theorem pQ_Pg (T : Tv) (im : Bool) (f : Nat) : ∀ (c a : Nat) (m : tM), pQ (pPg T im (pX T im f) c a m) (qPg T (qX T f) c a)
  | 0, _, _ => pQ.n (e := 98)
  | c + 1, a, m => pQ.b (pQ_item T im f a m) fun a1 m1 => pQ.c (fun _ => pQ.k (by decide) pQ.o) (fun _ => pQ_Pg T im f c a1 m1)
end
