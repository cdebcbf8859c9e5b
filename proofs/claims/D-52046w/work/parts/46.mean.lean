/-! PURE: meanings. p: as q, with what the parts of the program become in the twin's tables (im: whether they are meant, so the second time). An error: its number and its place. -/
section
set_option maxRecDepth 100000
abbrev pR : Type := Nat × Nat × Nat × tM
abbrev pF : Type := Nat → Nat → Nat → tM → pR
def pO (a : Nat) (ms : tM) : pR := (0, 0, a, ms)
def pE (T : Tv) (e t a : Nat) (ms : tM) : pR := (e, T.2.1 t, a, ms)
def pb (r : pR) (k : Nat → tM → pR) : pR := if r.1 = 0 then k r.2.2.1 r.2.2.2 else r
def ef (im : Bool) (x y : tM) : tM := cond im x y
def pI (T : Tv) (b : Bool) (a : Nat) (ms : tM) : pR := cond b (pO (a + 1) (ats ms (a + 1))) (pE T 1 a a ms)
def pT (T : Tv) (w : List Nat) (a : Nat) (ms : tM) : pR := pI T (seesP T a w) a ms
def nodT (ms : tM) (so a b c fr : Int32) : tM := tS (tS (tI (tI (tI (tI (tI (tI (tI ms 9 (nN (ms.1 8)) so) 10 (nN (ms.1 8)) a) 11 (nN (ms.1 8)) b) 12 (nN (ms.1 8)) c) 13 (nN (ms.1 8)) 0) 14 (nN (ms.1 8)) (-1)) 15 (nN (ms.1 8)) fr) 17 (ms.1 8)) 8 (nI (nN (ms.1 8) + 1))
def lowT (ms : tM) (lo hi : Int32) : tM := tI (tI ms 13 (nN (ms.1 17)) lo) 14 (nN (ms.1 17)) hi
def plc (ms : tM) (l : Int32) : Int32 := ms.2.1 15 (nN l)
def frmI (T : Tv) (a : Nat) : Int32 := nI (T.2.1 a)
def fnT (T : Tv) (ms : tM) (t : Nat) : Int32 := fU (fun k => ms.2.2 20 k == nameT T t) (nN (ms.1 19))
def srtT (ms : tM) (j : Int32) : Nat := nN (ms.2.1 21 (nN j))
def numX (ms : tM) (j : Int32) : Int32 := ms.2.1 22 (nN j)
def topX (ms : tM) (s : Nat) (q : Int32) : Int32 := ms.2.1 25 (12 * s + nN q)
def nfT (T : Tv) (ms : tM) (t : Nat) : Bool := fnT T ms t == -1 || srtT ms (fnT T ms t) % 2 == 0
def nvT (T : Tv) (ms : tM) (t : Nat) : Bool := fnT T ms t == -1 || srtT ms (fnT T ms t) % 2 == 1
def pLp (r : Nat → tM → pR) (g : Nat → Bool) (e : Nat → tM → tM → tM) : Nat → Nat → tM → pR
  | 0, a, ms => (99, 0, a, ms)
  | c + 1, a, ms => cond (g a) (pb (r (a + 1) (ats ms (a + 1))) fun a1 m1 => pLp r g e c a1 (e a ms m1)) (pO a ms)
def bdT (ms : tM) (x y : Int32) : tM := tS (tS ms 37 x) 38 y
def pBd (T : Tv) (im : Bool) (a : Nat) (ms : tM) : pR := cond (seesP T a (sw 47))
  (cond (nuP T (a + 1)) (cond (im && decide (1000 < numT T (a + 1))) (pE T 5 (a + 1) (a + 1) ms)
    (pb (pT T (sw 34) (a + 2) (ats (ef im (tS (ats (bdT ms 0 (-1)) (a + 1)) 37 (numT T (a + 1))) ms) (a + 2))) fun a3 m3 => cond (nuP T a3) (cond (im && (decide (1000 < numT T a3) || decide (numT T a3 < numT T (a + 1)))) (pE T 5 a3 a3 m3)
      (pT T (sw 48) (a3 + 1) (ats (ef im (tS m3 38 (numT T a3)) m3) (a3 + 1)))) (pE T 1 a3 a3 m3))) (pE T 1 (a + 1) (a + 1) (ats ms (a + 1))))
  (pO a (ef im (bdT ms 0 (-1)) ms))
def eRow (im : Bool) (k : Int32) (_ : Nat) (ms m1 : tM) : tM := ef im (nodT m1 k (ms.1 17) (m1.1 17) (-1) (plc m1 (ms.1 17))) m1
def eBin (T : Tv) (im : Bool) (a : Nat) (ms m1 : tM) : tM := ef im (nodT m1 34 (ms.1 17) (m1.1 17) (whP T a 2) (plc m1 (ms.1 17))) m1
def pB0 (T : Tv) (im : Bool) (r : pF) (d a : Nat) (ms : tM) : pR := pb (r 1 d a ms) fun a1 m1 => cond (seesP T a1 (sw 14)) (pb (r 0 d (a1 + 1) (ats m1 (a1 + 1))) fun a2 m2 => pO a2 (ef im (nodT m2 13 (m1.1 17) (m2.1 17) (-1) (plc m2 (m1.1 17))) m2)) (pO a1 m1)
def pB1 (T : Tv) (im : Bool) (r : pF) (d a : Nat) (ms : tM) : pR := pb (r 2 d a ms) fun a1 m1 => pLp (r 2 d) (gOr T) (eRow im 12) 401 a1 m1
def pB2 (T : Tv) (im : Bool) (r : pF) (d a : Nat) (ms : tM) : pR := pb (r 3 d a ms) fun a1 m1 => pLp (r 3 d) (gAnd T) (eRow im 11) 401 a1 m1
def pB3 (T : Tv) (im : Bool) (r : pF) (d a : Nat) (ms : tM) : pR := pb (r 4 d a ms) fun a1 m1 => cond (seesP T a1 (sw 11)) (pb (pBd T im (a1 + 1) (ats m1 (a1 + 1))) fun a2 m2 => pb (r 4 d a2 m2) fun a3 m3 => pO a3 (ef im (lowT (nodT m3 10 (m1.1 17) (m3.1 17) (-1) (frmI T a)) (m2.1 37) (m2.1 38)) m3)) (pO a1 m1)
def pBo (T : Tv) (r : pF) (d a : Nat) (ms : tM) : pR := cond (decide (d < 10)) (r 0 (d + 1) (a + 1) (ats ms (a + 1))) (pE T 1 a a ms)
def pBr (T : Tv) (r : pF) (d a : Nat) (ms : tM) : pR := cond (seesP T a (sw 49)) (pBo T r d a ms) (pE T 1 a a ms)
def pBrC (T : Tv) (r : pF) (d a : Nat) (ms : tM) : pR := pb (pBr T r d a ms) fun a1 m1 => pT T (sw 50) a1 m1
/-- a front's operand: fr is the front's number -/
def pFr (T : Tv) (im : Bool) (r : pF) (fr : Int32) (d a : Nat) (ms : tM) : pR := pb (cond (decide (fr < 4)) (pO (a + 1) (ats ms (a + 1))) (pBd T im (a + 1) (ats ms (a + 1)))) fun a1 m1 => pb (r 4 (d + 1) a1 m1) fun a2 m2 => pO a2 (ef im (lowT (nodT m2 fr (m2.1 17) (-1) (-1) (frmI T a)) (if fr < 4 then 0 else m1.1 37) (if fr < 4 then -1 else m1.1 38)) m2)
def pCm (T : Tv) (im : Bool) (r : pF) (d a : Nat) (ms : tM) : pR := pb (r 5 d a ms) fun a1 m1 => cond (whP T a1 1 != -1) (pb (r 5 d (a1 + 1) (ats m1 (a1 + 1))) fun a2 m2 => pO a2 (ef im (nodT m2 9 (m1.1 17) (m2.1 17) (whP T a1 1) (frmI T a)) m2)) (pE T 1 a1 a1 m1)
def pB4 (T : Tv) (im : Bool) (r : pF) (d a : Nat) (ms : tM) : pR := cond (whP T a 3 != -1) (cond (decide (d < 10)) (pFr T im r (whP T a 3) d a ms) (pE T 1 a a ms))
  (cond (seesP T a (sw 49)) (pb (pBo T r d a ms) fun a1 m1 => pT T (sw 50) a1 m1)
  (cond (seesP T a (sw 16) || seesP T a (sw 17)) (pO (a + 1) (ef im (nodT (ats ms (a + 1)) (if seesP T a (sw 16) = true then 6 else 7) (-1) (-1) (-1) (frmI T a)) (ats ms (a + 1))))
  (cond (seesP T a (sw 15)) (cond (nmP T (a + 1)) (cond (im && nfT T ms (a + 1)) (pE T 2 (a + 1) (a + 1) (ats ms (a + 1))) (pO (a + 2) (ef im (nodT (ats ms (a + 2)) 8 (topX ms (srtT ms (fnT T ms (a + 1))) (numX ms (fnT T ms (a + 1)))) (-1) (-1) (frmI T a)) (ats ms (a + 2))))) (pE T 1 (a + 1) (a + 1) (ats ms (a + 1))))
  (pCm T im r d a ms))))
def pB5 (T : Tv) (im : Bool) (r : pF) (d a : Nat) (ms : tM) : pR := pb (r 6 d a ms) fun a1 m1 => pLp (r 6 d) (gSum T) (eBin T im) 401 a1 m1
def pB6 (T : Tv) (im : Bool) (r : pF) (d a : Nat) (ms : tM) : pR := pb (r 7 d a ms) fun a1 m1 => pLp (r 7 d) (gPro T) (eBin T im) 401 a1 m1
def valX (T : Tv) (ms : tM) (a : Nat) (m1 : tM) : tM := if srtT ms (fnT T ms a) = 0 then nodT m1 21 (numX ms (fnT T ms a)) (-1) (-1) (frmI T a) else nodT m1 22 (topX ms 2 (numX ms (fnT T ms a))) (-1) (-1) (frmI T a)
def pNv (T : Tv) (im : Bool) (a : Nat) (ms : tM) : pR := cond (im && nvT T ms a) (pE T 2 a (a + 1) (ats ms (a + 1))) (pO (a + 1) (ef im (valX T ms a (ats ms (a + 1))) (ats ms (a + 1))))
def pB7 (T : Tv) (im : Bool) (r : pF) (d a : Nat) (ms : tM) : pR := cond (nuP T a) (pO (a + 1) (ef im (nodT (ats ms (a + 1)) 20 (numT T a) (-1) (-1) (frmI T a)) (ats ms (a + 1))))
  (cond (nmP T a) (pNv T im a ms)
  (cond (seesP T a (sw 28)) (pO (a + 1) (ef im (nodT (ats ms (a + 1)) 23 (-1) (-1) (-1) (frmI T a)) (ats ms (a + 1))))
  (cond (seesP T a (sw 29)) (pO (a + 1) (ef im (nodT (ats ms (a + 1)) 24 (-1) (-1) (-1) (frmI T a)) (ats ms (a + 1))))
  (cond (seesP T a (sw 51)) (cond (decide (d < 10)) (pb (r 5 (d + 1) (a + 1) (ats ms (a + 1))) fun a1 m1 => pT T (sw 52) a1 m1) (pE T 1 a a ms))
  (cond (whP T a 4 != -1) (cond (decide (d < 10)) (pb (r 7 (d + 1) (a + 1) (ats ms (a + 1))) fun a1 m1 => pO a1 (ef im (nodT m1 (25 + whP T a 4) (m1.1 17) (-1) (-1) (frmI T a)) m1)) (pE T 1 a a ms))
  (cond (seesP T a (sw 25) || seesP T a (sw 27)) (pb (pBr T r d (a + 1) (ats ms (a + 1))) fun a1 m1 => pb (pT T (sw 50) a1 m1) fun a2 m2 => pO a2 (ef im (nodT m2 (if seesP T a (sw 25) = true then 30 else 31) (m1.1 17) (-1) (-1) (frmI T a)) m2))
  (cond (seesP T a (sw 26)) (pb (pBr T r d (a + 1) (ats ms (a + 1))) fun a1 m1 => pb (pT T (sw 50) a1 m1) fun a2 m2 => pb (r 7 (d + 1) a2 m2) fun a3 m3 => pO a3 (ef im (nodT m3 32 (m1.1 17) (m3.1 17) (-1) (frmI T a)) m3))
  (pb (pT T (sw 18) a ms) fun a0 m0 => pb (pBr T r d a0 m0) fun a1 m1 => pb (pT T (sw 50) a1 m1) fun a2 m2 => pb (pT T (sw 19) a2 m2) fun a3 m3 => pb (r 7 (d + 1) a3 m3) fun a4 m4 => pb (pT T (sw 20) a4 m4) fun a5 m5 => pb (r 7 (d + 1) a5 m5) fun a6 m6 => pO a6 (ef im (nodT m6 33 (m1.1 17) (m4.1 17) (m6.1 17) (frmI T a)) m6)))))))))
def pX (T : Tv) (im : Bool) : Nat → pF
  | 0 => fun _ _ a ms => (99, 0, a, ms)
  | f + 1 => fun nt => match nt with
    | 0 => pB0 T im (pX T im f)
    | 1 => pB1 T im (pX T im f)
    | 2 => pB2 T im (pX T im f)
    | 3 => pB3 T im (pX T im f)
    | 4 => pB4 T im (pX T im f)
    | 5 => pB5 T im (pX T im f)
    | 6 => pB6 T im (pX T im f)
    | _ => pB7 T im (pX T im f)
-- ---- items
abbrev mnN (ms : tM) (k : Nat) : Nat := nN (ms.2.1 23 k)
def newT (T : Tv) (s t : Nat) (m : tM) : tM := tI (tS (tI (tI (tL m 20 (nN (m.1 19)) (nameT T t)) 21 (nN (m.1 19)) (nI s)) 22 (nN (m.1 19)) (m.2.1 23 s)) 19 (nI (nN (m.1 19) + 1))) 23 s (m.2.1 23 s + 1)
def topT (s : Nat) (m : tM) : tM := tI m 25 (12 * s + mnN m s) (m.1 17)
/-- behind an item's name and its sign: what is kept of it, then the semicolon -/
def pEnd (T : Tv) (im : Bool) (s t : Nat) (a : Nat) (ms : tM) : pR := pT T (sw 45) a (ef im (newT T s t ms) ms)
def pName (T : Tv) (im : Bool) (s w a : Nat) (ms : tM) (k : Nat → tM → pR) : pR := cond (im && decide (mnN ms s = if s = 0 then 8 else 12)) (pE T 4 a a ms)
  (cond (nmP T (a + 1)) (cond (im && (fnT T ms (a + 1) != -1)) (pE T 3 (a + 1) (a + 1) (ats ms (a + 1))) (pb (pT T (sw w) (a + 2) (ats ms (a + 2))) k)) (pE T 1 (a + 1) (a + 1) (ats ms (a + 1))))
def sgT (T : Tv) (neg : Bool) (a : Nat) (m : tM) : tM := tL m 24 (mnN m 0) (if neg = true then (-numT T a).toInt64 else (numT T a).toInt64)
def pSg (T : Tv) (im neg : Bool) (t a : Nat) (ms : tM) : pR := cond (nuP T a) (pEnd T im 0 t (a + 1) (ats (ef im (sgT T neg a ms) ms) (a + 1))) (pE T 1 a a ms)
def pItem (T : Tv) (im : Bool) (r : pF) (a : Nat) (ms : tM) : pR := cond (seesP T a (sw 0)) (pName T im 0 42 a ms fun a3 m3 => cond (seesP T a3 (sw 38)) (pSg T im true (a + 1) (a3 + 1) (ats m3 (a3 + 1))) (pSg T im false (a + 1) a3 m3))
  (cond (seesP T a (sw 1)) (pName T im 1 30 a ms fun a3 m3 => pb (r 0 0 a3 m3) fun a4 m4 => pEnd T im 1 (a + 1) a4 (ef im (topT 1 m4) m4))
  (cond (seesP T a (sw 2)) (pName T im 2 42 a ms fun a3 m3 => pb (r 5 0 a3 m3) fun a4 m4 => pEnd T im 2 (a + 1) a4 (ef im (topT 2 m4) m4))
  (cond (seesP T a (sw 3)) (pName T im 3 46 a ms fun a3 m3 => pb (r 0 0 a3 m3) fun a4 m4 => cond (seesP T a4 (sw 4))
    (cond (nuP T (a4 + 1)) (cond (im && decide (9 < numT T (a4 + 1))) (pE T 5 (a4 + 1) (a4 + 1) (ats m4 (a4 + 1))) (pEnd T im 3 (a + 1) (a4 + 2) (ats (ef im (tI (tI (topT 3 m4) 26 (mnN m4 3) 5) 26 (mnN m4 3) (numT T (a4 + 1))) m4) (a4 + 2)))) (pE T 1 (a4 + 1) (a4 + 1) (ats m4 (a4 + 1))))
    (pEnd T im 3 (a + 1) a4 (ef im (tI (topT 3 m4) 26 (mnN m4 3) 5) m4)))
  (pE T 1 a a ms))))
def pPg (T : Tv) (im : Bool) (r : pF) : Nat → Nat → tM → pR
  | 0, a, ms => (99, 0, a, ms)
  | c + 1, a, ms => pb (pItem T im r a ms) fun a1 m1 => cond (T.1 a1 == 0) (cond (im && decide (mnN m1 3 = 0)) (pE T 6 a1 a1 m1) (pO a1 m1)) (pPg T im r c a1 m1)
theorem qb_id (r : qR) : qb r (fun a => (0, a)) = r := by
  unfold qb
  split
  · next h => exact Prod.ext h.symm rfl
  · rfl
-- ---- p and q
/-- where q is right p is right too, or has an error of meaning; where p is right q is right too -/
def pQ (p : pR) (q : qR) : Prop := (q.1 = 0 → p.1 ≠ 1 ∧ p.1 ≠ 99) ∧ (p.1 = 0 → q.1 = 0 ∧ q.2 = p.2.2.1)
theorem pQ.b {p : pR} {q : qR} {k : Nat → tM → pR} {k' : Nat → qR} (h : pQ p q) (hk : ∀ (a : Nat) (m : tM), pQ (k a m) (k' a)) : pQ (pb p k) (qb q k') := by
  unfold pb
  by_cases e2 : p.1 = 0
  · rw [if_pos e2]
    obtain ⟨g1, g2⟩ := h.2 e2
    have e3 : qb q k' = k' p.2.2.1 := by unfold qb; rw [if_pos g1, g2]
    rw [e3]
    exact hk _ _
  · rw [if_neg e2]
    refine ⟨fun hq => ?_, fun z => absurd z e2⟩
    unfold qb at hq
    by_cases e : q.1 = 0
    · exact h.1 e
    · rw [if_neg e] at hq
      exact absurd hq e
theorem pQ.c {x y : pR} {u v : qR} {b : Bool} (h1 : b = true → pQ x u) (h2 : b = false → pQ y v) : pQ (cond b x y) (cond b u v) := by
  cases b with
  | true => exact h1 rfl
  | false => exact h2 rfl
theorem pQ.o {a : Nat} {m : tM} : pQ (pO a m) (0, a) := ⟨fun _ => ⟨Nat.zero_ne_one, by show (0 : Nat) ≠ 99; decide⟩, fun _ => ⟨rfl, rfl⟩⟩
theorem pQ.e {T : Tv} {x t y : Nat} {m : tM} {a e : Nat} : pQ (pE T (x + 1) t y m) (e + 1, a) := ⟨fun h => absurd h (Nat.succ_ne_zero e), fun h => absurd h (Nat.succ_ne_zero x)⟩
theorem pQ.n {x y : Nat} {m : tM} {a e : Nat} : pQ (99, x, y, m) (e + 1, a) := ⟨fun h => absurd h (Nat.succ_ne_zero e), fun h => absurd (show (99 : Nat) = 0 from h) (by decide)⟩
theorem pQ.x {T : Tv} {e t a : Nat} {m : tM} {q : qR} (h : e ≠ 0 ∧ e ≠ 1 ∧ e ≠ 99) : pQ (pE T e t a m) q := ⟨fun _ => ⟨h.2.1, h.2.2⟩, fun z => absurd z h.1⟩
theorem pQ.i {T : Tv} {b : Bool} {a : Nat} {m : tM} : pQ (pI T b a m) (qI b a) := pQ.c (fun _ => pQ.o) (fun _ => pQ.e)
/-- a check of meaning ahead -/
theorem pQ.k {b : Bool} {T : Tv} {e t a : Nat} {m : tM} {y : pR} {q : qR} (h : e ≠ 0 ∧ e ≠ 1 ∧ e ≠ 99) (hy : pQ y q) : pQ (cond b (pE T e t a m) y) q := by
  cases b with
  | true => exact pQ.x h
  | false => exact hy
theorem pQ.lp {T : Tv} {r : Nat → tM → pR} {s : Nat → qR} {g : Nat → Bool} {e : Nat → tM → tM → tM} (h : ∀ (a : Nat) (m : tM), pQ (r a m) (s a)) : ∀ (c a : Nat) (m : tM), pQ (pLp r g e c a m) (qLp s g c a)
  | 0, _, _ => pQ.n (e := 98)
  | c + 1, a, m => pQ.c (fun _ => pQ.b (h _ _) (fun a1 m1 => pQ.lp (T := T) h c a1 _)) (fun _ => pQ.o)
theorem pQ.bd (T : Tv) (im : Bool) (a : Nat) (m : tM) : pQ (pBd T im a m) (qBd T a) := by
  refine pQ.c (fun _ => ?_) (fun _ => pQ.o)
  unfold qNu qI
  cases e : nuP T (a + 1) with
  | false => exact pQ.e
  | true =>
    refine pQ.k (by decide) ?_
    simp only [cond_true, qb_0]
    refine pQ.b pQ.i (fun a3 m3 => ?_)
    cases e2 : nuP T a3 with
    | false => exact pQ.e
    | true => exact pQ.k (by decide) pQ.i
theorem pQ_X (T : Tv) (im : Bool) : ∀ (f nt d a : Nat) (m : tM), pQ (pX T im f nt d a m) (qX T f nt d a)
  | 0, _, _, _, _ => pQ.n (e := 98)
  | f + 1, nt, d, a, m => by
    have ih := pQ_X T im f
    have hbo : ∀ dd x mm, pQ (pBo T (pX T im f) dd x mm) (qBo T (qX T f) dd x) := fun dd x mm => pQ.c (fun _ => ih _ _ _ _) (fun _ => pQ.e)
    have hbr : ∀ dd x mm, pQ (pBr T (pX T im f) dd x mm) (qBr T (qX T f) dd x) := fun dd x mm => pQ.c (fun _ => hbo _ _ _) (fun _ => pQ.e)
    match nt with
    | 0 => exact pQ.b (ih _ _ _ _) fun a1 m1 => pQ.c (fun _ => by
        have := pQ.b (k' := fun a => (0, a)) (ih 0 d (a1 + 1) (ats m1 (a1 + 1))) (fun a2 m2 => (pQ.o (a := a2) (m := ef im (nodT m2 13 (m1.1 17) (m2.1 17) (-1) (plc m2 (m1.1 17))) m2)))
        rwa [qb_id] at this) (fun _ => pQ.o)
    | 1 => exact pQ.b (ih _ _ _ _) fun a1 m1 => pQ.lp (T := T) (fun x mm => ih _ _ x mm) _ _ _
    | 2 => exact pQ.b (ih _ _ _ _) fun a1 m1 => pQ.lp (T := T) (fun x mm => ih _ _ x mm) _ _ _
    | 3 => exact pQ.b (ih _ _ _ _) fun a1 m1 => pQ.c (fun _ => pQ.b (pQ.bd T im _ _) fun a2 m2 => by
        have := pQ.b (k' := fun a => (0, a)) (ih 4 d a2 m2) (fun a3 m3 => (pQ.o (a := a3) (m := ef im (lowT (nodT m3 10 (m1.1 17) (m3.1 17) (-1) (frmI T a)) (m2.1 37) (m2.1 38)) m3)))
        rwa [qb_id] at this) (fun _ => pQ.o)
    | 4 =>
      refine pQ.c (fun _ => pQ.c (fun _ => ?_) (fun _ => pQ.e)) (fun _ => ?_)
      · refine pQ.b (pQ.c (fun _ => pQ.o) (fun _ => pQ.bd T im _ _)) fun a1 m1 => ?_
        have := pQ.b (k' := fun a => (0, a)) (ih 4 (d + 1) a1 m1) (fun a3 m3 => (pQ.o (a := a3) (m := ef im (lowT (nodT m3 (whP T a 3) (m3.1 17) (-1) (-1) (frmI T a)) (if whP T a 3 < 4 then 0 else m1.1 37) (if whP T a 3 < 4 then -1 else m1.1 38)) m3)))
        rwa [qb_id] at this
      refine pQ.c (fun _ => pQ.b (hbo _ _ _) (fun _ _ => pQ.i)) (fun _ => ?_)
      refine pQ.c (fun _ => pQ.o) (fun _ => ?_)
      refine pQ.c (fun _ => ?_) (fun _ => ?_)
      · unfold qNm qI
        cases e : nmP T (a + 1) with
        | false => exact pQ.e
        | true => exact pQ.k (by decide) pQ.o
      · refine pQ.b (ih _ _ _ _) fun a1 m1 => pQ.c (fun _ => ?_) (fun _ => pQ.e)
        have := pQ.b (k' := fun a => (0, a)) (ih 5 d (a1 + 1) (ats m1 (a1 + 1))) (fun a2 m2 => (pQ.o (a := a2) (m := ef im (nodT m2 9 (m1.1 17) (m2.1 17) (whP T a1 1) (frmI T a)) m2)))
        rwa [qb_id] at this
    | 5 => exact pQ.b (ih _ _ _ _) fun a1 m1 => pQ.lp (T := T) (fun x mm => ih _ _ x mm) _ _ _
    | 6 => exact pQ.b (ih _ _ _ _) fun a1 m1 => pQ.lp (T := T) (fun x mm => ih _ _ x mm) _ _ _
    | n + 7 =>
      show pQ (pB7 T im (pX T im f) d a m) (qB7 T (qX T f) d a)
      unfold pB7 qB7
      cases e1 : nuP T a with
      | true => exact pQ.o
      | false =>
        cases e2 : nmP T a with
        | true => exact pQ.k (by decide) pQ.o
        | false =>
          cases e3 : seesP T a (sw 28) with
          | true => exact pQ.o
          | false =>
            cases e4 : seesP T a (sw 29) with
            | true => exact pQ.o
            | false =>
              change pQ (cond (seesP T a (sw 51)) _ _) (cond (seesP T a (sw 51)) _ _)
              refine pQ.c (fun _ => pQ.c (fun _ => pQ.b (ih _ _ _ _) fun _ _ => pQ.i) (fun _ => pQ.e)) (fun _ => ?_)
              refine pQ.c (fun _ => pQ.c (fun _ => ?_) (fun _ => pQ.e)) (fun _ => ?_)
              · have := pQ.b (k' := fun a => (0, a)) (ih 7 (d + 1) (a + 1) (ats m (a + 1))) (fun a1 m1 => (pQ.o (a := a1) (m := ef im (nodT m1 (25 + whP T a 4) (m1.1 17) (-1) (-1) (frmI T a)) m1)))
                rwa [qb_id] at this
              refine pQ.c (fun _ => pQ.b (hbr _ _ _) fun a1 m1 => ?_) (fun _ => ?_)
              · have := pQ.b (k' := fun a => (0, a)) (pQ.i (T := T) (b := seesP T a1 (sw 50)) (a := a1) (m := m1)) (fun a2 m2 => (pQ.o (a := a2) (m := ef im (nodT m2 (if seesP T a (sw 25) = true then 30 else 31) (m1.1 17) (-1) (-1) (frmI T a)) m2)))
                rwa [qb_id] at this
              refine pQ.c (fun _ => pQ.b (hbr _ _ _) fun a1 m1 => pQ.b pQ.i fun a2 m2 => ?_) (fun _ => ?_)
              · have := pQ.b (k' := fun a => (0, a)) (ih 7 (d + 1) a2 m2) (fun a3 m3 => (pQ.o (a := a3) (m := ef im (nodT m3 32 (m1.1 17) (m3.1 17) (-1) (frmI T a)) m3)))
                rwa [qb_id] at this
              refine pQ.b pQ.i fun a0 m0 => pQ.b (hbr _ _ _) fun a1 m1 => pQ.b pQ.i fun a2 m2 => pQ.b pQ.i fun a3 m3 => pQ.b (ih _ _ _ _) fun a4 m4 => pQ.b pQ.i fun a5 m5 => ?_
              have := pQ.b (k' := fun a => (0, a)) (ih 7 (d + 1) a5 m5) (fun a6 m6 => (pQ.o (a := a6) (m := ef im (nodT m6 33 (m1.1 17) (m4.1 17) (m6.1 17) (frmI T a)) m6)))
              rwa [qb_id] at this
end
