/-! PURE: as many nodes as tokens at most. -/
section
set_option maxRecDepth 100000
theorem nN_le (x : Nat) : nN (nI x) ≤ x := by
  by_cases e : x < 2 ^ 31
  · rw [nN_nI e]; exact Nat.le_refl _
  · have h := Int32.toInt_lt (nI x)
    show (nI x).toInt.toNat ≤ x
    omega
def cI (K : Int) (a : Nat) (m : tM) : Prop := (nn m : Int) ≤ K + a
theorem cI.at {K : Int} {a a' : Nat} {m : tM} (h : cI K a m) (ha : a ≤ a') : cI K a' (ats m a') := by
  have : (nn m : Int) ≤ K + a := h
  show (nn m : Int) ≤ K + a'
  omega
theorem cI.at1 {K : Int} {a : Nat} {m : tM} (h : cI K a m) : cI (K - 1) (a + 1) (ats m (a + 1)) := by
  have : (nn m : Int) ≤ K + a := h
  show (nn m : Int) ≤ K - 1 + (a + 1 : Nat)
  omega
theorem cI.up {K : Int} {a : Nat} {m : tM} (h : cI (K - 1) a m) : cI K a m := by
  have : (nn m : Int) ≤ K - 1 + a := h
  show (nn m : Int) ≤ K + a
  omega
theorem cI.nod {K : Int} {a : Nat} {m : tM} {so x y z fr : Int32} (h : cI (K - 1) a m) : cI K a (nodT m so x y z fr) := by
  have h1 : (nn m : Int) ≤ K - 1 + a := h
  have h2 := nN_le (nN (m.1 8) + 1)
  show (nN (nI (nN (m.1 8) + 1)) : Int) ≤ K + a
  have h3 : nn m = nN (m.1 8) := rfl
  omega
theorem cI.S {K : Int} {a k : Nat} {m : tM} {v : Int32} (h : cI K a m) (hk : k = 37 ∨ k = 38 ∨ k = 7) : cI K a (tS m k v) := by
  rcases hk with rfl | rfl | rfl <;> exact h
theorem pBd_cnt {T : Tv} {K : Int} {a : Nat} {m : tM} (h : cI K a m) : pP (cI K) (pBd T true a m) := by
  refine pP.c (fun e => pP.c (fun e1 => pP.k fun _ => pP.bt fun e2 => pP.c (fun e3 => pP.k fun _ => pP.t fun e4 => ?_) (fun _ => pP.e)) (fun _ => pP.e)) (fun _ => pP.o h)
  have h1 : (nn m : Int) ≤ K + a := h
  show (nn m : Int) ≤ K + (a + 2 + 1 + 1 + 1 : Nat)
  omega
theorem pLp_cnt {K : Int} {r : Nat → tM → pR} {g : Nat → Bool} {e : Nat → tM → tM → tM} (hr : ∀ (K : Int) (a : Nat) (m : tM), cI K a m → pP (cI K) (r a m)) (he : ∀ (a a1 : Nat) (m m1 : tM), cI (K - 1) a1 m1 → cI K a1 (e a m m1)) : ∀ (c a : Nat) (m : tM), cI K a m → pP (cI K) (pLp r g e c a m)
  | 0, _, _, _ => fun z => absurd (show (99 : Nat) = 0 from z) (by decide)
  | c + 1, a, m, h => pP.c (fun _ => pP.b (hr _ _ _ h.at1) fun a1 m1 h1 => pLp_cnt hr he c a1 _ (he a a1 m m1 h1)) (fun _ => pP.o h)
theorem pX_cnt (T : Tv) : ∀ (f nt d a : Nat) (K : Int) (ms : tM), cI K a ms → pP (cI K) (pX T true f nt d a ms)
  | 0, _, _, _, _, _, _ => fun z => absurd (show (99 : Nat) = 0 from z) (by decide)
  | f + 1, nt, d, a, K, ms, h => by
    have ih : ∀ (nt d : Nat) {a : Nat} {K : Int} {m : tM}, cI K a m → pP (cI K) (pX T true f nt d a m) := fun nt d {a K m} hp => pX_cnt T f nt d a K m hp
    have hbo : ∀ (x dd : Nat) (m : tM) (K : Int), cI K x m → pP (cI (K - 1)) (pBo T (pX T true f) dd x m) := fun x dd m K hx => pP.c (fun _ => ih 0 _ hx.at1) (fun _ => pP.e)
    have hbr : ∀ (x dd : Nat) (m : tM) (K : Int), cI K x m → pP (cI (K - 1)) (pBr T (pX T true f) dd x m) := fun x dd m K hx => pP.c (fun e => hbo x dd m K hx) (fun _ => pP.e)
    match nt with
    | 0 => exact pP.b (ih 1 d h) fun a1 m1 h1 => pP.c (fun _ => pP.b (ih 0 d h1.at1) fun a2 m2 h2 => pP.o h2.nod) (fun _ => pP.o h1)
    | 1 => exact pP.b (ih 2 d h) fun a1 m1 h1 => pLp_cnt (fun K x m hx => ih 2 d hx) (fun x x1 m m1 h2 => h2.nod) 401 a1 m1 h1
    | 2 => exact pP.b (ih 3 d h) fun a1 m1 h1 => pLp_cnt (fun K x m hx => ih 3 d hx) (fun x x1 m m1 h2 => h2.nod) 401 a1 m1 h1
    | 3 => exact pP.b (ih 4 d h) fun a1 m1 h1 => pP.c (fun _ => pP.b (pBd_cnt h1.at1) fun a2 m2 h2 => pP.b (ih 4 d h2) fun a3 m3 h3 => pP.o (h3.nod : cI K a3 (nodT m3 10 (m1.1 17) (m3.1 17) (-1) (frmI T a)))) (fun _ => pP.o h1)
    | 4 =>
      refine pP.c (fun _ => pP.c (fun _ => ?_) (fun _ => pP.e)) (fun _ => ?_)
      · exact pP.b (pP.c (fun _ => pP.o h.at1) (fun _ => pBd_cnt h.at1)) fun a1 m1 h1 => pP.b (ih 4 (d + 1) h1) fun a2 m2 h2 => pP.o (h2.nod : cI K a2 (nodT m2 (whP T a 3) (m2.1 17) (-1) (-1) (frmI T a)))
      refine pP.c (fun _ => pP.b (hbo a d ms K h) fun a1 m1 h1 => pP.t fun _ => (h1.at (Nat.le_succ _)).up) (fun _ => ?_)
      refine pP.c (fun _ => pP.o h.at1.nod) (fun _ => ?_)
      refine pP.c (fun _ => pP.c (fun _ => pP.k fun _ => pP.o ?_) (fun _ => pP.e)) (fun _ => ?_)
      · refine cI.nod ?_
        have h1 : (nn ms : Int) ≤ K + a := h
        show (nn ms : Int) ≤ K - 1 + (a + 2 : Nat)
        omega
      exact pP.b (ih 5 d h) fun a1 m1 h1 => pP.c (fun _ => pP.b (ih 5 d h1.at1) fun a2 m2 h2 => pP.o h2.nod) (fun _ => pP.e)
    | 5 => exact pP.b (ih 6 d h) fun a1 m1 h1 => pLp_cnt (fun K x m hx => ih 6 d hx) (fun x x1 m m1 h2 => h2.nod) 401 a1 m1 h1
    | 6 => exact pP.b (ih 7 d h) fun a1 m1 h1 => pLp_cnt (fun K x m hx => ih 7 d hx) (fun x x1 m m1 h2 => h2.nod) 401 a1 m1 h1
    | n + 7 =>
      refine pP.c (fun _ => pP.o h.at1.nod) (fun _ => ?_)
      refine pP.c (fun _ => pP.k fun _ => pP.o ?_) (fun _ => ?_)
      · show cI K (a + 1) (valX T ms a (ats ms (a + 1)))
        unfold valX
        split
        · exact h.at1.nod
        · exact h.at1.nod
      refine pP.c (fun _ => pP.o h.at1.nod) (fun _ => ?_)
      refine pP.c (fun _ => pP.o h.at1.nod) (fun _ => ?_)
      refine pP.c (fun _ => pP.c (fun _ => pP.b (ih 5 (d + 1) h.at1) fun a1 m1 h1 => pP.t fun _ => (h1.at (Nat.le_succ _)).up) (fun _ => pP.e)) (fun _ => ?_)
      refine pP.c (fun _ => pP.c (fun _ => pP.b (ih 7 (d + 1) h.at1) fun a1 m1 h1 => pP.o h1.nod) (fun _ => pP.e)) (fun _ => ?_)
      refine pP.c (fun _ => pP.b (hbr _ d _ K (h.at (Nat.le_succ _))) fun a1 m1 h1 => pP.bt fun _ => pP.o (h1.at (Nat.le_succ _)).nod) (fun _ => ?_)
      refine pP.c (fun _ => pP.b (hbr _ d _ K (h.at (Nat.le_succ _))) fun a1 m1 h1 => pP.bt fun _ => pP.b (ih 7 (d + 1) (h1.at (Nat.le_succ _))) fun a3 m3 h3 => pP.o h3.nod) (fun _ => ?_)
      exact pP.bt fun _ => pP.b (hbr _ d _ K (h.at (Nat.le_succ _))) fun a1 m1 h1 => pP.bt fun _ => pP.bt fun _ => pP.b (ih 7 (d + 1) ((h1.at (Nat.le_succ _)).at (Nat.le_succ _))) fun a4 m4 h4 => pP.bt fun _ => pP.b (ih 7 (d + 1) (h4.at (Nat.le_succ _))) fun a6 m6 h6 => pP.o h6.nod
theorem pName_cnt {T : Tv} {K : Int} {s w a : Nat} {ms : tM} {k : Nat → tM → pR} (h : cI K a ms) (hk : ∀ (x : Nat) (m : tM), cI K x m → pP (cI K) (k x m)) : pP (cI K) (pName T true s w a ms k) :=
  pP.k fun _ => pP.c (fun _ => pP.k fun _ => pP.bt fun _ => hk _ _ ((h.at (a' := a + 2) (by omega)).at (Nat.le_succ _))) (fun _ => pP.e)
theorem pEnd_cnt {T : Tv} {K : Int} {s t a : Nat} {ms : tM} (h : cI K a ms) : pP (cI K) (pEnd T true s t a ms) := pP.t fun _ => cI.at (m := newT T s t ms) (show cI K a (newT T s t ms) from h) (Nat.le_succ _)
theorem pItem_cnt {T : Tv} {K : Int} {f a : Nat} {ms : tM} (h : cI K a ms) : pP (cI K) (pItem T true (pX T true f) a ms) := by
  have sg : ∀ (neg : Bool) (t x : Nat) (m : tM), cI K x m → pP (cI K) (pSg T true neg t x m) := fun neg t x m hx => pP.c (fun _ => pEnd_cnt (cI.at (m := sgT T neg x m) (show cI K x (sgT T neg x m) from hx) (Nat.le_succ _))) (fun _ => pP.e)
  refine pP.c (fun _ => pName_cnt h fun x m hx => pP.c (fun _ => sg _ _ _ _ (hx.at (Nat.le_succ _))) (fun _ => sg _ _ _ _ hx)) (fun _ => ?_)
  refine pP.c (fun _ => pName_cnt h fun x m hx => pP.b (pX_cnt T f 0 0 x K m hx) fun a4 m4 h4 => pEnd_cnt (ms := topT 1 m4) h4) (fun _ => ?_)
  refine pP.c (fun _ => pName_cnt h fun x m hx => pP.b (pX_cnt T f 5 0 x K m hx) fun a4 m4 h4 => pEnd_cnt (ms := topT 2 m4) h4) (fun _ => ?_)
  refine pP.c (fun _ => pName_cnt h fun x m hx => pP.b (pX_cnt T f 0 0 x K m hx) fun a4 m4 h4 => pP.c (fun _ => pP.c (fun _ => pP.k fun _ => pEnd_cnt ?_) (fun _ => pP.e)) (fun _ => pEnd_cnt (ms := tI (topT 3 m4) 26 (mnN m4 3) 5) h4)) (fun _ => pP.e)
  have h1 : (nn m4 : Int) ≤ K + a4 := h4
  show (nn m4 : Int) ≤ K + (a4 + 2 : Nat)
  omega
theorem pPg_cnt {T : Tv} {K : Int} {f : Nat} : ∀ (c a : Nat) (ms : tM), cI K a ms → pP (cI K) (pPg T true (pX T true f) c a ms)
  | 0, _, _, _ => fun z => absurd (show (99 : Nat) = 0 from z) (by decide)
  | c + 1, a, ms, h => pP.b (pItem_cnt h) fun a1 m1 h1 => pP.c (fun _ => pP.k fun _ => pP.o h1) (fun _ => pPg_cnt c a1 m1 h1)
end
