/-! PURE: forms. q: what the tokens' form says (0: right, 1: not; 99: no fuel), and at which token. Token 400 counts as bad unless it is the end. -/
section
set_option maxRecDepth 100000
def sw (i : Nat) : List Nat := strT.getD i []
abbrev qR : Type := Nat × Nat
def seesP (T : Tv) (a : Nat) (w : List Nat) : Bool := decide (a < 400) && seesB T a w
def nmP (T : Tv) (a : Nat) : Bool := decide (a < 400) && isNm T a
def nuP (T : Tv) (a : Nat) : Bool := decide (a < 400) && T.1 a == 2
def whP (T : Tv) (a k : Nat) : Int32 := if a < 400 then whT T a (wlW k) else -1
def qb (r : qR) (k : Nat → qR) : qR := if r.1 = 0 then k r.2 else r
def qI (b : Bool) (a : Nat) : qR := cond b (0, a + 1) (1, a)
def qT (T : Tv) (w : List Nat) (a : Nat) : qR := qI (seesP T a w) a
def qNm (T : Tv) (a : Nat) : qR := qI (nmP T a) a
def qNu (T : Tv) (a : Nat) : qR := qI (nuP T a) a
def qLp (r : Nat → qR) (g : Nat → Bool) : Nat → Nat → qR
  | 0, a => (99, a)
  | c + 1, a => cond (g a) (qb (r (a + 1)) (qLp r g c)) (0, a)
def qBd (T : Tv) (a : Nat) : qR := cond (seesP T a (sw 47)) (qb (qNu T (a + 1)) fun a1 => qb (qT T (sw 34) a1) fun a2 => qb (qNu T a2) fun a3 => qT T (sw 48) a3) (0, a)
abbrev qF : Type := Nat → Nat → Nat → qR
def qB0 (T : Tv) (r : qF) (d a : Nat) : qR := qb (r 1 d a) fun a1 => cond (seesP T a1 (sw 14)) (r 0 d (a1 + 1)) (0, a1)
def gOr (T : Tv) (a : Nat) : Bool := seesP T a (sw 13)
def gAnd (T : Tv) (a : Nat) : Bool := seesP T a (sw 12)
def gSum (T : Tv) (a : Nat) : Bool := seesP T a (sw 37) || seesP T a (sw 38)
def gPro (T : Tv) (a : Nat) : Bool := seesP T a (sw 39) || seesP T a (sw 40) || seesP T a (sw 41)
def qB1 (T : Tv) (r : qF) (d a : Nat) : qR := qb (r 2 d a) fun a1 => qLp (r 2 d) (gOr T) 401 a1
def qB2 (T : Tv) (r : qF) (d a : Nat) : qR := qb (r 3 d a) fun a1 => qLp (r 3 d) (gAnd T) 401 a1
def qB3 (T : Tv) (r : qF) (d a : Nat) : qR := qb (r 4 d a) fun a1 => cond (seesP T a1 (sw 11)) (qb (qBd T (a1 + 1)) fun a2 => r 4 d a2) (0, a1)
/-- behind a brace that is open -/
def qBo (T : Tv) (r : qF) (d a : Nat) : qR := cond (decide (d < 10)) (r 0 (d + 1) (a + 1)) (1, a)
def qBr (T : Tv) (r : qF) (d a : Nat) : qR := cond (seesP T a (sw 49)) (qBo T r d a) (1, a)
def qBrC (T : Tv) (r : qF) (d a : Nat) : qR := qb (qBr T r d a) fun a1 => qT T (sw 50) a1
def qB4 (T : Tv) (r : qF) (d a : Nat) : qR := cond (whP T a 3 != -1) (cond (decide (d < 10)) (qb (cond (decide (whP T a 3 < 4)) (0, a + 1) (qBd T (a + 1))) fun a1 => r 4 (d + 1) a1) (1, a))
  (cond (seesP T a (sw 49)) (qb (qBo T r d a) fun a1 => qT T (sw 50) a1) (cond (seesP T a (sw 16) || seesP T a (sw 17)) (0, a + 1) (cond (seesP T a (sw 15)) (qNm T (a + 1))
  (qb (r 5 d a) fun a1 => cond (whP T a1 1 != -1) (r 5 d (a1 + 1)) (1, a1)))))
def qB5 (T : Tv) (r : qF) (d a : Nat) : qR := qb (r 6 d a) fun a1 => qLp (r 6 d) (gSum T) 401 a1
def qB6 (T : Tv) (r : qF) (d a : Nat) : qR := qb (r 7 d a) fun a1 => qLp (r 7 d) (gPro T) 401 a1
def qB7 (T : Tv) (r : qF) (d a : Nat) : qR := cond (nuP T a || nmP T a || seesP T a (sw 28) || seesP T a (sw 29)) (0, a + 1)
  (cond (seesP T a (sw 51)) (cond (decide (d < 10)) (qb (r 5 (d + 1) (a + 1)) fun a1 => qT T (sw 52) a1) (1, a))
  (cond (whP T a 4 != -1) (cond (decide (d < 10)) (r 7 (d + 1) (a + 1)) (1, a))
  (cond (seesP T a (sw 25) || seesP T a (sw 27)) (qb (qBr T r d (a + 1)) fun a1 => qT T (sw 50) a1)
  (cond (seesP T a (sw 26)) (qb (qBr T r d (a + 1)) fun a1 => qb (qT T (sw 50) a1) fun a2 => r 7 (d + 1) a2)
  (qb (qT T (sw 18) a) fun a0 => qb (qBr T r d a0) fun a1 => qb (qT T (sw 50) a1) fun a2 => qb (qT T (sw 19) a2) fun a3 => qb (r 7 (d + 1) a3) fun a4 => qb (qT T (sw 20) a4) fun a5 => r 7 (d + 1) a5)))))
def qX (T : Tv) : Nat → qF
  | 0 => fun _ _ a => (99, a)
  | f + 1 => fun nt => match nt with
    | 0 => qB0 T (qX T f)
    | 1 => qB1 T (qX T f)
    | 2 => qB2 T (qX T f)
    | 3 => qB3 T (qX T f)
    | 4 => qB4 T (qX T f)
    | 5 => qB5 T (qX T f)
    | 6 => qB6 T (qX T f)
    | _ => qB7 T (qX T f)
def qItem (T : Tv) (r : qF) (a : Nat) : qR := cond (seesP T a (sw 0)) (qb (qNm T (a + 1)) fun a1 => qb (qT T (sw 42) a1) fun a2 => qb (cond (seesP T a2 (sw 38)) (0, a2 + 1) (0, a2)) fun a3 => qb (qNu T a3) fun a4 => qT T (sw 45) a4)
  (cond (seesP T a (sw 1)) (qb (qNm T (a + 1)) fun a1 => qb (qT T (sw 30) a1) fun a2 => qb (r 0 0 a2) fun a3 => qT T (sw 45) a3)
  (cond (seesP T a (sw 2)) (qb (qNm T (a + 1)) fun a1 => qb (qT T (sw 42) a1) fun a2 => qb (r 5 0 a2) fun a3 => qT T (sw 45) a3)
  (qb (qT T (sw 3) a) fun a0 => qb (qNm T a0) fun a1 => qb (qT T (sw 46) a1) fun a2 => qb (r 0 0 a2) fun a3 => qb (cond (seesP T a3 (sw 4)) (qNu T (a3 + 1)) (0, a3)) fun a4 => qT T (sw 45) a4)))
def qPg (T : Tv) (r : qF) : Nat → Nat → qR
  | 0, a => (99, a)
  | c + 1, a => qb (qItem T r a) fun a1 => cond (T.1 a1 == 0) (0, a1) (qPg T r c a1)
-- ---- at token 400 all stays
theorem seesP_4 (T : Tv) (w : List Nat) : seesP T 400 w = false := rfl
theorem nmP_4 (T : Tv) : nmP T 400 = false := rfl
theorem nuP_4 (T : Tv) : nuP T 400 = false := rfl
theorem whP_4 (T : Tv) (k : Nat) : whP T 400 k = -1 := rfl
theorem qI_f (a : Nat) : qI false a = (1, a) := rfl
theorem qT_4 (T : Tv) (w : List Nat) : qT T w 400 = (1, 400) := rfl
theorem qNm_4 (T : Tv) : qNm T 400 = (1, 400) := rfl
theorem qNu_4 (T : Tv) : qNu T 400 = (1, 400) := rfl
theorem qb_4 {r : qR} {k : Nat → qR} (h : r.2 = 400) (hk : (k 400).2 = 400) : (qb r k).2 = 400 := by
  unfold qb
  split
  · rw [h]; exact hk
  · exact h
theorem qLp_4 {r : Nat → qR} {g : Nat → Bool} (hg : g 400 = false) : ∀ c : Nat, (qLp r g c 400).2 = 400
  | 0 => rfl
  | c + 1 => by rw [qLp, hg]; rfl
theorem qBd_4 (T : Tv) : qBd T 400 = (0, 400) := rfl
theorem gOr_4 (T : Tv) : gOr T 400 = false := rfl
theorem gAnd_4 (T : Tv) : gAnd T 400 = false := rfl
theorem gSum_4 (T : Tv) : gSum T 400 = false := rfl
theorem gPro_4 (T : Tv) : gPro T 400 = false := rfl
theorem qBr_d {T : Tv} {r : qF} {d a : Nat} (h : (qBr T r d a).1 = 0) : d < 10 := by
  unfold qBr qBo at h
  cases e : seesP T a (sw 49) with
  | false => rw [e] at h; exact absurd (show (1 : Nat) = 0 from h) (by decide)
  | true =>
    rw [e] at h
    by_cases hd : d < 10
    · exact hd
    · rw [cond_true, decide_eq_false hd] at h
      exact absurd (show (1 : Nat) = 0 from h) (by decide)
theorem qb_0 (a : Nat) (k : Nat → qR) : qb (0, a) k = k a := rfl
theorem qb_1 (a : Nat) (k : Nat → qR) : qb (1, a) k = (1, a) := rfl
theorem qBr_4 (T : Tv) (r : qF) (d : Nat) : qBr T r d 400 = (1, 400) := rfl
theorem qX_4 (T : Tv) : ∀ f nt d : Nat, (qX T f nt d 400).2 = 400
  | 0, _, _ => rfl
  | f + 1, nt, d => by
    have ih := qX_4 T f
    match nt with
    | 0 => exact qb_4 (ih 1 d) rfl
    | 1 => exact qb_4 (ih 2 d) (qLp_4 (gOr_4 T) _)
    | 2 => exact qb_4 (ih 3 d) (qLp_4 (gAnd_4 T) _)
    | 3 => exact qb_4 (ih 4 d) rfl
    | 4 =>
      have e4 : qX T (f + 1) 4 d 400 = qb (qX T f 5 d 400) fun a1 => cond (whP T a1 1 != -1) (qX T f 5 d (a1 + 1)) (1, a1) := rfl
      rw [e4]
      exact qb_4 (ih 5 d) (by simp [whP_4])
    | 5 => exact qb_4 (ih 6 d) (qLp_4 (gSum_4 T) _)
    | 6 => exact qb_4 (ih 7 d) (qLp_4 (gPro_4 T) _)
    | _ + 7 => rfl
theorem qItem_4 (T : Tv) (r : qF) : (qItem T r 400).2 = 400 := rfl
theorem qPg_4 (T : Tv) (r : qF) : ∀ c : Nat, (qPg T r c 400).2 = 400
  | 0 => rfl
  | c + 1 => qb_4 (qItem_4 T r) (by
    show (cond (T.1 400 == 0) (0, 400) (qPg T r c 400)).2 = 400
    cases T.1 400 == 0 with
    | true => rfl
    | false => exact qPg_4 T r c)
theorem qPc_4 (T : Tv) (r : qF) (c : Nat) : (cond (T.1 400 == 0) (0, 400) (qPg T r c 400)).2 = 400 := by
  cases T.1 400 == 0 with
  | true => rfl
  | false => exact qPg_4 T r c
-- ---- it goes on within the tokens
def tkS (ms : tM) (T : Tv) (N : Nat) : Prop := (∀ t : Nat, t ≤ N → tkAt ms T t) ∧ T.1 N = 0 ∧ (∀ t : Nat, t < N → T.1 t ≠ 0) ∧ N ≤ 1800
theorem seesP_lt {T : Tv} {a : Nat} {w : List Nat} (h : seesP T a w = true) : a < 400 ∧ T.1 a ≠ 0 := by
  simp only [seesP, seesB, Bool.and_eq_true, decide_eq_true_eq, Bool.or_eq_true, beq_iff_eq] at h
  exact ⟨h.1, by omega⟩
theorem nmP_lt {T : Tv} {a : Nat} (h : nmP T a = true) : a < 400 ∧ T.1 a ≠ 0 := by
  simp only [nmP, isNm, Bool.and_eq_true, decide_eq_true_eq, beq_iff_eq] at h
  exact ⟨h.1, by omega⟩
theorem nuP_lt {T : Tv} {a : Nat} (h : nuP T a = true) : a < 400 ∧ T.1 a ≠ 0 := by
  simp only [nuP, Bool.and_eq_true, decide_eq_true_eq, beq_iff_eq] at h
  exact ⟨h.1, by omega⟩
theorem whT_lt {T : Tv} {t : Nat} {ws : List (List Nat)} (h : whT T t ws ≠ -1) : T.1 t ≠ 0 := by
  rcases fU_lt (fun j => seesB T t (ws.getD j [])) ws.length with e | ⟨j, -, -, e⟩
  · exact absurd e h
  · simp only [seesB, Bool.and_eq_true, Bool.or_eq_true, beq_iff_eq] at e
    omega
theorem whP_lt {T : Tv} {a k : Nat} (h : whP T a k ≠ -1) : a < 400 ∧ T.1 a ≠ 0 := by
  unfold whP at h
  by_cases ha : a < 400
  · rw [if_pos ha] at h; exact ⟨ha, whT_lt h⟩
  · rw [if_neg ha] at h; exact absurd rfl h
/-- within the tokens: between a and the end (or 400) -/
def qW (T : Tv) (N a : Nat) (r : qR) : Prop := a ≤ r.2 ∧ r.2 ≤ N ∧ r.2 ≤ 400
theorem qW.rf {T : Tv} {N a e : Nat} (h : a ≤ N) (h4 : a ≤ 400) : qW T N a (e, a) := ⟨Nat.le_refl _, h, h4⟩
theorem qW.b {T : Tv} {N a : Nat} {r : qR} {k : Nat → qR} (h : qW T N a r) (hk : ∀ a1 : Nat, a ≤ a1 → a1 ≤ N → a1 ≤ 400 → qW T N a1 (k a1)) : qW T N a (qb r k) := by
  unfold qb
  split
  · have := hk r.2 h.1 h.2.1 h.2.2
    exact ⟨Nat.le_trans h.1 this.1, this.2⟩
  · exact h
theorem qW.c {T : Tv} {N a : Nat} {b : Bool} {x y : qR} (h1 : b = true → qW T N a x) (h2 : b = false → qW T N a y) : qW T N a (cond b x y) := by
  cases b with
  | true => exact h1 rfl
  | false => exact h2 rfl
theorem qW.up {T : Tv} {N a : Nat} {r : qR} (h : qW T N (a + 1) r) : qW T N a r := ⟨by have := h.1; omega, h.2⟩
theorem lt_end {T : Tv} {N a : Nat} (he : T.1 N = 0) (h : a ≤ N) (hn : T.1 a ≠ 0) : a + 1 ≤ N := by
  by_cases e : a = N
  · subst e; exact absurd he hn
  · omega
theorem qI_W {T : Tv} {N a : Nat} {b : Bool} (he : T.1 N = 0) (h : a ≤ N) (h4 : a ≤ 400) (hb : b = true → a < 400 ∧ T.1 a ≠ 0) : qW T N a (qI b a) :=
  qW.c (fun e => ⟨Nat.le_succ _, lt_end he h (hb e).2, (hb e).1⟩) (fun _ => qW.rf h h4)
theorem qT_W {T : Tv} {N a : Nat} {w : List Nat} (he : T.1 N = 0) (h : a ≤ N) (h4 : a ≤ 400) : qW T N a (qT T w a) := qI_W he h h4 seesP_lt
theorem qNm_W {T : Tv} {N a : Nat} (he : T.1 N = 0) (h : a ≤ N) (h4 : a ≤ 400) : qW T N a (qNm T a) := qI_W he h h4 nmP_lt
theorem qNu_W {T : Tv} {N a : Nat} (he : T.1 N = 0) (h : a ≤ N) (h4 : a ≤ 400) : qW T N a (qNu T a) := qI_W he h h4 nuP_lt
theorem qBd_W {T : Tv} {N a : Nat} (he : T.1 N = 0) (h : a ≤ N) (h4 : a ≤ 400) : qW T N a (qBd T a) :=
  qW.c (fun e => qW.up (qW.b (qNu_W he (lt_end he h (seesP_lt e).2) (seesP_lt e).1) fun a1 _ h1 h2 => qW.b (qT_W he h1 h2) fun a2 _ h3 h4 => qW.b (qNu_W he h3 h4) fun a3 _ h5 h6 => qT_W he h5 h6)) (fun _ => qW.rf h h4)
theorem qLp_W {T : Tv} {N : Nat} {r : Nat → qR} {g : Nat → Bool} (hr : ∀ a : Nat, a ≤ N → a ≤ 400 → qW T N a (r a)) (hg : ∀ a : Nat, g a = true → a < 400 ∧ T.1 a ≠ 0) (he : T.1 N = 0) : ∀ c a : Nat, a ≤ N → a ≤ 400 → qW T N a (qLp r g c a)
  | 0, _, h, h4 => qW.rf h h4
  | c + 1, a, h, h4 => qW.c (fun e => qW.up (qW.b (hr _ (lt_end he h (hg a e).2) (hg a e).1) fun a1 _ h1 h2 => qLp_W hr hg he c a1 h1 h2)) (fun _ => qW.rf h h4)
theorem or_lt {T : Tv} {a : Nat} {x y : Bool} (hx : x = true → a < 400 ∧ T.1 a ≠ 0) (hy : y = true → a < 400 ∧ T.1 a ≠ 0) : (x || y) = true → a < 400 ∧ T.1 a ≠ 0 := fun h => by
  rcases (Bool.or_eq_true _ _).mp h with e | e
  · exact hx e
  · exact hy e
theorem gSum_lt {T : Tv} {a : Nat} : gSum T a = true → a < 400 ∧ T.1 a ≠ 0 := or_lt seesP_lt seesP_lt
theorem gPro_lt {T : Tv} {a : Nat} : gPro T a = true → a < 400 ∧ T.1 a ≠ 0 := or_lt (or_lt seesP_lt seesP_lt) seesP_lt
theorem whb_lt {T : Tv} {a k : Nat} (h : (whP T a k != -1) = true) : a < 400 ∧ T.1 a ≠ 0 := whP_lt (by simpa using h)
theorem qX_W {T : Tv} {N : Nat} (he : T.1 N = 0) : ∀ f nt d a : Nat, a ≤ N → a ≤ 400 → qW T N a (qX T f nt d a)
  | 0, _, _, _, h, h4 => qW.rf h h4
  | f + 1, nt, d, a, h, h4 => by
    have ih := qX_W he f
    have nx : ∀ {x : Nat}, (x < 400 ∧ T.1 x ≠ 0) → x ≤ N → x + 1 ≤ N ∧ x + 1 ≤ 400 := fun hx hn => ⟨lt_end he hn hx.2, hx.1⟩
    have hbo : ∀ x dd : Nat, (x < 400 ∧ T.1 x ≠ 0) → x ≤ N → x ≤ 400 → qW T N x (qBo T (qX T f) dd x) := fun x dd hx h1 h2 => qW.c (fun _ => qW.up (ih 0 _ _ (nx hx h1).1 (nx hx h1).2)) (fun _ => qW.rf h1 h2)
    have hbr : ∀ x dd : Nat, x ≤ N → x ≤ 400 → qW T N x (qBr T (qX T f) dd x) := fun x dd h1 h2 => qW.c (fun e => hbo x dd (seesP_lt e) h1 h2) (fun _ => qW.rf h1 h2)
    match nt with
    | 0 => exact qW.b (ih 1 d a h h4) fun a1 _ h1 h2 => qW.c (fun e => qW.up (ih 0 d _ (nx (seesP_lt e) h1).1 (nx (seesP_lt e) h1).2)) (fun _ => qW.rf h1 h2)
    | 1 => exact qW.b (ih 2 d a h h4) fun a1 _ h1 h2 => qLp_W (fun x hx hx4 => ih 2 d x hx hx4) (fun x => seesP_lt) he _ _ h1 h2
    | 2 => exact qW.b (ih 3 d a h h4) fun a1 _ h1 h2 => qLp_W (fun x hx hx4 => ih 3 d x hx hx4) (fun x => seesP_lt) he _ _ h1 h2
    | 3 => exact qW.b (ih 4 d a h h4) fun a1 _ h1 h2 => qW.c (fun e => qW.up (qW.b (qBd_W he (nx (seesP_lt e) h1).1 (nx (seesP_lt e) h1).2) fun a2 _ h3 h4 => ih 4 d a2 h3 h4)) (fun _ => qW.rf h1 h2)
    | 4 =>
      refine qW.c (fun e => qW.c (fun _ => qW.up (qW.b (qW.c (fun _ => qW.rf (nx (whb_lt e) h).1 (nx (whb_lt e) h).2) (fun _ => qBd_W he (nx (whb_lt e) h).1 (nx (whb_lt e) h).2)) fun a1 _ h1 h2 => ih 4 _ a1 h1 h2)) (fun _ => qW.rf h h4)) (fun _ => ?_)
      refine qW.c (fun e => qW.b (hbo a d (seesP_lt e) h h4) fun a1 _ h1 h2 => qT_W he h1 h2) (fun _ => ?_)
      refine qW.c (fun e => qW.up (qW.rf (nx (or_lt seesP_lt seesP_lt e) h).1 (nx (or_lt seesP_lt seesP_lt e) h).2)) (fun _ => ?_)
      refine qW.c (fun e => qW.up (qNm_W he (nx (seesP_lt e) h).1 (nx (seesP_lt e) h).2)) (fun _ => ?_)
      exact qW.b (ih 5 d a h h4) fun a1 _ h1 h2 => qW.c (fun e => qW.up (ih 5 d _ (nx (whb_lt e) h1).1 (nx (whb_lt e) h1).2)) (fun _ => qW.rf h1 h2)
    | 5 => exact qW.b (ih 6 d a h h4) fun a1 _ h1 h2 => qLp_W (fun x hx hx4 => ih 6 d x hx hx4) (fun x => gSum_lt) he _ _ h1 h2
    | 6 => exact qW.b (ih 7 d a h h4) fun a1 _ h1 h2 => qLp_W (fun x hx hx4 => ih 7 d x hx hx4) (fun x => gPro_lt) he _ _ h1 h2
    | _ + 7 =>
      refine qW.c (fun e => qW.up (qW.rf (nx (or_lt (or_lt (or_lt nuP_lt nmP_lt) seesP_lt) seesP_lt e) h).1 (nx (or_lt (or_lt (or_lt nuP_lt nmP_lt) seesP_lt) seesP_lt e) h).2)) (fun _ => ?_)
      refine qW.c (fun e => qW.c (fun _ => qW.up (qW.b (ih 5 _ _ (nx (seesP_lt e) h).1 (nx (seesP_lt e) h).2) fun a1 _ h1 h2 => qT_W he h1 h2)) (fun _ => qW.rf h h4)) (fun _ => ?_)
      refine qW.c (fun e => qW.c (fun _ => qW.up (ih 7 _ _ (nx (whb_lt e) h).1 (nx (whb_lt e) h).2)) (fun _ => qW.rf h h4)) (fun _ => ?_)
      refine qW.c (fun e => qW.up (qW.b (hbr _ d (nx (or_lt seesP_lt seesP_lt e) h).1 (nx (or_lt seesP_lt seesP_lt e) h).2) fun a1 _ h1 h2 => qT_W he h1 h2)) (fun _ => ?_)
      refine qW.c (fun e => qW.up (qW.b (hbr _ d (nx (seesP_lt e) h).1 (nx (seesP_lt e) h).2) fun a1 _ h1 h2 => qW.b (qT_W he h1 h2) fun a2 _ h3 h4 => ih 7 _ a2 h3 h4)) (fun _ => ?_)
      exact qW.b (qT_W he h h4) fun a0 _ h1 h2 => qW.b (hbr a0 d h1 h2) fun a1 _ h1 h2 => qW.b (qT_W he h1 h2) fun a2 _ h1 h2 => qW.b (qT_W he h1 h2) fun a3 _ h1 h2 => qW.b (ih 7 _ a3 h1 h2) fun a4 _ h1 h2 => qW.b (qT_W he h1 h2) fun a5 _ h1 h2 => ih 7 _ a5 h1 h2
theorem qBr_W {T : Tv} {N : Nat} (he : T.1 N = 0) (f d a : Nat) (h : a ≤ N) (h4 : a ≤ 400) : qW T N a (qBr T (qX T f) d a) :=
  qW.c (fun e => qW.c (fun _ => qW.up (qX_W he f 0 _ _ (lt_end he h (seesP_lt e).2) (seesP_lt e).1)) (fun _ => qW.rf h h4)) (fun _ => qW.rf h h4)
theorem qItem_W {T : Tv} {N : Nat} (he : T.1 N = 0) (f a : Nat) (h : a ≤ N) (h4 : a ≤ 400) : qW T N a (qItem T (qX T f) a) := by
  have ih := qX_W he f
  have nx : ∀ {x : Nat}, (x < 400 ∧ T.1 x ≠ 0) → x ≤ N → x + 1 ≤ N ∧ x + 1 ≤ 400 := fun hx hn => ⟨lt_end he hn hx.2, hx.1⟩
  refine qW.c (fun e => qW.up (qW.b (qNm_W he (nx (seesP_lt e) h).1 (nx (seesP_lt e) h).2) fun a1 _ h1 h2 => qW.b (qT_W he h1 h2) fun a2 _ h1 h2 => qW.b (qW.c (fun e => qW.up (qW.rf (nx (seesP_lt e) h1).1 (nx (seesP_lt e) h1).2)) (fun _ => qW.rf h1 h2)) fun a3 _ h1 h2 => qW.b (qNu_W he h1 h2) fun a4 _ h1 h2 => qT_W he h1 h2)) (fun _ => ?_)
  refine qW.c (fun e => qW.up (qW.b (qNm_W he (nx (seesP_lt e) h).1 (nx (seesP_lt e) h).2) fun a1 _ h1 h2 => qW.b (qT_W he h1 h2) fun a2 _ h1 h2 => qW.b (ih 0 0 a2 h1 h2) fun a3 _ h1 h2 => qT_W he h1 h2)) (fun _ => ?_)
  refine qW.c (fun e => qW.up (qW.b (qNm_W he (nx (seesP_lt e) h).1 (nx (seesP_lt e) h).2) fun a1 _ h1 h2 => qW.b (qT_W he h1 h2) fun a2 _ h1 h2 => qW.b (ih 5 0 a2 h1 h2) fun a3 _ h1 h2 => qT_W he h1 h2)) (fun _ => ?_)
  exact qW.b (qT_W he h h4) fun a0 _ h1 h2 => qW.b (qNm_W he h1 h2) fun a1 _ h1 h2 => qW.b (qT_W he h1 h2) fun a2 _ h1 h2 => qW.b (ih 0 0 a2 h1 h2) fun a3 _ h1 h2 => qW.b (qW.c (fun e => qW.up (qNu_W he (nx (seesP_lt e) h1).1 (nx (seesP_lt e) h1).2)) (fun _ => qW.rf h1 h2)) fun a4 _ h1 h2 => qT_W he h1 h2
-- ---- the twin's answer and the form: at token 400 the twin may say no where the form says yes
def fQ (T : Tv) (z : Bool) (a : Nat) (q : qR) : Prop := a = q.2 ∧ (z = true → q.1 = 0) ∧ (z = false → q.1 ≠ 0 ∨ (q.2 = 400 ∧ T.1 400 ≠ 0))
theorem fQ.ok {T : Tv} {a : Nat} : fQ T true a (0, a) := ⟨rfl, fun _ => rfl, fun z => absurd z (by decide)⟩
theorem fQ.no {T : Tv} {a e : Nat} : fQ T false a (e + 1, a) := ⟨rfl, fun z => absurd z (by decide), fun _ => Or.inl (Nat.succ_ne_zero e)⟩
theorem fQ.stay {T : Tv} {q : qR} (h : q.2 = 400) (hT : T.1 400 ≠ 0) : fQ T false 400 q := ⟨h.symm, fun z => absurd z (by decide), fun _ => Or.inr ⟨h, hT⟩⟩
theorem qb_as (r : qR) (k k2 : Nat → qR) : qb (qb r k) k2 = qb r (fun a => qb (k a) k2) := by
  unfold qb
  by_cases e : r.1 = 0
  · rw [if_pos e, if_pos e]
  · rw [if_neg e, if_neg e, if_neg e]
/-- what is left to show of W -/
def fH (T : Tv) (q W : qR) : Prop := (∀ (z : Bool) (a : Nat), fQ T z a q → fQ T z a W) ∧ (q.1 = 99 → W.1 = 99)
theorem fH.rf {T : Tv} {q : qR} : fH T q q := ⟨fun _ _ h => h, fun h => h⟩
theorem fH.eq {T : Tv} {q q' W : qR} (H : fH T q W) (e : q = q') : fH T q' W := e ▸ H
theorem qb_ok {T : Tv} {q : qR} {k : Nat → qR} {a1 : Nat} (hc : fQ T true a1 q) : qb q k = k a1 := by
  unfold qb
  rw [if_pos (hc.2.1 rfl), ← hc.1]
theorem fH.step {T : Tv} {q W : qR} {k : Nat → qR} {a1 : Nat} (H : fH T (qb q k) W) (hc : fQ T true a1 q) : fH T (k a1) W := H.eq (qb_ok hc)
theorem fH.fail {T : Tv} {q W : qR} {k : Nat → qR} {a1 : Nat} (H : fH T (qb q k) W) (hc : fQ T false a1 q) (hk : (k 400).2 = 400) : fQ T false a1 W := H.1 false a1 (by
  unfold qb
  by_cases e : q.1 = 0
  · rw [if_pos e]
    rcases hc.2.2 rfl with h | ⟨h, h2⟩
    · exact absurd e h
    · rw [hc.1, h]
      exact fQ.stay hk h2
  · rw [if_neg e]
    exact hc)
theorem fH.T {T : Tv} {x y W : qR} {b : Bool} (H : fH T (cond b x y) W) (hb : b = true) : fH T x W := H.eq (by rw [hb]; rfl)
theorem fH.F {T : Tv} {x y W : qR} {b : Bool} (H : fH T (cond b x y) W) (hb : b = false) : fH T y W := H.eq (by rw [hb]; rfl)
theorem fH.bT {T : Tv} {x y W : qR} {k : Nat → qR} {b : Bool} (H : fH T (qb (cond b x y) k) W) (hb : b = true) : fH T (qb x k) W := H.eq (by rw [hb]; rfl)
theorem fH.bF {T : Tv} {x y W : qR} {k : Nat → qR} {b : Bool} (H : fH T (qb (cond b x y) k) W) (hb : b = false) : fH T (qb y k) W := H.eq (by rw [hb]; rfl)
theorem fH.b0 {T : Tv} {W : qR} {k : Nat → qR} {a : Nat} (H : fH T (qb (0, a) k) W) : fH T (k a) W := H
theorem fH.b1 {T : Tv} {W : qR} {k : Nat → qR} {a : Nat} (H : fH T (qb (1, a) k) W) : fQ T false a W := H.1 false a fQ.no
theorem fH.tT {T : Tv} {W : qR} {k : Nat → qR} {a : Nat} {b : Bool} (H : fH T (qb (qI b a) k) W) (hb : b = true) : fH T (k (a + 1)) W := H.eq (by rw [hb]; rfl)
theorem fH.tF {T : Tv} {W : qR} {k : Nat → qR} {a : Nat} {b : Bool} (H : fH T (qb (qI b a) k) W) (hb : b = false) : fQ T false a W := H.1 false a (by rw [hb]; exact fQ.no)
theorem fH.lT {T : Tv} {W : qR} {a : Nat} {b : Bool} (H : fH T (qI b a) W) (hb : b = true) : fH T (0, a + 1) W := H.eq (by rw [hb]; rfl)
theorem fH.lF {T : Tv} {W : qR} {a : Nat} {b : Bool} (H : fH T (qI b a) W) (hb : b = false) : fQ T false a W := H.1 false a (by rw [hb]; exact fQ.no)
theorem fH.ok {T : Tv} {W : qR} {a : Nat} (H : fH T (0, a) W) : fQ T true a W := H.1 true a fQ.ok
theorem fH.no {T : Tv} {W : qR} {a e : Nat} (H : fH T (e + 1, a) W) : fQ T false a W := H.1 false a fQ.no
theorem fH.nb {T : Tv} {q W : qR} {k : Nat → qR} (H : fH T (qb q k) W) (hW : W.1 ≠ 99) : q.1 ≠ 99 := fun e => hW (H.2 (by unfold qb; rw [if_neg (by omega)]; exact e))
theorem fH.nt {T : Tv} {q W : qR} (H : fH T q W) (hW : W.1 ≠ 99) : q.1 ≠ 99 := fun e => hW (H.2 e)
theorem fH.stay {T : Tv} {q W : qR} (H : fH T q W) (h : q.2 = 400) (hT : T.1 400 ≠ 0) : fQ T false 400 W := H.1 false 400 (fQ.stay h hT)
theorem fH.as {T : Tv} {r W : qR} {k k2 : Nat → qR} (H : fH T (qb (qb r k) k2) W) : fH T (qb r fun a => qb (k a) k2) W := H.eq (qb_as r k k2)
theorem seesB_ne {T : Tv} {t : Nat} {w : List Nat} (h : seesB T t w = true) : T.1 t ≠ 0 := by
  simp only [seesB, Bool.and_eq_true, Bool.or_eq_true, beq_iff_eq] at h
  omega
theorem isNm_ne {T : Tv} {t : Nat} (h : isNm T t = true) : T.1 t ≠ 0 := by
  simp only [isNm, Bool.and_eq_true, beq_iff_eq] at h
  omega
theorem wh_at {T : Tv} {a k : Nat} (h : a < 400) : whP T a k = whT T a (wlW k) := if_pos h
theorem bl_or {x y : Bool} (h : x = true ∨ y = true) : (x || y) = true := (Bool.or_eq_true _ _).mpr h
abbrev ats (ms : tM) (a : Nat) : tM := tS ms 7 (nI a)
end
