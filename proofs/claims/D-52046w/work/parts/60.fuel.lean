/-! PURE: the fuel is enough; the tokens of a text. -/
section
set_option maxRecDepth 100000
theorem n9b {T : Tv} {N a : Nat} {r : qR} {k : Nat → qR} (h : r.1 ≠ 99) (hw : qW T N a r) (hk : ∀ a1 : Nat, a ≤ a1 → a1 ≤ N → a1 ≤ 400 → (k a1).1 ≠ 99) : (qb r k).1 ≠ 99 := by
  unfold qb
  split
  · exact hk _ hw.1 hw.2.1 hw.2.2
  · exact h
theorem n9c {x y : qR} {b : Bool} (h1 : b = true → x.1 ≠ 99) (h2 : b = false → y.1 ≠ 99) : (cond b x y).1 ≠ 99 := by
  cases b with
  | true => exact h1 rfl
  | false => exact h2 rfl
theorem n9i {b : Bool} {a : Nat} : (qI b a).1 ≠ 99 := n9c (fun _ => by show (0 : Nat) ≠ 99; decide) (fun _ => by show (1 : Nat) ≠ 99; decide)
theorem n90 {a : Nat} : ((0, a) : qR).1 ≠ 99 := by show (0 : Nat) ≠ 99; decide
theorem n91 {a : Nat} : ((1, a) : qR).1 ≠ 99 := by show (1 : Nat) ≠ 99; decide
theorem n9l {T : Tv} {N : Nat} {r : Nat → qR} {g : Nat → Bool} (he : T.1 N = 0) (a0 : Nat) (hr : ∀ a : Nat, a0 < a → a ≤ N → a ≤ 400 → (r a).1 ≠ 99 ∧ qW T N a (r a)) (hg : ∀ a : Nat, g a = true → a < 400 ∧ T.1 a ≠ 0) : ∀ c a : Nat, a0 ≤ a → a ≤ N → a ≤ 400 → 400 < c + a → (qLp r g c a).1 ≠ 99
  | 0, a, _, _, h4, h9 => absurd h9 (by omega)
  | c + 1, a, h0, h, h4, h9 => n9c (fun e => n9b (hr _ (by omega) (lt_end he h (hg a e).2) (hg a e).1).1 (hr _ (by omega) (lt_end he h (hg a e).2) (hg a e).1).2 fun a1 q1 q2 q3 => n9l he a0 hr hg c a1 (by omega) q2 q3 (by omega)) (fun _ => n90)
def rkN (nt : Nat) : Nat := if nt < 7 then 9 - nt else 2
theorem n9bd {T : Tv} {N a : Nat} (he : T.1 N = 0) (h : a ≤ N) (h4 : a ≤ 400) : (qBd T a).1 ≠ 99 :=
  n9c (fun e => n9b n9i (qNu_W he (lt_end he h (seesP_lt e).2) (seesP_lt e).1) fun a1 _ q1 q2 => n9b n9i (qT_W he q1 q2) fun a2 _ q3 q4 => n9b n9i (qNu_W he q3 q4) fun a3 _ _ _ => n9i) (fun _ => n90)
theorem qX_99 {T : Tv} {N : Nat} (he : T.1 N = 0) : ∀ f nt d a : Nat, a ≤ N → a ≤ 400 → d ≤ 10 → (400 - a) + 10 * (10 - d) + rkN nt < f → (qX T f nt d a).1 ≠ 99
  | 0, _, _, _, _, _, _, h9 => absurd h9 (Nat.not_lt_zero _)
  | f + 1, nt, d, a, h, h4, hd, h9 => by
    have ih := qX_99 he f
    have nx : ∀ {x : Nat}, (x < 400 ∧ T.1 x ≠ 0) → x ≤ N → x + 1 ≤ N ∧ x + 1 ≤ 400 := fun hx hn => ⟨lt_end he hn hx.2, hx.1⟩
    have w := fun nt d a => qX_W (T := T) (N := N) he f nt d a
    have hbr : ∀ x : Nat, a ≤ x → x ≤ N → x ≤ 400 → 5 ≤ nt → (qBr T (qX T f) d x).1 ≠ 99 := fun x hx h1 h2 hnt => n9c (fun e => n9c (fun e2 => ih 0 _ _ (nx (seesP_lt e) h1).1 (nx (seesP_lt e) h1).2 (by have := of_decide_eq_true e2; omega) (by have := of_decide_eq_true e2; have := (seesP_lt e).1; unfold rkN at *; split at h9 <;> simp <;> omega)) (fun _ => n91)) (fun _ => n91)
    match nt, h9, hbr with
    | 0, h9, _ =>
      have h9 : 400 - a + 10 * (10 - d) + 9 < f + 1 := h9
      exact n9b (ih 1 d a h h4 hd (by show _ + 8 < f; omega)) (w 1 d a h h4) fun a1 q0 q1 q2 => n9c (fun e => ih 0 d _ (nx (seesP_lt e) q1).1 (nx (seesP_lt e) q1).2 hd (by have := (seesP_lt e).1; show _ + 9 < f; omega)) (fun _ => n90)
    | 1, h9, _ =>
      have h9 : 400 - a + 10 * (10 - d) + 8 < f + 1 := h9
      exact n9b (ih 2 d a h h4 hd (by show _ + 7 < f; omega)) (w 2 d a h h4) fun a1 q0 q1 q2 => n9l he a (fun x x1 x2 x3 => ⟨ih 2 d x x2 x3 hd (by show _ + 7 < f; omega), w 2 d x x2 x3⟩) (fun x => seesP_lt) 401 a1 q0 q1 q2 (by omega)
    | 2, h9, _ =>
      have h9 : 400 - a + 10 * (10 - d) + 7 < f + 1 := h9
      exact n9b (ih 3 d a h h4 hd (by show _ + 6 < f; omega)) (w 3 d a h h4) fun a1 q0 q1 q2 => n9l he a (fun x x1 x2 x3 => ⟨ih 3 d x x2 x3 hd (by show _ + 6 < f; omega), w 3 d x x2 x3⟩) (fun x => seesP_lt) 401 a1 q0 q1 q2 (by omega)
    | 3, h9, _ =>
      have h9 : 400 - a + 10 * (10 - d) + 6 < f + 1 := h9
      exact n9b (ih 4 d a h h4 hd (by show _ + 5 < f; omega)) (w 4 d a h h4) fun a1 q0 q1 q2 => n9c (fun e => n9b (n9bd he (nx (seesP_lt e) q1).1 (nx (seesP_lt e) q1).2) (qBd_W he (nx (seesP_lt e) q1).1 (nx (seesP_lt e) q1).2) fun a2 r0 r1 r2 => ih 4 d a2 r1 r2 hd (by show _ + 5 < f; omega)) (fun _ => n90)
    | 4, h9, _ =>
      have h9 : 400 - a + 10 * (10 - d) + 5 < f + 1 := h9
      refine n9c (fun e => n9c (fun e2 => ?_) (fun _ => n91)) (fun _ => ?_)
      · have hd2 := of_decide_eq_true e2
        exact n9b (N := N) (T := T) (a := a + 1) (n9c (fun _ => n90) (fun _ => n9bd he (nx (whb_lt e) h).1 (nx (whb_lt e) h).2)) (qW.c (fun _ => qW.rf (nx (whb_lt e) h).1 (nx (whb_lt e) h).2) (fun _ => qBd_W he (nx (whb_lt e) h).1 (nx (whb_lt e) h).2)) fun a1 q0 q1 q2 => ih 4 (d + 1) a1 q1 q2 (by omega) (by show _ + 5 < f; omega)
      refine n9c (fun e => ?_) (fun _ => ?_)
      · refine n9b (N := N) (T := T) (a := a) (n9c (fun e2 => ih 0 (d + 1) (a + 1) (nx (seesP_lt e) h).1 (nx (seesP_lt e) h).2 (by have := of_decide_eq_true e2; omega) (by have := of_decide_eq_true e2; have := (seesP_lt e).1; show _ + 9 < f; omega)) (fun _ => n91)) (qW.c (fun _ => qW.up (w 0 _ _ (nx (seesP_lt e) h).1 (nx (seesP_lt e) h).2)) (fun _ => qW.rf h h4)) fun a1 _ _ _ => n9i
      refine n9c (fun _ => n90) (fun _ => n9c (fun _ => n9i) (fun _ => ?_))
      exact n9b (ih 5 d a h h4 hd (by show _ + 4 < f; omega)) (w 5 d a h h4) fun a1 q0 q1 q2 => n9c (fun e => ih 5 d _ (nx (whb_lt e) q1).1 (nx (whb_lt e) q1).2 hd (by have := (whb_lt e).1; show _ + 4 < f; omega)) (fun _ => n91)
    | 5, h9, _ =>
      have h9 : 400 - a + 10 * (10 - d) + 4 < f + 1 := h9
      exact n9b (ih 6 d a h h4 hd (by show _ + 3 < f; omega)) (w 6 d a h h4) fun a1 q0 q1 q2 => n9l he a (fun x x1 x2 x3 => ⟨ih 6 d x x2 x3 hd (by show _ + 3 < f; omega), w 6 d x x2 x3⟩) (fun x => gSum_lt) 401 a1 q0 q1 q2 (by omega)
    | 6, h9, _ =>
      have h9 : 400 - a + 10 * (10 - d) + 3 < f + 1 := h9
      exact n9b (ih 7 d a h h4 hd (by show _ + 2 < f; omega)) (w 7 d a h h4) fun a1 q0 q1 q2 => n9l he a (fun x x1 x2 x3 => ⟨ih 7 d x x2 x3 hd (by show _ + 2 < f; omega), w 7 d x x2 x3⟩) (fun x => gPro_lt) 401 a1 q0 q1 q2 (by omega)
    | n + 7, h9, hbr =>
      have h9 : 400 - a + 10 * (10 - d) + 2 < f + 1 := by
        unfold rkN at h9
        rw [if_neg (by omega)] at h9
        exact h9
      have hbr := fun x hx h1 h2 => hbr x hx h1 h2 (by omega)
      have wbr := fun x (h1 : x ≤ N) (h2 : x ≤ 400) => qBr_W he f d x h1 h2
      have i7 : ∀ x : Nat, a ≤ x → x ≤ N → x ≤ 400 → d < 10 → (qX T f 7 (d + 1) x).1 ≠ 99 := fun x hx h1 h2 hd2 => ih 7 (d + 1) x h1 h2 (by omega) (by show _ + 2 < f; omega)
      refine n9c (fun _ => n90) (fun _ => ?_)
      refine n9c (fun e => n9c (fun e2 => ?_) (fun _ => n91)) (fun _ => ?_)
      · have hd2 := of_decide_eq_true e2
        exact n9b (ih 5 (d + 1) (a + 1) (nx (seesP_lt e) h).1 (nx (seesP_lt e) h).2 (by omega) (by have := (seesP_lt e).1; show _ + 4 < f; omega)) (w 5 _ _ (nx (seesP_lt e) h).1 (nx (seesP_lt e) h).2) fun a1 _ _ _ => n9i
      refine n9c (fun e => n9c (fun e2 => i7 _ (by omega) (nx (whb_lt e) h).1 (nx (whb_lt e) h).2 (of_decide_eq_true e2)) (fun _ => n91)) (fun _ => ?_)
      refine n9c (fun e => n9b (hbr _ (by omega) (nx (or_lt seesP_lt seesP_lt e) h).1 (nx (or_lt seesP_lt seesP_lt e) h).2) (wbr _ (nx (or_lt seesP_lt seesP_lt e) h).1 (nx (or_lt seesP_lt seesP_lt e) h).2) fun a1 _ _ _ => n9i) (fun _ => ?_)
      have bd : ∀ (x : Nat) (k : Nat → qR), a ≤ x → x ≤ N → x ≤ 400 → (∀ a1 : Nat, d < 10 → x ≤ a1 → a1 ≤ N → a1 ≤ 400 → (k a1).1 ≠ 99) → (qb (qBr T (qX T f) d x) k).1 ≠ 99 := fun x k hx h1 h2 hk => by
        by_cases e : (qBr T (qX T f) d x).1 = 0
        · exact n9b (hbr x hx h1 h2) (wbr x h1 h2) fun a1 q0 q1 q2 => hk a1 (qBr_d e) q0 q1 q2
        · unfold qb; rw [if_neg e]; exact hbr x hx h1 h2
      refine n9c (fun e => bd _ _ (by omega) (nx (seesP_lt e) h).1 (nx (seesP_lt e) h).2 fun a1 hd2 q0 q1 q2 => n9b n9i (qT_W he q1 q2) fun a2 r0 r1 r2 => i7 a2 (by omega) r1 r2 hd2) (fun _ => ?_)
      exact n9b n9i (qT_W he h h4) fun a0 p0 p1 p2 => bd _ _ p0 p1 p2 fun a1 hd2 q0 q1 q2 => n9b n9i (qT_W he q1 q2) fun a2 r0 r1 r2 => n9b n9i (qT_W he r1 r2) fun a3 s0 s1 s2 => n9b (i7 a3 (by omega) s1 s2 hd2) (w 7 _ _ s1 s2) fun a4 t0 t1 t2 => n9b n9i (qT_W he t1 t2) fun a5 u0 u1 u2 => i7 a5 (by omega) u1 u2 hd2
theorem qItem_99 {T : Tv} {N f a : Nat} (he : T.1 N = 0) (hf : 509 < f) (h : a ≤ N) (h4 : a ≤ 400) : (qItem T (qX T f) a).1 ≠ 99 := by
  have nx : ∀ {x : Nat}, (x < 400 ∧ T.1 x ≠ 0) → x ≤ N → x + 1 ≤ N ∧ x + 1 ≤ 400 := fun hx hn => ⟨lt_end he hn hx.2, hx.1⟩
  have ix : ∀ nt x : Nat, nt < 7 → x ≤ N → x ≤ 400 → (qX T f nt 0 x).1 ≠ 99 := fun nt x hn h1 h2 => qX_99 he f nt 0 x h1 h2 (by omega) (by unfold rkN; rw [if_pos hn]; omega)
  refine n9c (fun e => n9b n9i (qNm_W he (nx (seesP_lt e) h).1 (nx (seesP_lt e) h).2) fun a1 _ h1 h2 => n9b n9i (qT_W he h1 h2) fun a2 _ h1 h2 => n9b (N := N) (T := T) (a := a2) (n9c (fun _ => n90) (fun _ => n90)) (qW.c (fun e => qW.up (qW.rf (nx (seesP_lt e) h1).1 (nx (seesP_lt e) h1).2)) (fun _ => qW.rf h1 h2)) fun a3 _ h1 h2 => n9b n9i (qNu_W he h1 h2) fun a4 _ h1 h2 => n9i) (fun _ => ?_)
  refine n9c (fun e => n9b n9i (qNm_W he (nx (seesP_lt e) h).1 (nx (seesP_lt e) h).2) fun a1 _ h1 h2 => n9b n9i (qT_W he h1 h2) fun a2 _ h1 h2 => n9b (ix 0 a2 (by decide) h1 h2) (qX_W he f 0 0 a2 h1 h2) fun a3 _ h1 h2 => n9i) (fun _ => ?_)
  refine n9c (fun e => n9b n9i (qNm_W he (nx (seesP_lt e) h).1 (nx (seesP_lt e) h).2) fun a1 _ h1 h2 => n9b n9i (qT_W he h1 h2) fun a2 _ h1 h2 => n9b (ix 5 a2 (by decide) h1 h2) (qX_W he f 5 0 a2 h1 h2) fun a3 _ h1 h2 => n9i) (fun _ => ?_)
  exact n9b n9i (qT_W he h h4) fun a0 _ h1 h2 => n9b n9i (qNm_W he h1 h2) fun a1 _ h1 h2 => n9b n9i (qT_W he h1 h2) fun a2 _ h1 h2 => n9b (ix 0 a2 (by decide) h1 h2) (qX_W he f 0 0 a2 h1 h2) fun a3 _ h1 h2 => n9b (N := N) (T := T) (a := a3) (n9c (fun _ => n9i) (fun _ => n90)) (qW.c (fun e => qW.up (qNu_W he (nx (seesP_lt e) h1).1 (nx (seesP_lt e) h1).2)) (fun _ => qW.rf h1 h2)) fun a4 _ h1 h2 => n9i
end
