/-! PURE: programs do not run out of fuel; the tokens of the twin's text; what compile makes. -/
section
set_option maxRecDepth 100000
theorem qItem_lt {T : Tv} {N f a : Nat} (he : T.1 N = 0) (h : a ≤ N) (h4 : a ≤ 400) (hz : (qItem T (qX T f) a).1 = 0) : a + 1 ≤ (qItem T (qX T f) a).2 := by
  have ih := qX_W he f
  have nx : ∀ {x : Nat}, (x < 400 ∧ T.1 x ≠ 0) → x ≤ N → x + 1 ≤ N ∧ x + 1 ≤ 400 := fun hx hn => ⟨lt_end he hn hx.2, hx.1⟩
  unfold qItem at hz ⊢
  cases e0 : seesP T a (sw 0) with
  | true =>
    have e := e0
    exact (qW.b (qNm_W he (nx (seesP_lt e) h).1 (nx (seesP_lt e) h).2) fun a1 _ h1 h2 => qW.b (qT_W he h1 h2) fun a2 _ h1 h2 => qW.b (qW.c (fun e => qW.up (qW.rf (nx (seesP_lt e) h1).1 (nx (seesP_lt e) h1).2)) (fun _ => qW.rf h1 h2)) fun a3 _ h1 h2 => qW.b (qNu_W he h1 h2) fun a4 _ h1 h2 => qT_W he h1 h2).1
  | false =>
    rw [e0] at hz
    cases e1 : seesP T a (sw 1) with
    | true =>
      have e := e1
      exact (qW.b (qNm_W he (nx (seesP_lt e) h).1 (nx (seesP_lt e) h).2) fun a1 _ h1 h2 => qW.b (qT_W he h1 h2) fun a2 _ h1 h2 => qW.b (ih 0 0 a2 h1 h2) fun a3 _ h1 h2 => qT_W he h1 h2).1
    | false =>
      rw [e1] at hz
      cases e2 : seesP T a (sw 2) with
      | true =>
        have e := e2
        exact (qW.b (qNm_W he (nx (seesP_lt e) h).1 (nx (seesP_lt e) h).2) fun a1 _ h1 h2 => qW.b (qT_W he h1 h2) fun a2 _ h1 h2 => qW.b (ih 5 0 a2 h1 h2) fun a3 _ h1 h2 => qT_W he h1 h2).1
      | false =>
        rw [e2] at hz
        unfold qT qI at hz ⊢
        cases e3 : seesP T a (sw 3) with
        | true =>
          have e := e3
          exact (qW.b (qNm_W he (nx (seesP_lt e) h).1 (nx (seesP_lt e) h).2) fun a1 _ h1 h2 => qW.b (qT_W he h1 h2) fun a2 _ h1 h2 => qW.b (ih 0 0 a2 h1 h2) fun a3 _ h1 h2 => qW.b (qW.c (fun e => qW.up (qNu_W he (nx (seesP_lt e) h1).1 (nx (seesP_lt e) h1).2)) (fun _ => qW.rf h1 h2)) fun a4 _ h1 h2 => qT_W he h1 h2).1
        | false =>
          rw [e3] at hz
          exact absurd (show (1 : Nat) = 0 from hz) (by decide)
theorem qPg_99 {T : Tv} {N f : Nat} (he : T.1 N = 0) (hf : 509 < f) : ∀ c a : Nat, a ≤ N → a ≤ 400 → 400 < c + a → (qPg T (qX T f) c a).1 ≠ 99
  | 0, a, _, h4, h9 => absurd h9 (by omega)
  | c + 1, a, h, h4, h9 => by
    have q1 := qItem_99 he hf h h4
    have q2 := qItem_W he f a h h4
    by_cases e : (qItem T (qX T f) a).1 = 0
    · have q3 := qItem_lt he h h4 e
      show (qb (qItem T (qX T f) a) _).1 ≠ 99
      unfold qb
      rw [if_pos e]
      exact n9c (fun _ => n90) (fun _ => qPg_99 he hf c _ q2.2.1 q2.2.2 (by omega))
    · show (qb (qItem T (qX T f) a) _).1 ≠ 99
      unfold qb
      rw [if_neg e]
      exact q1
/-- the tokens of a text -/
def txtT (ms : tM) (i : Nat) : List Nat := (List.range (posT (byT ms) (Ln ms) (i + 1) - frmT (byT ms) (Ln ms) i)).map (fun j => nN (ms.2.1 1 (frmT (byT ms) (Ln ms) i + j)))
def TkV (ms : tM) : Tv := (kinT (byT ms) (Ln ms), frmT (byT ms) (Ln ms), txtT ms)
theorem txt_len (ms : tM) (i : Nat) : (txtT ms i).length = posT (byT ms) (Ln ms) (i + 1) - frmT (byT ms) (Ln ms) i := by simp [txtT]
theorem txt_at (ms : tM) (i j : Nat) (hj : j < (txtT ms i).length) : (txtT ms i).getD j 0 = nN (ms.2.1 1 (frmT (byT ms) (Ln ms) i + j)) := by
  rw [txt_len] at hj
  simp [txtT, List.getD, hj]
theorem sc_at (ms : tM) : ∀ n i : Nat, i < n → (scT ms n).2.1 4 i = nI (kinT (byT ms) (Ln ms) i) ∧ (scT ms n).2.1 5 i = nI (frmT (byT ms) (Ln ms) i) ∧ (scT ms n).2.1 6 i = nI (posT (byT ms) (Ln ms) (i + 1))
  | 0, _, h => absurd h (Nat.not_lt_zero _)
  | n + 1, i, h => by
    by_cases e : i = n
    · subst e
      simp [scT, tI, upd]
    · have := sc_at ms n i (by omega)
      simp [scT, tI, upd, e, this]
theorem tkS_sc {ms : tM} {n : Nat} (hY : tpOK ms) (hL2 : Ln ms ≤ 1800) (h0 : kinT (byT ms) (Ln ms) n = 0) (hne : ∀ i : Nat, i < n → kinT (byT ms) (Ln ms) i ≠ 0) : tkS (scT ms (n + 1)) (TkV ms) n := by
  have hn : n ≤ Ln ms := Nat.le_trans (posT_ge n hne) (posT_in n)
  refine ⟨fun t ht => ?_, h0, hne, by omega⟩
  obtain ⟨s4, s5, s6⟩ := sc_at ms (n + 1) t (by omega)
  have hs := skT_in (Y := byT ms) (posT_in (ms := ms) t)
  have hq := tokQ_in (ms := ms) hs.2
  have hp := posT_in (ms := ms) (t + 1)
  have hge : frmT (byT ms) (Ln ms) t ≤ posT (byT ms) (Ln ms) (t + 1) := hq.1
  have hl : (TkV ms).2.1 t + ((TkV ms).2.2 t).length = posT (byT ms) (Ln ms) (t + 1) := by
    show frmT (byT ms) (Ln ms) t + (txtT ms t).length = _
    rw [txt_len]; omega
  refine ⟨by omega, hq.2.2.2.1, s4, s5, by rw [hl]; exact s6, by rw [hl]; omega, fun j hj => ?_⟩
  have hlt : frmT (byT ms) (Ln ms) t + j < Ln ms := by
    have : j < (txtT ms t).length := hj
    rw [txt_len] at this; omega
  obtain ⟨x, hx, hxe⟩ := hY _ hlt
  have e1 : ((TkV ms).2.2 t).getD j 0 = x := by
    show (txtT ms t).getD j 0 = x
    rw [txt_at ms t j hj, hxe]
    exact nN_nI (by omega)
  rw [e1, scT_k ms (by decide)]
  exact ⟨hxe, hx⟩
-- ---- compile
def fgM (m : tM) : Nat → tM
  | 0 => m
  | c + 1 => tI (fgM m c) 23 c 0
def fgT (m : tM) : tM := tS (tS (tS (tS (fgM (tS (tS m 18 0) 19 0) 4) 8 0) 27 0) 28 (-1)) 29 0
theorem fgM_1 (m : tM) : ∀ c, (fgM m c).1 = m.1
  | 0 => rfl
  | c + 1 => fgM_1 m c
end
