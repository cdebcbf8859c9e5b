/-! PURE: what compile makes. -/
section
set_option maxRecDepth 100000
theorem qPg_W {T : Tv} {N : Nat} (he : T.1 N = 0) (f : Nat) : ∀ c a : Nat, a ≤ N → a ≤ 400 → qW T N a (qPg T (qX T f) c a)
  | 0, _, h, h4 => qW.rf h h4
  | c + 1, a, h, h4 => qW.b (qItem_W he f a h h4) fun a1 _ h1 h2 => qW.c (fun _ => qW.rf h1 h2) (fun _ => qPg_W he f c a1 h1 h2)
theorem qb_z {q : qR} {k : Nat → qR} (h : (qb q k).1 = 0) : q.1 = 0 ∧ qb q k = k q.2 := by
  unfold qb at h ⊢
  by_cases e : q.1 = 0
  · rw [if_pos e]; exact ⟨e, rfl⟩
  · rw [if_neg e] at h; exact absurd h e
theorem qPg_end {T : Tv} {f : Nat} : ∀ c a : Nat, (qPg T (qX T f) c a).1 = 0 → T.1 (qPg T (qX T f) c a).2 = 0
  | 0, _, h => absurd (show (99 : Nat) = 0 from h) (by decide)
  | c + 1, a, h => by
    have h1 : (qPg T (qX T f) (c + 1) a).1 = 0 := h
    have h2 : qPg T (qX T f) (c + 1) a = (fun a1 => cond (T.1 a1 == 0) (0, a1) (qPg T (qX T f) c a1)) (qItem T (qX T f) a).2 := (qb_z (q := qItem T (qX T f) a) h).2
    generalize (qItem T (qX T f) a).2 = x at h2
    by_cases e : T.1 x = 0
    · have e2 : qPg T (qX T f) (c + 1) a = (0, x) := by rw [h2]; show cond (T.1 x == 0) _ _ = _; rw [e]; rfl
      rw [e2]; exact e
    · have e2 : qPg T (qX T f) (c + 1) a = qPg T (qX T f) c x := by rw [h2]; show cond (T.1 x == 0) _ _ = _; rw [beq_false_of_ne e]; rfl
      rw [e2] at h1 ⊢; exact qPg_end c x h1
theorem fgM_k (m : tM) {k : Nat} (hk : k ≠ 23) : ∀ c, (fgM m c).2.1 k = m.2.1 k
  | 0 => rfl
  | c + 1 => by simp [fgM, tI, upd, hk, fgM_k m hk c]
theorem fgM_2 (m : tM) : ∀ c, (fgM m c).2.2 = m.2.2
  | 0 => rfl
  | c + 1 => fgM_2 m c
theorem fgM_z (m : tM) : ∀ c j : Nat, j < c → (fgM m c).2.1 23 j = 0
  | 0, _, h => absurd h (Nat.not_lt_zero _)
  | c + 1, j, h => by
    by_cases e : j = c
    · subst e; simp [fgM, tI, upd]
    · have := fgM_z m c j (by omega)
      simp [fgM, tI, upd, e, this]
theorem fgT_k (m : tM) {k : Nat} (hk : k ≠ 23) : (fgT m).2.1 k = m.2.1 k := fgM_k (tS (tS m 18 0) 19 0) hk 4
theorem fgT_z (m : tM) {j : Nat} (hj : j < 4) : (fgT m).2.1 23 j = 0 := fgM_z (tS (tS m 18 0) 19 0) 4 j hj
theorem fgT_1 (m : tM) {k : Nat} (h1 : k ≠ 18) (h2 : k ≠ 19) (h3 : k ≠ 8) (h4 : k ≠ 27) (h5 : k ≠ 28) (h6 : k ≠ 29) : (fgT m).1 k = m.1 k := by
  have := congrFun (fgM_1 (tS (tS m 18 0) 19 0) 4) k
  simp [fgT, tS, upd, h1, h2, h3, h4, h5, h6] at this ⊢
  simp [this, h1, h2]
theorem fgT_8 (m : tM) : (fgT m).1 8 = 0 := rfl
theorem fgT_19 (m : tM) : (fgT m).1 19 = 0 := by
  have := congrFun (fgM_1 (tS (tS m 18 0) 19 0) 4) 19
  exact this
/-- the state that the scanner meets, and the state that the parser meets -/
def cM (ms : tM) : tM := tS (fgT (tS ms 0 0)) 3 (-1)
def cS (ms : tM) (n : Nat) : tM := tS (scT (cM ms) (n + 1)) 7 0
theorem cM_2 (ms : tM) : (cM ms).1 2 = ms.1 2 := by
  show (fgT (tS ms 0 0)).1 2 = (tS ms 0 0).1 2
  exact fgT_1 (k := 2) (tS ms 0 0) (by decide) (by decide) (by decide) (by decide) (by decide) (by decide)
theorem cM_L (ms : tM) : Ln (cM ms) = Ln ms := by unfold Ln; rw [cM_2]
theorem cM_b (ms : tM) : (cM ms).2.1 1 = ms.2.1 1 := fgT_k (tS ms 0 0) (by decide)
theorem cM_Y {ms : tM} (h : tpOK ms) : tpOK (cM ms) := by
  unfold tpOK
  rw [cM_L, cM_b]
  exact h
theorem cM_byT (ms : tM) : byT (cM ms) = byT ms := by
  funext k
  unfold byT
  rw [cM_L, cM_b]
theorem cM_TkV (ms : tM) : TkV (cM ms) = TkV ms := by
  unfold TkV
  have : txtT (cM ms) = txtT ms := by
    funext i
    unfold txtT
    rw [cM_byT, cM_L, cM_b]
  rw [this, cM_byT, cM_L]
theorem scT_23 (ms : tM) (n : Nat) : (scT ms n).2.1 23 = ms.2.1 23 := scT_k ms (k := 23) (by decide) n
theorem cS_tk {ms : tM} {n : Nat} (hY : tpOK ms) (hL2 : Ln ms ≤ 1800) (h0 : kinT (byT ms) (Ln ms) n = 0) (hne : ∀ i : Nat, i < n → kinT (byT ms) (Ln ms) i ≠ 0) : tkS (cS ms n) (TkV ms) n := by
  have := tkS_sc (ms := cM ms) (n := n) (cM_Y hY) (by rw [cM_L]; exact hL2) (by rw [cM_byT, cM_L]; exact h0) (fun i hi => by rw [cM_byT, cM_L]; exact hne i hi)
  rw [cM_TkV] at this
  exact this
theorem cS_8 (ms : tM) (n : Nat) : (cS ms n).1 8 = 0 := by
  show (scT (cM ms) (n + 1)).1 8 = 0
  rw [scT_1]; exact fgT_8 (tS ms 0 0)
theorem cS_19 (ms : tM) (n : Nat) : (cS ms n).1 19 = 0 := by
  show (scT (cM ms) (n + 1)).1 19 = 0
  rw [scT_1]; exact fgT_19 (tS ms 0 0)
theorem cS_23 (ms : tM) (n : Nat) {j : Nat} (hj : j < 4) : (cS ms n).2.1 23 j = 0 := by
  show (scT (cM ms) (n + 1)).2.1 23 j = 0
  rw [scT_23]; exact fgT_z (tS ms 0 0) hj
theorem cS_mS (ms : tM) (n B : Nat) : mS B 0 (cS ms n) := by
  have e8 : nn (cS ms n) = 0 := by unfold nn; rw [cS_8]; rfl
  have e19 : nN ((cS ms n).1 19) = 0 := by rw [cS_19]; rfl
  refine ⟨rfl, by rw [e8, cS_8]; rfl, by rw [e8]; exact Nat.zero_le _, fun k hk => absurd hk (by rw [e8]; exact Nat.not_lt_zero _), by rw [e19, cS_19]; rfl, by rw [e19]; exact Nat.zero_le _, fun j hj => absurd hj (by rw [e19]; exact Nat.not_lt_zero _)⟩
theorem cS_pgI (ms : tM) (n : Nat) : pgI (cS ms n) := by
  have e : ∀ k : Nat, k < 4 → mnN (cS ms n) k = 0 := fun k hk => by unfold mnN; rw [cS_23 ms n hk]; rfl
  have e19 : nN ((cS ms n).1 19) = 0 := by rw [cS_19]; rfl
  refine ⟨fun k hk => by rw [e k hk, cS_23 ms n hk]; rfl, by rw [e 0 (by decide)]; exact Nat.zero_le _, fun k _ hk => by rw [e k hk]; exact Nat.zero_le _, by rw [e19, e 0 (by decide), e 1 (by decide), e 2 (by decide), e 3 (by decide)], fun k j _ hk hj => absurd hj (by rw [e k hk]; exact Nat.not_lt_zero _), fun j hj => absurd hj (by rw [e19]; exact Nat.not_lt_zero _)⟩
/-- compile's end -/
def cpOK (m : tM) : tM := begT (tS (tS (tS m 2 0) 18 1) 27 (m.1 8))
def cpNO (m : tM) : tM := begT (tS (tS (fgT (tS m 2 0)) 18 0) 27 0)
def cpE (ms : tM) (n e pl : Nat) : Prop :=
  (((qPg (TkV ms) (qX (TkV ms) 520) 401 0).1 ≠ 0 ∨ (qPg (TkV ms) (qX (TkV ms) 520) 401 0).2 = 400 ∧ (TkV ms).1 400 ≠ 0) ∧ e = 1 ∧ pl = (TkV ms).2.1 (qPg (TkV ms) (qX (TkV ms) 520) 401 0).2) ∨
  ((qPg (TkV ms) (qX (TkV ms) 520) 401 0).1 = 0 ∧ n ≤ 400 ∧ e = (pPg (TkV ms) true (pX (TkV ms) true 520) 401 0 (cS ms n)).1 ∧ (e ≠ 0 → e < 50 ∧ pl = (pPg (TkV ms) true (pX (TkV ms) true 520) 401 0 (cS ms n)).2.1))
end
