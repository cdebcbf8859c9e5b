/-! PURE: lemmas for the walk of the twin's meanings. -/
section
set_option maxRecDepth 100000
/-- behind an error: what is not of the parse stays -/
def mE (ms m : tM) : Prop := (∀ k : Nat, k ≠ 3 → k ≠ 7 → k ≠ 8 → k ≠ 17 → k ≠ 37 → k ≠ 38 → m.1 k = ms.1 k) ∧ (∀ k : Nat, k < 9 ∨ 15 < k → m.2.1 k = ms.2.1 k) ∧ (∀ k j : Nat, j < nn ms → m.2.1 k j = ms.2.1 k j) ∧ m.2.2 = ms.2.2
theorem mE.of {ms m : tM} (h : mF ms m) : mE ms m := ⟨fun k _ h7 h8 h17 h37 h38 => h.2.1 k h7 h8 h17 h37 h38, h.2.2.1, h.2.2.2.1, h.2.2.2.2⟩
theorem mE.S {ms m : tM} {k : Nat} {v : Int32} (h : mE ms m) (hk : k = 3 ∨ k = 7 ∨ k = 8 ∨ k = 17 ∨ k = 37 ∨ k = 38) : mE ms (tS m k v) := ⟨fun j h3 h7 h8 h17 h37 h38 => by
    show upd m.1 k v j = ms.1 j
    simp only [upd]
    rw [if_neg (by omega)]
    exact h.1 j h3 h7 h8 h17 h37 h38, h.2⟩
theorem mE.tr {ms m m' : tM} (h : mF ms m) (g : mE m m') : mE ms m' := ⟨fun k h3 h7 h8 h17 h37 h38 => (g.1 k h3 h7 h8 h17 h37 h38).trans (h.2.1 k h7 h8 h17 h37 h38), fun k hk => (g.2.1 k hk).trans (h.2.2.1 k hk), fun k j hj => (g.2.2.1 k j (Nat.lt_of_lt_of_le hj h.1)).trans (h.2.2.2.1 k j hj), g.2.2.2.trans h.2.2.2.2⟩
theorem tkS.kept {ms m : tM} {T : Tv} {N : Nat} (h : tkS ms T N) (g : mF ms m) : tkS m T N := ⟨fun t ht => tkAt_cg (g.2.2.1 1 (by decide)) (g.2.2.1 4 (by decide)) (g.2.2.1 5 (by decide)) (g.2.2.1 6 (by decide)) (h.1 t ht), h.2⟩
theorem at_end {T : Tv} {N a : Nat} (h : a ≤ N) (h4 : N ≤ 400) (he : T.1 N = 0) (hn : T.1 a ≠ 0) : a < 400 := by
  by_cases e : a = N
  · subst e; exact absurd he hn
  · omega
theorem seesP_eq {T : Tv} {N a : Nat} (h : a ≤ N) (h4 : N ≤ 400) (he : T.1 N = 0) (w : List Nat) : seesP T a w = seesB T a w := by
  unfold seesP
  cases e : seesB T a w with
  | false => simp
  | true => rw [decide_eq_true (at_end h h4 he (seesB_ne e))]; rfl
theorem nmP_eq {T : Tv} {N a : Nat} (h : a ≤ N) (h4 : N ≤ 400) (he : T.1 N = 0) : nmP T a = isNm T a := by
  unfold nmP
  cases e : isNm T a with
  | false => simp
  | true => rw [decide_eq_true (at_end h h4 he (isNm_ne e))]; rfl
theorem nuP_eq {T : Tv} {N a : Nat} (h : a ≤ N) (h4 : N ≤ 400) (he : T.1 N = 0) : nuP T a = (T.1 a == 2) := by
  unfold nuP
  cases e : T.1 a == 2 with
  | false => simp
  | true =>
    have e2 : T.1 a = 2 := by simpa using e
    rw [decide_eq_true (at_end h h4 he (by omega))]; rfl
theorem whP_eq {T : Tv} {N a : Nat} (h : a ≤ N) (h4 : N ≤ 400) (he : T.1 N = 0) (k : Nat) : whP T a k = whT T a (wlW k) := by
  unfold whP
  by_cases e : a < 400
  · rw [if_pos e]
  · rw [if_neg e]
    by_cases e2 : whT T a (wlW k) = -1
    · exact e2.symm
    · exact absurd (at_end h h4 he (whT_lt e2)) e
theorem pG_t {T : Tv} {W : pR} {b : Bool} {a : Nat} {m : tM} {k : Nat → tM → pR} (hg : W = pb (pI T b a m) k) (h1 : W.1 ≠ 1) : b = true ∧ W = k (a + 1) (ats m (a + 1)) := by
  cases b with
  | true => exact ⟨rfl, hg⟩
  | false => exact absurd (by rw [hg]; rfl) h1
theorem pG_l {T : Tv} {W : pR} {b : Bool} {a : Nat} {m : tM} (hg : W = pI T b a m) (h1 : W.1 ≠ 1) : b = true ∧ W = pO (a + 1) (ats m (a + 1)) := by
  cases b with
  | true => exact ⟨rfl, hg⟩
  | false => exact absurd (by rw [hg]; rfl) h1
theorem pG_c {T : Tv} {W x : pR} {b : Bool} {t a : Nat} {m : tM} (hg : W = cond b x (pE T 1 t a m)) (h1 : W.1 ≠ 1) : b = true ∧ W = x := by
  cases b with
  | true => exact ⟨rfl, hg⟩
  | false => exact absurd (by rw [hg]; rfl) h1
theorem pG_bc {T : Tv} {W x : pR} {b : Bool} {t a : Nat} {m : tM} {k : Nat → tM → pR} (hg : W = pb (cond b x (pE T 1 t a m)) k) (h1 : W.1 ≠ 1) : b = true ∧ W = pb x k := by
  cases b with
  | true => exact ⟨rfl, hg⟩
  | false => exact absurd (by rw [hg]; rfl) h1
theorem pG_T {W x y : pR} {b : Bool} (hg : W = cond b x y) (hb : b = true) : W = x := by rw [hg, hb]; rfl
theorem pG_F {W x y : pR} {b : Bool} (hg : W = cond b x y) (hb : b = false) : W = y := by rw [hg, hb]; rfl
theorem pG_bT {W x y : pR} {b : Bool} {k : Nat → tM → pR} (hg : W = pb (cond b x y) k) (hb : b = true) : W = pb x k := by rw [hg, hb]; rfl
theorem pG_bF {W x y : pR} {b : Bool} {k : Nat → tM → pR} (hg : W = pb (cond b x y) k) (hb : b = false) : W = pb y k := by rw [hg, hb]; rfl
theorem pG_o {W : pR} {k : Nat → tM → pR} {l a : Nat} {m : tM} (hg : W = pb (0, l, a, m) k) : W = k a m := hg
theorem pG_er {W : pR} {k : Nat → tM → pR} {e l a : Nat} {m : tM} (hg : W = pb (e, l, a, m) k) (he : e ≠ 0) : W = (e, l, a, m) := by
  rw [hg]; unfold pb; rw [if_neg he]
theorem pG_n {W r : pR} {k : Nat → tM → pR} {j : Nat} (hg : W = pb r k) (h1 : W.1 ≠ j) (hj : j ≠ 0) : r.1 ≠ j := fun e => h1 (by rw [hg]; unfold pb; rw [if_neg (by omega)]; exact e)
theorem pb_as (r : pR) (k k2 : Nat → tM → pR) : pb (pb r k) k2 = pb r (fun a m => pb (k a m) k2) := by
  unfold pb
  by_cases e : r.1 = 0
  · rw [if_pos e, if_pos e]
  · rw [if_neg e, if_neg e, if_neg e]
theorem pG_as {W r : pR} {k k2 : Nat → tM → pR} (hg : W = pb (pb r k) k2) : W = pb r (fun a m => pb (k a m) k2) := hg.trans (pb_as r k k2)
/-- two sides: the second operand and the part -/
def pTw (T : Tv) (r : Nat → tM → pR) (a : Nat) (ms : tM) : pR := pb (r (a + 1) (ats ms (a + 1))) fun a1 m1 => pO a1 (eBin T true a ms m1)
theorem pLp_tw {T : Tv} {r : Nat → tM → pR} {g : Nat → Bool} {c a : Nat} {ms : tM} (h : g a = true) : pLp r g (eBin T true) (c + 1) a ms = pb (pTw T r a ms) (fun a1 m1 => pLp r g (eBin T true) c a1 m1) := by
  rw [pLp, h, cond_true, pTw, pb_as]
  rfl
end
