/-! PURE: tokens as the twin has them (kind, place, text), what is asked of them. -/
section
set_option maxRecDepth 100000
abbrev Tv : Type := (Nat → Nat) × (Nat → Nat) × (Nat → List Nat)
def seesB (T : Tv) (t : Nat) (w : List Nat) : Bool := (T.1 t == 1 || T.1 t == 3) && (T.2.2 t == w)
/-- token t stands in the twin's arrays -/
def tkAt (ms : tM) (T : Tv) (t : Nat) : Prop := t < 1801 ∧ T.1 t < 5 ∧ ms.2.1 4 t = nI (T.1 t) ∧ ms.2.1 5 t = nI (T.2.1 t) ∧ ms.2.1 6 t = nI (T.2.1 t + (T.2.2 t).length) ∧ T.2.1 t + (T.2.2 t).length ≤ 1800 ∧ ∀ j : Nat, j < (T.2.2 t).length → ms.2.1 1 (T.2.1 t + j) = nI ((T.2.2 t).getD j 0) ∧ (T.2.2 t).getD j 0 < 256
theorem tkAt_cg {ms ms' : tM} {T : Tv} {t : Nat} (h1 : ms'.2.1 1 = ms.2.1 1) (h4 : ms'.2.1 4 = ms.2.1 4) (h5 : ms'.2.1 5 = ms.2.1 5) (h6 : ms'.2.1 6 = ms.2.1 6) (h : tkAt ms T t) : tkAt ms' T t := by
  unfold tkAt at *
  rw [h1, h4, h5, h6]
  exact h
def eqN (x y : Nat → Nat) : Nat → Bool
  | 0 => true
  | c + 1 => eqN x y c && (x c == y c)
theorem eqN_iff (x y : Nat → Nat) : ∀ n : Nat, eqN x y n = true ↔ ∀ j : Nat, j < n → x j = y j
  | 0 => ⟨fun _ j hj => absurd hj (Nat.not_lt_zero j), fun _ => rfl⟩
  | n + 1 => by
    rw [eqN, Bool.and_eq_true, eqN_iff x y n, beq_iff_eq]
    constructor
    · intro h j hj
      by_cases e : j = n
      · rw [e]; exact h.2
      · exact h.1 j (by omega)
    · intro h
      exact ⟨fun j hj => h j (by omega), h n (by omega)⟩
theorem getD_ext {xs ys : List Nat} (hl : xs.length = ys.length) (h : ∀ j : Nat, j < xs.length → xs.getD j 0 = ys.getD j 0) : xs = ys := by
  refine List.ext_getElem hl (fun j h1 h2 => ?_)
  have h3 := h j h1
  simpa [List.getD, h1, h2] using h3
theorem eqN_list {xs ys : List Nat} (hl : xs.length = ys.length) : eqN (fun j => xs.getD j 0) (fun j => ys.getD j 0) xs.length = (xs == ys) := by
  rw [Bool.eq_iff_iff, eqN_iff, beq_iff_eq]
  exact ⟨fun h => getD_ext hl h, fun h => by subst h; exact fun _ _ => rfl⟩
theorem sees_end {T : Tv} {t c : Nat} {bs : List Nat} (hc : c = bs.length) : (((T.1 t == 1 || T.1 t == 3) && ((T.2.2 t).length == bs.length)) && eqN (fun j => (T.2.2 t).getD j 0) (fun j => bs.getD j 0) c) = seesB T t bs := by
  subst hc
  unfold seesB
  by_cases hl : (T.2.2 t).length = bs.length
  · rw [← eqN_list hl, hl]
    simp
  · rw [beq_false_of_ne hl, show (T.2.2 t == bs) = false from beq_false_of_ne (fun e => hl (by rw [e]))]
    simp
theorem sees_cut {T : Tv} {t c : Nat} {bs : List Nat} (hc : c ≤ bs.length) (h : (((T.1 t == 1 || T.1 t == 3) && ((T.2.2 t).length == bs.length)) && eqN (fun j => (T.2.2 t).getD j 0) (fun j => bs.getD j 0) c) = false) : seesB T t bs = false := by
  cases e : seesB T t bs with
  | false => rfl
  | true =>
    rw [← sees_end (c := bs.length) rfl] at e
    simp only [Bool.and_eq_true] at e
    have h2 : eqN (fun j => (T.2.2 t).getD j 0) (fun j => bs.getD j 0) c = true := (eqN_iff _ _ _).mpr (fun j hj => (eqN_iff _ _ _).mp e.2 j (by omega))
    rw [h2, e.1.1, e.1.2] at h
    exact absurd h (by decide)
theorem nI_dif (p l : Nat) : nI (p + l) - nI p = nI l := by
  rw [← nI_add, Int32.add_comm]
  exact Int32.add_sub_cancel _ _
theorem sb_lo : ∀ k : Nat, k < 128 → sb_b k = nI k := by decide +kernel
/-- the last word that token t is; -1 -/
def whT (T : Tv) (t : Nat) (ws : List (List Nat)) : Int32 := fU (fun j => seesB T t (ws.getD j [])) ws.length
/-- the texts of a list of the twin's -/
def wlW (k : Nat) : List (List Nat) := (wlT.getD k []).map (fun i => strT.getD i [])
def isKw (x : List Nat) : Bool := (wlW 0).contains x
def isNm (T : Tv) (t : Nat) : Bool := T.1 t == 1 && whT T t (wlW 0) == -1
def numI (x : Nat → Nat) : Nat → Int32
  | 0 => 0
  | c + 1 => 10 * numI x c + nI (x c) - 48
def numT (T : Tv) (t : Nat) : Int32 := numI (fun j => (T.2.2 t).getD j 0) (T.2.2 t).length
def namI (x : Nat → Nat) : Nat → Int64
  | 0 => 0
  | c + 1 => 37 * namI x c + (if (decide (48 ≤ nI (x c)) && decide (nI (x c) ≤ 57)) = true then nI (x c) - 47 else nI (x c) - 86).toInt64
def nameT (T : Tv) (t : Nat) : Int64 := namI (fun j => (T.2.2 t).getD j 0) (T.2.2 t).length
/-- the constants stand in every heap of a run -/
theorem good_at {G : aG} {h : hH} (gd : GoodG G) (hi : hInv G h) {a : Nat} {e : hE} (q : gH G a = some e) : h.2 a = some e := by
  rw [hi.2.2 a (gd.2.2.2.2.2.2.2.2 a e q)]; exact q
theorem str_at {G : aG} {h : hH} (gd : GoodG G) (hi : hInv G h) {i : Nat} {bs : List Nat} (q : strT[i]? = some bs) : isStr h.2 (gT G i) bs := by
  obtain ⟨v, w, z, f, h1, h2, h3⟩ := gd.2.2.2.2.2.2.2.1.2.2.2.2.2 i bs q
  exact ⟨v, w, z, f, good_at gd hi h1, good_at gd hi h2, h3⟩
theorem strT_lo : ∀ bs ∈ strT, bs.length ≤ 64 ∧ ∀ x ∈ bs, x < 128 := by decide +kernel
def loS (bs : List Nat) : Prop := bs.length ≤ 64 ∧ ∀ j : Nat, j < bs.length → bs.getD j 0 < 128
theorem lo_at {i : Nat} {bs : List Nat} (q : strT[i]? = some bs) : loS bs := by
  obtain ⟨h1, h2⟩ := strT_lo bs (List.mem_of_getElem? q)
  refine ⟨h1, fun j hj => h2 _ ?_⟩
  simp only [List.getD, List.getElem?_eq_getElem hj, Option.getD_some]
  exact List.getElem_mem hj
/-- an array of words of the twin's -/
def isWl (H : Nat → Option hE) (a : Nat) (ws : List (List Nat)) : Prop := ∃ (f : Nat → Value) (wa : Nat → Nat), H a = some (har 6 ws.length f) ∧ ∀ j : Nat, j < ws.length → f j = .ref (wa j) ∧ isStr H (wa j) (ws.getD j []) ∧ loS (ws.getD j [])
theorem wlT_in : ∀ ws ∈ wlT, ∀ i ∈ ws, i < strT.length := by decide +kernel
theorem wl_at {G : aG} {h : hH} (gd : GoodG G) (hi : hInv G h) {k : Nat} {ws : List Nat} (q : wlT[k]? = some ws) : isWl h.2 (vAd (gV G (27 + k))) (wlW k) := by
  obtain ⟨f, h1, h2⟩ := gd.2.2.2.2.2.2.2.1.2.2.2.2.1.1 k ws q
  have e : wlW k = ws.map (fun i => strT.getD i []) := by
    unfold wlW
    rw [List.getD_eq_getElem?_getD, q]
    rfl
  have el : (wlW k).length = ws.length := by rw [e, List.length_map]
  refine ⟨f, fun j => gT G (ws.getD j 0), by rw [el]; exact good_at gd hi h1, fun j hj => ?_⟩
  rw [el] at hj
  have hm : ws.getD j 0 ∈ ws := by
    simp only [List.getD, List.getElem?_eq_getElem hj, Option.getD_some]
    exact List.getElem_mem hj
  have hlt := wlT_in ws (List.mem_of_getElem? q) _ hm
  have hs : strT[ws.getD j 0]? = some ((wlW k).getD j []) := by
    rw [e]
    simp only [List.getD, List.getElem?_map, List.getElem?_eq_getElem hj, Option.getD_some, Option.map_some] at hlt ⊢
    rw [List.getElem?_eq_getElem hlt]
    rfl
  exact ⟨h2 j hj, str_at gd hi hs, lo_at hs⟩
theorem m1_ne' {n : Nat} (h : n < 2 ^ 31) : nI n ≠ -1 := by
  intro e
  have := nI_toInt h
  rw [e] at this
  simp at this
  first | done | omega
end
