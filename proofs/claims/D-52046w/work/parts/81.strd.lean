/-! Strings: their picture with the hash; the hash of a text. -/
section
set_option maxRecDepth 100000
/-- a String of bytes bs at a, its array at v, its hash fields -/
def isSt (h : hH) (a v : Nat) (bs : List Nat) (w z : Int32) : Prop := ∃ f : Nat → Value, h.2 a = some (hob 29 [.ref v, .int 0, .int w, .int z]) ∧ h.2 v = some (har 2 bs.length f) ∧ (∀ j, j < bs.length → f j = .int (sb_b (bs.getD j 0))) ∧ (∀ j, j < bs.length → bs.getD j 0 < 256) ∧ bs.length ≤ 2000
theorem isSt.mv {h h1 : hH} {a v : Nat} {bs : List Nat} {w z : Int32} (L : isSt h a v bs w z) (e1 : h1.2 a = h.2 a) (e2 : h1.2 v = h.2 v) : isSt h1 a v bs w z := by
  obtain ⟨f, q1, q2, q3⟩ := L
  exact ⟨f, e1.trans q1, e2.trans q2, q3⟩
theorem isSt.lt {G : aG} {h : hH} {a v : Nat} {bs : List Nat} {w z : Int32} (L : isSt h a v bs w z) (hi : hInv G h) : a < h.1 ∧ v < h.1 := by
  obtain ⟨f, q1, q2, q3⟩ := L
  exact ⟨hi.2.1 _ _ q1, hi.2.1 _ _ q2⟩
theorem isSt.fr {G : aG} {h h1 : hH} {a v : Nat} {bs : List Nat} {w z : Int32} {S : Nat → Prop} (L : isSt h a v bs w z) (hi : hInv G h) (hF : Fr S h h1) (ha : ¬ S a) (hv : ¬ S v) : isSt h1 a v bs w z := L.mv (hF.2 a (L.lt hi).1 ha) (hF.2 v (L.lt hi).2 hv)
theorem isSt.kind {h : hH} {a v : Nat} {bs : List Nat} {w z : Int32} (L : isSt h a v bs w z) : kindA h a "java/lang/String" := by
  obtain ⟨f, q1, q2, q3⟩ := L
  exact Or.inl ⟨_, _, _, _, q1, rfl⟩
def hsI (x : Nat → Nat) : Nat → Int32
  | 0 => 0
  | c + 1 => 31 * hsI x c + nI (x c)
def hashT (bs : List Nat) : Int32 := hsI (fun j => bs.getD j 0) bs.length
def zfT (bs : List Nat) : Int32 := if hashT bs = 0 then 1 else 0
/-- not yet asked for its hash, or asked -/
def hOK (bs : List Nat) (w z : Int32) : Prop := (w = 0 ∧ z = 0) ∨ (w = hashT bs ∧ z = zfT bs)
/-- a piece of a text -/
def slc (bs : List Nat) (b e : Nat) : List Nat := (bs.take e).drop b
theorem slc_len {bs : List Nat} {b e : Nat} (h2 : e ≤ bs.length) : (slc bs b e).length = e - b := by simp [slc]; omega
theorem slc_getD {bs : List Nat} {b e j : Nat} (hj : j < e - b) : (slc bs b e).getD j 0 = bs.getD (b + j) 0 := by
  simp only [slc, List.getD, List.getElem?_drop]
  rw [List.getElem?_take_of_lt (by omega)]
theorem slc_all {bs : List Nat} : slc bs 0 bs.length = bs := by simp [slc]
theorem sb_fits (k : Nat) : fits .byte (.int (sb_b k)) = true := sb_fitB k
/-- two texts, place by place -/
theorem txt_eq {xs ys : List Nat} (hl : xs.length = ys.length) (hx : ∀ j, j < xs.length → xs.getD j 0 < 256) (hy : ∀ j, j < ys.length → ys.getD j 0 < 256) (h : ∀ j, j < xs.length → sb_b (xs.getD j 0) = sb_b (ys.getD j 0)) : xs = ys := getD_ext hl fun j hj => sb_inj _ (hx j hj) _ (hy j (by omega)) (h j hj)
theorem nI_xs (x : Int32) (n : Nat) : x = nI n → x = nI n := id
/-- the picture of the String constants -/
theorem cst_at {G : aG} {h : hH} (gd : GoodG G) (hi : hInv G h) {i : Nat} {bs : List Nat} (q : strT[i]? = some bs) : ∃ (v : Nat) (w z : Int32), isSt h (gT G i) v bs w z := by
  obtain ⟨v, w, z, f, h1, h2, h3⟩ := str_at gd hi q
  have hl := lo_at q
  exact ⟨v, w, z, f, h1, h2, h3, fun j hj => Nat.lt_of_lt_of_le (hl.2 j hj) (by decide), by have := hl.1; omega⟩
end
