/-! PURE: what the twin computes, over its state tM (numbers by field, int arrays, long arrays). -/
section
set_option maxRecDepth 100000
def bI (b : Bool) : Int32 := if b = true then 1 else 0
theorem bI_le (b : Bool) : narrow .boolean (.int (bI b)) = .int (bI b) := by cases b <;> rfl
theorem bI_0 (b : Bool) : bI b = 0 ↔ b = false := by cases b <;> simp [bI]
def lb (b : Bool) : Int64 := if b = true then 1 else 0
def nN (x : Int32) : Nat := x.toNatClampNeg
theorem nN_nI {n : Nat} (h : n < 2 ^ 31) : nN (nI n) = n := nI_clamp h
theorem nI_z (n : Nat) (h : n < 2 ^ 31) : nI n = 0 ↔ n = 0 := by
  rw [show (0 : Int32) = nI 0 from rfl]; exact nI_eq h (by omega)
/-- an index that goes down to -1: c places are left -/
def jv (c : Nat) : Int32 := match c with
  | 0 => -1
  | n + 1 => nI n
theorem jv_dec (c : Nat) : nI c + (-1) = jv c := by
  cases c with
  | zero => decide
  | succ n => exact pk_m1 n
theorem lg_cmp_eq0 (x y : Int64) : lg_cmp x y = 0 ↔ x = y := by
  unfold lg_cmp
  by_cases h : x > y
  · rw [if_pos h]
    constructor
    · intro e; exact absurd e (by decide)
    · intro e; subst e; exact absurd h (Int64.lt_irrefl)
  · rw [if_neg h]
    by_cases h2 : x = y
    · rw [if_pos h2]; simp [h2]
    · rw [if_neg h2]; simp [h2]
theorem lg_cases (x y : Int64) : (y < x ∧ lg_cmp x y = 1) ∨ (x = y ∧ lg_cmp x y = 0) ∨ (x < y ∧ lg_cmp x y = -1) := by
  unfold lg_cmp
  by_cases h : x > y
  · exact Or.inl ⟨h, by rw [if_pos h]⟩
  · by_cases h2 : x = y
    · exact Or.inr (Or.inl ⟨h2, by rw [if_neg h, if_pos h2]⟩)
    · refine Or.inr (Or.inr ⟨?_, by rw [if_neg h, if_neg h2]⟩)
      have h' : x ≤ y := Int64.not_lt.mp h
      exact Int64.lt_of_le_of_ne h' h2
theorem lg_lt0 (x y : Int64) : lg_cmp x y < 0 ↔ x < y := by
  rcases lg_cases x y with ⟨h, e⟩ | ⟨h, e⟩ | ⟨h, e⟩ <;> rw [e]
  · exact ⟨fun z => absurd z (by decide), fun z => absurd (Int64.lt_trans h z) Int64.lt_irrefl⟩
  · exact ⟨fun z => absurd z (by decide), fun z => by rw [h] at z; exact absurd z Int64.lt_irrefl⟩
  · exact ⟨fun _ => h, fun _ => by decide⟩
theorem lg_gt0 (x y : Int64) : 0 < lg_cmp x y ↔ y < x := by
  rcases lg_cases x y with ⟨h, e⟩ | ⟨h, e⟩ | ⟨h, e⟩ <;> rw [e]
  · exact ⟨fun _ => h, fun _ => by decide⟩
  · exact ⟨fun z => absurd z (by decide), fun z => by rw [h] at z; exact absurd z Int64.lt_irrefl⟩
  · exact ⟨fun z => absurd z (by decide), fun z => absurd (Int64.lt_trans h z) Int64.lt_irrefl⟩
theorem lg_le0 (x y : Int64) : lg_cmp x y ≤ 0 ↔ x ≤ y := by
  rw [← Int32.not_lt, lg_gt0, Int64.not_lt]
theorem lg_ge0 (x y : Int64) : 0 ≤ lg_cmp x y ↔ y ≤ x := by
  rw [← Int32.not_lt, lg_lt0, Int64.not_lt]
-- ---- folds over steps
/-- the last place below c at which p holds; -1 -/
def fU (p : Nat → Bool) : Nat → Int32
  | 0 => -1
  | c + 1 => if p c = true then nI c else fU p c
/-- the least place in i-c+1 .. i at which p holds; -1 -/
def fD (p : Nat → Bool) (i : Nat) : Nat → Int32
  | 0 => -1
  | c + 1 => if p (i - c) = true then nI (i - c) else fD p i c
def anyU (p : Nat → Bool) : Nat → Bool
  | 0 => false
  | c + 1 => anyU p c || p c
/-- since, from the place below c downwards -/
def snD (p q : Nat → Bool) : Nat → Bool
  | 0 => false
  | c + 1 => p c || (q c && snD p q c)
def sumU (t : Nat → Int64) : Nat → Int64
  | 0 => 0
  | c + 1 => sumU t c + t c
def ovF (k : Nat) (x y : Int64) : Int64 := if k = 27 then (if x < y then y else x) else if k = 28 then (if y < x then y else x) else x + y
def ovU (k : Nat) (t : Nat → Int64) : Nat → Int64
  | 0 => t 0
  | c + 1 => ovF k (ovU k t c) (t (c + 1))
-- ---- the table
abbrev tM : Type := (Nat → Int32) × (Nat → Nat → Int32) × (Nat → Nat → Int64)
def tb (ms : tM) (n i : Nat) : Int64 := ms.2.2 16 (120 * n + i)
def hd (ms : tM) (n i : Nat) : Bool := tb ms n i != 0
def wiT (ms : tM) (n j i : Nat) : Bool := (ms.2.1 14 n == -1) || (decide (ms.2.1 13 n ≤ ms.2.1 30 i - ms.2.1 30 j) && decide (ms.2.1 30 i - ms.2.1 30 j ≤ ms.2.1 14 n))
def cmT (k : Nat) (x y : Int64) : Bool := match k with
  | 0 => decide (x = y)
  | 1 => decide (x ≠ y)
  | 2 => decide (x < y)
  | 3 => decide (y < x)
  | 4 => decide (x ≤ y)
  | _ => decide (y ≤ x)
def boT (k : Nat) (x y : Int64) : Int64 := match k with
  | 0 => x + y
  | 1 => x - y
  | 2 => x * y
  | 3 => if y = 0 then 0 else x / y
  | _ => if y = 0 then 0 else x - x / y * y
def fmT (ms : tM) (n a i : Nat) : Int32 := fD (fun j => !hd ms a j && wiT ms n j i) i (i + 1)
def lhT (ms : tM) (a i : Nat) : Int32 := fU (hd ms a) (i + 1)
def us1 (k : Nat) : Bool := k != 6 && k != 7 && k != 20 && k != 23 && k != 24
def us2 (k : Nat) : Bool := (9 ≤ k && k ≤ 13) || (32 ≤ k && k ≤ 34)
def us3 (k : Nat) : Bool := k == 9 || k == 33 || k == 34
/-- node n is of kind k; its numbers, so far as its kind uses them, are a, b, c -/
def okN (ms : tM) (n k a b c : Nat) : Prop := n < 1203 ∧ k < 35 ∧ ms.2.1 9 n = nI k ∧ (us1 k = true → ms.2.1 10 n = nI a ∧ a < 1203) ∧ (us2 k = true → ms.2.1 11 n = nI b ∧ b < 1203) ∧ (us3 k = true → ms.2.1 12 n = nI c ∧ c < 1203)
/-- a formula's part of kind k at n, its parts a and b; cq: its compare sign -/
def itT (ms : tM) (k n a b cq i : Nat) : Bool := match k with
  | 0 => !hd ms a i
  | 1 => decide (0 < i) && hd ms a (i - 1)
  | 2 => hd ms a i && (decide (i = 0) || !hd ms a (i - 1))
  | 3 => !hd ms a i && decide (0 < i) && hd ms a (i - 1)
  | 4 => anyU (fun j => hd ms a j && wiT ms n j i) (i + 1)
  | 5 => fmT ms n a i == -1
  | 6 => true
  | 7 => false
  | 8 => hd ms a i
  | 9 => cmT cq (tb ms a i) (tb ms b i)
  | 10 => snD (fun j => hd ms b j && wiT ms n j i) (hd ms a) (i + 1)
  | 11 => hd ms a i && hd ms b i
  | 12 => hd ms a i || hd ms b i
  | _ => !hd ms a i || hd ms b i
/-- an expression's part of kind k at n; x: its first number, a, b, c: its numbers as places; cq: its sign -/
def woT (ms : tM) (k : Nat) (x : Int32) (a b c i : Nat) : Int64 := match k with
  | 20 => x.toInt64
  | 21 => ms.2.2 31 (8 * i + a)
  | 22 => tb ms a i
  | 23 => (ms.2.1 30 i).toInt64
  | 24 => (nI i).toInt64
  | 25 => -tb ms a i
  | 26 => if i = 0 then 0 else tb ms a (i - 1)
  | 27 => ovU 27 (tb ms a) i
  | 28 => ovU 28 (tb ms a) i
  | 29 => ovU 29 (tb ms a) i
  | 30 => sumU (tb ms a) (i + 1)
  | 31 => if lhT ms a i = -1 then -1 else (ms.2.1 30 i - ms.2.1 30 (nN (lhT ms a i))).toInt64
  | 32 => if lhT ms a i = -1 then 0 else tb ms b (nN (lhT ms a i))
  | 33 => if hd ms a i = true then tb ms b i else tb ms c i
  | _ => boT c (tb ms a i) (tb ms b i)
end
