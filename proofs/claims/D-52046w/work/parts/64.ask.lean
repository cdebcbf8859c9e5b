/-! PURE: what ask makes of the nodes. -/
section
set_option maxRecDepth 100000
def ptI (x v : Int32) : Bool := if x = 20 then false else if x = 21 then false else if v < 3 then true else decide (x = 33)
def mvI (x y z : Int32) (b : Bool) : Int32 := if b = true then (if x < y then x else x - z) else x
def mqK (X : tM) (t k : Nat) : tM := tI X 9 t (X.2.1 9 k)
def mq1 (X : tM) (B sh : Int32) (t k : Nat) : tM := tI (tI (tI (tI (tI (tI (mqK X t k) 10 t (mvI (X.2.1 10 k) B sh (ptI ((mqK X t k).2.1 9 k) 1))) 11 t (mvI (X.2.1 11 k) B sh (ptI ((mqK X t k).2.1 9 k) 2))) 12 t (mvI (X.2.1 12 k) B sh (ptI ((mqK X t k).2.1 9 k) 3))) 13 t (X.2.1 13 k)) 14 t (X.2.1 14 k)) 15 t (X.2.1 15 k)
def mqS (ms : tM) (B sh : Nat) : Nat → tM
  | 0 => ms
  | c + 1 => mq1 (mqS ms B sh c) (nI B) (nI sh) (B + c - sh) (B + c)
theorem mqS_1 (ms : tM) (B sh : Nat) : ∀ c, (mqS ms B sh c).1 = ms.1
  | 0 => rfl
  | c + 1 => mqS_1 ms B sh c
theorem mq1_k (X : tM) (B sh : Int32) (t k : Nat) {q : Nat} (h : q < 9 ∨ 15 < q) : (mq1 X B sh t k).2.1 q = X.2.1 q := by
  have e : ∀ j : Nat, 9 ≤ j → j ≤ 15 → ¬ q = j := fun j _ _ => by omega
  simp [mq1, mqK, tI, upd, e 9, e 10, e 11, e 12, e 13, e 14, e 15]
theorem mqS_k (ms : tM) (B sh : Nat) {q : Nat} (h : q < 9 ∨ 15 < q) : ∀ c, (mqS ms B sh c).2.1 q = ms.2.1 q
  | 0 => rfl
  | c + 1 => (mq1_k _ _ _ _ _ h).trans (mqS_k ms B sh h c)
theorem mqS_2 (ms : tM) (B sh : Nat) : ∀ c, (mqS ms B sh c).2.2 = ms.2.2
  | 0 => rfl
  | c + 1 => mqS_2 ms B sh c
end
