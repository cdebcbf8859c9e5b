/-! PURE: the scanner. -/
section
set_option maxRecDepth 100000
/-- the first place at which P holds below n; -1 -/
def ixF (P : Nat → Bool) (n : Nat) : Int32 := fD P (n - 1) n
theorem ix_step (P : Nat → Bool) {n r : Nat} (h : r < n) : fD P (n - 1) (n - r) = if P r = true then nI r else fD P (n - 1) (n - (r + 1)) := by
  have := fD_step P (i := n - 1) (r := r) (by omega)
  rw [show n - 1 + 1 = n by omega] at this
  exact this
theorem sb_inj : ∀ k : Nat, k < 256 → ∀ x : Nat, x < 256 → sb_b k = sb_b x → k = x := by
  intro k hk x hx h
  have h1 := (sb_byte k hk).1
  have h2 := (sb_byte x hx).1
  rw [h] at h1
  exact (nI_eq (by omega) (by omega)).mp (h1.symm.trans h2)
def isSy (x : Int32) : Bool := (sw 35).any (fun c => nI c == x)
theorem isSy_ix : ∀ x : Nat, x < 256 → isSy (nI x) = decide (0 ≤ ixF (fun j => (sw 35).getD j 0 == x) 16) := by decide +kernel
def twoB (x y : Int32) : Bool := (x == 58 && y == 61) || (x == 60 && (y == 61 || y == 62)) || (x == 62 && y == 61)
def symT (x y : Int32) : Int32 := if x = 46 then (if y = 46 then 2 else 0) else if twoB x y = true then 2 else if (decide (0 < x) && isSy x) = true then 1 else 0
theorem symT_in (x y : Int32) : symT x y = 0 ∨ symT x y = 1 ∨ symT x y = 2 := by
  unfold symT
  repeat' split
  all_goals simp
/-- the text's byte at a place; -1 behind its end -/
def byT (ms : tM) (k : Nat) : Int32 := if k < Ln ms then ms.2.1 1 k else -1
def tpOK (ms : tM) : Prop := ∀ k : Nat, k < Ln ms → ∃ x : Nat, x < 256 ∧ ms.2.1 1 k = nI x
theorem byT_lt {ms : tM} {k : Nat} (h : byT ms k ≠ -1) : k < Ln ms := by
  unfold byT at h
  by_cases e : k < Ln ms
  · exact e
  · rw [if_neg e] at h; exact absurd rfl h
theorem byT_nI {ms : tM} (ht : tpOK ms) {k : Nat} (h : byT ms k ≠ -1) : ∃ x : Nat, x < 256 ∧ byT ms k = nI x := by
  obtain ⟨x, h1, h2⟩ := ht k (byT_lt h)
  exact ⟨x, h1, by rw [byT, if_pos (byT_lt h)]; exact h2⟩
def blB (c : Int32) : Bool := c == 32 || c == 10
def leB (c : Int32) : Bool := decide (97 ≤ c) && decide (c ≤ 122)
def diB (c : Int32) : Bool := decide (48 ≤ c) && decide (c ≤ 57)
def spn (c : Nat → Bool) : Nat → Nat → Nat
  | 0, p => p
  | f + 1, p => if c p = true then spn c f (p + 1) else p
theorem spn_go {c : Nat → Bool} {L p : Nat} (h : c p = true) (hp : p < L) : spn c (L - p) p = spn c (L - (p + 1)) (p + 1) := by
  rw [show L - p = (L - (p + 1)) + 1 by omega, spn, if_pos h]
theorem spn_stop {c : Nat → Bool} {p : Nat} (h : c p = false) : ∀ f : Nat, spn c f p = p
  | 0 => rfl
  | f + 1 => by rw [spn, if_neg (by rw [h]; decide)]
theorem spn_in (c : Nat → Bool) : ∀ f p : Nat, p ≤ spn c f p ∧ spn c f p ≤ p + f
  | 0, p => ⟨Nat.le_refl _, Nat.le_refl _⟩
  | f + 1, p => by
    rw [spn]
    split
    · have := spn_in c f (p + 1)
      omega
    · omega
def skT (Y : Nat → Int32) (L p : Nat) : Nat := spn (fun k => blB (Y k)) (L - p) p
def tokQ (Y : Nat → Int32) (L s : Nat) : Nat × Nat :=
  if leB (Y s) = true then (if spn (fun k => leB (Y k) || diB (Y k)) (L - s) s - s ≤ 8 then 1 else 4, spn (fun k => leB (Y k) || diB (Y k)) (L - s) s)
  else if diB (Y s) = true then (if spn (fun k => diB (Y k)) (L - s) s - s ≤ 6 then 2 else 4, spn (fun k => diB (Y k)) (L - s) s)
  else if s < L then (if 0 < symT (Y s) (Y (s + 1)) then 3 else 4, s + (if 1 < symT (Y s) (Y (s + 1)) then 2 else 1))
  else (0, s)
def posT (Y : Nat → Int32) (L : Nat) : Nat → Nat
  | 0 => 0
  | n + 1 => (tokQ Y L (skT Y L (posT Y L n))).2
abbrev frmT (Y : Nat → Int32) (L n : Nat) : Nat := skT Y L (posT Y L n)
abbrev kinT (Y : Nat → Int32) (L n : Nat) : Nat := (tokQ Y L (frmT Y L n)).1
def scT (ms : tM) : Nat → tM
  | 0 => ms
  | n + 1 => tI (tI (tI (scT ms n) 4 n (nI (kinT (byT ms) (Ln ms) n))) 5 n (nI (frmT (byT ms) (Ln ms) n))) 6 n (nI (posT (byT ms) (Ln ms) (n + 1)))
theorem scT_1 (ms : tM) : ∀ n : Nat, (scT ms n).1 = ms.1
  | 0 => rfl
  | n + 1 => scT_1 ms n
theorem scT_2 (ms : tM) : ∀ n : Nat, (scT ms n).2.2 = ms.2.2
  | 0 => rfl
  | n + 1 => scT_2 ms n
theorem scT_k (ms : tM) {k : Nat} (h : k ≠ 4 ∧ k ≠ 5 ∧ k ≠ 6) : ∀ n : Nat, (scT ms n).2.1 k = ms.2.1 k
  | 0 => rfl
  | n + 1 => by simp [scT, tI, h.1, h.2.1, h.2.2, scT_k ms h n]
theorem byT_sc (ms : tM) (n k : Nat) : byT (scT ms n) k = byT ms k := by
  unfold byT Ln
  rw [scT_1, scT_k ms (by decide)]
theorem tokQ_in {ms : tM} {s : Nat} (hs : s ≤ Ln ms) : s ≤ (tokQ (byT ms) (Ln ms) s).2 ∧ (tokQ (byT ms) (Ln ms) s).2 ≤ Ln ms + 1 ∧ ((tokQ (byT ms) (Ln ms) s).1 ≠ 0 → s < (tokQ (byT ms) (Ln ms) s).2) ∧ (tokQ (byT ms) (Ln ms) s).1 < 5 ∧ ((tokQ (byT ms) (Ln ms) s).1 = 0 → (tokQ (byT ms) (Ln ms) s).2 = s ∧ s = Ln ms) := by
  have hlt : ∀ {c : Int32}, byT ms s = c → c ≠ -1 → s < Ln ms := fun e h => byT_lt (by rw [e]; exact h)
  unfold tokQ
  by_cases h1 : leB (byT ms s) = true
  · rw [if_pos h1]
    have h2 : s < Ln ms := byT_lt (fun e => by rw [e] at h1; exact absurd h1 (by decide))
    have h3 := spn_in (fun k => leB (byT ms k) || diB (byT ms k)) (Ln ms - s) s
    have h4 : s + 1 ≤ spn (fun k => leB (byT ms k) || diB (byT ms k)) (Ln ms - s) s := by
      rw [spn_go (by show (leB (byT ms s) || diB (byT ms s)) = true; rw [h1]; rfl) h2]
      exact (spn_in _ _ _).1
    dsimp only
    refine ⟨by omega, by omega, fun _ => by omega, by split <;> omega, fun h => ?_⟩
    split at h <;> omega
  · rw [if_neg h1]
    by_cases h2 : diB (byT ms s) = true
    · rw [if_pos h2]
      have h3 : s < Ln ms := byT_lt (fun e => by rw [e] at h2; exact absurd h2 (by decide))
      have h4 := spn_in (fun k => diB (byT ms k)) (Ln ms - s) s
      have h5 : s + 1 ≤ spn (fun k => diB (byT ms k)) (Ln ms - s) s := by
        rw [spn_go h2 h3]
        exact (spn_in _ _ _).1
      dsimp only
      refine ⟨by omega, by omega, fun _ => by omega, by split <;> omega, fun h => ?_⟩
      split at h <;> omega
    · rw [if_neg h2]
      by_cases h3 : s < Ln ms
      · rw [if_pos h3]
        dsimp only
        refine ⟨by omega, by split <;> omega, fun _ => by split <;> omega, by split <;> omega, fun h => ?_⟩
        split at h <;> omega
      · rw [if_neg h3]
        dsimp only
        exact ⟨Nat.le_refl _, by omega, fun h => absurd rfl h, by omega, fun _ => ⟨rfl, by omega⟩⟩
theorem skT_in {Y : Nat → Int32} {L p : Nat} (hp : p ≤ L) : p ≤ skT Y L p ∧ skT Y L p ≤ L := by
  have := spn_in (fun k => blB (Y k)) (L - p) p
  unfold skT
  omega
/-- a symbol of two signs ends within the text -/
theorem tokQ_le {ms : tM} {s : Nat} (hs : s ≤ Ln ms) : (tokQ (byT ms) (Ln ms) s).2 ≤ Ln ms := by
  unfold tokQ
  by_cases h1 : leB (byT ms s) = true
  · rw [if_pos h1]
    have h3 := spn_in (fun k => leB (byT ms k) || diB (byT ms k)) (Ln ms - s) s
    dsimp only
    omega
  · rw [if_neg h1]
    by_cases h2 : diB (byT ms s) = true
    · rw [if_pos h2]
      have h4 := spn_in (fun k => diB (byT ms k)) (Ln ms - s) s
      dsimp only
      omega
    · rw [if_neg h2]
      by_cases h3 : s < Ln ms
      · rw [if_pos h3]
        dsimp only
        by_cases h4 : s + 1 < Ln ms
        · split <;> omega
        · have e : byT ms (s + 1) = -1 := if_neg h4
          rw [e]
          have : ¬ (1 < symT (byT ms s) (-1)) := by
            unfold symT
            have e2 : twoB (byT ms s) (-1) = false := by simp [twoB]
            rw [e2]
            repeat' split
            all_goals first | decide | contradiction
          rw [if_neg this]
          omega
      · rw [if_neg h3]
        exact hs
theorem posT_in {ms : tM} : ∀ n : Nat, posT (byT ms) (Ln ms) n ≤ Ln ms
  | 0 => Nat.zero_le _
  | n + 1 => tokQ_le (skT_in (posT_in n)).2
theorem posT_ge {ms : tM} : ∀ n : Nat, (∀ i : Nat, i < n → kinT (byT ms) (Ln ms) i ≠ 0) → n ≤ posT (byT ms) (Ln ms) n
  | 0, _ => Nat.zero_le _
  | n + 1, h => by
    have h1 := posT_ge n (fun i hi => h i (by omega))
    have h2 := skT_in (Y := byT ms) (posT_in (ms := ms) n)
    have h3 := (tokQ_in (ms := ms) h2.2).2.2.1 (h n (by omega))
    show n + 1 ≤ (tokQ (byT ms) (Ln ms) (skT (byT ms) (Ln ms) (posT (byT ms) (Ln ms) n))).2
    omega
end
