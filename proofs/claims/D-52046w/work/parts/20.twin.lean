/-! THE TWIN: its object and its 24 arrays as one picture TW of a state (numbers by field, int arrays by field, long arrays by field). -/
section
set_option maxRecDepth 100000
def twF (b : Nat) (ms : tM) : List Value := [.int (ms.1 0), .ref (b + 1), .int (ms.1 2), .int (ms.1 3), .ref (b + 2), .ref (b + 3), .ref (b + 4), .int (ms.1 7), .int (ms.1 8), .ref (b + 5), .ref (b + 6), .ref (b + 7), .ref (b + 8), .ref (b + 9), .ref (b + 10), .ref (b + 11), .ref (b + 12), .int (ms.1 17), .int (ms.1 18), .int (ms.1 19), .ref (b + 13), .ref (b + 14), .ref (b + 15), .ref (b + 16), .ref (b + 17), .ref (b + 18), .ref (b + 19), .int (ms.1 27), .int (ms.1 28), .int (ms.1 29), .ref (b + 20), .ref (b + 21), .ref (b + 22), .int (ms.1 33), .int (ms.1 34), .ref (b + 23), .ref (b + 24), .int (ms.1 37), .int (ms.1 38), .int (ms.1 39), .int (ms.1 40)]
/-- the arrays: field, place behind the object, length, long or int -/
def twT : List (Nat × Nat × Nat × Bool) := [(1, 1, 1800, false), (4, 2, 1801, false), (5, 3, 1801, false), (6, 4, 1801, false), (9, 5, 1203, false), (10, 6, 1203, false), (11, 7, 1203, false), (12, 8, 1203, false), (13, 9, 1203, false), (14, 10, 1203, false), (15, 11, 1203, false), (16, 12, 144360, true), (20, 13, 44, true), (21, 14, 44, false), (22, 15, 44, false), (23, 16, 4, false), (24, 17, 8, true), (25, 18, 48, false), (26, 19, 12, false), (30, 20, 120, false), (31, 21, 960, true), (32, 22, 8, true), (35, 23, 120, false), (36, 24, 960, true)]
def twC (ms : tM) (q : Nat × Nat × Nat × Bool) : hE := if q.2.2.2 = true then har 1 q.2.2.1 (fun j => .long (ms.2.2 q.1 j)) else har 0 q.2.2.1 (fun j => .int (ms.2.1 q.1 j))
def TW (b : Nat) (h : hH) (ms : tM) : Prop := h.2 b = some (hob 1 (twF b ms)) ∧ ∀ q : Nat × Nat × Nat × Bool, q ∈ twT → h.2 (b + q.2.1) = some (twC ms q)
def TS (b : Nat) : Nat → Prop := fun q => b ≤ q ∧ q < b + 25
/-- the frame: of what stood in h, all but S stands in h' as it was -/
def Fr (S : Nat → Prop) (h h' : hH) : Prop := h.1 ≤ h'.1 ∧ ∀ q : Nat, q < h.1 → ¬ S q → h'.2 q = h.2 q
theorem Fr.rf {S : Nat → Prop} {h : hH} : Fr S h h := ⟨Nat.le_refl _, fun _ _ _ => rfl⟩
theorem Fr.trans {S : Nat → Prop} {h h1 h2 : hH} (a : Fr S h h1) (c : Fr S h1 h2) : Fr S h h2 := ⟨Nat.le_trans a.1 c.1, fun q hq hs => (c.2 q (Nat.lt_of_lt_of_le hq a.1) hs).trans (a.2 q hq hs)⟩
theorem Fr.mono {S S' : Nat → Prop} {h h' : hH} (a : Fr S h h') (hs : ∀ q, S q → S' q) : Fr S' h h' := ⟨a.1, fun q hq hn => a.2 q hq (fun z => hn (hs q z))⟩
theorem Fr.set {S : Nat → Prop} {h : hH} {a : Nat} {e : hE} (ha : S a) : Fr S h (hset h a e) := ⟨Nat.le_refl _, fun q _ hn => by simp only [hset]; rw [if_neg (fun z => hn (by rw [z]; exact ha))]⟩
theorem Fr.new {S : Nat → Prop} {h : hH} {e : hE} : Fr S h (hnew h e) := ⟨Nat.le_succ _, fun q hq _ => by simp only [hnew]; rw [if_neg (by omega)]⟩
theorem twT_in : ∀ q : Nat × Nat × Nat × Bool, q ∈ twT → 0 < q.2.1 ∧ q.2.1 < 25 := by decide +kernel
theorem twT_ne : ∀ q : Nat × Nat × Nat × Bool, q ∈ twT → ∀ q' : Nat × Nat × Nat × Bool, q' ∈ twT → q.1 = q'.1 ∨ q.2.1 ≠ q'.2.1 := by decide +kernel
theorem twT_eq : ∀ q : Nat × Nat × Nat × Bool, q ∈ twT → ∀ q' : Nat × Nat × Nat × Bool, q' ∈ twT → q.1 ≠ q'.1 ∨ q = q' := by decide +kernel
theorem TW.putS {b : Nat} {h : hH} {ms : tM} (hT : TW b h ms) {k : Nat} {v : Int32} (hk : (twF b ms).set k (.int v) = twF b (tS ms k v)) : TW b (hset h b (hob 1 ((twF b ms).set k (.int v)))) (tS ms k v) := by
  refine ⟨by simp only [hset, if_pos]; rw [hk], fun q hq => ?_⟩
  have := (twT_in q hq).1
  simp only [hset]
  rw [if_neg (by omega)]
  exact hT.2 q hq
theorem TW.putI {b : Nat} {h : hH} {ms : tM} (hT : TW b h ms) {k r n : Nat} (hq : (k, r, n, false) ∈ twT) (j : Nat) (v : Int32) : TW b (hset h (b + r) (har 0 n (fun i => .int (upd (ms.2.1 k) j v i)))) (tI ms k j v) := by
  have h0 : 0 < r := (twT_in _ hq).1
  refine ⟨?_, fun q hq' => ?_⟩
  · simp only [hset]
    rw [if_neg (by omega)]
    exact hT.1
  · by_cases e : q.1 = k
    · rcases twT_eq q hq' _ hq with e2 | e2
      · exact absurd e e2
      · subst e2
        simp [hset, twC, tI]
    · rcases twT_ne q hq' _ hq with e2 | e2
      · exact absurd e2 e
      · simp only [hset]
        rw [if_neg (by simp at e2; omega), hT.2 q hq']
        simp [twC, tI, e]
theorem TW.putL {b : Nat} {h : hH} {ms : tM} (hT : TW b h ms) {k r n : Nat} (hq : (k, r, n, true) ∈ twT) (j : Nat) (v : Int64) : TW b (hset h (b + r) (har 1 n (fun i => .long (vp_updL (ms.2.2 k) j v i)))) (tL ms k j v) := by
  have h0 : 0 < r := (twT_in _ hq).1
  refine ⟨?_, fun q hq' => ?_⟩
  · simp only [hset]
    rw [if_neg (by omega)]
    exact hT.1
  · by_cases e : q.1 = k
    · rcases twT_eq q hq' _ hq with e2 | e2
      · exact absurd e e2
      · subst e2
        simp [hset, twC, tL]
    · rcases twT_ne q hq' _ hq with e2 | e2
      · exact absurd e2 e
      · simp only [hset]
        rw [if_neg (by simp at e2; omega), hT.2 q hq']
        simp [twC, tL, e]
theorem TW.kept {b : Nat} {h h' : hH} {ms : tM} {S : Nat → Prop} (hT : TW b h ms) (hF : Fr S h h') (hlt : b + 25 ≤ h.1) (hS : ∀ q, S q → ¬ TS b q) : TW b h' ms := by
  refine ⟨?_, fun q hq => ?_⟩
  · rw [hF.2 b (by omega) (fun z => hS b z ⟨Nat.le_refl _, by omega⟩)]; exact hT.1
  · have h0 := twT_in q hq
    rw [hF.2 (b + q.2.1) (by omega) (fun z => hS _ z ⟨by omega, by omega⟩)]; exact hT.2 q hq
theorem updV_int (g : Nat → Int32) (j : Nat) (x : Int32) : updV (fun i => .int (g i)) j (.int x) = fun i => .int (upd g j x i) := by
  funext i
  by_cases h : i = j <;> simp [updV, upd, h]
theorem updV_long (g : Nat → Int64) (j : Nat) (x : Int64) : updV (fun i => .long (g i)) j (.long x) = fun i => .long (vp_updL g j x i) := by
  funext i
  by_cases h : i = j <;> simp [updV, vp_updL, h]
theorem TW.m1 : (1, 1, 1800, false) ∈ twT := List.mem_of_getElem? (i := 0) rfl
theorem TW.a1 {b : Nat} {h : hH} {ms : tM} (hT : TW b h ms) : h.2 (b + 1) = some (har 0 1800 (fun j => .int (ms.2.1 1 j))) := hT.2 _ TW.m1
theorem TW.m4 : (4, 2, 1801, false) ∈ twT := List.mem_of_getElem? (i := 1) rfl
theorem TW.a4 {b : Nat} {h : hH} {ms : tM} (hT : TW b h ms) : h.2 (b + 2) = some (har 0 1801 (fun j => .int (ms.2.1 4 j))) := hT.2 _ TW.m4
theorem TW.m5 : (5, 3, 1801, false) ∈ twT := List.mem_of_getElem? (i := 2) rfl
theorem TW.a5 {b : Nat} {h : hH} {ms : tM} (hT : TW b h ms) : h.2 (b + 3) = some (har 0 1801 (fun j => .int (ms.2.1 5 j))) := hT.2 _ TW.m5
theorem TW.m6 : (6, 4, 1801, false) ∈ twT := List.mem_of_getElem? (i := 3) rfl
theorem TW.a6 {b : Nat} {h : hH} {ms : tM} (hT : TW b h ms) : h.2 (b + 4) = some (har 0 1801 (fun j => .int (ms.2.1 6 j))) := hT.2 _ TW.m6
theorem TW.m9 : (9, 5, 1203, false) ∈ twT := List.mem_of_getElem? (i := 4) rfl
theorem TW.a9 {b : Nat} {h : hH} {ms : tM} (hT : TW b h ms) : h.2 (b + 5) = some (har 0 1203 (fun j => .int (ms.2.1 9 j))) := hT.2 _ TW.m9
theorem TW.m10 : (10, 6, 1203, false) ∈ twT := List.mem_of_getElem? (i := 5) rfl
theorem TW.a10 {b : Nat} {h : hH} {ms : tM} (hT : TW b h ms) : h.2 (b + 6) = some (har 0 1203 (fun j => .int (ms.2.1 10 j))) := hT.2 _ TW.m10
theorem TW.m11 : (11, 7, 1203, false) ∈ twT := List.mem_of_getElem? (i := 6) rfl
theorem TW.a11 {b : Nat} {h : hH} {ms : tM} (hT : TW b h ms) : h.2 (b + 7) = some (har 0 1203 (fun j => .int (ms.2.1 11 j))) := hT.2 _ TW.m11
theorem TW.m12 : (12, 8, 1203, false) ∈ twT := List.mem_of_getElem? (i := 7) rfl
theorem TW.a12 {b : Nat} {h : hH} {ms : tM} (hT : TW b h ms) : h.2 (b + 8) = some (har 0 1203 (fun j => .int (ms.2.1 12 j))) := hT.2 _ TW.m12
theorem TW.m13 : (13, 9, 1203, false) ∈ twT := List.mem_of_getElem? (i := 8) rfl
theorem TW.a13 {b : Nat} {h : hH} {ms : tM} (hT : TW b h ms) : h.2 (b + 9) = some (har 0 1203 (fun j => .int (ms.2.1 13 j))) := hT.2 _ TW.m13
theorem TW.m14 : (14, 10, 1203, false) ∈ twT := List.mem_of_getElem? (i := 9) rfl
theorem TW.a14 {b : Nat} {h : hH} {ms : tM} (hT : TW b h ms) : h.2 (b + 10) = some (har 0 1203 (fun j => .int (ms.2.1 14 j))) := hT.2 _ TW.m14
theorem TW.m15 : (15, 11, 1203, false) ∈ twT := List.mem_of_getElem? (i := 10) rfl
theorem TW.a15 {b : Nat} {h : hH} {ms : tM} (hT : TW b h ms) : h.2 (b + 11) = some (har 0 1203 (fun j => .int (ms.2.1 15 j))) := hT.2 _ TW.m15
theorem TW.m16 : (16, 12, 144360, true) ∈ twT := List.mem_of_getElem? (i := 11) rfl
theorem TW.a16 {b : Nat} {h : hH} {ms : tM} (hT : TW b h ms) : h.2 (b + 12) = some (har 1 144360 (fun j => .long (ms.2.2 16 j))) := hT.2 _ TW.m16
theorem TW.m20 : (20, 13, 44, true) ∈ twT := List.mem_of_getElem? (i := 12) rfl
theorem TW.a20 {b : Nat} {h : hH} {ms : tM} (hT : TW b h ms) : h.2 (b + 13) = some (har 1 44 (fun j => .long (ms.2.2 20 j))) := hT.2 _ TW.m20
theorem TW.m21 : (21, 14, 44, false) ∈ twT := List.mem_of_getElem? (i := 13) rfl
theorem TW.a21 {b : Nat} {h : hH} {ms : tM} (hT : TW b h ms) : h.2 (b + 14) = some (har 0 44 (fun j => .int (ms.2.1 21 j))) := hT.2 _ TW.m21
theorem TW.m22 : (22, 15, 44, false) ∈ twT := List.mem_of_getElem? (i := 14) rfl
theorem TW.a22 {b : Nat} {h : hH} {ms : tM} (hT : TW b h ms) : h.2 (b + 15) = some (har 0 44 (fun j => .int (ms.2.1 22 j))) := hT.2 _ TW.m22
theorem TW.m23 : (23, 16, 4, false) ∈ twT := List.mem_of_getElem? (i := 15) rfl
theorem TW.a23 {b : Nat} {h : hH} {ms : tM} (hT : TW b h ms) : h.2 (b + 16) = some (har 0 4 (fun j => .int (ms.2.1 23 j))) := hT.2 _ TW.m23
theorem TW.m24 : (24, 17, 8, true) ∈ twT := List.mem_of_getElem? (i := 16) rfl
theorem TW.a24 {b : Nat} {h : hH} {ms : tM} (hT : TW b h ms) : h.2 (b + 17) = some (har 1 8 (fun j => .long (ms.2.2 24 j))) := hT.2 _ TW.m24
theorem TW.m25 : (25, 18, 48, false) ∈ twT := List.mem_of_getElem? (i := 17) rfl
theorem TW.a25 {b : Nat} {h : hH} {ms : tM} (hT : TW b h ms) : h.2 (b + 18) = some (har 0 48 (fun j => .int (ms.2.1 25 j))) := hT.2 _ TW.m25
theorem TW.m26 : (26, 19, 12, false) ∈ twT := List.mem_of_getElem? (i := 18) rfl
theorem TW.a26 {b : Nat} {h : hH} {ms : tM} (hT : TW b h ms) : h.2 (b + 19) = some (har 0 12 (fun j => .int (ms.2.1 26 j))) := hT.2 _ TW.m26
theorem TW.m30 : (30, 20, 120, false) ∈ twT := List.mem_of_getElem? (i := 19) rfl
theorem TW.a30 {b : Nat} {h : hH} {ms : tM} (hT : TW b h ms) : h.2 (b + 20) = some (har 0 120 (fun j => .int (ms.2.1 30 j))) := hT.2 _ TW.m30
theorem TW.m31 : (31, 21, 960, true) ∈ twT := List.mem_of_getElem? (i := 20) rfl
theorem TW.a31 {b : Nat} {h : hH} {ms : tM} (hT : TW b h ms) : h.2 (b + 21) = some (har 1 960 (fun j => .long (ms.2.2 31 j))) := hT.2 _ TW.m31
theorem TW.m32 : (32, 22, 8, true) ∈ twT := List.mem_of_getElem? (i := 21) rfl
theorem TW.a32 {b : Nat} {h : hH} {ms : tM} (hT : TW b h ms) : h.2 (b + 22) = some (har 1 8 (fun j => .long (ms.2.2 32 j))) := hT.2 _ TW.m32
theorem TW.m35 : (35, 23, 120, false) ∈ twT := List.mem_of_getElem? (i := 22) rfl
theorem TW.a35 {b : Nat} {h : hH} {ms : tM} (hT : TW b h ms) : h.2 (b + 23) = some (har 0 120 (fun j => .int (ms.2.1 35 j))) := hT.2 _ TW.m35
theorem TW.m36 : (36, 24, 960, true) ∈ twT := List.mem_of_getElem? (i := 23) rfl
theorem TW.a36 {b : Nat} {h : hH} {ms : tM} (hT : TW b h ms) : h.2 (b + 24) = some (har 1 960 (fun j => .long (ms.2.2 36 j))) := hT.2 _ TW.m36
variable {G : aG} {K : aK} {P : aP} {pc n : Nat} {lv lv' : List (Nat × Value)} {st st' : List Value} {h h' : hH} {ce sl : Nat}
theorem aw_tput {idx b k : Nat} {ms : tM} {v : Int32} {ty : FieldType} (hd : decode K.2.1 pc = .ok (.putfield idx, 3)) (hlink : Cond.fieldLink K.1.cls idx RX3 (TX3 k).2.1 (TX3 k).2.2.1 ∈ lw_all) (hk : k < 41) (hr : (TX3 k).1 = RX3) (hfin : (TX3 k).2.2.2 = false) (ht : parseFieldDescriptor (TX3 k).2.2.1 = some ty) (hw : narrow ty (.int v) = .int v) (hv : fits ty (.int v) = true) (hT : TW b h ms) (hb : gB G ≤ b) (hs : (twF b ms).set k (.int v) = twF b (tS ms k v)) (hn : pc + 3 = n)
    (kk : ∀ h1 : hH, TW b h1 (tS ms k v) → Fr (TS b) h h1 → h1.1 = h.1 → AW G K P n lv st h1 ce sl) : AW G K P pc lv (.int v :: .ref b :: st) h ce sl :=
  aw_putf (C0 := RX3) (T := TX3) (N := 41) (ci := 1) hd rfl in_X3 tyX3 tyX3_ok nmX3 q2635 k hk hlink (Or.inl hr) (Or.inl hfin) ht hT.1 hb hw hv hk hn (kk _ (hT.putS hs) (Fr.set ⟨Nat.le_refl _, by omega⟩) rfl)
theorem aw_tiast {b k r N : Nat} {ms : tM} {i x : Int32} (hd : decode K.2.1 pc = .ok (.iastore, 1)) (hq : (k, r, N, false) ∈ twT) (hT : TW b h ms) (hb : gB G ≤ b) (j : Nat) (hi : i = nI j) (hj : j < N) (h31 : N < 2 ^ 31) (hn : pc + 1 = n)
    (kk : ∀ h1 : hH, TW b h1 (tI ms k j x) → Fr (TS b) h h1 → h1.1 = h.1 → AW G K P n lv st h1 ce sl) : AW G K P pc lv (.int x :: .int i :: .ref (b + r) :: st) h ce sl :=
  aw_iast hd rfl j hi (hT.2 _ hq) (by omega) hj h31 (updV_int _ _ _) hn (kk _ (hT.putI hq j x) (Fr.set ⟨by omega, by have := (twT_in _ hq).2; simp at this; omega⟩) rfl)
theorem aw_tlast {b k r N : Nat} {ms : tM} {i : Int32} {x : Int64} (hd : decode K.2.1 pc = .ok (.lastore, 1)) (hq : (k, r, N, true) ∈ twT) (hT : TW b h ms) (hb : gB G ≤ b) (j : Nat) (hi : i = nI j) (hj : j < N) (h31 : N < 2 ^ 31) (hn : pc + 1 = n)
    (kk : ∀ h1 : hH, TW b h1 (tL ms k j x) → Fr (TS b) h h1 → h1.1 = h.1 → AW G K P n lv st h1 ce sl) : AW G K P pc lv (.long x :: .int i :: .ref (b + r) :: st) h ce sl :=
  aw_last hd rfl j hi (hT.2 _ hq) (by omega) hj h31 (updV_long _ _ _) hn (kk _ (hT.putL hq j x) (Fr.set ⟨by omega, by have := (twT_in _ hq).2; simp at this; omega⟩) rfl)
end
