/-! The twin: its constructor. -/
section
set_option maxRecDepth 100000
def twN : List Value := [.int 0, .null, .int 0, .int 0, .null, .null, .null, .int 0, .int 0, .null, .null, .null, .null, .null, .null, .null, .null, .int 0, .int 0, .int 0, .null, .null, .null, .null, .null, .null, .null, .int 0, .int 0, .int 0, .null, .null, .null, .int 0, .int 0, .null, .null, .int 0, .int 0, .int 0, .int 0]
def zM : tM := (fun _ => 0, fun _ _ => 0, fun _ _ => 0)
def iM : tM := tS (tS zM 3 (-1)) 28 (-1)
def zA (i : Nat) : Option hE := (twT[i - 1]?).map (twC zM)
def cHp (h : hH) (b : Nat) (fs : List Value) (n : Nat) : hH := (b + 1 + n, fun q => if q = b then some (hob 1 fs) else if b < q ∧ q ≤ b + n then zA (q - b) else h.2 q)
theorem cHp_0 {h : hH} {b : Nat} {fs : List Value} (h1 : h.1 = b + 1) (h2 : h.2 b = some (hob 1 fs)) : cHp h b fs 0 = h := by
  refine Prod.ext h1.symm (funext fun q => ?_)
  show (if q = b then some (hob 1 fs) else if b < q ∧ q ≤ b + 0 then zA (q - b) else h.2 q) = h.2 q
  by_cases e : q = b
  · rw [if_pos e, e]; exact h2.symm
  · rw [if_neg e, if_neg (by omega)]
theorem cHp_b {h : hH} {b n : Nat} {fs : List Value} : (cHp h b fs n).2 b = some (hob 1 fs) := if_pos rfl
theorem cHp_new {h : hH} {b n : Nat} {fs : List Value} {e : hE} (he : zA (n + 1) = some e) : hnew (cHp h b fs n) e = cHp h b fs (n + 1) := by
  refine Prod.ext rfl (funext fun q => ?_)
  show (if q = b + 1 + n then some e else if q = b then some (hob 1 fs) else if b < q ∧ q ≤ b + n then zA (q - b) else h.2 q) = (if q = b then some (hob 1 fs) else if b < q ∧ q ≤ b + (n + 1) then zA (q - b) else h.2 q)
  by_cases e1 : q = b + 1 + n
  · rw [if_pos e1, if_neg (by omega), if_pos (by omega), show q - b = n + 1 by omega, he]
  · rw [if_neg e1]
    by_cases e2 : q = b
    · rw [if_pos e2, if_pos e2]
    · rw [if_neg e2, if_neg e2]
      by_cases e3 : b < q ∧ q ≤ b + n
      · rw [if_pos e3, if_pos (by omega)]
      · rw [if_neg e3, if_neg (by omega)]
theorem cHp_put {h : hH} {b n : Nat} {fs fs' fs2 : List Value} (e : fs2 = fs') : hset (cHp h b fs n) b (hob 1 fs2) = cHp h b fs' n := by
  subst e
  refine Prod.ext rfl (funext fun q => ?_)
  show (if q = b then some (hob 1 fs2) else if q = b then some (hob 1 fs) else if b < q ∧ q ≤ b + n then zA (q - b) else h.2 q) = (if q = b then some (hob 1 fs2) else if b < q ∧ q ≤ b + n then zA (q - b) else h.2 q)
  by_cases e1 : q = b
  · rw [if_pos e1, if_pos e1]
  · rw [if_neg e1, if_neg e1, if_neg e1]
theorem twT_pos : ∀ q : Nat × Nat × Nat × Bool, q ∈ twT → twT[q.2.1 - 1]? = some q ∧ 0 < q.2.1 ∧ q.2.1 ≤ 24 := by decide +kernel
theorem cHp_TW {h : hH} {b : Nat} : TW b (cHp h b (twF b iM) 24) iM := by
  refine ⟨cHp_b, fun q hq => ?_⟩
  obtain ⟨h1, h2, h3⟩ := twT_pos q hq
  show (if b + q.2.1 = b then some (hob 1 (twF b iM)) else if b < b + q.2.1 ∧ b + q.2.1 ≤ b + 24 then zA (b + q.2.1 - b) else h.2 (b + q.2.1)) = some (twC iM q)
  rw [if_neg (by omega), if_pos (by omega), show b + q.2.1 - b = q.2.1 by omega, zA, h1]
  rfl
theorem cHp_Fr {h : hH} {b n : Nat} {fs : List Value} (h1 : h.1 = b + 1) (hn : n < 25) : Fr (TS b) h (cHp h b fs n) := by
  refine ⟨by show h.1 ≤ b + 1 + n; omega, fun q hq hs => ?_⟩
  have h9 : q < b := Nat.lt_of_not_le fun z => hs ⟨z, by omega⟩
  show (if q = b then some (hob 1 fs) else if b < q ∧ q ≤ b + n then zA (q - b) else h.2 q) = h.2 q
  rw [if_neg (by omega), if_neg (by omega)]
abbrev kX3_init : aK := (yX3_init, cX3_init, 1, (Option.none : Option Jvm.ClassFile.FieldType), [])
theorem hcX3_init : kX3_init.1.cls ≠ "java/lang/invoke/MethodHandle" ∧ kX3_init.1.cls ≠ "java/lang/invoke/VarHandle" ∧ (parseMethodDescriptor kX3_init.1.desc).map (fun d => d.parameters.length) = some 0 := ⟨by decide, by decide, by decide +kernel⟩
theorem ct_init (G : aG) (h : hH) (b : Nat) (hb : gB G ≤ b) (hb1 : h.1 = b + 1) (hT0 : h.2 b = some (hob 1 twN)) : Con G kX3_init [.ref b] h ((1, 20, 24, 162356), (fun r h1 => r = none ∧ TW b h1 iM ∧ Fr (TS b) h h1 ∧ h1.1 = b + 25), nX) := by
  refine Con.of (plainFor_of_name rfl) rfl (Nat.le_of_ble_eq_true rfl) ?_
  refine AW.eq (lv2 := [(0, .ref b)]) (s2 := []) rfl rfl rfl rfl rfl ?_
  suffices H9 : AW G kX3_init ((1, 20, 24, 162356), (fun r h1 => r = none ∧ TW b h1 iM ∧ Fr (TS b) h h1 ∧ h1.1 = b + 25), nX) 0 [(0, .ref b)] [] (cHp h b twN 0) 0 0 by rw [cHp_0 hb1 hT0] at H9; exact H9
  show AW G kX3_init ((1, 20, 24, 162356), (fun r h1 => r = none ∧ TW b h1 iM ∧ Fr (TS b) h h1 ∧ h1.1 = b + 25), nX) 0 [(0, .ref b)] [] (cHp h b [.int 0, .null, .int 0, .int 0, .null, .null, .null, .int 0, .int 0, .null, .null, .null, .null, .null, .null, .null, .null, .int 0, .int 0, .int 0, .null, .null, .null, .null, .null, .null, .null, .int 0, .int 0, .int 0, .null, .null, .null, .int 0, .int 0, .null, .null, .int 0, .int 0, .int 0, .int 0] 0) 0 0
  refine aw_aload_n (n := 1) dX3_init_0 rfl 0 rfl rfl ?_
  refine aw_objInit (n := 4) dX3_init_1 q2639 ⟨Nat.le_of_ble_eq_true rfl, Nat.le_of_ble_eq_true rfl⟩ rfl ?_
  refine aw_aload_n (n := 5) dX3_init_4 rfl 0 rfl rfl ?_
  refine aw_sipush (n := 8) (v := 1800) dX3_init_5 (by decide) rfl ?_
  refine aw_newa (n := 10) (ti := 0) (N := 1800) (v := .int 0) dX3_init_8 rfl rfl rfl q314 rfl (by rfl) (by decide) (by decide) (Nat.le_of_ble_eq_true rfl) (Nat.le_of_ble_eq_true rfl) rfl ?_
  rw [cHp_new (by rfl)]
  refine AW.sts (st' := [.ref (b + 1), .ref b]) (congrArg (fun z => [Value.ref z, Value.ref b]) (by show b + 1 + 0 = b + 1; omega)) ?_
  refine aw_putf (n := 13) (C0 := RX3) (T := TX3) (N := 41) (ci := 1) dX3_init_10 rfl in_X3 tyX3 tyX3_ok nmX3 q2635 1 (by decide) q2642 (Or.inl rfl) (by first | exact Or.inl rfl | exact Or.inr ⟨rfl, rfl, rfl⟩) rfl cHp_b hb rfl rfl (Nat.le_of_ble_eq_true rfl) rfl ?_
  rw [cHp_put (fs2 := ([.int 0, .null, .int 0, .int 0, .null, .null, .null, .int 0, .int 0, .null, .null, .null, .null, .null, .null, .null, .null, .int 0, .int 0, .int 0, .null, .null, .null, .null, .null, .null, .null, .int 0, .int 0, .int 0, .null, .null, .null, .int 0, .int 0, .null, .null, .int 0, .int 0, .int 0, .int 0]).set 1 (.ref (b + 1))) (fs' := [.int 0, .ref (b + 1), .int 0, .int 0, .null, .null, .null, .int 0, .int 0, .null, .null, .null, .null, .null, .null, .null, .null, .int 0, .int 0, .int 0, .null, .null, .null, .null, .null, .null, .null, .int 0, .int 0, .int 0, .null, .null, .null, .int 0, .int 0, .null, .null, .int 0, .int 0, .int 0, .int 0]) rfl]
  refine aw_aload_n (n := 14) dX3_init_13 rfl 0 rfl rfl ?_
  refine aw_iconst (n := 15) (v := (-1)) dX3_init_14 (by decide) rfl ?_
  refine aw_putf (n := 18) (C0 := RX3) (T := TX3) (N := 41) (ci := 1) dX3_init_15 rfl in_X3 tyX3 tyX3_ok nmX3 q2635 3 (by decide) q2644 (Or.inl rfl) (by first | exact Or.inl rfl | exact Or.inr ⟨rfl, rfl, rfl⟩) rfl cHp_b hb rfl rfl (Nat.le_of_ble_eq_true rfl) rfl ?_
  rw [cHp_put (fs2 := ([.int 0, .ref (b + 1), .int 0, .int 0, .null, .null, .null, .int 0, .int 0, .null, .null, .null, .null, .null, .null, .null, .null, .int 0, .int 0, .int 0, .null, .null, .null, .null, .null, .null, .null, .int 0, .int 0, .int 0, .null, .null, .null, .int 0, .int 0, .null, .null, .int 0, .int 0, .int 0, .int 0]).set 3 (.int (-1))) (fs' := [.int 0, .ref (b + 1), .int 0, .int (-1), .null, .null, .null, .int 0, .int 0, .null, .null, .null, .null, .null, .null, .null, .null, .int 0, .int 0, .int 0, .null, .null, .null, .null, .null, .null, .null, .int 0, .int 0, .int 0, .null, .null, .null, .int 0, .int 0, .null, .null, .int 0, .int 0, .int 0, .int 0]) rfl]
  refine aw_aload_n (n := 19) dX3_init_18 rfl 0 rfl rfl ?_
  refine aw_sipush (n := 22) (v := 1801) dX3_init_19 (by decide) rfl ?_
  refine aw_newa (n := 24) (ti := 0) (N := 1801) (v := .int 0) dX3_init_22 rfl rfl rfl q314 rfl (by rfl) (by decide) (by decide) (Nat.le_of_ble_eq_true rfl) (Nat.le_of_ble_eq_true rfl) rfl ?_
  rw [cHp_new (by rfl)]
  refine AW.sts (st' := [.ref (b + 2), .ref b]) (congrArg (fun z => [Value.ref z, Value.ref b]) (by show b + 1 + 1 = b + 2; omega)) ?_
  refine aw_putf (n := 27) (C0 := RX3) (T := TX3) (N := 41) (ci := 1) dX3_init_24 rfl in_X3 tyX3 tyX3_ok nmX3 q2635 4 (by decide) q2645 (Or.inl rfl) (by first | exact Or.inl rfl | exact Or.inr ⟨rfl, rfl, rfl⟩) rfl cHp_b hb rfl rfl (Nat.le_of_ble_eq_true rfl) rfl ?_
  rw [cHp_put (fs2 := ([.int 0, .ref (b + 1), .int 0, .int (-1), .null, .null, .null, .int 0, .int 0, .null, .null, .null, .null, .null, .null, .null, .null, .int 0, .int 0, .int 0, .null, .null, .null, .null, .null, .null, .null, .int 0, .int 0, .int 0, .null, .null, .null, .int 0, .int 0, .null, .null, .int 0, .int 0, .int 0, .int 0]).set 4 (.ref (b + 2))) (fs' := [.int 0, .ref (b + 1), .int 0, .int (-1), .ref (b + 2), .null, .null, .int 0, .int 0, .null, .null, .null, .null, .null, .null, .null, .null, .int 0, .int 0, .int 0, .null, .null, .null, .null, .null, .null, .null, .int 0, .int 0, .int 0, .null, .null, .null, .int 0, .int 0, .null, .null, .int 0, .int 0, .int 0, .int 0]) rfl]
  refine aw_aload_n (n := 28) dX3_init_27 rfl 0 rfl rfl ?_
  refine aw_sipush (n := 31) (v := 1801) dX3_init_28 (by decide) rfl ?_
  refine aw_newa (n := 33) (ti := 0) (N := 1801) (v := .int 0) dX3_init_31 rfl rfl rfl q314 rfl (by rfl) (by decide) (by decide) (Nat.le_of_ble_eq_true rfl) (Nat.le_of_ble_eq_true rfl) rfl ?_
  rw [cHp_new (by rfl)]
  refine AW.sts (st' := [.ref (b + 3), .ref b]) (congrArg (fun z => [Value.ref z, Value.ref b]) (by show b + 1 + 2 = b + 3; omega)) ?_
  refine aw_putf (n := 36) (C0 := RX3) (T := TX3) (N := 41) (ci := 1) dX3_init_33 rfl in_X3 tyX3 tyX3_ok nmX3 q2635 5 (by decide) q2646 (Or.inl rfl) (by first | exact Or.inl rfl | exact Or.inr ⟨rfl, rfl, rfl⟩) rfl cHp_b hb rfl rfl (Nat.le_of_ble_eq_true rfl) rfl ?_
  rw [cHp_put (fs2 := ([.int 0, .ref (b + 1), .int 0, .int (-1), .ref (b + 2), .null, .null, .int 0, .int 0, .null, .null, .null, .null, .null, .null, .null, .null, .int 0, .int 0, .int 0, .null, .null, .null, .null, .null, .null, .null, .int 0, .int 0, .int 0, .null, .null, .null, .int 0, .int 0, .null, .null, .int 0, .int 0, .int 0, .int 0]).set 5 (.ref (b + 3))) (fs' := [.int 0, .ref (b + 1), .int 0, .int (-1), .ref (b + 2), .ref (b + 3), .null, .int 0, .int 0, .null, .null, .null, .null, .null, .null, .null, .null, .int 0, .int 0, .int 0, .null, .null, .null, .null, .null, .null, .null, .int 0, .int 0, .int 0, .null, .null, .null, .int 0, .int 0, .null, .null, .int 0, .int 0, .int 0, .int 0]) rfl]
  refine aw_aload_n (n := 37) dX3_init_36 rfl 0 rfl rfl ?_
  refine aw_sipush (n := 40) (v := 1801) dX3_init_37 (by decide) rfl ?_
  refine aw_newa (n := 42) (ti := 0) (N := 1801) (v := .int 0) dX3_init_40 rfl rfl rfl q314 rfl (by rfl) (by decide) (by decide) (Nat.le_of_ble_eq_true rfl) (Nat.le_of_ble_eq_true rfl) rfl ?_
  rw [cHp_new (by rfl)]
  refine AW.sts (st' := [.ref (b + 4), .ref b]) (congrArg (fun z => [Value.ref z, Value.ref b]) (by show b + 1 + 3 = b + 4; omega)) ?_
  refine aw_putf (n := 45) (C0 := RX3) (T := TX3) (N := 41) (ci := 1) dX3_init_42 rfl in_X3 tyX3 tyX3_ok nmX3 q2635 6 (by decide) q2647 (Or.inl rfl) (by first | exact Or.inl rfl | exact Or.inr ⟨rfl, rfl, rfl⟩) rfl cHp_b hb rfl rfl (Nat.le_of_ble_eq_true rfl) rfl ?_
  rw [cHp_put (fs2 := ([.int 0, .ref (b + 1), .int 0, .int (-1), .ref (b + 2), .ref (b + 3), .null, .int 0, .int 0, .null, .null, .null, .null, .null, .null, .null, .null, .int 0, .int 0, .int 0, .null, .null, .null, .null, .null, .null, .null, .int 0, .int 0, .int 0, .null, .null, .null, .int 0, .int 0, .null, .null, .int 0, .int 0, .int 0, .int 0]).set 6 (.ref (b + 4))) (fs' := [.int 0, .ref (b + 1), .int 0, .int (-1), .ref (b + 2), .ref (b + 3), .ref (b + 4), .int 0, .int 0, .null, .null, .null, .null, .null, .null, .null, .null, .int 0, .int 0, .int 0, .null, .null, .null, .null, .null, .null, .null, .int 0, .int 0, .int 0, .null, .null, .null, .int 0, .int 0, .null, .null, .int 0, .int 0, .int 0, .int 0]) rfl]
  refine aw_aload_n (n := 46) dX3_init_45 rfl 0 rfl rfl ?_
  refine aw_sipush (n := 49) (v := 1203) dX3_init_46 (by decide) rfl ?_
  refine aw_newa (n := 51) (ti := 0) (N := 1203) (v := .int 0) dX3_init_49 rfl rfl rfl q314 rfl (by rfl) (by decide) (by decide) (Nat.le_of_ble_eq_true rfl) (Nat.le_of_ble_eq_true rfl) rfl ?_
  rw [cHp_new (by rfl)]
  refine AW.sts (st' := [.ref (b + 5), .ref b]) (congrArg (fun z => [Value.ref z, Value.ref b]) (by show b + 1 + 4 = b + 5; omega)) ?_
  refine aw_putf (n := 54) (C0 := RX3) (T := TX3) (N := 41) (ci := 1) dX3_init_51 rfl in_X3 tyX3 tyX3_ok nmX3 q2635 9 (by decide) q2650 (Or.inl rfl) (by first | exact Or.inl rfl | exact Or.inr ⟨rfl, rfl, rfl⟩) rfl cHp_b hb rfl rfl (Nat.le_of_ble_eq_true rfl) rfl ?_
  rw [cHp_put (fs2 := ([.int 0, .ref (b + 1), .int 0, .int (-1), .ref (b + 2), .ref (b + 3), .ref (b + 4), .int 0, .int 0, .null, .null, .null, .null, .null, .null, .null, .null, .int 0, .int 0, .int 0, .null, .null, .null, .null, .null, .null, .null, .int 0, .int 0, .int 0, .null, .null, .null, .int 0, .int 0, .null, .null, .int 0, .int 0, .int 0, .int 0]).set 9 (.ref (b + 5))) (fs' := [.int 0, .ref (b + 1), .int 0, .int (-1), .ref (b + 2), .ref (b + 3), .ref (b + 4), .int 0, .int 0, .ref (b + 5), .null, .null, .null, .null, .null, .null, .null, .int 0, .int 0, .int 0, .null, .null, .null, .null, .null, .null, .null, .int 0, .int 0, .int 0, .null, .null, .null, .int 0, .int 0, .null, .null, .int 0, .int 0, .int 0, .int 0]) rfl]
  refine aw_aload_n (n := 55) dX3_init_54 rfl 0 rfl rfl ?_
  refine aw_sipush (n := 58) (v := 1203) dX3_init_55 (by decide) rfl ?_
  refine aw_newa (n := 60) (ti := 0) (N := 1203) (v := .int 0) dX3_init_58 rfl rfl rfl q314 rfl (by rfl) (by decide) (by decide) (Nat.le_of_ble_eq_true rfl) (Nat.le_of_ble_eq_true rfl) rfl ?_
  rw [cHp_new (by rfl)]
  refine AW.sts (st' := [.ref (b + 6), .ref b]) (congrArg (fun z => [Value.ref z, Value.ref b]) (by show b + 1 + 5 = b + 6; omega)) ?_
  refine aw_putf (n := 63) (C0 := RX3) (T := TX3) (N := 41) (ci := 1) dX3_init_60 rfl in_X3 tyX3 tyX3_ok nmX3 q2635 10 (by decide) q2651 (Or.inl rfl) (by first | exact Or.inl rfl | exact Or.inr ⟨rfl, rfl, rfl⟩) rfl cHp_b hb rfl rfl (Nat.le_of_ble_eq_true rfl) rfl ?_
  rw [cHp_put (fs2 := ([.int 0, .ref (b + 1), .int 0, .int (-1), .ref (b + 2), .ref (b + 3), .ref (b + 4), .int 0, .int 0, .ref (b + 5), .null, .null, .null, .null, .null, .null, .null, .int 0, .int 0, .int 0, .null, .null, .null, .null, .null, .null, .null, .int 0, .int 0, .int 0, .null, .null, .null, .int 0, .int 0, .null, .null, .int 0, .int 0, .int 0, .int 0]).set 10 (.ref (b + 6))) (fs' := [.int 0, .ref (b + 1), .int 0, .int (-1), .ref (b + 2), .ref (b + 3), .ref (b + 4), .int 0, .int 0, .ref (b + 5), .ref (b + 6), .null, .null, .null, .null, .null, .null, .int 0, .int 0, .int 0, .null, .null, .null, .null, .null, .null, .null, .int 0, .int 0, .int 0, .null, .null, .null, .int 0, .int 0, .null, .null, .int 0, .int 0, .int 0, .int 0]) rfl]
  refine aw_aload_n (n := 64) dX3_init_63 rfl 0 rfl rfl ?_
  refine aw_sipush (n := 67) (v := 1203) dX3_init_64 (by decide) rfl ?_
  refine aw_newa (n := 69) (ti := 0) (N := 1203) (v := .int 0) dX3_init_67 rfl rfl rfl q314 rfl (by rfl) (by decide) (by decide) (Nat.le_of_ble_eq_true rfl) (Nat.le_of_ble_eq_true rfl) rfl ?_
  rw [cHp_new (by rfl)]
  refine AW.sts (st' := [.ref (b + 7), .ref b]) (congrArg (fun z => [Value.ref z, Value.ref b]) (by show b + 1 + 6 = b + 7; omega)) ?_
  refine aw_putf (n := 72) (C0 := RX3) (T := TX3) (N := 41) (ci := 1) dX3_init_69 rfl in_X3 tyX3 tyX3_ok nmX3 q2635 11 (by decide) q2652 (Or.inl rfl) (by first | exact Or.inl rfl | exact Or.inr ⟨rfl, rfl, rfl⟩) rfl cHp_b hb rfl rfl (Nat.le_of_ble_eq_true rfl) rfl ?_
  rw [cHp_put (fs2 := ([.int 0, .ref (b + 1), .int 0, .int (-1), .ref (b + 2), .ref (b + 3), .ref (b + 4), .int 0, .int 0, .ref (b + 5), .ref (b + 6), .null, .null, .null, .null, .null, .null, .int 0, .int 0, .int 0, .null, .null, .null, .null, .null, .null, .null, .int 0, .int 0, .int 0, .null, .null, .null, .int 0, .int 0, .null, .null, .int 0, .int 0, .int 0, .int 0]).set 11 (.ref (b + 7))) (fs' := [.int 0, .ref (b + 1), .int 0, .int (-1), .ref (b + 2), .ref (b + 3), .ref (b + 4), .int 0, .int 0, .ref (b + 5), .ref (b + 6), .ref (b + 7), .null, .null, .null, .null, .null, .int 0, .int 0, .int 0, .null, .null, .null, .null, .null, .null, .null, .int 0, .int 0, .int 0, .null, .null, .null, .int 0, .int 0, .null, .null, .int 0, .int 0, .int 0, .int 0]) rfl]
  refine aw_aload_n (n := 73) dX3_init_72 rfl 0 rfl rfl ?_
  refine aw_sipush (n := 76) (v := 1203) dX3_init_73 (by decide) rfl ?_
  refine aw_newa (n := 78) (ti := 0) (N := 1203) (v := .int 0) dX3_init_76 rfl rfl rfl q314 rfl (by rfl) (by decide) (by decide) (Nat.le_of_ble_eq_true rfl) (Nat.le_of_ble_eq_true rfl) rfl ?_
  rw [cHp_new (by rfl)]
  refine AW.sts (st' := [.ref (b + 8), .ref b]) (congrArg (fun z => [Value.ref z, Value.ref b]) (by show b + 1 + 7 = b + 8; omega)) ?_
  refine aw_putf (n := 81) (C0 := RX3) (T := TX3) (N := 41) (ci := 1) dX3_init_78 rfl in_X3 tyX3 tyX3_ok nmX3 q2635 12 (by decide) q2653 (Or.inl rfl) (by first | exact Or.inl rfl | exact Or.inr ⟨rfl, rfl, rfl⟩) rfl cHp_b hb rfl rfl (Nat.le_of_ble_eq_true rfl) rfl ?_
  rw [cHp_put (fs2 := ([.int 0, .ref (b + 1), .int 0, .int (-1), .ref (b + 2), .ref (b + 3), .ref (b + 4), .int 0, .int 0, .ref (b + 5), .ref (b + 6), .ref (b + 7), .null, .null, .null, .null, .null, .int 0, .int 0, .int 0, .null, .null, .null, .null, .null, .null, .null, .int 0, .int 0, .int 0, .null, .null, .null, .int 0, .int 0, .null, .null, .int 0, .int 0, .int 0, .int 0]).set 12 (.ref (b + 8))) (fs' := [.int 0, .ref (b + 1), .int 0, .int (-1), .ref (b + 2), .ref (b + 3), .ref (b + 4), .int 0, .int 0, .ref (b + 5), .ref (b + 6), .ref (b + 7), .ref (b + 8), .null, .null, .null, .null, .int 0, .int 0, .int 0, .null, .null, .null, .null, .null, .null, .null, .int 0, .int 0, .int 0, .null, .null, .null, .int 0, .int 0, .null, .null, .int 0, .int 0, .int 0, .int 0]) rfl]
  refine aw_aload_n (n := 82) dX3_init_81 rfl 0 rfl rfl ?_
  refine aw_sipush (n := 85) (v := 1203) dX3_init_82 (by decide) rfl ?_
  refine aw_newa (n := 87) (ti := 0) (N := 1203) (v := .int 0) dX3_init_85 rfl rfl rfl q314 rfl (by rfl) (by decide) (by decide) (Nat.le_of_ble_eq_true rfl) (Nat.le_of_ble_eq_true rfl) rfl ?_
  rw [cHp_new (by rfl)]
  refine AW.sts (st' := [.ref (b + 9), .ref b]) (congrArg (fun z => [Value.ref z, Value.ref b]) (by show b + 1 + 8 = b + 9; omega)) ?_
  refine aw_putf (n := 90) (C0 := RX3) (T := TX3) (N := 41) (ci := 1) dX3_init_87 rfl in_X3 tyX3 tyX3_ok nmX3 q2635 13 (by decide) q2654 (Or.inl rfl) (by first | exact Or.inl rfl | exact Or.inr ⟨rfl, rfl, rfl⟩) rfl cHp_b hb rfl rfl (Nat.le_of_ble_eq_true rfl) rfl ?_
  rw [cHp_put (fs2 := ([.int 0, .ref (b + 1), .int 0, .int (-1), .ref (b + 2), .ref (b + 3), .ref (b + 4), .int 0, .int 0, .ref (b + 5), .ref (b + 6), .ref (b + 7), .ref (b + 8), .null, .null, .null, .null, .int 0, .int 0, .int 0, .null, .null, .null, .null, .null, .null, .null, .int 0, .int 0, .int 0, .null, .null, .null, .int 0, .int 0, .null, .null, .int 0, .int 0, .int 0, .int 0]).set 13 (.ref (b + 9))) (fs' := [.int 0, .ref (b + 1), .int 0, .int (-1), .ref (b + 2), .ref (b + 3), .ref (b + 4), .int 0, .int 0, .ref (b + 5), .ref (b + 6), .ref (b + 7), .ref (b + 8), .ref (b + 9), .null, .null, .null, .int 0, .int 0, .int 0, .null, .null, .null, .null, .null, .null, .null, .int 0, .int 0, .int 0, .null, .null, .null, .int 0, .int 0, .null, .null, .int 0, .int 0, .int 0, .int 0]) rfl]
  refine aw_aload_n (n := 91) dX3_init_90 rfl 0 rfl rfl ?_
  refine aw_sipush (n := 94) (v := 1203) dX3_init_91 (by decide) rfl ?_
  refine aw_newa (n := 96) (ti := 0) (N := 1203) (v := .int 0) dX3_init_94 rfl rfl rfl q314 rfl (by rfl) (by decide) (by decide) (Nat.le_of_ble_eq_true rfl) (Nat.le_of_ble_eq_true rfl) rfl ?_
  rw [cHp_new (by rfl)]
  refine AW.sts (st' := [.ref (b + 10), .ref b]) (congrArg (fun z => [Value.ref z, Value.ref b]) (by show b + 1 + 9 = b + 10; omega)) ?_
  refine aw_putf (n := 99) (C0 := RX3) (T := TX3) (N := 41) (ci := 1) dX3_init_96 rfl in_X3 tyX3 tyX3_ok nmX3 q2635 14 (by decide) q2655 (Or.inl rfl) (by first | exact Or.inl rfl | exact Or.inr ⟨rfl, rfl, rfl⟩) rfl cHp_b hb rfl rfl (Nat.le_of_ble_eq_true rfl) rfl ?_
  rw [cHp_put (fs2 := ([.int 0, .ref (b + 1), .int 0, .int (-1), .ref (b + 2), .ref (b + 3), .ref (b + 4), .int 0, .int 0, .ref (b + 5), .ref (b + 6), .ref (b + 7), .ref (b + 8), .ref (b + 9), .null, .null, .null, .int 0, .int 0, .int 0, .null, .null, .null, .null, .null, .null, .null, .int 0, .int 0, .int 0, .null, .null, .null, .int 0, .int 0, .null, .null, .int 0, .int 0, .int 0, .int 0]).set 14 (.ref (b + 10))) (fs' := [.int 0, .ref (b + 1), .int 0, .int (-1), .ref (b + 2), .ref (b + 3), .ref (b + 4), .int 0, .int 0, .ref (b + 5), .ref (b + 6), .ref (b + 7), .ref (b + 8), .ref (b + 9), .ref (b + 10), .null, .null, .int 0, .int 0, .int 0, .null, .null, .null, .null, .null, .null, .null, .int 0, .int 0, .int 0, .null, .null, .null, .int 0, .int 0, .null, .null, .int 0, .int 0, .int 0, .int 0]) rfl]
  refine aw_aload_n (n := 100) dX3_init_99 rfl 0 rfl rfl ?_
  refine aw_sipush (n := 103) (v := 1203) dX3_init_100 (by decide) rfl ?_
  refine aw_newa (n := 105) (ti := 0) (N := 1203) (v := .int 0) dX3_init_103 rfl rfl rfl q314 rfl (by rfl) (by decide) (by decide) (Nat.le_of_ble_eq_true rfl) (Nat.le_of_ble_eq_true rfl) rfl ?_
  rw [cHp_new (by rfl)]
  refine AW.sts (st' := [.ref (b + 11), .ref b]) (congrArg (fun z => [Value.ref z, Value.ref b]) (by show b + 1 + 10 = b + 11; omega)) ?_
  refine aw_putf (n := 108) (C0 := RX3) (T := TX3) (N := 41) (ci := 1) dX3_init_105 rfl in_X3 tyX3 tyX3_ok nmX3 q2635 15 (by decide) q2656 (Or.inl rfl) (by first | exact Or.inl rfl | exact Or.inr ⟨rfl, rfl, rfl⟩) rfl cHp_b hb rfl rfl (Nat.le_of_ble_eq_true rfl) rfl ?_
  rw [cHp_put (fs2 := ([.int 0, .ref (b + 1), .int 0, .int (-1), .ref (b + 2), .ref (b + 3), .ref (b + 4), .int 0, .int 0, .ref (b + 5), .ref (b + 6), .ref (b + 7), .ref (b + 8), .ref (b + 9), .ref (b + 10), .null, .null, .int 0, .int 0, .int 0, .null, .null, .null, .null, .null, .null, .null, .int 0, .int 0, .int 0, .null, .null, .null, .int 0, .int 0, .null, .null, .int 0, .int 0, .int 0, .int 0]).set 15 (.ref (b + 11))) (fs' := [.int 0, .ref (b + 1), .int 0, .int (-1), .ref (b + 2), .ref (b + 3), .ref (b + 4), .int 0, .int 0, .ref (b + 5), .ref (b + 6), .ref (b + 7), .ref (b + 8), .ref (b + 9), .ref (b + 10), .ref (b + 11), .null, .int 0, .int 0, .int 0, .null, .null, .null, .null, .null, .null, .null, .int 0, .int 0, .int 0, .null, .null, .null, .int 0, .int 0, .null, .null, .int 0, .int 0, .int 0, .int 0]) rfl]
  refine aw_aload_n (n := 109) dX3_init_108 rfl 0 rfl rfl ?_
  refine aw_ldcI (n := 111) (v := 144360) dX3_init_109 q2640 rfl ?_
  refine aw_newa (n := 113) (ti := 1) (N := 144360) (v := .long 0) dX3_init_111 rfl rfl rfl q2136 rfl (by rfl) (by decide) (by decide) (Nat.le_of_ble_eq_true rfl) (Nat.le_of_ble_eq_true rfl) rfl ?_
  rw [cHp_new (by rfl)]
  refine AW.sts (st' := [.ref (b + 12), .ref b]) (congrArg (fun z => [Value.ref z, Value.ref b]) (by show b + 1 + 11 = b + 12; omega)) ?_
  refine aw_putf (n := 116) (C0 := RX3) (T := TX3) (N := 41) (ci := 1) dX3_init_113 rfl in_X3 tyX3 tyX3_ok nmX3 q2635 16 (by decide) q2657 (Or.inl rfl) (by first | exact Or.inl rfl | exact Or.inr ⟨rfl, rfl, rfl⟩) rfl cHp_b hb rfl rfl (Nat.le_of_ble_eq_true rfl) rfl ?_
  rw [cHp_put (fs2 := ([.int 0, .ref (b + 1), .int 0, .int (-1), .ref (b + 2), .ref (b + 3), .ref (b + 4), .int 0, .int 0, .ref (b + 5), .ref (b + 6), .ref (b + 7), .ref (b + 8), .ref (b + 9), .ref (b + 10), .ref (b + 11), .null, .int 0, .int 0, .int 0, .null, .null, .null, .null, .null, .null, .null, .int 0, .int 0, .int 0, .null, .null, .null, .int 0, .int 0, .null, .null, .int 0, .int 0, .int 0, .int 0]).set 16 (.ref (b + 12))) (fs' := [.int 0, .ref (b + 1), .int 0, .int (-1), .ref (b + 2), .ref (b + 3), .ref (b + 4), .int 0, .int 0, .ref (b + 5), .ref (b + 6), .ref (b + 7), .ref (b + 8), .ref (b + 9), .ref (b + 10), .ref (b + 11), .ref (b + 12), .int 0, .int 0, .int 0, .null, .null, .null, .null, .null, .null, .null, .int 0, .int 0, .int 0, .null, .null, .null, .int 0, .int 0, .null, .null, .int 0, .int 0, .int 0, .int 0]) rfl]
  refine aw_aload_n (n := 117) dX3_init_116 rfl 0 rfl rfl ?_
  refine aw_bipush (n := 119) (v := 44) dX3_init_117 (by decide) rfl ?_
  refine aw_newa (n := 121) (ti := 1) (N := 44) (v := .long 0) dX3_init_119 rfl rfl rfl q2136 rfl (by rfl) (by decide) (by decide) (Nat.le_of_ble_eq_true rfl) (Nat.le_of_ble_eq_true rfl) rfl ?_
  rw [cHp_new (by rfl)]
  refine AW.sts (st' := [.ref (b + 13), .ref b]) (congrArg (fun z => [Value.ref z, Value.ref b]) (by show b + 1 + 12 = b + 13; omega)) ?_
  refine aw_putf (n := 124) (C0 := RX3) (T := TX3) (N := 41) (ci := 1) dX3_init_121 rfl in_X3 tyX3 tyX3_ok nmX3 q2635 20 (by decide) q2661 (Or.inl rfl) (by first | exact Or.inl rfl | exact Or.inr ⟨rfl, rfl, rfl⟩) rfl cHp_b hb rfl rfl (Nat.le_of_ble_eq_true rfl) rfl ?_
  rw [cHp_put (fs2 := ([.int 0, .ref (b + 1), .int 0, .int (-1), .ref (b + 2), .ref (b + 3), .ref (b + 4), .int 0, .int 0, .ref (b + 5), .ref (b + 6), .ref (b + 7), .ref (b + 8), .ref (b + 9), .ref (b + 10), .ref (b + 11), .ref (b + 12), .int 0, .int 0, .int 0, .null, .null, .null, .null, .null, .null, .null, .int 0, .int 0, .int 0, .null, .null, .null, .int 0, .int 0, .null, .null, .int 0, .int 0, .int 0, .int 0]).set 20 (.ref (b + 13))) (fs' := [.int 0, .ref (b + 1), .int 0, .int (-1), .ref (b + 2), .ref (b + 3), .ref (b + 4), .int 0, .int 0, .ref (b + 5), .ref (b + 6), .ref (b + 7), .ref (b + 8), .ref (b + 9), .ref (b + 10), .ref (b + 11), .ref (b + 12), .int 0, .int 0, .int 0, .ref (b + 13), .null, .null, .null, .null, .null, .null, .int 0, .int 0, .int 0, .null, .null, .null, .int 0, .int 0, .null, .null, .int 0, .int 0, .int 0, .int 0]) rfl]
  refine aw_aload_n (n := 125) dX3_init_124 rfl 0 rfl rfl ?_
  refine aw_bipush (n := 127) (v := 44) dX3_init_125 (by decide) rfl ?_
  refine aw_newa (n := 129) (ti := 0) (N := 44) (v := .int 0) dX3_init_127 rfl rfl rfl q314 rfl (by rfl) (by decide) (by decide) (Nat.le_of_ble_eq_true rfl) (Nat.le_of_ble_eq_true rfl) rfl ?_
  rw [cHp_new (by rfl)]
  refine AW.sts (st' := [.ref (b + 14), .ref b]) (congrArg (fun z => [Value.ref z, Value.ref b]) (by show b + 1 + 13 = b + 14; omega)) ?_
  refine aw_putf (n := 132) (C0 := RX3) (T := TX3) (N := 41) (ci := 1) dX3_init_129 rfl in_X3 tyX3 tyX3_ok nmX3 q2635 21 (by decide) q2662 (Or.inl rfl) (by first | exact Or.inl rfl | exact Or.inr ⟨rfl, rfl, rfl⟩) rfl cHp_b hb rfl rfl (Nat.le_of_ble_eq_true rfl) rfl ?_
  rw [cHp_put (fs2 := ([.int 0, .ref (b + 1), .int 0, .int (-1), .ref (b + 2), .ref (b + 3), .ref (b + 4), .int 0, .int 0, .ref (b + 5), .ref (b + 6), .ref (b + 7), .ref (b + 8), .ref (b + 9), .ref (b + 10), .ref (b + 11), .ref (b + 12), .int 0, .int 0, .int 0, .ref (b + 13), .null, .null, .null, .null, .null, .null, .int 0, .int 0, .int 0, .null, .null, .null, .int 0, .int 0, .null, .null, .int 0, .int 0, .int 0, .int 0]).set 21 (.ref (b + 14))) (fs' := [.int 0, .ref (b + 1), .int 0, .int (-1), .ref (b + 2), .ref (b + 3), .ref (b + 4), .int 0, .int 0, .ref (b + 5), .ref (b + 6), .ref (b + 7), .ref (b + 8), .ref (b + 9), .ref (b + 10), .ref (b + 11), .ref (b + 12), .int 0, .int 0, .int 0, .ref (b + 13), .ref (b + 14), .null, .null, .null, .null, .null, .int 0, .int 0, .int 0, .null, .null, .null, .int 0, .int 0, .null, .null, .int 0, .int 0, .int 0, .int 0]) rfl]
  refine aw_aload_n (n := 133) dX3_init_132 rfl 0 rfl rfl ?_
  refine aw_bipush (n := 135) (v := 44) dX3_init_133 (by decide) rfl ?_
  refine aw_newa (n := 137) (ti := 0) (N := 44) (v := .int 0) dX3_init_135 rfl rfl rfl q314 rfl (by rfl) (by decide) (by decide) (Nat.le_of_ble_eq_true rfl) (Nat.le_of_ble_eq_true rfl) rfl ?_
  rw [cHp_new (by rfl)]
  refine AW.sts (st' := [.ref (b + 15), .ref b]) (congrArg (fun z => [Value.ref z, Value.ref b]) (by show b + 1 + 14 = b + 15; omega)) ?_
  refine aw_putf (n := 140) (C0 := RX3) (T := TX3) (N := 41) (ci := 1) dX3_init_137 rfl in_X3 tyX3 tyX3_ok nmX3 q2635 22 (by decide) q2663 (Or.inl rfl) (by first | exact Or.inl rfl | exact Or.inr ⟨rfl, rfl, rfl⟩) rfl cHp_b hb rfl rfl (Nat.le_of_ble_eq_true rfl) rfl ?_
  rw [cHp_put (fs2 := ([.int 0, .ref (b + 1), .int 0, .int (-1), .ref (b + 2), .ref (b + 3), .ref (b + 4), .int 0, .int 0, .ref (b + 5), .ref (b + 6), .ref (b + 7), .ref (b + 8), .ref (b + 9), .ref (b + 10), .ref (b + 11), .ref (b + 12), .int 0, .int 0, .int 0, .ref (b + 13), .ref (b + 14), .null, .null, .null, .null, .null, .int 0, .int 0, .int 0, .null, .null, .null, .int 0, .int 0, .null, .null, .int 0, .int 0, .int 0, .int 0]).set 22 (.ref (b + 15))) (fs' := [.int 0, .ref (b + 1), .int 0, .int (-1), .ref (b + 2), .ref (b + 3), .ref (b + 4), .int 0, .int 0, .ref (b + 5), .ref (b + 6), .ref (b + 7), .ref (b + 8), .ref (b + 9), .ref (b + 10), .ref (b + 11), .ref (b + 12), .int 0, .int 0, .int 0, .ref (b + 13), .ref (b + 14), .ref (b + 15), .null, .null, .null, .null, .int 0, .int 0, .int 0, .null, .null, .null, .int 0, .int 0, .null, .null, .int 0, .int 0, .int 0, .int 0]) rfl]
  refine aw_aload_n (n := 141) dX3_init_140 rfl 0 rfl rfl ?_
  refine aw_iconst (n := 142) (v := 4) dX3_init_141 (by decide) rfl ?_
  refine aw_newa (n := 144) (ti := 0) (N := 4) (v := .int 0) dX3_init_142 rfl rfl rfl q314 rfl (by rfl) (by decide) (by decide) (Nat.le_of_ble_eq_true rfl) (Nat.le_of_ble_eq_true rfl) rfl ?_
  rw [cHp_new (by rfl)]
  refine AW.sts (st' := [.ref (b + 16), .ref b]) (congrArg (fun z => [Value.ref z, Value.ref b]) (by show b + 1 + 15 = b + 16; omega)) ?_
  refine aw_putf (n := 147) (C0 := RX3) (T := TX3) (N := 41) (ci := 1) dX3_init_144 rfl in_X3 tyX3 tyX3_ok nmX3 q2635 23 (by decide) q2664 (Or.inl rfl) (by first | exact Or.inl rfl | exact Or.inr ⟨rfl, rfl, rfl⟩) rfl cHp_b hb rfl rfl (Nat.le_of_ble_eq_true rfl) rfl ?_
  rw [cHp_put (fs2 := ([.int 0, .ref (b + 1), .int 0, .int (-1), .ref (b + 2), .ref (b + 3), .ref (b + 4), .int 0, .int 0, .ref (b + 5), .ref (b + 6), .ref (b + 7), .ref (b + 8), .ref (b + 9), .ref (b + 10), .ref (b + 11), .ref (b + 12), .int 0, .int 0, .int 0, .ref (b + 13), .ref (b + 14), .ref (b + 15), .null, .null, .null, .null, .int 0, .int 0, .int 0, .null, .null, .null, .int 0, .int 0, .null, .null, .int 0, .int 0, .int 0, .int 0]).set 23 (.ref (b + 16))) (fs' := [.int 0, .ref (b + 1), .int 0, .int (-1), .ref (b + 2), .ref (b + 3), .ref (b + 4), .int 0, .int 0, .ref (b + 5), .ref (b + 6), .ref (b + 7), .ref (b + 8), .ref (b + 9), .ref (b + 10), .ref (b + 11), .ref (b + 12), .int 0, .int 0, .int 0, .ref (b + 13), .ref (b + 14), .ref (b + 15), .ref (b + 16), .null, .null, .null, .int 0, .int 0, .int 0, .null, .null, .null, .int 0, .int 0, .null, .null, .int 0, .int 0, .int 0, .int 0]) rfl]
  refine aw_aload_n (n := 148) dX3_init_147 rfl 0 rfl rfl ?_
  refine aw_bipush (n := 150) (v := 8) dX3_init_148 (by decide) rfl ?_
  refine aw_newa (n := 152) (ti := 1) (N := 8) (v := .long 0) dX3_init_150 rfl rfl rfl q2136 rfl (by rfl) (by decide) (by decide) (Nat.le_of_ble_eq_true rfl) (Nat.le_of_ble_eq_true rfl) rfl ?_
  rw [cHp_new (by rfl)]
  refine AW.sts (st' := [.ref (b + 17), .ref b]) (congrArg (fun z => [Value.ref z, Value.ref b]) (by show b + 1 + 16 = b + 17; omega)) ?_
  refine aw_putf (n := 155) (C0 := RX3) (T := TX3) (N := 41) (ci := 1) dX3_init_152 rfl in_X3 tyX3 tyX3_ok nmX3 q2635 24 (by decide) q2665 (Or.inl rfl) (by first | exact Or.inl rfl | exact Or.inr ⟨rfl, rfl, rfl⟩) rfl cHp_b hb rfl rfl (Nat.le_of_ble_eq_true rfl) rfl ?_
  rw [cHp_put (fs2 := ([.int 0, .ref (b + 1), .int 0, .int (-1), .ref (b + 2), .ref (b + 3), .ref (b + 4), .int 0, .int 0, .ref (b + 5), .ref (b + 6), .ref (b + 7), .ref (b + 8), .ref (b + 9), .ref (b + 10), .ref (b + 11), .ref (b + 12), .int 0, .int 0, .int 0, .ref (b + 13), .ref (b + 14), .ref (b + 15), .ref (b + 16), .null, .null, .null, .int 0, .int 0, .int 0, .null, .null, .null, .int 0, .int 0, .null, .null, .int 0, .int 0, .int 0, .int 0]).set 24 (.ref (b + 17))) (fs' := [.int 0, .ref (b + 1), .int 0, .int (-1), .ref (b + 2), .ref (b + 3), .ref (b + 4), .int 0, .int 0, .ref (b + 5), .ref (b + 6), .ref (b + 7), .ref (b + 8), .ref (b + 9), .ref (b + 10), .ref (b + 11), .ref (b + 12), .int 0, .int 0, .int 0, .ref (b + 13), .ref (b + 14), .ref (b + 15), .ref (b + 16), .ref (b + 17), .null, .null, .int 0, .int 0, .int 0, .null, .null, .null, .int 0, .int 0, .null, .null, .int 0, .int 0, .int 0, .int 0]) rfl]
  refine aw_aload_n (n := 156) dX3_init_155 rfl 0 rfl rfl ?_
  refine aw_bipush (n := 158) (v := 48) dX3_init_156 (by decide) rfl ?_
  refine aw_newa (n := 160) (ti := 0) (N := 48) (v := .int 0) dX3_init_158 rfl rfl rfl q314 rfl (by rfl) (by decide) (by decide) (Nat.le_of_ble_eq_true rfl) (Nat.le_of_ble_eq_true rfl) rfl ?_
  rw [cHp_new (by rfl)]
  refine AW.sts (st' := [.ref (b + 18), .ref b]) (congrArg (fun z => [Value.ref z, Value.ref b]) (by show b + 1 + 17 = b + 18; omega)) ?_
  refine aw_putf (n := 163) (C0 := RX3) (T := TX3) (N := 41) (ci := 1) dX3_init_160 rfl in_X3 tyX3 tyX3_ok nmX3 q2635 25 (by decide) q2666 (Or.inl rfl) (by first | exact Or.inl rfl | exact Or.inr ⟨rfl, rfl, rfl⟩) rfl cHp_b hb rfl rfl (Nat.le_of_ble_eq_true rfl) rfl ?_
  rw [cHp_put (fs2 := ([.int 0, .ref (b + 1), .int 0, .int (-1), .ref (b + 2), .ref (b + 3), .ref (b + 4), .int 0, .int 0, .ref (b + 5), .ref (b + 6), .ref (b + 7), .ref (b + 8), .ref (b + 9), .ref (b + 10), .ref (b + 11), .ref (b + 12), .int 0, .int 0, .int 0, .ref (b + 13), .ref (b + 14), .ref (b + 15), .ref (b + 16), .ref (b + 17), .null, .null, .int 0, .int 0, .int 0, .null, .null, .null, .int 0, .int 0, .null, .null, .int 0, .int 0, .int 0, .int 0]).set 25 (.ref (b + 18))) (fs' := [.int 0, .ref (b + 1), .int 0, .int (-1), .ref (b + 2), .ref (b + 3), .ref (b + 4), .int 0, .int 0, .ref (b + 5), .ref (b + 6), .ref (b + 7), .ref (b + 8), .ref (b + 9), .ref (b + 10), .ref (b + 11), .ref (b + 12), .int 0, .int 0, .int 0, .ref (b + 13), .ref (b + 14), .ref (b + 15), .ref (b + 16), .ref (b + 17), .ref (b + 18), .null, .int 0, .int 0, .int 0, .null, .null, .null, .int 0, .int 0, .null, .null, .int 0, .int 0, .int 0, .int 0]) rfl]
  refine aw_aload_n (n := 164) dX3_init_163 rfl 0 rfl rfl ?_
  refine aw_bipush (n := 166) (v := 12) dX3_init_164 (by decide) rfl ?_
  refine aw_newa (n := 168) (ti := 0) (N := 12) (v := .int 0) dX3_init_166 rfl rfl rfl q314 rfl (by rfl) (by decide) (by decide) (Nat.le_of_ble_eq_true rfl) (Nat.le_of_ble_eq_true rfl) rfl ?_
  rw [cHp_new (by rfl)]
  refine AW.sts (st' := [.ref (b + 19), .ref b]) (congrArg (fun z => [Value.ref z, Value.ref b]) (by show b + 1 + 18 = b + 19; omega)) ?_
  refine aw_putf (n := 171) (C0 := RX3) (T := TX3) (N := 41) (ci := 1) dX3_init_168 rfl in_X3 tyX3 tyX3_ok nmX3 q2635 26 (by decide) q2667 (Or.inl rfl) (by first | exact Or.inl rfl | exact Or.inr ⟨rfl, rfl, rfl⟩) rfl cHp_b hb rfl rfl (Nat.le_of_ble_eq_true rfl) rfl ?_
  rw [cHp_put (fs2 := ([.int 0, .ref (b + 1), .int 0, .int (-1), .ref (b + 2), .ref (b + 3), .ref (b + 4), .int 0, .int 0, .ref (b + 5), .ref (b + 6), .ref (b + 7), .ref (b + 8), .ref (b + 9), .ref (b + 10), .ref (b + 11), .ref (b + 12), .int 0, .int 0, .int 0, .ref (b + 13), .ref (b + 14), .ref (b + 15), .ref (b + 16), .ref (b + 17), .ref (b + 18), .null, .int 0, .int 0, .int 0, .null, .null, .null, .int 0, .int 0, .null, .null, .int 0, .int 0, .int 0, .int 0]).set 26 (.ref (b + 19))) (fs' := [.int 0, .ref (b + 1), .int 0, .int (-1), .ref (b + 2), .ref (b + 3), .ref (b + 4), .int 0, .int 0, .ref (b + 5), .ref (b + 6), .ref (b + 7), .ref (b + 8), .ref (b + 9), .ref (b + 10), .ref (b + 11), .ref (b + 12), .int 0, .int 0, .int 0, .ref (b + 13), .ref (b + 14), .ref (b + 15), .ref (b + 16), .ref (b + 17), .ref (b + 18), .ref (b + 19), .int 0, .int 0, .int 0, .null, .null, .null, .int 0, .int 0, .null, .null, .int 0, .int 0, .int 0, .int 0]) rfl]
  refine aw_aload_n (n := 172) dX3_init_171 rfl 0 rfl rfl ?_
  refine aw_iconst (n := 173) (v := (-1)) dX3_init_172 (by decide) rfl ?_
  refine aw_putf (n := 176) (C0 := RX3) (T := TX3) (N := 41) (ci := 1) dX3_init_173 rfl in_X3 tyX3 tyX3_ok nmX3 q2635 28 (by decide) q2669 (Or.inl rfl) (by first | exact Or.inl rfl | exact Or.inr ⟨rfl, rfl, rfl⟩) rfl cHp_b hb rfl rfl (Nat.le_of_ble_eq_true rfl) rfl ?_
  rw [cHp_put (fs2 := ([.int 0, .ref (b + 1), .int 0, .int (-1), .ref (b + 2), .ref (b + 3), .ref (b + 4), .int 0, .int 0, .ref (b + 5), .ref (b + 6), .ref (b + 7), .ref (b + 8), .ref (b + 9), .ref (b + 10), .ref (b + 11), .ref (b + 12), .int 0, .int 0, .int 0, .ref (b + 13), .ref (b + 14), .ref (b + 15), .ref (b + 16), .ref (b + 17), .ref (b + 18), .ref (b + 19), .int 0, .int 0, .int 0, .null, .null, .null, .int 0, .int 0, .null, .null, .int 0, .int 0, .int 0, .int 0]).set 28 (.int (-1))) (fs' := [.int 0, .ref (b + 1), .int 0, .int (-1), .ref (b + 2), .ref (b + 3), .ref (b + 4), .int 0, .int 0, .ref (b + 5), .ref (b + 6), .ref (b + 7), .ref (b + 8), .ref (b + 9), .ref (b + 10), .ref (b + 11), .ref (b + 12), .int 0, .int 0, .int 0, .ref (b + 13), .ref (b + 14), .ref (b + 15), .ref (b + 16), .ref (b + 17), .ref (b + 18), .ref (b + 19), .int 0, .int (-1), .int 0, .null, .null, .null, .int 0, .int 0, .null, .null, .int 0, .int 0, .int 0, .int 0]) rfl]
  refine aw_aload_n (n := 177) dX3_init_176 rfl 0 rfl rfl ?_
  refine aw_bipush (n := 179) (v := 120) dX3_init_177 (by decide) rfl ?_
  refine aw_newa (n := 181) (ti := 0) (N := 120) (v := .int 0) dX3_init_179 rfl rfl rfl q314 rfl (by rfl) (by decide) (by decide) (Nat.le_of_ble_eq_true rfl) (Nat.le_of_ble_eq_true rfl) rfl ?_
  rw [cHp_new (by rfl)]
  refine AW.sts (st' := [.ref (b + 20), .ref b]) (congrArg (fun z => [Value.ref z, Value.ref b]) (by show b + 1 + 19 = b + 20; omega)) ?_
  refine aw_putf (n := 184) (C0 := RX3) (T := TX3) (N := 41) (ci := 1) dX3_init_181 rfl in_X3 tyX3 tyX3_ok nmX3 q2635 30 (by decide) q2671 (Or.inl rfl) (by first | exact Or.inl rfl | exact Or.inr ⟨rfl, rfl, rfl⟩) rfl cHp_b hb rfl rfl (Nat.le_of_ble_eq_true rfl) rfl ?_
  rw [cHp_put (fs2 := ([.int 0, .ref (b + 1), .int 0, .int (-1), .ref (b + 2), .ref (b + 3), .ref (b + 4), .int 0, .int 0, .ref (b + 5), .ref (b + 6), .ref (b + 7), .ref (b + 8), .ref (b + 9), .ref (b + 10), .ref (b + 11), .ref (b + 12), .int 0, .int 0, .int 0, .ref (b + 13), .ref (b + 14), .ref (b + 15), .ref (b + 16), .ref (b + 17), .ref (b + 18), .ref (b + 19), .int 0, .int (-1), .int 0, .null, .null, .null, .int 0, .int 0, .null, .null, .int 0, .int 0, .int 0, .int 0]).set 30 (.ref (b + 20))) (fs' := [.int 0, .ref (b + 1), .int 0, .int (-1), .ref (b + 2), .ref (b + 3), .ref (b + 4), .int 0, .int 0, .ref (b + 5), .ref (b + 6), .ref (b + 7), .ref (b + 8), .ref (b + 9), .ref (b + 10), .ref (b + 11), .ref (b + 12), .int 0, .int 0, .int 0, .ref (b + 13), .ref (b + 14), .ref (b + 15), .ref (b + 16), .ref (b + 17), .ref (b + 18), .ref (b + 19), .int 0, .int (-1), .int 0, .ref (b + 20), .null, .null, .int 0, .int 0, .null, .null, .int 0, .int 0, .int 0, .int 0]) rfl]
  refine aw_aload_n (n := 185) dX3_init_184 rfl 0 rfl rfl ?_
  refine aw_sipush (n := 188) (v := 960) dX3_init_185 (by decide) rfl ?_
  refine aw_newa (n := 190) (ti := 1) (N := 960) (v := .long 0) dX3_init_188 rfl rfl rfl q2136 rfl (by rfl) (by decide) (by decide) (Nat.le_of_ble_eq_true rfl) (Nat.le_of_ble_eq_true rfl) rfl ?_
  rw [cHp_new (by rfl)]
  refine AW.sts (st' := [.ref (b + 21), .ref b]) (congrArg (fun z => [Value.ref z, Value.ref b]) (by show b + 1 + 20 = b + 21; omega)) ?_
  refine aw_putf (n := 193) (C0 := RX3) (T := TX3) (N := 41) (ci := 1) dX3_init_190 rfl in_X3 tyX3 tyX3_ok nmX3 q2635 31 (by decide) q2672 (Or.inl rfl) (by first | exact Or.inl rfl | exact Or.inr ⟨rfl, rfl, rfl⟩) rfl cHp_b hb rfl rfl (Nat.le_of_ble_eq_true rfl) rfl ?_
  rw [cHp_put (fs2 := ([.int 0, .ref (b + 1), .int 0, .int (-1), .ref (b + 2), .ref (b + 3), .ref (b + 4), .int 0, .int 0, .ref (b + 5), .ref (b + 6), .ref (b + 7), .ref (b + 8), .ref (b + 9), .ref (b + 10), .ref (b + 11), .ref (b + 12), .int 0, .int 0, .int 0, .ref (b + 13), .ref (b + 14), .ref (b + 15), .ref (b + 16), .ref (b + 17), .ref (b + 18), .ref (b + 19), .int 0, .int (-1), .int 0, .ref (b + 20), .null, .null, .int 0, .int 0, .null, .null, .int 0, .int 0, .int 0, .int 0]).set 31 (.ref (b + 21))) (fs' := [.int 0, .ref (b + 1), .int 0, .int (-1), .ref (b + 2), .ref (b + 3), .ref (b + 4), .int 0, .int 0, .ref (b + 5), .ref (b + 6), .ref (b + 7), .ref (b + 8), .ref (b + 9), .ref (b + 10), .ref (b + 11), .ref (b + 12), .int 0, .int 0, .int 0, .ref (b + 13), .ref (b + 14), .ref (b + 15), .ref (b + 16), .ref (b + 17), .ref (b + 18), .ref (b + 19), .int 0, .int (-1), .int 0, .ref (b + 20), .ref (b + 21), .null, .int 0, .int 0, .null, .null, .int 0, .int 0, .int 0, .int 0]) rfl]
  refine aw_aload_n (n := 194) dX3_init_193 rfl 0 rfl rfl ?_
  refine aw_bipush (n := 196) (v := 8) dX3_init_194 (by decide) rfl ?_
  refine aw_newa (n := 198) (ti := 1) (N := 8) (v := .long 0) dX3_init_196 rfl rfl rfl q2136 rfl (by rfl) (by decide) (by decide) (Nat.le_of_ble_eq_true rfl) (Nat.le_of_ble_eq_true rfl) rfl ?_
  rw [cHp_new (by rfl)]
  refine AW.sts (st' := [.ref (b + 22), .ref b]) (congrArg (fun z => [Value.ref z, Value.ref b]) (by show b + 1 + 21 = b + 22; omega)) ?_
  refine aw_putf (n := 201) (C0 := RX3) (T := TX3) (N := 41) (ci := 1) dX3_init_198 rfl in_X3 tyX3 tyX3_ok nmX3 q2635 32 (by decide) q2673 (Or.inl rfl) (by first | exact Or.inl rfl | exact Or.inr ⟨rfl, rfl, rfl⟩) rfl cHp_b hb rfl rfl (Nat.le_of_ble_eq_true rfl) rfl ?_
  rw [cHp_put (fs2 := ([.int 0, .ref (b + 1), .int 0, .int (-1), .ref (b + 2), .ref (b + 3), .ref (b + 4), .int 0, .int 0, .ref (b + 5), .ref (b + 6), .ref (b + 7), .ref (b + 8), .ref (b + 9), .ref (b + 10), .ref (b + 11), .ref (b + 12), .int 0, .int 0, .int 0, .ref (b + 13), .ref (b + 14), .ref (b + 15), .ref (b + 16), .ref (b + 17), .ref (b + 18), .ref (b + 19), .int 0, .int (-1), .int 0, .ref (b + 20), .ref (b + 21), .null, .int 0, .int 0, .null, .null, .int 0, .int 0, .int 0, .int 0]).set 32 (.ref (b + 22))) (fs' := [.int 0, .ref (b + 1), .int 0, .int (-1), .ref (b + 2), .ref (b + 3), .ref (b + 4), .int 0, .int 0, .ref (b + 5), .ref (b + 6), .ref (b + 7), .ref (b + 8), .ref (b + 9), .ref (b + 10), .ref (b + 11), .ref (b + 12), .int 0, .int 0, .int 0, .ref (b + 13), .ref (b + 14), .ref (b + 15), .ref (b + 16), .ref (b + 17), .ref (b + 18), .ref (b + 19), .int 0, .int (-1), .int 0, .ref (b + 20), .ref (b + 21), .ref (b + 22), .int 0, .int 0, .null, .null, .int 0, .int 0, .int 0, .int 0]) rfl]
  refine aw_aload_n (n := 202) dX3_init_201 rfl 0 rfl rfl ?_
  refine aw_bipush (n := 204) (v := 120) dX3_init_202 (by decide) rfl ?_
  refine aw_newa (n := 206) (ti := 0) (N := 120) (v := .int 0) dX3_init_204 rfl rfl rfl q314 rfl (by rfl) (by decide) (by decide) (Nat.le_of_ble_eq_true rfl) (Nat.le_of_ble_eq_true rfl) rfl ?_
  rw [cHp_new (by rfl)]
  refine AW.sts (st' := [.ref (b + 23), .ref b]) (congrArg (fun z => [Value.ref z, Value.ref b]) (by show b + 1 + 22 = b + 23; omega)) ?_
  refine aw_putf (n := 209) (C0 := RX3) (T := TX3) (N := 41) (ci := 1) dX3_init_206 rfl in_X3 tyX3 tyX3_ok nmX3 q2635 35 (by decide) q2676 (Or.inl rfl) (by first | exact Or.inl rfl | exact Or.inr ⟨rfl, rfl, rfl⟩) rfl cHp_b hb rfl rfl (Nat.le_of_ble_eq_true rfl) rfl ?_
  rw [cHp_put (fs2 := ([.int 0, .ref (b + 1), .int 0, .int (-1), .ref (b + 2), .ref (b + 3), .ref (b + 4), .int 0, .int 0, .ref (b + 5), .ref (b + 6), .ref (b + 7), .ref (b + 8), .ref (b + 9), .ref (b + 10), .ref (b + 11), .ref (b + 12), .int 0, .int 0, .int 0, .ref (b + 13), .ref (b + 14), .ref (b + 15), .ref (b + 16), .ref (b + 17), .ref (b + 18), .ref (b + 19), .int 0, .int (-1), .int 0, .ref (b + 20), .ref (b + 21), .ref (b + 22), .int 0, .int 0, .null, .null, .int 0, .int 0, .int 0, .int 0]).set 35 (.ref (b + 23))) (fs' := [.int 0, .ref (b + 1), .int 0, .int (-1), .ref (b + 2), .ref (b + 3), .ref (b + 4), .int 0, .int 0, .ref (b + 5), .ref (b + 6), .ref (b + 7), .ref (b + 8), .ref (b + 9), .ref (b + 10), .ref (b + 11), .ref (b + 12), .int 0, .int 0, .int 0, .ref (b + 13), .ref (b + 14), .ref (b + 15), .ref (b + 16), .ref (b + 17), .ref (b + 18), .ref (b + 19), .int 0, .int (-1), .int 0, .ref (b + 20), .ref (b + 21), .ref (b + 22), .int 0, .int 0, .ref (b + 23), .null, .int 0, .int 0, .int 0, .int 0]) rfl]
  refine aw_aload_n (n := 210) dX3_init_209 rfl 0 rfl rfl ?_
  refine aw_sipush (n := 213) (v := 960) dX3_init_210 (by decide) rfl ?_
  refine aw_newa (n := 215) (ti := 1) (N := 960) (v := .long 0) dX3_init_213 rfl rfl rfl q2136 rfl (by rfl) (by decide) (by decide) (Nat.le_of_ble_eq_true rfl) (Nat.le_of_ble_eq_true rfl) rfl ?_
  rw [cHp_new (by rfl)]
  refine AW.sts (st' := [.ref (b + 24), .ref b]) (congrArg (fun z => [Value.ref z, Value.ref b]) (by show b + 1 + 23 = b + 24; omega)) ?_
  refine aw_putf (n := 218) (C0 := RX3) (T := TX3) (N := 41) (ci := 1) dX3_init_215 rfl in_X3 tyX3 tyX3_ok nmX3 q2635 36 (by decide) q2677 (Or.inl rfl) (by first | exact Or.inl rfl | exact Or.inr ⟨rfl, rfl, rfl⟩) rfl cHp_b hb rfl rfl (Nat.le_of_ble_eq_true rfl) rfl ?_
  rw [cHp_put (fs2 := ([.int 0, .ref (b + 1), .int 0, .int (-1), .ref (b + 2), .ref (b + 3), .ref (b + 4), .int 0, .int 0, .ref (b + 5), .ref (b + 6), .ref (b + 7), .ref (b + 8), .ref (b + 9), .ref (b + 10), .ref (b + 11), .ref (b + 12), .int 0, .int 0, .int 0, .ref (b + 13), .ref (b + 14), .ref (b + 15), .ref (b + 16), .ref (b + 17), .ref (b + 18), .ref (b + 19), .int 0, .int (-1), .int 0, .ref (b + 20), .ref (b + 21), .ref (b + 22), .int 0, .int 0, .ref (b + 23), .null, .int 0, .int 0, .int 0, .int 0]).set 36 (.ref (b + 24))) (fs' := [.int 0, .ref (b + 1), .int 0, .int (-1), .ref (b + 2), .ref (b + 3), .ref (b + 4), .int 0, .int 0, .ref (b + 5), .ref (b + 6), .ref (b + 7), .ref (b + 8), .ref (b + 9), .ref (b + 10), .ref (b + 11), .ref (b + 12), .int 0, .int 0, .int 0, .ref (b + 13), .ref (b + 14), .ref (b + 15), .ref (b + 16), .ref (b + 17), .ref (b + 18), .ref (b + 19), .int 0, .int (-1), .int 0, .ref (b + 20), .ref (b + 21), .ref (b + 22), .int 0, .int 0, .ref (b + 23), .ref (b + 24), .int 0, .int 0, .int 0, .int 0]) rfl]
  exact aw_vret dX3_init_218 rfl ⟨rfl, cHp_TW, cHp_Fr hb1 (by decide), rfl⟩ ⟨(by first | exact Nat.le_refl _ | omega | (dsimp only; omega)), (by first | exact Nat.le_refl _ | omega | (dsimp only; omega))⟩

end
