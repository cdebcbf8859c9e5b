/-! The twin's small methods. -/
section
set_option maxRecDepth 100000
abbrev kX3_isIn : aK := (yX3_isIn, cX3_isIn, 3, (Option.some Jvm.ClassFile.FieldType.boolean), [])
theorem hcX3_isIn : kX3_isIn.1.cls ≠ "java/lang/invoke/MethodHandle" ∧ kX3_isIn.1.cls ≠ "java/lang/invoke/VarHandle" ∧ (parseMethodDescriptor kX3_isIn.1.desc).map (fun d => d.parameters.length) = some 3 := ⟨by decide, by decide, by decide +kernel⟩
theorem ct_isIn (G : aG) (h : hH) (v lo hi : Int32) : Con G kX3_isIn [.int v, .int lo, .int hi] h ((1, 0, 0, 0), (fun r h1 => r = some (.int (bI (decide (lo ≤ v) && decide (v ≤ hi)))) ∧ h = h1), nX) := by
  refine Con.of (plainFor_of_name rfl) rfl (Nat.le_of_ble_eq_true rfl) ?_
  refine AW.eq (lv2 := [(0, .int v), (1, .int lo), (2, .int hi)]) (s2 := []) rfl rfl rfl rfl rfl ?_
  refine aw_iload_n (n := 1) dX3_isIn_0 rfl 0 rfl rfl ?_
  refine aw_iload_n (n := 2) dX3_isIn_1 rfl 1 rfl rfl ?_
  refine aw_icmp_lt (n := 5) (tgt := 14) dX3_isIn_2 (by decide) rfl (fun c_2 => ?_) (fun c_2 => ?_)
  · skip
    refine aw_iconst (n := 15) (v := 0) dX3_isIn_14 (by decide) rfl ?_
    exact aw_zret dX3_isIn_15 rfl (by decide) ⟨congrArg some (congrArg Value.int (by simp_all [bI, ← Int32.not_le])), rfl⟩ ⟨Nat.zero_le _, Nat.zero_le _⟩
  · skip
    refine aw_iload_n (n := 6) dX3_isIn_5 rfl 0 rfl rfl ?_
    refine aw_iload_n (n := 7) dX3_isIn_6 rfl 2 rfl rfl ?_
    refine aw_icmp_gt (n := 10) (tgt := 14) dX3_isIn_7 (by decide) rfl (fun c_7 => ?_) (fun c_7 => ?_)
    · skip
      refine aw_iconst (n := 15) (v := 0) dX3_isIn_14 (by decide) rfl ?_
      exact aw_zret dX3_isIn_15 rfl (by decide) ⟨congrArg some (congrArg Value.int (by simp_all [bI, ← Int32.not_le])), rfl⟩ ⟨Nat.zero_le _, Nat.zero_le _⟩
    · skip
      refine aw_iconst (n := 11) (v := 1) dX3_isIn_10 (by decide) rfl ?_
      refine aw_goto (tgt := 15) dX3_isIn_11 (by decide) ?_
      exact aw_zret dX3_isIn_15 rfl (by decide) ⟨congrArg some (congrArg Value.int (by simp_all [bI, ← Int32.not_le])), rfl⟩ ⟨Nat.zero_le _, Nat.zero_le _⟩

abbrev kX3_isLetter : aK := (yX3_isLetter, cX3_isLetter, 1, (Option.some Jvm.ClassFile.FieldType.boolean), [])
theorem hcX3_isLetter : kX3_isLetter.1.cls ≠ "java/lang/invoke/MethodHandle" ∧ kX3_isLetter.1.cls ≠ "java/lang/invoke/VarHandle" ∧ (parseMethodDescriptor kX3_isLetter.1.desc).map (fun d => d.parameters.length) = some 1 := ⟨by decide, by decide, by decide +kernel⟩
theorem ct_isLetter (G : aG) (h : hH) (v : Int32) : Con G kX3_isLetter [.int v] h ((2, 22, 0, 0), (fun r h1 => r = some (.int (bI (decide (97 ≤ v) && decide (v ≤ 122)))) ∧ h = h1), nX) := by
  refine Con.of (plainFor_of_name rfl) rfl (Nat.le_of_ble_eq_true rfl) ?_
  refine AW.eq (lv2 := [(0, .int v)]) (s2 := []) rfl rfl rfl rfl rfl ?_
  refine aw_iload_n (n := 1) dX3_isLetter_0 rfl 0 rfl rfl ?_
  refine aw_bipush (n := 3) (v := 97) dX3_isLetter_1 (by decide) rfl ?_
  refine aw_bipush (n := 5) (v := 122) dX3_isLetter_3 (by decide) rfl ?_
  refine aw_callS (n := 8) (As := [.int v, .int 97, .int 122]) (rest := []) (K2 := kX3_isIn) dX3_isLetter_5 q2781 q2782 q113 q2783 hcX3_isIn (ct_isIn G h v 97 122) rfl (Nat.le_of_ble_eq_true rfl) ⟨Nat.le_of_ble_eq_true rfl, Nat.le_of_ble_eq_true rfl⟩ ⟨Nat.zero_le _, Nat.zero_le _⟩ (fun _ _ _ z => z.elim) rfl (fun r_5 h_5 q_5 => ?_)
  obtain ⟨rfl, rfl⟩ := q_5
  refine AW.sts (st' := [.int (bI (decide ((97 : Int32) ≤ v) && decide (v ≤ (122 : Int32))))]) rfl ?_
  exact aw_zret dX3_isLetter_8 rfl (bI_le _) ⟨congrArg some (congrArg Value.int (by rfl)), rfl⟩ ⟨Nat.zero_le _, Nat.zero_le _⟩

abbrev kX3_isDigit : aK := (yX3_isDigit, cX3_isDigit, 1, (Option.some Jvm.ClassFile.FieldType.boolean), [])
theorem hcX3_isDigit : kX3_isDigit.1.cls ≠ "java/lang/invoke/MethodHandle" ∧ kX3_isDigit.1.cls ≠ "java/lang/invoke/VarHandle" ∧ (parseMethodDescriptor kX3_isDigit.1.desc).map (fun d => d.parameters.length) = some 1 := ⟨by decide, by decide, by decide +kernel⟩
theorem ct_isDigit (G : aG) (h : hH) (v : Int32) : Con G kX3_isDigit [.int v] h ((2, 22, 0, 0), (fun r h1 => r = some (.int (bI (decide (48 ≤ v) && decide (v ≤ 57)))) ∧ h = h1), nX) := by
  refine Con.of (plainFor_of_name rfl) rfl (Nat.le_of_ble_eq_true rfl) ?_
  refine AW.eq (lv2 := [(0, .int v)]) (s2 := []) rfl rfl rfl rfl rfl ?_
  refine aw_iload_n (n := 1) dX3_isDigit_0 rfl 0 rfl rfl ?_
  refine aw_bipush (n := 3) (v := 48) dX3_isDigit_1 (by decide) rfl ?_
  refine aw_bipush (n := 5) (v := 57) dX3_isDigit_3 (by decide) rfl ?_
  refine aw_callS (n := 8) (As := [.int v, .int 48, .int 57]) (rest := []) (K2 := kX3_isIn) dX3_isDigit_5 q2781 q2782 q113 q2783 hcX3_isIn (ct_isIn G h v 48 57) rfl (Nat.le_of_ble_eq_true rfl) ⟨Nat.le_of_ble_eq_true rfl, Nat.le_of_ble_eq_true rfl⟩ ⟨Nat.zero_le _, Nat.zero_le _⟩ (fun _ _ _ z => z.elim) rfl (fun r_5 h_5 q_5 => ?_)
  obtain ⟨rfl, rfl⟩ := q_5
  refine AW.sts (st' := [.int (bI (decide ((48 : Int32) ≤ v) && decide (v ≤ (57 : Int32))))]) rfl ?_
  exact aw_zret dX3_isDigit_8 rfl (bI_le _) ⟨congrArg some (congrArg Value.int (by rfl)), rfl⟩ ⟨Nat.zero_le _, Nat.zero_le _⟩

abbrev kX3_byteAt : aK := (yX3_byteAt, cX3_byteAt, 2, (Option.some Jvm.ClassFile.FieldType.int), [])
theorem hcX3_byteAt : kX3_byteAt.1.cls ≠ "java/lang/invoke/MethodHandle" ∧ kX3_byteAt.1.cls ≠ "java/lang/invoke/VarHandle" ∧ (parseMethodDescriptor kX3_byteAt.1.desc).map (fun d => d.parameters.length) = some 1 := ⟨by decide, by decide, by decide +kernel⟩
theorem ct_byteAt (G : aG) (h : hH) (b : Nat) (ms : tM) (hb : gB G ≤ b) (hT : TW b h ms) (k len : Nat) (hk : k < 2 ^ 31) (hl : ms.1 2 = nI len) (h18 : len ≤ 1800) : Con G kX3_byteAt [.ref b, .int (nI k)] h ((1, 0, 0, 0), (fun r h1 => r = some (.int (if k < len then ms.2.1 1 k else -1)) ∧ h = h1), nX) := by
  refine Con.of (plainFor_of_name rfl) rfl (Nat.le_of_ble_eq_true rfl) ?_
  refine AW.eq (lv2 := [(0, .ref b), (1, .int (nI k))]) (s2 := []) rfl rfl rfl rfl rfl ?_
  refine aw_iload_n (n := 1) dX3_byteAt_0 rfl 1 rfl rfl ?_
  refine aw_aload_n (n := 2) dX3_byteAt_1 rfl 0 rfl rfl ?_
  refine aw_getf (n := 5) (v := .int (nI len)) (C0 := RX3) (T := TX3) dX3_byteAt_2 rfl 2 q2643 (Or.inl rfl) hT.1 (congrArg some (congrArg Value.int hl)) rfl ?_
  refine aw_icmp_ge (n := 8) (tgt := 17) dX3_byteAt_5 (by decide) rfl (fun c_5 => ?_) (fun c_5 => ?_)
  · skip
    have n_5 : len ≤ k := (nI_leI (a := len) (b := k) (by omega) (by omega)).mp (by exact c_5)
    refine aw_iconst (n := 18) (v := (-1)) dX3_byteAt_17 (by decide) rfl ?_
    exact aw_iret dX3_byteAt_18 rfl ⟨congrArg some (congrArg Value.int (by simp_all [nI_ltI, nI_leI, show len < 2 ^ 31 by omega, Nat.not_lt]; try (intro h9; omega))), rfl⟩ ⟨Nat.zero_le _, Nat.zero_le _⟩
  · skip
    have n_5 : ¬ (len ≤ k) := fun z => c_5 (by have y := (nI_leI (a := len) (b := k) (by omega) (by omega)).mpr z; exact y)
    refine aw_aload_n (n := 9) dX3_byteAt_8 rfl 0 rfl rfl ?_
    refine aw_getf (n := 12) (v := .ref (b + 1)) (C0 := RX3) (T := TX3) dX3_byteAt_9 rfl 1 q2642 (Or.inl rfl) hT.1 rfl rfl ?_
    refine aw_iload_n (n := 13) dX3_byteAt_12 rfl 1 rfl rfl ?_
    refine aw_iald (n := 14) (v := .int (ms.2.1 1 k)) dX3_byteAt_13 rfl k rfl hT.a1 (by have := (nI_ltI hk (by omega : len < 2 ^ 31)).mp (Int32.not_le.mp c_5); omega) (by decide) rfl rfl ?_
    refine aw_goto (tgt := 18) dX3_byteAt_14 (by decide) ?_
    exact aw_iret dX3_byteAt_18 rfl ⟨congrArg some (congrArg Value.int (by simp_all [nI_ltI, nI_leI, show len < 2 ^ 31 by omega, Nat.not_lt]; try (intro h9; omega))), rfl⟩ ⟨Nat.zero_le _, Nat.zero_le _⟩

abbrev kX3_at : aK := (yX3_at, cX3_at, 3, (Option.some Jvm.ClassFile.FieldType.long), [])
theorem hcX3_at : kX3_at.1.cls ≠ "java/lang/invoke/MethodHandle" ∧ kX3_at.1.cls ≠ "java/lang/invoke/VarHandle" ∧ (parseMethodDescriptor kX3_at.1.desc).map (fun d => d.parameters.length) = some 2 := ⟨by decide, by decide, by decide +kernel⟩
theorem ct_at (G : aG) (h : hH) (b : Nat) (ms : tM) (hb : gB G ≤ b) (hT : TW b h ms) (n i : Nat) (hn : n < 1203) (hi : i < 120) : Con G kX3_at [.ref b, .int (nI n), .int (nI i)] h ((1, 0, 0, 0), (fun r h1 => r = some (.long (ms.2.2 16 (120 * n + i))) ∧ h = h1), nX) := by
  refine Con.of (plainFor_of_name rfl) rfl (Nat.le_of_ble_eq_true rfl) ?_
  refine AW.eq (lv2 := [(0, .ref b), (1, .int (nI n)), (2, .int (nI i))]) (s2 := []) rfl rfl rfl rfl rfl ?_
  refine aw_aload_n (n := 1) dX3_at_0 rfl 0 rfl rfl ?_
  refine aw_getf (n := 4) (v := .ref (b + 12)) (C0 := RX3) (T := TX3) dX3_at_1 rfl 16 q2657 (Or.inl rfl) hT.1 rfl rfl ?_
  refine aw_bipush (n := 6) (v := 120) dX3_at_4 (by decide) rfl ?_
  refine aw_iload_n (n := 7) dX3_at_6 rfl 1 rfl rfl ?_
  refine aw_imul (n := 8) dX3_at_7 rfl ?_
  refine aw_iload_n (n := 9) dX3_at_8 rfl 2 rfl rfl ?_
  refine aw_iadd (n := 10) dX3_at_9 rfl ?_
  refine aw_lald (n := 11) (v := .long (ms.2.2 16 ((120 * n) + i))) dX3_at_10 rfl ((120 * n) + i) (by rw [show 120 * (nI n) = nI (120 * n) from (by rw [show 120 = nI 120 from (by rfl), show nI n = nI n from rfl]; exact pk_mul _ _), show nI i = nI i from rfl]; exact nI_add _ _) hT.a16 (by omega) (by decide) rfl rfl ?_
  exact aw_lret dX3_at_11 rfl ⟨congrArg some (congrArg Value.long (by rfl)), rfl⟩ ⟨Nat.zero_le _, Nat.zero_le _⟩

abbrev kX3_holds : aK := (yX3_holds, cX3_holds, 3, (Option.some Jvm.ClassFile.FieldType.boolean), [])
theorem hcX3_holds : kX3_holds.1.cls ≠ "java/lang/invoke/MethodHandle" ∧ kX3_holds.1.cls ≠ "java/lang/invoke/VarHandle" ∧ (parseMethodDescriptor kX3_holds.1.desc).map (fun d => d.parameters.length) = some 2 := ⟨by decide, by decide, by decide +kernel⟩
theorem ct_holds (G : aG) (h : hH) (b : Nat) (ms : tM) (hb : gB G ≤ b) (hT : TW b h ms) (n i : Nat) (hn : n < 1203) (hi : i < 120) : Con G kX3_holds [.ref b, .int (nI n), .int (nI i)] h ((2, 22, 0, 0), (fun r h1 => r = some (.int (bI (ms.2.2 16 (120 * n + i) != 0))) ∧ h = h1), nX) := by
  refine Con.of (plainFor_of_name rfl) rfl (Nat.le_of_ble_eq_true rfl) ?_
  refine AW.eq (lv2 := [(0, .ref b), (1, .int (nI n)), (2, .int (nI i))]) (s2 := []) rfl rfl rfl rfl rfl ?_
  refine aw_aload_n (n := 1) dX3_holds_0 rfl 0 rfl rfl ?_
  refine aw_iload_n (n := 2) dX3_holds_1 rfl 1 rfl rfl ?_
  refine aw_iload_n (n := 3) dX3_holds_2 rfl 2 rfl rfl ?_
  refine aw_callV (n := 6) (C0 := RX3) (As := [.int (nI n), .int (nI i)]) (rest := []) (K2 := kX3_at) dX3_holds_3 q3060 q3062 qs92 q113 q3063 ⟨rfl, hcX3_at⟩ rfl hT.1 (ct_at G h b ms hb hT n i hn hi) rfl (Nat.le_of_ble_eq_true rfl) ⟨Nat.le_of_ble_eq_true rfl, Nat.le_of_ble_eq_true rfl⟩ ⟨Nat.zero_le _, Nat.zero_le _⟩ (fun _ _ _ z => z.elim) rfl (fun r_3 h_3 q_3 => ?_)
  obtain ⟨rfl, rfl⟩ := q_3
  refine AW.sts (st' := [.long (ms.2.2 16 (120 * n + i))]) rfl ?_
  refine aw_lconst (n := 7) (v := 0) dX3_holds_6 (by decide) rfl ?_
  refine aw_lcmp (n := 8) dX3_holds_7 rfl ?_
  refine aw_if_eq (n := 11) (tgt := 15) dX3_holds_8 (by decide) rfl (fun c_8 => ?_) (fun c_8 => ?_)
  · skip
    have o_8 : (ms.2.2 16 (120 * n + i)) = (0 : Int64) := (lg_cmp_eq0 _ _).mp c_8
    refine aw_iconst (n := 16) (v := 0) dX3_holds_15 (by decide) rfl ?_
    exact aw_zret dX3_holds_16 rfl (by decide) ⟨congrArg some (congrArg Value.int (by simp_all [bI, lg_cmp_eq0])), rfl⟩ ⟨Nat.zero_le _, Nat.zero_le _⟩
  · skip
    have o_8 : ¬ ((ms.2.2 16 (120 * n + i)) = (0 : Int64)) := fun z => c_8 ((lg_cmp_eq0 _ _).mpr z)
    refine aw_iconst (n := 12) (v := 1) dX3_holds_11 (by decide) rfl ?_
    refine aw_goto (tgt := 16) dX3_holds_12 (by decide) ?_
    exact aw_zret dX3_holds_16 rfl (by decide) ⟨congrArg some (congrArg Value.int (by simp_all [bI, lg_cmp_eq0])), rfl⟩ ⟨Nat.zero_le _, Nat.zero_le _⟩

end
