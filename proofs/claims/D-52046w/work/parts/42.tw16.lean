/-! The twin: forms. -/
section
set_option maxRecDepth 100000
abbrev kX3_boundsForm : aK := (yX3_boundsForm, cX3_boundsForm, 1, (Option.some Jvm.ClassFile.FieldType.boolean), [])
theorem hcX3_boundsForm : kX3_boundsForm.1.cls ≠ "java/lang/invoke/MethodHandle" ∧ kX3_boundsForm.1.cls ≠ "java/lang/invoke/VarHandle" ∧ (parseMethodDescriptor kX3_boundsForm.1.desc).map (fun d => d.parameters.length) = some 0 := ⟨by decide, by decide, by decide +kernel⟩
abbrev kX3_expressionForm : aK := (yX3_expressionForm, cX3_expressionForm, 2, (Option.some Jvm.ClassFile.FieldType.boolean), [])
theorem hcX3_expressionForm : kX3_expressionForm.1.cls ≠ "java/lang/invoke/MethodHandle" ∧ kX3_expressionForm.1.cls ≠ "java/lang/invoke/VarHandle" ∧ (parseMethodDescriptor kX3_expressionForm.1.desc).map (fun d => d.parameters.length) = some 1 := ⟨by decide, by decide, by decide +kernel⟩
abbrev kX3_factorForm : aK := (yX3_factorForm, cX3_factorForm, 2, (Option.some Jvm.ClassFile.FieldType.boolean), [])
theorem hcX3_factorForm : kX3_factorForm.1.cls ≠ "java/lang/invoke/MethodHandle" ∧ kX3_factorForm.1.cls ≠ "java/lang/invoke/VarHandle" ∧ (parseMethodDescriptor kX3_factorForm.1.desc).map (fun d => d.parameters.length) = some 1 := ⟨by decide, by decide, by decide +kernel⟩
abbrev kX3_formulaForm : aK := (yX3_formulaForm, cX3_formulaForm, 2, (Option.some Jvm.ClassFile.FieldType.boolean), [])
theorem hcX3_formulaForm : kX3_formulaForm.1.cls ≠ "java/lang/invoke/MethodHandle" ∧ kX3_formulaForm.1.cls ≠ "java/lang/invoke/VarHandle" ∧ (parseMethodDescriptor kX3_formulaForm.1.desc).map (fun d => d.parameters.length) = some 1 := ⟨by decide, by decide, by decide +kernel⟩
abbrev kX3_oneForm : aK := (yX3_oneForm, cX3_oneForm, 3, (Option.some Jvm.ClassFile.FieldType.boolean), [])
theorem hcX3_oneForm : kX3_oneForm.1.cls ≠ "java/lang/invoke/MethodHandle" ∧ kX3_oneForm.1.cls ≠ "java/lang/invoke/VarHandle" ∧ (parseMethodDescriptor kX3_oneForm.1.desc).map (fun d => d.parameters.length) = some 1 := ⟨by decide, by decide, by decide +kernel⟩
abbrev kX3_productForm : aK := (yX3_productForm, cX3_productForm, 2, (Option.some Jvm.ClassFile.FieldType.boolean), [])
theorem hcX3_productForm : kX3_productForm.1.cls ≠ "java/lang/invoke/MethodHandle" ∧ kX3_productForm.1.cls ≠ "java/lang/invoke/VarHandle" ∧ (parseMethodDescriptor kX3_productForm.1.desc).map (fun d => d.parameters.length) = some 1 := ⟨by decide, by decide, by decide +kernel⟩
abbrev kX3_rowForm : aK := (yX3_rowForm, cX3_rowForm, 4, (Option.some Jvm.ClassFile.FieldType.boolean), [])
theorem hcX3_rowForm : kX3_rowForm.1.cls ≠ "java/lang/invoke/MethodHandle" ∧ kX3_rowForm.1.cls ≠ "java/lang/invoke/VarHandle" ∧ (parseMethodDescriptor kX3_rowForm.1.desc).map (fun d => d.parameters.length) = some 2 := ⟨by decide, by decide, by decide +kernel⟩
abbrev kX3_sinceForm : aK := (yX3_sinceForm, cX3_sinceForm, 2, (Option.some Jvm.ClassFile.FieldType.boolean), [])
theorem hcX3_sinceForm : kX3_sinceForm.1.cls ≠ "java/lang/invoke/MethodHandle" ∧ kX3_sinceForm.1.cls ≠ "java/lang/invoke/VarHandle" ∧ (parseMethodDescriptor kX3_sinceForm.1.desc).map (fun d => d.parameters.length) = some 1 := ⟨by decide, by decide, by decide +kernel⟩
abbrev kX3_bracesForm : aK := (yX3_bracesForm, cX3_bracesForm, 2, (Option.some Jvm.ClassFile.FieldType.boolean), [])
theorem hcX3_bracesForm : kX3_bracesForm.1.cls ≠ "java/lang/invoke/MethodHandle" ∧ kX3_bracesForm.1.cls ≠ "java/lang/invoke/VarHandle" ∧ (parseMethodDescriptor kX3_bracesForm.1.desc).map (fun d => d.parameters.length) = some 1 := ⟨by decide, by decide, by decide +kernel⟩
theorem cf_takes (G : aG) (h : hH)  (b : Nat) (ms : tM) (T : Tv) (N a : Nat) (hb : gB G ≤ b) (hT : TW b h (ats ms a)) (hS : tkS ms T N) (hN : a ≤ N) (ha4 : a ≤ 400) (wd : Nat) (bs : List Nat) (hW : isStr h.2 wd bs) (hlo : loS bs) : Con G kX3_takes [.ref b, .ref wd] h ((7, 130, 0, 0), (fun r h1 => r = some (.int (bI (seesP T a bs))) ∧ TW b h1 (if (seesP T a bs) = true then ats ms (a + 1) else ats ms a) ∧ Fr (TS b) h h1 ∧ h1.1 = h.1), nX) := by
  refine Con.of (plainFor_of_name rfl) rfl (Nat.le_of_ble_eq_true rfl) ?_
  refine AW.eq (lv2 := [(0, .ref b), (1, .ref wd)]) (s2 := []) rfl rfl rfl rfl rfl ?_
  have K_1 := (hS.1 a hN).2.1
  refine aw_aload_n (n := 1) dX3_takes_0 rfl 0 rfl rfl ?_
  refine aw_aload_n (n := 2) dX3_takes_1 rfl 1 rfl rfl ?_
  refine aw_callV (n := 5) (C0 := RX3) (As := [.ref wd]) (rest := []) (K2 := kX3_sees) dX3_takes_2 q2826 q2828 qs50 q113 q2829 ⟨rfl, hcX3_sees⟩ rfl hT.1 (ct_sees G h b (ats ms a) hb hT T a rfl (hS.1 a hN) wd bs hW hlo) rfl (Nat.le_of_ble_eq_true rfl) ⟨Nat.le_of_ble_eq_true rfl, Nat.le_of_ble_eq_true rfl⟩ ⟨Nat.zero_le _, Nat.zero_le _⟩ (fun _ _ _ z => z.elim) rfl (fun r_2 h_2 q_2 => ?_)
  obtain ⟨rfl, rfl⟩ := q_2
  refine AW.sts (st' := [.int (bI (seesB T a bs))]) rfl ?_
  refine aw_if_eq (n := 8) (tgt := 19) dX3_takes_5 (by decide) rfl (fun c_5 => ?_) (fun c_5 => ?_)
  · skip
    have b_5 : (seesB T a bs) = false := (bI_0 _).mp c_5
    refine aw_iconst (n := 20) (v := 0) dX3_takes_19 (by decide) rfl ?_
    exact aw_zret dX3_takes_20 rfl (by decide) ⟨congrArg some (congrArg Value.int (by rw [show (seesP T a bs) = false by simp [seesP, nmP, nuP, gOr, gAnd, gSum, gPro, b_5, c_5]]; rfl)), by rw [if_neg (by simp [seesP, nmP, nuP, gOr, gAnd, gSum, gPro, b_5, c_5])]; exact hT, Fr.rf, rfl⟩ ⟨Nat.zero_le _, Nat.zero_le _⟩
  · skip
    have b_5 : (seesB T a bs) = true := Bool.of_not_eq_false (fun e => c_5 ((bI_0 _).mpr e))
    refine aw_aload_n (n := 9) dX3_takes_8 rfl 0 rfl rfl ?_
    refine aw_callV (n := 12) (C0 := RX3) (As := []) (rest := []) (K2 := kX3_goes) dX3_takes_9 q2836 q2838 qs52 q113 q2839 ⟨rfl, hcX3_goes⟩ rfl hT.1 (ct_goes G h b (ats ms a) hb hT a rfl ha4) rfl (Nat.le_of_ble_eq_true rfl) ⟨Nat.le_of_ble_eq_true rfl, Nat.le_of_ble_eq_true rfl⟩ ⟨Nat.zero_le _, Nat.zero_le _⟩ (fun _ _ _ z => z.elim) rfl (fun r_9 h_9 q_9 => ?_)
    obtain ⟨rfl, hT_9, hF_9, hz_9⟩ := q_9
    refine AW.sts (st' := [.int (bI (a != 400))]) rfl ?_
    refine aw_if_eq (n := 15) (tgt := 19) dX3_takes_12 (by decide) rfl (fun c_12 => ?_) (fun c_12 => ?_)
    · skip
      have b_12 : (a != 400) = false := (bI_0 _).mp c_12
      have e9 : a = 400 := by simpa using b_12
      have hU9 : TW b h_9 (ats ms a) := by rw [e9, goM_400] at hT_9; rw [e9]; exact hT_9
      refine aw_iconst (n := 20) (v := 0) dX3_takes_19 (by decide) rfl ?_
      exact aw_zret dX3_takes_20 rfl (by decide) ⟨congrArg some (congrArg Value.int (by rw [show (seesP T a bs) = false by simp [seesP, nmP, nuP, gOr, gAnd, gSum, gPro, e9]]; rfl)), by rw [if_neg (by simp [seesP, nmP, nuP, gOr, gAnd, gSum, gPro, e9])]; exact hU9, hF_9, (by omega)⟩ ⟨Nat.zero_le _, Nat.zero_le _⟩
    · skip
      have b_12 : (a != 400) = true := Bool.of_not_eq_false (fun e => c_12 ((bI_0 _).mpr e))
      have l9 : a < 400 := by have z : a ≠ 400 := (by simpa using b_12); omega
      rw [goM_lt (by omega), tS_tS] at hT_9
      refine aw_iconst (n := 16) (v := 1) dX3_takes_15 (by decide) rfl ?_
      refine aw_goto (tgt := 20) dX3_takes_16 (by decide) ?_
      exact aw_zret dX3_takes_20 rfl (by decide) ⟨congrArg some (congrArg Value.int (by rw [show (seesP T a bs) = true by simp [seesP, nmP, nuP, gOr, gAnd, gSum, gPro, b_5, c_5, b_12, c_12, l9]]; rfl)), by rw [if_pos (by simp [seesP, nmP, nuP, gOr, gAnd, gSum, gPro, b_5, c_5, b_12, c_12, l9])]; exact hT_9, hF_9, (by omega)⟩ ⟨Nat.zero_le _, Nat.zero_le _⟩

theorem cf_takesName (G : aG) (h : hH)  (b : Nat) (ms : tM) (T : Tv) (N a : Nat) (hb : gB G ≤ b) (hT : TW b h (ats ms a)) (hS : tkS ms T N) (hN : a ≤ N) (ha4 : a ≤ 400) : Con G kX3_takesName [.ref b] h ((8, 154, 0, 0), (fun r h1 => r = some (.int (bI (nmP T a))) ∧ TW b h1 (if (nmP T a) = true then ats ms (a + 1) else ats ms a) ∧ Fr (TS b) h h1 ∧ h1.1 = h.1), nX) := by
  refine Con.of (plainFor_of_name rfl) rfl (Nat.le_of_ble_eq_true rfl) ?_
  refine AW.eq (lv2 := [(0, .ref b)]) (s2 := []) rfl rfl rfl rfl rfl ?_
  have K_1 := (hS.1 a hN).2.1
  refine aw_aload_n (n := 1) dX3_takesName_0 rfl 0 rfl rfl ?_
  refine aw_aload_n (n := 2) dX3_takesName_1 rfl 0 rfl rfl ?_
  refine aw_getf (n := 5) (v := .int (nI a)) (C0 := RX3) (T := TX3) dX3_takesName_2 rfl 7 q2648 (Or.inl rfl) hT.1 (congrArg some (congrArg Value.int rfl)) rfl ?_
  refine aw_callV (n := 8) (C0 := RX3) (As := [.int (nI a)]) (rest := []) (K2 := kX3_isName) dX3_takesName_5 q2844 q2846 qs54 q113 q2847 ⟨rfl, hcX3_isName⟩ rfl hT.1 (ct_isName G h b (ats ms a) hb hT T a (hS.1 a hN)) rfl (Nat.le_of_ble_eq_true rfl) ⟨Nat.le_of_ble_eq_true rfl, Nat.le_of_ble_eq_true rfl⟩ ⟨Nat.zero_le _, Nat.zero_le _⟩ (fun _ _ _ z => z.elim) rfl (fun r_5 h_5 q_5 => ?_)
  obtain ⟨rfl, rfl⟩ := q_5
  refine AW.sts (st' := [.int (bI (isNm T a))]) rfl ?_
  refine aw_if_eq (n := 11) (tgt := 22) dX3_takesName_8 (by decide) rfl (fun c_8 => ?_) (fun c_8 => ?_)
  · skip
    have b_8 : (isNm T a) = false := (bI_0 _).mp c_8
    refine aw_iconst (n := 23) (v := 0) dX3_takesName_22 (by decide) rfl ?_
    exact aw_zret dX3_takesName_23 rfl (by decide) ⟨congrArg some (congrArg Value.int (by rw [show (nmP T a) = false by simp [seesP, nmP, nuP, gOr, gAnd, gSum, gPro, b_8, c_8]]; rfl)), by rw [if_neg (by simp [seesP, nmP, nuP, gOr, gAnd, gSum, gPro, b_8, c_8])]; exact hT, Fr.rf, rfl⟩ ⟨Nat.zero_le _, Nat.zero_le _⟩
  · skip
    have b_8 : (isNm T a) = true := Bool.of_not_eq_false (fun e => c_8 ((bI_0 _).mpr e))
    refine aw_aload_n (n := 12) dX3_takesName_11 rfl 0 rfl rfl ?_
    refine aw_callV (n := 15) (C0 := RX3) (As := []) (rest := []) (K2 := kX3_goes) dX3_takesName_12 q2836 q2838 qs52 q113 q2839 ⟨rfl, hcX3_goes⟩ rfl hT.1 (ct_goes G h b (ats ms a) hb hT a rfl ha4) rfl (Nat.le_of_ble_eq_true rfl) ⟨Nat.le_of_ble_eq_true rfl, Nat.le_of_ble_eq_true rfl⟩ ⟨Nat.zero_le _, Nat.zero_le _⟩ (fun _ _ _ z => z.elim) rfl (fun r_12 h_12 q_12 => ?_)
    obtain ⟨rfl, hT_12, hF_12, hz_12⟩ := q_12
    refine AW.sts (st' := [.int (bI (a != 400))]) rfl ?_
    refine aw_if_eq (n := 18) (tgt := 22) dX3_takesName_15 (by decide) rfl (fun c_15 => ?_) (fun c_15 => ?_)
    · skip
      have b_15 : (a != 400) = false := (bI_0 _).mp c_15
      have e9 : a = 400 := by simpa using b_15
      have hU9 : TW b h_12 (ats ms a) := by rw [e9, goM_400] at hT_12; rw [e9]; exact hT_12
      refine aw_iconst (n := 23) (v := 0) dX3_takesName_22 (by decide) rfl ?_
      exact aw_zret dX3_takesName_23 rfl (by decide) ⟨congrArg some (congrArg Value.int (by rw [show (nmP T a) = false by simp [seesP, nmP, nuP, gOr, gAnd, gSum, gPro, e9]]; rfl)), by rw [if_neg (by simp [seesP, nmP, nuP, gOr, gAnd, gSum, gPro, e9])]; exact hU9, hF_12, (by omega)⟩ ⟨Nat.zero_le _, Nat.zero_le _⟩
    · skip
      have b_15 : (a != 400) = true := Bool.of_not_eq_false (fun e => c_15 ((bI_0 _).mpr e))
      have l9 : a < 400 := by have z : a ≠ 400 := (by simpa using b_15); omega
      rw [goM_lt (by omega), tS_tS] at hT_12
      refine aw_iconst (n := 19) (v := 1) dX3_takesName_18 (by decide) rfl ?_
      refine aw_goto (tgt := 23) dX3_takesName_19 (by decide) ?_
      exact aw_zret dX3_takesName_23 rfl (by decide) ⟨congrArg some (congrArg Value.int (by rw [show (nmP T a) = true by simp [seesP, nmP, nuP, gOr, gAnd, gSum, gPro, b_8, c_8, b_15, c_15, l9]]; rfl)), by rw [if_pos (by simp [seesP, nmP, nuP, gOr, gAnd, gSum, gPro, b_8, c_8, b_15, c_15, l9])]; exact hT_12, hF_12, (by omega)⟩ ⟨Nat.zero_le _, Nat.zero_le _⟩

theorem cf_takesNumber (G : aG) (h : hH)  (b : Nat) (ms : tM) (T : Tv) (N a : Nat) (hb : gB G ≤ b) (hT : TW b h (ats ms a)) (hS : tkS ms T N) (hN : a ≤ N) (ha4 : a ≤ 400) : Con G kX3_takesNumber [.ref b] h ((2, 20, 0, 0), (fun r h1 => r = some (.int (bI (nuP T a))) ∧ TW b h1 (if (nuP T a) = true then ats ms (a + 1) else ats ms a) ∧ Fr (TS b) h h1 ∧ h1.1 = h.1), nX) := by
  refine Con.of (plainFor_of_name rfl) rfl (Nat.le_of_ble_eq_true rfl) ?_
  refine AW.eq (lv2 := [(0, .ref b)]) (s2 := []) rfl rfl rfl rfl rfl ?_
  have K_1 := (hS.1 a hN).2.1
  refine aw_aload_n (n := 1) dX3_takesNumber_0 rfl 0 rfl rfl ?_
  refine aw_getf (n := 4) (v := .ref (b + 2)) (C0 := RX3) (T := TX3) dX3_takesNumber_1 rfl 4 q2645 (Or.inl rfl) hT.1 rfl rfl ?_
  refine aw_aload_n (n := 5) dX3_takesNumber_4 rfl 0 rfl rfl ?_
  refine aw_getf (n := 8) (v := .int (nI a)) (C0 := RX3) (T := TX3) dX3_takesNumber_5 rfl 7 q2648 (Or.inl rfl) hT.1 (congrArg some (congrArg Value.int rfl)) rfl ?_
  refine aw_iald (n := 9) (v := .int ((ats ms a).2.1 4 a)) dX3_takesNumber_8 rfl a rfl hT.a4 (by omega) (by decide) rfl rfl ?_
  refine aw_iconst (n := 10) (v := 2) dX3_takesNumber_9 (by decide) rfl ?_
  refine aw_icmp_ne (n := 13) (tgt := 24) dX3_takesNumber_10 (by decide) rfl (fun c_10 => ?_) (fun c_10 => ?_)
  · skip
    have n_10 : ¬ ((T.1 a) = 2) := fun z => c_10 (by have y := (nI_eq (a := (T.1 a)) (b := 2) (by omega) (by omega)).mpr z; rw [← ((hS.1 a hN).2.2.1 : ((ats ms a).2.1 4 a) = nI (T.1 a)), ← ((by rfl) : (2 : Int32) = nI 2)] at y; exact y)
    refine aw_iconst (n := 25) (v := 0) dX3_takesNumber_24 (by decide) rfl ?_
    exact aw_zret dX3_takesNumber_25 rfl (by decide) ⟨congrArg some (congrArg Value.int (by rw [show (nuP T a) = false by simp [seesP, nmP, nuP, gOr, gAnd, gSum, gPro, n_10, c_10]]; rfl)), by rw [if_neg (by simp [seesP, nmP, nuP, gOr, gAnd, gSum, gPro, n_10, c_10])]; exact hT, Fr.rf, rfl⟩ ⟨Nat.zero_le _, Nat.zero_le _⟩
  · skip
    have n_10 : (T.1 a) = 2 := (nI_eq (a := (T.1 a)) (b := 2) (by omega) (by omega)).mp (by rw [← ((hS.1 a hN).2.2.1 : ((ats ms a).2.1 4 a) = nI (T.1 a)), ← ((by rfl) : (2 : Int32) = nI 2)]; exact c_10)
    refine aw_aload_n (n := 14) dX3_takesNumber_13 rfl 0 rfl rfl ?_
    refine aw_callV (n := 17) (C0 := RX3) (As := []) (rest := []) (K2 := kX3_goes) dX3_takesNumber_14 q2836 q2838 qs52 q113 q2839 ⟨rfl, hcX3_goes⟩ rfl hT.1 (ct_goes G h b (ats ms a) hb hT a rfl ha4) rfl (Nat.le_of_ble_eq_true rfl) ⟨Nat.le_of_ble_eq_true rfl, Nat.le_of_ble_eq_true rfl⟩ ⟨Nat.zero_le _, Nat.zero_le _⟩ (fun _ _ _ z => z.elim) rfl (fun r_14 h_14 q_14 => ?_)
    obtain ⟨rfl, hT_14, hF_14, hz_14⟩ := q_14
    refine AW.sts (st' := [.int (bI (a != 400))]) rfl ?_
    refine aw_if_eq (n := 20) (tgt := 24) dX3_takesNumber_17 (by decide) rfl (fun c_17 => ?_) (fun c_17 => ?_)
    · skip
      have b_17 : (a != 400) = false := (bI_0 _).mp c_17
      have e9 : a = 400 := by simpa using b_17
      have hU9 : TW b h_14 (ats ms a) := by rw [e9, goM_400] at hT_14; rw [e9]; exact hT_14
      refine aw_iconst (n := 25) (v := 0) dX3_takesNumber_24 (by decide) rfl ?_
      exact aw_zret dX3_takesNumber_25 rfl (by decide) ⟨congrArg some (congrArg Value.int (by rw [show (nuP T a) = false by simp [seesP, nmP, nuP, gOr, gAnd, gSum, gPro, e9]]; rfl)), by rw [if_neg (by simp [seesP, nmP, nuP, gOr, gAnd, gSum, gPro, e9])]; exact hU9, hF_14, (by omega)⟩ ⟨Nat.zero_le _, Nat.zero_le _⟩
    · skip
      have b_17 : (a != 400) = true := Bool.of_not_eq_false (fun e => c_17 ((bI_0 _).mpr e))
      have l9 : a < 400 := by have z : a ≠ 400 := (by simpa using b_17); omega
      rw [goM_lt (by omega), tS_tS] at hT_14
      refine aw_iconst (n := 21) (v := 1) dX3_takesNumber_20 (by decide) rfl ?_
      refine aw_goto (tgt := 25) dX3_takesNumber_21 (by decide) ?_
      exact aw_zret dX3_takesNumber_25 rfl (by decide) ⟨congrArg some (congrArg Value.int (by rw [show (nuP T a) = true by simp [seesP, nmP, nuP, gOr, gAnd, gSum, gPro, c_10, b_17, c_17, n_10, l9]]; rfl)), by rw [if_pos (by simp [seesP, nmP, nuP, gOr, gAnd, gSum, gPro, c_10, b_17, c_17, n_10, l9])]; exact hT_14, hF_14, (by omega)⟩ ⟨Nat.zero_le _, Nat.zero_le _⟩

theorem cf_bounds (G : aG) (h : hH)  (b : Nat) (ms : tM) (T : Tv) (N a : Nat) (hb : gB G ≤ b) (hT : TW b h (ats ms a)) (hS : tkS ms T N) (hN : a ≤ N) (ha4 : a ≤ 400) : Con G kX3_boundsForm [.ref b] h ((8, 151, 0, 0), (fun r h1 => ∃ (z : Bool) (a9 : Nat), r = some (.int (bI z)) ∧ TW b h1 (ats ms a9) ∧ Fr (TS b) h h1 ∧ h1.1 = h.1 ∧ fQ T z a9 (qBd T a)), nX) := by
  refine Con.of (plainFor_of_name rfl) rfl (Nat.le_of_ble_eq_true rfl) ?_
  refine AW.eq (lv2 := [(0, .ref b)]) (s2 := []) rfl rfl rfl rfl rfl ?_
  have hg0 : fH T (qBd T a) (qBd T a) := fH.rf
  unfold qBd at hg0
  have K_1 := (hS.1 a hN).2.1
  refine aw_aload_n (n := 1) dX3_boundsForm_0 rfl 0 rfl rfl ?_
  refine aw_ldcS (n := 3) (q := 47) dX3_boundsForm_1 105 rfl rfl ?_
  refine aw_know (fun gd_1 hi_1 => ?_)
  refine aw_callV (n := 6) (C0 := RX3) (As := [.ref (gT G 47)]) (rest := []) (K2 := kX3_sees) dX3_boundsForm_3 q2826 q2828 qs50 q113 q2829 ⟨rfl, hcX3_sees⟩ rfl hT.1 (ct_sees G h b (ats ms a) hb hT T a rfl (hS.1 a hN) _ (sw 47) (str_at gd_1 hi_1 (i := 47) rfl) (lo_at (i := 47) rfl)) rfl (Nat.le_of_ble_eq_true rfl) ⟨Nat.le_of_ble_eq_true rfl, Nat.le_of_ble_eq_true rfl⟩ ⟨Nat.zero_le _, Nat.zero_le _⟩ (fun _ _ _ z => z.elim) rfl (fun r_3 h_3 q_3 => ?_)
  obtain ⟨rfl, rfl⟩ := q_3
  refine AW.sts (st' := [.int (bI (seesB T a (sw 47)))]) rfl ?_
  refine aw_if_eq (n := 9) (tgt := 48) dX3_boundsForm_6 (by decide) rfl (fun c_6 => ?_) (fun c_6 => ?_)
  · skip
    have b_6 : (seesB T a (sw 47)) = false := (bI_0 _).mp c_6
    have g_3 := fH.F hg0 (by first | assumption | simp [seesP, nmP, nuP, gOr, gAnd, gSum, gPro, b_6])
    try dsimp only at g_3
    refine aw_iconst (n := 49) (v := 1) dX3_boundsForm_48 (by decide) rfl ?_
    refine aw_goto (tgt := 53) dX3_boundsForm_49 (by decide) ?_
    exact aw_zret dX3_boundsForm_53 rfl (by decide) ⟨true, a, rfl, hT, Fr.rf, rfl, (fH.ok g_3)⟩ ⟨Nat.zero_le _, Nat.zero_le _⟩
  · skip
    have b_6 : (seesB T a (sw 47)) = true := Bool.of_not_eq_false (fun e => c_6 ((bI_0 _).mpr e))
    refine aw_aload_n (n := 10) dX3_boundsForm_9 rfl 0 rfl rfl ?_
    refine aw_callV (n := 13) (C0 := RX3) (As := []) (rest := []) (K2 := kX3_goes) dX3_boundsForm_10 q2836 q2838 qs52 q113 q2839 ⟨rfl, hcX3_goes⟩ rfl hT.1 (ct_goes G h b (ats ms a) hb hT a rfl ha4) rfl (Nat.le_of_ble_eq_true rfl) ⟨Nat.le_of_ble_eq_true rfl, Nat.le_of_ble_eq_true rfl⟩ ⟨Nat.zero_le _, Nat.zero_le _⟩ (fun _ _ _ z => z.elim) rfl (fun r_10 h_10 q_10 => ?_)
    obtain ⟨rfl, hT_10, hF_10, hz_10⟩ := q_10
    refine AW.sts (st' := [.int (bI (a != 400))]) rfl ?_
    refine aw_if_eq (n := 16) (tgt := 52) dX3_boundsForm_13 (by decide) rfl (fun c_13 => ?_) (fun c_13 => ?_)
    · skip
      have b_13 : (a != 400) = false := (bI_0 _).mp c_13
      have e_10 : a = 400 := by simpa using b_13
      have ne_10 : T.1 a ≠ 0 := by first | exact seesB_ne (by assumption) | exact isNm_ne (by assumption) | exact whT_lt (by assumption) | omega
      have hU_10 : TW b h_10 (ats ms a) := by rw [e_10, goM_400] at hT_10; rw [e_10]; exact hT_10
      have fq_10 : fQ T false a (qBd T a) := by have z := hg0; rw [e_10] at z ne_10 ⊢; exact z.stay (by first | exact qPc_4 T _ _ | exact qLp_4 (gOr_4 T) _ | exact qLp_4 (gAnd_4 T) _ | exact qLp_4 (gSum_4 T) _ | exact qLp_4 (gPro_4 T) _ | simp [qb_0, qb_1, qb_4, qX_4, seesP_4, nmP_4, nuP_4, whP_4, qT_4, qNm_4, qNu_4, qBd_4, qBr_4, qBo, qI_f, gOr_4, gAnd_4, gSum_4, gPro_4, qLp_4]) ne_10
      refine aw_iconst (n := 53) (v := 0) dX3_boundsForm_52 (by decide) rfl ?_
      exact aw_zret dX3_boundsForm_53 rfl (by decide) ⟨false, a, rfl, hU_10, hF_10, (by omega), fq_10⟩ ⟨Nat.zero_le _, Nat.zero_le _⟩
    · skip
      have b_13 : (a != 400) = true := Bool.of_not_eq_false (fun e => c_13 ((bI_0 _).mpr e))
      have l_10 : a < 400 := by have z : a ≠ 400 := (by simpa using b_13); omega
      have ne_10 : T.1 a ≠ 0 := by first | exact seesB_ne (by assumption) | exact isNm_ne (by assumption) | exact whT_lt (by assumption) | omega
      rw [goM_lt (by omega), tS_tS] at hT_10
      have g_4 := fH.T hg0 (by first | assumption | simp [seesP, nmP, nuP, gOr, gAnd, gSum, gPro, b_6, l_10])
      try dsimp only at g_4
      have N_10 : a + 1 ≤ N := lt_end hS.2.1 hN ne_10
      have a_10 : a + 1 ≤ 400 := by omega
      have K_5 := (hS.1 (a + 1) N_10).2.1
      refine aw_aload_n (n := 17) dX3_boundsForm_16 rfl 0 rfl rfl ?_
      refine aw_callV (n := 20) (C0 := RX3) (As := []) (rest := []) (K2 := kX3_takesNumber) dX3_boundsForm_17 q2856 q2858 qs56 q113 q2859 ⟨rfl, hcX3_takesNumber⟩ rfl hT_10.1 (cf_takesNumber G h_10 b ms T N (a + 1) hb hT_10 hS N_10 a_10) rfl (Nat.le_of_ble_eq_true rfl) ⟨Nat.le_of_ble_eq_true rfl, Nat.le_of_ble_eq_true rfl⟩ ⟨Nat.zero_le _, Nat.zero_le _⟩ (fun _ _ _ z => z.elim) rfl (fun r_17 h_17 q_17 => ?_)
      obtain ⟨rfl, hT_17, hF_17, hz_17⟩ := q_17
      have hG_17 := Fr.trans hF_10 hF_17
      refine AW.sts (st' := [.int (bI (nuP T (a + 1)))]) rfl ?_
      refine aw_if_eq (n := 23) (tgt := 52) dX3_boundsForm_20 (by decide) rfl (fun c_20 => ?_) (fun c_20 => ?_)
      · skip
        have b_20 : (nuP T (a + 1)) = false := (bI_0 _).mp c_20
        rw [if_neg (by rw [b_20]; decide)] at hT_17
        refine aw_iconst (n := 53) (v := 0) dX3_boundsForm_52 (by decide) rfl ?_
        exact aw_zret dX3_boundsForm_53 rfl (by decide) ⟨false, a + 1, rfl, hT_17, hG_17, (by omega), (fH.tF g_4 b_20)⟩ ⟨Nat.zero_le _, Nat.zero_le _⟩
      · skip
        have b_20 : (nuP T (a + 1)) = true := Bool.of_not_eq_false (fun e => c_20 ((bI_0 _).mpr e))
        rw [if_pos b_20] at hT_17
        have t_17 := nuP_lt b_20
        have N_17 : a + 1 + 1 ≤ N := lt_end hS.2.1 N_10 t_17.2
        have a_17 : a + 1 + 1 ≤ 400 := by omega
        have g_6 := fH.tT g_4 b_20
        try dsimp only at g_6
        have K_7 := (hS.1 ((a + 1) + 1) N_17).2.1
        refine aw_aload_n (n := 24) dX3_boundsForm_23 rfl 0 rfl rfl ?_
        refine aw_ldcS (n := 26) (q := 34) dX3_boundsForm_24 106 rfl rfl ?_
        refine aw_know (fun gd_7 hi_7 => ?_)
        refine aw_callV (n := 29) (C0 := RX3) (As := [.ref (gT G 34)]) (rest := []) (K2 := kX3_takes) dX3_boundsForm_26 q2822 q2824 qs49 q113 q2825 ⟨rfl, hcX3_takes⟩ rfl hT_17.1 (cf_takes G h_17 b ms T N ((a + 1) + 1) hb hT_17 hS N_17 a_17 _ (sw 34) (str_at gd_7 hi_7 (i := 34) rfl) (lo_at (i := 34) rfl)) rfl (Nat.le_of_ble_eq_true rfl) ⟨Nat.le_of_ble_eq_true rfl, Nat.le_of_ble_eq_true rfl⟩ ⟨Nat.zero_le _, Nat.zero_le _⟩ (fun _ _ _ z => z.elim) rfl (fun r_26 h_26 q_26 => ?_)
        obtain ⟨rfl, hT_26, hF_26, hz_26⟩ := q_26
        have hG_26 := Fr.trans hG_17 hF_26
        refine AW.sts (st' := [.int (bI (seesP T ((a + 1) + 1) (sw 34)))]) rfl ?_
        refine aw_if_eq (n := 32) (tgt := 52) dX3_boundsForm_29 (by decide) rfl (fun c_29 => ?_) (fun c_29 => ?_)
        · skip
          have b_29 : (seesP T ((a + 1) + 1) (sw 34)) = false := (bI_0 _).mp c_29
          rw [if_neg (by rw [b_29]; decide)] at hT_26
          refine aw_iconst (n := 53) (v := 0) dX3_boundsForm_52 (by decide) rfl ?_
          exact aw_zret dX3_boundsForm_53 rfl (by decide) ⟨false, (a + 1) + 1, rfl, hT_26, hG_26, (by omega), (fH.tF g_6 b_29)⟩ ⟨Nat.zero_le _, Nat.zero_le _⟩
        · skip
          have b_29 : (seesP T ((a + 1) + 1) (sw 34)) = true := Bool.of_not_eq_false (fun e => c_29 ((bI_0 _).mpr e))
          rw [if_pos b_29] at hT_26
          have t_26 := seesP_lt b_29
          have N_26 : (a + 1) + 1 + 1 ≤ N := lt_end hS.2.1 N_17 t_26.2
          have a_26 : (a + 1) + 1 + 1 ≤ 400 := by omega
          have g_9 := fH.tT g_6 b_29
          try dsimp only at g_9
          have K_10 := (hS.1 (((a + 1) + 1) + 1) N_26).2.1
          refine aw_aload_n (n := 33) dX3_boundsForm_32 rfl 0 rfl rfl ?_
          refine aw_callV (n := 36) (C0 := RX3) (As := []) (rest := []) (K2 := kX3_takesNumber) dX3_boundsForm_33 q2856 q2858 qs56 q113 q2859 ⟨rfl, hcX3_takesNumber⟩ rfl hT_26.1 (cf_takesNumber G h_26 b ms T N (((a + 1) + 1) + 1) hb hT_26 hS N_26 a_26) rfl (Nat.le_of_ble_eq_true rfl) ⟨Nat.le_of_ble_eq_true rfl, Nat.le_of_ble_eq_true rfl⟩ ⟨Nat.zero_le _, Nat.zero_le _⟩ (fun _ _ _ z => z.elim) rfl (fun r_33 h_33 q_33 => ?_)
          obtain ⟨rfl, hT_33, hF_33, hz_33⟩ := q_33
          have hG_33 := Fr.trans hG_26 hF_33
          refine AW.sts (st' := [.int (bI (nuP T (((a + 1) + 1) + 1)))]) rfl ?_
          refine aw_if_eq (n := 39) (tgt := 52) dX3_boundsForm_36 (by decide) rfl (fun c_36 => ?_) (fun c_36 => ?_)
          · skip
            have b_36 : (nuP T (((a + 1) + 1) + 1)) = false := (bI_0 _).mp c_36
            rw [if_neg (by rw [b_36]; decide)] at hT_33
            refine aw_iconst (n := 53) (v := 0) dX3_boundsForm_52 (by decide) rfl ?_
            exact aw_zret dX3_boundsForm_53 rfl (by decide) ⟨false, ((a + 1) + 1) + 1, rfl, hT_33, hG_33, (by omega), (fH.tF g_9 b_36)⟩ ⟨Nat.zero_le _, Nat.zero_le _⟩
          · skip
            have b_36 : (nuP T (((a + 1) + 1) + 1)) = true := Bool.of_not_eq_false (fun e => c_36 ((bI_0 _).mpr e))
            rw [if_pos b_36] at hT_33
            have t_33 := nuP_lt b_36
            have N_33 : ((a + 1) + 1) + 1 + 1 ≤ N := lt_end hS.2.1 N_26 t_33.2
            have a_33 : ((a + 1) + 1) + 1 + 1 ≤ 400 := by omega
            have g_11 := fH.tT g_9 b_36
            try dsimp only at g_11
            have K_12 := (hS.1 ((((a + 1) + 1) + 1) + 1) N_33).2.1
            refine aw_aload_n (n := 40) dX3_boundsForm_39 rfl 0 rfl rfl ?_
            refine aw_ldcS (n := 42) (q := 48) dX3_boundsForm_40 107 rfl rfl ?_
            refine aw_know (fun gd_12 hi_12 => ?_)
            refine aw_callV (n := 45) (C0 := RX3) (As := [.ref (gT G 48)]) (rest := []) (K2 := kX3_takes) dX3_boundsForm_42 q2822 q2824 qs49 q113 q2825 ⟨rfl, hcX3_takes⟩ rfl hT_33.1 (cf_takes G h_33 b ms T N ((((a + 1) + 1) + 1) + 1) hb hT_33 hS N_33 a_33 _ (sw 48) (str_at gd_12 hi_12 (i := 48) rfl) (lo_at (i := 48) rfl)) rfl (Nat.le_of_ble_eq_true rfl) ⟨Nat.le_of_ble_eq_true rfl, Nat.le_of_ble_eq_true rfl⟩ ⟨Nat.zero_le _, Nat.zero_le _⟩ (fun _ _ _ z => z.elim) rfl (fun r_42 h_42 q_42 => ?_)
            obtain ⟨rfl, hT_42, hF_42, hz_42⟩ := q_42
            have hG_42 := Fr.trans hG_33 hF_42
            refine AW.sts (st' := [.int (bI (seesP T ((((a + 1) + 1) + 1) + 1) (sw 48)))]) rfl ?_
            refine aw_if_eq (n := 48) (tgt := 52) dX3_boundsForm_45 (by decide) rfl (fun c_45 => ?_) (fun c_45 => ?_)
            · skip
              have b_45 : (seesP T ((((a + 1) + 1) + 1) + 1) (sw 48)) = false := (bI_0 _).mp c_45
              rw [if_neg (by rw [b_45]; decide)] at hT_42
              refine aw_iconst (n := 53) (v := 0) dX3_boundsForm_52 (by decide) rfl ?_
              exact aw_zret dX3_boundsForm_53 rfl (by decide) ⟨false, (((a + 1) + 1) + 1) + 1, rfl, hT_42, hG_42, (by omega), (fH.lF g_11 b_45)⟩ ⟨Nat.zero_le _, Nat.zero_le _⟩
            · skip
              have b_45 : (seesP T ((((a + 1) + 1) + 1) + 1) (sw 48)) = true := Bool.of_not_eq_false (fun e => c_45 ((bI_0 _).mpr e))
              rw [if_pos b_45] at hT_42
              have t_42 := seesP_lt b_45
              have N_42 : (((a + 1) + 1) + 1) + 1 + 1 ≤ N := lt_end hS.2.1 N_33 t_42.2
              have a_42 : (((a + 1) + 1) + 1) + 1 + 1 ≤ 400 := by omega
              have g_14 := fH.lT g_11 b_45
              try dsimp only at g_14
              have K_15 := (hS.1 (((((a + 1) + 1) + 1) + 1) + 1) N_42).2.1
              refine aw_iconst (n := 49) (v := 1) dX3_boundsForm_48 (by decide) rfl ?_
              refine aw_goto (tgt := 53) dX3_boundsForm_49 (by decide) ?_
              exact aw_zret dX3_boundsForm_53 rfl (by decide) ⟨true, ((((a + 1) + 1) + 1) + 1) + 1, rfl, hT_42, hG_42, (by omega), (fH.ok g_14)⟩ ⟨Nat.zero_le _, Nat.zero_le _⟩

def fK (nt : Nat) : aK := match nt with
  | 0 => kX3_formulaForm
  | 1 => kX3_rowForm
  | 2 => kX3_rowForm
  | 3 => kX3_sinceForm
  | 4 => kX3_oneForm
  | 5 => kX3_expressionForm
  | 6 => kX3_productForm
  | _ => kX3_factorForm
def fA (G : aG) (b d nt : Nat) : List Value := match nt with
  | 1 => [.ref b, .int (nI d), .ref (gT G 13)]
  | 2 => [.ref b, .int (nI d), .ref (gT G 12)]
  | _ => [.ref b, .int (nI d)]
def fAll (G : aG) (f : Nat) : Prop := ∀ (nt : Nat) (h : hH) (b : Nat) (ms : tM) (T : Tv) (N a d : Nat), nt < 8 → gB G ≤ b → TW b h (ats ms a) → tkS ms T N → a ≤ N → a ≤ 400 → d ≤ 10 → (qX T f nt d a).1 ≠ 99 → Con G (fK nt) (fA G b d nt) h ((14 + 2 * f, 500 + 100 * f, 0, 0), (fun r h1 => ∃ (z : Bool) (a9 : Nat), r = some (.int (bI z)) ∧ TW b h1 (ats ms a9) ∧ Fr (TS b) h h1 ∧ h1.1 = h.1 ∧ fQ T z a9 (qX T f nt d a)), nX)
theorem cf_nt0 (G : aG) (h : hH)  (b : Nat) (ms : tM) (T : Tv) (N a : Nat) (hb : gB G ≤ b) (hT : TW b h (ats ms a)) (hS : tkS ms T N) (hN : a ≤ N) (ha4 : a ≤ 400) (f d : Nat) (hd : d ≤ 10) (hne : (qX T (f + 1) 0 d a).1 ≠ 99) (ih : fAll G f) : Con G kX3_formulaForm [.ref b, .int (nI d)] h ((14 + 2 * (f + 1), 500 + 100 * (f + 1), 0, 0), (fun r h1 => ∃ (z : Bool) (a9 : Nat), r = some (.int (bI z)) ∧ TW b h1 (ats ms a9) ∧ Fr (TS b) h h1 ∧ h1.1 = h.1 ∧ fQ T z a9 (qX T (f + 1) 0 d a)), nX) := by
  refine Con.of (plainFor_of_name rfl) rfl (Nat.le_of_ble_eq_true rfl) ?_
  refine AW.eq (lv2 := [(0, .ref b), (1, .int (nI d))]) (s2 := []) rfl rfl rfl rfl rfl ?_
  have hg0 : fH T (qB0 T (qX T f) d a) (qX T (f + 1) 0 d a) := fH.rf
  unfold qB0 at hg0
  have K_1 := (hS.1 a hN).2.1
  refine aw_aload_n (n := 1) dX3_formulaForm_0 rfl 0 rfl rfl ?_
  refine aw_iload_n (n := 2) dX3_formulaForm_1 rfl 1 rfl rfl ?_
  refine aw_ldcS (n := 4) (q := 13) dX3_formulaForm_2 101 rfl rfl ?_
  have ne_4 : (qX T f 1 d a).1 ≠ 99 := fH.nb hg0 hne
  have V_4 : qW T N a (qX T f 1 d a) := qX_W hS.2.1 f 1 _ _ hN ha4
  refine aw_callV (n := 7) (C0 := RX3) (As := [.int (nI d), .ref (gT G 13)]) (rest := []) (K2 := kX3_rowForm) dX3_formulaForm_4 q2868 q2870 qs58 q113 q2871 ⟨rfl, hcX3_rowForm⟩ rfl hT.1 (ih 1 h b ms T N a d (by decide) hb hT hS hN ha4 (by omega) ne_4) rfl (Nat.le_of_ble_eq_true rfl) ⟨by dsimp only [kX3_formulaForm, kX3_rowForm, kX3_sinceForm, kX3_oneForm, kX3_expressionForm, kX3_productForm, kX3_factorForm, kX3_bracesForm, kX3_sees, kX3_goes, kX3_takes, kX3_takesName, kX3_takesNumber, kX3_which, kX3_isName, kX3_boundsForm, kJ12_length, fK]; omega, by dsimp only [kX3_formulaForm, kX3_rowForm, kX3_sinceForm, kX3_oneForm, kX3_expressionForm, kX3_productForm, kX3_factorForm, kX3_bracesForm, kX3_sees, kX3_goes, kX3_takes, kX3_takesName, kX3_takesNumber, kX3_which, kX3_isName, kX3_boundsForm, kJ12_length, fK]; omega⟩ ⟨Nat.zero_le _, Nat.zero_le _⟩ (fun _ _ _ z => z.elim) rfl (fun r_4 h_4 q_4 => ?_)
  obtain ⟨z_4, a_4, rfl, hT_4, hF_4, hz_4, fq_4⟩ := q_4
  have W_4 : a_4 ≤ N ∧ a_4 ≤ 400 := by rw [fq_4.1]; exact V_4.2
  refine AW.sts (st' := [.int (bI z_4)]) rfl ?_
  refine aw_if_eq (n := 10) (tgt := 38) dX3_formulaForm_7 (by decide) rfl (fun c_7 => ?_) (fun c_7 => ?_)
  · skip
    have b_7 : z_4 = false := (bI_0 _).mp c_7
    have f_4 : fQ T false a_4 _ := b_7 ▸ fq_4
    have K_2 := (hS.1 a_4 W_4.1).2.1
    refine aw_iconst (n := 39) (v := 0) dX3_formulaForm_38 (by decide) rfl ?_
    exact aw_zret dX3_formulaForm_39 rfl (by decide) ⟨false, a_4, rfl, hT_4, hF_4, (by omega), (fH.fail hg0 f_4 (by first | exact qPc_4 T _ _ | exact qLp_4 (gOr_4 T) _ | exact qLp_4 (gAnd_4 T) _ | exact qLp_4 (gSum_4 T) _ | exact qLp_4 (gPro_4 T) _ | simp [qb_0, qb_1, qb_4, qX_4, seesP_4, nmP_4, nuP_4, whP_4, qT_4, qNm_4, qNu_4, qBd_4, qBr_4, qBo, qI_f, gOr_4, gAnd_4, gSum_4, gPro_4, qLp_4]))⟩ ⟨Nat.zero_le _, Nat.zero_le _⟩
  · skip
    have b_7 : z_4 = true := Bool.of_not_eq_false (fun e => c_7 ((bI_0 _).mpr e))
    have f_4 : fQ T true a_4 _ := b_7 ▸ fq_4
    have g_3 := fH.step hg0 f_4
    try dsimp only at g_3
    have K_4 := (hS.1 a_4 W_4.1).2.1
    refine aw_aload_n (n := 11) dX3_formulaForm_10 rfl 0 rfl rfl ?_
    refine aw_ldcS (n := 13) (q := 14) dX3_formulaForm_11 102 rfl rfl ?_
    refine aw_know (fun gd_4 hi_4 => ?_)
    refine aw_callV (n := 16) (C0 := RX3) (As := [.ref (gT G 14)]) (rest := []) (K2 := kX3_sees) dX3_formulaForm_13 q2826 q2828 qs50 q113 q2829 ⟨rfl, hcX3_sees⟩ rfl hT_4.1 (ct_sees G h_4 b (ats ms a_4) hb hT_4 T a_4 rfl (hS.1 a_4 W_4.1) _ (sw 14) (str_at gd_4 hi_4 (i := 14) rfl) (lo_at (i := 14) rfl)) rfl (Nat.le_of_ble_eq_true rfl) ⟨by dsimp only [kX3_formulaForm, kX3_rowForm, kX3_sinceForm, kX3_oneForm, kX3_expressionForm, kX3_productForm, kX3_factorForm, kX3_bracesForm, kX3_sees, kX3_goes, kX3_takes, kX3_takesName, kX3_takesNumber, kX3_which, kX3_isName, kX3_boundsForm, kJ12_length, fK]; omega, by dsimp only [kX3_formulaForm, kX3_rowForm, kX3_sinceForm, kX3_oneForm, kX3_expressionForm, kX3_productForm, kX3_factorForm, kX3_bracesForm, kX3_sees, kX3_goes, kX3_takes, kX3_takesName, kX3_takesNumber, kX3_which, kX3_isName, kX3_boundsForm, kJ12_length, fK]; omega⟩ ⟨Nat.zero_le _, Nat.zero_le _⟩ (fun _ _ _ z => z.elim) rfl (fun r_13 h_13 q_13 => ?_)
    obtain ⟨rfl, rfl⟩ := q_13
    refine AW.sts (st' := [.int (bI (seesB T a_4 (sw 14)))]) rfl ?_
    refine aw_if_eq (n := 19) (tgt := 34) dX3_formulaForm_16 (by decide) rfl (fun c_16 => ?_) (fun c_16 => ?_)
    · skip
      have b_16 : (seesB T a_4 (sw 14)) = false := (bI_0 _).mp c_16
      have g_6 := fH.F g_3 (by first | assumption | simp [seesP, nmP, nuP, gOr, gAnd, gSum, gPro, b_16])
      try dsimp only at g_6
      refine aw_iconst (n := 35) (v := 1) dX3_formulaForm_34 (by decide) rfl ?_
      refine aw_goto (tgt := 39) dX3_formulaForm_35 (by decide) ?_
      exact aw_zret dX3_formulaForm_39 rfl (by decide) ⟨true, a_4, rfl, hT_4, hF_4, (by omega), (fH.ok g_6)⟩ ⟨Nat.zero_le _, Nat.zero_le _⟩
    · skip
      have b_16 : (seesB T a_4 (sw 14)) = true := Bool.of_not_eq_false (fun e => c_16 ((bI_0 _).mpr e))
      refine aw_aload_n (n := 20) dX3_formulaForm_19 rfl 0 rfl rfl ?_
      refine aw_callV (n := 23) (C0 := RX3) (As := []) (rest := []) (K2 := kX3_goes) dX3_formulaForm_20 q2836 q2838 qs52 q113 q2839 ⟨rfl, hcX3_goes⟩ rfl hT_4.1 (ct_goes G h_4 b (ats ms a_4) hb hT_4 a_4 rfl W_4.2) rfl (Nat.le_of_ble_eq_true rfl) ⟨by dsimp only [kX3_formulaForm, kX3_rowForm, kX3_sinceForm, kX3_oneForm, kX3_expressionForm, kX3_productForm, kX3_factorForm, kX3_bracesForm, kX3_sees, kX3_goes, kX3_takes, kX3_takesName, kX3_takesNumber, kX3_which, kX3_isName, kX3_boundsForm, kJ12_length, fK]; omega, by dsimp only [kX3_formulaForm, kX3_rowForm, kX3_sinceForm, kX3_oneForm, kX3_expressionForm, kX3_productForm, kX3_factorForm, kX3_bracesForm, kX3_sees, kX3_goes, kX3_takes, kX3_takesName, kX3_takesNumber, kX3_which, kX3_isName, kX3_boundsForm, kJ12_length, fK]; omega⟩ ⟨Nat.zero_le _, Nat.zero_le _⟩ (fun _ _ _ z => z.elim) rfl (fun r_20 h_20 q_20 => ?_)
      obtain ⟨rfl, hT_20, hF_20, hz_20⟩ := q_20
      have hG_20 := Fr.trans hF_4 hF_20
      refine AW.sts (st' := [.int (bI (a_4 != 400))]) rfl ?_
      refine aw_if_eq (n := 26) (tgt := 38) dX3_formulaForm_23 (by decide) rfl (fun c_23 => ?_) (fun c_23 => ?_)
      · skip
        have b_23 : (a_4 != 400) = false := (bI_0 _).mp c_23
        have e_20 : a_4 = 400 := by simpa using b_23
        have ne_20 : T.1 a_4 ≠ 0 := by first | exact seesB_ne (by assumption) | exact isNm_ne (by assumption) | exact whT_lt (by assumption) | omega
        have hU_20 : TW b h_20 (ats ms a_4) := by rw [e_20, goM_400] at hT_20; rw [e_20]; exact hT_20
        have fq_20 : fQ T false a_4 (qX T (f + 1) 0 d a) := by have z := g_3; rw [e_20] at z ne_20 ⊢; exact z.stay (by first | exact qPc_4 T _ _ | exact qLp_4 (gOr_4 T) _ | exact qLp_4 (gAnd_4 T) _ | exact qLp_4 (gSum_4 T) _ | exact qLp_4 (gPro_4 T) _ | simp [qb_0, qb_1, qb_4, qX_4, seesP_4, nmP_4, nuP_4, whP_4, qT_4, qNm_4, qNu_4, qBd_4, qBr_4, qBo, qI_f, gOr_4, gAnd_4, gSum_4, gPro_4, qLp_4]) ne_20
        refine aw_iconst (n := 39) (v := 0) dX3_formulaForm_38 (by decide) rfl ?_
        exact aw_zret dX3_formulaForm_39 rfl (by decide) ⟨false, a_4, rfl, hU_20, hG_20, (by omega), fq_20⟩ ⟨Nat.zero_le _, Nat.zero_le _⟩
      · skip
        have b_23 : (a_4 != 400) = true := Bool.of_not_eq_false (fun e => c_23 ((bI_0 _).mpr e))
        have l_20 : a_4 < 400 := by have z : a_4 ≠ 400 := (by simpa using b_23); omega
        have ne_20 : T.1 a_4 ≠ 0 := by first | exact seesB_ne (by assumption) | exact isNm_ne (by assumption) | exact whT_lt (by assumption) | omega
        rw [goM_lt (by omega), tS_tS] at hT_20
        have g_7 := fH.T g_3 (by first | assumption | simp [seesP, nmP, nuP, gOr, gAnd, gSum, gPro, b_16, l_20])
        try dsimp only at g_7
        have N_20 : a_4 + 1 ≤ N := lt_end hS.2.1 W_4.1 ne_20
        have a_20 : a_4 + 1 ≤ 400 := by omega
        have K_8 := (hS.1 (a_4 + 1) N_20).2.1
        refine aw_aload_n (n := 27) dX3_formulaForm_26 rfl 0 rfl rfl ?_
        refine aw_iload_n (n := 28) dX3_formulaForm_27 rfl 1 rfl rfl ?_
        have ne_28 : (qX T f 0 d (a_4 + 1)).1 ≠ 99 := fH.nt g_7 hne
        have V_28 : qW T N (a_4 + 1) (qX T f 0 d (a_4 + 1)) := qX_W hS.2.1 f 0 _ _ N_20 a_20
        refine aw_callV (n := 31) (C0 := RX3) (As := [.int (nI d)]) (rest := []) (K2 := kX3_formulaForm) dX3_formulaForm_28 q2863 q2865 qs57 q113 q2866 ⟨rfl, hcX3_formulaForm⟩ rfl hT_20.1 (ih 0 h_20 b ms T N (a_4 + 1) d (by decide) hb hT_20 hS N_20 a_20 (by omega) ne_28) rfl (Nat.le_of_ble_eq_true rfl) ⟨by dsimp only [kX3_formulaForm, kX3_rowForm, kX3_sinceForm, kX3_oneForm, kX3_expressionForm, kX3_productForm, kX3_factorForm, kX3_bracesForm, kX3_sees, kX3_goes, kX3_takes, kX3_takesName, kX3_takesNumber, kX3_which, kX3_isName, kX3_boundsForm, kJ12_length, fK]; omega, by dsimp only [kX3_formulaForm, kX3_rowForm, kX3_sinceForm, kX3_oneForm, kX3_expressionForm, kX3_productForm, kX3_factorForm, kX3_bracesForm, kX3_sees, kX3_goes, kX3_takes, kX3_takesName, kX3_takesNumber, kX3_which, kX3_isName, kX3_boundsForm, kJ12_length, fK]; omega⟩ ⟨Nat.zero_le _, Nat.zero_le _⟩ (fun _ _ _ z => z.elim) rfl (fun r_28 h_28 q_28 => ?_)
        obtain ⟨z_28, a_28, rfl, hT_28, hF_28, hz_28, fq_28⟩ := q_28
        have W_28 : a_28 ≤ N ∧ a_28 ≤ 400 := by rw [fq_28.1]; exact V_28.2
        have hG_28 := Fr.trans hG_20 hF_28
        refine AW.sts (st' := [.int (bI z_28)]) rfl ?_
        refine aw_if_eq (n := 34) (tgt := 38) dX3_formulaForm_31 (by decide) rfl (fun c_31 => ?_) (fun c_31 => ?_)
        · skip
          have b_31 : z_28 = false := (bI_0 _).mp c_31
          have f_28 : fQ T false a_28 _ := b_31 ▸ fq_28
          have K_9 := (hS.1 a_28 W_28.1).2.1
          refine aw_iconst (n := 39) (v := 0) dX3_formulaForm_38 (by decide) rfl ?_
          exact aw_zret dX3_formulaForm_39 rfl (by decide) ⟨false, a_28, rfl, hT_28, hG_28, (by omega), (g_7.1 _ _ f_28)⟩ ⟨Nat.zero_le _, Nat.zero_le _⟩
        · skip
          have b_31 : z_28 = true := Bool.of_not_eq_false (fun e => c_31 ((bI_0 _).mpr e))
          have f_28 : fQ T true a_28 _ := b_31 ▸ fq_28
          have K_10 := (hS.1 a_28 W_28.1).2.1
          refine aw_iconst (n := 35) (v := 1) dX3_formulaForm_34 (by decide) rfl ?_
          refine aw_goto (tgt := 39) dX3_formulaForm_35 (by decide) ?_
          exact aw_zret dX3_formulaForm_39 rfl (by decide) ⟨true, a_28, rfl, hT_28, hG_28, (by omega), (g_7.1 _ _ f_28)⟩ ⟨Nat.zero_le _, Nat.zero_le _⟩

theorem cf_nt3 (G : aG) (h : hH)  (b : Nat) (ms : tM) (T : Tv) (N a : Nat) (hb : gB G ≤ b) (hT : TW b h (ats ms a)) (hS : tkS ms T N) (hN : a ≤ N) (ha4 : a ≤ 400) (f d : Nat) (hd : d ≤ 10) (hne : (qX T (f + 1) 3 d a).1 ≠ 99) (ih : fAll G f) : Con G kX3_sinceForm [.ref b, .int (nI d)] h ((14 + 2 * (f + 1), 500 + 100 * (f + 1), 0, 0), (fun r h1 => ∃ (z : Bool) (a9 : Nat), r = some (.int (bI z)) ∧ TW b h1 (ats ms a9) ∧ Fr (TS b) h h1 ∧ h1.1 = h.1 ∧ fQ T z a9 (qX T (f + 1) 3 d a)), nX) := by
  refine Con.of (plainFor_of_name rfl) rfl (Nat.le_of_ble_eq_true rfl) ?_
  refine AW.eq (lv2 := [(0, .ref b), (1, .int (nI d))]) (s2 := []) rfl rfl rfl rfl rfl ?_
  have hg0 : fH T (qB3 T (qX T f) d a) (qX T (f + 1) 3 d a) := fH.rf
  unfold qB3 at hg0
  have K_1 := (hS.1 a hN).2.1
  refine aw_aload_n (n := 1) dX3_sinceForm_0 rfl 0 rfl rfl ?_
  refine aw_iload_n (n := 2) dX3_sinceForm_1 rfl 1 rfl rfl ?_
  have ne_2 : (qX T f 4 d a).1 ≠ 99 := fH.nb hg0 hne
  have V_2 : qW T N a (qX T f 4 d a) := qX_W hS.2.1 f 4 _ _ hN ha4
  refine aw_callV (n := 5) (C0 := RX3) (As := [.int (nI d)]) (rest := []) (K2 := kX3_oneForm) dX3_sinceForm_2 q2877 q2879 qs60 q113 q2880 ⟨rfl, hcX3_oneForm⟩ rfl hT.1 (ih 4 h b ms T N a d (by decide) hb hT hS hN ha4 (by omega) ne_2) rfl (Nat.le_of_ble_eq_true rfl) ⟨by dsimp only [kX3_formulaForm, kX3_rowForm, kX3_sinceForm, kX3_oneForm, kX3_expressionForm, kX3_productForm, kX3_factorForm, kX3_bracesForm, kX3_sees, kX3_goes, kX3_takes, kX3_takesName, kX3_takesNumber, kX3_which, kX3_isName, kX3_boundsForm, kJ12_length, fK]; omega, by dsimp only [kX3_formulaForm, kX3_rowForm, kX3_sinceForm, kX3_oneForm, kX3_expressionForm, kX3_productForm, kX3_factorForm, kX3_bracesForm, kX3_sees, kX3_goes, kX3_takes, kX3_takesName, kX3_takesNumber, kX3_which, kX3_isName, kX3_boundsForm, kJ12_length, fK]; omega⟩ ⟨Nat.zero_le _, Nat.zero_le _⟩ (fun _ _ _ z => z.elim) rfl (fun r_2 h_2 q_2 => ?_)
  obtain ⟨z_2, a_2, rfl, hT_2, hF_2, hz_2, fq_2⟩ := q_2
  have W_2 : a_2 ≤ N ∧ a_2 ≤ 400 := by rw [fq_2.1]; exact V_2.2
  refine AW.sts (st' := [.int (bI z_2)]) rfl ?_
  refine aw_if_eq (n := 8) (tgt := 43) dX3_sinceForm_5 (by decide) rfl (fun c_5 => ?_) (fun c_5 => ?_)
  · skip
    have b_5 : z_2 = false := (bI_0 _).mp c_5
    have f_2 : fQ T false a_2 _ := b_5 ▸ fq_2
    have K_2 := (hS.1 a_2 W_2.1).2.1
    refine aw_iconst (n := 44) (v := 0) dX3_sinceForm_43 (by decide) rfl ?_
    exact aw_zret dX3_sinceForm_44 rfl (by decide) ⟨false, a_2, rfl, hT_2, hF_2, (by omega), (fH.fail hg0 f_2 (by first | exact qPc_4 T _ _ | exact qLp_4 (gOr_4 T) _ | exact qLp_4 (gAnd_4 T) _ | exact qLp_4 (gSum_4 T) _ | exact qLp_4 (gPro_4 T) _ | simp [qb_0, qb_1, qb_4, qX_4, seesP_4, nmP_4, nuP_4, whP_4, qT_4, qNm_4, qNu_4, qBd_4, qBr_4, qBo, qI_f, gOr_4, gAnd_4, gSum_4, gPro_4, qLp_4]))⟩ ⟨Nat.zero_le _, Nat.zero_le _⟩
  · skip
    have b_5 : z_2 = true := Bool.of_not_eq_false (fun e => c_5 ((bI_0 _).mpr e))
    have f_2 : fQ T true a_2 _ := b_5 ▸ fq_2
    have g_3 := fH.step hg0 f_2
    try dsimp only at g_3
    have K_4 := (hS.1 a_2 W_2.1).2.1
    refine aw_aload_n (n := 9) dX3_sinceForm_8 rfl 0 rfl rfl ?_
    refine aw_ldcS (n := 11) (q := 11) dX3_sinceForm_9 104 rfl rfl ?_
    refine aw_know (fun gd_4 hi_4 => ?_)
    refine aw_callV (n := 14) (C0 := RX3) (As := [.ref (gT G 11)]) (rest := []) (K2 := kX3_sees) dX3_sinceForm_11 q2826 q2828 qs50 q113 q2829 ⟨rfl, hcX3_sees⟩ rfl hT_2.1 (ct_sees G h_2 b (ats ms a_2) hb hT_2 T a_2 rfl (hS.1 a_2 W_2.1) _ (sw 11) (str_at gd_4 hi_4 (i := 11) rfl) (lo_at (i := 11) rfl)) rfl (Nat.le_of_ble_eq_true rfl) ⟨by dsimp only [kX3_formulaForm, kX3_rowForm, kX3_sinceForm, kX3_oneForm, kX3_expressionForm, kX3_productForm, kX3_factorForm, kX3_bracesForm, kX3_sees, kX3_goes, kX3_takes, kX3_takesName, kX3_takesNumber, kX3_which, kX3_isName, kX3_boundsForm, kJ12_length, fK]; omega, by dsimp only [kX3_formulaForm, kX3_rowForm, kX3_sinceForm, kX3_oneForm, kX3_expressionForm, kX3_productForm, kX3_factorForm, kX3_bracesForm, kX3_sees, kX3_goes, kX3_takes, kX3_takesName, kX3_takesNumber, kX3_which, kX3_isName, kX3_boundsForm, kJ12_length, fK]; omega⟩ ⟨Nat.zero_le _, Nat.zero_le _⟩ (fun _ _ _ z => z.elim) rfl (fun r_11 h_11 q_11 => ?_)
    obtain ⟨rfl, rfl⟩ := q_11
    refine AW.sts (st' := [.int (bI (seesB T a_2 (sw 11)))]) rfl ?_
    refine aw_if_eq (n := 17) (tgt := 39) dX3_sinceForm_14 (by decide) rfl (fun c_14 => ?_) (fun c_14 => ?_)
    · skip
      have b_14 : (seesB T a_2 (sw 11)) = false := (bI_0 _).mp c_14
      have g_6 := fH.F g_3 (by first | assumption | simp [seesP, nmP, nuP, gOr, gAnd, gSum, gPro, b_14])
      try dsimp only at g_6
      refine aw_iconst (n := 40) (v := 1) dX3_sinceForm_39 (by decide) rfl ?_
      refine aw_goto (tgt := 44) dX3_sinceForm_40 (by decide) ?_
      exact aw_zret dX3_sinceForm_44 rfl (by decide) ⟨true, a_2, rfl, hT_2, hF_2, (by omega), (fH.ok g_6)⟩ ⟨Nat.zero_le _, Nat.zero_le _⟩
    · skip
      have b_14 : (seesB T a_2 (sw 11)) = true := Bool.of_not_eq_false (fun e => c_14 ((bI_0 _).mpr e))
      refine aw_aload_n (n := 18) dX3_sinceForm_17 rfl 0 rfl rfl ?_
      refine aw_callV (n := 21) (C0 := RX3) (As := []) (rest := []) (K2 := kX3_goes) dX3_sinceForm_18 q2836 q2838 qs52 q113 q2839 ⟨rfl, hcX3_goes⟩ rfl hT_2.1 (ct_goes G h_2 b (ats ms a_2) hb hT_2 a_2 rfl W_2.2) rfl (Nat.le_of_ble_eq_true rfl) ⟨by dsimp only [kX3_formulaForm, kX3_rowForm, kX3_sinceForm, kX3_oneForm, kX3_expressionForm, kX3_productForm, kX3_factorForm, kX3_bracesForm, kX3_sees, kX3_goes, kX3_takes, kX3_takesName, kX3_takesNumber, kX3_which, kX3_isName, kX3_boundsForm, kJ12_length, fK]; omega, by dsimp only [kX3_formulaForm, kX3_rowForm, kX3_sinceForm, kX3_oneForm, kX3_expressionForm, kX3_productForm, kX3_factorForm, kX3_bracesForm, kX3_sees, kX3_goes, kX3_takes, kX3_takesName, kX3_takesNumber, kX3_which, kX3_isName, kX3_boundsForm, kJ12_length, fK]; omega⟩ ⟨Nat.zero_le _, Nat.zero_le _⟩ (fun _ _ _ z => z.elim) rfl (fun r_18 h_18 q_18 => ?_)
      obtain ⟨rfl, hT_18, hF_18, hz_18⟩ := q_18
      have hG_18 := Fr.trans hF_2 hF_18
      refine AW.sts (st' := [.int (bI (a_2 != 400))]) rfl ?_
      refine aw_if_eq (n := 24) (tgt := 43) dX3_sinceForm_21 (by decide) rfl (fun c_21 => ?_) (fun c_21 => ?_)
      · skip
        have b_21 : (a_2 != 400) = false := (bI_0 _).mp c_21
        have e_18 : a_2 = 400 := by simpa using b_21
        have ne_18 : T.1 a_2 ≠ 0 := by first | exact seesB_ne (by assumption) | exact isNm_ne (by assumption) | exact whT_lt (by assumption) | omega
        have hU_18 : TW b h_18 (ats ms a_2) := by rw [e_18, goM_400] at hT_18; rw [e_18]; exact hT_18
        have fq_18 : fQ T false a_2 (qX T (f + 1) 3 d a) := by have z := g_3; rw [e_18] at z ne_18 ⊢; exact z.stay (by first | exact qPc_4 T _ _ | exact qLp_4 (gOr_4 T) _ | exact qLp_4 (gAnd_4 T) _ | exact qLp_4 (gSum_4 T) _ | exact qLp_4 (gPro_4 T) _ | simp [qb_0, qb_1, qb_4, qX_4, seesP_4, nmP_4, nuP_4, whP_4, qT_4, qNm_4, qNu_4, qBd_4, qBr_4, qBo, qI_f, gOr_4, gAnd_4, gSum_4, gPro_4, qLp_4]) ne_18
        refine aw_iconst (n := 44) (v := 0) dX3_sinceForm_43 (by decide) rfl ?_
        exact aw_zret dX3_sinceForm_44 rfl (by decide) ⟨false, a_2, rfl, hU_18, hG_18, (by omega), fq_18⟩ ⟨Nat.zero_le _, Nat.zero_le _⟩
      · skip
        have b_21 : (a_2 != 400) = true := Bool.of_not_eq_false (fun e => c_21 ((bI_0 _).mpr e))
        have l_18 : a_2 < 400 := by have z : a_2 ≠ 400 := (by simpa using b_21); omega
        have ne_18 : T.1 a_2 ≠ 0 := by first | exact seesB_ne (by assumption) | exact isNm_ne (by assumption) | exact whT_lt (by assumption) | omega
        rw [goM_lt (by omega), tS_tS] at hT_18
        have g_7 := fH.T g_3 (by first | assumption | simp [seesP, nmP, nuP, gOr, gAnd, gSum, gPro, b_14, l_18])
        try dsimp only at g_7
        have N_18 : a_2 + 1 ≤ N := lt_end hS.2.1 W_2.1 ne_18
        have a_18 : a_2 + 1 ≤ 400 := by omega
        have K_8 := (hS.1 (a_2 + 1) N_18).2.1
        refine aw_aload_n (n := 25) dX3_sinceForm_24 rfl 0 rfl rfl ?_
        have V_25 : qW T N (a_2 + 1) (qBd T (a_2 + 1)) := qBd_W hS.2.1 N_18 a_18
        refine aw_callV (n := 28) (C0 := RX3) (As := []) (rest := []) (K2 := kX3_boundsForm) dX3_sinceForm_25 q2883 q2885 qs61 q113 q2886 ⟨rfl, hcX3_boundsForm⟩ rfl hT_18.1 (cf_bounds G h_18 b ms T N (a_2 + 1) hb hT_18 hS N_18 a_18) rfl (Nat.le_of_ble_eq_true rfl) ⟨by dsimp only [kX3_formulaForm, kX3_rowForm, kX3_sinceForm, kX3_oneForm, kX3_expressionForm, kX3_productForm, kX3_factorForm, kX3_bracesForm, kX3_sees, kX3_goes, kX3_takes, kX3_takesName, kX3_takesNumber, kX3_which, kX3_isName, kX3_boundsForm, kJ12_length, fK]; omega, by dsimp only [kX3_formulaForm, kX3_rowForm, kX3_sinceForm, kX3_oneForm, kX3_expressionForm, kX3_productForm, kX3_factorForm, kX3_bracesForm, kX3_sees, kX3_goes, kX3_takes, kX3_takesName, kX3_takesNumber, kX3_which, kX3_isName, kX3_boundsForm, kJ12_length, fK]; omega⟩ ⟨Nat.zero_le _, Nat.zero_le _⟩ (fun _ _ _ z => z.elim) rfl (fun r_25 h_25 q_25 => ?_)
        obtain ⟨z_25, a_25, rfl, hT_25, hF_25, hz_25, fq_25⟩ := q_25
        have W_25 : a_25 ≤ N ∧ a_25 ≤ 400 := by rw [fq_25.1]; exact V_25.2
        have hG_25 := Fr.trans hG_18 hF_25
        refine AW.sts (st' := [.int (bI z_25)]) rfl ?_
        refine aw_if_eq (n := 31) (tgt := 43) dX3_sinceForm_28 (by decide) rfl (fun c_28 => ?_) (fun c_28 => ?_)
        · skip
          have b_28 : z_25 = false := (bI_0 _).mp c_28
          have f_25 : fQ T false a_25 _ := b_28 ▸ fq_25
          have K_9 := (hS.1 a_25 W_25.1).2.1
          refine aw_iconst (n := 44) (v := 0) dX3_sinceForm_43 (by decide) rfl ?_
          exact aw_zret dX3_sinceForm_44 rfl (by decide) ⟨false, a_25, rfl, hT_25, hG_25, (by omega), (fH.fail g_7 f_25 (by first | exact qPc_4 T _ _ | exact qLp_4 (gOr_4 T) _ | exact qLp_4 (gAnd_4 T) _ | exact qLp_4 (gSum_4 T) _ | exact qLp_4 (gPro_4 T) _ | simp [qb_0, qb_1, qb_4, qX_4, seesP_4, nmP_4, nuP_4, whP_4, qT_4, qNm_4, qNu_4, qBd_4, qBr_4, qBo, qI_f, gOr_4, gAnd_4, gSum_4, gPro_4, qLp_4]))⟩ ⟨Nat.zero_le _, Nat.zero_le _⟩
        · skip
          have b_28 : z_25 = true := Bool.of_not_eq_false (fun e => c_28 ((bI_0 _).mpr e))
          have f_25 : fQ T true a_25 _ := b_28 ▸ fq_25
          have g_10 := fH.step g_7 f_25
          try dsimp only at g_10
          have K_11 := (hS.1 a_25 W_25.1).2.1
          refine aw_aload_n (n := 32) dX3_sinceForm_31 rfl 0 rfl rfl ?_
          refine aw_iload_n (n := 33) dX3_sinceForm_32 rfl 1 rfl rfl ?_
          have ne_33 : (qX T f 4 d a_25).1 ≠ 99 := fH.nt g_10 hne
          have V_33 : qW T N a_25 (qX T f 4 d a_25) := qX_W hS.2.1 f 4 _ _ W_25.1 W_25.2
          refine aw_callV (n := 36) (C0 := RX3) (As := [.int (nI d)]) (rest := []) (K2 := kX3_oneForm) dX3_sinceForm_33 q2877 q2879 qs60 q113 q2880 ⟨rfl, hcX3_oneForm⟩ rfl hT_25.1 (ih 4 h_25 b ms T N a_25 d (by decide) hb hT_25 hS W_25.1 W_25.2 (by omega) ne_33) rfl (Nat.le_of_ble_eq_true rfl) ⟨by dsimp only [kX3_formulaForm, kX3_rowForm, kX3_sinceForm, kX3_oneForm, kX3_expressionForm, kX3_productForm, kX3_factorForm, kX3_bracesForm, kX3_sees, kX3_goes, kX3_takes, kX3_takesName, kX3_takesNumber, kX3_which, kX3_isName, kX3_boundsForm, kJ12_length, fK]; omega, by dsimp only [kX3_formulaForm, kX3_rowForm, kX3_sinceForm, kX3_oneForm, kX3_expressionForm, kX3_productForm, kX3_factorForm, kX3_bracesForm, kX3_sees, kX3_goes, kX3_takes, kX3_takesName, kX3_takesNumber, kX3_which, kX3_isName, kX3_boundsForm, kJ12_length, fK]; omega⟩ ⟨Nat.zero_le _, Nat.zero_le _⟩ (fun _ _ _ z => z.elim) rfl (fun r_33 h_33 q_33 => ?_)
          obtain ⟨z_33, a_33, rfl, hT_33, hF_33, hz_33, fq_33⟩ := q_33
          have W_33 : a_33 ≤ N ∧ a_33 ≤ 400 := by rw [fq_33.1]; exact V_33.2
          have hG_33 := Fr.trans hG_25 hF_33
          refine AW.sts (st' := [.int (bI z_33)]) rfl ?_
          refine aw_if_eq (n := 39) (tgt := 43) dX3_sinceForm_36 (by decide) rfl (fun c_36 => ?_) (fun c_36 => ?_)
          · skip
            have b_36 : z_33 = false := (bI_0 _).mp c_36
            have f_33 : fQ T false a_33 _ := b_36 ▸ fq_33
            have K_12 := (hS.1 a_33 W_33.1).2.1
            refine aw_iconst (n := 44) (v := 0) dX3_sinceForm_43 (by decide) rfl ?_
            exact aw_zret dX3_sinceForm_44 rfl (by decide) ⟨false, a_33, rfl, hT_33, hG_33, (by omega), (g_10.1 _ _ f_33)⟩ ⟨Nat.zero_le _, Nat.zero_le _⟩
          · skip
            have b_36 : z_33 = true := Bool.of_not_eq_false (fun e => c_36 ((bI_0 _).mpr e))
            have f_33 : fQ T true a_33 _ := b_36 ▸ fq_33
            have K_13 := (hS.1 a_33 W_33.1).2.1
            refine aw_iconst (n := 40) (v := 1) dX3_sinceForm_39 (by decide) rfl ?_
            refine aw_goto (tgt := 44) dX3_sinceForm_40 (by decide) ?_
            exact aw_zret dX3_sinceForm_44 rfl (by decide) ⟨true, a_33, rfl, hT_33, hG_33, (by omega), (g_10.1 _ _ f_33)⟩ ⟨Nat.zero_le _, Nat.zero_le _⟩

theorem cf_braces (G : aG) (h : hH)  (b : Nat) (ms : tM) (T : Tv) (N a : Nat) (hb : gB G ≤ b) (hT : TW b h (ats ms a)) (hS : tkS ms T N) (hN : a ≤ N) (ha4 : a ≤ 400) (f d : Nat) (hd : d ≤ 10) (hne : (qBr T (qX T f) d a).1 ≠ 99) (ih : fAll G f) : Con G kX3_bracesForm [.ref b, .int (nI d)] h ((15 + 2 * f, 540 + 100 * f, 0, 0), (fun r h1 => ∃ (z : Bool) (a9 : Nat), r = some (.int (bI z)) ∧ TW b h1 (ats ms a9) ∧ Fr (TS b) h h1 ∧ h1.1 = h.1 ∧ fQ T z a9 (qBr T (qX T f) d a)), nX) := by
  refine Con.of (plainFor_of_name rfl) rfl (Nat.le_of_ble_eq_true rfl) ?_
  refine AW.eq (lv2 := [(0, .ref b), (1, .int (nI d))]) (s2 := []) rfl rfl rfl rfl rfl ?_
  have hg0 : fH T (qBr T (qX T f) d a) (qBr T (qX T f) d a) := fH.rf
  unfold qBr at hg0
  have K_1 := (hS.1 a hN).2.1
  refine aw_aload_n (n := 1) dX3_bracesForm_0 rfl 0 rfl rfl ?_
  refine aw_ldcS (n := 3) (q := 49) dX3_bracesForm_1 108 rfl rfl ?_
  refine aw_know (fun gd_1 hi_1 => ?_)
  refine aw_callV (n := 6) (C0 := RX3) (As := [.ref (gT G 49)]) (rest := []) (K2 := kX3_sees) dX3_bracesForm_3 q2826 q2828 qs50 q113 q2829 ⟨rfl, hcX3_sees⟩ rfl hT.1 (ct_sees G h b (ats ms a) hb hT T a rfl (hS.1 a hN) _ (sw 49) (str_at gd_1 hi_1 (i := 49) rfl) (lo_at (i := 49) rfl)) rfl (Nat.le_of_ble_eq_true rfl) ⟨by dsimp only [kX3_formulaForm, kX3_rowForm, kX3_sinceForm, kX3_oneForm, kX3_expressionForm, kX3_productForm, kX3_factorForm, kX3_bracesForm, kX3_sees, kX3_goes, kX3_takes, kX3_takesName, kX3_takesNumber, kX3_which, kX3_isName, kX3_boundsForm, kJ12_length, fK]; omega, by dsimp only [kX3_formulaForm, kX3_rowForm, kX3_sinceForm, kX3_oneForm, kX3_expressionForm, kX3_productForm, kX3_factorForm, kX3_bracesForm, kX3_sees, kX3_goes, kX3_takes, kX3_takesName, kX3_takesNumber, kX3_which, kX3_isName, kX3_boundsForm, kJ12_length, fK]; omega⟩ ⟨Nat.zero_le _, Nat.zero_le _⟩ (fun _ _ _ z => z.elim) rfl (fun r_3 h_3 q_3 => ?_)
  obtain ⟨rfl, rfl⟩ := q_3
  refine AW.sts (st' := [.int (bI (seesB T a (sw 49)))]) rfl ?_
  refine aw_if_eq (n := 9) (tgt := 36) dX3_bracesForm_6 (by decide) rfl (fun c_6 => ?_) (fun c_6 => ?_)
  · skip
    have b_6 : (seesB T a (sw 49)) = false := (bI_0 _).mp c_6
    have g_3 := fH.F hg0 (by first | assumption | simp [seesP, nmP, nuP, gOr, gAnd, gSum, gPro, b_6])
    try dsimp only at g_3
    refine aw_iconst (n := 37) (v := 0) dX3_bracesForm_36 (by decide) rfl ?_
    exact aw_zret dX3_bracesForm_37 rfl (by decide) ⟨false, a, rfl, hT, Fr.rf, rfl, (fH.no g_3)⟩ ⟨Nat.zero_le _, Nat.zero_le _⟩
  · skip
    have b_6 : (seesB T a (sw 49)) = true := Bool.of_not_eq_false (fun e => c_6 ((bI_0 _).mpr e))
    refine aw_iload_n (n := 10) dX3_bracesForm_9 rfl 1 rfl rfl ?_
    refine aw_bipush (n := 12) (v := 10) dX3_bracesForm_10 (by decide) rfl ?_
    refine aw_icmp_ge (n := 15) (tgt := 36) dX3_bracesForm_12 (by decide) rfl (fun c_12 => ?_) (fun c_12 => ?_)
    · skip
      have n_12 : 10 ≤ d := (nI_leI (a := 10) (b := d) (by omega) (by omega)).mp (by rw [← ((by rfl) : (10 : Int32) = nI 10)]; exact c_12)
      have dd_12 : decide (d < 10) = false := by simp; omega
      have ne_12 : T.1 a ≠ 0 := by first | exact seesB_ne (by assumption) | exact isNm_ne (by assumption) | exact whT_lt (by assumption) | omega
      have fq_12 : fQ T false a (qBr T (qX T f) d a) := by
        rcases Nat.lt_or_ge a 400 with l9 | l9
        · exact fH.no (e := 0) (hg0.eq (by simp [qBo, whP, qb_0, qb_1, seesP, nmP, nuP, gOr, gAnd, gSum, gPro, l9, b_6, dd_12]))
        · have e9 : a = 400 := by omega
          have z9 := hg0
          rw [e9] at z9 ne_12 ⊢
          exact z9.stay (by first | exact qPc_4 T _ _ | exact qLp_4 (gOr_4 T) _ | exact qLp_4 (gAnd_4 T) _ | exact qLp_4 (gSum_4 T) _ | exact qLp_4 (gPro_4 T) _ | simp [qb_0, qb_1, qb_4, qX_4, seesP_4, nmP_4, nuP_4, whP_4, qT_4, qNm_4, qNu_4, qBd_4, qBr_4, qBo, qI_f, gOr_4, gAnd_4, gSum_4, gPro_4, qLp_4]) ne_12
      refine aw_iconst (n := 37) (v := 0) dX3_bracesForm_36 (by decide) rfl ?_
      exact aw_zret dX3_bracesForm_37 rfl (by decide) ⟨false, a, rfl, hT, Fr.rf, rfl, fq_12⟩ ⟨Nat.zero_le _, Nat.zero_le _⟩
    · skip
      have n_12 : ¬ (10 ≤ d) := fun z => c_12 (by have y := (nI_leI (a := 10) (b := d) (by omega) (by omega)).mpr z; rw [← ((by rfl) : (10 : Int32) = nI 10)] at y; exact y)
      have dd_12 : decide (d < 10) = true := by simp; omega
      refine aw_aload_n (n := 16) dX3_bracesForm_15 rfl 0 rfl rfl ?_
      refine aw_callV (n := 19) (C0 := RX3) (As := []) (rest := []) (K2 := kX3_goes) dX3_bracesForm_16 q2836 q2838 qs52 q113 q2839 ⟨rfl, hcX3_goes⟩ rfl hT.1 (ct_goes G h b (ats ms a) hb hT a rfl ha4) rfl (Nat.le_of_ble_eq_true rfl) ⟨by dsimp only [kX3_formulaForm, kX3_rowForm, kX3_sinceForm, kX3_oneForm, kX3_expressionForm, kX3_productForm, kX3_factorForm, kX3_bracesForm, kX3_sees, kX3_goes, kX3_takes, kX3_takesName, kX3_takesNumber, kX3_which, kX3_isName, kX3_boundsForm, kJ12_length, fK]; omega, by dsimp only [kX3_formulaForm, kX3_rowForm, kX3_sinceForm, kX3_oneForm, kX3_expressionForm, kX3_productForm, kX3_factorForm, kX3_bracesForm, kX3_sees, kX3_goes, kX3_takes, kX3_takesName, kX3_takesNumber, kX3_which, kX3_isName, kX3_boundsForm, kJ12_length, fK]; omega⟩ ⟨Nat.zero_le _, Nat.zero_le _⟩ (fun _ _ _ z => z.elim) rfl (fun r_16 h_16 q_16 => ?_)
      obtain ⟨rfl, hT_16, hF_16, hz_16⟩ := q_16
      refine AW.sts (st' := [.int (bI (a != 400))]) rfl ?_
      refine aw_if_eq (n := 22) (tgt := 36) dX3_bracesForm_19 (by decide) rfl (fun c_19 => ?_) (fun c_19 => ?_)
      · skip
        have b_19 : (a != 400) = false := (bI_0 _).mp c_19
        have e_16 : a = 400 := by simpa using b_19
        have ne_16 : T.1 a ≠ 0 := by first | exact seesB_ne (by assumption) | exact isNm_ne (by assumption) | exact whT_lt (by assumption) | omega
        have hU_16 : TW b h_16 (ats ms a) := by rw [e_16, goM_400] at hT_16; rw [e_16]; exact hT_16
        have fq_16 : fQ T false a (qBr T (qX T f) d a) := by have z := hg0; rw [e_16] at z ne_16 ⊢; exact z.stay (by first | exact qPc_4 T _ _ | exact qLp_4 (gOr_4 T) _ | exact qLp_4 (gAnd_4 T) _ | exact qLp_4 (gSum_4 T) _ | exact qLp_4 (gPro_4 T) _ | simp [qb_0, qb_1, qb_4, qX_4, seesP_4, nmP_4, nuP_4, whP_4, qT_4, qNm_4, qNu_4, qBd_4, qBr_4, qBo, qI_f, gOr_4, gAnd_4, gSum_4, gPro_4, qLp_4]) ne_16
        refine aw_iconst (n := 37) (v := 0) dX3_bracesForm_36 (by decide) rfl ?_
        exact aw_zret dX3_bracesForm_37 rfl (by decide) ⟨false, a, rfl, hU_16, hF_16, (by omega), fq_16⟩ ⟨Nat.zero_le _, Nat.zero_le _⟩
      · skip
        have b_19 : (a != 400) = true := Bool.of_not_eq_false (fun e => c_19 ((bI_0 _).mpr e))
        have l_16 : a < 400 := by have z : a ≠ 400 := (by simpa using b_19); omega
        have ne_16 : T.1 a ≠ 0 := by first | exact seesB_ne (by assumption) | exact isNm_ne (by assumption) | exact whT_lt (by assumption) | omega
        rw [goM_lt (by omega), tS_tS] at hT_16
        have g_4 := fH.T hg0 (by first | assumption | simp [seesP, nmP, nuP, gOr, gAnd, gSum, gPro, b_6, dd_12, l_16])
        try dsimp only at g_4
        unfold qBo at g_4
        have g_5 := fH.T g_4 (by first | assumption | simp [seesP, nmP, nuP, gOr, gAnd, gSum, gPro, b_6, dd_12, l_16])
        try dsimp only at g_5
        have N_16 : a + 1 ≤ N := lt_end hS.2.1 hN ne_16
        have a_16 : a + 1 ≤ 400 := by omega
        have K_6 := (hS.1 (a + 1) N_16).2.1
        refine aw_aload_n (n := 23) dX3_bracesForm_22 rfl 0 rfl rfl ?_
        refine aw_iload_n (n := 24) dX3_bracesForm_23 rfl 1 rfl rfl ?_
        refine aw_iconst (n := 25) (v := 1) dX3_bracesForm_24 (by decide) rfl ?_
        refine aw_iadd (n := 26) dX3_bracesForm_25 rfl ?_
        refine AW.sts (st' := [.int (nI (d + 1)), .ref b]) (by rw [show (nI d) + 1 = nI (d + 1) from (nI_1 _)]) ?_
        have ne_26 : (qX T f 0 (d + 1) (a + 1)).1 ≠ 99 := fH.nt g_5 hne
        have V_26 : qW T N (a + 1) (qX T f 0 (d + 1) (a + 1)) := qX_W hS.2.1 f 0 _ _ N_16 a_16
        refine aw_callV (n := 29) (C0 := RX3) (As := [.int (nI (d + 1))]) (rest := []) (K2 := kX3_formulaForm) dX3_bracesForm_26 q2863 q2865 qs57 q113 q2866 ⟨rfl, hcX3_formulaForm⟩ rfl hT_16.1 (ih 0 h_16 b ms T N (a + 1) (d + 1) (by decide) hb hT_16 hS N_16 a_16 (by omega) ne_26) rfl (Nat.le_of_ble_eq_true rfl) ⟨by dsimp only [kX3_formulaForm, kX3_rowForm, kX3_sinceForm, kX3_oneForm, kX3_expressionForm, kX3_productForm, kX3_factorForm, kX3_bracesForm, kX3_sees, kX3_goes, kX3_takes, kX3_takesName, kX3_takesNumber, kX3_which, kX3_isName, kX3_boundsForm, kJ12_length, fK]; omega, by dsimp only [kX3_formulaForm, kX3_rowForm, kX3_sinceForm, kX3_oneForm, kX3_expressionForm, kX3_productForm, kX3_factorForm, kX3_bracesForm, kX3_sees, kX3_goes, kX3_takes, kX3_takesName, kX3_takesNumber, kX3_which, kX3_isName, kX3_boundsForm, kJ12_length, fK]; omega⟩ ⟨Nat.zero_le _, Nat.zero_le _⟩ (fun _ _ _ z => z.elim) rfl (fun r_26 h_26 q_26 => ?_)
        obtain ⟨z_26, a_26, rfl, hT_26, hF_26, hz_26, fq_26⟩ := q_26
        have W_26 : a_26 ≤ N ∧ a_26 ≤ 400 := by rw [fq_26.1]; exact V_26.2
        have hG_26 := Fr.trans hF_16 hF_26
        refine AW.sts (st' := [.int (bI z_26)]) rfl ?_
        refine aw_if_eq (n := 32) (tgt := 36) dX3_bracesForm_29 (by decide) rfl (fun c_29 => ?_) (fun c_29 => ?_)
        · skip
          have b_29 : z_26 = false := (bI_0 _).mp c_29
          have f_26 : fQ T false a_26 _ := b_29 ▸ fq_26
          have K_7 := (hS.1 a_26 W_26.1).2.1
          refine aw_iconst (n := 37) (v := 0) dX3_bracesForm_36 (by decide) rfl ?_
          exact aw_zret dX3_bracesForm_37 rfl (by decide) ⟨false, a_26, rfl, hT_26, hG_26, (by omega), (g_5.1 _ _ f_26)⟩ ⟨Nat.zero_le _, Nat.zero_le _⟩
        · skip
          have b_29 : z_26 = true := Bool.of_not_eq_false (fun e => c_29 ((bI_0 _).mpr e))
          have f_26 : fQ T true a_26 _ := b_29 ▸ fq_26
          have K_8 := (hS.1 a_26 W_26.1).2.1
          refine aw_iconst (n := 33) (v := 1) dX3_bracesForm_32 (by decide) rfl ?_
          refine aw_goto (tgt := 37) dX3_bracesForm_33 (by decide) ?_
          exact aw_zret dX3_bracesForm_37 rfl (by decide) ⟨true, a_26, rfl, hT_26, hG_26, (by omega), (g_5.1 _ _ f_26)⟩ ⟨Nat.zero_le _, Nat.zero_le _⟩

theorem cf_nt1 (G : aG) (h : hH)  (b : Nat) (ms : tM) (T : Tv) (N a : Nat) (hb : gB G ≤ b) (hT : TW b h (ats ms a)) (hS : tkS ms T N) (hN : a ≤ N) (ha4 : a ≤ 400) (f d : Nat) (hd : d ≤ 10) (hne : (qX T (f + 1) 1 d a).1 ≠ 99) (ih : fAll G f) : Con G kX3_rowForm [.ref b, .int (nI d), .ref (gT G 13)] h ((14 + 2 * (f + 1), 500 + 100 * (f + 1), 0, 0), (fun r h1 => ∃ (z : Bool) (a9 : Nat), r = some (.int (bI z)) ∧ TW b h1 (ats ms a9) ∧ Fr (TS b) h h1 ∧ h1.1 = h.1 ∧ fQ T z a9 (qX T (f + 1) 1 d a)), nX) := by
  refine Con.of (plainFor_of_name rfl) rfl (Nat.le_of_ble_eq_true rfl) ?_
  refine AW.eq (lv2 := [(0, .ref b), (1, .int (nI d)), (2, .ref (gT G 13))]) (s2 := []) rfl rfl rfl rfl rfl ?_
  have hg0 : fH T (qB1 T (qX T f) d a) (qX T (f + 1) 1 d a) := fH.rf
  unfold qB1 at hg0
  have K_1 := (hS.1 a hN).2.1
  refine aw_aload_n (n := 1) dX3_rowForm_0 rfl 2 rfl rfl ?_
  refine aw_know (fun gd_1 hi_1 => ?_)
  obtain ⟨v8, w8, z8, f8, hA8, hV8, hf8⟩ := str_at gd_1 hi_1 (i := 13) (bs := sw 13) rfl
  refine aw_callV (n := 4) (C0 := RJ12) (As := []) (rest := []) (K2 := kJ12_length) dX3_rowForm_1 q2834 q583 q584 q122 q585 ⟨rfl, hcJ12_length⟩ rfl hA8 (cs_length G h _ v8 (sw 13).length w8 z8 f8 hA8 hV8 (by decide)) rfl (Nat.le_of_ble_eq_true rfl) ⟨by dsimp only [kX3_formulaForm, kX3_rowForm, kX3_sinceForm, kX3_oneForm, kX3_expressionForm, kX3_productForm, kX3_factorForm, kX3_bracesForm, kX3_sees, kX3_goes, kX3_takes, kX3_takesName, kX3_takesNumber, kX3_which, kX3_isName, kX3_boundsForm, kJ12_length, fK]; omega, by dsimp only [kX3_formulaForm, kX3_rowForm, kX3_sinceForm, kX3_oneForm, kX3_expressionForm, kX3_productForm, kX3_factorForm, kX3_bracesForm, kX3_sees, kX3_goes, kX3_takes, kX3_takesName, kX3_takesNumber, kX3_which, kX3_isName, kX3_boundsForm, kJ12_length, fK]; omega⟩ ⟨Nat.zero_le _, Nat.zero_le _⟩ (fun _ _ _ z => z.elim) rfl (fun r_1 h_1 q_1 => ?_)
  obtain ⟨rfl, rfl⟩ := q_1
  refine AW.sts (st' := [.int (nI 2)]) rfl ?_
  refine aw_iconst (n := 5) (v := 2) dX3_rowForm_4 (by decide) rfl ?_
  refine aw_icmp_ne (n := 8) (tgt := 12) dX3_rowForm_5 (by decide) rfl (fun c_5 => ?_) (fun c_5 => ?_)
  · skip
    exact absurd c_5 (by decide +kernel)
  · skip
    refine aw_iconst (n := 9) (v := 1) dX3_rowForm_8 (by decide) rfl ?_
    refine aw_goto (tgt := 13) dX3_rowForm_9 (by decide) ?_
    refine aw_istore_n (n := 14) (lv' := [(3, .int 1), (0, .ref b), (1, .int (nI d)), (2, .ref (gT G 13))]) dX3_rowForm_13 rfl (by decide) rfl rfl ?_
    refine aw_iload_n (n := 15) dX3_rowForm_14 rfl 0 rfl rfl ?_
    refine aw_if_eq (n := 18) (tgt := 31) dX3_rowForm_15 (by decide) rfl (fun c_15 => ?_) (fun c_15 => ?_)
    · skip
      exact absurd c_15 (by decide +kernel)
    · skip
      refine aw_aload_n (n := 19) dX3_rowForm_18 rfl 1 rfl rfl ?_
      refine aw_iload_n (n := 20) dX3_rowForm_19 rfl 2 rfl rfl ?_
      refine aw_ldcS (n := 22) (q := 12) dX3_rowForm_20 103 rfl rfl ?_
      have ne_22 : (qX T f 2 d a).1 ≠ 99 := fH.nb hg0 hne
      have V_22 : qW T N a (qX T f 2 d a) := qX_W hS.2.1 f 2 _ _ hN ha4
      refine aw_callV (n := 25) (C0 := RX3) (As := [.int (nI d), .ref (gT G 12)]) (rest := []) (K2 := kX3_rowForm) dX3_rowForm_22 q2868 q2870 qs58 q113 q2871 ⟨rfl, hcX3_rowForm⟩ rfl hT.1 (ih 2 h b ms T N a d (by decide) hb hT hS hN ha4 (by omega) ne_22) rfl (Nat.le_of_ble_eq_true rfl) ⟨by dsimp only [kX3_formulaForm, kX3_rowForm, kX3_sinceForm, kX3_oneForm, kX3_expressionForm, kX3_productForm, kX3_factorForm, kX3_bracesForm, kX3_sees, kX3_goes, kX3_takes, kX3_takesName, kX3_takesNumber, kX3_which, kX3_isName, kX3_boundsForm, kJ12_length, fK]; omega, by dsimp only [kX3_formulaForm, kX3_rowForm, kX3_sinceForm, kX3_oneForm, kX3_expressionForm, kX3_productForm, kX3_factorForm, kX3_bracesForm, kX3_sees, kX3_goes, kX3_takes, kX3_takesName, kX3_takesNumber, kX3_which, kX3_isName, kX3_boundsForm, kJ12_length, fK]; omega⟩ ⟨Nat.zero_le _, Nat.zero_le _⟩ (fun _ _ _ z => z.elim) rfl (fun r_22 h_22 q_22 => ?_)
      obtain ⟨z_22, a_22, rfl, hT_22, hF_22, hz_22, fq_22⟩ := q_22
      have W_22 : a_22 ≤ N ∧ a_22 ≤ 400 := by rw [fq_22.1]; exact V_22.2
      refine AW.sts (st' := [.int (bI z_22)]) rfl ?_
      refine aw_if_eq (n := 28) (tgt := 39) dX3_rowForm_25 (by decide) rfl (fun c_25 => ?_) (fun c_25 => ?_)
      · skip
        have b_25 : z_22 = false := (bI_0 _).mp c_25
        have f_22 : fQ T false a_22 _ := b_25 ▸ fq_22
        have K_3 := (hS.1 a_22 W_22.1).2.1
        refine aw_iconst (n := 40) (v := 0) dX3_rowForm_39 (by decide) rfl ?_
        exact aw_zret dX3_rowForm_40 rfl (by decide) ⟨false, a_22, rfl, hT_22, hF_22, (by omega), (fH.fail hg0 f_22 (by first | exact qPc_4 T _ _ | exact qLp_4 (gOr_4 T) _ | exact qLp_4 (gAnd_4 T) _ | exact qLp_4 (gSum_4 T) _ | exact qLp_4 (gPro_4 T) _ | simp [qb_0, qb_1, qb_4, qX_4, seesP_4, nmP_4, nuP_4, whP_4, qT_4, qNm_4, qNu_4, qBd_4, qBr_4, qBo, qI_f, gOr_4, gAnd_4, gSum_4, gPro_4, qLp_4]))⟩ ⟨Nat.zero_le _, Nat.zero_le _⟩
      · skip
        have b_25 : z_22 = true := Bool.of_not_eq_false (fun e => c_25 ((bI_0 _).mpr e))
        have f_22 : fQ T true a_22 _ := b_25 ▸ fq_22
        have g_4 := fH.step hg0 f_22
        try dsimp only at g_4
        have K_5 := (hS.1 a_22 W_22.1).2.1
        refine aw_goto (tgt := 41) dX3_rowForm_28 (by decide) ?_
        suffices L_41 : ∀ (m_ : Nat) (c a9 : Nat) (hh : hH) (hN9 : a9 ≤ N) (h49 : a9 ≤ 400) (hTc : TW b hh (ats ms a9)) (hFc : Fr (TS b) h hh) (hzc : hh.1 = h.1) (hgc : fH T (qLp (qX T f 2 d) (gOr T) c a9) (qX T (f + 1) 1 d a)), c < m_ → AW G kX3_rowForm ((14 + 2 * (f + 1), 500 + 100 * (f + 1), 0, 0), (fun r h1 => ∃ (z : Bool) (a9 : Nat), r = some (.int (bI z)) ∧ TW b h1 (ats ms a9) ∧ Fr (TS b) h h1 ∧ h1.1 = h.1 ∧ fQ T z a9 (qX T (f + 1) 1 d a)), nX) 41 [(3, .int 1), (0, .ref b), (1, .int (nI d)), (2, .ref (gT G 13))] [] hh 0 0 from
          AW.lvs (lv' := [(3, .int 1), (0, .ref b), (1, .int (nI d)), (2, .ref (gT G 13))]) (AW.eq (lv2 := _) (rfl) rfl rfl rfl rfl (L_41 _ 401 a_22 h_22 W_22.1 W_22.2 hT_22 hF_22 (by omega) g_4 (Nat.lt_succ_self _))) (by simp)
        intro m_
        induction m_ with
        | zero => intro c a9 hh hN9 h49 hTc hFc hzc hgc h_m; exact absurd h_m (Nat.not_lt_zero _)
        | succ m_ ih_41 =>
          intro c a9 hh hN9 h49 hTc hFc hzc hgc h_m
          cases c with
          | zero => exact absurd (hgc.2 rfl) hne
          | succ c =>
            have K_6 := (hS.1 a9 hN9).2.1
            have hg1 : fH T (cond (gOr T a9) (qb (qX T f 2 d (a9 + 1)) (qLp (qX T f 2 d) (gOr T) c)) (0, a9)) (qX T (f + 1) 1 d a) := hgc
            refine aw_aload_n (n := 42) dX3_rowForm_41 rfl 1 rfl rfl ?_
            refine aw_aload_n (n := 43) dX3_rowForm_42 rfl 3 rfl rfl ?_
            refine aw_know (fun gd_6 hi_6 => ?_)
            refine aw_callV (n := 46) (C0 := RX3) (As := [.ref (gT G 13)]) (rest := []) (K2 := kX3_sees) dX3_rowForm_43 q2826 q2828 qs50 q113 q2829 ⟨rfl, hcX3_sees⟩ rfl hTc.1 (ct_sees G hh b (ats ms a9) hb hTc T a9 rfl (hS.1 a9 hN9) _ (sw 13) (str_at gd_6 hi_6 (i := 13) rfl) (lo_at (i := 13) rfl)) rfl (Nat.le_of_ble_eq_true rfl) ⟨by dsimp only [kX3_formulaForm, kX3_rowForm, kX3_sinceForm, kX3_oneForm, kX3_expressionForm, kX3_productForm, kX3_factorForm, kX3_bracesForm, kX3_sees, kX3_goes, kX3_takes, kX3_takesName, kX3_takesNumber, kX3_which, kX3_isName, kX3_boundsForm, kJ12_length, fK]; omega, by dsimp only [kX3_formulaForm, kX3_rowForm, kX3_sinceForm, kX3_oneForm, kX3_expressionForm, kX3_productForm, kX3_factorForm, kX3_bracesForm, kX3_sees, kX3_goes, kX3_takes, kX3_takesName, kX3_takesNumber, kX3_which, kX3_isName, kX3_boundsForm, kJ12_length, fK]; omega⟩ ⟨Nat.zero_le _, Nat.zero_le _⟩ (fun _ _ _ z => z.elim) rfl (fun r_43 h_43 q_43 => ?_)
            obtain ⟨rfl, rfl⟩ := q_43
            refine AW.sts (st' := [.int (bI (seesB T a9 (sw 13)))]) rfl ?_
            refine aw_if_eq (n := 49) (tgt := 83) dX3_rowForm_46 (by decide) rfl (fun c_46 => ?_) (fun c_46 => ?_)
            · skip
              have b_46 : (seesB T a9 (sw 13)) = false := (bI_0 _).mp c_46
              have g_8 := fH.F hg1 (by first | assumption | simp [seesP, nmP, nuP, gOr, gAnd, gSum, gPro, b_46])
              try dsimp only at g_8
              refine aw_iconst (n := 84) (v := 1) dX3_rowForm_83 (by decide) rfl ?_
              exact aw_zret dX3_rowForm_84 rfl (by decide) ⟨true, a9, rfl, hTc, hFc, (by omega), (fH.ok g_8)⟩ ⟨Nat.zero_le _, Nat.zero_le _⟩
            · skip
              have b_46 : (seesB T a9 (sw 13)) = true := Bool.of_not_eq_false (fun e => c_46 ((bI_0 _).mpr e))
              refine aw_aload_n (n := 50) dX3_rowForm_49 rfl 1 rfl rfl ?_
              refine aw_callV (n := 53) (C0 := RX3) (As := []) (rest := []) (K2 := kX3_goes) dX3_rowForm_50 q2836 q2838 qs52 q113 q2839 ⟨rfl, hcX3_goes⟩ rfl hTc.1 (ct_goes G hh b (ats ms a9) hb hTc a9 rfl h49) rfl (Nat.le_of_ble_eq_true rfl) ⟨by dsimp only [kX3_formulaForm, kX3_rowForm, kX3_sinceForm, kX3_oneForm, kX3_expressionForm, kX3_productForm, kX3_factorForm, kX3_bracesForm, kX3_sees, kX3_goes, kX3_takes, kX3_takesName, kX3_takesNumber, kX3_which, kX3_isName, kX3_boundsForm, kJ12_length, fK]; omega, by dsimp only [kX3_formulaForm, kX3_rowForm, kX3_sinceForm, kX3_oneForm, kX3_expressionForm, kX3_productForm, kX3_factorForm, kX3_bracesForm, kX3_sees, kX3_goes, kX3_takes, kX3_takesName, kX3_takesNumber, kX3_which, kX3_isName, kX3_boundsForm, kJ12_length, fK]; omega⟩ ⟨Nat.zero_le _, Nat.zero_le _⟩ (fun _ _ _ z => z.elim) rfl (fun r_50 h_50 q_50 => ?_)
              obtain ⟨rfl, hT_50, hF_50, hz_50⟩ := q_50
              have hG_50 := Fr.trans hFc hF_50
              refine AW.sts (st' := [.int (bI (a9 != 400))]) rfl ?_
              refine aw_if_eq (n := 56) (tgt := 81) dX3_rowForm_53 (by decide) rfl (fun c_53 => ?_) (fun c_53 => ?_)
              · skip
                have b_53 : (a9 != 400) = false := (bI_0 _).mp c_53
                have e_50 : a9 = 400 := by simpa using b_53
                have ne_50 : T.1 a9 ≠ 0 := by first | exact seesB_ne (by assumption) | exact isNm_ne (by assumption) | exact whT_lt (by assumption) | omega
                have hU_50 : TW b h_50 (ats ms a9) := by rw [e_50, goM_400] at hT_50; rw [e_50]; exact hT_50
                have fq_50 : fQ T false a9 (qX T (f + 1) 1 d a) := by have z := hg1; rw [e_50] at z ne_50 ⊢; exact z.stay (by first | exact qPc_4 T _ _ | exact qLp_4 (gOr_4 T) _ | exact qLp_4 (gAnd_4 T) _ | exact qLp_4 (gSum_4 T) _ | exact qLp_4 (gPro_4 T) _ | simp [qb_0, qb_1, qb_4, qX_4, seesP_4, nmP_4, nuP_4, whP_4, qT_4, qNm_4, qNu_4, qBd_4, qBr_4, qBo, qI_f, gOr_4, gAnd_4, gSum_4, gPro_4, qLp_4]) ne_50
                refine aw_iconst (n := 82) (v := 0) dX3_rowForm_81 (by decide) rfl ?_
                exact aw_zret dX3_rowForm_82 rfl (by decide) ⟨false, a9, rfl, hU_50, hG_50, (by omega), fq_50⟩ ⟨Nat.zero_le _, Nat.zero_le _⟩
              · skip
                have b_53 : (a9 != 400) = true := Bool.of_not_eq_false (fun e => c_53 ((bI_0 _).mpr e))
                have l_50 : a9 < 400 := by have z : a9 ≠ 400 := (by simpa using b_53); omega
                have ne_50 : T.1 a9 ≠ 0 := by first | exact seesB_ne (by assumption) | exact isNm_ne (by assumption) | exact whT_lt (by assumption) | omega
                rw [goM_lt (by omega), tS_tS] at hT_50
                have g_9 := fH.T hg1 (by first | assumption | simp [seesP, nmP, nuP, gOr, gAnd, gSum, gPro, b_46, l_50])
                try dsimp only at g_9
                have N_50 : a9 + 1 ≤ N := lt_end hS.2.1 hN9 ne_50
                have a_50 : a9 + 1 ≤ 400 := by omega
                have K_10 := (hS.1 (a9 + 1) N_50).2.1
                refine aw_iload_n (n := 57) dX3_rowForm_56 rfl 0 rfl rfl ?_
                refine aw_if_eq (n := 60) (tgt := 73) dX3_rowForm_57 (by decide) rfl (fun c_57 => ?_) (fun c_57 => ?_)
                · skip
                  exact absurd c_57 (by decide +kernel)
                · skip
                  refine aw_aload_n (n := 61) dX3_rowForm_60 rfl 1 rfl rfl ?_
                  refine aw_iload_n (n := 62) dX3_rowForm_61 rfl 2 rfl rfl ?_
                  refine aw_ldcS (n := 64) (q := 12) dX3_rowForm_62 103 rfl rfl ?_
                  have ne_64 : (qX T f 2 d (a9 + 1)).1 ≠ 99 := fH.nb g_9 hne
                  have V_64 : qW T N (a9 + 1) (qX T f 2 d (a9 + 1)) := qX_W hS.2.1 f 2 _ _ N_50 a_50
                  refine aw_callV (n := 67) (C0 := RX3) (As := [.int (nI d), .ref (gT G 12)]) (rest := []) (K2 := kX3_rowForm) dX3_rowForm_64 q2868 q2870 qs58 q113 q2871 ⟨rfl, hcX3_rowForm⟩ rfl hT_50.1 (ih 2 h_50 b ms T N (a9 + 1) d (by decide) hb hT_50 hS N_50 a_50 (by omega) ne_64) rfl (Nat.le_of_ble_eq_true rfl) ⟨by dsimp only [kX3_formulaForm, kX3_rowForm, kX3_sinceForm, kX3_oneForm, kX3_expressionForm, kX3_productForm, kX3_factorForm, kX3_bracesForm, kX3_sees, kX3_goes, kX3_takes, kX3_takesName, kX3_takesNumber, kX3_which, kX3_isName, kX3_boundsForm, kJ12_length, fK]; omega, by dsimp only [kX3_formulaForm, kX3_rowForm, kX3_sinceForm, kX3_oneForm, kX3_expressionForm, kX3_productForm, kX3_factorForm, kX3_bracesForm, kX3_sees, kX3_goes, kX3_takes, kX3_takesName, kX3_takesNumber, kX3_which, kX3_isName, kX3_boundsForm, kJ12_length, fK]; omega⟩ ⟨Nat.zero_le _, Nat.zero_le _⟩ (fun _ _ _ z => z.elim) rfl (fun r_64 h_64 q_64 => ?_)
                  obtain ⟨z_64, a_64, rfl, hT_64, hF_64, hz_64, fq_64⟩ := q_64
                  have W_64 : a_64 ≤ N ∧ a_64 ≤ 400 := by rw [fq_64.1]; exact V_64.2
                  have hG_64 := Fr.trans hG_50 hF_64
                  refine AW.sts (st' := [.int (bI z_64)]) rfl ?_
                  refine aw_if_eq (n := 70) (tgt := 81) dX3_rowForm_67 (by decide) rfl (fun c_67 => ?_) (fun c_67 => ?_)
                  · skip
                    have b_67 : z_64 = false := (bI_0 _).mp c_67
                    have f_64 : fQ T false a_64 _ := b_67 ▸ fq_64
                    have K_11 := (hS.1 a_64 W_64.1).2.1
                    refine aw_iconst (n := 82) (v := 0) dX3_rowForm_81 (by decide) rfl ?_
                    exact aw_zret dX3_rowForm_82 rfl (by decide) ⟨false, a_64, rfl, hT_64, hG_64, (by omega), (fH.fail g_9 f_64 (by first | exact qPc_4 T _ _ | exact qLp_4 (gOr_4 T) _ | exact qLp_4 (gAnd_4 T) _ | exact qLp_4 (gSum_4 T) _ | exact qLp_4 (gPro_4 T) _ | simp [qb_0, qb_1, qb_4, qX_4, seesP_4, nmP_4, nuP_4, whP_4, qT_4, qNm_4, qNu_4, qBd_4, qBr_4, qBo, qI_f, gOr_4, gAnd_4, gSum_4, gPro_4, qLp_4]))⟩ ⟨Nat.zero_le _, Nat.zero_le _⟩
                  · skip
                    have b_67 : z_64 = true := Bool.of_not_eq_false (fun e => c_67 ((bI_0 _).mpr e))
                    have f_64 : fQ T true a_64 _ := b_67 ▸ fq_64
                    have g_12 := fH.step g_9 f_64
                    try dsimp only at g_12
                    have K_13 := (hS.1 a_64 W_64.1).2.1
                    refine aw_goto (tgt := 41) dX3_rowForm_70 (by decide) ?_
                    exact AW.lvs (lv' := [(3, .int 1), (0, .ref b), (1, .int (nI d)), (2, .ref (gT G 13))]) (AW.eq (lv2 := _) (rfl) rfl rfl rfl rfl (ih_41 c a_64 h_64 W_64.1 W_64.2 hT_64 hG_64 (by omega) g_12 (by omega))) (by simp)

theorem cf_nt2 (G : aG) (h : hH)  (b : Nat) (ms : tM) (T : Tv) (N a : Nat) (hb : gB G ≤ b) (hT : TW b h (ats ms a)) (hS : tkS ms T N) (hN : a ≤ N) (ha4 : a ≤ 400) (f d : Nat) (hd : d ≤ 10) (hne : (qX T (f + 1) 2 d a).1 ≠ 99) (ih : fAll G f) : Con G kX3_rowForm [.ref b, .int (nI d), .ref (gT G 12)] h ((14 + 2 * (f + 1), 500 + 100 * (f + 1), 0, 0), (fun r h1 => ∃ (z : Bool) (a9 : Nat), r = some (.int (bI z)) ∧ TW b h1 (ats ms a9) ∧ Fr (TS b) h h1 ∧ h1.1 = h.1 ∧ fQ T z a9 (qX T (f + 1) 2 d a)), nX) := by
  refine Con.of (plainFor_of_name rfl) rfl (Nat.le_of_ble_eq_true rfl) ?_
  refine AW.eq (lv2 := [(0, .ref b), (1, .int (nI d)), (2, .ref (gT G 12))]) (s2 := []) rfl rfl rfl rfl rfl ?_
  have hg0 : fH T (qB2 T (qX T f) d a) (qX T (f + 1) 2 d a) := fH.rf
  unfold qB2 at hg0
  have K_1 := (hS.1 a hN).2.1
  refine aw_aload_n (n := 1) dX3_rowForm_0 rfl 2 rfl rfl ?_
  refine aw_know (fun gd_1 hi_1 => ?_)
  obtain ⟨v8, w8, z8, f8, hA8, hV8, hf8⟩ := str_at gd_1 hi_1 (i := 12) (bs := sw 12) rfl
  refine aw_callV (n := 4) (C0 := RJ12) (As := []) (rest := []) (K2 := kJ12_length) dX3_rowForm_1 q2834 q583 q584 q122 q585 ⟨rfl, hcJ12_length⟩ rfl hA8 (cs_length G h _ v8 (sw 12).length w8 z8 f8 hA8 hV8 (by decide)) rfl (Nat.le_of_ble_eq_true rfl) ⟨by dsimp only [kX3_formulaForm, kX3_rowForm, kX3_sinceForm, kX3_oneForm, kX3_expressionForm, kX3_productForm, kX3_factorForm, kX3_bracesForm, kX3_sees, kX3_goes, kX3_takes, kX3_takesName, kX3_takesNumber, kX3_which, kX3_isName, kX3_boundsForm, kJ12_length, fK]; omega, by dsimp only [kX3_formulaForm, kX3_rowForm, kX3_sinceForm, kX3_oneForm, kX3_expressionForm, kX3_productForm, kX3_factorForm, kX3_bracesForm, kX3_sees, kX3_goes, kX3_takes, kX3_takesName, kX3_takesNumber, kX3_which, kX3_isName, kX3_boundsForm, kJ12_length, fK]; omega⟩ ⟨Nat.zero_le _, Nat.zero_le _⟩ (fun _ _ _ z => z.elim) rfl (fun r_1 h_1 q_1 => ?_)
  obtain ⟨rfl, rfl⟩ := q_1
  refine AW.sts (st' := [.int (nI 3)]) rfl ?_
  refine aw_iconst (n := 5) (v := 2) dX3_rowForm_4 (by decide) rfl ?_
  refine aw_icmp_ne (n := 8) (tgt := 12) dX3_rowForm_5 (by decide) rfl (fun c_5 => ?_) (fun c_5 => ?_)
  · skip
    refine aw_iconst (n := 13) (v := 0) dX3_rowForm_12 (by decide) rfl ?_
    refine aw_istore_n (n := 14) (lv' := [(3, .int 0), (0, .ref b), (1, .int (nI d)), (2, .ref (gT G 12))]) dX3_rowForm_13 rfl (by decide) rfl rfl ?_
    refine aw_iload_n (n := 15) dX3_rowForm_14 rfl 0 rfl rfl ?_
    refine aw_if_eq (n := 18) (tgt := 31) dX3_rowForm_15 (by decide) rfl (fun c_15 => ?_) (fun c_15 => ?_)
    · skip
      refine aw_aload_n (n := 32) dX3_rowForm_31 rfl 1 rfl rfl ?_
      refine aw_iload_n (n := 33) dX3_rowForm_32 rfl 2 rfl rfl ?_
      have ne_33 : (qX T f 3 d a).1 ≠ 99 := fH.nb hg0 hne
      have V_33 : qW T N a (qX T f 3 d a) := qX_W hS.2.1 f 3 _ _ hN ha4
      refine aw_callV (n := 36) (C0 := RX3) (As := [.int (nI d)]) (rest := []) (K2 := kX3_sinceForm) dX3_rowForm_33 q2873 q2875 qs59 q113 q2876 ⟨rfl, hcX3_sinceForm⟩ rfl hT.1 (ih 3 h b ms T N a d (by decide) hb hT hS hN ha4 (by omega) ne_33) rfl (Nat.le_of_ble_eq_true rfl) ⟨by dsimp only [kX3_formulaForm, kX3_rowForm, kX3_sinceForm, kX3_oneForm, kX3_expressionForm, kX3_productForm, kX3_factorForm, kX3_bracesForm, kX3_sees, kX3_goes, kX3_takes, kX3_takesName, kX3_takesNumber, kX3_which, kX3_isName, kX3_boundsForm, kJ12_length, fK]; omega, by dsimp only [kX3_formulaForm, kX3_rowForm, kX3_sinceForm, kX3_oneForm, kX3_expressionForm, kX3_productForm, kX3_factorForm, kX3_bracesForm, kX3_sees, kX3_goes, kX3_takes, kX3_takesName, kX3_takesNumber, kX3_which, kX3_isName, kX3_boundsForm, kJ12_length, fK]; omega⟩ ⟨Nat.zero_le _, Nat.zero_le _⟩ (fun _ _ _ z => z.elim) rfl (fun r_33 h_33 q_33 => ?_)
      obtain ⟨z_33, a_33, rfl, hT_33, hF_33, hz_33, fq_33⟩ := q_33
      have W_33 : a_33 ≤ N ∧ a_33 ≤ 400 := by rw [fq_33.1]; exact V_33.2
      refine AW.sts (st' := [.int (bI z_33)]) rfl ?_
      refine aw_if_ne (n := 39) (tgt := 41) dX3_rowForm_36 (by decide) rfl (fun c_36 => ?_) (fun c_36 => ?_)
      · skip
        have b_36 : z_33 = true := Bool.of_not_eq_false (fun e => c_36 ((bI_0 _).mpr e))
        have f_33 : fQ T true a_33 _ := b_36 ▸ fq_33
        have g_3 := fH.step hg0 f_33
        try dsimp only at g_3
        have K_4 := (hS.1 a_33 W_33.1).2.1
        suffices L_41 : ∀ (m_ : Nat) (c a9 : Nat) (hh : hH) (hN9 : a9 ≤ N) (h49 : a9 ≤ 400) (hTc : TW b hh (ats ms a9)) (hFc : Fr (TS b) h hh) (hzc : hh.1 = h.1) (hgc : fH T (qLp (qX T f 3 d) (gAnd T) c a9) (qX T (f + 1) 2 d a)), c < m_ → AW G kX3_rowForm ((14 + 2 * (f + 1), 500 + 100 * (f + 1), 0, 0), (fun r h1 => ∃ (z : Bool) (a9 : Nat), r = some (.int (bI z)) ∧ TW b h1 (ats ms a9) ∧ Fr (TS b) h h1 ∧ h1.1 = h.1 ∧ fQ T z a9 (qX T (f + 1) 2 d a)), nX) 41 [(3, .int 0), (0, .ref b), (1, .int (nI d)), (2, .ref (gT G 12))] [] hh 0 0 from
          AW.lvs (lv' := [(3, .int 0), (0, .ref b), (1, .int (nI d)), (2, .ref (gT G 12))]) (AW.eq (lv2 := _) (rfl) rfl rfl rfl rfl (L_41 _ 401 a_33 h_33 W_33.1 W_33.2 hT_33 hF_33 (by omega) g_3 (Nat.lt_succ_self _))) (by simp)
        intro m_
        induction m_ with
        | zero => intro c a9 hh hN9 h49 hTc hFc hzc hgc h_m; exact absurd h_m (Nat.not_lt_zero _)
        | succ m_ ih_41 =>
          intro c a9 hh hN9 h49 hTc hFc hzc hgc h_m
          cases c with
          | zero => exact absurd (hgc.2 rfl) hne
          | succ c =>
            have K_5 := (hS.1 a9 hN9).2.1
            have hg1 : fH T (cond (gAnd T a9) (qb (qX T f 3 d (a9 + 1)) (qLp (qX T f 3 d) (gAnd T) c)) (0, a9)) (qX T (f + 1) 2 d a) := hgc
            refine aw_aload_n (n := 42) dX3_rowForm_41 rfl 1 rfl rfl ?_
            refine aw_aload_n (n := 43) dX3_rowForm_42 rfl 3 rfl rfl ?_
            refine aw_know (fun gd_5 hi_5 => ?_)
            refine aw_callV (n := 46) (C0 := RX3) (As := [.ref (gT G 12)]) (rest := []) (K2 := kX3_sees) dX3_rowForm_43 q2826 q2828 qs50 q113 q2829 ⟨rfl, hcX3_sees⟩ rfl hTc.1 (ct_sees G hh b (ats ms a9) hb hTc T a9 rfl (hS.1 a9 hN9) _ (sw 12) (str_at gd_5 hi_5 (i := 12) rfl) (lo_at (i := 12) rfl)) rfl (Nat.le_of_ble_eq_true rfl) ⟨by dsimp only [kX3_formulaForm, kX3_rowForm, kX3_sinceForm, kX3_oneForm, kX3_expressionForm, kX3_productForm, kX3_factorForm, kX3_bracesForm, kX3_sees, kX3_goes, kX3_takes, kX3_takesName, kX3_takesNumber, kX3_which, kX3_isName, kX3_boundsForm, kJ12_length, fK]; omega, by dsimp only [kX3_formulaForm, kX3_rowForm, kX3_sinceForm, kX3_oneForm, kX3_expressionForm, kX3_productForm, kX3_factorForm, kX3_bracesForm, kX3_sees, kX3_goes, kX3_takes, kX3_takesName, kX3_takesNumber, kX3_which, kX3_isName, kX3_boundsForm, kJ12_length, fK]; omega⟩ ⟨Nat.zero_le _, Nat.zero_le _⟩ (fun _ _ _ z => z.elim) rfl (fun r_43 h_43 q_43 => ?_)
            obtain ⟨rfl, rfl⟩ := q_43
            refine AW.sts (st' := [.int (bI (seesB T a9 (sw 12)))]) rfl ?_
            refine aw_if_eq (n := 49) (tgt := 83) dX3_rowForm_46 (by decide) rfl (fun c_46 => ?_) (fun c_46 => ?_)
            · skip
              have b_46 : (seesB T a9 (sw 12)) = false := (bI_0 _).mp c_46
              have g_7 := fH.F hg1 (by first | assumption | simp [seesP, nmP, nuP, gOr, gAnd, gSum, gPro, b_46])
              try dsimp only at g_7
              refine aw_iconst (n := 84) (v := 1) dX3_rowForm_83 (by decide) rfl ?_
              exact aw_zret dX3_rowForm_84 rfl (by decide) ⟨true, a9, rfl, hTc, hFc, (by omega), (fH.ok g_7)⟩ ⟨Nat.zero_le _, Nat.zero_le _⟩
            · skip
              have b_46 : (seesB T a9 (sw 12)) = true := Bool.of_not_eq_false (fun e => c_46 ((bI_0 _).mpr e))
              refine aw_aload_n (n := 50) dX3_rowForm_49 rfl 1 rfl rfl ?_
              refine aw_callV (n := 53) (C0 := RX3) (As := []) (rest := []) (K2 := kX3_goes) dX3_rowForm_50 q2836 q2838 qs52 q113 q2839 ⟨rfl, hcX3_goes⟩ rfl hTc.1 (ct_goes G hh b (ats ms a9) hb hTc a9 rfl h49) rfl (Nat.le_of_ble_eq_true rfl) ⟨by dsimp only [kX3_formulaForm, kX3_rowForm, kX3_sinceForm, kX3_oneForm, kX3_expressionForm, kX3_productForm, kX3_factorForm, kX3_bracesForm, kX3_sees, kX3_goes, kX3_takes, kX3_takesName, kX3_takesNumber, kX3_which, kX3_isName, kX3_boundsForm, kJ12_length, fK]; omega, by dsimp only [kX3_formulaForm, kX3_rowForm, kX3_sinceForm, kX3_oneForm, kX3_expressionForm, kX3_productForm, kX3_factorForm, kX3_bracesForm, kX3_sees, kX3_goes, kX3_takes, kX3_takesName, kX3_takesNumber, kX3_which, kX3_isName, kX3_boundsForm, kJ12_length, fK]; omega⟩ ⟨Nat.zero_le _, Nat.zero_le _⟩ (fun _ _ _ z => z.elim) rfl (fun r_50 h_50 q_50 => ?_)
              obtain ⟨rfl, hT_50, hF_50, hz_50⟩ := q_50
              have hG_50 := Fr.trans hFc hF_50
              refine AW.sts (st' := [.int (bI (a9 != 400))]) rfl ?_
              refine aw_if_eq (n := 56) (tgt := 81) dX3_rowForm_53 (by decide) rfl (fun c_53 => ?_) (fun c_53 => ?_)
              · skip
                have b_53 : (a9 != 400) = false := (bI_0 _).mp c_53
                have e_50 : a9 = 400 := by simpa using b_53
                have ne_50 : T.1 a9 ≠ 0 := by first | exact seesB_ne (by assumption) | exact isNm_ne (by assumption) | exact whT_lt (by assumption) | omega
                have hU_50 : TW b h_50 (ats ms a9) := by rw [e_50, goM_400] at hT_50; rw [e_50]; exact hT_50
                have fq_50 : fQ T false a9 (qX T (f + 1) 2 d a) := by have z := hg1; rw [e_50] at z ne_50 ⊢; exact z.stay (by first | exact qPc_4 T _ _ | exact qLp_4 (gOr_4 T) _ | exact qLp_4 (gAnd_4 T) _ | exact qLp_4 (gSum_4 T) _ | exact qLp_4 (gPro_4 T) _ | simp [qb_0, qb_1, qb_4, qX_4, seesP_4, nmP_4, nuP_4, whP_4, qT_4, qNm_4, qNu_4, qBd_4, qBr_4, qBo, qI_f, gOr_4, gAnd_4, gSum_4, gPro_4, qLp_4]) ne_50
                refine aw_iconst (n := 82) (v := 0) dX3_rowForm_81 (by decide) rfl ?_
                exact aw_zret dX3_rowForm_82 rfl (by decide) ⟨false, a9, rfl, hU_50, hG_50, (by omega), fq_50⟩ ⟨Nat.zero_le _, Nat.zero_le _⟩
              · skip
                have b_53 : (a9 != 400) = true := Bool.of_not_eq_false (fun e => c_53 ((bI_0 _).mpr e))
                have l_50 : a9 < 400 := by have z : a9 ≠ 400 := (by simpa using b_53); omega
                have ne_50 : T.1 a9 ≠ 0 := by first | exact seesB_ne (by assumption) | exact isNm_ne (by assumption) | exact whT_lt (by assumption) | omega
                rw [goM_lt (by omega), tS_tS] at hT_50
                have g_8 := fH.T hg1 (by first | assumption | simp [seesP, nmP, nuP, gOr, gAnd, gSum, gPro, b_46, l_50])
                try dsimp only at g_8
                have N_50 : a9 + 1 ≤ N := lt_end hS.2.1 hN9 ne_50
                have a_50 : a9 + 1 ≤ 400 := by omega
                have K_9 := (hS.1 (a9 + 1) N_50).2.1
                refine aw_iload_n (n := 57) dX3_rowForm_56 rfl 0 rfl rfl ?_
                refine aw_if_eq (n := 60) (tgt := 73) dX3_rowForm_57 (by decide) rfl (fun c_57 => ?_) (fun c_57 => ?_)
                · skip
                  refine aw_aload_n (n := 74) dX3_rowForm_73 rfl 1 rfl rfl ?_
                  refine aw_iload_n (n := 75) dX3_rowForm_74 rfl 2 rfl rfl ?_
                  have ne_75 : (qX T f 3 d (a9 + 1)).1 ≠ 99 := fH.nb g_8 hne
                  have V_75 : qW T N (a9 + 1) (qX T f 3 d (a9 + 1)) := qX_W hS.2.1 f 3 _ _ N_50 a_50
                  refine aw_callV (n := 78) (C0 := RX3) (As := [.int (nI d)]) (rest := []) (K2 := kX3_sinceForm) dX3_rowForm_75 q2873 q2875 qs59 q113 q2876 ⟨rfl, hcX3_sinceForm⟩ rfl hT_50.1 (ih 3 h_50 b ms T N (a9 + 1) d (by decide) hb hT_50 hS N_50 a_50 (by omega) ne_75) rfl (Nat.le_of_ble_eq_true rfl) ⟨by dsimp only [kX3_formulaForm, kX3_rowForm, kX3_sinceForm, kX3_oneForm, kX3_expressionForm, kX3_productForm, kX3_factorForm, kX3_bracesForm, kX3_sees, kX3_goes, kX3_takes, kX3_takesName, kX3_takesNumber, kX3_which, kX3_isName, kX3_boundsForm, kJ12_length, fK]; omega, by dsimp only [kX3_formulaForm, kX3_rowForm, kX3_sinceForm, kX3_oneForm, kX3_expressionForm, kX3_productForm, kX3_factorForm, kX3_bracesForm, kX3_sees, kX3_goes, kX3_takes, kX3_takesName, kX3_takesNumber, kX3_which, kX3_isName, kX3_boundsForm, kJ12_length, fK]; omega⟩ ⟨Nat.zero_le _, Nat.zero_le _⟩ (fun _ _ _ z => z.elim) rfl (fun r_75 h_75 q_75 => ?_)
                  obtain ⟨z_75, a_75, rfl, hT_75, hF_75, hz_75, fq_75⟩ := q_75
                  have W_75 : a_75 ≤ N ∧ a_75 ≤ 400 := by rw [fq_75.1]; exact V_75.2
                  have hG_75 := Fr.trans hG_50 hF_75
                  refine AW.sts (st' := [.int (bI z_75)]) rfl ?_
                  refine aw_if_ne (n := 81) (tgt := 41) dX3_rowForm_78 (by decide) rfl (fun c_78 => ?_) (fun c_78 => ?_)
                  · skip
                    have b_78 : z_75 = true := Bool.of_not_eq_false (fun e => c_78 ((bI_0 _).mpr e))
                    have f_75 : fQ T true a_75 _ := b_78 ▸ fq_75
                    have g_10 := fH.step g_8 f_75
                    try dsimp only at g_10
                    have K_11 := (hS.1 a_75 W_75.1).2.1
                    exact AW.lvs (lv' := [(3, .int 0), (0, .ref b), (1, .int (nI d)), (2, .ref (gT G 12))]) (AW.eq (lv2 := _) (rfl) rfl rfl rfl rfl (ih_41 c a_75 h_75 W_75.1 W_75.2 hT_75 hG_75 (by omega) g_10 (by omega))) (by simp)
                  · skip
                    have b_78 : z_75 = false := (bI_0 _).mp c_78
                    have f_75 : fQ T false a_75 _ := b_78 ▸ fq_75
                    have K_12 := (hS.1 a_75 W_75.1).2.1
                    refine aw_iconst (n := 82) (v := 0) dX3_rowForm_81 (by decide) rfl ?_
                    exact aw_zret dX3_rowForm_82 rfl (by decide) ⟨false, a_75, rfl, hT_75, hG_75, (by omega), (fH.fail g_8 f_75 (by first | exact qPc_4 T _ _ | exact qLp_4 (gOr_4 T) _ | exact qLp_4 (gAnd_4 T) _ | exact qLp_4 (gSum_4 T) _ | exact qLp_4 (gPro_4 T) _ | simp [qb_0, qb_1, qb_4, qX_4, seesP_4, nmP_4, nuP_4, whP_4, qT_4, qNm_4, qNu_4, qBd_4, qBr_4, qBo, qI_f, gOr_4, gAnd_4, gSum_4, gPro_4, qLp_4]))⟩ ⟨Nat.zero_le _, Nat.zero_le _⟩
                · skip
                  exact absurd c_57 (by decide +kernel)
      · skip
        have b_36 : z_33 = false := (bI_0 _).mp c_36
        have f_33 : fQ T false a_33 _ := b_36 ▸ fq_33
        have K_13 := (hS.1 a_33 W_33.1).2.1
        refine aw_iconst (n := 40) (v := 0) dX3_rowForm_39 (by decide) rfl ?_
        exact aw_zret dX3_rowForm_40 rfl (by decide) ⟨false, a_33, rfl, hT_33, hF_33, (by omega), (fH.fail hg0 f_33 (by first | exact qPc_4 T _ _ | exact qLp_4 (gOr_4 T) _ | exact qLp_4 (gAnd_4 T) _ | exact qLp_4 (gSum_4 T) _ | exact qLp_4 (gPro_4 T) _ | simp [qb_0, qb_1, qb_4, qX_4, seesP_4, nmP_4, nuP_4, whP_4, qT_4, qNm_4, qNu_4, qBd_4, qBr_4, qBo, qI_f, gOr_4, gAnd_4, gSum_4, gPro_4, qLp_4]))⟩ ⟨Nat.zero_le _, Nat.zero_le _⟩
    · skip
      exact absurd c_15 (by decide +kernel)
  · skip
    exact absurd c_5 (by decide +kernel)

theorem cf_nt5 (G : aG) (h : hH)  (b : Nat) (ms : tM) (T : Tv) (N a : Nat) (hb : gB G ≤ b) (hT : TW b h (ats ms a)) (hS : tkS ms T N) (hN : a ≤ N) (ha4 : a ≤ 400) (f d : Nat) (hd : d ≤ 10) (hne : (qX T (f + 1) 5 d a).1 ≠ 99) (ih : fAll G f) : Con G kX3_expressionForm [.ref b, .int (nI d)] h ((14 + 2 * (f + 1), 500 + 100 * (f + 1), 0, 0), (fun r h1 => ∃ (z : Bool) (a9 : Nat), r = some (.int (bI z)) ∧ TW b h1 (ats ms a9) ∧ Fr (TS b) h h1 ∧ h1.1 = h.1 ∧ fQ T z a9 (qX T (f + 1) 5 d a)), nX) := by
  refine Con.of (plainFor_of_name rfl) rfl (Nat.le_of_ble_eq_true rfl) ?_
  refine AW.eq (lv2 := [(0, .ref b), (1, .int (nI d))]) (s2 := []) rfl rfl rfl rfl rfl ?_
  have hg0 : fH T (qB5 T (qX T f) d a) (qX T (f + 1) 5 d a) := fH.rf
  unfold qB5 at hg0
  have K_1 := (hS.1 a hN).2.1
  refine aw_aload_n (n := 1) dX3_expressionForm_0 rfl 0 rfl rfl ?_
  refine aw_iload_n (n := 2) dX3_expressionForm_1 rfl 1 rfl rfl ?_
  have ne_2 : (qX T f 6 d a).1 ≠ 99 := fH.nb hg0 hne
  have V_2 : qW T N a (qX T f 6 d a) := qX_W hS.2.1 f 6 _ _ hN ha4
  refine aw_callV (n := 5) (C0 := RX3) (As := [.int (nI d)]) (rest := []) (K2 := kX3_productForm) dX3_expressionForm_2 q2899 q2901 qs63 q113 q2902 ⟨rfl, hcX3_productForm⟩ rfl hT.1 (ih 6 h b ms T N a d (by decide) hb hT hS hN ha4 (by omega) ne_2) rfl (Nat.le_of_ble_eq_true rfl) ⟨by dsimp only [kX3_formulaForm, kX3_rowForm, kX3_sinceForm, kX3_oneForm, kX3_expressionForm, kX3_productForm, kX3_factorForm, kX3_bracesForm, kX3_sees, kX3_goes, kX3_takes, kX3_takesName, kX3_takesNumber, kX3_which, kX3_isName, kX3_boundsForm, kJ12_length, fK]; omega, by dsimp only [kX3_formulaForm, kX3_rowForm, kX3_sinceForm, kX3_oneForm, kX3_expressionForm, kX3_productForm, kX3_factorForm, kX3_bracesForm, kX3_sees, kX3_goes, kX3_takes, kX3_takesName, kX3_takesNumber, kX3_which, kX3_isName, kX3_boundsForm, kJ12_length, fK]; omega⟩ ⟨Nat.zero_le _, Nat.zero_le _⟩ (fun _ _ _ z => z.elim) rfl (fun r_2 h_2 q_2 => ?_)
  obtain ⟨z_2, a_2, rfl, hT_2, hF_2, hz_2, fq_2⟩ := q_2
  have W_2 : a_2 ≤ N ∧ a_2 ≤ 400 := by rw [fq_2.1]; exact V_2.2
  refine AW.sts (st' := [.int (bI z_2)]) rfl ?_
  refine aw_if_ne (n := 8) (tgt := 10) dX3_expressionForm_5 (by decide) rfl (fun c_5 => ?_) (fun c_5 => ?_)
  · skip
    have b_5 : z_2 = true := Bool.of_not_eq_false (fun e => c_5 ((bI_0 _).mpr e))
    have f_2 : fQ T true a_2 _ := b_5 ▸ fq_2
    have g_2 := fH.step hg0 f_2
    try dsimp only at g_2
    have K_3 := (hS.1 a_2 W_2.1).2.1
    suffices L_10 : ∀ (m_ : Nat) (c a9 : Nat) (hh : hH) (hN9 : a9 ≤ N) (h49 : a9 ≤ 400) (hTc : TW b hh (ats ms a9)) (hFc : Fr (TS b) h hh) (hzc : hh.1 = h.1) (hgc : fH T (qLp (qX T f 6 d) (gSum T) c a9) (qX T (f + 1) 5 d a)), c < m_ → AW G kX3_expressionForm ((14 + 2 * (f + 1), 500 + 100 * (f + 1), 0, 0), (fun r h1 => ∃ (z : Bool) (a9 : Nat), r = some (.int (bI z)) ∧ TW b h1 (ats ms a9) ∧ Fr (TS b) h h1 ∧ h1.1 = h.1 ∧ fQ T z a9 (qX T (f + 1) 5 d a)), nX) 10 [(0, .ref b), (1, .int (nI d))] [] hh 0 0 from
      AW.lvs (lv' := [(0, .ref b), (1, .int (nI d))]) (AW.eq (lv2 := _) (rfl) rfl rfl rfl rfl (L_10 _ 401 a_2 h_2 W_2.1 W_2.2 hT_2 hF_2 (by omega) g_2 (Nat.lt_succ_self _))) (by simp)
    intro m_
    induction m_ with
    | zero => intro c a9 hh hN9 h49 hTc hFc hzc hgc h_m; exact absurd h_m (Nat.not_lt_zero _)
    | succ m_ ih_10 =>
      intro c a9 hh hN9 h49 hTc hFc hzc hgc h_m
      cases c with
      | zero => exact absurd (hgc.2 rfl) hne
      | succ c =>
        have K_4 := (hS.1 a9 hN9).2.1
        have hg1 : fH T (cond (gSum T a9) (qb (qX T f 6 d (a9 + 1)) (qLp (qX T f 6 d) (gSum T) c)) (0, a9)) (qX T (f + 1) 5 d a) := hgc
        refine aw_aload_n (n := 11) dX3_expressionForm_10 rfl 0 rfl rfl ?_
        refine aw_ldcS (n := 13) (q := 37) dX3_expressionForm_11 113 rfl rfl ?_
        refine aw_know (fun gd_4 hi_4 => ?_)
        refine aw_callV (n := 16) (C0 := RX3) (As := [.ref (gT G 37)]) (rest := []) (K2 := kX3_sees) dX3_expressionForm_13 q2826 q2828 qs50 q113 q2829 ⟨rfl, hcX3_sees⟩ rfl hTc.1 (ct_sees G hh b (ats ms a9) hb hTc T a9 rfl (hS.1 a9 hN9) _ (sw 37) (str_at gd_4 hi_4 (i := 37) rfl) (lo_at (i := 37) rfl)) rfl (Nat.le_of_ble_eq_true rfl) ⟨by dsimp only [kX3_formulaForm, kX3_rowForm, kX3_sinceForm, kX3_oneForm, kX3_expressionForm, kX3_productForm, kX3_factorForm, kX3_bracesForm, kX3_sees, kX3_goes, kX3_takes, kX3_takesName, kX3_takesNumber, kX3_which, kX3_isName, kX3_boundsForm, kJ12_length, fK]; omega, by dsimp only [kX3_formulaForm, kX3_rowForm, kX3_sinceForm, kX3_oneForm, kX3_expressionForm, kX3_productForm, kX3_factorForm, kX3_bracesForm, kX3_sees, kX3_goes, kX3_takes, kX3_takesName, kX3_takesNumber, kX3_which, kX3_isName, kX3_boundsForm, kJ12_length, fK]; omega⟩ ⟨Nat.zero_le _, Nat.zero_le _⟩ (fun _ _ _ z => z.elim) rfl (fun r_13 h_13 q_13 => ?_)
        obtain ⟨rfl, rfl⟩ := q_13
        refine AW.sts (st' := [.int (bI (seesB T a9 (sw 37)))]) rfl ?_
        refine aw_if_ne (n := 19) (tgt := 28) dX3_expressionForm_16 (by decide) rfl (fun c_16 => ?_) (fun c_16 => ?_)
        · skip
          have b_16 : (seesB T a9 (sw 37)) = true := Bool.of_not_eq_false (fun e => c_16 ((bI_0 _).mpr e))
          refine aw_aload_n (n := 29) dX3_expressionForm_28 rfl 0 rfl rfl ?_
          refine aw_callV (n := 32) (C0 := RX3) (As := []) (rest := []) (K2 := kX3_goes) dX3_expressionForm_29 q2836 q2838 qs52 q113 q2839 ⟨rfl, hcX3_goes⟩ rfl hTc.1 (ct_goes G hh b (ats ms a9) hb hTc a9 rfl h49) rfl (Nat.le_of_ble_eq_true rfl) ⟨by dsimp only [kX3_formulaForm, kX3_rowForm, kX3_sinceForm, kX3_oneForm, kX3_expressionForm, kX3_productForm, kX3_factorForm, kX3_bracesForm, kX3_sees, kX3_goes, kX3_takes, kX3_takesName, kX3_takesNumber, kX3_which, kX3_isName, kX3_boundsForm, kJ12_length, fK]; omega, by dsimp only [kX3_formulaForm, kX3_rowForm, kX3_sinceForm, kX3_oneForm, kX3_expressionForm, kX3_productForm, kX3_factorForm, kX3_bracesForm, kX3_sees, kX3_goes, kX3_takes, kX3_takesName, kX3_takesNumber, kX3_which, kX3_isName, kX3_boundsForm, kJ12_length, fK]; omega⟩ ⟨Nat.zero_le _, Nat.zero_le _⟩ (fun _ _ _ z => z.elim) rfl (fun r_29 h_29 q_29 => ?_)
          obtain ⟨rfl, hT_29, hF_29, hz_29⟩ := q_29
          have hG_29 := Fr.trans hFc hF_29
          refine AW.sts (st' := [.int (bI (a9 != 400))]) rfl ?_
          refine aw_if_eq (n := 35) (tgt := 43) dX3_expressionForm_32 (by decide) rfl (fun c_32 => ?_) (fun c_32 => ?_)
          · skip
            have b_32 : (a9 != 400) = false := (bI_0 _).mp c_32
            have e_29 : a9 = 400 := by simpa using b_32
            have ne_29 : T.1 a9 ≠ 0 := by first | exact seesB_ne (by assumption) | exact isNm_ne (by assumption) | exact whT_lt (by assumption) | omega
            have hU_29 : TW b h_29 (ats ms a9) := by rw [e_29, goM_400] at hT_29; rw [e_29]; exact hT_29
            have fq_29 : fQ T false a9 (qX T (f + 1) 5 d a) := by have z := hg1; rw [e_29] at z ne_29 ⊢; exact z.stay (by first | exact qPc_4 T _ _ | exact qLp_4 (gOr_4 T) _ | exact qLp_4 (gAnd_4 T) _ | exact qLp_4 (gSum_4 T) _ | exact qLp_4 (gPro_4 T) _ | simp [qb_0, qb_1, qb_4, qX_4, seesP_4, nmP_4, nuP_4, whP_4, qT_4, qNm_4, qNu_4, qBd_4, qBr_4, qBo, qI_f, gOr_4, gAnd_4, gSum_4, gPro_4, qLp_4]) ne_29
            refine aw_iconst (n := 44) (v := 0) dX3_expressionForm_43 (by decide) rfl ?_
            exact aw_zret dX3_expressionForm_44 rfl (by decide) ⟨false, a9, rfl, hU_29, hG_29, (by omega), fq_29⟩ ⟨Nat.zero_le _, Nat.zero_le _⟩
          · skip
            have b_32 : (a9 != 400) = true := Bool.of_not_eq_false (fun e => c_32 ((bI_0 _).mpr e))
            have l_29 : a9 < 400 := by have z : a9 ≠ 400 := (by simpa using b_32); omega
            have ne_29 : T.1 a9 ≠ 0 := by first | exact seesB_ne (by assumption) | exact isNm_ne (by assumption) | exact whT_lt (by assumption) | omega
            rw [goM_lt (by omega), tS_tS] at hT_29
            have g_6 := fH.T hg1 (by first | assumption | simp [seesP, nmP, nuP, gOr, gAnd, gSum, gPro, b_16, l_29])
            try dsimp only at g_6
            have N_29 : a9 + 1 ≤ N := lt_end hS.2.1 hN9 ne_29
            have a_29 : a9 + 1 ≤ 400 := by omega
            have K_7 := (hS.1 (a9 + 1) N_29).2.1
            refine aw_aload_n (n := 36) dX3_expressionForm_35 rfl 0 rfl rfl ?_
            refine aw_iload_n (n := 37) dX3_expressionForm_36 rfl 1 rfl rfl ?_
            have ne_37 : (qX T f 6 d (a9 + 1)).1 ≠ 99 := fH.nb g_6 hne
            have V_37 : qW T N (a9 + 1) (qX T f 6 d (a9 + 1)) := qX_W hS.2.1 f 6 _ _ N_29 a_29
            refine aw_callV (n := 40) (C0 := RX3) (As := [.int (nI d)]) (rest := []) (K2 := kX3_productForm) dX3_expressionForm_37 q2899 q2901 qs63 q113 q2902 ⟨rfl, hcX3_productForm⟩ rfl hT_29.1 (ih 6 h_29 b ms T N (a9 + 1) d (by decide) hb hT_29 hS N_29 a_29 (by omega) ne_37) rfl (Nat.le_of_ble_eq_true rfl) ⟨by dsimp only [kX3_formulaForm, kX3_rowForm, kX3_sinceForm, kX3_oneForm, kX3_expressionForm, kX3_productForm, kX3_factorForm, kX3_bracesForm, kX3_sees, kX3_goes, kX3_takes, kX3_takesName, kX3_takesNumber, kX3_which, kX3_isName, kX3_boundsForm, kJ12_length, fK]; omega, by dsimp only [kX3_formulaForm, kX3_rowForm, kX3_sinceForm, kX3_oneForm, kX3_expressionForm, kX3_productForm, kX3_factorForm, kX3_bracesForm, kX3_sees, kX3_goes, kX3_takes, kX3_takesName, kX3_takesNumber, kX3_which, kX3_isName, kX3_boundsForm, kJ12_length, fK]; omega⟩ ⟨Nat.zero_le _, Nat.zero_le _⟩ (fun _ _ _ z => z.elim) rfl (fun r_37 h_37 q_37 => ?_)
            obtain ⟨z_37, a_37, rfl, hT_37, hF_37, hz_37, fq_37⟩ := q_37
            have W_37 : a_37 ≤ N ∧ a_37 ≤ 400 := by rw [fq_37.1]; exact V_37.2
            have hG_37 := Fr.trans hG_29 hF_37
            refine AW.sts (st' := [.int (bI z_37)]) rfl ?_
            refine aw_if_ne (n := 43) (tgt := 10) dX3_expressionForm_40 (by decide) rfl (fun c_40 => ?_) (fun c_40 => ?_)
            · skip
              have b_40 : z_37 = true := Bool.of_not_eq_false (fun e => c_40 ((bI_0 _).mpr e))
              have f_37 : fQ T true a_37 _ := b_40 ▸ fq_37
              have g_8 := fH.step g_6 f_37
              try dsimp only at g_8
              have K_9 := (hS.1 a_37 W_37.1).2.1
              exact AW.lvs (lv' := [(0, .ref b), (1, .int (nI d))]) (AW.eq (lv2 := _) (rfl) rfl rfl rfl rfl (ih_10 c a_37 h_37 W_37.1 W_37.2 hT_37 hG_37 (by omega) g_8 (by omega))) (by simp)
            · skip
              have b_40 : z_37 = false := (bI_0 _).mp c_40
              have f_37 : fQ T false a_37 _ := b_40 ▸ fq_37
              have K_10 := (hS.1 a_37 W_37.1).2.1
              refine aw_iconst (n := 44) (v := 0) dX3_expressionForm_43 (by decide) rfl ?_
              exact aw_zret dX3_expressionForm_44 rfl (by decide) ⟨false, a_37, rfl, hT_37, hG_37, (by omega), (fH.fail g_6 f_37 (by first | exact qPc_4 T _ _ | exact qLp_4 (gOr_4 T) _ | exact qLp_4 (gAnd_4 T) _ | exact qLp_4 (gSum_4 T) _ | exact qLp_4 (gPro_4 T) _ | simp [qb_0, qb_1, qb_4, qX_4, seesP_4, nmP_4, nuP_4, whP_4, qT_4, qNm_4, qNu_4, qBd_4, qBr_4, qBo, qI_f, gOr_4, gAnd_4, gSum_4, gPro_4, qLp_4]))⟩ ⟨Nat.zero_le _, Nat.zero_le _⟩
        · skip
          have b_16 : (seesB T a9 (sw 37)) = false := (bI_0 _).mp c_16
          refine aw_aload_n (n := 20) dX3_expressionForm_19 rfl 0 rfl rfl ?_
          refine aw_ldcS (n := 22) (q := 38) dX3_expressionForm_20 93 rfl rfl ?_
          refine aw_know (fun gd_10 hi_10 => ?_)
          refine aw_callV (n := 25) (C0 := RX3) (As := [.ref (gT G 38)]) (rest := []) (K2 := kX3_sees) dX3_expressionForm_22 q2826 q2828 qs50 q113 q2829 ⟨rfl, hcX3_sees⟩ rfl hTc.1 (ct_sees G hh b (ats ms a9) hb hTc T a9 rfl (hS.1 a9 hN9) _ (sw 38) (str_at gd_10 hi_10 (i := 38) rfl) (lo_at (i := 38) rfl)) rfl (Nat.le_of_ble_eq_true rfl) ⟨by dsimp only [kX3_formulaForm, kX3_rowForm, kX3_sinceForm, kX3_oneForm, kX3_expressionForm, kX3_productForm, kX3_factorForm, kX3_bracesForm, kX3_sees, kX3_goes, kX3_takes, kX3_takesName, kX3_takesNumber, kX3_which, kX3_isName, kX3_boundsForm, kJ12_length, fK]; omega, by dsimp only [kX3_formulaForm, kX3_rowForm, kX3_sinceForm, kX3_oneForm, kX3_expressionForm, kX3_productForm, kX3_factorForm, kX3_bracesForm, kX3_sees, kX3_goes, kX3_takes, kX3_takesName, kX3_takesNumber, kX3_which, kX3_isName, kX3_boundsForm, kJ12_length, fK]; omega⟩ ⟨Nat.zero_le _, Nat.zero_le _⟩ (fun _ _ _ z => z.elim) rfl (fun r_22 h_22 q_22 => ?_)
          obtain ⟨rfl, rfl⟩ := q_22
          refine AW.sts (st' := [.int (bI (seesB T a9 (sw 38)))]) rfl ?_
          refine aw_if_eq (n := 28) (tgt := 45) dX3_expressionForm_25 (by decide) rfl (fun c_25 => ?_) (fun c_25 => ?_)
          · skip
            have b_25 : (seesB T a9 (sw 38)) = false := (bI_0 _).mp c_25
            have g_12 := fH.F hg1 (by first | assumption | simp [seesP, nmP, nuP, gOr, gAnd, gSum, gPro, b_16, b_25])
            try dsimp only at g_12
            refine aw_iconst (n := 46) (v := 1) dX3_expressionForm_45 (by decide) rfl ?_
            exact aw_zret dX3_expressionForm_46 rfl (by decide) ⟨true, a9, rfl, hTc, hFc, (by omega), (fH.ok g_12)⟩ ⟨Nat.zero_le _, Nat.zero_le _⟩
          · skip
            have b_25 : (seesB T a9 (sw 38)) = true := Bool.of_not_eq_false (fun e => c_25 ((bI_0 _).mpr e))
            refine aw_aload_n (n := 29) dX3_expressionForm_28 rfl 0 rfl rfl ?_
            refine aw_callV (n := 32) (C0 := RX3) (As := []) (rest := []) (K2 := kX3_goes) dX3_expressionForm_29 q2836 q2838 qs52 q113 q2839 ⟨rfl, hcX3_goes⟩ rfl hTc.1 (ct_goes G hh b (ats ms a9) hb hTc a9 rfl h49) rfl (Nat.le_of_ble_eq_true rfl) ⟨by dsimp only [kX3_formulaForm, kX3_rowForm, kX3_sinceForm, kX3_oneForm, kX3_expressionForm, kX3_productForm, kX3_factorForm, kX3_bracesForm, kX3_sees, kX3_goes, kX3_takes, kX3_takesName, kX3_takesNumber, kX3_which, kX3_isName, kX3_boundsForm, kJ12_length, fK]; omega, by dsimp only [kX3_formulaForm, kX3_rowForm, kX3_sinceForm, kX3_oneForm, kX3_expressionForm, kX3_productForm, kX3_factorForm, kX3_bracesForm, kX3_sees, kX3_goes, kX3_takes, kX3_takesName, kX3_takesNumber, kX3_which, kX3_isName, kX3_boundsForm, kJ12_length, fK]; omega⟩ ⟨Nat.zero_le _, Nat.zero_le _⟩ (fun _ _ _ z => z.elim) rfl (fun r_29 h_29 q_29 => ?_)
            obtain ⟨rfl, hT_29, hF_29, hz_29⟩ := q_29
            have hG_29 := Fr.trans hFc hF_29
            refine AW.sts (st' := [.int (bI (a9 != 400))]) rfl ?_
            refine aw_if_eq (n := 35) (tgt := 43) dX3_expressionForm_32 (by decide) rfl (fun c_32_2 => ?_) (fun c_32_2 => ?_)
            · skip
              have b_32_2 : (a9 != 400) = false := (bI_0 _).mp c_32_2
              have e_29 : a9 = 400 := by simpa using b_32_2
              have ne_29 : T.1 a9 ≠ 0 := by first | exact seesB_ne (by assumption) | exact isNm_ne (by assumption) | exact whT_lt (by assumption) | omega
              have hU_29 : TW b h_29 (ats ms a9) := by rw [e_29, goM_400] at hT_29; rw [e_29]; exact hT_29
              have fq_29 : fQ T false a9 (qX T (f + 1) 5 d a) := by have z := hg1; rw [e_29] at z ne_29 ⊢; exact z.stay (by first | exact qPc_4 T _ _ | exact qLp_4 (gOr_4 T) _ | exact qLp_4 (gAnd_4 T) _ | exact qLp_4 (gSum_4 T) _ | exact qLp_4 (gPro_4 T) _ | simp [qb_0, qb_1, qb_4, qX_4, seesP_4, nmP_4, nuP_4, whP_4, qT_4, qNm_4, qNu_4, qBd_4, qBr_4, qBo, qI_f, gOr_4, gAnd_4, gSum_4, gPro_4, qLp_4]) ne_29
              refine aw_iconst (n := 44) (v := 0) dX3_expressionForm_43 (by decide) rfl ?_
              exact aw_zret dX3_expressionForm_44 rfl (by decide) ⟨false, a9, rfl, hU_29, hG_29, (by omega), fq_29⟩ ⟨Nat.zero_le _, Nat.zero_le _⟩
            · skip
              have b_32_2 : (a9 != 400) = true := Bool.of_not_eq_false (fun e => c_32_2 ((bI_0 _).mpr e))
              have l_29 : a9 < 400 := by have z : a9 ≠ 400 := (by simpa using b_32_2); omega
              have ne_29 : T.1 a9 ≠ 0 := by first | exact seesB_ne (by assumption) | exact isNm_ne (by assumption) | exact whT_lt (by assumption) | omega
              rw [goM_lt (by omega), tS_tS] at hT_29
              have g_13 := fH.T hg1 (by first | assumption | simp [seesP, nmP, nuP, gOr, gAnd, gSum, gPro, b_16, b_25, l_29])
              try dsimp only at g_13
              have N_29 : a9 + 1 ≤ N := lt_end hS.2.1 hN9 ne_29
              have a_29 : a9 + 1 ≤ 400 := by omega
              have K_14 := (hS.1 (a9 + 1) N_29).2.1
              refine aw_aload_n (n := 36) dX3_expressionForm_35 rfl 0 rfl rfl ?_
              refine aw_iload_n (n := 37) dX3_expressionForm_36 rfl 1 rfl rfl ?_
              have ne_37 : (qX T f 6 d (a9 + 1)).1 ≠ 99 := fH.nb g_13 hne
              have V_37 : qW T N (a9 + 1) (qX T f 6 d (a9 + 1)) := qX_W hS.2.1 f 6 _ _ N_29 a_29
              refine aw_callV (n := 40) (C0 := RX3) (As := [.int (nI d)]) (rest := []) (K2 := kX3_productForm) dX3_expressionForm_37 q2899 q2901 qs63 q113 q2902 ⟨rfl, hcX3_productForm⟩ rfl hT_29.1 (ih 6 h_29 b ms T N (a9 + 1) d (by decide) hb hT_29 hS N_29 a_29 (by omega) ne_37) rfl (Nat.le_of_ble_eq_true rfl) ⟨by dsimp only [kX3_formulaForm, kX3_rowForm, kX3_sinceForm, kX3_oneForm, kX3_expressionForm, kX3_productForm, kX3_factorForm, kX3_bracesForm, kX3_sees, kX3_goes, kX3_takes, kX3_takesName, kX3_takesNumber, kX3_which, kX3_isName, kX3_boundsForm, kJ12_length, fK]; omega, by dsimp only [kX3_formulaForm, kX3_rowForm, kX3_sinceForm, kX3_oneForm, kX3_expressionForm, kX3_productForm, kX3_factorForm, kX3_bracesForm, kX3_sees, kX3_goes, kX3_takes, kX3_takesName, kX3_takesNumber, kX3_which, kX3_isName, kX3_boundsForm, kJ12_length, fK]; omega⟩ ⟨Nat.zero_le _, Nat.zero_le _⟩ (fun _ _ _ z => z.elim) rfl (fun r_37 h_37 q_37 => ?_)
              obtain ⟨z_37, a_37, rfl, hT_37, hF_37, hz_37, fq_37⟩ := q_37
              have W_37 : a_37 ≤ N ∧ a_37 ≤ 400 := by rw [fq_37.1]; exact V_37.2
              have hG_37 := Fr.trans hG_29 hF_37
              refine AW.sts (st' := [.int (bI z_37)]) rfl ?_
              refine aw_if_ne (n := 43) (tgt := 10) dX3_expressionForm_40 (by decide) rfl (fun c_40_2 => ?_) (fun c_40_2 => ?_)
              · skip
                have b_40_2 : z_37 = true := Bool.of_not_eq_false (fun e => c_40_2 ((bI_0 _).mpr e))
                have f_37 : fQ T true a_37 _ := b_40_2 ▸ fq_37
                have g_15 := fH.step g_13 f_37
                try dsimp only at g_15
                have K_16 := (hS.1 a_37 W_37.1).2.1
                exact AW.lvs (lv' := [(0, .ref b), (1, .int (nI d))]) (AW.eq (lv2 := _) (rfl) rfl rfl rfl rfl (ih_10 c a_37 h_37 W_37.1 W_37.2 hT_37 hG_37 (by omega) g_15 (by omega))) (by simp)
              · skip
                have b_40_2 : z_37 = false := (bI_0 _).mp c_40_2
                have f_37 : fQ T false a_37 _ := b_40_2 ▸ fq_37
                have K_17 := (hS.1 a_37 W_37.1).2.1
                refine aw_iconst (n := 44) (v := 0) dX3_expressionForm_43 (by decide) rfl ?_
                exact aw_zret dX3_expressionForm_44 rfl (by decide) ⟨false, a_37, rfl, hT_37, hG_37, (by omega), (fH.fail g_13 f_37 (by first | exact qPc_4 T _ _ | exact qLp_4 (gOr_4 T) _ | exact qLp_4 (gAnd_4 T) _ | exact qLp_4 (gSum_4 T) _ | exact qLp_4 (gPro_4 T) _ | simp [qb_0, qb_1, qb_4, qX_4, seesP_4, nmP_4, nuP_4, whP_4, qT_4, qNm_4, qNu_4, qBd_4, qBr_4, qBo, qI_f, gOr_4, gAnd_4, gSum_4, gPro_4, qLp_4]))⟩ ⟨Nat.zero_le _, Nat.zero_le _⟩
  · skip
    have b_5 : z_2 = false := (bI_0 _).mp c_5
    have f_2 : fQ T false a_2 _ := b_5 ▸ fq_2
    have K_18 := (hS.1 a_2 W_2.1).2.1
    refine aw_iconst (n := 9) (v := 0) dX3_expressionForm_8 (by decide) rfl ?_
    exact aw_zret dX3_expressionForm_9 rfl (by decide) ⟨false, a_2, rfl, hT_2, hF_2, (by omega), (fH.fail hg0 f_2 (by first | exact qPc_4 T _ _ | exact qLp_4 (gOr_4 T) _ | exact qLp_4 (gAnd_4 T) _ | exact qLp_4 (gSum_4 T) _ | exact qLp_4 (gPro_4 T) _ | simp [qb_0, qb_1, qb_4, qX_4, seesP_4, nmP_4, nuP_4, whP_4, qT_4, qNm_4, qNu_4, qBd_4, qBr_4, qBo, qI_f, gOr_4, gAnd_4, gSum_4, gPro_4, qLp_4]))⟩ ⟨Nat.zero_le _, Nat.zero_le _⟩

theorem cf_nt6 (G : aG) (h : hH)  (b : Nat) (ms : tM) (T : Tv) (N a : Nat) (hb : gB G ≤ b) (hT : TW b h (ats ms a)) (hS : tkS ms T N) (hN : a ≤ N) (ha4 : a ≤ 400) (f d : Nat) (hd : d ≤ 10) (hne : (qX T (f + 1) 6 d a).1 ≠ 99) (ih : fAll G f) : Con G kX3_productForm [.ref b, .int (nI d)] h ((14 + 2 * (f + 1), 500 + 100 * (f + 1), 0, 0), (fun r h1 => ∃ (z : Bool) (a9 : Nat), r = some (.int (bI z)) ∧ TW b h1 (ats ms a9) ∧ Fr (TS b) h h1 ∧ h1.1 = h.1 ∧ fQ T z a9 (qX T (f + 1) 6 d a)), nX) := by
  refine Con.of (plainFor_of_name rfl) rfl (Nat.le_of_ble_eq_true rfl) ?_
  refine AW.eq (lv2 := [(0, .ref b), (1, .int (nI d))]) (s2 := []) rfl rfl rfl rfl rfl ?_
  have hg0 : fH T (qB6 T (qX T f) d a) (qX T (f + 1) 6 d a) := fH.rf
  unfold qB6 at hg0
  have K_1 := (hS.1 a hN).2.1
  refine aw_aload_n (n := 1) dX3_productForm_0 rfl 0 rfl rfl ?_
  refine aw_iload_n (n := 2) dX3_productForm_1 rfl 1 rfl rfl ?_
  have ne_2 : (qX T f 7 d a).1 ≠ 99 := fH.nb hg0 hne
  have V_2 : qW T N a (qX T f 7 d a) := qX_W hS.2.1 f 7 _ _ hN ha4
  refine aw_callV (n := 5) (C0 := RX3) (As := [.int (nI d)]) (rest := []) (K2 := kX3_factorForm) dX3_productForm_2 q2903 q2905 qs64 q113 q2906 ⟨rfl, hcX3_factorForm⟩ rfl hT.1 (ih 7 h b ms T N a d (by decide) hb hT hS hN ha4 (by omega) ne_2) rfl (Nat.le_of_ble_eq_true rfl) ⟨by dsimp only [kX3_formulaForm, kX3_rowForm, kX3_sinceForm, kX3_oneForm, kX3_expressionForm, kX3_productForm, kX3_factorForm, kX3_bracesForm, kX3_sees, kX3_goes, kX3_takes, kX3_takesName, kX3_takesNumber, kX3_which, kX3_isName, kX3_boundsForm, kJ12_length, fK]; omega, by dsimp only [kX3_formulaForm, kX3_rowForm, kX3_sinceForm, kX3_oneForm, kX3_expressionForm, kX3_productForm, kX3_factorForm, kX3_bracesForm, kX3_sees, kX3_goes, kX3_takes, kX3_takesName, kX3_takesNumber, kX3_which, kX3_isName, kX3_boundsForm, kJ12_length, fK]; omega⟩ ⟨Nat.zero_le _, Nat.zero_le _⟩ (fun _ _ _ z => z.elim) rfl (fun r_2 h_2 q_2 => ?_)
  obtain ⟨z_2, a_2, rfl, hT_2, hF_2, hz_2, fq_2⟩ := q_2
  have W_2 : a_2 ≤ N ∧ a_2 ≤ 400 := by rw [fq_2.1]; exact V_2.2
  refine AW.sts (st' := [.int (bI z_2)]) rfl ?_
  refine aw_if_ne (n := 8) (tgt := 10) dX3_productForm_5 (by decide) rfl (fun c_5 => ?_) (fun c_5 => ?_)
  · skip
    have b_5 : z_2 = true := Bool.of_not_eq_false (fun e => c_5 ((bI_0 _).mpr e))
    have f_2 : fQ T true a_2 _ := b_5 ▸ fq_2
    have g_2 := fH.step hg0 f_2
    try dsimp only at g_2
    have K_3 := (hS.1 a_2 W_2.1).2.1
    suffices L_10 : ∀ (m_ : Nat) (c a9 : Nat) (hh : hH) (hN9 : a9 ≤ N) (h49 : a9 ≤ 400) (hTc : TW b hh (ats ms a9)) (hFc : Fr (TS b) h hh) (hzc : hh.1 = h.1) (hgc : fH T (qLp (qX T f 7 d) (gPro T) c a9) (qX T (f + 1) 6 d a)), c < m_ → AW G kX3_productForm ((14 + 2 * (f + 1), 500 + 100 * (f + 1), 0, 0), (fun r h1 => ∃ (z : Bool) (a9 : Nat), r = some (.int (bI z)) ∧ TW b h1 (ats ms a9) ∧ Fr (TS b) h h1 ∧ h1.1 = h.1 ∧ fQ T z a9 (qX T (f + 1) 6 d a)), nX) 10 [(0, .ref b), (1, .int (nI d))] [] hh 0 0 from
      AW.lvs (lv' := [(0, .ref b), (1, .int (nI d))]) (AW.eq (lv2 := _) (rfl) rfl rfl rfl rfl (L_10 _ 401 a_2 h_2 W_2.1 W_2.2 hT_2 hF_2 (by omega) g_2 (Nat.lt_succ_self _))) (by simp)
    intro m_
    induction m_ with
    | zero => intro c a9 hh hN9 h49 hTc hFc hzc hgc h_m; exact absurd h_m (Nat.not_lt_zero _)
    | succ m_ ih_10 =>
      intro c a9 hh hN9 h49 hTc hFc hzc hgc h_m
      cases c with
      | zero => exact absurd (hgc.2 rfl) hne
      | succ c =>
        have K_4 := (hS.1 a9 hN9).2.1
        have hg1 : fH T (cond (gPro T a9) (qb (qX T f 7 d (a9 + 1)) (qLp (qX T f 7 d) (gPro T) c)) (0, a9)) (qX T (f + 1) 6 d a) := hgc
        refine aw_aload_n (n := 11) dX3_productForm_10 rfl 0 rfl rfl ?_
        refine aw_ldcS (n := 13) (q := 39) dX3_productForm_11 114 rfl rfl ?_
        refine aw_know (fun gd_4 hi_4 => ?_)
        refine aw_callV (n := 16) (C0 := RX3) (As := [.ref (gT G 39)]) (rest := []) (K2 := kX3_sees) dX3_productForm_13 q2826 q2828 qs50 q113 q2829 ⟨rfl, hcX3_sees⟩ rfl hTc.1 (ct_sees G hh b (ats ms a9) hb hTc T a9 rfl (hS.1 a9 hN9) _ (sw 39) (str_at gd_4 hi_4 (i := 39) rfl) (lo_at (i := 39) rfl)) rfl (Nat.le_of_ble_eq_true rfl) ⟨by dsimp only [kX3_formulaForm, kX3_rowForm, kX3_sinceForm, kX3_oneForm, kX3_expressionForm, kX3_productForm, kX3_factorForm, kX3_bracesForm, kX3_sees, kX3_goes, kX3_takes, kX3_takesName, kX3_takesNumber, kX3_which, kX3_isName, kX3_boundsForm, kJ12_length, fK]; omega, by dsimp only [kX3_formulaForm, kX3_rowForm, kX3_sinceForm, kX3_oneForm, kX3_expressionForm, kX3_productForm, kX3_factorForm, kX3_bracesForm, kX3_sees, kX3_goes, kX3_takes, kX3_takesName, kX3_takesNumber, kX3_which, kX3_isName, kX3_boundsForm, kJ12_length, fK]; omega⟩ ⟨Nat.zero_le _, Nat.zero_le _⟩ (fun _ _ _ z => z.elim) rfl (fun r_13 h_13 q_13 => ?_)
        obtain ⟨rfl, rfl⟩ := q_13
        refine AW.sts (st' := [.int (bI (seesB T a9 (sw 39)))]) rfl ?_
        refine aw_if_ne (n := 19) (tgt := 38) dX3_productForm_16 (by decide) rfl (fun c_16 => ?_) (fun c_16 => ?_)
        · skip
          have b_16 : (seesB T a9 (sw 39)) = true := Bool.of_not_eq_false (fun e => c_16 ((bI_0 _).mpr e))
          refine aw_aload_n (n := 39) dX3_productForm_38 rfl 0 rfl rfl ?_
          refine aw_callV (n := 42) (C0 := RX3) (As := []) (rest := []) (K2 := kX3_goes) dX3_productForm_39 q2836 q2838 qs52 q113 q2839 ⟨rfl, hcX3_goes⟩ rfl hTc.1 (ct_goes G hh b (ats ms a9) hb hTc a9 rfl h49) rfl (Nat.le_of_ble_eq_true rfl) ⟨by dsimp only [kX3_formulaForm, kX3_rowForm, kX3_sinceForm, kX3_oneForm, kX3_expressionForm, kX3_productForm, kX3_factorForm, kX3_bracesForm, kX3_sees, kX3_goes, kX3_takes, kX3_takesName, kX3_takesNumber, kX3_which, kX3_isName, kX3_boundsForm, kJ12_length, fK]; omega, by dsimp only [kX3_formulaForm, kX3_rowForm, kX3_sinceForm, kX3_oneForm, kX3_expressionForm, kX3_productForm, kX3_factorForm, kX3_bracesForm, kX3_sees, kX3_goes, kX3_takes, kX3_takesName, kX3_takesNumber, kX3_which, kX3_isName, kX3_boundsForm, kJ12_length, fK]; omega⟩ ⟨Nat.zero_le _, Nat.zero_le _⟩ (fun _ _ _ z => z.elim) rfl (fun r_39 h_39 q_39 => ?_)
          obtain ⟨rfl, hT_39, hF_39, hz_39⟩ := q_39
          have hG_39 := Fr.trans hFc hF_39
          refine AW.sts (st' := [.int (bI (a9 != 400))]) rfl ?_
          refine aw_if_eq (n := 45) (tgt := 53) dX3_productForm_42 (by decide) rfl (fun c_42 => ?_) (fun c_42 => ?_)
          · skip
            have b_42 : (a9 != 400) = false := (bI_0 _).mp c_42
            have e_39 : a9 = 400 := by simpa using b_42
            have ne_39 : T.1 a9 ≠ 0 := by first | exact seesB_ne (by assumption) | exact isNm_ne (by assumption) | exact whT_lt (by assumption) | omega
            have hU_39 : TW b h_39 (ats ms a9) := by rw [e_39, goM_400] at hT_39; rw [e_39]; exact hT_39
            have fq_39 : fQ T false a9 (qX T (f + 1) 6 d a) := by have z := hg1; rw [e_39] at z ne_39 ⊢; exact z.stay (by first | exact qPc_4 T _ _ | exact qLp_4 (gOr_4 T) _ | exact qLp_4 (gAnd_4 T) _ | exact qLp_4 (gSum_4 T) _ | exact qLp_4 (gPro_4 T) _ | simp [qb_0, qb_1, qb_4, qX_4, seesP_4, nmP_4, nuP_4, whP_4, qT_4, qNm_4, qNu_4, qBd_4, qBr_4, qBo, qI_f, gOr_4, gAnd_4, gSum_4, gPro_4, qLp_4]) ne_39
            refine aw_iconst (n := 54) (v := 0) dX3_productForm_53 (by decide) rfl ?_
            exact aw_zret dX3_productForm_54 rfl (by decide) ⟨false, a9, rfl, hU_39, hG_39, (by omega), fq_39⟩ ⟨Nat.zero_le _, Nat.zero_le _⟩
          · skip
            have b_42 : (a9 != 400) = true := Bool.of_not_eq_false (fun e => c_42 ((bI_0 _).mpr e))
            have l_39 : a9 < 400 := by have z : a9 ≠ 400 := (by simpa using b_42); omega
            have ne_39 : T.1 a9 ≠ 0 := by first | exact seesB_ne (by assumption) | exact isNm_ne (by assumption) | exact whT_lt (by assumption) | omega
            rw [goM_lt (by omega), tS_tS] at hT_39
            have g_6 := fH.T hg1 (by first | assumption | simp [seesP, nmP, nuP, gOr, gAnd, gSum, gPro, b_16, l_39])
            try dsimp only at g_6
            have N_39 : a9 + 1 ≤ N := lt_end hS.2.1 hN9 ne_39
            have a_39 : a9 + 1 ≤ 400 := by omega
            have K_7 := (hS.1 (a9 + 1) N_39).2.1
            refine aw_aload_n (n := 46) dX3_productForm_45 rfl 0 rfl rfl ?_
            refine aw_iload_n (n := 47) dX3_productForm_46 rfl 1 rfl rfl ?_
            have ne_47 : (qX T f 7 d (a9 + 1)).1 ≠ 99 := fH.nb g_6 hne
            have V_47 : qW T N (a9 + 1) (qX T f 7 d (a9 + 1)) := qX_W hS.2.1 f 7 _ _ N_39 a_39
            refine aw_callV (n := 50) (C0 := RX3) (As := [.int (nI d)]) (rest := []) (K2 := kX3_factorForm) dX3_productForm_47 q2903 q2905 qs64 q113 q2906 ⟨rfl, hcX3_factorForm⟩ rfl hT_39.1 (ih 7 h_39 b ms T N (a9 + 1) d (by decide) hb hT_39 hS N_39 a_39 (by omega) ne_47) rfl (Nat.le_of_ble_eq_true rfl) ⟨by dsimp only [kX3_formulaForm, kX3_rowForm, kX3_sinceForm, kX3_oneForm, kX3_expressionForm, kX3_productForm, kX3_factorForm, kX3_bracesForm, kX3_sees, kX3_goes, kX3_takes, kX3_takesName, kX3_takesNumber, kX3_which, kX3_isName, kX3_boundsForm, kJ12_length, fK]; omega, by dsimp only [kX3_formulaForm, kX3_rowForm, kX3_sinceForm, kX3_oneForm, kX3_expressionForm, kX3_productForm, kX3_factorForm, kX3_bracesForm, kX3_sees, kX3_goes, kX3_takes, kX3_takesName, kX3_takesNumber, kX3_which, kX3_isName, kX3_boundsForm, kJ12_length, fK]; omega⟩ ⟨Nat.zero_le _, Nat.zero_le _⟩ (fun _ _ _ z => z.elim) rfl (fun r_47 h_47 q_47 => ?_)
            obtain ⟨z_47, a_47, rfl, hT_47, hF_47, hz_47, fq_47⟩ := q_47
            have W_47 : a_47 ≤ N ∧ a_47 ≤ 400 := by rw [fq_47.1]; exact V_47.2
            have hG_47 := Fr.trans hG_39 hF_47
            refine AW.sts (st' := [.int (bI z_47)]) rfl ?_
            refine aw_if_ne (n := 53) (tgt := 10) dX3_productForm_50 (by decide) rfl (fun c_50 => ?_) (fun c_50 => ?_)
            · skip
              have b_50 : z_47 = true := Bool.of_not_eq_false (fun e => c_50 ((bI_0 _).mpr e))
              have f_47 : fQ T true a_47 _ := b_50 ▸ fq_47
              have g_8 := fH.step g_6 f_47
              try dsimp only at g_8
              have K_9 := (hS.1 a_47 W_47.1).2.1
              exact AW.lvs (lv' := [(0, .ref b), (1, .int (nI d))]) (AW.eq (lv2 := _) (rfl) rfl rfl rfl rfl (ih_10 c a_47 h_47 W_47.1 W_47.2 hT_47 hG_47 (by omega) g_8 (by omega))) (by simp)
            · skip
              have b_50 : z_47 = false := (bI_0 _).mp c_50
              have f_47 : fQ T false a_47 _ := b_50 ▸ fq_47
              have K_10 := (hS.1 a_47 W_47.1).2.1
              refine aw_iconst (n := 54) (v := 0) dX3_productForm_53 (by decide) rfl ?_
              exact aw_zret dX3_productForm_54 rfl (by decide) ⟨false, a_47, rfl, hT_47, hG_47, (by omega), (fH.fail g_6 f_47 (by first | exact qPc_4 T _ _ | exact qLp_4 (gOr_4 T) _ | exact qLp_4 (gAnd_4 T) _ | exact qLp_4 (gSum_4 T) _ | exact qLp_4 (gPro_4 T) _ | simp [qb_0, qb_1, qb_4, qX_4, seesP_4, nmP_4, nuP_4, whP_4, qT_4, qNm_4, qNu_4, qBd_4, qBr_4, qBo, qI_f, gOr_4, gAnd_4, gSum_4, gPro_4, qLp_4]))⟩ ⟨Nat.zero_le _, Nat.zero_le _⟩
        · skip
          have b_16 : (seesB T a9 (sw 39)) = false := (bI_0 _).mp c_16
          refine aw_aload_n (n := 20) dX3_productForm_19 rfl 0 rfl rfl ?_
          refine aw_ldcS (n := 22) (q := 40) dX3_productForm_20 115 rfl rfl ?_
          refine aw_know (fun gd_10 hi_10 => ?_)
          refine aw_callV (n := 25) (C0 := RX3) (As := [.ref (gT G 40)]) (rest := []) (K2 := kX3_sees) dX3_productForm_22 q2826 q2828 qs50 q113 q2829 ⟨rfl, hcX3_sees⟩ rfl hTc.1 (ct_sees G hh b (ats ms a9) hb hTc T a9 rfl (hS.1 a9 hN9) _ (sw 40) (str_at gd_10 hi_10 (i := 40) rfl) (lo_at (i := 40) rfl)) rfl (Nat.le_of_ble_eq_true rfl) ⟨by dsimp only [kX3_formulaForm, kX3_rowForm, kX3_sinceForm, kX3_oneForm, kX3_expressionForm, kX3_productForm, kX3_factorForm, kX3_bracesForm, kX3_sees, kX3_goes, kX3_takes, kX3_takesName, kX3_takesNumber, kX3_which, kX3_isName, kX3_boundsForm, kJ12_length, fK]; omega, by dsimp only [kX3_formulaForm, kX3_rowForm, kX3_sinceForm, kX3_oneForm, kX3_expressionForm, kX3_productForm, kX3_factorForm, kX3_bracesForm, kX3_sees, kX3_goes, kX3_takes, kX3_takesName, kX3_takesNumber, kX3_which, kX3_isName, kX3_boundsForm, kJ12_length, fK]; omega⟩ ⟨Nat.zero_le _, Nat.zero_le _⟩ (fun _ _ _ z => z.elim) rfl (fun r_22 h_22 q_22 => ?_)
          obtain ⟨rfl, rfl⟩ := q_22
          refine AW.sts (st' := [.int (bI (seesB T a9 (sw 40)))]) rfl ?_
          refine aw_if_ne (n := 28) (tgt := 38) dX3_productForm_25 (by decide) rfl (fun c_25 => ?_) (fun c_25 => ?_)
          · skip
            have b_25 : (seesB T a9 (sw 40)) = true := Bool.of_not_eq_false (fun e => c_25 ((bI_0 _).mpr e))
            refine aw_aload_n (n := 39) dX3_productForm_38 rfl 0 rfl rfl ?_
            refine aw_callV (n := 42) (C0 := RX3) (As := []) (rest := []) (K2 := kX3_goes) dX3_productForm_39 q2836 q2838 qs52 q113 q2839 ⟨rfl, hcX3_goes⟩ rfl hTc.1 (ct_goes G hh b (ats ms a9) hb hTc a9 rfl h49) rfl (Nat.le_of_ble_eq_true rfl) ⟨by dsimp only [kX3_formulaForm, kX3_rowForm, kX3_sinceForm, kX3_oneForm, kX3_expressionForm, kX3_productForm, kX3_factorForm, kX3_bracesForm, kX3_sees, kX3_goes, kX3_takes, kX3_takesName, kX3_takesNumber, kX3_which, kX3_isName, kX3_boundsForm, kJ12_length, fK]; omega, by dsimp only [kX3_formulaForm, kX3_rowForm, kX3_sinceForm, kX3_oneForm, kX3_expressionForm, kX3_productForm, kX3_factorForm, kX3_bracesForm, kX3_sees, kX3_goes, kX3_takes, kX3_takesName, kX3_takesNumber, kX3_which, kX3_isName, kX3_boundsForm, kJ12_length, fK]; omega⟩ ⟨Nat.zero_le _, Nat.zero_le _⟩ (fun _ _ _ z => z.elim) rfl (fun r_39 h_39 q_39 => ?_)
            obtain ⟨rfl, hT_39, hF_39, hz_39⟩ := q_39
            have hG_39 := Fr.trans hFc hF_39
            refine AW.sts (st' := [.int (bI (a9 != 400))]) rfl ?_
            refine aw_if_eq (n := 45) (tgt := 53) dX3_productForm_42 (by decide) rfl (fun c_42_2 => ?_) (fun c_42_2 => ?_)
            · skip
              have b_42_2 : (a9 != 400) = false := (bI_0 _).mp c_42_2
              have e_39 : a9 = 400 := by simpa using b_42_2
              have ne_39 : T.1 a9 ≠ 0 := by first | exact seesB_ne (by assumption) | exact isNm_ne (by assumption) | exact whT_lt (by assumption) | omega
              have hU_39 : TW b h_39 (ats ms a9) := by rw [e_39, goM_400] at hT_39; rw [e_39]; exact hT_39
              have fq_39 : fQ T false a9 (qX T (f + 1) 6 d a) := by have z := hg1; rw [e_39] at z ne_39 ⊢; exact z.stay (by first | exact qPc_4 T _ _ | exact qLp_4 (gOr_4 T) _ | exact qLp_4 (gAnd_4 T) _ | exact qLp_4 (gSum_4 T) _ | exact qLp_4 (gPro_4 T) _ | simp [qb_0, qb_1, qb_4, qX_4, seesP_4, nmP_4, nuP_4, whP_4, qT_4, qNm_4, qNu_4, qBd_4, qBr_4, qBo, qI_f, gOr_4, gAnd_4, gSum_4, gPro_4, qLp_4]) ne_39
              refine aw_iconst (n := 54) (v := 0) dX3_productForm_53 (by decide) rfl ?_
              exact aw_zret dX3_productForm_54 rfl (by decide) ⟨false, a9, rfl, hU_39, hG_39, (by omega), fq_39⟩ ⟨Nat.zero_le _, Nat.zero_le _⟩
            · skip
              have b_42_2 : (a9 != 400) = true := Bool.of_not_eq_false (fun e => c_42_2 ((bI_0 _).mpr e))
              have l_39 : a9 < 400 := by have z : a9 ≠ 400 := (by simpa using b_42_2); omega
              have ne_39 : T.1 a9 ≠ 0 := by first | exact seesB_ne (by assumption) | exact isNm_ne (by assumption) | exact whT_lt (by assumption) | omega
              rw [goM_lt (by omega), tS_tS] at hT_39
              have g_12 := fH.T hg1 (by first | assumption | simp [seesP, nmP, nuP, gOr, gAnd, gSum, gPro, b_16, b_25, l_39])
              try dsimp only at g_12
              have N_39 : a9 + 1 ≤ N := lt_end hS.2.1 hN9 ne_39
              have a_39 : a9 + 1 ≤ 400 := by omega
              have K_13 := (hS.1 (a9 + 1) N_39).2.1
              refine aw_aload_n (n := 46) dX3_productForm_45 rfl 0 rfl rfl ?_
              refine aw_iload_n (n := 47) dX3_productForm_46 rfl 1 rfl rfl ?_
              have ne_47 : (qX T f 7 d (a9 + 1)).1 ≠ 99 := fH.nb g_12 hne
              have V_47 : qW T N (a9 + 1) (qX T f 7 d (a9 + 1)) := qX_W hS.2.1 f 7 _ _ N_39 a_39
              refine aw_callV (n := 50) (C0 := RX3) (As := [.int (nI d)]) (rest := []) (K2 := kX3_factorForm) dX3_productForm_47 q2903 q2905 qs64 q113 q2906 ⟨rfl, hcX3_factorForm⟩ rfl hT_39.1 (ih 7 h_39 b ms T N (a9 + 1) d (by decide) hb hT_39 hS N_39 a_39 (by omega) ne_47) rfl (Nat.le_of_ble_eq_true rfl) ⟨by dsimp only [kX3_formulaForm, kX3_rowForm, kX3_sinceForm, kX3_oneForm, kX3_expressionForm, kX3_productForm, kX3_factorForm, kX3_bracesForm, kX3_sees, kX3_goes, kX3_takes, kX3_takesName, kX3_takesNumber, kX3_which, kX3_isName, kX3_boundsForm, kJ12_length, fK]; omega, by dsimp only [kX3_formulaForm, kX3_rowForm, kX3_sinceForm, kX3_oneForm, kX3_expressionForm, kX3_productForm, kX3_factorForm, kX3_bracesForm, kX3_sees, kX3_goes, kX3_takes, kX3_takesName, kX3_takesNumber, kX3_which, kX3_isName, kX3_boundsForm, kJ12_length, fK]; omega⟩ ⟨Nat.zero_le _, Nat.zero_le _⟩ (fun _ _ _ z => z.elim) rfl (fun r_47 h_47 q_47 => ?_)
              obtain ⟨z_47, a_47, rfl, hT_47, hF_47, hz_47, fq_47⟩ := q_47
              have W_47 : a_47 ≤ N ∧ a_47 ≤ 400 := by rw [fq_47.1]; exact V_47.2
              have hG_47 := Fr.trans hG_39 hF_47
              refine AW.sts (st' := [.int (bI z_47)]) rfl ?_
              refine aw_if_ne (n := 53) (tgt := 10) dX3_productForm_50 (by decide) rfl (fun c_50_2 => ?_) (fun c_50_2 => ?_)
              · skip
                have b_50_2 : z_47 = true := Bool.of_not_eq_false (fun e => c_50_2 ((bI_0 _).mpr e))
                have f_47 : fQ T true a_47 _ := b_50_2 ▸ fq_47
                have g_14 := fH.step g_12 f_47
                try dsimp only at g_14
                have K_15 := (hS.1 a_47 W_47.1).2.1
                exact AW.lvs (lv' := [(0, .ref b), (1, .int (nI d))]) (AW.eq (lv2 := _) (rfl) rfl rfl rfl rfl (ih_10 c a_47 h_47 W_47.1 W_47.2 hT_47 hG_47 (by omega) g_14 (by omega))) (by simp)
              · skip
                have b_50_2 : z_47 = false := (bI_0 _).mp c_50_2
                have f_47 : fQ T false a_47 _ := b_50_2 ▸ fq_47
                have K_16 := (hS.1 a_47 W_47.1).2.1
                refine aw_iconst (n := 54) (v := 0) dX3_productForm_53 (by decide) rfl ?_
                exact aw_zret dX3_productForm_54 rfl (by decide) ⟨false, a_47, rfl, hT_47, hG_47, (by omega), (fH.fail g_12 f_47 (by first | exact qPc_4 T _ _ | exact qLp_4 (gOr_4 T) _ | exact qLp_4 (gAnd_4 T) _ | exact qLp_4 (gSum_4 T) _ | exact qLp_4 (gPro_4 T) _ | simp [qb_0, qb_1, qb_4, qX_4, seesP_4, nmP_4, nuP_4, whP_4, qT_4, qNm_4, qNu_4, qBd_4, qBr_4, qBo, qI_f, gOr_4, gAnd_4, gSum_4, gPro_4, qLp_4]))⟩ ⟨Nat.zero_le _, Nat.zero_le _⟩
          · skip
            have b_25 : (seesB T a9 (sw 40)) = false := (bI_0 _).mp c_25
            refine aw_aload_n (n := 29) dX3_productForm_28 rfl 0 rfl rfl ?_
            refine aw_ldcwS (n := 32) (q := 41) dX3_productForm_29 116 rfl rfl ?_
            refine aw_know (fun gd_16 hi_16 => ?_)
            refine aw_callV (n := 35) (C0 := RX3) (As := [.ref (gT G 41)]) (rest := []) (K2 := kX3_sees) dX3_productForm_32 q2826 q2828 qs50 q113 q2829 ⟨rfl, hcX3_sees⟩ rfl hTc.1 (ct_sees G hh b (ats ms a9) hb hTc T a9 rfl (hS.1 a9 hN9) _ (sw 41) (str_at gd_16 hi_16 (i := 41) rfl) (lo_at (i := 41) rfl)) rfl (Nat.le_of_ble_eq_true rfl) ⟨by dsimp only [kX3_formulaForm, kX3_rowForm, kX3_sinceForm, kX3_oneForm, kX3_expressionForm, kX3_productForm, kX3_factorForm, kX3_bracesForm, kX3_sees, kX3_goes, kX3_takes, kX3_takesName, kX3_takesNumber, kX3_which, kX3_isName, kX3_boundsForm, kJ12_length, fK]; omega, by dsimp only [kX3_formulaForm, kX3_rowForm, kX3_sinceForm, kX3_oneForm, kX3_expressionForm, kX3_productForm, kX3_factorForm, kX3_bracesForm, kX3_sees, kX3_goes, kX3_takes, kX3_takesName, kX3_takesNumber, kX3_which, kX3_isName, kX3_boundsForm, kJ12_length, fK]; omega⟩ ⟨Nat.zero_le _, Nat.zero_le _⟩ (fun _ _ _ z => z.elim) rfl (fun r_32 h_32 q_32 => ?_)
            obtain ⟨rfl, rfl⟩ := q_32
            refine AW.sts (st' := [.int (bI (seesB T a9 (sw 41)))]) rfl ?_
            refine aw_if_eq (n := 38) (tgt := 55) dX3_productForm_35 (by decide) rfl (fun c_35 => ?_) (fun c_35 => ?_)
            · skip
              have b_35 : (seesB T a9 (sw 41)) = false := (bI_0 _).mp c_35
              have g_18 := fH.F hg1 (by first | assumption | simp [seesP, nmP, nuP, gOr, gAnd, gSum, gPro, b_16, b_25, b_35])
              try dsimp only at g_18
              refine aw_iconst (n := 56) (v := 1) dX3_productForm_55 (by decide) rfl ?_
              exact aw_zret dX3_productForm_56 rfl (by decide) ⟨true, a9, rfl, hTc, hFc, (by omega), (fH.ok g_18)⟩ ⟨Nat.zero_le _, Nat.zero_le _⟩
            · skip
              have b_35 : (seesB T a9 (sw 41)) = true := Bool.of_not_eq_false (fun e => c_35 ((bI_0 _).mpr e))
              refine aw_aload_n (n := 39) dX3_productForm_38 rfl 0 rfl rfl ?_
              refine aw_callV (n := 42) (C0 := RX3) (As := []) (rest := []) (K2 := kX3_goes) dX3_productForm_39 q2836 q2838 qs52 q113 q2839 ⟨rfl, hcX3_goes⟩ rfl hTc.1 (ct_goes G hh b (ats ms a9) hb hTc a9 rfl h49) rfl (Nat.le_of_ble_eq_true rfl) ⟨by dsimp only [kX3_formulaForm, kX3_rowForm, kX3_sinceForm, kX3_oneForm, kX3_expressionForm, kX3_productForm, kX3_factorForm, kX3_bracesForm, kX3_sees, kX3_goes, kX3_takes, kX3_takesName, kX3_takesNumber, kX3_which, kX3_isName, kX3_boundsForm, kJ12_length, fK]; omega, by dsimp only [kX3_formulaForm, kX3_rowForm, kX3_sinceForm, kX3_oneForm, kX3_expressionForm, kX3_productForm, kX3_factorForm, kX3_bracesForm, kX3_sees, kX3_goes, kX3_takes, kX3_takesName, kX3_takesNumber, kX3_which, kX3_isName, kX3_boundsForm, kJ12_length, fK]; omega⟩ ⟨Nat.zero_le _, Nat.zero_le _⟩ (fun _ _ _ z => z.elim) rfl (fun r_39 h_39 q_39 => ?_)
              obtain ⟨rfl, hT_39, hF_39, hz_39⟩ := q_39
              have hG_39 := Fr.trans hFc hF_39
              refine AW.sts (st' := [.int (bI (a9 != 400))]) rfl ?_
              refine aw_if_eq (n := 45) (tgt := 53) dX3_productForm_42 (by decide) rfl (fun c_42_3 => ?_) (fun c_42_3 => ?_)
              · skip
                have b_42_3 : (a9 != 400) = false := (bI_0 _).mp c_42_3
                have e_39 : a9 = 400 := by simpa using b_42_3
                have ne_39 : T.1 a9 ≠ 0 := by first | exact seesB_ne (by assumption) | exact isNm_ne (by assumption) | exact whT_lt (by assumption) | omega
                have hU_39 : TW b h_39 (ats ms a9) := by rw [e_39, goM_400] at hT_39; rw [e_39]; exact hT_39
                have fq_39 : fQ T false a9 (qX T (f + 1) 6 d a) := by have z := hg1; rw [e_39] at z ne_39 ⊢; exact z.stay (by first | exact qPc_4 T _ _ | exact qLp_4 (gOr_4 T) _ | exact qLp_4 (gAnd_4 T) _ | exact qLp_4 (gSum_4 T) _ | exact qLp_4 (gPro_4 T) _ | simp [qb_0, qb_1, qb_4, qX_4, seesP_4, nmP_4, nuP_4, whP_4, qT_4, qNm_4, qNu_4, qBd_4, qBr_4, qBo, qI_f, gOr_4, gAnd_4, gSum_4, gPro_4, qLp_4]) ne_39
                refine aw_iconst (n := 54) (v := 0) dX3_productForm_53 (by decide) rfl ?_
                exact aw_zret dX3_productForm_54 rfl (by decide) ⟨false, a9, rfl, hU_39, hG_39, (by omega), fq_39⟩ ⟨Nat.zero_le _, Nat.zero_le _⟩
              · skip
                have b_42_3 : (a9 != 400) = true := Bool.of_not_eq_false (fun e => c_42_3 ((bI_0 _).mpr e))
                have l_39 : a9 < 400 := by have z : a9 ≠ 400 := (by simpa using b_42_3); omega
                have ne_39 : T.1 a9 ≠ 0 := by first | exact seesB_ne (by assumption) | exact isNm_ne (by assumption) | exact whT_lt (by assumption) | omega
                rw [goM_lt (by omega), tS_tS] at hT_39
                have g_19 := fH.T hg1 (by first | assumption | simp [seesP, nmP, nuP, gOr, gAnd, gSum, gPro, b_16, b_25, b_35, l_39])
                try dsimp only at g_19
                have N_39 : a9 + 1 ≤ N := lt_end hS.2.1 hN9 ne_39
                have a_39 : a9 + 1 ≤ 400 := by omega
                have K_20 := (hS.1 (a9 + 1) N_39).2.1
                refine aw_aload_n (n := 46) dX3_productForm_45 rfl 0 rfl rfl ?_
                refine aw_iload_n (n := 47) dX3_productForm_46 rfl 1 rfl rfl ?_
                have ne_47 : (qX T f 7 d (a9 + 1)).1 ≠ 99 := fH.nb g_19 hne
                have V_47 : qW T N (a9 + 1) (qX T f 7 d (a9 + 1)) := qX_W hS.2.1 f 7 _ _ N_39 a_39
                refine aw_callV (n := 50) (C0 := RX3) (As := [.int (nI d)]) (rest := []) (K2 := kX3_factorForm) dX3_productForm_47 q2903 q2905 qs64 q113 q2906 ⟨rfl, hcX3_factorForm⟩ rfl hT_39.1 (ih 7 h_39 b ms T N (a9 + 1) d (by decide) hb hT_39 hS N_39 a_39 (by omega) ne_47) rfl (Nat.le_of_ble_eq_true rfl) ⟨by dsimp only [kX3_formulaForm, kX3_rowForm, kX3_sinceForm, kX3_oneForm, kX3_expressionForm, kX3_productForm, kX3_factorForm, kX3_bracesForm, kX3_sees, kX3_goes, kX3_takes, kX3_takesName, kX3_takesNumber, kX3_which, kX3_isName, kX3_boundsForm, kJ12_length, fK]; omega, by dsimp only [kX3_formulaForm, kX3_rowForm, kX3_sinceForm, kX3_oneForm, kX3_expressionForm, kX3_productForm, kX3_factorForm, kX3_bracesForm, kX3_sees, kX3_goes, kX3_takes, kX3_takesName, kX3_takesNumber, kX3_which, kX3_isName, kX3_boundsForm, kJ12_length, fK]; omega⟩ ⟨Nat.zero_le _, Nat.zero_le _⟩ (fun _ _ _ z => z.elim) rfl (fun r_47 h_47 q_47 => ?_)
                obtain ⟨z_47, a_47, rfl, hT_47, hF_47, hz_47, fq_47⟩ := q_47
                have W_47 : a_47 ≤ N ∧ a_47 ≤ 400 := by rw [fq_47.1]; exact V_47.2
                have hG_47 := Fr.trans hG_39 hF_47
                refine AW.sts (st' := [.int (bI z_47)]) rfl ?_
                refine aw_if_ne (n := 53) (tgt := 10) dX3_productForm_50 (by decide) rfl (fun c_50_3 => ?_) (fun c_50_3 => ?_)
                · skip
                  have b_50_3 : z_47 = true := Bool.of_not_eq_false (fun e => c_50_3 ((bI_0 _).mpr e))
                  have f_47 : fQ T true a_47 _ := b_50_3 ▸ fq_47
                  have g_21 := fH.step g_19 f_47
                  try dsimp only at g_21
                  have K_22 := (hS.1 a_47 W_47.1).2.1
                  exact AW.lvs (lv' := [(0, .ref b), (1, .int (nI d))]) (AW.eq (lv2 := _) (rfl) rfl rfl rfl rfl (ih_10 c a_47 h_47 W_47.1 W_47.2 hT_47 hG_47 (by omega) g_21 (by omega))) (by simp)
                · skip
                  have b_50_3 : z_47 = false := (bI_0 _).mp c_50_3
                  have f_47 : fQ T false a_47 _ := b_50_3 ▸ fq_47
                  have K_23 := (hS.1 a_47 W_47.1).2.1
                  refine aw_iconst (n := 54) (v := 0) dX3_productForm_53 (by decide) rfl ?_
                  exact aw_zret dX3_productForm_54 rfl (by decide) ⟨false, a_47, rfl, hT_47, hG_47, (by omega), (fH.fail g_19 f_47 (by first | exact qPc_4 T _ _ | exact qLp_4 (gOr_4 T) _ | exact qLp_4 (gAnd_4 T) _ | exact qLp_4 (gSum_4 T) _ | exact qLp_4 (gPro_4 T) _ | simp [qb_0, qb_1, qb_4, qX_4, seesP_4, nmP_4, nuP_4, whP_4, qT_4, qNm_4, qNu_4, qBd_4, qBr_4, qBo, qI_f, gOr_4, gAnd_4, gSum_4, gPro_4, qLp_4]))⟩ ⟨Nat.zero_le _, Nat.zero_le _⟩
  · skip
    have b_5 : z_2 = false := (bI_0 _).mp c_5
    have f_2 : fQ T false a_2 _ := b_5 ▸ fq_2
    have K_24 := (hS.1 a_2 W_2.1).2.1
    refine aw_iconst (n := 9) (v := 0) dX3_productForm_8 (by decide) rfl ?_
    exact aw_zret dX3_productForm_9 rfl (by decide) ⟨false, a_2, rfl, hT_2, hF_2, (by omega), (fH.fail hg0 f_2 (by first | exact qPc_4 T _ _ | exact qLp_4 (gOr_4 T) _ | exact qLp_4 (gAnd_4 T) _ | exact qLp_4 (gSum_4 T) _ | exact qLp_4 (gPro_4 T) _ | simp [qb_0, qb_1, qb_4, qX_4, seesP_4, nmP_4, nuP_4, whP_4, qT_4, qNm_4, qNu_4, qBd_4, qBr_4, qBo, qI_f, gOr_4, gAnd_4, gSum_4, gPro_4, qLp_4]))⟩ ⟨Nat.zero_le _, Nat.zero_le _⟩

theorem cf_nt4 (G : aG) (h : hH)  (b : Nat) (ms : tM) (T : Tv) (N a : Nat) (hb : gB G ≤ b) (hT : TW b h (ats ms a)) (hS : tkS ms T N) (hN : a ≤ N) (ha4 : a ≤ 400) (f d : Nat) (hd : d ≤ 10) (hne : (qX T (f + 1) 4 d a).1 ≠ 99) (ih : fAll G f) : Con G kX3_oneForm [.ref b, .int (nI d)] h ((14 + 2 * (f + 1), 500 + 100 * (f + 1), 0, 0), (fun r h1 => ∃ (z : Bool) (a9 : Nat), r = some (.int (bI z)) ∧ TW b h1 (ats ms a9) ∧ Fr (TS b) h h1 ∧ h1.1 = h.1 ∧ fQ T z a9 (qX T (f + 1) 4 d a)), nX) := by
  refine Con.of (plainFor_of_name rfl) rfl (Nat.le_of_ble_eq_true rfl) ?_
  refine AW.eq (lv2 := [(0, .ref b), (1, .int (nI d))]) (s2 := []) rfl rfl rfl rfl rfl ?_
  have hg0 : fH T (qB4 T (qX T f) d a) (qX T (f + 1) 4 d a) := fH.rf
  unfold qB4 at hg0
  have K_1 := (hS.1 a hN).2.1
  refine aw_aload_n (n := 1) dX3_oneForm_0 rfl 0 rfl rfl ?_
  refine aw_aload_n (n := 2) dX3_oneForm_1 rfl 0 rfl rfl ?_
  refine aw_getf (n := 5) (v := .int (nI a)) (C0 := RX3) (T := TX3) dX3_oneForm_2 rfl 7 q2648 (Or.inl rfl) hT.1 (congrArg some (congrArg Value.int rfl)) rfl ?_
  refine aw_know (fun gd_1 hi_1 => ?_)
  refine aw_gets (n := 8) (v := .ref (vAd (gV G 30))) dX3_oneForm_5 30 rfl q2881 rfl (vAd_at gd_1 (by decide)) rfl ?_
  refine aw_know (fun gd_2 hi_2 => ?_)
  refine aw_callV (n := 11) (C0 := RX3) (As := [.int (nI a), .ref (vAd (gV G 30))]) (rest := []) (K2 := kX3_which) dX3_oneForm_8 q2850 q2852 qs55 q113 q2853 ⟨rfl, hcX3_which⟩ rfl hT.1 (ct_which G h b (ats ms a) hb hT T a (hS.1 a hN) _ (wlW 3) (wl_at gd_2 hi_2 (k := 3) rfl) (by decide)) rfl (Nat.le_of_ble_eq_true rfl) ⟨by dsimp only [kX3_formulaForm, kX3_rowForm, kX3_sinceForm, kX3_oneForm, kX3_expressionForm, kX3_productForm, kX3_factorForm, kX3_bracesForm, kX3_sees, kX3_goes, kX3_takes, kX3_takesName, kX3_takesNumber, kX3_which, kX3_isName, kX3_boundsForm, kJ12_length, fK]; omega, by dsimp only [kX3_formulaForm, kX3_rowForm, kX3_sinceForm, kX3_oneForm, kX3_expressionForm, kX3_productForm, kX3_factorForm, kX3_bracesForm, kX3_sees, kX3_goes, kX3_takes, kX3_takesName, kX3_takesNumber, kX3_which, kX3_isName, kX3_boundsForm, kJ12_length, fK]; omega⟩ ⟨Nat.zero_le _, Nat.zero_le _⟩ (fun _ _ _ z => z.elim) rfl (fun r_8 h_8 q_8 => ?_)
  obtain ⟨rfl, rfl⟩ := q_8
  refine AW.sts (st' := [.int (whT T a (wlW 3))]) rfl ?_
  refine aw_istore_n (n := 12) (lv' := [(2, .int (whT T a (wlW 3))), (0, .ref b), (1, .int (nI d))]) dX3_oneForm_11 rfl (by decide) rfl rfl ?_
  refine aw_iload_n (n := 13) dX3_oneForm_12 rfl 0 rfl rfl ?_
  refine aw_iconst (n := 14) (v := (-1)) dX3_oneForm_13 (by decide) rfl ?_
  refine aw_icmp_eq (n := 17) (tgt := 58) dX3_oneForm_14 (by decide) rfl (fun c_14 => ?_) (fun c_14 => ?_)
  · skip
    have w_14 : (whP T a 3 != -1) = false := by unfold whP; split <;> simp [c_14]
    have g_4 := fH.F hg0 (by first | assumption | simp [seesP, nmP, nuP, gOr, gAnd, gSum, gPro, c_14, w_14])
    try dsimp only at g_4
    refine aw_aload_n (n := 59) dX3_oneForm_58 rfl 1 rfl rfl ?_
    refine aw_ldcS (n := 61) (q := 49) dX3_oneForm_59 108 rfl rfl ?_
    refine aw_know (fun gd_4 hi_4 => ?_)
    refine aw_callV (n := 64) (C0 := RX3) (As := [.ref (gT G 49)]) (rest := []) (K2 := kX3_sees) dX3_oneForm_61 q2826 q2828 qs50 q113 q2829 ⟨rfl, hcX3_sees⟩ rfl hT.1 (ct_sees G h b (ats ms a) hb hT T a rfl (hS.1 a hN) _ (sw 49) (str_at gd_4 hi_4 (i := 49) rfl) (lo_at (i := 49) rfl)) rfl (Nat.le_of_ble_eq_true rfl) ⟨by dsimp only [kX3_formulaForm, kX3_rowForm, kX3_sinceForm, kX3_oneForm, kX3_expressionForm, kX3_productForm, kX3_factorForm, kX3_bracesForm, kX3_sees, kX3_goes, kX3_takes, kX3_takesName, kX3_takesNumber, kX3_which, kX3_isName, kX3_boundsForm, kJ12_length, fK]; omega, by dsimp only [kX3_formulaForm, kX3_rowForm, kX3_sinceForm, kX3_oneForm, kX3_expressionForm, kX3_productForm, kX3_factorForm, kX3_bracesForm, kX3_sees, kX3_goes, kX3_takes, kX3_takesName, kX3_takesNumber, kX3_which, kX3_isName, kX3_boundsForm, kJ12_length, fK]; omega⟩ ⟨Nat.zero_le _, Nat.zero_le _⟩ (fun _ _ _ z => z.elim) rfl (fun r_61 h_61 q_61 => ?_)
    obtain ⟨rfl, rfl⟩ := q_61
    refine AW.sts (st' := [.int (bI (seesB T a (sw 49)))]) rfl ?_
    refine aw_if_eq (n := 67) (tgt := 105) dX3_oneForm_64 (by decide) rfl (fun c_64 => ?_) (fun c_64 => ?_)
    · skip
      have b_64 : (seesB T a (sw 49)) = false := (bI_0 _).mp c_64
      have g_6 := fH.F g_4 (by first | assumption | simp [seesP, nmP, nuP, gOr, gAnd, gSum, gPro, c_14, w_14, b_64])
      try dsimp only at g_6
      refine aw_aload_n (n := 106) dX3_oneForm_105 rfl 1 rfl rfl ?_
      refine aw_ldcS (n := 108) (q := 16) dX3_oneForm_106 110 rfl rfl ?_
      refine aw_know (fun gd_6 hi_6 => ?_)
      refine aw_callV (n := 111) (C0 := RX3) (As := [.ref (gT G 16)]) (rest := []) (K2 := kX3_sees) dX3_oneForm_108 q2826 q2828 qs50 q113 q2829 ⟨rfl, hcX3_sees⟩ rfl hT.1 (ct_sees G h b (ats ms a) hb hT T a rfl (hS.1 a hN) _ (sw 16) (str_at gd_6 hi_6 (i := 16) rfl) (lo_at (i := 16) rfl)) rfl (Nat.le_of_ble_eq_true rfl) ⟨by dsimp only [kX3_formulaForm, kX3_rowForm, kX3_sinceForm, kX3_oneForm, kX3_expressionForm, kX3_productForm, kX3_factorForm, kX3_bracesForm, kX3_sees, kX3_goes, kX3_takes, kX3_takesName, kX3_takesNumber, kX3_which, kX3_isName, kX3_boundsForm, kJ12_length, fK]; omega, by dsimp only [kX3_formulaForm, kX3_rowForm, kX3_sinceForm, kX3_oneForm, kX3_expressionForm, kX3_productForm, kX3_factorForm, kX3_bracesForm, kX3_sees, kX3_goes, kX3_takes, kX3_takesName, kX3_takesNumber, kX3_which, kX3_isName, kX3_boundsForm, kJ12_length, fK]; omega⟩ ⟨Nat.zero_le _, Nat.zero_le _⟩ (fun _ _ _ z => z.elim) rfl (fun r_108 h_108 q_108 => ?_)
      obtain ⟨rfl, rfl⟩ := q_108
      refine AW.sts (st' := [.int (bI (seesB T a (sw 16)))]) rfl ?_
      refine aw_if_ne (n := 114) (tgt := 123) dX3_oneForm_111 (by decide) rfl (fun c_111 => ?_) (fun c_111 => ?_)
      · skip
        have b_111 : (seesB T a (sw 16)) = true := Bool.of_not_eq_false (fun e => c_111 ((bI_0 _).mpr e))
        refine aw_aload_n (n := 124) dX3_oneForm_123 rfl 1 rfl rfl ?_
        refine aw_callV (n := 127) (C0 := RX3) (As := []) (rest := []) (K2 := kX3_goes) dX3_oneForm_124 q2836 q2838 qs52 q113 q2839 ⟨rfl, hcX3_goes⟩ rfl hT.1 (ct_goes G h b (ats ms a) hb hT a rfl ha4) rfl (Nat.le_of_ble_eq_true rfl) ⟨by dsimp only [kX3_formulaForm, kX3_rowForm, kX3_sinceForm, kX3_oneForm, kX3_expressionForm, kX3_productForm, kX3_factorForm, kX3_bracesForm, kX3_sees, kX3_goes, kX3_takes, kX3_takesName, kX3_takesNumber, kX3_which, kX3_isName, kX3_boundsForm, kJ12_length, fK]; omega, by dsimp only [kX3_formulaForm, kX3_rowForm, kX3_sinceForm, kX3_oneForm, kX3_expressionForm, kX3_productForm, kX3_factorForm, kX3_bracesForm, kX3_sees, kX3_goes, kX3_takes, kX3_takesName, kX3_takesNumber, kX3_which, kX3_isName, kX3_boundsForm, kJ12_length, fK]; omega⟩ ⟨Nat.zero_le _, Nat.zero_le _⟩ (fun _ _ _ z => z.elim) rfl (fun r_124 h_124 q_124 => ?_)
        obtain ⟨rfl, hT_124, hF_124, hz_124⟩ := q_124
        refine AW.sts (st' := [.int (bI (a != 400))]) rfl ?_
        rcases Bool.eq_false_or_eq_true (a != 400) with b_127 | b_127
        · skip
          refine AW.sts (st' := [.int 1]) (by rw [b_127]; rfl) ?_
          have l_124 : a < 400 := by have z : a ≠ 400 := (by simpa using b_127); omega
          have ne_124 : T.1 a ≠ 0 := by first | exact seesB_ne (by assumption) | exact isNm_ne (by assumption) | exact whT_lt (by assumption) | omega
          rw [goM_lt (by omega), tS_tS] at hT_124
          have g_8 := fH.T g_6 (by first | assumption | simp [seesP, nmP, nuP, gOr, gAnd, gSum, gPro, c_14, w_14, b_64, b_111, l_124])
          try dsimp only at g_8
          have N_124 : a + 1 ≤ N := lt_end hS.2.1 hN ne_124
          have a_124 : a + 1 ≤ 400 := by omega
          have K_9 := (hS.1 (a + 1) N_124).2.1
          exact aw_zret dX3_oneForm_127 rfl (by decide) ⟨true, a + 1, rfl, hT_124, hF_124, (by omega), (fH.ok g_8)⟩ ⟨Nat.zero_le _, Nat.zero_le _⟩
        · skip
          refine AW.sts (st' := [.int 0]) (by rw [b_127]; rfl) ?_
          have e_124 : a = 400 := by simpa using b_127
          have ne_124 : T.1 a ≠ 0 := by first | exact seesB_ne (by assumption) | exact isNm_ne (by assumption) | exact whT_lt (by assumption) | omega
          have hU_124 : TW b h_124 (ats ms a) := by rw [e_124, goM_400] at hT_124; rw [e_124]; exact hT_124
          have fq_124 : fQ T false a (qX T (f + 1) 4 d a) := by have z := g_6; rw [e_124] at z ne_124 ⊢; exact z.stay (by first | exact qPc_4 T _ _ | exact qLp_4 (gOr_4 T) _ | exact qLp_4 (gAnd_4 T) _ | exact qLp_4 (gSum_4 T) _ | exact qLp_4 (gPro_4 T) _ | simp [qb_0, qb_1, qb_4, qX_4, seesP_4, nmP_4, nuP_4, whP_4, qT_4, qNm_4, qNu_4, qBd_4, qBr_4, qBo, qI_f, gOr_4, gAnd_4, gSum_4, gPro_4, qLp_4]) ne_124
          exact aw_zret dX3_oneForm_127 rfl (by decide) ⟨false, a, rfl, hU_124, hF_124, (by omega), fq_124⟩ ⟨Nat.zero_le _, Nat.zero_le _⟩
      · skip
        have b_111 : (seesB T a (sw 16)) = false := (bI_0 _).mp c_111
        refine aw_aload_n (n := 115) dX3_oneForm_114 rfl 1 rfl rfl ?_
        refine aw_ldcS (n := 117) (q := 17) dX3_oneForm_115 111 rfl rfl ?_
        refine aw_know (fun gd_9 hi_9 => ?_)
        refine aw_callV (n := 120) (C0 := RX3) (As := [.ref (gT G 17)]) (rest := []) (K2 := kX3_sees) dX3_oneForm_117 q2826 q2828 qs50 q113 q2829 ⟨rfl, hcX3_sees⟩ rfl hT.1 (ct_sees G h b (ats ms a) hb hT T a rfl (hS.1 a hN) _ (sw 17) (str_at gd_9 hi_9 (i := 17) rfl) (lo_at (i := 17) rfl)) rfl (Nat.le_of_ble_eq_true rfl) ⟨by dsimp only [kX3_formulaForm, kX3_rowForm, kX3_sinceForm, kX3_oneForm, kX3_expressionForm, kX3_productForm, kX3_factorForm, kX3_bracesForm, kX3_sees, kX3_goes, kX3_takes, kX3_takesName, kX3_takesNumber, kX3_which, kX3_isName, kX3_boundsForm, kJ12_length, fK]; omega, by dsimp only [kX3_formulaForm, kX3_rowForm, kX3_sinceForm, kX3_oneForm, kX3_expressionForm, kX3_productForm, kX3_factorForm, kX3_bracesForm, kX3_sees, kX3_goes, kX3_takes, kX3_takesName, kX3_takesNumber, kX3_which, kX3_isName, kX3_boundsForm, kJ12_length, fK]; omega⟩ ⟨Nat.zero_le _, Nat.zero_le _⟩ (fun _ _ _ z => z.elim) rfl (fun r_117 h_117 q_117 => ?_)
        obtain ⟨rfl, rfl⟩ := q_117
        refine AW.sts (st' := [.int (bI (seesB T a (sw 17)))]) rfl ?_
        refine aw_if_eq (n := 123) (tgt := 128) dX3_oneForm_120 (by decide) rfl (fun c_120 => ?_) (fun c_120 => ?_)
        · skip
          have b_120 : (seesB T a (sw 17)) = false := (bI_0 _).mp c_120
          have g_11 := fH.F g_6 (by first | assumption | simp [seesP, nmP, nuP, gOr, gAnd, gSum, gPro, c_14, w_14, b_64, b_111, b_120])
          try dsimp only at g_11
          refine aw_aload_n (n := 129) dX3_oneForm_128 rfl 1 rfl rfl ?_
          refine aw_ldcS (n := 131) (q := 15) dX3_oneForm_129 112 rfl rfl ?_
          refine aw_know (fun gd_11 hi_11 => ?_)
          refine aw_callV (n := 134) (C0 := RX3) (As := [.ref (gT G 15)]) (rest := []) (K2 := kX3_sees) dX3_oneForm_131 q2826 q2828 qs50 q113 q2829 ⟨rfl, hcX3_sees⟩ rfl hT.1 (ct_sees G h b (ats ms a) hb hT T a rfl (hS.1 a hN) _ (sw 15) (str_at gd_11 hi_11 (i := 15) rfl) (lo_at (i := 15) rfl)) rfl (Nat.le_of_ble_eq_true rfl) ⟨by dsimp only [kX3_formulaForm, kX3_rowForm, kX3_sinceForm, kX3_oneForm, kX3_expressionForm, kX3_productForm, kX3_factorForm, kX3_bracesForm, kX3_sees, kX3_goes, kX3_takes, kX3_takesName, kX3_takesNumber, kX3_which, kX3_isName, kX3_boundsForm, kJ12_length, fK]; omega, by dsimp only [kX3_formulaForm, kX3_rowForm, kX3_sinceForm, kX3_oneForm, kX3_expressionForm, kX3_productForm, kX3_factorForm, kX3_bracesForm, kX3_sees, kX3_goes, kX3_takes, kX3_takesName, kX3_takesNumber, kX3_which, kX3_isName, kX3_boundsForm, kJ12_length, fK]; omega⟩ ⟨Nat.zero_le _, Nat.zero_le _⟩ (fun _ _ _ z => z.elim) rfl (fun r_131 h_131 q_131 => ?_)
          obtain ⟨rfl, rfl⟩ := q_131
          refine AW.sts (st' := [.int (bI (seesB T a (sw 15)))]) rfl ?_
          refine aw_if_eq (n := 137) (tgt := 157) dX3_oneForm_134 (by decide) rfl (fun c_134 => ?_) (fun c_134 => ?_)
          · skip
            have b_134 : (seesB T a (sw 15)) = false := (bI_0 _).mp c_134
            have g_13 := fH.F g_11 (by first | assumption | simp [seesP, nmP, nuP, gOr, gAnd, gSum, gPro, c_14, w_14, b_64, b_111, b_120, b_134])
            try dsimp only at g_13
            refine aw_aload_n (n := 158) dX3_oneForm_157 rfl 1 rfl rfl ?_
            refine aw_iload_n (n := 159) dX3_oneForm_158 rfl 2 rfl rfl ?_
            have ne_159 : (qX T f 5 d a).1 ≠ 99 := fH.nb g_13 hne
            have V_159 : qW T N a (qX T f 5 d a) := qX_W hS.2.1 f 5 _ _ hN ha4
            refine aw_callV (n := 162) (C0 := RX3) (As := [.int (nI d)]) (rest := []) (K2 := kX3_expressionForm) dX3_oneForm_159 q2895 q2897 qs62 q113 q2898 ⟨rfl, hcX3_expressionForm⟩ rfl hT.1 (ih 5 h b ms T N a d (by decide) hb hT hS hN ha4 (by omega) ne_159) rfl (Nat.le_of_ble_eq_true rfl) ⟨by dsimp only [kX3_formulaForm, kX3_rowForm, kX3_sinceForm, kX3_oneForm, kX3_expressionForm, kX3_productForm, kX3_factorForm, kX3_bracesForm, kX3_sees, kX3_goes, kX3_takes, kX3_takesName, kX3_takesNumber, kX3_which, kX3_isName, kX3_boundsForm, kJ12_length, fK]; omega, by dsimp only [kX3_formulaForm, kX3_rowForm, kX3_sinceForm, kX3_oneForm, kX3_expressionForm, kX3_productForm, kX3_factorForm, kX3_bracesForm, kX3_sees, kX3_goes, kX3_takes, kX3_takesName, kX3_takesNumber, kX3_which, kX3_isName, kX3_boundsForm, kJ12_length, fK]; omega⟩ ⟨Nat.zero_le _, Nat.zero_le _⟩ (fun _ _ _ z => z.elim) rfl (fun r_159 h_159 q_159 => ?_)
            obtain ⟨z_159, a_159, rfl, hT_159, hF_159, hz_159, fq_159⟩ := q_159
            have W_159 : a_159 ≤ N ∧ a_159 ≤ 400 := by rw [fq_159.1]; exact V_159.2
            refine AW.sts (st' := [.int (bI z_159)]) rfl ?_
            refine aw_if_eq (n := 165) (tgt := 199) dX3_oneForm_162 (by decide) rfl (fun c_162 => ?_) (fun c_162 => ?_)
            · skip
              have b_162 : z_159 = false := (bI_0 _).mp c_162
              have f_159 : fQ T false a_159 _ := b_162 ▸ fq_159
              have K_14 := (hS.1 a_159 W_159.1).2.1
              refine aw_iconst (n := 200) (v := 0) dX3_oneForm_199 (by decide) rfl ?_
              exact aw_zret dX3_oneForm_200 rfl (by decide) ⟨false, a_159, rfl, hT_159, hF_159, (by omega), (fH.fail g_13 f_159 (by first | exact qPc_4 T _ _ | exact qLp_4 (gOr_4 T) _ | exact qLp_4 (gAnd_4 T) _ | exact qLp_4 (gSum_4 T) _ | exact qLp_4 (gPro_4 T) _ | simp [qb_0, qb_1, qb_4, qX_4, seesP_4, nmP_4, nuP_4, whP_4, qT_4, qNm_4, qNu_4, qBd_4, qBr_4, qBo, qI_f, gOr_4, gAnd_4, gSum_4, gPro_4, qLp_4]))⟩ ⟨Nat.zero_le _, Nat.zero_le _⟩
            · skip
              have b_162 : z_159 = true := Bool.of_not_eq_false (fun e => c_162 ((bI_0 _).mpr e))
              have f_159 : fQ T true a_159 _ := b_162 ▸ fq_159
              have g_15 := fH.step g_13 f_159
              try dsimp only at g_15
              have K_16 := (hS.1 a_159 W_159.1).2.1
              refine aw_aload_n (n := 166) dX3_oneForm_165 rfl 1 rfl rfl ?_
              refine aw_aload_n (n := 167) dX3_oneForm_166 rfl 1 rfl rfl ?_
              refine aw_getf (n := 170) (v := .int (nI a_159)) (C0 := RX3) (T := TX3) dX3_oneForm_167 rfl 7 q2648 (Or.inl rfl) hT_159.1 (congrArg some (congrArg Value.int rfl)) rfl ?_
              refine aw_know (fun gd_16 hi_16 => ?_)
              refine aw_gets (n := 173) (v := .ref (vAd (gV G 28))) dX3_oneForm_170 28 rfl q2927 rfl (vAd_at gd_16 (by decide)) rfl ?_
              refine aw_know (fun gd_17 hi_17 => ?_)
              refine aw_callV (n := 176) (C0 := RX3) (As := [.int (nI a_159), .ref (vAd (gV G 28))]) (rest := []) (K2 := kX3_which) dX3_oneForm_173 q2850 q2852 qs55 q113 q2853 ⟨rfl, hcX3_which⟩ rfl hT_159.1 (ct_which G h_159 b (ats ms a_159) hb hT_159 T a_159 (hS.1 a_159 W_159.1) _ (wlW 1) (wl_at gd_17 hi_17 (k := 1) rfl) (by decide)) rfl (Nat.le_of_ble_eq_true rfl) ⟨by dsimp only [kX3_formulaForm, kX3_rowForm, kX3_sinceForm, kX3_oneForm, kX3_expressionForm, kX3_productForm, kX3_factorForm, kX3_bracesForm, kX3_sees, kX3_goes, kX3_takes, kX3_takesName, kX3_takesNumber, kX3_which, kX3_isName, kX3_boundsForm, kJ12_length, fK]; omega, by dsimp only [kX3_formulaForm, kX3_rowForm, kX3_sinceForm, kX3_oneForm, kX3_expressionForm, kX3_productForm, kX3_factorForm, kX3_bracesForm, kX3_sees, kX3_goes, kX3_takes, kX3_takesName, kX3_takesNumber, kX3_which, kX3_isName, kX3_boundsForm, kJ12_length, fK]; omega⟩ ⟨Nat.zero_le _, Nat.zero_le _⟩ (fun _ _ _ z => z.elim) rfl (fun r_173 h_173 q_173 => ?_)
              obtain ⟨rfl, rfl⟩ := q_173
              refine AW.sts (st' := [.int (whT T a_159 (wlW 1))]) rfl ?_
              refine aw_iconst (n := 177) (v := (-1)) dX3_oneForm_176 (by decide) rfl ?_
              refine aw_icmp_eq (n := 180) (tgt := 199) dX3_oneForm_177 (by decide) rfl (fun c_177 => ?_) (fun c_177 => ?_)
              · skip
                have w_177 : (whP T a_159 1 != -1) = false := by unfold whP; split <;> simp [c_177]
                have g_19 := fH.F g_15 (by first | assumption | simp [seesP, nmP, nuP, gOr, gAnd, gSum, gPro, c_177, w_177])
                try dsimp only at g_19
                refine aw_iconst (n := 200) (v := 0) dX3_oneForm_199 (by decide) rfl ?_
                exact aw_zret dX3_oneForm_200 rfl (by decide) ⟨false, a_159, rfl, hT_159, hF_159, (by omega), (fH.no g_19)⟩ ⟨Nat.zero_le _, Nat.zero_le _⟩
              · skip
                have v_177 : (whT T a_159 (wlW 1) != -1) = true := bne_iff_ne.mpr c_177
                refine aw_aload_n (n := 181) dX3_oneForm_180 rfl 1 rfl rfl ?_
                refine aw_callV (n := 184) (C0 := RX3) (As := []) (rest := []) (K2 := kX3_goes) dX3_oneForm_181 q2836 q2838 qs52 q113 q2839 ⟨rfl, hcX3_goes⟩ rfl hT_159.1 (ct_goes G h_159 b (ats ms a_159) hb hT_159 a_159 rfl W_159.2) rfl (Nat.le_of_ble_eq_true rfl) ⟨by dsimp only [kX3_formulaForm, kX3_rowForm, kX3_sinceForm, kX3_oneForm, kX3_expressionForm, kX3_productForm, kX3_factorForm, kX3_bracesForm, kX3_sees, kX3_goes, kX3_takes, kX3_takesName, kX3_takesNumber, kX3_which, kX3_isName, kX3_boundsForm, kJ12_length, fK]; omega, by dsimp only [kX3_formulaForm, kX3_rowForm, kX3_sinceForm, kX3_oneForm, kX3_expressionForm, kX3_productForm, kX3_factorForm, kX3_bracesForm, kX3_sees, kX3_goes, kX3_takes, kX3_takesName, kX3_takesNumber, kX3_which, kX3_isName, kX3_boundsForm, kJ12_length, fK]; omega⟩ ⟨Nat.zero_le _, Nat.zero_le _⟩ (fun _ _ _ z => z.elim) rfl (fun r_181 h_181 q_181 => ?_)
                obtain ⟨rfl, hT_181, hF_181, hz_181⟩ := q_181
                have hG_181 := Fr.trans hF_159 hF_181
                refine AW.sts (st' := [.int (bI (a_159 != 400))]) rfl ?_
                refine aw_if_eq (n := 187) (tgt := 199) dX3_oneForm_184 (by decide) rfl (fun c_184 => ?_) (fun c_184 => ?_)
                · skip
                  have b_184 : (a_159 != 400) = false := (bI_0 _).mp c_184
                  have e_181 : a_159 = 400 := by simpa using b_184
                  have ne_181 : T.1 a_159 ≠ 0 := by first | exact seesB_ne (by assumption) | exact isNm_ne (by assumption) | exact whT_lt (by assumption) | omega
                  have hU_181 : TW b h_181 (ats ms a_159) := by rw [e_181, goM_400] at hT_181; rw [e_181]; exact hT_181
                  have fq_181 : fQ T false a_159 (qX T (f + 1) 4 d a) := by have z := g_15; rw [e_181] at z ne_181 ⊢; exact z.stay (by first | exact qPc_4 T _ _ | exact qLp_4 (gOr_4 T) _ | exact qLp_4 (gAnd_4 T) _ | exact qLp_4 (gSum_4 T) _ | exact qLp_4 (gPro_4 T) _ | simp [qb_0, qb_1, qb_4, qX_4, seesP_4, nmP_4, nuP_4, whP_4, qT_4, qNm_4, qNu_4, qBd_4, qBr_4, qBo, qI_f, gOr_4, gAnd_4, gSum_4, gPro_4, qLp_4]) ne_181
                  refine aw_iconst (n := 200) (v := 0) dX3_oneForm_199 (by decide) rfl ?_
                  exact aw_zret dX3_oneForm_200 rfl (by decide) ⟨false, a_159, rfl, hU_181, hG_181, (by omega), fq_181⟩ ⟨Nat.zero_le _, Nat.zero_le _⟩
                · skip
                  have b_184 : (a_159 != 400) = true := Bool.of_not_eq_false (fun e => c_184 ((bI_0 _).mpr e))
                  have l_181 : a_159 < 400 := by have z : a_159 ≠ 400 := (by simpa using b_184); omega
                  have ne_181 : T.1 a_159 ≠ 0 := by first | exact seesB_ne (by assumption) | exact isNm_ne (by assumption) | exact whT_lt (by assumption) | omega
                  rw [goM_lt (by omega), tS_tS] at hT_181
                  have w_181 : (whP T a_159 1 != -1) = true := by rw [wh_at l_181]; exact v_177
                  have g_20 := fH.T g_15 (by first | assumption | simp [seesP, nmP, nuP, gOr, gAnd, gSum, gPro, c_177, v_177, l_181, w_181])
                  try dsimp only at g_20
                  have N_181 : a_159 + 1 ≤ N := lt_end hS.2.1 W_159.1 ne_181
                  have a_181 : a_159 + 1 ≤ 400 := by omega
                  have K_21 := (hS.1 (a_159 + 1) N_181).2.1
                  refine aw_aload_n (n := 188) dX3_oneForm_187 rfl 1 rfl rfl ?_
                  refine aw_iload_n (n := 189) dX3_oneForm_188 rfl 2 rfl rfl ?_
                  have ne_189 : (qX T f 5 d (a_159 + 1)).1 ≠ 99 := fH.nt g_20 hne
                  have V_189 : qW T N (a_159 + 1) (qX T f 5 d (a_159 + 1)) := qX_W hS.2.1 f 5 _ _ N_181 a_181
                  refine aw_callV (n := 192) (C0 := RX3) (As := [.int (nI d)]) (rest := []) (K2 := kX3_expressionForm) dX3_oneForm_189 q2895 q2897 qs62 q113 q2898 ⟨rfl, hcX3_expressionForm⟩ rfl hT_181.1 (ih 5 h_181 b ms T N (a_159 + 1) d (by decide) hb hT_181 hS N_181 a_181 (by omega) ne_189) rfl (Nat.le_of_ble_eq_true rfl) ⟨by dsimp only [kX3_formulaForm, kX3_rowForm, kX3_sinceForm, kX3_oneForm, kX3_expressionForm, kX3_productForm, kX3_factorForm, kX3_bracesForm, kX3_sees, kX3_goes, kX3_takes, kX3_takesName, kX3_takesNumber, kX3_which, kX3_isName, kX3_boundsForm, kJ12_length, fK]; omega, by dsimp only [kX3_formulaForm, kX3_rowForm, kX3_sinceForm, kX3_oneForm, kX3_expressionForm, kX3_productForm, kX3_factorForm, kX3_bracesForm, kX3_sees, kX3_goes, kX3_takes, kX3_takesName, kX3_takesNumber, kX3_which, kX3_isName, kX3_boundsForm, kJ12_length, fK]; omega⟩ ⟨Nat.zero_le _, Nat.zero_le _⟩ (fun _ _ _ z => z.elim) rfl (fun r_189 h_189 q_189 => ?_)
                  obtain ⟨z_189, a_189, rfl, hT_189, hF_189, hz_189, fq_189⟩ := q_189
                  have W_189 : a_189 ≤ N ∧ a_189 ≤ 400 := by rw [fq_189.1]; exact V_189.2
                  have hG_189 := Fr.trans hG_181 hF_189
                  refine AW.sts (st' := [.int (bI z_189)]) rfl ?_
                  refine aw_if_eq (n := 195) (tgt := 199) dX3_oneForm_192 (by decide) rfl (fun c_192 => ?_) (fun c_192 => ?_)
                  · skip
                    have b_192 : z_189 = false := (bI_0 _).mp c_192
                    have f_189 : fQ T false a_189 _ := b_192 ▸ fq_189
                    have K_22 := (hS.1 a_189 W_189.1).2.1
                    refine aw_iconst (n := 200) (v := 0) dX3_oneForm_199 (by decide) rfl ?_
                    exact aw_zret dX3_oneForm_200 rfl (by decide) ⟨false, a_189, rfl, hT_189, hG_189, (by omega), (g_20.1 _ _ f_189)⟩ ⟨Nat.zero_le _, Nat.zero_le _⟩
                  · skip
                    have b_192 : z_189 = true := Bool.of_not_eq_false (fun e => c_192 ((bI_0 _).mpr e))
                    have f_189 : fQ T true a_189 _ := b_192 ▸ fq_189
                    have K_23 := (hS.1 a_189 W_189.1).2.1
                    refine aw_iconst (n := 196) (v := 1) dX3_oneForm_195 (by decide) rfl ?_
                    refine aw_goto (tgt := 200) dX3_oneForm_196 (by decide) ?_
                    exact aw_zret dX3_oneForm_200 rfl (by decide) ⟨true, a_189, rfl, hT_189, hG_189, (by omega), (g_20.1 _ _ f_189)⟩ ⟨Nat.zero_le _, Nat.zero_le _⟩
          · skip
            have b_134 : (seesB T a (sw 15)) = true := Bool.of_not_eq_false (fun e => c_134 ((bI_0 _).mpr e))
            refine aw_aload_n (n := 138) dX3_oneForm_137 rfl 1 rfl rfl ?_
            refine aw_callV (n := 141) (C0 := RX3) (As := []) (rest := []) (K2 := kX3_goes) dX3_oneForm_138 q2836 q2838 qs52 q113 q2839 ⟨rfl, hcX3_goes⟩ rfl hT.1 (ct_goes G h b (ats ms a) hb hT a rfl ha4) rfl (Nat.le_of_ble_eq_true rfl) ⟨by dsimp only [kX3_formulaForm, kX3_rowForm, kX3_sinceForm, kX3_oneForm, kX3_expressionForm, kX3_productForm, kX3_factorForm, kX3_bracesForm, kX3_sees, kX3_goes, kX3_takes, kX3_takesName, kX3_takesNumber, kX3_which, kX3_isName, kX3_boundsForm, kJ12_length, fK]; omega, by dsimp only [kX3_formulaForm, kX3_rowForm, kX3_sinceForm, kX3_oneForm, kX3_expressionForm, kX3_productForm, kX3_factorForm, kX3_bracesForm, kX3_sees, kX3_goes, kX3_takes, kX3_takesName, kX3_takesNumber, kX3_which, kX3_isName, kX3_boundsForm, kJ12_length, fK]; omega⟩ ⟨Nat.zero_le _, Nat.zero_le _⟩ (fun _ _ _ z => z.elim) rfl (fun r_138 h_138 q_138 => ?_)
            obtain ⟨rfl, hT_138, hF_138, hz_138⟩ := q_138
            refine AW.sts (st' := [.int (bI (a != 400))]) rfl ?_
            refine aw_if_eq (n := 144) (tgt := 155) dX3_oneForm_141 (by decide) rfl (fun c_141 => ?_) (fun c_141 => ?_)
            · skip
              have b_141 : (a != 400) = false := (bI_0 _).mp c_141
              have e_138 : a = 400 := by simpa using b_141
              have ne_138 : T.1 a ≠ 0 := by first | exact seesB_ne (by assumption) | exact isNm_ne (by assumption) | exact whT_lt (by assumption) | omega
              have hU_138 : TW b h_138 (ats ms a) := by rw [e_138, goM_400] at hT_138; rw [e_138]; exact hT_138
              have fq_138 : fQ T false a (qX T (f + 1) 4 d a) := by have z := g_11; rw [e_138] at z ne_138 ⊢; exact z.stay (by first | exact qPc_4 T _ _ | exact qLp_4 (gOr_4 T) _ | exact qLp_4 (gAnd_4 T) _ | exact qLp_4 (gSum_4 T) _ | exact qLp_4 (gPro_4 T) _ | simp [qb_0, qb_1, qb_4, qX_4, seesP_4, nmP_4, nuP_4, whP_4, qT_4, qNm_4, qNu_4, qBd_4, qBr_4, qBo, qI_f, gOr_4, gAnd_4, gSum_4, gPro_4, qLp_4]) ne_138
              refine aw_iconst (n := 156) (v := 0) dX3_oneForm_155 (by decide) rfl ?_
              exact aw_zret dX3_oneForm_156 rfl (by decide) ⟨false, a, rfl, hU_138, hF_138, (by omega), fq_138⟩ ⟨Nat.zero_le _, Nat.zero_le _⟩
            · skip
              have b_141 : (a != 400) = true := Bool.of_not_eq_false (fun e => c_141 ((bI_0 _).mpr e))
              have l_138 : a < 400 := by have z : a ≠ 400 := (by simpa using b_141); omega
              have ne_138 : T.1 a ≠ 0 := by first | exact seesB_ne (by assumption) | exact isNm_ne (by assumption) | exact whT_lt (by assumption) | omega
              rw [goM_lt (by omega), tS_tS] at hT_138
              have g_24 := fH.T g_11 (by first | assumption | simp [seesP, nmP, nuP, gOr, gAnd, gSum, gPro, c_14, w_14, b_64, b_111, b_120, b_134, l_138])
              try dsimp only at g_24
              have N_138 : a + 1 ≤ N := lt_end hS.2.1 hN ne_138
              have a_138 : a + 1 ≤ 400 := by omega
              have K_25 := (hS.1 (a + 1) N_138).2.1
              refine aw_aload_n (n := 145) dX3_oneForm_144 rfl 1 rfl rfl ?_
              refine aw_callV (n := 148) (C0 := RX3) (As := []) (rest := []) (K2 := kX3_takesName) dX3_oneForm_145 q2840 q2842 qs53 q113 q2843 ⟨rfl, hcX3_takesName⟩ rfl hT_138.1 (cf_takesName G h_138 b ms T N (a + 1) hb hT_138 hS N_138 a_138) rfl (Nat.le_of_ble_eq_true rfl) ⟨by dsimp only [kX3_formulaForm, kX3_rowForm, kX3_sinceForm, kX3_oneForm, kX3_expressionForm, kX3_productForm, kX3_factorForm, kX3_bracesForm, kX3_sees, kX3_goes, kX3_takes, kX3_takesName, kX3_takesNumber, kX3_which, kX3_isName, kX3_boundsForm, kJ12_length, fK]; omega, by dsimp only [kX3_formulaForm, kX3_rowForm, kX3_sinceForm, kX3_oneForm, kX3_expressionForm, kX3_productForm, kX3_factorForm, kX3_bracesForm, kX3_sees, kX3_goes, kX3_takes, kX3_takesName, kX3_takesNumber, kX3_which, kX3_isName, kX3_boundsForm, kJ12_length, fK]; omega⟩ ⟨Nat.zero_le _, Nat.zero_le _⟩ (fun _ _ _ z => z.elim) rfl (fun r_145 h_145 q_145 => ?_)
              obtain ⟨rfl, hT_145, hF_145, hz_145⟩ := q_145
              have hG_145 := Fr.trans hF_138 hF_145
              refine AW.sts (st' := [.int (bI (nmP T (a + 1)))]) rfl ?_
              refine aw_if_eq (n := 151) (tgt := 155) dX3_oneForm_148 (by decide) rfl (fun c_148 => ?_) (fun c_148 => ?_)
              · skip
                have b_148 : (nmP T (a + 1)) = false := (bI_0 _).mp c_148
                rw [if_neg (by rw [b_148]; decide)] at hT_145
                refine aw_iconst (n := 156) (v := 0) dX3_oneForm_155 (by decide) rfl ?_
                exact aw_zret dX3_oneForm_156 rfl (by decide) ⟨false, a + 1, rfl, hT_145, hG_145, (by omega), (fH.lF g_24 b_148)⟩ ⟨Nat.zero_le _, Nat.zero_le _⟩
              · skip
                have b_148 : (nmP T (a + 1)) = true := Bool.of_not_eq_false (fun e => c_148 ((bI_0 _).mpr e))
                rw [if_pos b_148] at hT_145
                have t_145 := nmP_lt b_148
                have N_145 : a + 1 + 1 ≤ N := lt_end hS.2.1 N_138 t_145.2
                have a_145 : a + 1 + 1 ≤ 400 := by omega
                have g_26 := fH.lT g_24 b_148
                try dsimp only at g_26
                have K_27 := (hS.1 ((a + 1) + 1) N_145).2.1
                refine aw_iconst (n := 152) (v := 1) dX3_oneForm_151 (by decide) rfl ?_
                refine aw_goto (tgt := 156) dX3_oneForm_152 (by decide) ?_
                exact aw_zret dX3_oneForm_156 rfl (by decide) ⟨true, (a + 1) + 1, rfl, hT_145, hG_145, (by omega), (fH.ok g_26)⟩ ⟨Nat.zero_le _, Nat.zero_le _⟩
        · skip
          have b_120 : (seesB T a (sw 17)) = true := Bool.of_not_eq_false (fun e => c_120 ((bI_0 _).mpr e))
          refine aw_aload_n (n := 124) dX3_oneForm_123 rfl 1 rfl rfl ?_
          refine aw_callV (n := 127) (C0 := RX3) (As := []) (rest := []) (K2 := kX3_goes) dX3_oneForm_124 q2836 q2838 qs52 q113 q2839 ⟨rfl, hcX3_goes⟩ rfl hT.1 (ct_goes G h b (ats ms a) hb hT a rfl ha4) rfl (Nat.le_of_ble_eq_true rfl) ⟨by dsimp only [kX3_formulaForm, kX3_rowForm, kX3_sinceForm, kX3_oneForm, kX3_expressionForm, kX3_productForm, kX3_factorForm, kX3_bracesForm, kX3_sees, kX3_goes, kX3_takes, kX3_takesName, kX3_takesNumber, kX3_which, kX3_isName, kX3_boundsForm, kJ12_length, fK]; omega, by dsimp only [kX3_formulaForm, kX3_rowForm, kX3_sinceForm, kX3_oneForm, kX3_expressionForm, kX3_productForm, kX3_factorForm, kX3_bracesForm, kX3_sees, kX3_goes, kX3_takes, kX3_takesName, kX3_takesNumber, kX3_which, kX3_isName, kX3_boundsForm, kJ12_length, fK]; omega⟩ ⟨Nat.zero_le _, Nat.zero_le _⟩ (fun _ _ _ z => z.elim) rfl (fun r_124 h_124 q_124 => ?_)
          obtain ⟨rfl, hT_124, hF_124, hz_124⟩ := q_124
          refine AW.sts (st' := [.int (bI (a != 400))]) rfl ?_
          rcases Bool.eq_false_or_eq_true (a != 400) with b_127 | b_127
          · skip
            refine AW.sts (st' := [.int 1]) (by rw [b_127]; rfl) ?_
            have l_124 : a < 400 := by have z : a ≠ 400 := (by simpa using b_127); omega
            have ne_124 : T.1 a ≠ 0 := by first | exact seesB_ne (by assumption) | exact isNm_ne (by assumption) | exact whT_lt (by assumption) | omega
            rw [goM_lt (by omega), tS_tS] at hT_124
            have g_28 := fH.T g_6 (by first | assumption | simp [seesP, nmP, nuP, gOr, gAnd, gSum, gPro, c_14, w_14, b_64, b_111, b_120, l_124])
            try dsimp only at g_28
            have N_124 : a + 1 ≤ N := lt_end hS.2.1 hN ne_124
            have a_124 : a + 1 ≤ 400 := by omega
            have K_29 := (hS.1 (a + 1) N_124).2.1
            exact aw_zret dX3_oneForm_127 rfl (by decide) ⟨true, a + 1, rfl, hT_124, hF_124, (by omega), (fH.ok g_28)⟩ ⟨Nat.zero_le _, Nat.zero_le _⟩
          · skip
            refine AW.sts (st' := [.int 0]) (by rw [b_127]; rfl) ?_
            have e_124 : a = 400 := by simpa using b_127
            have ne_124 : T.1 a ≠ 0 := by first | exact seesB_ne (by assumption) | exact isNm_ne (by assumption) | exact whT_lt (by assumption) | omega
            have hU_124 : TW b h_124 (ats ms a) := by rw [e_124, goM_400] at hT_124; rw [e_124]; exact hT_124
            have fq_124 : fQ T false a (qX T (f + 1) 4 d a) := by have z := g_6; rw [e_124] at z ne_124 ⊢; exact z.stay (by first | exact qPc_4 T _ _ | exact qLp_4 (gOr_4 T) _ | exact qLp_4 (gAnd_4 T) _ | exact qLp_4 (gSum_4 T) _ | exact qLp_4 (gPro_4 T) _ | simp [qb_0, qb_1, qb_4, qX_4, seesP_4, nmP_4, nuP_4, whP_4, qT_4, qNm_4, qNu_4, qBd_4, qBr_4, qBo, qI_f, gOr_4, gAnd_4, gSum_4, gPro_4, qLp_4]) ne_124
            exact aw_zret dX3_oneForm_127 rfl (by decide) ⟨false, a, rfl, hU_124, hF_124, (by omega), fq_124⟩ ⟨Nat.zero_le _, Nat.zero_le _⟩
    · skip
      have b_64 : (seesB T a (sw 49)) = true := Bool.of_not_eq_false (fun e => c_64 ((bI_0 _).mpr e))
      refine aw_iload_n (n := 68) dX3_oneForm_67 rfl 2 rfl rfl ?_
      refine aw_bipush (n := 70) (v := 10) dX3_oneForm_68 (by decide) rfl ?_
      refine aw_icmp_ge (n := 73) (tgt := 103) dX3_oneForm_70 (by decide) rfl (fun c_70 => ?_) (fun c_70 => ?_)
      · skip
        have n_70 : 10 ≤ d := (nI_leI (a := 10) (b := d) (by omega) (by omega)).mp (by rw [← ((by rfl) : (10 : Int32) = nI 10)]; exact c_70)
        have dd_70 : decide (d < 10) = false := by simp; omega
        have ne_70 : T.1 a ≠ 0 := by first | exact seesB_ne (by assumption) | exact isNm_ne (by assumption) | exact whT_lt (by assumption) | omega
        have fq_70 : fQ T false a (qX T (f + 1) 4 d a) := by
          rcases Nat.lt_or_ge a 400 with l9 | l9
          · exact fH.no (e := 0) (g_4.eq (by simp [qBo, whP, qb_0, qb_1, seesP, nmP, nuP, gOr, gAnd, gSum, gPro, l9, c_14, w_14, b_64, dd_70]))
          · have e9 : a = 400 := by omega
            have z9 := g_4
            rw [e9] at z9 ne_70 ⊢
            exact z9.stay (by first | exact qPc_4 T _ _ | exact qLp_4 (gOr_4 T) _ | exact qLp_4 (gAnd_4 T) _ | exact qLp_4 (gSum_4 T) _ | exact qLp_4 (gPro_4 T) _ | simp [qb_0, qb_1, qb_4, qX_4, seesP_4, nmP_4, nuP_4, whP_4, qT_4, qNm_4, qNu_4, qBd_4, qBr_4, qBo, qI_f, gOr_4, gAnd_4, gSum_4, gPro_4, qLp_4]) ne_70
        refine aw_iconst (n := 104) (v := 0) dX3_oneForm_103 (by decide) rfl ?_
        exact aw_zret dX3_oneForm_104 rfl (by decide) ⟨false, a, rfl, hT, Fr.rf, rfl, fq_70⟩ ⟨Nat.zero_le _, Nat.zero_le _⟩
      · skip
        have n_70 : ¬ (10 ≤ d) := fun z => c_70 (by have y := (nI_leI (a := 10) (b := d) (by omega) (by omega)).mpr z; rw [← ((by rfl) : (10 : Int32) = nI 10)] at y; exact y)
        have dd_70 : decide (d < 10) = true := by simp; omega
        refine aw_aload_n (n := 74) dX3_oneForm_73 rfl 1 rfl rfl ?_
        refine aw_callV (n := 77) (C0 := RX3) (As := []) (rest := []) (K2 := kX3_goes) dX3_oneForm_74 q2836 q2838 qs52 q113 q2839 ⟨rfl, hcX3_goes⟩ rfl hT.1 (ct_goes G h b (ats ms a) hb hT a rfl ha4) rfl (Nat.le_of_ble_eq_true rfl) ⟨by dsimp only [kX3_formulaForm, kX3_rowForm, kX3_sinceForm, kX3_oneForm, kX3_expressionForm, kX3_productForm, kX3_factorForm, kX3_bracesForm, kX3_sees, kX3_goes, kX3_takes, kX3_takesName, kX3_takesNumber, kX3_which, kX3_isName, kX3_boundsForm, kJ12_length, fK]; omega, by dsimp only [kX3_formulaForm, kX3_rowForm, kX3_sinceForm, kX3_oneForm, kX3_expressionForm, kX3_productForm, kX3_factorForm, kX3_bracesForm, kX3_sees, kX3_goes, kX3_takes, kX3_takesName, kX3_takesNumber, kX3_which, kX3_isName, kX3_boundsForm, kJ12_length, fK]; omega⟩ ⟨Nat.zero_le _, Nat.zero_le _⟩ (fun _ _ _ z => z.elim) rfl (fun r_74 h_74 q_74 => ?_)
        obtain ⟨rfl, hT_74, hF_74, hz_74⟩ := q_74
        refine AW.sts (st' := [.int (bI (a != 400))]) rfl ?_
        refine aw_if_eq (n := 80) (tgt := 103) dX3_oneForm_77 (by decide) rfl (fun c_77 => ?_) (fun c_77 => ?_)
        · skip
          have b_77 : (a != 400) = false := (bI_0 _).mp c_77
          have e_74 : a = 400 := by simpa using b_77
          have ne_74 : T.1 a ≠ 0 := by first | exact seesB_ne (by assumption) | exact isNm_ne (by assumption) | exact whT_lt (by assumption) | omega
          have hU_74 : TW b h_74 (ats ms a) := by rw [e_74, goM_400] at hT_74; rw [e_74]; exact hT_74
          have fq_74 : fQ T false a (qX T (f + 1) 4 d a) := by have z := g_4; rw [e_74] at z ne_74 ⊢; exact z.stay (by first | exact qPc_4 T _ _ | exact qLp_4 (gOr_4 T) _ | exact qLp_4 (gAnd_4 T) _ | exact qLp_4 (gSum_4 T) _ | exact qLp_4 (gPro_4 T) _ | simp [qb_0, qb_1, qb_4, qX_4, seesP_4, nmP_4, nuP_4, whP_4, qT_4, qNm_4, qNu_4, qBd_4, qBr_4, qBo, qI_f, gOr_4, gAnd_4, gSum_4, gPro_4, qLp_4]) ne_74
          refine aw_iconst (n := 104) (v := 0) dX3_oneForm_103 (by decide) rfl ?_
          exact aw_zret dX3_oneForm_104 rfl (by decide) ⟨false, a, rfl, hU_74, hF_74, (by omega), fq_74⟩ ⟨Nat.zero_le _, Nat.zero_le _⟩
        · skip
          have b_77 : (a != 400) = true := Bool.of_not_eq_false (fun e => c_77 ((bI_0 _).mpr e))
          have l_74 : a < 400 := by have z : a ≠ 400 := (by simpa using b_77); omega
          have ne_74 : T.1 a ≠ 0 := by first | exact seesB_ne (by assumption) | exact isNm_ne (by assumption) | exact whT_lt (by assumption) | omega
          rw [goM_lt (by omega), tS_tS] at hT_74
          have g_30 := fH.T g_4 (by first | assumption | simp [seesP, nmP, nuP, gOr, gAnd, gSum, gPro, c_14, w_14, b_64, dd_70, l_74])
          try dsimp only at g_30
          unfold qBo at g_30
          have g_31 := fH.bT g_30 (by first | assumption | simp [seesP, nmP, nuP, gOr, gAnd, gSum, gPro, c_14, w_14, b_64, dd_70, l_74])
          try dsimp only at g_31
          have N_74 : a + 1 ≤ N := lt_end hS.2.1 hN ne_74
          have a_74 : a + 1 ≤ 400 := by omega
          have K_32 := (hS.1 (a + 1) N_74).2.1
          refine aw_aload_n (n := 81) dX3_oneForm_80 rfl 1 rfl rfl ?_
          refine aw_iload_n (n := 82) dX3_oneForm_81 rfl 2 rfl rfl ?_
          refine aw_iconst (n := 83) (v := 1) dX3_oneForm_82 (by decide) rfl ?_
          refine aw_iadd (n := 84) dX3_oneForm_83 rfl ?_
          refine AW.sts (st' := [.int (nI (d + 1)), .ref b]) (by rw [show (nI d) + 1 = nI (d + 1) from (nI_1 _)]) ?_
          have ne_84 : (qX T f 0 (d + 1) (a + 1)).1 ≠ 99 := fH.nb g_31 hne
          have V_84 : qW T N (a + 1) (qX T f 0 (d + 1) (a + 1)) := qX_W hS.2.1 f 0 _ _ N_74 a_74
          refine aw_callV (n := 87) (C0 := RX3) (As := [.int (nI (d + 1))]) (rest := []) (K2 := kX3_formulaForm) dX3_oneForm_84 q2863 q2865 qs57 q113 q2866 ⟨rfl, hcX3_formulaForm⟩ rfl hT_74.1 (ih 0 h_74 b ms T N (a + 1) (d + 1) (by decide) hb hT_74 hS N_74 a_74 (by omega) ne_84) rfl (Nat.le_of_ble_eq_true rfl) ⟨by dsimp only [kX3_formulaForm, kX3_rowForm, kX3_sinceForm, kX3_oneForm, kX3_expressionForm, kX3_productForm, kX3_factorForm, kX3_bracesForm, kX3_sees, kX3_goes, kX3_takes, kX3_takesName, kX3_takesNumber, kX3_which, kX3_isName, kX3_boundsForm, kJ12_length, fK]; omega, by dsimp only [kX3_formulaForm, kX3_rowForm, kX3_sinceForm, kX3_oneForm, kX3_expressionForm, kX3_productForm, kX3_factorForm, kX3_bracesForm, kX3_sees, kX3_goes, kX3_takes, kX3_takesName, kX3_takesNumber, kX3_which, kX3_isName, kX3_boundsForm, kJ12_length, fK]; omega⟩ ⟨Nat.zero_le _, Nat.zero_le _⟩ (fun _ _ _ z => z.elim) rfl (fun r_84 h_84 q_84 => ?_)
          obtain ⟨z_84, a_84, rfl, hT_84, hF_84, hz_84, fq_84⟩ := q_84
          have W_84 : a_84 ≤ N ∧ a_84 ≤ 400 := by rw [fq_84.1]; exact V_84.2
          have hG_84 := Fr.trans hF_74 hF_84
          refine AW.sts (st' := [.int (bI z_84)]) rfl ?_
          refine aw_if_eq (n := 90) (tgt := 103) dX3_oneForm_87 (by decide) rfl (fun c_87 => ?_) (fun c_87 => ?_)
          · skip
            have b_87 : z_84 = false := (bI_0 _).mp c_87
            have f_84 : fQ T false a_84 _ := b_87 ▸ fq_84
            have K_33 := (hS.1 a_84 W_84.1).2.1
            refine aw_iconst (n := 104) (v := 0) dX3_oneForm_103 (by decide) rfl ?_
            exact aw_zret dX3_oneForm_104 rfl (by decide) ⟨false, a_84, rfl, hT_84, hG_84, (by omega), (fH.fail g_31 f_84 (by first | exact qPc_4 T _ _ | exact qLp_4 (gOr_4 T) _ | exact qLp_4 (gAnd_4 T) _ | exact qLp_4 (gSum_4 T) _ | exact qLp_4 (gPro_4 T) _ | simp [qb_0, qb_1, qb_4, qX_4, seesP_4, nmP_4, nuP_4, whP_4, qT_4, qNm_4, qNu_4, qBd_4, qBr_4, qBo, qI_f, gOr_4, gAnd_4, gSum_4, gPro_4, qLp_4]))⟩ ⟨Nat.zero_le _, Nat.zero_le _⟩
          · skip
            have b_87 : z_84 = true := Bool.of_not_eq_false (fun e => c_87 ((bI_0 _).mpr e))
            have f_84 : fQ T true a_84 _ := b_87 ▸ fq_84
            have g_34 := fH.step g_31 f_84
            try dsimp only at g_34
            have K_35 := (hS.1 a_84 W_84.1).2.1
            refine aw_aload_n (n := 91) dX3_oneForm_90 rfl 1 rfl rfl ?_
            refine aw_ldcS (n := 93) (q := 50) dX3_oneForm_91 109 rfl rfl ?_
            refine aw_know (fun gd_35 hi_35 => ?_)
            refine aw_callV (n := 96) (C0 := RX3) (As := [.ref (gT G 50)]) (rest := []) (K2 := kX3_takes) dX3_oneForm_93 q2822 q2824 qs49 q113 q2825 ⟨rfl, hcX3_takes⟩ rfl hT_84.1 (cf_takes G h_84 b ms T N a_84 hb hT_84 hS W_84.1 W_84.2 _ (sw 50) (str_at gd_35 hi_35 (i := 50) rfl) (lo_at (i := 50) rfl)) rfl (Nat.le_of_ble_eq_true rfl) ⟨by dsimp only [kX3_formulaForm, kX3_rowForm, kX3_sinceForm, kX3_oneForm, kX3_expressionForm, kX3_productForm, kX3_factorForm, kX3_bracesForm, kX3_sees, kX3_goes, kX3_takes, kX3_takesName, kX3_takesNumber, kX3_which, kX3_isName, kX3_boundsForm, kJ12_length, fK]; omega, by dsimp only [kX3_formulaForm, kX3_rowForm, kX3_sinceForm, kX3_oneForm, kX3_expressionForm, kX3_productForm, kX3_factorForm, kX3_bracesForm, kX3_sees, kX3_goes, kX3_takes, kX3_takesName, kX3_takesNumber, kX3_which, kX3_isName, kX3_boundsForm, kJ12_length, fK]; omega⟩ ⟨Nat.zero_le _, Nat.zero_le _⟩ (fun _ _ _ z => z.elim) rfl (fun r_93 h_93 q_93 => ?_)
            obtain ⟨rfl, hT_93, hF_93, hz_93⟩ := q_93
            have hG_93 := Fr.trans hG_84 hF_93
            refine AW.sts (st' := [.int (bI (seesP T a_84 (sw 50)))]) rfl ?_
            refine aw_if_eq (n := 99) (tgt := 103) dX3_oneForm_96 (by decide) rfl (fun c_96 => ?_) (fun c_96 => ?_)
            · skip
              have b_96 : (seesP T a_84 (sw 50)) = false := (bI_0 _).mp c_96
              rw [if_neg (by rw [b_96]; decide)] at hT_93
              refine aw_iconst (n := 104) (v := 0) dX3_oneForm_103 (by decide) rfl ?_
              exact aw_zret dX3_oneForm_104 rfl (by decide) ⟨false, a_84, rfl, hT_93, hG_93, (by omega), (fH.lF g_34 b_96)⟩ ⟨Nat.zero_le _, Nat.zero_le _⟩
            · skip
              have b_96 : (seesP T a_84 (sw 50)) = true := Bool.of_not_eq_false (fun e => c_96 ((bI_0 _).mpr e))
              rw [if_pos b_96] at hT_93
              have t_93 := seesP_lt b_96
              have N_93 : a_84 + 1 ≤ N := lt_end hS.2.1 W_84.1 t_93.2
              have a_93 : a_84 + 1 ≤ 400 := by omega
              have g_37 := fH.lT g_34 b_96
              try dsimp only at g_37
              have K_38 := (hS.1 (a_84 + 1) N_93).2.1
              refine aw_iconst (n := 100) (v := 1) dX3_oneForm_99 (by decide) rfl ?_
              refine aw_goto (tgt := 104) dX3_oneForm_100 (by decide) ?_
              exact aw_zret dX3_oneForm_104 rfl (by decide) ⟨true, a_84 + 1, rfl, hT_93, hG_93, (by omega), (fH.ok g_37)⟩ ⟨Nat.zero_le _, Nat.zero_le _⟩
  · skip
    have v_14 : (whT T a (wlW 3) != -1) = true := bne_iff_ne.mpr c_14
    refine aw_iload_n (n := 18) dX3_oneForm_17 rfl 2 rfl rfl ?_
    refine aw_bipush (n := 20) (v := 10) dX3_oneForm_18 (by decide) rfl ?_
    refine aw_icmp_ge (n := 23) (tgt := 56) dX3_oneForm_20 (by decide) rfl (fun c_20 => ?_) (fun c_20 => ?_)
    · skip
      have n_20 : 10 ≤ d := (nI_leI (a := 10) (b := d) (by omega) (by omega)).mp (by rw [← ((by rfl) : (10 : Int32) = nI 10)]; exact c_20)
      have dd_20 : decide (d < 10) = false := by simp; omega
      have ne_20 : T.1 a ≠ 0 := by first | exact seesB_ne (by assumption) | exact isNm_ne (by assumption) | exact whT_lt (by assumption) | omega
      have fq_20 : fQ T false a (qX T (f + 1) 4 d a) := by
        rcases Nat.lt_or_ge a 400 with l9 | l9
        · exact fH.no (e := 0) (hg0.eq (by simp [qBo, whP, qb_0, qb_1, seesP, nmP, nuP, gOr, gAnd, gSum, gPro, l9, c_14, v_14, dd_20]))
        · have e9 : a = 400 := by omega
          have z9 := hg0
          rw [e9] at z9 ne_20 ⊢
          exact z9.stay (by first | exact qPc_4 T _ _ | exact qLp_4 (gOr_4 T) _ | exact qLp_4 (gAnd_4 T) _ | exact qLp_4 (gSum_4 T) _ | exact qLp_4 (gPro_4 T) _ | simp [qb_0, qb_1, qb_4, qX_4, seesP_4, nmP_4, nuP_4, whP_4, qT_4, qNm_4, qNu_4, qBd_4, qBr_4, qBo, qI_f, gOr_4, gAnd_4, gSum_4, gPro_4, qLp_4]) ne_20
      refine aw_iconst (n := 57) (v := 0) dX3_oneForm_56 (by decide) rfl ?_
      exact aw_zret dX3_oneForm_57 rfl (by decide) ⟨false, a, rfl, hT, Fr.rf, rfl, fq_20⟩ ⟨Nat.zero_le _, Nat.zero_le _⟩
    · skip
      have n_20 : ¬ (10 ≤ d) := fun z => c_20 (by have y := (nI_leI (a := 10) (b := d) (by omega) (by omega)).mpr z; rw [← ((by rfl) : (10 : Int32) = nI 10)] at y; exact y)
      have dd_20 : decide (d < 10) = true := by simp; omega
      refine aw_aload_n (n := 24) dX3_oneForm_23 rfl 1 rfl rfl ?_
      refine aw_callV (n := 27) (C0 := RX3) (As := []) (rest := []) (K2 := kX3_goes) dX3_oneForm_24 q2836 q2838 qs52 q113 q2839 ⟨rfl, hcX3_goes⟩ rfl hT.1 (ct_goes G h b (ats ms a) hb hT a rfl ha4) rfl (Nat.le_of_ble_eq_true rfl) ⟨by dsimp only [kX3_formulaForm, kX3_rowForm, kX3_sinceForm, kX3_oneForm, kX3_expressionForm, kX3_productForm, kX3_factorForm, kX3_bracesForm, kX3_sees, kX3_goes, kX3_takes, kX3_takesName, kX3_takesNumber, kX3_which, kX3_isName, kX3_boundsForm, kJ12_length, fK]; omega, by dsimp only [kX3_formulaForm, kX3_rowForm, kX3_sinceForm, kX3_oneForm, kX3_expressionForm, kX3_productForm, kX3_factorForm, kX3_bracesForm, kX3_sees, kX3_goes, kX3_takes, kX3_takesName, kX3_takesNumber, kX3_which, kX3_isName, kX3_boundsForm, kJ12_length, fK]; omega⟩ ⟨Nat.zero_le _, Nat.zero_le _⟩ (fun _ _ _ z => z.elim) rfl (fun r_24 h_24 q_24 => ?_)
      obtain ⟨rfl, hT_24, hF_24, hz_24⟩ := q_24
      refine AW.sts (st' := [.int (bI (a != 400))]) rfl ?_
      refine aw_if_eq (n := 30) (tgt := 56) dX3_oneForm_27 (by decide) rfl (fun c_27 => ?_) (fun c_27 => ?_)
      · skip
        have b_27 : (a != 400) = false := (bI_0 _).mp c_27
        have e_24 : a = 400 := by simpa using b_27
        have ne_24 : T.1 a ≠ 0 := by first | exact seesB_ne (by assumption) | exact isNm_ne (by assumption) | exact whT_lt (by assumption) | omega
        have hU_24 : TW b h_24 (ats ms a) := by rw [e_24, goM_400] at hT_24; rw [e_24]; exact hT_24
        have fq_24 : fQ T false a (qX T (f + 1) 4 d a) := by have z := hg0; rw [e_24] at z ne_24 ⊢; exact z.stay (by first | exact qPc_4 T _ _ | exact qLp_4 (gOr_4 T) _ | exact qLp_4 (gAnd_4 T) _ | exact qLp_4 (gSum_4 T) _ | exact qLp_4 (gPro_4 T) _ | simp [qb_0, qb_1, qb_4, qX_4, seesP_4, nmP_4, nuP_4, whP_4, qT_4, qNm_4, qNu_4, qBd_4, qBr_4, qBo, qI_f, gOr_4, gAnd_4, gSum_4, gPro_4, qLp_4]) ne_24
        refine aw_iconst (n := 57) (v := 0) dX3_oneForm_56 (by decide) rfl ?_
        exact aw_zret dX3_oneForm_57 rfl (by decide) ⟨false, a, rfl, hU_24, hF_24, (by omega), fq_24⟩ ⟨Nat.zero_le _, Nat.zero_le _⟩
      · skip
        have b_27 : (a != 400) = true := Bool.of_not_eq_false (fun e => c_27 ((bI_0 _).mpr e))
        have l_24 : a < 400 := by have z : a ≠ 400 := (by simpa using b_27); omega
        have ne_24 : T.1 a ≠ 0 := by first | exact seesB_ne (by assumption) | exact isNm_ne (by assumption) | exact whT_lt (by assumption) | omega
        rw [goM_lt (by omega), tS_tS] at hT_24
        have w_24 : (whP T a 3 != -1) = true := by rw [wh_at l_24]; exact v_14
        have g_39 := fH.T hg0 (by first | assumption | simp [seesP, nmP, nuP, gOr, gAnd, gSum, gPro, c_14, v_14, dd_20, l_24, w_24])
        try dsimp only at g_39
        have g_40 := fH.T g_39 (by first | assumption | simp [seesP, nmP, nuP, gOr, gAnd, gSum, gPro, c_14, v_14, dd_20, l_24, w_24])
        try dsimp only at g_40
        have N_24 : a + 1 ≤ N := lt_end hS.2.1 hN ne_24
        have a_24 : a + 1 ≤ 400 := by omega
        have K_41 := (hS.1 (a + 1) N_24).2.1
        refine aw_iload_n (n := 31) dX3_oneForm_30 rfl 0 rfl rfl ?_
        refine aw_iconst (n := 32) (v := 4) dX3_oneForm_31 (by decide) rfl ?_
        refine aw_icmp_lt (n := 35) (tgt := 42) dX3_oneForm_32 (by decide) rfl (fun c_32 => ?_) (fun c_32 => ?_)
        · skip
          have w4_32 : decide (whP T a 3 < 4) = true := by rw [wh_at (by omega)]; simp [c_32]
          have g_42 := fH.bT g_40 (by first | assumption | simp [seesP, nmP, nuP, gOr, gAnd, gSum, gPro, w4_32])
          try dsimp only at g_42
          have g_43 := fH.b0 g_42
          try dsimp only at g_43
          refine aw_aload_n (n := 43) dX3_oneForm_42 rfl 1 rfl rfl ?_
          refine aw_iload_n (n := 44) dX3_oneForm_43 rfl 2 rfl rfl ?_
          refine aw_iconst (n := 45) (v := 1) dX3_oneForm_44 (by decide) rfl ?_
          refine aw_iadd (n := 46) dX3_oneForm_45 rfl ?_
          refine AW.sts (st' := [.int (nI (d + 1)), .ref b]) (by rw [show (nI d) + 1 = nI (d + 1) from (nI_1 _)]) ?_
          have ne_46 : (qX T f 4 (d + 1) (a + 1)).1 ≠ 99 := fH.nt g_43 hne
          have V_46 : qW T N (a + 1) (qX T f 4 (d + 1) (a + 1)) := qX_W hS.2.1 f 4 _ _ N_24 a_24
          refine aw_callV (n := 49) (C0 := RX3) (As := [.int (nI (d + 1))]) (rest := []) (K2 := kX3_oneForm) dX3_oneForm_46 q2877 q2879 qs60 q113 q2880 ⟨rfl, hcX3_oneForm⟩ rfl hT_24.1 (ih 4 h_24 b ms T N (a + 1) (d + 1) (by decide) hb hT_24 hS N_24 a_24 (by omega) ne_46) rfl (Nat.le_of_ble_eq_true rfl) ⟨by dsimp only [kX3_formulaForm, kX3_rowForm, kX3_sinceForm, kX3_oneForm, kX3_expressionForm, kX3_productForm, kX3_factorForm, kX3_bracesForm, kX3_sees, kX3_goes, kX3_takes, kX3_takesName, kX3_takesNumber, kX3_which, kX3_isName, kX3_boundsForm, kJ12_length, fK]; omega, by dsimp only [kX3_formulaForm, kX3_rowForm, kX3_sinceForm, kX3_oneForm, kX3_expressionForm, kX3_productForm, kX3_factorForm, kX3_bracesForm, kX3_sees, kX3_goes, kX3_takes, kX3_takesName, kX3_takesNumber, kX3_which, kX3_isName, kX3_boundsForm, kJ12_length, fK]; omega⟩ ⟨Nat.zero_le _, Nat.zero_le _⟩ (fun _ _ _ z => z.elim) rfl (fun r_46 h_46 q_46 => ?_)
          obtain ⟨z_46, a_46, rfl, hT_46, hF_46, hz_46, fq_46⟩ := q_46
          have W_46 : a_46 ≤ N ∧ a_46 ≤ 400 := by rw [fq_46.1]; exact V_46.2
          have hG_46 := Fr.trans hF_24 hF_46
          refine AW.sts (st' := [.int (bI z_46)]) rfl ?_
          refine aw_if_eq (n := 52) (tgt := 56) dX3_oneForm_49 (by decide) rfl (fun c_49 => ?_) (fun c_49 => ?_)
          · skip
            have b_49 : z_46 = false := (bI_0 _).mp c_49
            have f_46 : fQ T false a_46 _ := b_49 ▸ fq_46
            have K_44 := (hS.1 a_46 W_46.1).2.1
            refine aw_iconst (n := 57) (v := 0) dX3_oneForm_56 (by decide) rfl ?_
            exact aw_zret dX3_oneForm_57 rfl (by decide) ⟨false, a_46, rfl, hT_46, hG_46, (by omega), (g_43.1 _ _ f_46)⟩ ⟨Nat.zero_le _, Nat.zero_le _⟩
          · skip
            have b_49 : z_46 = true := Bool.of_not_eq_false (fun e => c_49 ((bI_0 _).mpr e))
            have f_46 : fQ T true a_46 _ := b_49 ▸ fq_46
            have K_45 := (hS.1 a_46 W_46.1).2.1
            refine aw_iconst (n := 53) (v := 1) dX3_oneForm_52 (by decide) rfl ?_
            refine aw_goto (tgt := 57) dX3_oneForm_53 (by decide) ?_
            exact aw_zret dX3_oneForm_57 rfl (by decide) ⟨true, a_46, rfl, hT_46, hG_46, (by omega), (g_43.1 _ _ f_46)⟩ ⟨Nat.zero_le _, Nat.zero_le _⟩
        · skip
          have w4_32 : decide (whP T a 3 < 4) = false := by rw [wh_at (by omega)]; exact decide_eq_false c_32
          have g_46 := fH.bF g_40 (by first | assumption | simp [seesP, nmP, nuP, gOr, gAnd, gSum, gPro, w4_32])
          try dsimp only at g_46
          refine aw_aload_n (n := 36) dX3_oneForm_35 rfl 1 rfl rfl ?_
          have V_36 : qW T N (a + 1) (qBd T (a + 1)) := qBd_W hS.2.1 N_24 a_24
          refine aw_callV (n := 39) (C0 := RX3) (As := []) (rest := []) (K2 := kX3_boundsForm) dX3_oneForm_36 q2883 q2885 qs61 q113 q2886 ⟨rfl, hcX3_boundsForm⟩ rfl hT_24.1 (cf_bounds G h_24 b ms T N (a + 1) hb hT_24 hS N_24 a_24) rfl (Nat.le_of_ble_eq_true rfl) ⟨by dsimp only [kX3_formulaForm, kX3_rowForm, kX3_sinceForm, kX3_oneForm, kX3_expressionForm, kX3_productForm, kX3_factorForm, kX3_bracesForm, kX3_sees, kX3_goes, kX3_takes, kX3_takesName, kX3_takesNumber, kX3_which, kX3_isName, kX3_boundsForm, kJ12_length, fK]; omega, by dsimp only [kX3_formulaForm, kX3_rowForm, kX3_sinceForm, kX3_oneForm, kX3_expressionForm, kX3_productForm, kX3_factorForm, kX3_bracesForm, kX3_sees, kX3_goes, kX3_takes, kX3_takesName, kX3_takesNumber, kX3_which, kX3_isName, kX3_boundsForm, kJ12_length, fK]; omega⟩ ⟨Nat.zero_le _, Nat.zero_le _⟩ (fun _ _ _ z => z.elim) rfl (fun r_36 h_36 q_36 => ?_)
          obtain ⟨z_36, a_36, rfl, hT_36, hF_36, hz_36, fq_36⟩ := q_36
          have W_36 : a_36 ≤ N ∧ a_36 ≤ 400 := by rw [fq_36.1]; exact V_36.2
          have hG_36 := Fr.trans hF_24 hF_36
          refine AW.sts (st' := [.int (bI z_36)]) rfl ?_
          refine aw_if_eq (n := 42) (tgt := 56) dX3_oneForm_39 (by decide) rfl (fun c_39 => ?_) (fun c_39 => ?_)
          · skip
            have b_39 : z_36 = false := (bI_0 _).mp c_39
            have f_36 : fQ T false a_36 _ := b_39 ▸ fq_36
            have K_47 := (hS.1 a_36 W_36.1).2.1
            refine aw_iconst (n := 57) (v := 0) dX3_oneForm_56 (by decide) rfl ?_
            exact aw_zret dX3_oneForm_57 rfl (by decide) ⟨false, a_36, rfl, hT_36, hG_36, (by omega), (fH.fail g_46 f_36 (by first | exact qPc_4 T _ _ | exact qLp_4 (gOr_4 T) _ | exact qLp_4 (gAnd_4 T) _ | exact qLp_4 (gSum_4 T) _ | exact qLp_4 (gPro_4 T) _ | simp [qb_0, qb_1, qb_4, qX_4, seesP_4, nmP_4, nuP_4, whP_4, qT_4, qNm_4, qNu_4, qBd_4, qBr_4, qBo, qI_f, gOr_4, gAnd_4, gSum_4, gPro_4, qLp_4]))⟩ ⟨Nat.zero_le _, Nat.zero_le _⟩
          · skip
            have b_39 : z_36 = true := Bool.of_not_eq_false (fun e => c_39 ((bI_0 _).mpr e))
            have f_36 : fQ T true a_36 _ := b_39 ▸ fq_36
            have g_48 := fH.step g_46 f_36
            try dsimp only at g_48
            have K_49 := (hS.1 a_36 W_36.1).2.1
            refine aw_aload_n (n := 43) dX3_oneForm_42 rfl 1 rfl rfl ?_
            refine aw_iload_n (n := 44) dX3_oneForm_43 rfl 2 rfl rfl ?_
            refine aw_iconst (n := 45) (v := 1) dX3_oneForm_44 (by decide) rfl ?_
            refine aw_iadd (n := 46) dX3_oneForm_45 rfl ?_
            refine AW.sts (st' := [.int (nI (d + 1)), .ref b]) (by rw [show (nI d) + 1 = nI (d + 1) from (nI_1 _)]) ?_
            have ne_46 : (qX T f 4 (d + 1) a_36).1 ≠ 99 := fH.nt g_48 hne
            have V_46 : qW T N a_36 (qX T f 4 (d + 1) a_36) := qX_W hS.2.1 f 4 _ _ W_36.1 W_36.2
            refine aw_callV (n := 49) (C0 := RX3) (As := [.int (nI (d + 1))]) (rest := []) (K2 := kX3_oneForm) dX3_oneForm_46 q2877 q2879 qs60 q113 q2880 ⟨rfl, hcX3_oneForm⟩ rfl hT_36.1 (ih 4 h_36 b ms T N a_36 (d + 1) (by decide) hb hT_36 hS W_36.1 W_36.2 (by omega) ne_46) rfl (Nat.le_of_ble_eq_true rfl) ⟨by dsimp only [kX3_formulaForm, kX3_rowForm, kX3_sinceForm, kX3_oneForm, kX3_expressionForm, kX3_productForm, kX3_factorForm, kX3_bracesForm, kX3_sees, kX3_goes, kX3_takes, kX3_takesName, kX3_takesNumber, kX3_which, kX3_isName, kX3_boundsForm, kJ12_length, fK]; omega, by dsimp only [kX3_formulaForm, kX3_rowForm, kX3_sinceForm, kX3_oneForm, kX3_expressionForm, kX3_productForm, kX3_factorForm, kX3_bracesForm, kX3_sees, kX3_goes, kX3_takes, kX3_takesName, kX3_takesNumber, kX3_which, kX3_isName, kX3_boundsForm, kJ12_length, fK]; omega⟩ ⟨Nat.zero_le _, Nat.zero_le _⟩ (fun _ _ _ z => z.elim) rfl (fun r_46 h_46 q_46 => ?_)
            obtain ⟨z_46, a_46, rfl, hT_46, hF_46, hz_46, fq_46⟩ := q_46
            have W_46 : a_46 ≤ N ∧ a_46 ≤ 400 := by rw [fq_46.1]; exact V_46.2
            have hG_46 := Fr.trans hG_36 hF_46
            refine AW.sts (st' := [.int (bI z_46)]) rfl ?_
            refine aw_if_eq (n := 52) (tgt := 56) dX3_oneForm_49 (by decide) rfl (fun c_49_2 => ?_) (fun c_49_2 => ?_)
            · skip
              have b_49_2 : z_46 = false := (bI_0 _).mp c_49_2
              have f_46 : fQ T false a_46 _ := b_49_2 ▸ fq_46
              have K_50 := (hS.1 a_46 W_46.1).2.1
              refine aw_iconst (n := 57) (v := 0) dX3_oneForm_56 (by decide) rfl ?_
              exact aw_zret dX3_oneForm_57 rfl (by decide) ⟨false, a_46, rfl, hT_46, hG_46, (by omega), (g_48.1 _ _ f_46)⟩ ⟨Nat.zero_le _, Nat.zero_le _⟩
            · skip
              have b_49_2 : z_46 = true := Bool.of_not_eq_false (fun e => c_49_2 ((bI_0 _).mpr e))
              have f_46 : fQ T true a_46 _ := b_49_2 ▸ fq_46
              have K_51 := (hS.1 a_46 W_46.1).2.1
              refine aw_iconst (n := 53) (v := 1) dX3_oneForm_52 (by decide) rfl ?_
              refine aw_goto (tgt := 57) dX3_oneForm_53 (by decide) ?_
              exact aw_zret dX3_oneForm_57 rfl (by decide) ⟨true, a_46, rfl, hT_46, hG_46, (by omega), (g_48.1 _ _ f_46)⟩ ⟨Nat.zero_le _, Nat.zero_le _⟩

theorem cf_nt7 (G : aG) (h : hH)  (b : Nat) (ms : tM) (T : Tv) (N a : Nat) (hb : gB G ≤ b) (hT : TW b h (ats ms a)) (hS : tkS ms T N) (hN : a ≤ N) (ha4 : a ≤ 400) (f d : Nat) (hd : d ≤ 10) (hne : (qX T (f + 1) 7 d a).1 ≠ 99) (ih : fAll G f) : Con G kX3_factorForm [.ref b, .int (nI d)] h ((14 + 2 * (f + 1), 500 + 100 * (f + 1), 0, 0), (fun r h1 => ∃ (z : Bool) (a9 : Nat), r = some (.int (bI z)) ∧ TW b h1 (ats ms a9) ∧ Fr (TS b) h h1 ∧ h1.1 = h.1 ∧ fQ T z a9 (qX T (f + 1) 7 d a)), nX) := by
  refine Con.of (plainFor_of_name rfl) rfl (Nat.le_of_ble_eq_true rfl) ?_
  refine AW.eq (lv2 := [(0, .ref b), (1, .int (nI d))]) (s2 := []) rfl rfl rfl rfl rfl ?_
  have hg0 : fH T (qB7 T (qX T f) d a) (qX T (f + 1) 7 d a) := fH.rf
  unfold qB7 at hg0
  have K_1 := (hS.1 a hN).2.1
  refine aw_aload_n (n := 1) dX3_factorForm_0 rfl 0 rfl rfl ?_
  refine aw_getf (n := 4) (v := .ref (b + 2)) (C0 := RX3) (T := TX3) dX3_factorForm_1 rfl 4 q2645 (Or.inl rfl) hT.1 rfl rfl ?_
  refine aw_aload_n (n := 5) dX3_factorForm_4 rfl 0 rfl rfl ?_
  refine aw_getf (n := 8) (v := .int (nI a)) (C0 := RX3) (T := TX3) dX3_factorForm_5 rfl 7 q2648 (Or.inl rfl) hT.1 (congrArg some (congrArg Value.int rfl)) rfl ?_
  refine aw_iald (n := 9) (v := .int ((ats ms a).2.1 4 a)) dX3_factorForm_8 rfl a rfl hT.a4 (by omega) (by decide) rfl rfl ?_
  refine aw_iconst (n := 10) (v := 2) dX3_factorForm_9 (by decide) rfl ?_
  refine aw_icmp_eq (n := 13) (tgt := 44) dX3_factorForm_10 (by decide) rfl (fun c_10 => ?_) (fun c_10 => ?_)
  · skip
    have n_10 : (T.1 a) = 2 := (nI_eq (a := (T.1 a)) (b := 2) (by omega) (by omega)).mp (by rw [← ((hS.1 a hN).2.2.1 : ((ats ms a).2.1 4 a) = nI (T.1 a)), ← ((by rfl) : (2 : Int32) = nI 2)]; exact c_10)
    refine aw_aload_n (n := 45) dX3_factorForm_44 rfl 0 rfl rfl ?_
    refine aw_callV (n := 48) (C0 := RX3) (As := []) (rest := []) (K2 := kX3_goes) dX3_factorForm_45 q2836 q2838 qs52 q113 q2839 ⟨rfl, hcX3_goes⟩ rfl hT.1 (ct_goes G h b (ats ms a) hb hT a rfl ha4) rfl (Nat.le_of_ble_eq_true rfl) ⟨by dsimp only [kX3_formulaForm, kX3_rowForm, kX3_sinceForm, kX3_oneForm, kX3_expressionForm, kX3_productForm, kX3_factorForm, kX3_bracesForm, kX3_sees, kX3_goes, kX3_takes, kX3_takesName, kX3_takesNumber, kX3_which, kX3_isName, kX3_boundsForm, kJ12_length, fK]; omega, by dsimp only [kX3_formulaForm, kX3_rowForm, kX3_sinceForm, kX3_oneForm, kX3_expressionForm, kX3_productForm, kX3_factorForm, kX3_bracesForm, kX3_sees, kX3_goes, kX3_takes, kX3_takesName, kX3_takesNumber, kX3_which, kX3_isName, kX3_boundsForm, kJ12_length, fK]; omega⟩ ⟨Nat.zero_le _, Nat.zero_le _⟩ (fun _ _ _ z => z.elim) rfl (fun r_45 h_45 q_45 => ?_)
    obtain ⟨rfl, hT_45, hF_45, hz_45⟩ := q_45
    refine AW.sts (st' := [.int (bI (a != 400))]) rfl ?_
    rcases Bool.eq_false_or_eq_true (a != 400) with b_48 | b_48
    · skip
      refine AW.sts (st' := [.int 1]) (by rw [b_48]; rfl) ?_
      have l_45 : a < 400 := by have z : a ≠ 400 := (by simpa using b_48); omega
      have ne_45 : T.1 a ≠ 0 := by first | exact seesB_ne (by assumption) | exact isNm_ne (by assumption) | exact whT_lt (by assumption) | omega
      rw [goM_lt (by omega), tS_tS] at hT_45
      have g_2 := fH.T hg0 (by first | assumption | simp [seesP, nmP, nuP, gOr, gAnd, gSum, gPro, n_10, l_45])
      try dsimp only at g_2
      have N_45 : a + 1 ≤ N := lt_end hS.2.1 hN ne_45
      have a_45 : a + 1 ≤ 400 := by omega
      have K_3 := (hS.1 (a + 1) N_45).2.1
      exact aw_zret dX3_factorForm_48 rfl (by decide) ⟨true, a + 1, rfl, hT_45, hF_45, (by omega), (fH.ok g_2)⟩ ⟨Nat.zero_le _, Nat.zero_le _⟩
    · skip
      refine AW.sts (st' := [.int 0]) (by rw [b_48]; rfl) ?_
      have e_45 : a = 400 := by simpa using b_48
      have ne_45 : T.1 a ≠ 0 := by first | exact seesB_ne (by assumption) | exact isNm_ne (by assumption) | exact whT_lt (by assumption) | omega
      have hU_45 : TW b h_45 (ats ms a) := by rw [e_45, goM_400] at hT_45; rw [e_45]; exact hT_45
      have fq_45 : fQ T false a (qX T (f + 1) 7 d a) := by have z := hg0; rw [e_45] at z ne_45 ⊢; exact z.stay (by first | exact qPc_4 T _ _ | exact qLp_4 (gOr_4 T) _ | exact qLp_4 (gAnd_4 T) _ | exact qLp_4 (gSum_4 T) _ | exact qLp_4 (gPro_4 T) _ | simp [qb_0, qb_1, qb_4, qX_4, seesP_4, nmP_4, nuP_4, whP_4, qT_4, qNm_4, qNu_4, qBd_4, qBr_4, qBo, qI_f, gOr_4, gAnd_4, gSum_4, gPro_4, qLp_4]) ne_45
      exact aw_zret dX3_factorForm_48 rfl (by decide) ⟨false, a, rfl, hU_45, hF_45, (by omega), fq_45⟩ ⟨Nat.zero_le _, Nat.zero_le _⟩
  · skip
    have n_10 : ¬ ((T.1 a) = 2) := fun z => c_10 (by have y := (nI_eq (a := (T.1 a)) (b := 2) (by omega) (by omega)).mpr z; rw [← ((hS.1 a hN).2.2.1 : ((ats ms a).2.1 4 a) = nI (T.1 a)), ← ((by rfl) : (2 : Int32) = nI 2)] at y; exact y)
    refine aw_aload_n (n := 14) dX3_factorForm_13 rfl 0 rfl rfl ?_
    refine aw_aload_n (n := 15) dX3_factorForm_14 rfl 0 rfl rfl ?_
    refine aw_getf (n := 18) (v := .int (nI a)) (C0 := RX3) (T := TX3) dX3_factorForm_15 rfl 7 q2648 (Or.inl rfl) hT.1 (congrArg some (congrArg Value.int rfl)) rfl ?_
    refine aw_callV (n := 21) (C0 := RX3) (As := [.int (nI a)]) (rest := []) (K2 := kX3_isName) dX3_factorForm_18 q2844 q2846 qs54 q113 q2847 ⟨rfl, hcX3_isName⟩ rfl hT.1 (ct_isName G h b (ats ms a) hb hT T a (hS.1 a hN)) rfl (Nat.le_of_ble_eq_true rfl) ⟨by dsimp only [kX3_formulaForm, kX3_rowForm, kX3_sinceForm, kX3_oneForm, kX3_expressionForm, kX3_productForm, kX3_factorForm, kX3_bracesForm, kX3_sees, kX3_goes, kX3_takes, kX3_takesName, kX3_takesNumber, kX3_which, kX3_isName, kX3_boundsForm, kJ12_length, fK]; omega, by dsimp only [kX3_formulaForm, kX3_rowForm, kX3_sinceForm, kX3_oneForm, kX3_expressionForm, kX3_productForm, kX3_factorForm, kX3_bracesForm, kX3_sees, kX3_goes, kX3_takes, kX3_takesName, kX3_takesNumber, kX3_which, kX3_isName, kX3_boundsForm, kJ12_length, fK]; omega⟩ ⟨Nat.zero_le _, Nat.zero_le _⟩ (fun _ _ _ z => z.elim) rfl (fun r_18 h_18 q_18 => ?_)
    obtain ⟨rfl, rfl⟩ := q_18
    refine AW.sts (st' := [.int (bI (isNm T a))]) rfl ?_
    refine aw_if_ne (n := 24) (tgt := 44) dX3_factorForm_21 (by decide) rfl (fun c_21 => ?_) (fun c_21 => ?_)
    · skip
      have b_21 : (isNm T a) = true := Bool.of_not_eq_false (fun e => c_21 ((bI_0 _).mpr e))
      refine aw_aload_n (n := 45) dX3_factorForm_44 rfl 0 rfl rfl ?_
      refine aw_callV (n := 48) (C0 := RX3) (As := []) (rest := []) (K2 := kX3_goes) dX3_factorForm_45 q2836 q2838 qs52 q113 q2839 ⟨rfl, hcX3_goes⟩ rfl hT.1 (ct_goes G h b (ats ms a) hb hT a rfl ha4) rfl (Nat.le_of_ble_eq_true rfl) ⟨by dsimp only [kX3_formulaForm, kX3_rowForm, kX3_sinceForm, kX3_oneForm, kX3_expressionForm, kX3_productForm, kX3_factorForm, kX3_bracesForm, kX3_sees, kX3_goes, kX3_takes, kX3_takesName, kX3_takesNumber, kX3_which, kX3_isName, kX3_boundsForm, kJ12_length, fK]; omega, by dsimp only [kX3_formulaForm, kX3_rowForm, kX3_sinceForm, kX3_oneForm, kX3_expressionForm, kX3_productForm, kX3_factorForm, kX3_bracesForm, kX3_sees, kX3_goes, kX3_takes, kX3_takesName, kX3_takesNumber, kX3_which, kX3_isName, kX3_boundsForm, kJ12_length, fK]; omega⟩ ⟨Nat.zero_le _, Nat.zero_le _⟩ (fun _ _ _ z => z.elim) rfl (fun r_45 h_45 q_45 => ?_)
      obtain ⟨rfl, hT_45, hF_45, hz_45⟩ := q_45
      refine AW.sts (st' := [.int (bI (a != 400))]) rfl ?_
      rcases Bool.eq_false_or_eq_true (a != 400) with b_48 | b_48
      · skip
        refine AW.sts (st' := [.int 1]) (by rw [b_48]; rfl) ?_
        have l_45 : a < 400 := by have z : a ≠ 400 := (by simpa using b_48); omega
        have ne_45 : T.1 a ≠ 0 := by first | exact seesB_ne (by assumption) | exact isNm_ne (by assumption) | exact whT_lt (by assumption) | omega
        rw [goM_lt (by omega), tS_tS] at hT_45
        have g_4 := fH.T hg0 (by first | assumption | simp [seesP, nmP, nuP, gOr, gAnd, gSum, gPro, n_10, b_21, l_45])
        try dsimp only at g_4
        have N_45 : a + 1 ≤ N := lt_end hS.2.1 hN ne_45
        have a_45 : a + 1 ≤ 400 := by omega
        have K_5 := (hS.1 (a + 1) N_45).2.1
        exact aw_zret dX3_factorForm_48 rfl (by decide) ⟨true, a + 1, rfl, hT_45, hF_45, (by omega), (fH.ok g_4)⟩ ⟨Nat.zero_le _, Nat.zero_le _⟩
      · skip
        refine AW.sts (st' := [.int 0]) (by rw [b_48]; rfl) ?_
        have e_45 : a = 400 := by simpa using b_48
        have ne_45 : T.1 a ≠ 0 := by first | exact seesB_ne (by assumption) | exact isNm_ne (by assumption) | exact whT_lt (by assumption) | omega
        have hU_45 : TW b h_45 (ats ms a) := by rw [e_45, goM_400] at hT_45; rw [e_45]; exact hT_45
        have fq_45 : fQ T false a (qX T (f + 1) 7 d a) := by have z := hg0; rw [e_45] at z ne_45 ⊢; exact z.stay (by first | exact qPc_4 T _ _ | exact qLp_4 (gOr_4 T) _ | exact qLp_4 (gAnd_4 T) _ | exact qLp_4 (gSum_4 T) _ | exact qLp_4 (gPro_4 T) _ | simp [qb_0, qb_1, qb_4, qX_4, seesP_4, nmP_4, nuP_4, whP_4, qT_4, qNm_4, qNu_4, qBd_4, qBr_4, qBo, qI_f, gOr_4, gAnd_4, gSum_4, gPro_4, qLp_4]) ne_45
        exact aw_zret dX3_factorForm_48 rfl (by decide) ⟨false, a, rfl, hU_45, hF_45, (by omega), fq_45⟩ ⟨Nat.zero_le _, Nat.zero_le _⟩
    · skip
      have b_21 : (isNm T a) = false := (bI_0 _).mp c_21
      refine aw_aload_n (n := 25) dX3_factorForm_24 rfl 0 rfl rfl ?_
      refine aw_ldcwS (n := 28) (q := 28) dX3_factorForm_25 117 rfl rfl ?_
      refine aw_know (fun gd_5 hi_5 => ?_)
      refine aw_callV (n := 31) (C0 := RX3) (As := [.ref (gT G 28)]) (rest := []) (K2 := kX3_sees) dX3_factorForm_28 q2826 q2828 qs50 q113 q2829 ⟨rfl, hcX3_sees⟩ rfl hT.1 (ct_sees G h b (ats ms a) hb hT T a rfl (hS.1 a hN) _ (sw 28) (str_at gd_5 hi_5 (i := 28) rfl) (lo_at (i := 28) rfl)) rfl (Nat.le_of_ble_eq_true rfl) ⟨by dsimp only [kX3_formulaForm, kX3_rowForm, kX3_sinceForm, kX3_oneForm, kX3_expressionForm, kX3_productForm, kX3_factorForm, kX3_bracesForm, kX3_sees, kX3_goes, kX3_takes, kX3_takesName, kX3_takesNumber, kX3_which, kX3_isName, kX3_boundsForm, kJ12_length, fK]; omega, by dsimp only [kX3_formulaForm, kX3_rowForm, kX3_sinceForm, kX3_oneForm, kX3_expressionForm, kX3_productForm, kX3_factorForm, kX3_bracesForm, kX3_sees, kX3_goes, kX3_takes, kX3_takesName, kX3_takesNumber, kX3_which, kX3_isName, kX3_boundsForm, kJ12_length, fK]; omega⟩ ⟨Nat.zero_le _, Nat.zero_le _⟩ (fun _ _ _ z => z.elim) rfl (fun r_28 h_28 q_28 => ?_)
      obtain ⟨rfl, rfl⟩ := q_28
      refine AW.sts (st' := [.int (bI (seesB T a (sw 28)))]) rfl ?_
      refine aw_if_ne (n := 34) (tgt := 44) dX3_factorForm_31 (by decide) rfl (fun c_31 => ?_) (fun c_31 => ?_)
      · skip
        have b_31 : (seesB T a (sw 28)) = true := Bool.of_not_eq_false (fun e => c_31 ((bI_0 _).mpr e))
        refine aw_aload_n (n := 45) dX3_factorForm_44 rfl 0 rfl rfl ?_
        refine aw_callV (n := 48) (C0 := RX3) (As := []) (rest := []) (K2 := kX3_goes) dX3_factorForm_45 q2836 q2838 qs52 q113 q2839 ⟨rfl, hcX3_goes⟩ rfl hT.1 (ct_goes G h b (ats ms a) hb hT a rfl ha4) rfl (Nat.le_of_ble_eq_true rfl) ⟨by dsimp only [kX3_formulaForm, kX3_rowForm, kX3_sinceForm, kX3_oneForm, kX3_expressionForm, kX3_productForm, kX3_factorForm, kX3_bracesForm, kX3_sees, kX3_goes, kX3_takes, kX3_takesName, kX3_takesNumber, kX3_which, kX3_isName, kX3_boundsForm, kJ12_length, fK]; omega, by dsimp only [kX3_formulaForm, kX3_rowForm, kX3_sinceForm, kX3_oneForm, kX3_expressionForm, kX3_productForm, kX3_factorForm, kX3_bracesForm, kX3_sees, kX3_goes, kX3_takes, kX3_takesName, kX3_takesNumber, kX3_which, kX3_isName, kX3_boundsForm, kJ12_length, fK]; omega⟩ ⟨Nat.zero_le _, Nat.zero_le _⟩ (fun _ _ _ z => z.elim) rfl (fun r_45 h_45 q_45 => ?_)
        obtain ⟨rfl, hT_45, hF_45, hz_45⟩ := q_45
        refine AW.sts (st' := [.int (bI (a != 400))]) rfl ?_
        rcases Bool.eq_false_or_eq_true (a != 400) with b_48 | b_48
        · skip
          refine AW.sts (st' := [.int 1]) (by rw [b_48]; rfl) ?_
          have l_45 : a < 400 := by have z : a ≠ 400 := (by simpa using b_48); omega
          have ne_45 : T.1 a ≠ 0 := by first | exact seesB_ne (by assumption) | exact isNm_ne (by assumption) | exact whT_lt (by assumption) | omega
          rw [goM_lt (by omega), tS_tS] at hT_45
          have g_7 := fH.T hg0 (by first | assumption | simp [seesP, nmP, nuP, gOr, gAnd, gSum, gPro, n_10, b_21, b_31, l_45])
          try dsimp only at g_7
          have N_45 : a + 1 ≤ N := lt_end hS.2.1 hN ne_45
          have a_45 : a + 1 ≤ 400 := by omega
          have K_8 := (hS.1 (a + 1) N_45).2.1
          exact aw_zret dX3_factorForm_48 rfl (by decide) ⟨true, a + 1, rfl, hT_45, hF_45, (by omega), (fH.ok g_7)⟩ ⟨Nat.zero_le _, Nat.zero_le _⟩
        · skip
          refine AW.sts (st' := [.int 0]) (by rw [b_48]; rfl) ?_
          have e_45 : a = 400 := by simpa using b_48
          have ne_45 : T.1 a ≠ 0 := by first | exact seesB_ne (by assumption) | exact isNm_ne (by assumption) | exact whT_lt (by assumption) | omega
          have hU_45 : TW b h_45 (ats ms a) := by rw [e_45, goM_400] at hT_45; rw [e_45]; exact hT_45
          have fq_45 : fQ T false a (qX T (f + 1) 7 d a) := by have z := hg0; rw [e_45] at z ne_45 ⊢; exact z.stay (by first | exact qPc_4 T _ _ | exact qLp_4 (gOr_4 T) _ | exact qLp_4 (gAnd_4 T) _ | exact qLp_4 (gSum_4 T) _ | exact qLp_4 (gPro_4 T) _ | simp [qb_0, qb_1, qb_4, qX_4, seesP_4, nmP_4, nuP_4, whP_4, qT_4, qNm_4, qNu_4, qBd_4, qBr_4, qBo, qI_f, gOr_4, gAnd_4, gSum_4, gPro_4, qLp_4]) ne_45
          exact aw_zret dX3_factorForm_48 rfl (by decide) ⟨false, a, rfl, hU_45, hF_45, (by omega), fq_45⟩ ⟨Nat.zero_le _, Nat.zero_le _⟩
      · skip
        have b_31 : (seesB T a (sw 28)) = false := (bI_0 _).mp c_31
        refine aw_aload_n (n := 35) dX3_factorForm_34 rfl 0 rfl rfl ?_
        refine aw_ldcwS (n := 38) (q := 29) dX3_factorForm_35 118 rfl rfl ?_
        refine aw_know (fun gd_8 hi_8 => ?_)
        refine aw_callV (n := 41) (C0 := RX3) (As := [.ref (gT G 29)]) (rest := []) (K2 := kX3_sees) dX3_factorForm_38 q2826 q2828 qs50 q113 q2829 ⟨rfl, hcX3_sees⟩ rfl hT.1 (ct_sees G h b (ats ms a) hb hT T a rfl (hS.1 a hN) _ (sw 29) (str_at gd_8 hi_8 (i := 29) rfl) (lo_at (i := 29) rfl)) rfl (Nat.le_of_ble_eq_true rfl) ⟨by dsimp only [kX3_formulaForm, kX3_rowForm, kX3_sinceForm, kX3_oneForm, kX3_expressionForm, kX3_productForm, kX3_factorForm, kX3_bracesForm, kX3_sees, kX3_goes, kX3_takes, kX3_takesName, kX3_takesNumber, kX3_which, kX3_isName, kX3_boundsForm, kJ12_length, fK]; omega, by dsimp only [kX3_formulaForm, kX3_rowForm, kX3_sinceForm, kX3_oneForm, kX3_expressionForm, kX3_productForm, kX3_factorForm, kX3_bracesForm, kX3_sees, kX3_goes, kX3_takes, kX3_takesName, kX3_takesNumber, kX3_which, kX3_isName, kX3_boundsForm, kJ12_length, fK]; omega⟩ ⟨Nat.zero_le _, Nat.zero_le _⟩ (fun _ _ _ z => z.elim) rfl (fun r_38 h_38 q_38 => ?_)
        obtain ⟨rfl, rfl⟩ := q_38
        refine AW.sts (st' := [.int (bI (seesB T a (sw 29)))]) rfl ?_
        refine aw_if_eq (n := 44) (tgt := 49) dX3_factorForm_41 (by decide) rfl (fun c_41 => ?_) (fun c_41 => ?_)
        · skip
          have b_41 : (seesB T a (sw 29)) = false := (bI_0 _).mp c_41
          have g_10 := fH.F hg0 (by first | assumption | simp [seesP, nmP, nuP, gOr, gAnd, gSum, gPro, n_10, b_21, b_31, b_41])
          try dsimp only at g_10
          refine aw_aload_n (n := 50) dX3_factorForm_49 rfl 0 rfl rfl ?_
          refine aw_ldcwS (n := 53) (q := 51) dX3_factorForm_50 119 rfl rfl ?_
          refine aw_know (fun gd_10 hi_10 => ?_)
          refine aw_callV (n := 56) (C0 := RX3) (As := [.ref (gT G 51)]) (rest := []) (K2 := kX3_sees) dX3_factorForm_53 q2826 q2828 qs50 q113 q2829 ⟨rfl, hcX3_sees⟩ rfl hT.1 (ct_sees G h b (ats ms a) hb hT T a rfl (hS.1 a hN) _ (sw 51) (str_at gd_10 hi_10 (i := 51) rfl) (lo_at (i := 51) rfl)) rfl (Nat.le_of_ble_eq_true rfl) ⟨by dsimp only [kX3_formulaForm, kX3_rowForm, kX3_sinceForm, kX3_oneForm, kX3_expressionForm, kX3_productForm, kX3_factorForm, kX3_bracesForm, kX3_sees, kX3_goes, kX3_takes, kX3_takesName, kX3_takesNumber, kX3_which, kX3_isName, kX3_boundsForm, kJ12_length, fK]; omega, by dsimp only [kX3_formulaForm, kX3_rowForm, kX3_sinceForm, kX3_oneForm, kX3_expressionForm, kX3_productForm, kX3_factorForm, kX3_bracesForm, kX3_sees, kX3_goes, kX3_takes, kX3_takesName, kX3_takesNumber, kX3_which, kX3_isName, kX3_boundsForm, kJ12_length, fK]; omega⟩ ⟨Nat.zero_le _, Nat.zero_le _⟩ (fun _ _ _ z => z.elim) rfl (fun r_53 h_53 q_53 => ?_)
          obtain ⟨rfl, rfl⟩ := q_53
          refine AW.sts (st' := [.int (bI (seesB T a (sw 51)))]) rfl ?_
          refine aw_if_eq (n := 59) (tgt := 98) dX3_factorForm_56 (by decide) rfl (fun c_56 => ?_) (fun c_56 => ?_)
          · skip
            have b_56 : (seesB T a (sw 51)) = false := (bI_0 _).mp c_56
            have g_12 := fH.F g_10 (by first | assumption | simp [seesP, nmP, nuP, gOr, gAnd, gSum, gPro, n_10, b_21, b_31, b_41, b_56])
            try dsimp only at g_12
            refine aw_aload_n (n := 99) dX3_factorForm_98 rfl 0 rfl rfl ?_
            refine aw_aload_n (n := 100) dX3_factorForm_99 rfl 0 rfl rfl ?_
            refine aw_getf (n := 103) (v := .int (nI a)) (C0 := RX3) (T := TX3) dX3_factorForm_100 rfl 7 q2648 (Or.inl rfl) hT.1 (congrArg some (congrArg Value.int rfl)) rfl ?_
            refine aw_know (fun gd_12 hi_12 => ?_)
            refine aw_gets (n := 106) (v := .ref (vAd (gV G 31))) dX3_factorForm_103 31 rfl q2911 rfl (vAd_at gd_12 (by decide)) rfl ?_
            refine aw_know (fun gd_13 hi_13 => ?_)
            refine aw_callV (n := 109) (C0 := RX3) (As := [.int (nI a), .ref (vAd (gV G 31))]) (rest := []) (K2 := kX3_which) dX3_factorForm_106 q2850 q2852 qs55 q113 q2853 ⟨rfl, hcX3_which⟩ rfl hT.1 (ct_which G h b (ats ms a) hb hT T a (hS.1 a hN) _ (wlW 4) (wl_at gd_13 hi_13 (k := 4) rfl) (by decide)) rfl (Nat.le_of_ble_eq_true rfl) ⟨by dsimp only [kX3_formulaForm, kX3_rowForm, kX3_sinceForm, kX3_oneForm, kX3_expressionForm, kX3_productForm, kX3_factorForm, kX3_bracesForm, kX3_sees, kX3_goes, kX3_takes, kX3_takesName, kX3_takesNumber, kX3_which, kX3_isName, kX3_boundsForm, kJ12_length, fK]; omega, by dsimp only [kX3_formulaForm, kX3_rowForm, kX3_sinceForm, kX3_oneForm, kX3_expressionForm, kX3_productForm, kX3_factorForm, kX3_bracesForm, kX3_sees, kX3_goes, kX3_takes, kX3_takesName, kX3_takesNumber, kX3_which, kX3_isName, kX3_boundsForm, kJ12_length, fK]; omega⟩ ⟨Nat.zero_le _, Nat.zero_le _⟩ (fun _ _ _ z => z.elim) rfl (fun r_106 h_106 q_106 => ?_)
            obtain ⟨rfl, rfl⟩ := q_106
            refine AW.sts (st' := [.int (whT T a (wlW 4))]) rfl ?_
            refine aw_iconst (n := 110) (v := (-1)) dX3_factorForm_109 (by decide) rfl ?_
            refine aw_icmp_eq (n := 113) (tgt := 142) dX3_factorForm_110 (by decide) rfl (fun c_110 => ?_) (fun c_110 => ?_)
            · skip
              have w_110 : (whP T a 4 != -1) = false := by unfold whP; split <;> simp [c_110]
              have g_15 := fH.F g_12 (by first | assumption | simp [seesP, nmP, nuP, gOr, gAnd, gSum, gPro, n_10, b_21, b_31, b_41, b_56, c_110, w_110])
              try dsimp only at g_15
              refine aw_aload_n (n := 143) dX3_factorForm_142 rfl 0 rfl rfl ?_
              refine aw_ldcwS (n := 146) (q := 25) dX3_factorForm_143 121 rfl rfl ?_
              refine aw_know (fun gd_15 hi_15 => ?_)
              refine aw_callV (n := 149) (C0 := RX3) (As := [.ref (gT G 25)]) (rest := []) (K2 := kX3_sees) dX3_factorForm_146 q2826 q2828 qs50 q113 q2829 ⟨rfl, hcX3_sees⟩ rfl hT.1 (ct_sees G h b (ats ms a) hb hT T a rfl (hS.1 a hN) _ (sw 25) (str_at gd_15 hi_15 (i := 25) rfl) (lo_at (i := 25) rfl)) rfl (Nat.le_of_ble_eq_true rfl) ⟨by dsimp only [kX3_formulaForm, kX3_rowForm, kX3_sinceForm, kX3_oneForm, kX3_expressionForm, kX3_productForm, kX3_factorForm, kX3_bracesForm, kX3_sees, kX3_goes, kX3_takes, kX3_takesName, kX3_takesNumber, kX3_which, kX3_isName, kX3_boundsForm, kJ12_length, fK]; omega, by dsimp only [kX3_formulaForm, kX3_rowForm, kX3_sinceForm, kX3_oneForm, kX3_expressionForm, kX3_productForm, kX3_factorForm, kX3_bracesForm, kX3_sees, kX3_goes, kX3_takes, kX3_takesName, kX3_takesNumber, kX3_which, kX3_isName, kX3_boundsForm, kJ12_length, fK]; omega⟩ ⟨Nat.zero_le _, Nat.zero_le _⟩ (fun _ _ _ z => z.elim) rfl (fun r_146 h_146 q_146 => ?_)
              obtain ⟨rfl, rfl⟩ := q_146
              refine AW.sts (st' := [.int (bI (seesB T a (sw 25)))]) rfl ?_
              refine aw_if_ne (n := 152) (tgt := 162) dX3_factorForm_149 (by decide) rfl (fun c_149 => ?_) (fun c_149 => ?_)
              · skip
                have b_149 : (seesB T a (sw 25)) = true := Bool.of_not_eq_false (fun e => c_149 ((bI_0 _).mpr e))
                refine aw_aload_n (n := 163) dX3_factorForm_162 rfl 0 rfl rfl ?_
                refine aw_callV (n := 166) (C0 := RX3) (As := []) (rest := []) (K2 := kX3_goes) dX3_factorForm_163 q2836 q2838 qs52 q113 q2839 ⟨rfl, hcX3_goes⟩ rfl hT.1 (ct_goes G h b (ats ms a) hb hT a rfl ha4) rfl (Nat.le_of_ble_eq_true rfl) ⟨by dsimp only [kX3_formulaForm, kX3_rowForm, kX3_sinceForm, kX3_oneForm, kX3_expressionForm, kX3_productForm, kX3_factorForm, kX3_bracesForm, kX3_sees, kX3_goes, kX3_takes, kX3_takesName, kX3_takesNumber, kX3_which, kX3_isName, kX3_boundsForm, kJ12_length, fK]; omega, by dsimp only [kX3_formulaForm, kX3_rowForm, kX3_sinceForm, kX3_oneForm, kX3_expressionForm, kX3_productForm, kX3_factorForm, kX3_bracesForm, kX3_sees, kX3_goes, kX3_takes, kX3_takesName, kX3_takesNumber, kX3_which, kX3_isName, kX3_boundsForm, kJ12_length, fK]; omega⟩ ⟨Nat.zero_le _, Nat.zero_le _⟩ (fun _ _ _ z => z.elim) rfl (fun r_163 h_163 q_163 => ?_)
                obtain ⟨rfl, hT_163, hF_163, hz_163⟩ := q_163
                refine AW.sts (st' := [.int (bI (a != 400))]) rfl ?_
                refine aw_if_eq (n := 169) (tgt := 190) dX3_factorForm_166 (by decide) rfl (fun c_166 => ?_) (fun c_166 => ?_)
                · skip
                  have b_166 : (a != 400) = false := (bI_0 _).mp c_166
                  have e_163 : a = 400 := by simpa using b_166
                  have ne_163 : T.1 a ≠ 0 := by first | exact seesB_ne (by assumption) | exact isNm_ne (by assumption) | exact whT_lt (by assumption) | omega
                  have hU_163 : TW b h_163 (ats ms a) := by rw [e_163, goM_400] at hT_163; rw [e_163]; exact hT_163
                  have fq_163 : fQ T false a (qX T (f + 1) 7 d a) := by have z := g_15; rw [e_163] at z ne_163 ⊢; exact z.stay (by first | exact qPc_4 T _ _ | exact qLp_4 (gOr_4 T) _ | exact qLp_4 (gAnd_4 T) _ | exact qLp_4 (gSum_4 T) _ | exact qLp_4 (gPro_4 T) _ | simp [qb_0, qb_1, qb_4, qX_4, seesP_4, nmP_4, nuP_4, whP_4, qT_4, qNm_4, qNu_4, qBd_4, qBr_4, qBo, qI_f, gOr_4, gAnd_4, gSum_4, gPro_4, qLp_4]) ne_163
                  refine aw_iconst (n := 191) (v := 0) dX3_factorForm_190 (by decide) rfl ?_
                  exact aw_zret dX3_factorForm_191 rfl (by decide) ⟨false, a, rfl, hU_163, hF_163, (by omega), fq_163⟩ ⟨Nat.zero_le _, Nat.zero_le _⟩
                · skip
                  have b_166 : (a != 400) = true := Bool.of_not_eq_false (fun e => c_166 ((bI_0 _).mpr e))
                  have l_163 : a < 400 := by have z : a ≠ 400 := (by simpa using b_166); omega
                  have ne_163 : T.1 a ≠ 0 := by first | exact seesB_ne (by assumption) | exact isNm_ne (by assumption) | exact whT_lt (by assumption) | omega
                  rw [goM_lt (by omega), tS_tS] at hT_163
                  have g_17 := fH.T g_15 (by first | assumption | simp [seesP, nmP, nuP, gOr, gAnd, gSum, gPro, n_10, b_21, b_31, b_41, b_56, c_110, w_110, b_149, l_163])
                  try dsimp only at g_17
                  have N_163 : a + 1 ≤ N := lt_end hS.2.1 hN ne_163
                  have a_163 : a + 1 ≤ 400 := by omega
                  have K_18 := (hS.1 (a + 1) N_163).2.1
                  refine aw_aload_n (n := 170) dX3_factorForm_169 rfl 0 rfl rfl ?_
                  refine aw_iload_n (n := 171) dX3_factorForm_170 rfl 1 rfl rfl ?_
                  have ne_171 : (qBr T (qX T f) d (a + 1)).1 ≠ 99 := fH.nb g_17 hne
                  have V_171 : qW T N (a + 1) (qBr T (qX T f) d (a + 1)) := qBr_W hS.2.1 f _ _ N_163 a_163
                  refine aw_callV (n := 174) (C0 := RX3) (As := [.int (nI d)]) (rest := []) (K2 := kX3_bracesForm) dX3_factorForm_171 q2915 q2917 qs65 q113 q2918 ⟨rfl, hcX3_bracesForm⟩ rfl hT_163.1 (cf_braces G h_163 b ms T N (a + 1) hb hT_163 hS N_163 a_163 f d (by omega) ne_171 ih) rfl (Nat.le_of_ble_eq_true rfl) ⟨by dsimp only [kX3_formulaForm, kX3_rowForm, kX3_sinceForm, kX3_oneForm, kX3_expressionForm, kX3_productForm, kX3_factorForm, kX3_bracesForm, kX3_sees, kX3_goes, kX3_takes, kX3_takesName, kX3_takesNumber, kX3_which, kX3_isName, kX3_boundsForm, kJ12_length, fK]; omega, by dsimp only [kX3_formulaForm, kX3_rowForm, kX3_sinceForm, kX3_oneForm, kX3_expressionForm, kX3_productForm, kX3_factorForm, kX3_bracesForm, kX3_sees, kX3_goes, kX3_takes, kX3_takesName, kX3_takesNumber, kX3_which, kX3_isName, kX3_boundsForm, kJ12_length, fK]; omega⟩ ⟨Nat.zero_le _, Nat.zero_le _⟩ (fun _ _ _ z => z.elim) rfl (fun r_171 h_171 q_171 => ?_)
                  obtain ⟨z_171, a_171, rfl, hT_171, hF_171, hz_171, fq_171⟩ := q_171
                  have W_171 : a_171 ≤ N ∧ a_171 ≤ 400 := by rw [fq_171.1]; exact V_171.2
                  have hG_171 := Fr.trans hF_163 hF_171
                  refine AW.sts (st' := [.int (bI z_171)]) rfl ?_
                  refine aw_if_eq (n := 177) (tgt := 190) dX3_factorForm_174 (by decide) rfl (fun c_174 => ?_) (fun c_174 => ?_)
                  · skip
                    have b_174 : z_171 = false := (bI_0 _).mp c_174
                    have f_171 : fQ T false a_171 _ := b_174 ▸ fq_171
                    have K_19 := (hS.1 a_171 W_171.1).2.1
                    refine aw_iconst (n := 191) (v := 0) dX3_factorForm_190 (by decide) rfl ?_
                    exact aw_zret dX3_factorForm_191 rfl (by decide) ⟨false, a_171, rfl, hT_171, hG_171, (by omega), (fH.fail g_17 f_171 (by first | exact qPc_4 T _ _ | exact qLp_4 (gOr_4 T) _ | exact qLp_4 (gAnd_4 T) _ | exact qLp_4 (gSum_4 T) _ | exact qLp_4 (gPro_4 T) _ | simp [qb_0, qb_1, qb_4, qX_4, seesP_4, nmP_4, nuP_4, whP_4, qT_4, qNm_4, qNu_4, qBd_4, qBr_4, qBo, qI_f, gOr_4, gAnd_4, gSum_4, gPro_4, qLp_4]))⟩ ⟨Nat.zero_le _, Nat.zero_le _⟩
                  · skip
                    have b_174 : z_171 = true := Bool.of_not_eq_false (fun e => c_174 ((bI_0 _).mpr e))
                    have f_171 : fQ T true a_171 _ := b_174 ▸ fq_171
                    have d9_171 := qBr_d (f_171.2.1 rfl)
                    have g_20 := fH.step g_17 f_171
                    try dsimp only at g_20
                    have K_21 := (hS.1 a_171 W_171.1).2.1
                    refine aw_aload_n (n := 178) dX3_factorForm_177 rfl 0 rfl rfl ?_
                    refine aw_ldcS (n := 180) (q := 50) dX3_factorForm_178 109 rfl rfl ?_
                    refine aw_know (fun gd_21 hi_21 => ?_)
                    refine aw_callV (n := 183) (C0 := RX3) (As := [.ref (gT G 50)]) (rest := []) (K2 := kX3_takes) dX3_factorForm_180 q2822 q2824 qs49 q113 q2825 ⟨rfl, hcX3_takes⟩ rfl hT_171.1 (cf_takes G h_171 b ms T N a_171 hb hT_171 hS W_171.1 W_171.2 _ (sw 50) (str_at gd_21 hi_21 (i := 50) rfl) (lo_at (i := 50) rfl)) rfl (Nat.le_of_ble_eq_true rfl) ⟨by dsimp only [kX3_formulaForm, kX3_rowForm, kX3_sinceForm, kX3_oneForm, kX3_expressionForm, kX3_productForm, kX3_factorForm, kX3_bracesForm, kX3_sees, kX3_goes, kX3_takes, kX3_takesName, kX3_takesNumber, kX3_which, kX3_isName, kX3_boundsForm, kJ12_length, fK]; omega, by dsimp only [kX3_formulaForm, kX3_rowForm, kX3_sinceForm, kX3_oneForm, kX3_expressionForm, kX3_productForm, kX3_factorForm, kX3_bracesForm, kX3_sees, kX3_goes, kX3_takes, kX3_takesName, kX3_takesNumber, kX3_which, kX3_isName, kX3_boundsForm, kJ12_length, fK]; omega⟩ ⟨Nat.zero_le _, Nat.zero_le _⟩ (fun _ _ _ z => z.elim) rfl (fun r_180 h_180 q_180 => ?_)
                    obtain ⟨rfl, hT_180, hF_180, hz_180⟩ := q_180
                    have hG_180 := Fr.trans hG_171 hF_180
                    refine AW.sts (st' := [.int (bI (seesP T a_171 (sw 50)))]) rfl ?_
                    refine aw_if_eq (n := 186) (tgt := 190) dX3_factorForm_183 (by decide) rfl (fun c_183 => ?_) (fun c_183 => ?_)
                    · skip
                      have b_183 : (seesP T a_171 (sw 50)) = false := (bI_0 _).mp c_183
                      rw [if_neg (by rw [b_183]; decide)] at hT_180
                      refine aw_iconst (n := 191) (v := 0) dX3_factorForm_190 (by decide) rfl ?_
                      exact aw_zret dX3_factorForm_191 rfl (by decide) ⟨false, a_171, rfl, hT_180, hG_180, (by omega), (fH.lF g_20 b_183)⟩ ⟨Nat.zero_le _, Nat.zero_le _⟩
                    · skip
                      have b_183 : (seesP T a_171 (sw 50)) = true := Bool.of_not_eq_false (fun e => c_183 ((bI_0 _).mpr e))
                      rw [if_pos b_183] at hT_180
                      have t_180 := seesP_lt b_183
                      have N_180 : a_171 + 1 ≤ N := lt_end hS.2.1 W_171.1 t_180.2
                      have a_180 : a_171 + 1 ≤ 400 := by omega
                      have g_23 := fH.lT g_20 b_183
                      try dsimp only at g_23
                      have K_24 := (hS.1 (a_171 + 1) N_180).2.1
                      refine aw_iconst (n := 187) (v := 1) dX3_factorForm_186 (by decide) rfl ?_
                      refine aw_goto (tgt := 191) dX3_factorForm_187 (by decide) ?_
                      exact aw_zret dX3_factorForm_191 rfl (by decide) ⟨true, a_171 + 1, rfl, hT_180, hG_180, (by omega), (fH.ok g_23)⟩ ⟨Nat.zero_le _, Nat.zero_le _⟩
              · skip
                have b_149 : (seesB T a (sw 25)) = false := (bI_0 _).mp c_149
                refine aw_aload_n (n := 153) dX3_factorForm_152 rfl 0 rfl rfl ?_
                refine aw_ldcwS (n := 156) (q := 27) dX3_factorForm_153 122 rfl rfl ?_
                refine aw_know (fun gd_24 hi_24 => ?_)
                refine aw_callV (n := 159) (C0 := RX3) (As := [.ref (gT G 27)]) (rest := []) (K2 := kX3_sees) dX3_factorForm_156 q2826 q2828 qs50 q113 q2829 ⟨rfl, hcX3_sees⟩ rfl hT.1 (ct_sees G h b (ats ms a) hb hT T a rfl (hS.1 a hN) _ (sw 27) (str_at gd_24 hi_24 (i := 27) rfl) (lo_at (i := 27) rfl)) rfl (Nat.le_of_ble_eq_true rfl) ⟨by dsimp only [kX3_formulaForm, kX3_rowForm, kX3_sinceForm, kX3_oneForm, kX3_expressionForm, kX3_productForm, kX3_factorForm, kX3_bracesForm, kX3_sees, kX3_goes, kX3_takes, kX3_takesName, kX3_takesNumber, kX3_which, kX3_isName, kX3_boundsForm, kJ12_length, fK]; omega, by dsimp only [kX3_formulaForm, kX3_rowForm, kX3_sinceForm, kX3_oneForm, kX3_expressionForm, kX3_productForm, kX3_factorForm, kX3_bracesForm, kX3_sees, kX3_goes, kX3_takes, kX3_takesName, kX3_takesNumber, kX3_which, kX3_isName, kX3_boundsForm, kJ12_length, fK]; omega⟩ ⟨Nat.zero_le _, Nat.zero_le _⟩ (fun _ _ _ z => z.elim) rfl (fun r_156 h_156 q_156 => ?_)
                obtain ⟨rfl, rfl⟩ := q_156
                refine AW.sts (st' := [.int (bI (seesB T a (sw 27)))]) rfl ?_
                refine aw_if_eq (n := 162) (tgt := 192) dX3_factorForm_159 (by decide) rfl (fun c_159 => ?_) (fun c_159 => ?_)
                · skip
                  have b_159 : (seesB T a (sw 27)) = false := (bI_0 _).mp c_159
                  have g_26 := fH.F g_15 (by first | assumption | simp [seesP, nmP, nuP, gOr, gAnd, gSum, gPro, n_10, b_21, b_31, b_41, b_56, c_110, w_110, b_149, b_159])
                  try dsimp only at g_26
                  refine aw_aload_n (n := 193) dX3_factorForm_192 rfl 0 rfl rfl ?_
                  refine aw_ldcwS (n := 196) (q := 26) dX3_factorForm_193 123 rfl rfl ?_
                  refine aw_know (fun gd_26 hi_26 => ?_)
                  refine aw_callV (n := 199) (C0 := RX3) (As := [.ref (gT G 26)]) (rest := []) (K2 := kX3_sees) dX3_factorForm_196 q2826 q2828 qs50 q113 q2829 ⟨rfl, hcX3_sees⟩ rfl hT.1 (ct_sees G h b (ats ms a) hb hT T a rfl (hS.1 a hN) _ (sw 26) (str_at gd_26 hi_26 (i := 26) rfl) (lo_at (i := 26) rfl)) rfl (Nat.le_of_ble_eq_true rfl) ⟨by dsimp only [kX3_formulaForm, kX3_rowForm, kX3_sinceForm, kX3_oneForm, kX3_expressionForm, kX3_productForm, kX3_factorForm, kX3_bracesForm, kX3_sees, kX3_goes, kX3_takes, kX3_takesName, kX3_takesNumber, kX3_which, kX3_isName, kX3_boundsForm, kJ12_length, fK]; omega, by dsimp only [kX3_formulaForm, kX3_rowForm, kX3_sinceForm, kX3_oneForm, kX3_expressionForm, kX3_productForm, kX3_factorForm, kX3_bracesForm, kX3_sees, kX3_goes, kX3_takes, kX3_takesName, kX3_takesNumber, kX3_which, kX3_isName, kX3_boundsForm, kJ12_length, fK]; omega⟩ ⟨Nat.zero_le _, Nat.zero_le _⟩ (fun _ _ _ z => z.elim) rfl (fun r_196 h_196 q_196 => ?_)
                  obtain ⟨rfl, rfl⟩ := q_196
                  refine AW.sts (st' := [.int (bI (seesB T a (sw 26)))]) rfl ?_
                  refine aw_if_eq (n := 202) (tgt := 242) dX3_factorForm_199 (by decide) rfl (fun c_199 => ?_) (fun c_199 => ?_)
                  · skip
                    have b_199 : (seesB T a (sw 26)) = false := (bI_0 _).mp c_199
                    have g_28 := fH.F g_26 (by first | assumption | simp [seesP, nmP, nuP, gOr, gAnd, gSum, gPro, n_10, b_21, b_31, b_41, b_56, c_110, w_110, b_149, b_159, b_199])
                    try dsimp only at g_28
                    refine aw_aload_n (n := 243) dX3_factorForm_242 rfl 0 rfl rfl ?_
                    refine aw_ldcwS (n := 246) (q := 18) dX3_factorForm_243 124 rfl rfl ?_
                    refine aw_know (fun gd_28 hi_28 => ?_)
                    refine aw_callV (n := 249) (C0 := RX3) (As := [.ref (gT G 18)]) (rest := []) (K2 := kX3_takes) dX3_factorForm_246 q2822 q2824 qs49 q113 q2825 ⟨rfl, hcX3_takes⟩ rfl hT.1 (cf_takes G h b ms T N a hb hT hS hN ha4 _ (sw 18) (str_at gd_28 hi_28 (i := 18) rfl) (lo_at (i := 18) rfl)) rfl (Nat.le_of_ble_eq_true rfl) ⟨by dsimp only [kX3_formulaForm, kX3_rowForm, kX3_sinceForm, kX3_oneForm, kX3_expressionForm, kX3_productForm, kX3_factorForm, kX3_bracesForm, kX3_sees, kX3_goes, kX3_takes, kX3_takesName, kX3_takesNumber, kX3_which, kX3_isName, kX3_boundsForm, kJ12_length, fK]; omega, by dsimp only [kX3_formulaForm, kX3_rowForm, kX3_sinceForm, kX3_oneForm, kX3_expressionForm, kX3_productForm, kX3_factorForm, kX3_bracesForm, kX3_sees, kX3_goes, kX3_takes, kX3_takesName, kX3_takesNumber, kX3_which, kX3_isName, kX3_boundsForm, kJ12_length, fK]; omega⟩ ⟨Nat.zero_le _, Nat.zero_le _⟩ (fun _ _ _ z => z.elim) rfl (fun r_246 h_246 q_246 => ?_)
                    obtain ⟨rfl, hT_246, hF_246, hz_246⟩ := q_246
                    refine AW.sts (st' := [.int (bI (seesP T a (sw 18)))]) rfl ?_
                    refine aw_if_eq (n := 252) (tgt := 313) dX3_factorForm_249 (by decide) rfl (fun c_249 => ?_) (fun c_249 => ?_)
                    · skip
                      have b_249 : (seesP T a (sw 18)) = false := (bI_0 _).mp c_249
                      rw [if_neg (by rw [b_249]; decide)] at hT_246
                      refine aw_iconst (n := 314) (v := 0) dX3_factorForm_313 (by decide) rfl ?_
                      exact aw_zret dX3_factorForm_314 rfl (by decide) ⟨false, a, rfl, hT_246, hF_246, (by omega), (fH.tF g_28 b_249)⟩ ⟨Nat.zero_le _, Nat.zero_le _⟩
                    · skip
                      have b_249 : (seesP T a (sw 18)) = true := Bool.of_not_eq_false (fun e => c_249 ((bI_0 _).mpr e))
                      rw [if_pos b_249] at hT_246
                      have t_246 := seesP_lt b_249
                      have N_246 : a + 1 ≤ N := lt_end hS.2.1 hN t_246.2
                      have a_246 : a + 1 ≤ 400 := by omega
                      have g_30 := fH.tT g_28 b_249
                      try dsimp only at g_30
                      have K_31 := (hS.1 (a + 1) N_246).2.1
                      refine aw_aload_n (n := 253) dX3_factorForm_252 rfl 0 rfl rfl ?_
                      refine aw_iload_n (n := 254) dX3_factorForm_253 rfl 1 rfl rfl ?_
                      have ne_254 : (qBr T (qX T f) d (a + 1)).1 ≠ 99 := fH.nb g_30 hne
                      have V_254 : qW T N (a + 1) (qBr T (qX T f) d (a + 1)) := qBr_W hS.2.1 f _ _ N_246 a_246
                      refine aw_callV (n := 257) (C0 := RX3) (As := [.int (nI d)]) (rest := []) (K2 := kX3_bracesForm) dX3_factorForm_254 q2915 q2917 qs65 q113 q2918 ⟨rfl, hcX3_bracesForm⟩ rfl hT_246.1 (cf_braces G h_246 b ms T N (a + 1) hb hT_246 hS N_246 a_246 f d (by omega) ne_254 ih) rfl (Nat.le_of_ble_eq_true rfl) ⟨by dsimp only [kX3_formulaForm, kX3_rowForm, kX3_sinceForm, kX3_oneForm, kX3_expressionForm, kX3_productForm, kX3_factorForm, kX3_bracesForm, kX3_sees, kX3_goes, kX3_takes, kX3_takesName, kX3_takesNumber, kX3_which, kX3_isName, kX3_boundsForm, kJ12_length, fK]; omega, by dsimp only [kX3_formulaForm, kX3_rowForm, kX3_sinceForm, kX3_oneForm, kX3_expressionForm, kX3_productForm, kX3_factorForm, kX3_bracesForm, kX3_sees, kX3_goes, kX3_takes, kX3_takesName, kX3_takesNumber, kX3_which, kX3_isName, kX3_boundsForm, kJ12_length, fK]; omega⟩ ⟨Nat.zero_le _, Nat.zero_le _⟩ (fun _ _ _ z => z.elim) rfl (fun r_254 h_254 q_254 => ?_)
                      obtain ⟨z_254, a_254, rfl, hT_254, hF_254, hz_254, fq_254⟩ := q_254
                      have W_254 : a_254 ≤ N ∧ a_254 ≤ 400 := by rw [fq_254.1]; exact V_254.2
                      have hG_254 := Fr.trans hF_246 hF_254
                      refine AW.sts (st' := [.int (bI z_254)]) rfl ?_
                      refine aw_if_eq (n := 260) (tgt := 313) dX3_factorForm_257 (by decide) rfl (fun c_257 => ?_) (fun c_257 => ?_)
                      · skip
                        have b_257 : z_254 = false := (bI_0 _).mp c_257
                        have f_254 : fQ T false a_254 _ := b_257 ▸ fq_254
                        have K_32 := (hS.1 a_254 W_254.1).2.1
                        refine aw_iconst (n := 314) (v := 0) dX3_factorForm_313 (by decide) rfl ?_
                        exact aw_zret dX3_factorForm_314 rfl (by decide) ⟨false, a_254, rfl, hT_254, hG_254, (by omega), (fH.fail g_30 f_254 (by first | exact qPc_4 T _ _ | exact qLp_4 (gOr_4 T) _ | exact qLp_4 (gAnd_4 T) _ | exact qLp_4 (gSum_4 T) _ | exact qLp_4 (gPro_4 T) _ | simp [qb_0, qb_1, qb_4, qX_4, seesP_4, nmP_4, nuP_4, whP_4, qT_4, qNm_4, qNu_4, qBd_4, qBr_4, qBo, qI_f, gOr_4, gAnd_4, gSum_4, gPro_4, qLp_4]))⟩ ⟨Nat.zero_le _, Nat.zero_le _⟩
                      · skip
                        have b_257 : z_254 = true := Bool.of_not_eq_false (fun e => c_257 ((bI_0 _).mpr e))
                        have f_254 : fQ T true a_254 _ := b_257 ▸ fq_254
                        have d9_254 := qBr_d (f_254.2.1 rfl)
                        have g_33 := fH.step g_30 f_254
                        try dsimp only at g_33
                        have K_34 := (hS.1 a_254 W_254.1).2.1
                        refine aw_aload_n (n := 261) dX3_factorForm_260 rfl 0 rfl rfl ?_
                        refine aw_ldcS (n := 263) (q := 50) dX3_factorForm_261 109 rfl rfl ?_
                        refine aw_know (fun gd_34 hi_34 => ?_)
                        refine aw_callV (n := 266) (C0 := RX3) (As := [.ref (gT G 50)]) (rest := []) (K2 := kX3_takes) dX3_factorForm_263 q2822 q2824 qs49 q113 q2825 ⟨rfl, hcX3_takes⟩ rfl hT_254.1 (cf_takes G h_254 b ms T N a_254 hb hT_254 hS W_254.1 W_254.2 _ (sw 50) (str_at gd_34 hi_34 (i := 50) rfl) (lo_at (i := 50) rfl)) rfl (Nat.le_of_ble_eq_true rfl) ⟨by dsimp only [kX3_formulaForm, kX3_rowForm, kX3_sinceForm, kX3_oneForm, kX3_expressionForm, kX3_productForm, kX3_factorForm, kX3_bracesForm, kX3_sees, kX3_goes, kX3_takes, kX3_takesName, kX3_takesNumber, kX3_which, kX3_isName, kX3_boundsForm, kJ12_length, fK]; omega, by dsimp only [kX3_formulaForm, kX3_rowForm, kX3_sinceForm, kX3_oneForm, kX3_expressionForm, kX3_productForm, kX3_factorForm, kX3_bracesForm, kX3_sees, kX3_goes, kX3_takes, kX3_takesName, kX3_takesNumber, kX3_which, kX3_isName, kX3_boundsForm, kJ12_length, fK]; omega⟩ ⟨Nat.zero_le _, Nat.zero_le _⟩ (fun _ _ _ z => z.elim) rfl (fun r_263 h_263 q_263 => ?_)
                        obtain ⟨rfl, hT_263, hF_263, hz_263⟩ := q_263
                        have hG_263 := Fr.trans hG_254 hF_263
                        refine AW.sts (st' := [.int (bI (seesP T a_254 (sw 50)))]) rfl ?_
                        refine aw_if_eq (n := 269) (tgt := 313) dX3_factorForm_266 (by decide) rfl (fun c_266 => ?_) (fun c_266 => ?_)
                        · skip
                          have b_266 : (seesP T a_254 (sw 50)) = false := (bI_0 _).mp c_266
                          rw [if_neg (by rw [b_266]; decide)] at hT_263
                          refine aw_iconst (n := 314) (v := 0) dX3_factorForm_313 (by decide) rfl ?_
                          exact aw_zret dX3_factorForm_314 rfl (by decide) ⟨false, a_254, rfl, hT_263, hG_263, (by omega), (fH.tF g_33 b_266)⟩ ⟨Nat.zero_le _, Nat.zero_le _⟩
                        · skip
                          have b_266 : (seesP T a_254 (sw 50)) = true := Bool.of_not_eq_false (fun e => c_266 ((bI_0 _).mpr e))
                          rw [if_pos b_266] at hT_263
                          have t_263 := seesP_lt b_266
                          have N_263 : a_254 + 1 ≤ N := lt_end hS.2.1 W_254.1 t_263.2
                          have a_263 : a_254 + 1 ≤ 400 := by omega
                          have g_36 := fH.tT g_33 b_266
                          try dsimp only at g_36
                          have K_37 := (hS.1 (a_254 + 1) N_263).2.1
                          refine aw_aload_n (n := 270) dX3_factorForm_269 rfl 0 rfl rfl ?_
                          refine aw_ldcwS (n := 273) (q := 19) dX3_factorForm_270 125 rfl rfl ?_
                          refine aw_know (fun gd_37 hi_37 => ?_)
                          refine aw_callV (n := 276) (C0 := RX3) (As := [.ref (gT G 19)]) (rest := []) (K2 := kX3_takes) dX3_factorForm_273 q2822 q2824 qs49 q113 q2825 ⟨rfl, hcX3_takes⟩ rfl hT_263.1 (cf_takes G h_263 b ms T N (a_254 + 1) hb hT_263 hS N_263 a_263 _ (sw 19) (str_at gd_37 hi_37 (i := 19) rfl) (lo_at (i := 19) rfl)) rfl (Nat.le_of_ble_eq_true rfl) ⟨by dsimp only [kX3_formulaForm, kX3_rowForm, kX3_sinceForm, kX3_oneForm, kX3_expressionForm, kX3_productForm, kX3_factorForm, kX3_bracesForm, kX3_sees, kX3_goes, kX3_takes, kX3_takesName, kX3_takesNumber, kX3_which, kX3_isName, kX3_boundsForm, kJ12_length, fK]; omega, by dsimp only [kX3_formulaForm, kX3_rowForm, kX3_sinceForm, kX3_oneForm, kX3_expressionForm, kX3_productForm, kX3_factorForm, kX3_bracesForm, kX3_sees, kX3_goes, kX3_takes, kX3_takesName, kX3_takesNumber, kX3_which, kX3_isName, kX3_boundsForm, kJ12_length, fK]; omega⟩ ⟨Nat.zero_le _, Nat.zero_le _⟩ (fun _ _ _ z => z.elim) rfl (fun r_273 h_273 q_273 => ?_)
                          obtain ⟨rfl, hT_273, hF_273, hz_273⟩ := q_273
                          have hG_273 := Fr.trans hG_263 hF_273
                          refine AW.sts (st' := [.int (bI (seesP T (a_254 + 1) (sw 19)))]) rfl ?_
                          refine aw_if_eq (n := 279) (tgt := 313) dX3_factorForm_276 (by decide) rfl (fun c_276 => ?_) (fun c_276 => ?_)
                          · skip
                            have b_276 : (seesP T (a_254 + 1) (sw 19)) = false := (bI_0 _).mp c_276
                            rw [if_neg (by rw [b_276]; decide)] at hT_273
                            refine aw_iconst (n := 314) (v := 0) dX3_factorForm_313 (by decide) rfl ?_
                            exact aw_zret dX3_factorForm_314 rfl (by decide) ⟨false, a_254 + 1, rfl, hT_273, hG_273, (by omega), (fH.tF g_36 b_276)⟩ ⟨Nat.zero_le _, Nat.zero_le _⟩
                          · skip
                            have b_276 : (seesP T (a_254 + 1) (sw 19)) = true := Bool.of_not_eq_false (fun e => c_276 ((bI_0 _).mpr e))
                            rw [if_pos b_276] at hT_273
                            have t_273 := seesP_lt b_276
                            have N_273 : a_254 + 1 + 1 ≤ N := lt_end hS.2.1 N_263 t_273.2
                            have a_273 : a_254 + 1 + 1 ≤ 400 := by omega
                            have g_39 := fH.tT g_36 b_276
                            try dsimp only at g_39
                            have K_40 := (hS.1 ((a_254 + 1) + 1) N_273).2.1
                            refine aw_aload_n (n := 280) dX3_factorForm_279 rfl 0 rfl rfl ?_
                            refine aw_iload_n (n := 281) dX3_factorForm_280 rfl 1 rfl rfl ?_
                            refine aw_iconst (n := 282) (v := 1) dX3_factorForm_281 (by decide) rfl ?_
                            refine aw_iadd (n := 283) dX3_factorForm_282 rfl ?_
                            refine AW.sts (st' := [.int (nI (d + 1)), .ref b]) (by rw [show (nI d) + 1 = nI (d + 1) from (nI_1 _)]) ?_
                            have ne_283 : (qX T f 7 (d + 1) ((a_254 + 1) + 1)).1 ≠ 99 := fH.nb g_39 hne
                            have V_283 : qW T N ((a_254 + 1) + 1) (qX T f 7 (d + 1) ((a_254 + 1) + 1)) := qX_W hS.2.1 f 7 _ _ N_273 a_273
                            refine aw_callV (n := 286) (C0 := RX3) (As := [.int (nI (d + 1))]) (rest := []) (K2 := kX3_factorForm) dX3_factorForm_283 q2903 q2905 qs64 q113 q2906 ⟨rfl, hcX3_factorForm⟩ rfl hT_273.1 (ih 7 h_273 b ms T N ((a_254 + 1) + 1) (d + 1) (by decide) hb hT_273 hS N_273 a_273 (by omega) ne_283) rfl (Nat.le_of_ble_eq_true rfl) ⟨by dsimp only [kX3_formulaForm, kX3_rowForm, kX3_sinceForm, kX3_oneForm, kX3_expressionForm, kX3_productForm, kX3_factorForm, kX3_bracesForm, kX3_sees, kX3_goes, kX3_takes, kX3_takesName, kX3_takesNumber, kX3_which, kX3_isName, kX3_boundsForm, kJ12_length, fK]; omega, by dsimp only [kX3_formulaForm, kX3_rowForm, kX3_sinceForm, kX3_oneForm, kX3_expressionForm, kX3_productForm, kX3_factorForm, kX3_bracesForm, kX3_sees, kX3_goes, kX3_takes, kX3_takesName, kX3_takesNumber, kX3_which, kX3_isName, kX3_boundsForm, kJ12_length, fK]; omega⟩ ⟨Nat.zero_le _, Nat.zero_le _⟩ (fun _ _ _ z => z.elim) rfl (fun r_283 h_283 q_283 => ?_)
                            obtain ⟨z_283, a_283, rfl, hT_283, hF_283, hz_283, fq_283⟩ := q_283
                            have W_283 : a_283 ≤ N ∧ a_283 ≤ 400 := by rw [fq_283.1]; exact V_283.2
                            have hG_283 := Fr.trans hG_273 hF_283
                            refine AW.sts (st' := [.int (bI z_283)]) rfl ?_
                            refine aw_if_eq (n := 289) (tgt := 313) dX3_factorForm_286 (by decide) rfl (fun c_286 => ?_) (fun c_286 => ?_)
                            · skip
                              have b_286 : z_283 = false := (bI_0 _).mp c_286
                              have f_283 : fQ T false a_283 _ := b_286 ▸ fq_283
                              have K_41 := (hS.1 a_283 W_283.1).2.1
                              refine aw_iconst (n := 314) (v := 0) dX3_factorForm_313 (by decide) rfl ?_
                              exact aw_zret dX3_factorForm_314 rfl (by decide) ⟨false, a_283, rfl, hT_283, hG_283, (by omega), (fH.fail g_39 f_283 (by first | exact qPc_4 T _ _ | exact qLp_4 (gOr_4 T) _ | exact qLp_4 (gAnd_4 T) _ | exact qLp_4 (gSum_4 T) _ | exact qLp_4 (gPro_4 T) _ | simp [qb_0, qb_1, qb_4, qX_4, seesP_4, nmP_4, nuP_4, whP_4, qT_4, qNm_4, qNu_4, qBd_4, qBr_4, qBo, qI_f, gOr_4, gAnd_4, gSum_4, gPro_4, qLp_4]))⟩ ⟨Nat.zero_le _, Nat.zero_le _⟩
                            · skip
                              have b_286 : z_283 = true := Bool.of_not_eq_false (fun e => c_286 ((bI_0 _).mpr e))
                              have f_283 : fQ T true a_283 _ := b_286 ▸ fq_283
                              have g_42 := fH.step g_39 f_283
                              try dsimp only at g_42
                              have K_43 := (hS.1 a_283 W_283.1).2.1
                              refine aw_aload_n (n := 290) dX3_factorForm_289 rfl 0 rfl rfl ?_
                              refine aw_ldcwS (n := 293) (q := 20) dX3_factorForm_290 126 rfl rfl ?_
                              refine aw_know (fun gd_43 hi_43 => ?_)
                              refine aw_callV (n := 296) (C0 := RX3) (As := [.ref (gT G 20)]) (rest := []) (K2 := kX3_takes) dX3_factorForm_293 q2822 q2824 qs49 q113 q2825 ⟨rfl, hcX3_takes⟩ rfl hT_283.1 (cf_takes G h_283 b ms T N a_283 hb hT_283 hS W_283.1 W_283.2 _ (sw 20) (str_at gd_43 hi_43 (i := 20) rfl) (lo_at (i := 20) rfl)) rfl (Nat.le_of_ble_eq_true rfl) ⟨by dsimp only [kX3_formulaForm, kX3_rowForm, kX3_sinceForm, kX3_oneForm, kX3_expressionForm, kX3_productForm, kX3_factorForm, kX3_bracesForm, kX3_sees, kX3_goes, kX3_takes, kX3_takesName, kX3_takesNumber, kX3_which, kX3_isName, kX3_boundsForm, kJ12_length, fK]; omega, by dsimp only [kX3_formulaForm, kX3_rowForm, kX3_sinceForm, kX3_oneForm, kX3_expressionForm, kX3_productForm, kX3_factorForm, kX3_bracesForm, kX3_sees, kX3_goes, kX3_takes, kX3_takesName, kX3_takesNumber, kX3_which, kX3_isName, kX3_boundsForm, kJ12_length, fK]; omega⟩ ⟨Nat.zero_le _, Nat.zero_le _⟩ (fun _ _ _ z => z.elim) rfl (fun r_293 h_293 q_293 => ?_)
                              obtain ⟨rfl, hT_293, hF_293, hz_293⟩ := q_293
                              have hG_293 := Fr.trans hG_283 hF_293
                              refine AW.sts (st' := [.int (bI (seesP T a_283 (sw 20)))]) rfl ?_
                              refine aw_if_eq (n := 299) (tgt := 313) dX3_factorForm_296 (by decide) rfl (fun c_296 => ?_) (fun c_296 => ?_)
                              · skip
                                have b_296 : (seesP T a_283 (sw 20)) = false := (bI_0 _).mp c_296
                                rw [if_neg (by rw [b_296]; decide)] at hT_293
                                refine aw_iconst (n := 314) (v := 0) dX3_factorForm_313 (by decide) rfl ?_
                                exact aw_zret dX3_factorForm_314 rfl (by decide) ⟨false, a_283, rfl, hT_293, hG_293, (by omega), (fH.tF g_42 b_296)⟩ ⟨Nat.zero_le _, Nat.zero_le _⟩
                              · skip
                                have b_296 : (seesP T a_283 (sw 20)) = true := Bool.of_not_eq_false (fun e => c_296 ((bI_0 _).mpr e))
                                rw [if_pos b_296] at hT_293
                                have t_293 := seesP_lt b_296
                                have N_293 : a_283 + 1 ≤ N := lt_end hS.2.1 W_283.1 t_293.2
                                have a_293 : a_283 + 1 ≤ 400 := by omega
                                have g_45 := fH.tT g_42 b_296
                                try dsimp only at g_45
                                have K_46 := (hS.1 (a_283 + 1) N_293).2.1
                                refine aw_aload_n (n := 300) dX3_factorForm_299 rfl 0 rfl rfl ?_
                                refine aw_iload_n (n := 301) dX3_factorForm_300 rfl 1 rfl rfl ?_
                                refine aw_iconst (n := 302) (v := 1) dX3_factorForm_301 (by decide) rfl ?_
                                refine aw_iadd (n := 303) dX3_factorForm_302 rfl ?_
                                refine AW.sts (st' := [.int (nI (d + 1)), .ref b]) (by rw [show (nI d) + 1 = nI (d + 1) from (nI_1 _)]) ?_
                                have ne_303 : (qX T f 7 (d + 1) (a_283 + 1)).1 ≠ 99 := fH.nt g_45 hne
                                have V_303 : qW T N (a_283 + 1) (qX T f 7 (d + 1) (a_283 + 1)) := qX_W hS.2.1 f 7 _ _ N_293 a_293
                                refine aw_callV (n := 306) (C0 := RX3) (As := [.int (nI (d + 1))]) (rest := []) (K2 := kX3_factorForm) dX3_factorForm_303 q2903 q2905 qs64 q113 q2906 ⟨rfl, hcX3_factorForm⟩ rfl hT_293.1 (ih 7 h_293 b ms T N (a_283 + 1) (d + 1) (by decide) hb hT_293 hS N_293 a_293 (by omega) ne_303) rfl (Nat.le_of_ble_eq_true rfl) ⟨by dsimp only [kX3_formulaForm, kX3_rowForm, kX3_sinceForm, kX3_oneForm, kX3_expressionForm, kX3_productForm, kX3_factorForm, kX3_bracesForm, kX3_sees, kX3_goes, kX3_takes, kX3_takesName, kX3_takesNumber, kX3_which, kX3_isName, kX3_boundsForm, kJ12_length, fK]; omega, by dsimp only [kX3_formulaForm, kX3_rowForm, kX3_sinceForm, kX3_oneForm, kX3_expressionForm, kX3_productForm, kX3_factorForm, kX3_bracesForm, kX3_sees, kX3_goes, kX3_takes, kX3_takesName, kX3_takesNumber, kX3_which, kX3_isName, kX3_boundsForm, kJ12_length, fK]; omega⟩ ⟨Nat.zero_le _, Nat.zero_le _⟩ (fun _ _ _ z => z.elim) rfl (fun r_303 h_303 q_303 => ?_)
                                obtain ⟨z_303, a_303, rfl, hT_303, hF_303, hz_303, fq_303⟩ := q_303
                                have W_303 : a_303 ≤ N ∧ a_303 ≤ 400 := by rw [fq_303.1]; exact V_303.2
                                have hG_303 := Fr.trans hG_293 hF_303
                                refine AW.sts (st' := [.int (bI z_303)]) rfl ?_
                                refine aw_if_eq (n := 309) (tgt := 313) dX3_factorForm_306 (by decide) rfl (fun c_306 => ?_) (fun c_306 => ?_)
                                · skip
                                  have b_306 : z_303 = false := (bI_0 _).mp c_306
                                  have f_303 : fQ T false a_303 _ := b_306 ▸ fq_303
                                  have K_47 := (hS.1 a_303 W_303.1).2.1
                                  refine aw_iconst (n := 314) (v := 0) dX3_factorForm_313 (by decide) rfl ?_
                                  exact aw_zret dX3_factorForm_314 rfl (by decide) ⟨false, a_303, rfl, hT_303, hG_303, (by omega), (g_45.1 _ _ f_303)⟩ ⟨Nat.zero_le _, Nat.zero_le _⟩
                                · skip
                                  have b_306 : z_303 = true := Bool.of_not_eq_false (fun e => c_306 ((bI_0 _).mpr e))
                                  have f_303 : fQ T true a_303 _ := b_306 ▸ fq_303
                                  have K_48 := (hS.1 a_303 W_303.1).2.1
                                  refine aw_iconst (n := 310) (v := 1) dX3_factorForm_309 (by decide) rfl ?_
                                  refine aw_goto (tgt := 314) dX3_factorForm_310 (by decide) ?_
                                  exact aw_zret dX3_factorForm_314 rfl (by decide) ⟨true, a_303, rfl, hT_303, hG_303, (by omega), (g_45.1 _ _ f_303)⟩ ⟨Nat.zero_le _, Nat.zero_le _⟩
                  · skip
                    have b_199 : (seesB T a (sw 26)) = true := Bool.of_not_eq_false (fun e => c_199 ((bI_0 _).mpr e))
                    refine aw_aload_n (n := 203) dX3_factorForm_202 rfl 0 rfl rfl ?_
                    refine aw_callV (n := 206) (C0 := RX3) (As := []) (rest := []) (K2 := kX3_goes) dX3_factorForm_203 q2836 q2838 qs52 q113 q2839 ⟨rfl, hcX3_goes⟩ rfl hT.1 (ct_goes G h b (ats ms a) hb hT a rfl ha4) rfl (Nat.le_of_ble_eq_true rfl) ⟨by dsimp only [kX3_formulaForm, kX3_rowForm, kX3_sinceForm, kX3_oneForm, kX3_expressionForm, kX3_productForm, kX3_factorForm, kX3_bracesForm, kX3_sees, kX3_goes, kX3_takes, kX3_takesName, kX3_takesNumber, kX3_which, kX3_isName, kX3_boundsForm, kJ12_length, fK]; omega, by dsimp only [kX3_formulaForm, kX3_rowForm, kX3_sinceForm, kX3_oneForm, kX3_expressionForm, kX3_productForm, kX3_factorForm, kX3_bracesForm, kX3_sees, kX3_goes, kX3_takes, kX3_takesName, kX3_takesNumber, kX3_which, kX3_isName, kX3_boundsForm, kJ12_length, fK]; omega⟩ ⟨Nat.zero_le _, Nat.zero_le _⟩ (fun _ _ _ z => z.elim) rfl (fun r_203 h_203 q_203 => ?_)
                    obtain ⟨rfl, hT_203, hF_203, hz_203⟩ := q_203
                    refine AW.sts (st' := [.int (bI (a != 400))]) rfl ?_
                    refine aw_if_eq (n := 209) (tgt := 240) dX3_factorForm_206 (by decide) rfl (fun c_206 => ?_) (fun c_206 => ?_)
                    · skip
                      have b_206 : (a != 400) = false := (bI_0 _).mp c_206
                      have e_203 : a = 400 := by simpa using b_206
                      have ne_203 : T.1 a ≠ 0 := by first | exact seesB_ne (by assumption) | exact isNm_ne (by assumption) | exact whT_lt (by assumption) | omega
                      have hU_203 : TW b h_203 (ats ms a) := by rw [e_203, goM_400] at hT_203; rw [e_203]; exact hT_203
                      have fq_203 : fQ T false a (qX T (f + 1) 7 d a) := by have z := g_26; rw [e_203] at z ne_203 ⊢; exact z.stay (by first | exact qPc_4 T _ _ | exact qLp_4 (gOr_4 T) _ | exact qLp_4 (gAnd_4 T) _ | exact qLp_4 (gSum_4 T) _ | exact qLp_4 (gPro_4 T) _ | simp [qb_0, qb_1, qb_4, qX_4, seesP_4, nmP_4, nuP_4, whP_4, qT_4, qNm_4, qNu_4, qBd_4, qBr_4, qBo, qI_f, gOr_4, gAnd_4, gSum_4, gPro_4, qLp_4]) ne_203
                      refine aw_iconst (n := 241) (v := 0) dX3_factorForm_240 (by decide) rfl ?_
                      exact aw_zret dX3_factorForm_241 rfl (by decide) ⟨false, a, rfl, hU_203, hF_203, (by omega), fq_203⟩ ⟨Nat.zero_le _, Nat.zero_le _⟩
                    · skip
                      have b_206 : (a != 400) = true := Bool.of_not_eq_false (fun e => c_206 ((bI_0 _).mpr e))
                      have l_203 : a < 400 := by have z : a ≠ 400 := (by simpa using b_206); omega
                      have ne_203 : T.1 a ≠ 0 := by first | exact seesB_ne (by assumption) | exact isNm_ne (by assumption) | exact whT_lt (by assumption) | omega
                      rw [goM_lt (by omega), tS_tS] at hT_203
                      have g_49 := fH.T g_26 (by first | assumption | simp [seesP, nmP, nuP, gOr, gAnd, gSum, gPro, n_10, b_21, b_31, b_41, b_56, c_110, w_110, b_149, b_159, b_199, l_203])
                      try dsimp only at g_49
                      have N_203 : a + 1 ≤ N := lt_end hS.2.1 hN ne_203
                      have a_203 : a + 1 ≤ 400 := by omega
                      have K_50 := (hS.1 (a + 1) N_203).2.1
                      refine aw_aload_n (n := 210) dX3_factorForm_209 rfl 0 rfl rfl ?_
                      refine aw_iload_n (n := 211) dX3_factorForm_210 rfl 1 rfl rfl ?_
                      have ne_211 : (qBr T (qX T f) d (a + 1)).1 ≠ 99 := fH.nb g_49 hne
                      have V_211 : qW T N (a + 1) (qBr T (qX T f) d (a + 1)) := qBr_W hS.2.1 f _ _ N_203 a_203
                      refine aw_callV (n := 214) (C0 := RX3) (As := [.int (nI d)]) (rest := []) (K2 := kX3_bracesForm) dX3_factorForm_211 q2915 q2917 qs65 q113 q2918 ⟨rfl, hcX3_bracesForm⟩ rfl hT_203.1 (cf_braces G h_203 b ms T N (a + 1) hb hT_203 hS N_203 a_203 f d (by omega) ne_211 ih) rfl (Nat.le_of_ble_eq_true rfl) ⟨by dsimp only [kX3_formulaForm, kX3_rowForm, kX3_sinceForm, kX3_oneForm, kX3_expressionForm, kX3_productForm, kX3_factorForm, kX3_bracesForm, kX3_sees, kX3_goes, kX3_takes, kX3_takesName, kX3_takesNumber, kX3_which, kX3_isName, kX3_boundsForm, kJ12_length, fK]; omega, by dsimp only [kX3_formulaForm, kX3_rowForm, kX3_sinceForm, kX3_oneForm, kX3_expressionForm, kX3_productForm, kX3_factorForm, kX3_bracesForm, kX3_sees, kX3_goes, kX3_takes, kX3_takesName, kX3_takesNumber, kX3_which, kX3_isName, kX3_boundsForm, kJ12_length, fK]; omega⟩ ⟨Nat.zero_le _, Nat.zero_le _⟩ (fun _ _ _ z => z.elim) rfl (fun r_211 h_211 q_211 => ?_)
                      obtain ⟨z_211, a_211, rfl, hT_211, hF_211, hz_211, fq_211⟩ := q_211
                      have W_211 : a_211 ≤ N ∧ a_211 ≤ 400 := by rw [fq_211.1]; exact V_211.2
                      have hG_211 := Fr.trans hF_203 hF_211
                      refine AW.sts (st' := [.int (bI z_211)]) rfl ?_
                      refine aw_if_eq (n := 217) (tgt := 240) dX3_factorForm_214 (by decide) rfl (fun c_214 => ?_) (fun c_214 => ?_)
                      · skip
                        have b_214 : z_211 = false := (bI_0 _).mp c_214
                        have f_211 : fQ T false a_211 _ := b_214 ▸ fq_211
                        have K_51 := (hS.1 a_211 W_211.1).2.1
                        refine aw_iconst (n := 241) (v := 0) dX3_factorForm_240 (by decide) rfl ?_
                        exact aw_zret dX3_factorForm_241 rfl (by decide) ⟨false, a_211, rfl, hT_211, hG_211, (by omega), (fH.fail g_49 f_211 (by first | exact qPc_4 T _ _ | exact qLp_4 (gOr_4 T) _ | exact qLp_4 (gAnd_4 T) _ | exact qLp_4 (gSum_4 T) _ | exact qLp_4 (gPro_4 T) _ | simp [qb_0, qb_1, qb_4, qX_4, seesP_4, nmP_4, nuP_4, whP_4, qT_4, qNm_4, qNu_4, qBd_4, qBr_4, qBo, qI_f, gOr_4, gAnd_4, gSum_4, gPro_4, qLp_4]))⟩ ⟨Nat.zero_le _, Nat.zero_le _⟩
                      · skip
                        have b_214 : z_211 = true := Bool.of_not_eq_false (fun e => c_214 ((bI_0 _).mpr e))
                        have f_211 : fQ T true a_211 _ := b_214 ▸ fq_211
                        have d9_211 := qBr_d (f_211.2.1 rfl)
                        have g_52 := fH.step g_49 f_211
                        try dsimp only at g_52
                        have K_53 := (hS.1 a_211 W_211.1).2.1
                        refine aw_aload_n (n := 218) dX3_factorForm_217 rfl 0 rfl rfl ?_
                        refine aw_ldcS (n := 220) (q := 50) dX3_factorForm_218 109 rfl rfl ?_
                        refine aw_know (fun gd_53 hi_53 => ?_)
                        refine aw_callV (n := 223) (C0 := RX3) (As := [.ref (gT G 50)]) (rest := []) (K2 := kX3_takes) dX3_factorForm_220 q2822 q2824 qs49 q113 q2825 ⟨rfl, hcX3_takes⟩ rfl hT_211.1 (cf_takes G h_211 b ms T N a_211 hb hT_211 hS W_211.1 W_211.2 _ (sw 50) (str_at gd_53 hi_53 (i := 50) rfl) (lo_at (i := 50) rfl)) rfl (Nat.le_of_ble_eq_true rfl) ⟨by dsimp only [kX3_formulaForm, kX3_rowForm, kX3_sinceForm, kX3_oneForm, kX3_expressionForm, kX3_productForm, kX3_factorForm, kX3_bracesForm, kX3_sees, kX3_goes, kX3_takes, kX3_takesName, kX3_takesNumber, kX3_which, kX3_isName, kX3_boundsForm, kJ12_length, fK]; omega, by dsimp only [kX3_formulaForm, kX3_rowForm, kX3_sinceForm, kX3_oneForm, kX3_expressionForm, kX3_productForm, kX3_factorForm, kX3_bracesForm, kX3_sees, kX3_goes, kX3_takes, kX3_takesName, kX3_takesNumber, kX3_which, kX3_isName, kX3_boundsForm, kJ12_length, fK]; omega⟩ ⟨Nat.zero_le _, Nat.zero_le _⟩ (fun _ _ _ z => z.elim) rfl (fun r_220 h_220 q_220 => ?_)
                        obtain ⟨rfl, hT_220, hF_220, hz_220⟩ := q_220
                        have hG_220 := Fr.trans hG_211 hF_220
                        refine AW.sts (st' := [.int (bI (seesP T a_211 (sw 50)))]) rfl ?_
                        refine aw_if_eq (n := 226) (tgt := 240) dX3_factorForm_223 (by decide) rfl (fun c_223 => ?_) (fun c_223 => ?_)
                        · skip
                          have b_223 : (seesP T a_211 (sw 50)) = false := (bI_0 _).mp c_223
                          rw [if_neg (by rw [b_223]; decide)] at hT_220
                          refine aw_iconst (n := 241) (v := 0) dX3_factorForm_240 (by decide) rfl ?_
                          exact aw_zret dX3_factorForm_241 rfl (by decide) ⟨false, a_211, rfl, hT_220, hG_220, (by omega), (fH.tF g_52 b_223)⟩ ⟨Nat.zero_le _, Nat.zero_le _⟩
                        · skip
                          have b_223 : (seesP T a_211 (sw 50)) = true := Bool.of_not_eq_false (fun e => c_223 ((bI_0 _).mpr e))
                          rw [if_pos b_223] at hT_220
                          have t_220 := seesP_lt b_223
                          have N_220 : a_211 + 1 ≤ N := lt_end hS.2.1 W_211.1 t_220.2
                          have a_220 : a_211 + 1 ≤ 400 := by omega
                          have g_55 := fH.tT g_52 b_223
                          try dsimp only at g_55
                          have K_56 := (hS.1 (a_211 + 1) N_220).2.1
                          refine aw_aload_n (n := 227) dX3_factorForm_226 rfl 0 rfl rfl ?_
                          refine aw_iload_n (n := 228) dX3_factorForm_227 rfl 1 rfl rfl ?_
                          refine aw_iconst (n := 229) (v := 1) dX3_factorForm_228 (by decide) rfl ?_
                          refine aw_iadd (n := 230) dX3_factorForm_229 rfl ?_
                          refine AW.sts (st' := [.int (nI (d + 1)), .ref b]) (by rw [show (nI d) + 1 = nI (d + 1) from (nI_1 _)]) ?_
                          have ne_230 : (qX T f 7 (d + 1) (a_211 + 1)).1 ≠ 99 := fH.nt g_55 hne
                          have V_230 : qW T N (a_211 + 1) (qX T f 7 (d + 1) (a_211 + 1)) := qX_W hS.2.1 f 7 _ _ N_220 a_220
                          refine aw_callV (n := 233) (C0 := RX3) (As := [.int (nI (d + 1))]) (rest := []) (K2 := kX3_factorForm) dX3_factorForm_230 q2903 q2905 qs64 q113 q2906 ⟨rfl, hcX3_factorForm⟩ rfl hT_220.1 (ih 7 h_220 b ms T N (a_211 + 1) (d + 1) (by decide) hb hT_220 hS N_220 a_220 (by omega) ne_230) rfl (Nat.le_of_ble_eq_true rfl) ⟨by dsimp only [kX3_formulaForm, kX3_rowForm, kX3_sinceForm, kX3_oneForm, kX3_expressionForm, kX3_productForm, kX3_factorForm, kX3_bracesForm, kX3_sees, kX3_goes, kX3_takes, kX3_takesName, kX3_takesNumber, kX3_which, kX3_isName, kX3_boundsForm, kJ12_length, fK]; omega, by dsimp only [kX3_formulaForm, kX3_rowForm, kX3_sinceForm, kX3_oneForm, kX3_expressionForm, kX3_productForm, kX3_factorForm, kX3_bracesForm, kX3_sees, kX3_goes, kX3_takes, kX3_takesName, kX3_takesNumber, kX3_which, kX3_isName, kX3_boundsForm, kJ12_length, fK]; omega⟩ ⟨Nat.zero_le _, Nat.zero_le _⟩ (fun _ _ _ z => z.elim) rfl (fun r_230 h_230 q_230 => ?_)
                          obtain ⟨z_230, a_230, rfl, hT_230, hF_230, hz_230, fq_230⟩ := q_230
                          have W_230 : a_230 ≤ N ∧ a_230 ≤ 400 := by rw [fq_230.1]; exact V_230.2
                          have hG_230 := Fr.trans hG_220 hF_230
                          refine AW.sts (st' := [.int (bI z_230)]) rfl ?_
                          refine aw_if_eq (n := 236) (tgt := 240) dX3_factorForm_233 (by decide) rfl (fun c_233 => ?_) (fun c_233 => ?_)
                          · skip
                            have b_233 : z_230 = false := (bI_0 _).mp c_233
                            have f_230 : fQ T false a_230 _ := b_233 ▸ fq_230
                            have K_57 := (hS.1 a_230 W_230.1).2.1
                            refine aw_iconst (n := 241) (v := 0) dX3_factorForm_240 (by decide) rfl ?_
                            exact aw_zret dX3_factorForm_241 rfl (by decide) ⟨false, a_230, rfl, hT_230, hG_230, (by omega), (g_55.1 _ _ f_230)⟩ ⟨Nat.zero_le _, Nat.zero_le _⟩
                          · skip
                            have b_233 : z_230 = true := Bool.of_not_eq_false (fun e => c_233 ((bI_0 _).mpr e))
                            have f_230 : fQ T true a_230 _ := b_233 ▸ fq_230
                            have K_58 := (hS.1 a_230 W_230.1).2.1
                            refine aw_iconst (n := 237) (v := 1) dX3_factorForm_236 (by decide) rfl ?_
                            refine aw_goto (tgt := 241) dX3_factorForm_237 (by decide) ?_
                            exact aw_zret dX3_factorForm_241 rfl (by decide) ⟨true, a_230, rfl, hT_230, hG_230, (by omega), (g_55.1 _ _ f_230)⟩ ⟨Nat.zero_le _, Nat.zero_le _⟩
                · skip
                  have b_159 : (seesB T a (sw 27)) = true := Bool.of_not_eq_false (fun e => c_159 ((bI_0 _).mpr e))
                  refine aw_aload_n (n := 163) dX3_factorForm_162 rfl 0 rfl rfl ?_
                  refine aw_callV (n := 166) (C0 := RX3) (As := []) (rest := []) (K2 := kX3_goes) dX3_factorForm_163 q2836 q2838 qs52 q113 q2839 ⟨rfl, hcX3_goes⟩ rfl hT.1 (ct_goes G h b (ats ms a) hb hT a rfl ha4) rfl (Nat.le_of_ble_eq_true rfl) ⟨by dsimp only [kX3_formulaForm, kX3_rowForm, kX3_sinceForm, kX3_oneForm, kX3_expressionForm, kX3_productForm, kX3_factorForm, kX3_bracesForm, kX3_sees, kX3_goes, kX3_takes, kX3_takesName, kX3_takesNumber, kX3_which, kX3_isName, kX3_boundsForm, kJ12_length, fK]; omega, by dsimp only [kX3_formulaForm, kX3_rowForm, kX3_sinceForm, kX3_oneForm, kX3_expressionForm, kX3_productForm, kX3_factorForm, kX3_bracesForm, kX3_sees, kX3_goes, kX3_takes, kX3_takesName, kX3_takesNumber, kX3_which, kX3_isName, kX3_boundsForm, kJ12_length, fK]; omega⟩ ⟨Nat.zero_le _, Nat.zero_le _⟩ (fun _ _ _ z => z.elim) rfl (fun r_163 h_163 q_163 => ?_)
                  obtain ⟨rfl, hT_163, hF_163, hz_163⟩ := q_163
                  refine AW.sts (st' := [.int (bI (a != 400))]) rfl ?_
                  refine aw_if_eq (n := 169) (tgt := 190) dX3_factorForm_166 (by decide) rfl (fun c_166_2 => ?_) (fun c_166_2 => ?_)
                  · skip
                    have b_166_2 : (a != 400) = false := (bI_0 _).mp c_166_2
                    have e_163 : a = 400 := by simpa using b_166_2
                    have ne_163 : T.1 a ≠ 0 := by first | exact seesB_ne (by assumption) | exact isNm_ne (by assumption) | exact whT_lt (by assumption) | omega
                    have hU_163 : TW b h_163 (ats ms a) := by rw [e_163, goM_400] at hT_163; rw [e_163]; exact hT_163
                    have fq_163 : fQ T false a (qX T (f + 1) 7 d a) := by have z := g_15; rw [e_163] at z ne_163 ⊢; exact z.stay (by first | exact qPc_4 T _ _ | exact qLp_4 (gOr_4 T) _ | exact qLp_4 (gAnd_4 T) _ | exact qLp_4 (gSum_4 T) _ | exact qLp_4 (gPro_4 T) _ | simp [qb_0, qb_1, qb_4, qX_4, seesP_4, nmP_4, nuP_4, whP_4, qT_4, qNm_4, qNu_4, qBd_4, qBr_4, qBo, qI_f, gOr_4, gAnd_4, gSum_4, gPro_4, qLp_4]) ne_163
                    refine aw_iconst (n := 191) (v := 0) dX3_factorForm_190 (by decide) rfl ?_
                    exact aw_zret dX3_factorForm_191 rfl (by decide) ⟨false, a, rfl, hU_163, hF_163, (by omega), fq_163⟩ ⟨Nat.zero_le _, Nat.zero_le _⟩
                  · skip
                    have b_166_2 : (a != 400) = true := Bool.of_not_eq_false (fun e => c_166_2 ((bI_0 _).mpr e))
                    have l_163 : a < 400 := by have z : a ≠ 400 := (by simpa using b_166_2); omega
                    have ne_163 : T.1 a ≠ 0 := by first | exact seesB_ne (by assumption) | exact isNm_ne (by assumption) | exact whT_lt (by assumption) | omega
                    rw [goM_lt (by omega), tS_tS] at hT_163
                    have g_59 := fH.T g_15 (by first | assumption | simp [seesP, nmP, nuP, gOr, gAnd, gSum, gPro, n_10, b_21, b_31, b_41, b_56, c_110, w_110, b_149, b_159, l_163])
                    try dsimp only at g_59
                    have N_163 : a + 1 ≤ N := lt_end hS.2.1 hN ne_163
                    have a_163 : a + 1 ≤ 400 := by omega
                    have K_60 := (hS.1 (a + 1) N_163).2.1
                    refine aw_aload_n (n := 170) dX3_factorForm_169 rfl 0 rfl rfl ?_
                    refine aw_iload_n (n := 171) dX3_factorForm_170 rfl 1 rfl rfl ?_
                    have ne_171 : (qBr T (qX T f) d (a + 1)).1 ≠ 99 := fH.nb g_59 hne
                    have V_171 : qW T N (a + 1) (qBr T (qX T f) d (a + 1)) := qBr_W hS.2.1 f _ _ N_163 a_163
                    refine aw_callV (n := 174) (C0 := RX3) (As := [.int (nI d)]) (rest := []) (K2 := kX3_bracesForm) dX3_factorForm_171 q2915 q2917 qs65 q113 q2918 ⟨rfl, hcX3_bracesForm⟩ rfl hT_163.1 (cf_braces G h_163 b ms T N (a + 1) hb hT_163 hS N_163 a_163 f d (by omega) ne_171 ih) rfl (Nat.le_of_ble_eq_true rfl) ⟨by dsimp only [kX3_formulaForm, kX3_rowForm, kX3_sinceForm, kX3_oneForm, kX3_expressionForm, kX3_productForm, kX3_factorForm, kX3_bracesForm, kX3_sees, kX3_goes, kX3_takes, kX3_takesName, kX3_takesNumber, kX3_which, kX3_isName, kX3_boundsForm, kJ12_length, fK]; omega, by dsimp only [kX3_formulaForm, kX3_rowForm, kX3_sinceForm, kX3_oneForm, kX3_expressionForm, kX3_productForm, kX3_factorForm, kX3_bracesForm, kX3_sees, kX3_goes, kX3_takes, kX3_takesName, kX3_takesNumber, kX3_which, kX3_isName, kX3_boundsForm, kJ12_length, fK]; omega⟩ ⟨Nat.zero_le _, Nat.zero_le _⟩ (fun _ _ _ z => z.elim) rfl (fun r_171 h_171 q_171 => ?_)
                    obtain ⟨z_171, a_171, rfl, hT_171, hF_171, hz_171, fq_171⟩ := q_171
                    have W_171 : a_171 ≤ N ∧ a_171 ≤ 400 := by rw [fq_171.1]; exact V_171.2
                    have hG_171 := Fr.trans hF_163 hF_171
                    refine AW.sts (st' := [.int (bI z_171)]) rfl ?_
                    refine aw_if_eq (n := 177) (tgt := 190) dX3_factorForm_174 (by decide) rfl (fun c_174_2 => ?_) (fun c_174_2 => ?_)
                    · skip
                      have b_174_2 : z_171 = false := (bI_0 _).mp c_174_2
                      have f_171 : fQ T false a_171 _ := b_174_2 ▸ fq_171
                      have K_61 := (hS.1 a_171 W_171.1).2.1
                      refine aw_iconst (n := 191) (v := 0) dX3_factorForm_190 (by decide) rfl ?_
                      exact aw_zret dX3_factorForm_191 rfl (by decide) ⟨false, a_171, rfl, hT_171, hG_171, (by omega), (fH.fail g_59 f_171 (by first | exact qPc_4 T _ _ | exact qLp_4 (gOr_4 T) _ | exact qLp_4 (gAnd_4 T) _ | exact qLp_4 (gSum_4 T) _ | exact qLp_4 (gPro_4 T) _ | simp [qb_0, qb_1, qb_4, qX_4, seesP_4, nmP_4, nuP_4, whP_4, qT_4, qNm_4, qNu_4, qBd_4, qBr_4, qBo, qI_f, gOr_4, gAnd_4, gSum_4, gPro_4, qLp_4]))⟩ ⟨Nat.zero_le _, Nat.zero_le _⟩
                    · skip
                      have b_174_2 : z_171 = true := Bool.of_not_eq_false (fun e => c_174_2 ((bI_0 _).mpr e))
                      have f_171 : fQ T true a_171 _ := b_174_2 ▸ fq_171
                      have d9_171 := qBr_d (f_171.2.1 rfl)
                      have g_62 := fH.step g_59 f_171
                      try dsimp only at g_62
                      have K_63 := (hS.1 a_171 W_171.1).2.1
                      refine aw_aload_n (n := 178) dX3_factorForm_177 rfl 0 rfl rfl ?_
                      refine aw_ldcS (n := 180) (q := 50) dX3_factorForm_178 109 rfl rfl ?_
                      refine aw_know (fun gd_63 hi_63 => ?_)
                      refine aw_callV (n := 183) (C0 := RX3) (As := [.ref (gT G 50)]) (rest := []) (K2 := kX3_takes) dX3_factorForm_180 q2822 q2824 qs49 q113 q2825 ⟨rfl, hcX3_takes⟩ rfl hT_171.1 (cf_takes G h_171 b ms T N a_171 hb hT_171 hS W_171.1 W_171.2 _ (sw 50) (str_at gd_63 hi_63 (i := 50) rfl) (lo_at (i := 50) rfl)) rfl (Nat.le_of_ble_eq_true rfl) ⟨by dsimp only [kX3_formulaForm, kX3_rowForm, kX3_sinceForm, kX3_oneForm, kX3_expressionForm, kX3_productForm, kX3_factorForm, kX3_bracesForm, kX3_sees, kX3_goes, kX3_takes, kX3_takesName, kX3_takesNumber, kX3_which, kX3_isName, kX3_boundsForm, kJ12_length, fK]; omega, by dsimp only [kX3_formulaForm, kX3_rowForm, kX3_sinceForm, kX3_oneForm, kX3_expressionForm, kX3_productForm, kX3_factorForm, kX3_bracesForm, kX3_sees, kX3_goes, kX3_takes, kX3_takesName, kX3_takesNumber, kX3_which, kX3_isName, kX3_boundsForm, kJ12_length, fK]; omega⟩ ⟨Nat.zero_le _, Nat.zero_le _⟩ (fun _ _ _ z => z.elim) rfl (fun r_180 h_180 q_180 => ?_)
                      obtain ⟨rfl, hT_180, hF_180, hz_180⟩ := q_180
                      have hG_180 := Fr.trans hG_171 hF_180
                      refine AW.sts (st' := [.int (bI (seesP T a_171 (sw 50)))]) rfl ?_
                      refine aw_if_eq (n := 186) (tgt := 190) dX3_factorForm_183 (by decide) rfl (fun c_183_2 => ?_) (fun c_183_2 => ?_)
                      · skip
                        have b_183_2 : (seesP T a_171 (sw 50)) = false := (bI_0 _).mp c_183_2
                        rw [if_neg (by rw [b_183_2]; decide)] at hT_180
                        refine aw_iconst (n := 191) (v := 0) dX3_factorForm_190 (by decide) rfl ?_
                        exact aw_zret dX3_factorForm_191 rfl (by decide) ⟨false, a_171, rfl, hT_180, hG_180, (by omega), (fH.lF g_62 b_183_2)⟩ ⟨Nat.zero_le _, Nat.zero_le _⟩
                      · skip
                        have b_183_2 : (seesP T a_171 (sw 50)) = true := Bool.of_not_eq_false (fun e => c_183_2 ((bI_0 _).mpr e))
                        rw [if_pos b_183_2] at hT_180
                        have t_180 := seesP_lt b_183_2
                        have N_180 : a_171 + 1 ≤ N := lt_end hS.2.1 W_171.1 t_180.2
                        have a_180 : a_171 + 1 ≤ 400 := by omega
                        have g_65 := fH.lT g_62 b_183_2
                        try dsimp only at g_65
                        have K_66 := (hS.1 (a_171 + 1) N_180).2.1
                        refine aw_iconst (n := 187) (v := 1) dX3_factorForm_186 (by decide) rfl ?_
                        refine aw_goto (tgt := 191) dX3_factorForm_187 (by decide) ?_
                        exact aw_zret dX3_factorForm_191 rfl (by decide) ⟨true, a_171 + 1, rfl, hT_180, hG_180, (by omega), (fH.ok g_65)⟩ ⟨Nat.zero_le _, Nat.zero_le _⟩
            · skip
              have v_110 : (whT T a (wlW 4) != -1) = true := bne_iff_ne.mpr c_110
              refine aw_iload_n (n := 114) dX3_factorForm_113 rfl 1 rfl rfl ?_
              refine aw_bipush (n := 116) (v := 10) dX3_factorForm_114 (by decide) rfl ?_
              refine aw_icmp_ge (n := 119) (tgt := 140) dX3_factorForm_116 (by decide) rfl (fun c_116 => ?_) (fun c_116 => ?_)
              · skip
                have n_116 : 10 ≤ d := (nI_leI (a := 10) (b := d) (by omega) (by omega)).mp (by rw [← ((by rfl) : (10 : Int32) = nI 10)]; exact c_116)
                have dd_116 : decide (d < 10) = false := by simp; omega
                have ne_116 : T.1 a ≠ 0 := by first | exact seesB_ne (by assumption) | exact isNm_ne (by assumption) | exact whT_lt (by assumption) | omega
                have fq_116 : fQ T false a (qX T (f + 1) 7 d a) := by
                  rcases Nat.lt_or_ge a 400 with l9 | l9
                  · exact fH.no (e := 0) (g_12.eq (by simp [qBo, whP, qb_0, qb_1, seesP, nmP, nuP, gOr, gAnd, gSum, gPro, l9, n_10, b_21, b_31, b_41, b_56, c_110, v_110, dd_116]))
                  · have e9 : a = 400 := by omega
                    have z9 := g_12
                    rw [e9] at z9 ne_116 ⊢
                    exact z9.stay (by first | exact qPc_4 T _ _ | exact qLp_4 (gOr_4 T) _ | exact qLp_4 (gAnd_4 T) _ | exact qLp_4 (gSum_4 T) _ | exact qLp_4 (gPro_4 T) _ | simp [qb_0, qb_1, qb_4, qX_4, seesP_4, nmP_4, nuP_4, whP_4, qT_4, qNm_4, qNu_4, qBd_4, qBr_4, qBo, qI_f, gOr_4, gAnd_4, gSum_4, gPro_4, qLp_4]) ne_116
                refine aw_iconst (n := 141) (v := 0) dX3_factorForm_140 (by decide) rfl ?_
                exact aw_zret dX3_factorForm_141 rfl (by decide) ⟨false, a, rfl, hT, Fr.rf, rfl, fq_116⟩ ⟨Nat.zero_le _, Nat.zero_le _⟩
              · skip
                have n_116 : ¬ (10 ≤ d) := fun z => c_116 (by have y := (nI_leI (a := 10) (b := d) (by omega) (by omega)).mpr z; rw [← ((by rfl) : (10 : Int32) = nI 10)] at y; exact y)
                have dd_116 : decide (d < 10) = true := by simp; omega
                refine aw_aload_n (n := 120) dX3_factorForm_119 rfl 0 rfl rfl ?_
                refine aw_callV (n := 123) (C0 := RX3) (As := []) (rest := []) (K2 := kX3_goes) dX3_factorForm_120 q2836 q2838 qs52 q113 q2839 ⟨rfl, hcX3_goes⟩ rfl hT.1 (ct_goes G h b (ats ms a) hb hT a rfl ha4) rfl (Nat.le_of_ble_eq_true rfl) ⟨by dsimp only [kX3_formulaForm, kX3_rowForm, kX3_sinceForm, kX3_oneForm, kX3_expressionForm, kX3_productForm, kX3_factorForm, kX3_bracesForm, kX3_sees, kX3_goes, kX3_takes, kX3_takesName, kX3_takesNumber, kX3_which, kX3_isName, kX3_boundsForm, kJ12_length, fK]; omega, by dsimp only [kX3_formulaForm, kX3_rowForm, kX3_sinceForm, kX3_oneForm, kX3_expressionForm, kX3_productForm, kX3_factorForm, kX3_bracesForm, kX3_sees, kX3_goes, kX3_takes, kX3_takesName, kX3_takesNumber, kX3_which, kX3_isName, kX3_boundsForm, kJ12_length, fK]; omega⟩ ⟨Nat.zero_le _, Nat.zero_le _⟩ (fun _ _ _ z => z.elim) rfl (fun r_120 h_120 q_120 => ?_)
                obtain ⟨rfl, hT_120, hF_120, hz_120⟩ := q_120
                refine AW.sts (st' := [.int (bI (a != 400))]) rfl ?_
                refine aw_if_eq (n := 126) (tgt := 140) dX3_factorForm_123 (by decide) rfl (fun c_123 => ?_) (fun c_123 => ?_)
                · skip
                  have b_123 : (a != 400) = false := (bI_0 _).mp c_123
                  have e_120 : a = 400 := by simpa using b_123
                  have ne_120 : T.1 a ≠ 0 := by first | exact seesB_ne (by assumption) | exact isNm_ne (by assumption) | exact whT_lt (by assumption) | omega
                  have hU_120 : TW b h_120 (ats ms a) := by rw [e_120, goM_400] at hT_120; rw [e_120]; exact hT_120
                  have fq_120 : fQ T false a (qX T (f + 1) 7 d a) := by have z := g_12; rw [e_120] at z ne_120 ⊢; exact z.stay (by first | exact qPc_4 T _ _ | exact qLp_4 (gOr_4 T) _ | exact qLp_4 (gAnd_4 T) _ | exact qLp_4 (gSum_4 T) _ | exact qLp_4 (gPro_4 T) _ | simp [qb_0, qb_1, qb_4, qX_4, seesP_4, nmP_4, nuP_4, whP_4, qT_4, qNm_4, qNu_4, qBd_4, qBr_4, qBo, qI_f, gOr_4, gAnd_4, gSum_4, gPro_4, qLp_4]) ne_120
                  refine aw_iconst (n := 141) (v := 0) dX3_factorForm_140 (by decide) rfl ?_
                  exact aw_zret dX3_factorForm_141 rfl (by decide) ⟨false, a, rfl, hU_120, hF_120, (by omega), fq_120⟩ ⟨Nat.zero_le _, Nat.zero_le _⟩
                · skip
                  have b_123 : (a != 400) = true := Bool.of_not_eq_false (fun e => c_123 ((bI_0 _).mpr e))
                  have l_120 : a < 400 := by have z : a ≠ 400 := (by simpa using b_123); omega
                  have ne_120 : T.1 a ≠ 0 := by first | exact seesB_ne (by assumption) | exact isNm_ne (by assumption) | exact whT_lt (by assumption) | omega
                  rw [goM_lt (by omega), tS_tS] at hT_120
                  have w_120 : (whP T a 4 != -1) = true := by rw [wh_at l_120]; exact v_110
                  have g_67 := fH.T g_12 (by first | assumption | simp [seesP, nmP, nuP, gOr, gAnd, gSum, gPro, n_10, b_21, b_31, b_41, b_56, c_110, v_110, dd_116, l_120, w_120])
                  try dsimp only at g_67
                  have g_68 := fH.T g_67 (by first | assumption | simp [seesP, nmP, nuP, gOr, gAnd, gSum, gPro, n_10, b_21, b_31, b_41, b_56, c_110, v_110, dd_116, l_120, w_120])
                  try dsimp only at g_68
                  have N_120 : a + 1 ≤ N := lt_end hS.2.1 hN ne_120
                  have a_120 : a + 1 ≤ 400 := by omega
                  have K_69 := (hS.1 (a + 1) N_120).2.1
                  refine aw_aload_n (n := 127) dX3_factorForm_126 rfl 0 rfl rfl ?_
                  refine aw_iload_n (n := 128) dX3_factorForm_127 rfl 1 rfl rfl ?_
                  refine aw_iconst (n := 129) (v := 1) dX3_factorForm_128 (by decide) rfl ?_
                  refine aw_iadd (n := 130) dX3_factorForm_129 rfl ?_
                  refine AW.sts (st' := [.int (nI (d + 1)), .ref b]) (by rw [show (nI d) + 1 = nI (d + 1) from (nI_1 _)]) ?_
                  have ne_130 : (qX T f 7 (d + 1) (a + 1)).1 ≠ 99 := fH.nt g_68 hne
                  have V_130 : qW T N (a + 1) (qX T f 7 (d + 1) (a + 1)) := qX_W hS.2.1 f 7 _ _ N_120 a_120
                  refine aw_callV (n := 133) (C0 := RX3) (As := [.int (nI (d + 1))]) (rest := []) (K2 := kX3_factorForm) dX3_factorForm_130 q2903 q2905 qs64 q113 q2906 ⟨rfl, hcX3_factorForm⟩ rfl hT_120.1 (ih 7 h_120 b ms T N (a + 1) (d + 1) (by decide) hb hT_120 hS N_120 a_120 (by omega) ne_130) rfl (Nat.le_of_ble_eq_true rfl) ⟨by dsimp only [kX3_formulaForm, kX3_rowForm, kX3_sinceForm, kX3_oneForm, kX3_expressionForm, kX3_productForm, kX3_factorForm, kX3_bracesForm, kX3_sees, kX3_goes, kX3_takes, kX3_takesName, kX3_takesNumber, kX3_which, kX3_isName, kX3_boundsForm, kJ12_length, fK]; omega, by dsimp only [kX3_formulaForm, kX3_rowForm, kX3_sinceForm, kX3_oneForm, kX3_expressionForm, kX3_productForm, kX3_factorForm, kX3_bracesForm, kX3_sees, kX3_goes, kX3_takes, kX3_takesName, kX3_takesNumber, kX3_which, kX3_isName, kX3_boundsForm, kJ12_length, fK]; omega⟩ ⟨Nat.zero_le _, Nat.zero_le _⟩ (fun _ _ _ z => z.elim) rfl (fun r_130 h_130 q_130 => ?_)
                  obtain ⟨z_130, a_130, rfl, hT_130, hF_130, hz_130, fq_130⟩ := q_130
                  have W_130 : a_130 ≤ N ∧ a_130 ≤ 400 := by rw [fq_130.1]; exact V_130.2
                  have hG_130 := Fr.trans hF_120 hF_130
                  refine AW.sts (st' := [.int (bI z_130)]) rfl ?_
                  refine aw_if_eq (n := 136) (tgt := 140) dX3_factorForm_133 (by decide) rfl (fun c_133 => ?_) (fun c_133 => ?_)
                  · skip
                    have b_133 : z_130 = false := (bI_0 _).mp c_133
                    have f_130 : fQ T false a_130 _ := b_133 ▸ fq_130
                    have K_70 := (hS.1 a_130 W_130.1).2.1
                    refine aw_iconst (n := 141) (v := 0) dX3_factorForm_140 (by decide) rfl ?_
                    exact aw_zret dX3_factorForm_141 rfl (by decide) ⟨false, a_130, rfl, hT_130, hG_130, (by omega), (g_68.1 _ _ f_130)⟩ ⟨Nat.zero_le _, Nat.zero_le _⟩
                  · skip
                    have b_133 : z_130 = true := Bool.of_not_eq_false (fun e => c_133 ((bI_0 _).mpr e))
                    have f_130 : fQ T true a_130 _ := b_133 ▸ fq_130
                    have K_71 := (hS.1 a_130 W_130.1).2.1
                    refine aw_iconst (n := 137) (v := 1) dX3_factorForm_136 (by decide) rfl ?_
                    refine aw_goto (tgt := 141) dX3_factorForm_137 (by decide) ?_
                    exact aw_zret dX3_factorForm_141 rfl (by decide) ⟨true, a_130, rfl, hT_130, hG_130, (by omega), (g_68.1 _ _ f_130)⟩ ⟨Nat.zero_le _, Nat.zero_le _⟩
          · skip
            have b_56 : (seesB T a (sw 51)) = true := Bool.of_not_eq_false (fun e => c_56 ((bI_0 _).mpr e))
            refine aw_iload_n (n := 60) dX3_factorForm_59 rfl 1 rfl rfl ?_
            refine aw_bipush (n := 62) (v := 10) dX3_factorForm_60 (by decide) rfl ?_
            refine aw_icmp_ge (n := 65) (tgt := 96) dX3_factorForm_62 (by decide) rfl (fun c_62 => ?_) (fun c_62 => ?_)
            · skip
              have n_62 : 10 ≤ d := (nI_leI (a := 10) (b := d) (by omega) (by omega)).mp (by rw [← ((by rfl) : (10 : Int32) = nI 10)]; exact c_62)
              have dd_62 : decide (d < 10) = false := by simp; omega
              have ne_62 : T.1 a ≠ 0 := by first | exact seesB_ne (by assumption) | exact isNm_ne (by assumption) | exact whT_lt (by assumption) | omega
              have fq_62 : fQ T false a (qX T (f + 1) 7 d a) := by
                rcases Nat.lt_or_ge a 400 with l9 | l9
                · exact fH.no (e := 0) (g_10.eq (by simp [qBo, whP, qb_0, qb_1, seesP, nmP, nuP, gOr, gAnd, gSum, gPro, l9, n_10, b_21, b_31, b_41, b_56, dd_62]))
                · have e9 : a = 400 := by omega
                  have z9 := g_10
                  rw [e9] at z9 ne_62 ⊢
                  exact z9.stay (by first | exact qPc_4 T _ _ | exact qLp_4 (gOr_4 T) _ | exact qLp_4 (gAnd_4 T) _ | exact qLp_4 (gSum_4 T) _ | exact qLp_4 (gPro_4 T) _ | simp [qb_0, qb_1, qb_4, qX_4, seesP_4, nmP_4, nuP_4, whP_4, qT_4, qNm_4, qNu_4, qBd_4, qBr_4, qBo, qI_f, gOr_4, gAnd_4, gSum_4, gPro_4, qLp_4]) ne_62
              refine aw_iconst (n := 97) (v := 0) dX3_factorForm_96 (by decide) rfl ?_
              exact aw_zret dX3_factorForm_97 rfl (by decide) ⟨false, a, rfl, hT, Fr.rf, rfl, fq_62⟩ ⟨Nat.zero_le _, Nat.zero_le _⟩
            · skip
              have n_62 : ¬ (10 ≤ d) := fun z => c_62 (by have y := (nI_leI (a := 10) (b := d) (by omega) (by omega)).mpr z; rw [← ((by rfl) : (10 : Int32) = nI 10)] at y; exact y)
              have dd_62 : decide (d < 10) = true := by simp; omega
              refine aw_aload_n (n := 66) dX3_factorForm_65 rfl 0 rfl rfl ?_
              refine aw_callV (n := 69) (C0 := RX3) (As := []) (rest := []) (K2 := kX3_goes) dX3_factorForm_66 q2836 q2838 qs52 q113 q2839 ⟨rfl, hcX3_goes⟩ rfl hT.1 (ct_goes G h b (ats ms a) hb hT a rfl ha4) rfl (Nat.le_of_ble_eq_true rfl) ⟨by dsimp only [kX3_formulaForm, kX3_rowForm, kX3_sinceForm, kX3_oneForm, kX3_expressionForm, kX3_productForm, kX3_factorForm, kX3_bracesForm, kX3_sees, kX3_goes, kX3_takes, kX3_takesName, kX3_takesNumber, kX3_which, kX3_isName, kX3_boundsForm, kJ12_length, fK]; omega, by dsimp only [kX3_formulaForm, kX3_rowForm, kX3_sinceForm, kX3_oneForm, kX3_expressionForm, kX3_productForm, kX3_factorForm, kX3_bracesForm, kX3_sees, kX3_goes, kX3_takes, kX3_takesName, kX3_takesNumber, kX3_which, kX3_isName, kX3_boundsForm, kJ12_length, fK]; omega⟩ ⟨Nat.zero_le _, Nat.zero_le _⟩ (fun _ _ _ z => z.elim) rfl (fun r_66 h_66 q_66 => ?_)
              obtain ⟨rfl, hT_66, hF_66, hz_66⟩ := q_66
              refine AW.sts (st' := [.int (bI (a != 400))]) rfl ?_
              refine aw_if_eq (n := 72) (tgt := 96) dX3_factorForm_69 (by decide) rfl (fun c_69 => ?_) (fun c_69 => ?_)
              · skip
                have b_69 : (a != 400) = false := (bI_0 _).mp c_69
                have e_66 : a = 400 := by simpa using b_69
                have ne_66 : T.1 a ≠ 0 := by first | exact seesB_ne (by assumption) | exact isNm_ne (by assumption) | exact whT_lt (by assumption) | omega
                have hU_66 : TW b h_66 (ats ms a) := by rw [e_66, goM_400] at hT_66; rw [e_66]; exact hT_66
                have fq_66 : fQ T false a (qX T (f + 1) 7 d a) := by have z := g_10; rw [e_66] at z ne_66 ⊢; exact z.stay (by first | exact qPc_4 T _ _ | exact qLp_4 (gOr_4 T) _ | exact qLp_4 (gAnd_4 T) _ | exact qLp_4 (gSum_4 T) _ | exact qLp_4 (gPro_4 T) _ | simp [qb_0, qb_1, qb_4, qX_4, seesP_4, nmP_4, nuP_4, whP_4, qT_4, qNm_4, qNu_4, qBd_4, qBr_4, qBo, qI_f, gOr_4, gAnd_4, gSum_4, gPro_4, qLp_4]) ne_66
                refine aw_iconst (n := 97) (v := 0) dX3_factorForm_96 (by decide) rfl ?_
                exact aw_zret dX3_factorForm_97 rfl (by decide) ⟨false, a, rfl, hU_66, hF_66, (by omega), fq_66⟩ ⟨Nat.zero_le _, Nat.zero_le _⟩
              · skip
                have b_69 : (a != 400) = true := Bool.of_not_eq_false (fun e => c_69 ((bI_0 _).mpr e))
                have l_66 : a < 400 := by have z : a ≠ 400 := (by simpa using b_69); omega
                have ne_66 : T.1 a ≠ 0 := by first | exact seesB_ne (by assumption) | exact isNm_ne (by assumption) | exact whT_lt (by assumption) | omega
                rw [goM_lt (by omega), tS_tS] at hT_66
                have g_72 := fH.T g_10 (by first | assumption | simp [seesP, nmP, nuP, gOr, gAnd, gSum, gPro, n_10, b_21, b_31, b_41, b_56, dd_62, l_66])
                try dsimp only at g_72
                have g_73 := fH.T g_72 (by first | assumption | simp [seesP, nmP, nuP, gOr, gAnd, gSum, gPro, n_10, b_21, b_31, b_41, b_56, dd_62, l_66])
                try dsimp only at g_73
                have N_66 : a + 1 ≤ N := lt_end hS.2.1 hN ne_66
                have a_66 : a + 1 ≤ 400 := by omega
                have K_74 := (hS.1 (a + 1) N_66).2.1
                refine aw_aload_n (n := 73) dX3_factorForm_72 rfl 0 rfl rfl ?_
                refine aw_iload_n (n := 74) dX3_factorForm_73 rfl 1 rfl rfl ?_
                refine aw_iconst (n := 75) (v := 1) dX3_factorForm_74 (by decide) rfl ?_
                refine aw_iadd (n := 76) dX3_factorForm_75 rfl ?_
                refine AW.sts (st' := [.int (nI (d + 1)), .ref b]) (by rw [show (nI d) + 1 = nI (d + 1) from (nI_1 _)]) ?_
                have ne_76 : (qX T f 5 (d + 1) (a + 1)).1 ≠ 99 := fH.nb g_73 hne
                have V_76 : qW T N (a + 1) (qX T f 5 (d + 1) (a + 1)) := qX_W hS.2.1 f 5 _ _ N_66 a_66
                refine aw_callV (n := 79) (C0 := RX3) (As := [.int (nI (d + 1))]) (rest := []) (K2 := kX3_expressionForm) dX3_factorForm_76 q2895 q2897 qs62 q113 q2898 ⟨rfl, hcX3_expressionForm⟩ rfl hT_66.1 (ih 5 h_66 b ms T N (a + 1) (d + 1) (by decide) hb hT_66 hS N_66 a_66 (by omega) ne_76) rfl (Nat.le_of_ble_eq_true rfl) ⟨by dsimp only [kX3_formulaForm, kX3_rowForm, kX3_sinceForm, kX3_oneForm, kX3_expressionForm, kX3_productForm, kX3_factorForm, kX3_bracesForm, kX3_sees, kX3_goes, kX3_takes, kX3_takesName, kX3_takesNumber, kX3_which, kX3_isName, kX3_boundsForm, kJ12_length, fK]; omega, by dsimp only [kX3_formulaForm, kX3_rowForm, kX3_sinceForm, kX3_oneForm, kX3_expressionForm, kX3_productForm, kX3_factorForm, kX3_bracesForm, kX3_sees, kX3_goes, kX3_takes, kX3_takesName, kX3_takesNumber, kX3_which, kX3_isName, kX3_boundsForm, kJ12_length, fK]; omega⟩ ⟨Nat.zero_le _, Nat.zero_le _⟩ (fun _ _ _ z => z.elim) rfl (fun r_76 h_76 q_76 => ?_)
                obtain ⟨z_76, a_76, rfl, hT_76, hF_76, hz_76, fq_76⟩ := q_76
                have W_76 : a_76 ≤ N ∧ a_76 ≤ 400 := by rw [fq_76.1]; exact V_76.2
                have hG_76 := Fr.trans hF_66 hF_76
                refine AW.sts (st' := [.int (bI z_76)]) rfl ?_
                refine aw_if_eq (n := 82) (tgt := 96) dX3_factorForm_79 (by decide) rfl (fun c_79 => ?_) (fun c_79 => ?_)
                · skip
                  have b_79 : z_76 = false := (bI_0 _).mp c_79
                  have f_76 : fQ T false a_76 _ := b_79 ▸ fq_76
                  have K_75 := (hS.1 a_76 W_76.1).2.1
                  refine aw_iconst (n := 97) (v := 0) dX3_factorForm_96 (by decide) rfl ?_
                  exact aw_zret dX3_factorForm_97 rfl (by decide) ⟨false, a_76, rfl, hT_76, hG_76, (by omega), (fH.fail g_73 f_76 (by first | exact qPc_4 T _ _ | exact qLp_4 (gOr_4 T) _ | exact qLp_4 (gAnd_4 T) _ | exact qLp_4 (gSum_4 T) _ | exact qLp_4 (gPro_4 T) _ | simp [qb_0, qb_1, qb_4, qX_4, seesP_4, nmP_4, nuP_4, whP_4, qT_4, qNm_4, qNu_4, qBd_4, qBr_4, qBo, qI_f, gOr_4, gAnd_4, gSum_4, gPro_4, qLp_4]))⟩ ⟨Nat.zero_le _, Nat.zero_le _⟩
                · skip
                  have b_79 : z_76 = true := Bool.of_not_eq_false (fun e => c_79 ((bI_0 _).mpr e))
                  have f_76 : fQ T true a_76 _ := b_79 ▸ fq_76
                  have g_76 := fH.step g_73 f_76
                  try dsimp only at g_76
                  have K_77 := (hS.1 a_76 W_76.1).2.1
                  refine aw_aload_n (n := 83) dX3_factorForm_82 rfl 0 rfl rfl ?_
                  refine aw_ldcwS (n := 86) (q := 52) dX3_factorForm_83 120 rfl rfl ?_
                  refine aw_know (fun gd_77 hi_77 => ?_)
                  refine aw_callV (n := 89) (C0 := RX3) (As := [.ref (gT G 52)]) (rest := []) (K2 := kX3_takes) dX3_factorForm_86 q2822 q2824 qs49 q113 q2825 ⟨rfl, hcX3_takes⟩ rfl hT_76.1 (cf_takes G h_76 b ms T N a_76 hb hT_76 hS W_76.1 W_76.2 _ (sw 52) (str_at gd_77 hi_77 (i := 52) rfl) (lo_at (i := 52) rfl)) rfl (Nat.le_of_ble_eq_true rfl) ⟨by dsimp only [kX3_formulaForm, kX3_rowForm, kX3_sinceForm, kX3_oneForm, kX3_expressionForm, kX3_productForm, kX3_factorForm, kX3_bracesForm, kX3_sees, kX3_goes, kX3_takes, kX3_takesName, kX3_takesNumber, kX3_which, kX3_isName, kX3_boundsForm, kJ12_length, fK]; omega, by dsimp only [kX3_formulaForm, kX3_rowForm, kX3_sinceForm, kX3_oneForm, kX3_expressionForm, kX3_productForm, kX3_factorForm, kX3_bracesForm, kX3_sees, kX3_goes, kX3_takes, kX3_takesName, kX3_takesNumber, kX3_which, kX3_isName, kX3_boundsForm, kJ12_length, fK]; omega⟩ ⟨Nat.zero_le _, Nat.zero_le _⟩ (fun _ _ _ z => z.elim) rfl (fun r_86 h_86 q_86 => ?_)
                  obtain ⟨rfl, hT_86, hF_86, hz_86⟩ := q_86
                  have hG_86 := Fr.trans hG_76 hF_86
                  refine AW.sts (st' := [.int (bI (seesP T a_76 (sw 52)))]) rfl ?_
                  refine aw_if_eq (n := 92) (tgt := 96) dX3_factorForm_89 (by decide) rfl (fun c_89 => ?_) (fun c_89 => ?_)
                  · skip
                    have b_89 : (seesP T a_76 (sw 52)) = false := (bI_0 _).mp c_89
                    rw [if_neg (by rw [b_89]; decide)] at hT_86
                    refine aw_iconst (n := 97) (v := 0) dX3_factorForm_96 (by decide) rfl ?_
                    exact aw_zret dX3_factorForm_97 rfl (by decide) ⟨false, a_76, rfl, hT_86, hG_86, (by omega), (fH.lF g_76 b_89)⟩ ⟨Nat.zero_le _, Nat.zero_le _⟩
                  · skip
                    have b_89 : (seesP T a_76 (sw 52)) = true := Bool.of_not_eq_false (fun e => c_89 ((bI_0 _).mpr e))
                    rw [if_pos b_89] at hT_86
                    have t_86 := seesP_lt b_89
                    have N_86 : a_76 + 1 ≤ N := lt_end hS.2.1 W_76.1 t_86.2
                    have a_86 : a_76 + 1 ≤ 400 := by omega
                    have g_79 := fH.lT g_76 b_89
                    try dsimp only at g_79
                    have K_80 := (hS.1 (a_76 + 1) N_86).2.1
                    refine aw_iconst (n := 93) (v := 1) dX3_factorForm_92 (by decide) rfl ?_
                    refine aw_goto (tgt := 97) dX3_factorForm_93 (by decide) ?_
                    exact aw_zret dX3_factorForm_97 rfl (by decide) ⟨true, a_76 + 1, rfl, hT_86, hG_86, (by omega), (fH.ok g_79)⟩ ⟨Nat.zero_le _, Nat.zero_le _⟩
        · skip
          have b_41 : (seesB T a (sw 29)) = true := Bool.of_not_eq_false (fun e => c_41 ((bI_0 _).mpr e))
          refine aw_aload_n (n := 45) dX3_factorForm_44 rfl 0 rfl rfl ?_
          refine aw_callV (n := 48) (C0 := RX3) (As := []) (rest := []) (K2 := kX3_goes) dX3_factorForm_45 q2836 q2838 qs52 q113 q2839 ⟨rfl, hcX3_goes⟩ rfl hT.1 (ct_goes G h b (ats ms a) hb hT a rfl ha4) rfl (Nat.le_of_ble_eq_true rfl) ⟨by dsimp only [kX3_formulaForm, kX3_rowForm, kX3_sinceForm, kX3_oneForm, kX3_expressionForm, kX3_productForm, kX3_factorForm, kX3_bracesForm, kX3_sees, kX3_goes, kX3_takes, kX3_takesName, kX3_takesNumber, kX3_which, kX3_isName, kX3_boundsForm, kJ12_length, fK]; omega, by dsimp only [kX3_formulaForm, kX3_rowForm, kX3_sinceForm, kX3_oneForm, kX3_expressionForm, kX3_productForm, kX3_factorForm, kX3_bracesForm, kX3_sees, kX3_goes, kX3_takes, kX3_takesName, kX3_takesNumber, kX3_which, kX3_isName, kX3_boundsForm, kJ12_length, fK]; omega⟩ ⟨Nat.zero_le _, Nat.zero_le _⟩ (fun _ _ _ z => z.elim) rfl (fun r_45 h_45 q_45 => ?_)
          obtain ⟨rfl, hT_45, hF_45, hz_45⟩ := q_45
          refine AW.sts (st' := [.int (bI (a != 400))]) rfl ?_
          rcases Bool.eq_false_or_eq_true (a != 400) with b_48 | b_48
          · skip
            refine AW.sts (st' := [.int 1]) (by rw [b_48]; rfl) ?_
            have l_45 : a < 400 := by have z : a ≠ 400 := (by simpa using b_48); omega
            have ne_45 : T.1 a ≠ 0 := by first | exact seesB_ne (by assumption) | exact isNm_ne (by assumption) | exact whT_lt (by assumption) | omega
            rw [goM_lt (by omega), tS_tS] at hT_45
            have g_81 := fH.T hg0 (by first | assumption | simp [seesP, nmP, nuP, gOr, gAnd, gSum, gPro, n_10, b_21, b_31, b_41, l_45])
            try dsimp only at g_81
            have N_45 : a + 1 ≤ N := lt_end hS.2.1 hN ne_45
            have a_45 : a + 1 ≤ 400 := by omega
            have K_82 := (hS.1 (a + 1) N_45).2.1
            exact aw_zret dX3_factorForm_48 rfl (by decide) ⟨true, a + 1, rfl, hT_45, hF_45, (by omega), (fH.ok g_81)⟩ ⟨Nat.zero_le _, Nat.zero_le _⟩
          · skip
            refine AW.sts (st' := [.int 0]) (by rw [b_48]; rfl) ?_
            have e_45 : a = 400 := by simpa using b_48
            have ne_45 : T.1 a ≠ 0 := by first | exact seesB_ne (by assumption) | exact isNm_ne (by assumption) | exact whT_lt (by assumption) | omega
            have hU_45 : TW b h_45 (ats ms a) := by rw [e_45, goM_400] at hT_45; rw [e_45]; exact hT_45
            have fq_45 : fQ T false a (qX T (f + 1) 7 d a) := by have z := hg0; rw [e_45] at z ne_45 ⊢; exact z.stay (by first | exact qPc_4 T _ _ | exact qLp_4 (gOr_4 T) _ | exact qLp_4 (gAnd_4 T) _ | exact qLp_4 (gSum_4 T) _ | exact qLp_4 (gPro_4 T) _ | simp [qb_0, qb_1, qb_4, qX_4, seesP_4, nmP_4, nuP_4, whP_4, qT_4, qNm_4, qNu_4, qBd_4, qBr_4, qBo, qI_f, gOr_4, gAnd_4, gSum_4, gPro_4, qLp_4]) ne_45
            exact aw_zret dX3_factorForm_48 rfl (by decide) ⟨false, a, rfl, hU_45, hF_45, (by omega), fq_45⟩ ⟨Nat.zero_le _, Nat.zero_le _⟩

abbrev kX3_item : aK := (yX3_item, cX3_item, 1, (Option.some Jvm.ClassFile.FieldType.boolean), [])
theorem hcX3_item : kX3_item.1.cls ≠ "java/lang/invoke/MethodHandle" ∧ kX3_item.1.cls ≠ "java/lang/invoke/VarHandle" ∧ (parseMethodDescriptor kX3_item.1.desc).map (fun d => d.parameters.length) = some 0 := ⟨by decide, by decide, by decide +kernel⟩
theorem cf_item (G : aG) (h : hH)  (b : Nat) (ms : tM) (T : Tv) (N a : Nat) (hb : gB G ≤ b) (hT : TW b h (ats ms a)) (hS : tkS ms T N) (hN : a ≤ N) (ha4 : a ≤ 400) (f : Nat) (hne : (qItem T (qX T f) a).1 ≠ 99) (ih : fAll G f) : Con G kX3_item [.ref b] h ((15 + 2 * f, 540 + 100 * f, 0, 0), (fun r h1 => ∃ (z : Bool) (a9 : Nat), r = some (.int (bI z)) ∧ TW b h1 (ats ms a9) ∧ Fr (TS b) h h1 ∧ h1.1 = h.1 ∧ fQ T z a9 (qItem T (qX T f) a)), nX) := by
  refine Con.of (plainFor_of_name rfl) rfl (Nat.le_of_ble_eq_true rfl) ?_
  refine AW.eq (lv2 := [(0, .ref b)]) (s2 := []) rfl rfl rfl rfl rfl ?_
  have hg0 : fH T (qItem T (qX T f) a) (qItem T (qX T f) a) := fH.rf
  unfold qItem at hg0
  have K_1 := (hS.1 a hN).2.1
  refine aw_aload_n (n := 1) dX3_item_0 rfl 0 rfl rfl ?_
  refine aw_ldcS (n := 3) (q := 0) dX3_item_1 91 rfl rfl ?_
  refine aw_know (fun gd_1 hi_1 => ?_)
  refine aw_callV (n := 6) (C0 := RX3) (As := [.ref (gT G 0)]) (rest := []) (K2 := kX3_takes) dX3_item_3 q2822 q2824 qs49 q113 q2825 ⟨rfl, hcX3_takes⟩ rfl hT.1 (cf_takes G h b ms T N a hb hT hS hN ha4 _ (sw 0) (str_at gd_1 hi_1 (i := 0) rfl) (lo_at (i := 0) rfl)) rfl (Nat.le_of_ble_eq_true rfl) ⟨by dsimp only [kX3_formulaForm, kX3_rowForm, kX3_sinceForm, kX3_oneForm, kX3_expressionForm, kX3_productForm, kX3_factorForm, kX3_bracesForm, kX3_sees, kX3_goes, kX3_takes, kX3_takesName, kX3_takesNumber, kX3_which, kX3_isName, kX3_boundsForm, kJ12_length, fK]; omega, by dsimp only [kX3_formulaForm, kX3_rowForm, kX3_sinceForm, kX3_oneForm, kX3_expressionForm, kX3_productForm, kX3_factorForm, kX3_bracesForm, kX3_sees, kX3_goes, kX3_takes, kX3_takesName, kX3_takesNumber, kX3_which, kX3_isName, kX3_boundsForm, kJ12_length, fK]; omega⟩ ⟨Nat.zero_le _, Nat.zero_le _⟩ (fun _ _ _ z => z.elim) rfl (fun r_3 h_3 q_3 => ?_)
  obtain ⟨rfl, hT_3, hF_3, hz_3⟩ := q_3
  refine AW.sts (st' := [.int (bI (seesP T a (sw 0)))]) rfl ?_
  refine aw_if_eq (n := 9) (tgt := 63) dX3_item_6 (by decide) rfl (fun c_6 => ?_) (fun c_6 => ?_)
  · skip
    have b_6 : (seesP T a (sw 0)) = false := (bI_0 _).mp c_6
    rw [if_neg (by rw [b_6]; decide)] at hT_3
    have g_3 := fH.F hg0 (by first | assumption | simp [seesP, nmP, nuP, gOr, gAnd, gSum, gPro, b_6])
    try dsimp only at g_3
    refine aw_aload_n (n := 64) dX3_item_63 rfl 0 rfl rfl ?_
    refine aw_ldcS (n := 66) (q := 1) dX3_item_64 95 rfl rfl ?_
    refine aw_know (fun gd_3 hi_3 => ?_)
    refine aw_callV (n := 69) (C0 := RX3) (As := [.ref (gT G 1)]) (rest := []) (K2 := kX3_takes) dX3_item_66 q2822 q2824 qs49 q113 q2825 ⟨rfl, hcX3_takes⟩ rfl hT_3.1 (cf_takes G h_3 b ms T N a hb hT_3 hS hN ha4 _ (sw 1) (str_at gd_3 hi_3 (i := 1) rfl) (lo_at (i := 1) rfl)) rfl (Nat.le_of_ble_eq_true rfl) ⟨by dsimp only [kX3_formulaForm, kX3_rowForm, kX3_sinceForm, kX3_oneForm, kX3_expressionForm, kX3_productForm, kX3_factorForm, kX3_bracesForm, kX3_sees, kX3_goes, kX3_takes, kX3_takesName, kX3_takesNumber, kX3_which, kX3_isName, kX3_boundsForm, kJ12_length, fK]; omega, by dsimp only [kX3_formulaForm, kX3_rowForm, kX3_sinceForm, kX3_oneForm, kX3_expressionForm, kX3_productForm, kX3_factorForm, kX3_bracesForm, kX3_sees, kX3_goes, kX3_takes, kX3_takesName, kX3_takesNumber, kX3_which, kX3_isName, kX3_boundsForm, kJ12_length, fK]; omega⟩ ⟨Nat.zero_le _, Nat.zero_le _⟩ (fun _ _ _ z => z.elim) rfl (fun r_66 h_66 q_66 => ?_)
    obtain ⟨rfl, hT_66, hF_66, hz_66⟩ := q_66
    have hG_66 := Fr.trans hF_3 hF_66
    refine AW.sts (st' := [.int (bI (seesP T a (sw 1)))]) rfl ?_
    refine aw_if_eq (n := 72) (tgt := 111) dX3_item_69 (by decide) rfl (fun c_69 => ?_) (fun c_69 => ?_)
    · skip
      have b_69 : (seesP T a (sw 1)) = false := (bI_0 _).mp c_69
      rw [if_neg (by rw [b_69]; decide)] at hT_66
      have g_5 := fH.F g_3 (by first | assumption | simp [seesP, nmP, nuP, gOr, gAnd, gSum, gPro, b_6, b_69])
      try dsimp only at g_5
      refine aw_aload_n (n := 112) dX3_item_111 rfl 0 rfl rfl ?_
      refine aw_ldcS (n := 114) (q := 2) dX3_item_112 97 rfl rfl ?_
      refine aw_know (fun gd_5 hi_5 => ?_)
      refine aw_callV (n := 117) (C0 := RX3) (As := [.ref (gT G 2)]) (rest := []) (K2 := kX3_takes) dX3_item_114 q2822 q2824 qs49 q113 q2825 ⟨rfl, hcX3_takes⟩ rfl hT_66.1 (cf_takes G h_66 b ms T N a hb hT_66 hS hN ha4 _ (sw 2) (str_at gd_5 hi_5 (i := 2) rfl) (lo_at (i := 2) rfl)) rfl (Nat.le_of_ble_eq_true rfl) ⟨by dsimp only [kX3_formulaForm, kX3_rowForm, kX3_sinceForm, kX3_oneForm, kX3_expressionForm, kX3_productForm, kX3_factorForm, kX3_bracesForm, kX3_sees, kX3_goes, kX3_takes, kX3_takesName, kX3_takesNumber, kX3_which, kX3_isName, kX3_boundsForm, kJ12_length, fK]; omega, by dsimp only [kX3_formulaForm, kX3_rowForm, kX3_sinceForm, kX3_oneForm, kX3_expressionForm, kX3_productForm, kX3_factorForm, kX3_bracesForm, kX3_sees, kX3_goes, kX3_takes, kX3_takesName, kX3_takesNumber, kX3_which, kX3_isName, kX3_boundsForm, kJ12_length, fK]; omega⟩ ⟨Nat.zero_le _, Nat.zero_le _⟩ (fun _ _ _ z => z.elim) rfl (fun r_114 h_114 q_114 => ?_)
      obtain ⟨rfl, hT_114, hF_114, hz_114⟩ := q_114
      have hG_114 := Fr.trans hG_66 hF_114
      refine AW.sts (st' := [.int (bI (seesP T a (sw 2)))]) rfl ?_
      refine aw_if_eq (n := 120) (tgt := 159) dX3_item_117 (by decide) rfl (fun c_117 => ?_) (fun c_117 => ?_)
      · skip
        have b_117 : (seesP T a (sw 2)) = false := (bI_0 _).mp c_117
        rw [if_neg (by rw [b_117]; decide)] at hT_114
        have g_7 := fH.F g_5 (by first | assumption | simp [seesP, nmP, nuP, gOr, gAnd, gSum, gPro, b_6, b_69, b_117])
        try dsimp only at g_7
        refine aw_aload_n (n := 160) dX3_item_159 rfl 0 rfl rfl ?_
        refine aw_ldcS (n := 162) (q := 3) dX3_item_160 98 rfl rfl ?_
        refine aw_know (fun gd_7 hi_7 => ?_)
        refine aw_callV (n := 165) (C0 := RX3) (As := [.ref (gT G 3)]) (rest := []) (K2 := kX3_takes) dX3_item_162 q2822 q2824 qs49 q113 q2825 ⟨rfl, hcX3_takes⟩ rfl hT_114.1 (cf_takes G h_114 b ms T N a hb hT_114 hS hN ha4 _ (sw 3) (str_at gd_7 hi_7 (i := 3) rfl) (lo_at (i := 3) rfl)) rfl (Nat.le_of_ble_eq_true rfl) ⟨by dsimp only [kX3_formulaForm, kX3_rowForm, kX3_sinceForm, kX3_oneForm, kX3_expressionForm, kX3_productForm, kX3_factorForm, kX3_bracesForm, kX3_sees, kX3_goes, kX3_takes, kX3_takesName, kX3_takesNumber, kX3_which, kX3_isName, kX3_boundsForm, kJ12_length, fK]; omega, by dsimp only [kX3_formulaForm, kX3_rowForm, kX3_sinceForm, kX3_oneForm, kX3_expressionForm, kX3_productForm, kX3_factorForm, kX3_bracesForm, kX3_sees, kX3_goes, kX3_takes, kX3_takesName, kX3_takesNumber, kX3_which, kX3_isName, kX3_boundsForm, kJ12_length, fK]; omega⟩ ⟨Nat.zero_le _, Nat.zero_le _⟩ (fun _ _ _ z => z.elim) rfl (fun r_162 h_162 q_162 => ?_)
        obtain ⟨rfl, hT_162, hF_162, hz_162⟩ := q_162
        have hG_162 := Fr.trans hG_114 hF_162
        refine AW.sts (st' := [.int (bI (seesP T a (sw 3)))]) rfl ?_
        refine aw_if_eq (n := 168) (tgt := 228) dX3_item_165 (by decide) rfl (fun c_165 => ?_) (fun c_165 => ?_)
        · skip
          have b_165 : (seesP T a (sw 3)) = false := (bI_0 _).mp c_165
          rw [if_neg (by rw [b_165]; decide)] at hT_162
          refine aw_iconst (n := 229) (v := 0) dX3_item_228 (by decide) rfl ?_
          exact aw_zret dX3_item_229 rfl (by decide) ⟨false, a, rfl, hT_162, hG_162, (by omega), (fH.tF g_7 b_165)⟩ ⟨Nat.zero_le _, Nat.zero_le _⟩
        · skip
          have b_165 : (seesP T a (sw 3)) = true := Bool.of_not_eq_false (fun e => c_165 ((bI_0 _).mpr e))
          rw [if_pos b_165] at hT_162
          have t_162 := seesP_lt b_165
          have N_162 : a + 1 ≤ N := lt_end hS.2.1 hN t_162.2
          have a_162 : a + 1 ≤ 400 := by omega
          have g_9 := fH.tT g_7 b_165
          try dsimp only at g_9
          have K_10 := (hS.1 (a + 1) N_162).2.1
          refine aw_aload_n (n := 169) dX3_item_168 rfl 0 rfl rfl ?_
          refine aw_callV (n := 172) (C0 := RX3) (As := []) (rest := []) (K2 := kX3_takesName) dX3_item_169 q2840 q2842 qs53 q113 q2843 ⟨rfl, hcX3_takesName⟩ rfl hT_162.1 (cf_takesName G h_162 b ms T N (a + 1) hb hT_162 hS N_162 a_162) rfl (Nat.le_of_ble_eq_true rfl) ⟨by dsimp only [kX3_formulaForm, kX3_rowForm, kX3_sinceForm, kX3_oneForm, kX3_expressionForm, kX3_productForm, kX3_factorForm, kX3_bracesForm, kX3_sees, kX3_goes, kX3_takes, kX3_takesName, kX3_takesNumber, kX3_which, kX3_isName, kX3_boundsForm, kJ12_length, fK]; omega, by dsimp only [kX3_formulaForm, kX3_rowForm, kX3_sinceForm, kX3_oneForm, kX3_expressionForm, kX3_productForm, kX3_factorForm, kX3_bracesForm, kX3_sees, kX3_goes, kX3_takes, kX3_takesName, kX3_takesNumber, kX3_which, kX3_isName, kX3_boundsForm, kJ12_length, fK]; omega⟩ ⟨Nat.zero_le _, Nat.zero_le _⟩ (fun _ _ _ z => z.elim) rfl (fun r_169 h_169 q_169 => ?_)
          obtain ⟨rfl, hT_169, hF_169, hz_169⟩ := q_169
          have hG_169 := Fr.trans hG_162 hF_169
          refine AW.sts (st' := [.int (bI (nmP T (a + 1)))]) rfl ?_
          refine aw_if_eq (n := 175) (tgt := 228) dX3_item_172 (by decide) rfl (fun c_172 => ?_) (fun c_172 => ?_)
          · skip
            have b_172 : (nmP T (a + 1)) = false := (bI_0 _).mp c_172
            rw [if_neg (by rw [b_172]; decide)] at hT_169
            refine aw_iconst (n := 229) (v := 0) dX3_item_228 (by decide) rfl ?_
            exact aw_zret dX3_item_229 rfl (by decide) ⟨false, a + 1, rfl, hT_169, hG_169, (by omega), (fH.tF g_9 b_172)⟩ ⟨Nat.zero_le _, Nat.zero_le _⟩
          · skip
            have b_172 : (nmP T (a + 1)) = true := Bool.of_not_eq_false (fun e => c_172 ((bI_0 _).mpr e))
            rw [if_pos b_172] at hT_169
            have t_169 := nmP_lt b_172
            have N_169 : a + 1 + 1 ≤ N := lt_end hS.2.1 N_162 t_169.2
            have a_169 : a + 1 + 1 ≤ 400 := by omega
            have g_11 := fH.tT g_9 b_172
            try dsimp only at g_11
            have K_12 := (hS.1 ((a + 1) + 1) N_169).2.1
            refine aw_aload_n (n := 176) dX3_item_175 rfl 0 rfl rfl ?_
            refine aw_ldcS (n := 178) (q := 46) dX3_item_176 99 rfl rfl ?_
            refine aw_know (fun gd_12 hi_12 => ?_)
            refine aw_callV (n := 181) (C0 := RX3) (As := [.ref (gT G 46)]) (rest := []) (K2 := kX3_takes) dX3_item_178 q2822 q2824 qs49 q113 q2825 ⟨rfl, hcX3_takes⟩ rfl hT_169.1 (cf_takes G h_169 b ms T N ((a + 1) + 1) hb hT_169 hS N_169 a_169 _ (sw 46) (str_at gd_12 hi_12 (i := 46) rfl) (lo_at (i := 46) rfl)) rfl (Nat.le_of_ble_eq_true rfl) ⟨by dsimp only [kX3_formulaForm, kX3_rowForm, kX3_sinceForm, kX3_oneForm, kX3_expressionForm, kX3_productForm, kX3_factorForm, kX3_bracesForm, kX3_sees, kX3_goes, kX3_takes, kX3_takesName, kX3_takesNumber, kX3_which, kX3_isName, kX3_boundsForm, kJ12_length, fK]; omega, by dsimp only [kX3_formulaForm, kX3_rowForm, kX3_sinceForm, kX3_oneForm, kX3_expressionForm, kX3_productForm, kX3_factorForm, kX3_bracesForm, kX3_sees, kX3_goes, kX3_takes, kX3_takesName, kX3_takesNumber, kX3_which, kX3_isName, kX3_boundsForm, kJ12_length, fK]; omega⟩ ⟨Nat.zero_le _, Nat.zero_le _⟩ (fun _ _ _ z => z.elim) rfl (fun r_178 h_178 q_178 => ?_)
            obtain ⟨rfl, hT_178, hF_178, hz_178⟩ := q_178
            have hG_178 := Fr.trans hG_169 hF_178
            refine AW.sts (st' := [.int (bI (seesP T ((a + 1) + 1) (sw 46)))]) rfl ?_
            refine aw_if_eq (n := 184) (tgt := 228) dX3_item_181 (by decide) rfl (fun c_181 => ?_) (fun c_181 => ?_)
            · skip
              have b_181 : (seesP T ((a + 1) + 1) (sw 46)) = false := (bI_0 _).mp c_181
              rw [if_neg (by rw [b_181]; decide)] at hT_178
              refine aw_iconst (n := 229) (v := 0) dX3_item_228 (by decide) rfl ?_
              exact aw_zret dX3_item_229 rfl (by decide) ⟨false, (a + 1) + 1, rfl, hT_178, hG_178, (by omega), (fH.tF g_11 b_181)⟩ ⟨Nat.zero_le _, Nat.zero_le _⟩
            · skip
              have b_181 : (seesP T ((a + 1) + 1) (sw 46)) = true := Bool.of_not_eq_false (fun e => c_181 ((bI_0 _).mpr e))
              rw [if_pos b_181] at hT_178
              have t_178 := seesP_lt b_181
              have N_178 : (a + 1) + 1 + 1 ≤ N := lt_end hS.2.1 N_169 t_178.2
              have a_178 : (a + 1) + 1 + 1 ≤ 400 := by omega
              have g_14 := fH.tT g_11 b_181
              try dsimp only at g_14
              have K_15 := (hS.1 (((a + 1) + 1) + 1) N_178).2.1
              refine aw_aload_n (n := 185) dX3_item_184 rfl 0 rfl rfl ?_
              refine aw_iconst (n := 186) (v := 0) dX3_item_185 (by decide) rfl ?_
              refine AW.sts (st' := [.int (nI 0), .ref b]) (by rw [show (0 : Int32) = nI 0 from (by rfl)]) ?_
              have ne_186 : (qX T f 0 0 (((a + 1) + 1) + 1)).1 ≠ 99 := fH.nb g_14 hne
              have V_186 : qW T N (((a + 1) + 1) + 1) (qX T f 0 0 (((a + 1) + 1) + 1)) := qX_W hS.2.1 f 0 _ _ N_178 a_178
              refine aw_callV (n := 189) (C0 := RX3) (As := [.int (nI 0)]) (rest := []) (K2 := kX3_formulaForm) dX3_item_186 q2863 q2865 qs57 q113 q2866 ⟨rfl, hcX3_formulaForm⟩ rfl hT_178.1 (ih 0 h_178 b ms T N (((a + 1) + 1) + 1) 0 (by decide) hb hT_178 hS N_178 a_178 (by omega) ne_186) rfl (Nat.le_of_ble_eq_true rfl) ⟨by dsimp only [kX3_formulaForm, kX3_rowForm, kX3_sinceForm, kX3_oneForm, kX3_expressionForm, kX3_productForm, kX3_factorForm, kX3_bracesForm, kX3_sees, kX3_goes, kX3_takes, kX3_takesName, kX3_takesNumber, kX3_which, kX3_isName, kX3_boundsForm, kJ12_length, fK]; omega, by dsimp only [kX3_formulaForm, kX3_rowForm, kX3_sinceForm, kX3_oneForm, kX3_expressionForm, kX3_productForm, kX3_factorForm, kX3_bracesForm, kX3_sees, kX3_goes, kX3_takes, kX3_takesName, kX3_takesNumber, kX3_which, kX3_isName, kX3_boundsForm, kJ12_length, fK]; omega⟩ ⟨Nat.zero_le _, Nat.zero_le _⟩ (fun _ _ _ z => z.elim) rfl (fun r_186 h_186 q_186 => ?_)
              obtain ⟨z_186, a_186, rfl, hT_186, hF_186, hz_186, fq_186⟩ := q_186
              have W_186 : a_186 ≤ N ∧ a_186 ≤ 400 := by rw [fq_186.1]; exact V_186.2
              have hG_186 := Fr.trans hG_178 hF_186
              refine AW.sts (st' := [.int (bI z_186)]) rfl ?_
              refine aw_if_eq (n := 192) (tgt := 228) dX3_item_189 (by decide) rfl (fun c_189 => ?_) (fun c_189 => ?_)
              · skip
                have b_189 : z_186 = false := (bI_0 _).mp c_189
                have f_186 : fQ T false a_186 _ := b_189 ▸ fq_186
                have K_16 := (hS.1 a_186 W_186.1).2.1
                refine aw_iconst (n := 229) (v := 0) dX3_item_228 (by decide) rfl ?_
                exact aw_zret dX3_item_229 rfl (by decide) ⟨false, a_186, rfl, hT_186, hG_186, (by omega), (fH.fail g_14 f_186 (by first | exact qPc_4 T _ _ | exact qLp_4 (gOr_4 T) _ | exact qLp_4 (gAnd_4 T) _ | exact qLp_4 (gSum_4 T) _ | exact qLp_4 (gPro_4 T) _ | simp [qb_0, qb_1, qb_4, qX_4, seesP_4, nmP_4, nuP_4, whP_4, qT_4, qNm_4, qNu_4, qBd_4, qBr_4, qBo, qI_f, gOr_4, gAnd_4, gSum_4, gPro_4, qLp_4]))⟩ ⟨Nat.zero_le _, Nat.zero_le _⟩
              · skip
                have b_189 : z_186 = true := Bool.of_not_eq_false (fun e => c_189 ((bI_0 _).mpr e))
                have f_186 : fQ T true a_186 _ := b_189 ▸ fq_186
                have g_17 := fH.step g_14 f_186
                try dsimp only at g_17
                have K_18 := (hS.1 a_186 W_186.1).2.1
                refine aw_aload_n (n := 193) dX3_item_192 rfl 0 rfl rfl ?_
                refine aw_ldcS (n := 195) (q := 4) dX3_item_193 100 rfl rfl ?_
                refine aw_know (fun gd_18 hi_18 => ?_)
                refine aw_callV (n := 198) (C0 := RX3) (As := [.ref (gT G 4)]) (rest := []) (K2 := kX3_sees) dX3_item_195 q2826 q2828 qs50 q113 q2829 ⟨rfl, hcX3_sees⟩ rfl hT_186.1 (ct_sees G h_186 b (ats ms a_186) hb hT_186 T a_186 rfl (hS.1 a_186 W_186.1) _ (sw 4) (str_at gd_18 hi_18 (i := 4) rfl) (lo_at (i := 4) rfl)) rfl (Nat.le_of_ble_eq_true rfl) ⟨by dsimp only [kX3_formulaForm, kX3_rowForm, kX3_sinceForm, kX3_oneForm, kX3_expressionForm, kX3_productForm, kX3_factorForm, kX3_bracesForm, kX3_sees, kX3_goes, kX3_takes, kX3_takesName, kX3_takesNumber, kX3_which, kX3_isName, kX3_boundsForm, kJ12_length, fK]; omega, by dsimp only [kX3_formulaForm, kX3_rowForm, kX3_sinceForm, kX3_oneForm, kX3_expressionForm, kX3_productForm, kX3_factorForm, kX3_bracesForm, kX3_sees, kX3_goes, kX3_takes, kX3_takesName, kX3_takesNumber, kX3_which, kX3_isName, kX3_boundsForm, kJ12_length, fK]; omega⟩ ⟨Nat.zero_le _, Nat.zero_le _⟩ (fun _ _ _ z => z.elim) rfl (fun r_195 h_195 q_195 => ?_)
                obtain ⟨rfl, rfl⟩ := q_195
                refine AW.sts (st' := [.int (bI (seesB T a_186 (sw 4)))]) rfl ?_
                refine aw_if_eq (n := 201) (tgt := 215) dX3_item_198 (by decide) rfl (fun c_198 => ?_) (fun c_198 => ?_)
                · skip
                  have b_198 : (seesB T a_186 (sw 4)) = false := (bI_0 _).mp c_198
                  have g_20 := fH.bF g_17 (by first | assumption | simp [seesP, nmP, nuP, gOr, gAnd, gSum, gPro, b_198])
                  try dsimp only at g_20
                  have g_21 := fH.b0 g_20
                  try dsimp only at g_21
                  refine aw_aload_n (n := 216) dX3_item_215 rfl 0 rfl rfl ?_
                  refine aw_ldcS (n := 218) (q := 45) dX3_item_216 94 rfl rfl ?_
                  refine aw_know (fun gd_21 hi_21 => ?_)
                  refine aw_callV (n := 221) (C0 := RX3) (As := [.ref (gT G 45)]) (rest := []) (K2 := kX3_takes) dX3_item_218 q2822 q2824 qs49 q113 q2825 ⟨rfl, hcX3_takes⟩ rfl hT_186.1 (cf_takes G h_186 b ms T N a_186 hb hT_186 hS W_186.1 W_186.2 _ (sw 45) (str_at gd_21 hi_21 (i := 45) rfl) (lo_at (i := 45) rfl)) rfl (Nat.le_of_ble_eq_true rfl) ⟨by dsimp only [kX3_formulaForm, kX3_rowForm, kX3_sinceForm, kX3_oneForm, kX3_expressionForm, kX3_productForm, kX3_factorForm, kX3_bracesForm, kX3_sees, kX3_goes, kX3_takes, kX3_takesName, kX3_takesNumber, kX3_which, kX3_isName, kX3_boundsForm, kJ12_length, fK]; omega, by dsimp only [kX3_formulaForm, kX3_rowForm, kX3_sinceForm, kX3_oneForm, kX3_expressionForm, kX3_productForm, kX3_factorForm, kX3_bracesForm, kX3_sees, kX3_goes, kX3_takes, kX3_takesName, kX3_takesNumber, kX3_which, kX3_isName, kX3_boundsForm, kJ12_length, fK]; omega⟩ ⟨Nat.zero_le _, Nat.zero_le _⟩ (fun _ _ _ z => z.elim) rfl (fun r_218 h_218 q_218 => ?_)
                  obtain ⟨rfl, hT_218, hF_218, hz_218⟩ := q_218
                  have hG_218 := Fr.trans hG_186 hF_218
                  refine AW.sts (st' := [.int (bI (seesP T a_186 (sw 45)))]) rfl ?_
                  refine aw_if_eq (n := 224) (tgt := 228) dX3_item_221 (by decide) rfl (fun c_221 => ?_) (fun c_221 => ?_)
                  · skip
                    have b_221 : (seesP T a_186 (sw 45)) = false := (bI_0 _).mp c_221
                    rw [if_neg (by rw [b_221]; decide)] at hT_218
                    refine aw_iconst (n := 229) (v := 0) dX3_item_228 (by decide) rfl ?_
                    exact aw_zret dX3_item_229 rfl (by decide) ⟨false, a_186, rfl, hT_218, hG_218, (by omega), (fH.lF g_21 b_221)⟩ ⟨Nat.zero_le _, Nat.zero_le _⟩
                  · skip
                    have b_221 : (seesP T a_186 (sw 45)) = true := Bool.of_not_eq_false (fun e => c_221 ((bI_0 _).mpr e))
                    rw [if_pos b_221] at hT_218
                    have t_218 := seesP_lt b_221
                    have N_218 : a_186 + 1 ≤ N := lt_end hS.2.1 W_186.1 t_218.2
                    have a_218 : a_186 + 1 ≤ 400 := by omega
                    have g_23 := fH.lT g_21 b_221
                    try dsimp only at g_23
                    have K_24 := (hS.1 (a_186 + 1) N_218).2.1
                    refine aw_iconst (n := 225) (v := 1) dX3_item_224 (by decide) rfl ?_
                    refine aw_goto (tgt := 229) dX3_item_225 (by decide) ?_
                    exact aw_zret dX3_item_229 rfl (by decide) ⟨true, a_186 + 1, rfl, hT_218, hG_218, (by omega), (fH.ok g_23)⟩ ⟨Nat.zero_le _, Nat.zero_le _⟩
                · skip
                  have b_198 : (seesB T a_186 (sw 4)) = true := Bool.of_not_eq_false (fun e => c_198 ((bI_0 _).mpr e))
                  refine aw_aload_n (n := 202) dX3_item_201 rfl 0 rfl rfl ?_
                  refine aw_callV (n := 205) (C0 := RX3) (As := []) (rest := []) (K2 := kX3_goes) dX3_item_202 q2836 q2838 qs52 q113 q2839 ⟨rfl, hcX3_goes⟩ rfl hT_186.1 (ct_goes G h_186 b (ats ms a_186) hb hT_186 a_186 rfl W_186.2) rfl (Nat.le_of_ble_eq_true rfl) ⟨by dsimp only [kX3_formulaForm, kX3_rowForm, kX3_sinceForm, kX3_oneForm, kX3_expressionForm, kX3_productForm, kX3_factorForm, kX3_bracesForm, kX3_sees, kX3_goes, kX3_takes, kX3_takesName, kX3_takesNumber, kX3_which, kX3_isName, kX3_boundsForm, kJ12_length, fK]; omega, by dsimp only [kX3_formulaForm, kX3_rowForm, kX3_sinceForm, kX3_oneForm, kX3_expressionForm, kX3_productForm, kX3_factorForm, kX3_bracesForm, kX3_sees, kX3_goes, kX3_takes, kX3_takesName, kX3_takesNumber, kX3_which, kX3_isName, kX3_boundsForm, kJ12_length, fK]; omega⟩ ⟨Nat.zero_le _, Nat.zero_le _⟩ (fun _ _ _ z => z.elim) rfl (fun r_202 h_202 q_202 => ?_)
                  obtain ⟨rfl, hT_202, hF_202, hz_202⟩ := q_202
                  have hG_202 := Fr.trans hG_186 hF_202
                  refine AW.sts (st' := [.int (bI (a_186 != 400))]) rfl ?_
                  refine aw_if_eq (n := 208) (tgt := 228) dX3_item_205 (by decide) rfl (fun c_205 => ?_) (fun c_205 => ?_)
                  · skip
                    have b_205 : (a_186 != 400) = false := (bI_0 _).mp c_205
                    have e_202 : a_186 = 400 := by simpa using b_205
                    have ne_202 : T.1 a_186 ≠ 0 := by first | exact seesB_ne (by assumption) | exact isNm_ne (by assumption) | exact whT_lt (by assumption) | omega
                    have hU_202 : TW b h_202 (ats ms a_186) := by rw [e_202, goM_400] at hT_202; rw [e_202]; exact hT_202
                    have fq_202 : fQ T false a_186 (qItem T (qX T f) a) := by have z := g_17; rw [e_202] at z ne_202 ⊢; exact z.stay (by first | exact qPc_4 T _ _ | exact qLp_4 (gOr_4 T) _ | exact qLp_4 (gAnd_4 T) _ | exact qLp_4 (gSum_4 T) _ | exact qLp_4 (gPro_4 T) _ | simp [qb_0, qb_1, qb_4, qX_4, seesP_4, nmP_4, nuP_4, whP_4, qT_4, qNm_4, qNu_4, qBd_4, qBr_4, qBo, qI_f, gOr_4, gAnd_4, gSum_4, gPro_4, qLp_4]) ne_202
                    refine aw_iconst (n := 229) (v := 0) dX3_item_228 (by decide) rfl ?_
                    exact aw_zret dX3_item_229 rfl (by decide) ⟨false, a_186, rfl, hU_202, hG_202, (by omega), fq_202⟩ ⟨Nat.zero_le _, Nat.zero_le _⟩
                  · skip
                    have b_205 : (a_186 != 400) = true := Bool.of_not_eq_false (fun e => c_205 ((bI_0 _).mpr e))
                    have l_202 : a_186 < 400 := by have z : a_186 ≠ 400 := (by simpa using b_205); omega
                    have ne_202 : T.1 a_186 ≠ 0 := by first | exact seesB_ne (by assumption) | exact isNm_ne (by assumption) | exact whT_lt (by assumption) | omega
                    rw [goM_lt (by omega), tS_tS] at hT_202
                    have g_25 := fH.bT g_17 (by first | assumption | simp [seesP, nmP, nuP, gOr, gAnd, gSum, gPro, b_198, l_202])
                    try dsimp only at g_25
                    have N_202 : a_186 + 1 ≤ N := lt_end hS.2.1 W_186.1 ne_202
                    have a_202 : a_186 + 1 ≤ 400 := by omega
                    have K_26 := (hS.1 (a_186 + 1) N_202).2.1
                    refine aw_aload_n (n := 209) dX3_item_208 rfl 0 rfl rfl ?_
                    refine aw_callV (n := 212) (C0 := RX3) (As := []) (rest := []) (K2 := kX3_takesNumber) dX3_item_209 q2856 q2858 qs56 q113 q2859 ⟨rfl, hcX3_takesNumber⟩ rfl hT_202.1 (cf_takesNumber G h_202 b ms T N (a_186 + 1) hb hT_202 hS N_202 a_202) rfl (Nat.le_of_ble_eq_true rfl) ⟨by dsimp only [kX3_formulaForm, kX3_rowForm, kX3_sinceForm, kX3_oneForm, kX3_expressionForm, kX3_productForm, kX3_factorForm, kX3_bracesForm, kX3_sees, kX3_goes, kX3_takes, kX3_takesName, kX3_takesNumber, kX3_which, kX3_isName, kX3_boundsForm, kJ12_length, fK]; omega, by dsimp only [kX3_formulaForm, kX3_rowForm, kX3_sinceForm, kX3_oneForm, kX3_expressionForm, kX3_productForm, kX3_factorForm, kX3_bracesForm, kX3_sees, kX3_goes, kX3_takes, kX3_takesName, kX3_takesNumber, kX3_which, kX3_isName, kX3_boundsForm, kJ12_length, fK]; omega⟩ ⟨Nat.zero_le _, Nat.zero_le _⟩ (fun _ _ _ z => z.elim) rfl (fun r_209 h_209 q_209 => ?_)
                    obtain ⟨rfl, hT_209, hF_209, hz_209⟩ := q_209
                    have hG_209 := Fr.trans hG_202 hF_209
                    refine AW.sts (st' := [.int (bI (nuP T (a_186 + 1)))]) rfl ?_
                    refine aw_if_eq (n := 215) (tgt := 228) dX3_item_212 (by decide) rfl (fun c_212 => ?_) (fun c_212 => ?_)
                    · skip
                      have b_212 : (nuP T (a_186 + 1)) = false := (bI_0 _).mp c_212
                      rw [if_neg (by rw [b_212]; decide)] at hT_209
                      refine aw_iconst (n := 229) (v := 0) dX3_item_228 (by decide) rfl ?_
                      exact aw_zret dX3_item_229 rfl (by decide) ⟨false, a_186 + 1, rfl, hT_209, hG_209, (by omega), (fH.tF g_25 b_212)⟩ ⟨Nat.zero_le _, Nat.zero_le _⟩
                    · skip
                      have b_212 : (nuP T (a_186 + 1)) = true := Bool.of_not_eq_false (fun e => c_212 ((bI_0 _).mpr e))
                      rw [if_pos b_212] at hT_209
                      have t_209 := nuP_lt b_212
                      have N_209 : a_186 + 1 + 1 ≤ N := lt_end hS.2.1 N_202 t_209.2
                      have a_209 : a_186 + 1 + 1 ≤ 400 := by omega
                      have g_27 := fH.tT g_25 b_212
                      try dsimp only at g_27
                      have K_28 := (hS.1 ((a_186 + 1) + 1) N_209).2.1
                      refine aw_aload_n (n := 216) dX3_item_215 rfl 0 rfl rfl ?_
                      refine aw_ldcS (n := 218) (q := 45) dX3_item_216 94 rfl rfl ?_
                      refine aw_know (fun gd_28 hi_28 => ?_)
                      refine aw_callV (n := 221) (C0 := RX3) (As := [.ref (gT G 45)]) (rest := []) (K2 := kX3_takes) dX3_item_218 q2822 q2824 qs49 q113 q2825 ⟨rfl, hcX3_takes⟩ rfl hT_209.1 (cf_takes G h_209 b ms T N ((a_186 + 1) + 1) hb hT_209 hS N_209 a_209 _ (sw 45) (str_at gd_28 hi_28 (i := 45) rfl) (lo_at (i := 45) rfl)) rfl (Nat.le_of_ble_eq_true rfl) ⟨by dsimp only [kX3_formulaForm, kX3_rowForm, kX3_sinceForm, kX3_oneForm, kX3_expressionForm, kX3_productForm, kX3_factorForm, kX3_bracesForm, kX3_sees, kX3_goes, kX3_takes, kX3_takesName, kX3_takesNumber, kX3_which, kX3_isName, kX3_boundsForm, kJ12_length, fK]; omega, by dsimp only [kX3_formulaForm, kX3_rowForm, kX3_sinceForm, kX3_oneForm, kX3_expressionForm, kX3_productForm, kX3_factorForm, kX3_bracesForm, kX3_sees, kX3_goes, kX3_takes, kX3_takesName, kX3_takesNumber, kX3_which, kX3_isName, kX3_boundsForm, kJ12_length, fK]; omega⟩ ⟨Nat.zero_le _, Nat.zero_le _⟩ (fun _ _ _ z => z.elim) rfl (fun r_218 h_218 q_218 => ?_)
                      obtain ⟨rfl, hT_218, hF_218, hz_218⟩ := q_218
                      have hG_218 := Fr.trans hG_209 hF_218
                      refine AW.sts (st' := [.int (bI (seesP T ((a_186 + 1) + 1) (sw 45)))]) rfl ?_
                      refine aw_if_eq (n := 224) (tgt := 228) dX3_item_221 (by decide) rfl (fun c_221_2 => ?_) (fun c_221_2 => ?_)
                      · skip
                        have b_221_2 : (seesP T ((a_186 + 1) + 1) (sw 45)) = false := (bI_0 _).mp c_221_2
                        rw [if_neg (by rw [b_221_2]; decide)] at hT_218
                        refine aw_iconst (n := 229) (v := 0) dX3_item_228 (by decide) rfl ?_
                        exact aw_zret dX3_item_229 rfl (by decide) ⟨false, (a_186 + 1) + 1, rfl, hT_218, hG_218, (by omega), (fH.lF g_27 b_221_2)⟩ ⟨Nat.zero_le _, Nat.zero_le _⟩
                      · skip
                        have b_221_2 : (seesP T ((a_186 + 1) + 1) (sw 45)) = true := Bool.of_not_eq_false (fun e => c_221_2 ((bI_0 _).mpr e))
                        rw [if_pos b_221_2] at hT_218
                        have t_218 := seesP_lt b_221_2
                        have N_218 : (a_186 + 1) + 1 + 1 ≤ N := lt_end hS.2.1 N_209 t_218.2
                        have a_218 : (a_186 + 1) + 1 + 1 ≤ 400 := by omega
                        have g_30 := fH.lT g_27 b_221_2
                        try dsimp only at g_30
                        have K_31 := (hS.1 (((a_186 + 1) + 1) + 1) N_218).2.1
                        refine aw_iconst (n := 225) (v := 1) dX3_item_224 (by decide) rfl ?_
                        refine aw_goto (tgt := 229) dX3_item_225 (by decide) ?_
                        exact aw_zret dX3_item_229 rfl (by decide) ⟨true, ((a_186 + 1) + 1) + 1, rfl, hT_218, hG_218, (by omega), (fH.ok g_30)⟩ ⟨Nat.zero_le _, Nat.zero_le _⟩
      · skip
        have b_117 : (seesP T a (sw 2)) = true := Bool.of_not_eq_false (fun e => c_117 ((bI_0 _).mpr e))
        rw [if_pos b_117] at hT_114
        have t_114 := seesP_lt b_117
        have N_114 : a + 1 ≤ N := lt_end hS.2.1 hN t_114.2
        have a_114 : a + 1 ≤ 400 := by omega
        have g_32 := fH.T g_5 (by first | assumption | simp [seesP, nmP, nuP, gOr, gAnd, gSum, gPro, b_6, b_69, b_117])
        try dsimp only at g_32
        have K_33 := (hS.1 (a + 1) N_114).2.1
        refine aw_aload_n (n := 121) dX3_item_120 rfl 0 rfl rfl ?_
        refine aw_callV (n := 124) (C0 := RX3) (As := []) (rest := []) (K2 := kX3_takesName) dX3_item_121 q2840 q2842 qs53 q113 q2843 ⟨rfl, hcX3_takesName⟩ rfl hT_114.1 (cf_takesName G h_114 b ms T N (a + 1) hb hT_114 hS N_114 a_114) rfl (Nat.le_of_ble_eq_true rfl) ⟨by dsimp only [kX3_formulaForm, kX3_rowForm, kX3_sinceForm, kX3_oneForm, kX3_expressionForm, kX3_productForm, kX3_factorForm, kX3_bracesForm, kX3_sees, kX3_goes, kX3_takes, kX3_takesName, kX3_takesNumber, kX3_which, kX3_isName, kX3_boundsForm, kJ12_length, fK]; omega, by dsimp only [kX3_formulaForm, kX3_rowForm, kX3_sinceForm, kX3_oneForm, kX3_expressionForm, kX3_productForm, kX3_factorForm, kX3_bracesForm, kX3_sees, kX3_goes, kX3_takes, kX3_takesName, kX3_takesNumber, kX3_which, kX3_isName, kX3_boundsForm, kJ12_length, fK]; omega⟩ ⟨Nat.zero_le _, Nat.zero_le _⟩ (fun _ _ _ z => z.elim) rfl (fun r_121 h_121 q_121 => ?_)
        obtain ⟨rfl, hT_121, hF_121, hz_121⟩ := q_121
        have hG_121 := Fr.trans hG_114 hF_121
        refine AW.sts (st' := [.int (bI (nmP T (a + 1)))]) rfl ?_
        refine aw_if_eq (n := 127) (tgt := 157) dX3_item_124 (by decide) rfl (fun c_124 => ?_) (fun c_124 => ?_)
        · skip
          have b_124 : (nmP T (a + 1)) = false := (bI_0 _).mp c_124
          rw [if_neg (by rw [b_124]; decide)] at hT_121
          refine aw_iconst (n := 158) (v := 0) dX3_item_157 (by decide) rfl ?_
          exact aw_zret dX3_item_158 rfl (by decide) ⟨false, a + 1, rfl, hT_121, hG_121, (by omega), (fH.tF g_32 b_124)⟩ ⟨Nat.zero_le _, Nat.zero_le _⟩
        · skip
          have b_124 : (nmP T (a + 1)) = true := Bool.of_not_eq_false (fun e => c_124 ((bI_0 _).mpr e))
          rw [if_pos b_124] at hT_121
          have t_121 := nmP_lt b_124
          have N_121 : a + 1 + 1 ≤ N := lt_end hS.2.1 N_114 t_121.2
          have a_121 : a + 1 + 1 ≤ 400 := by omega
          have g_34 := fH.tT g_32 b_124
          try dsimp only at g_34
          have K_35 := (hS.1 ((a + 1) + 1) N_121).2.1
          refine aw_aload_n (n := 128) dX3_item_127 rfl 0 rfl rfl ?_
          refine aw_ldcS (n := 130) (q := 42) dX3_item_128 92 rfl rfl ?_
          refine aw_know (fun gd_35 hi_35 => ?_)
          refine aw_callV (n := 133) (C0 := RX3) (As := [.ref (gT G 42)]) (rest := []) (K2 := kX3_takes) dX3_item_130 q2822 q2824 qs49 q113 q2825 ⟨rfl, hcX3_takes⟩ rfl hT_121.1 (cf_takes G h_121 b ms T N ((a + 1) + 1) hb hT_121 hS N_121 a_121 _ (sw 42) (str_at gd_35 hi_35 (i := 42) rfl) (lo_at (i := 42) rfl)) rfl (Nat.le_of_ble_eq_true rfl) ⟨by dsimp only [kX3_formulaForm, kX3_rowForm, kX3_sinceForm, kX3_oneForm, kX3_expressionForm, kX3_productForm, kX3_factorForm, kX3_bracesForm, kX3_sees, kX3_goes, kX3_takes, kX3_takesName, kX3_takesNumber, kX3_which, kX3_isName, kX3_boundsForm, kJ12_length, fK]; omega, by dsimp only [kX3_formulaForm, kX3_rowForm, kX3_sinceForm, kX3_oneForm, kX3_expressionForm, kX3_productForm, kX3_factorForm, kX3_bracesForm, kX3_sees, kX3_goes, kX3_takes, kX3_takesName, kX3_takesNumber, kX3_which, kX3_isName, kX3_boundsForm, kJ12_length, fK]; omega⟩ ⟨Nat.zero_le _, Nat.zero_le _⟩ (fun _ _ _ z => z.elim) rfl (fun r_130 h_130 q_130 => ?_)
          obtain ⟨rfl, hT_130, hF_130, hz_130⟩ := q_130
          have hG_130 := Fr.trans hG_121 hF_130
          refine AW.sts (st' := [.int (bI (seesP T ((a + 1) + 1) (sw 42)))]) rfl ?_
          refine aw_if_eq (n := 136) (tgt := 157) dX3_item_133 (by decide) rfl (fun c_133 => ?_) (fun c_133 => ?_)
          · skip
            have b_133 : (seesP T ((a + 1) + 1) (sw 42)) = false := (bI_0 _).mp c_133
            rw [if_neg (by rw [b_133]; decide)] at hT_130
            refine aw_iconst (n := 158) (v := 0) dX3_item_157 (by decide) rfl ?_
            exact aw_zret dX3_item_158 rfl (by decide) ⟨false, (a + 1) + 1, rfl, hT_130, hG_130, (by omega), (fH.tF g_34 b_133)⟩ ⟨Nat.zero_le _, Nat.zero_le _⟩
          · skip
            have b_133 : (seesP T ((a + 1) + 1) (sw 42)) = true := Bool.of_not_eq_false (fun e => c_133 ((bI_0 _).mpr e))
            rw [if_pos b_133] at hT_130
            have t_130 := seesP_lt b_133
            have N_130 : (a + 1) + 1 + 1 ≤ N := lt_end hS.2.1 N_121 t_130.2
            have a_130 : (a + 1) + 1 + 1 ≤ 400 := by omega
            have g_37 := fH.tT g_34 b_133
            try dsimp only at g_37
            have K_38 := (hS.1 (((a + 1) + 1) + 1) N_130).2.1
            refine aw_aload_n (n := 137) dX3_item_136 rfl 0 rfl rfl ?_
            refine aw_iconst (n := 138) (v := 0) dX3_item_137 (by decide) rfl ?_
            refine AW.sts (st' := [.int (nI 0), .ref b]) (by rw [show (0 : Int32) = nI 0 from (by rfl)]) ?_
            have ne_138 : (qX T f 5 0 (((a + 1) + 1) + 1)).1 ≠ 99 := fH.nb g_37 hne
            have V_138 : qW T N (((a + 1) + 1) + 1) (qX T f 5 0 (((a + 1) + 1) + 1)) := qX_W hS.2.1 f 5 _ _ N_130 a_130
            refine aw_callV (n := 141) (C0 := RX3) (As := [.int (nI 0)]) (rest := []) (K2 := kX3_expressionForm) dX3_item_138 q2895 q2897 qs62 q113 q2898 ⟨rfl, hcX3_expressionForm⟩ rfl hT_130.1 (ih 5 h_130 b ms T N (((a + 1) + 1) + 1) 0 (by decide) hb hT_130 hS N_130 a_130 (by omega) ne_138) rfl (Nat.le_of_ble_eq_true rfl) ⟨by dsimp only [kX3_formulaForm, kX3_rowForm, kX3_sinceForm, kX3_oneForm, kX3_expressionForm, kX3_productForm, kX3_factorForm, kX3_bracesForm, kX3_sees, kX3_goes, kX3_takes, kX3_takesName, kX3_takesNumber, kX3_which, kX3_isName, kX3_boundsForm, kJ12_length, fK]; omega, by dsimp only [kX3_formulaForm, kX3_rowForm, kX3_sinceForm, kX3_oneForm, kX3_expressionForm, kX3_productForm, kX3_factorForm, kX3_bracesForm, kX3_sees, kX3_goes, kX3_takes, kX3_takesName, kX3_takesNumber, kX3_which, kX3_isName, kX3_boundsForm, kJ12_length, fK]; omega⟩ ⟨Nat.zero_le _, Nat.zero_le _⟩ (fun _ _ _ z => z.elim) rfl (fun r_138 h_138 q_138 => ?_)
            obtain ⟨z_138, a_138, rfl, hT_138, hF_138, hz_138, fq_138⟩ := q_138
            have W_138 : a_138 ≤ N ∧ a_138 ≤ 400 := by rw [fq_138.1]; exact V_138.2
            have hG_138 := Fr.trans hG_130 hF_138
            refine AW.sts (st' := [.int (bI z_138)]) rfl ?_
            refine aw_if_eq (n := 144) (tgt := 157) dX3_item_141 (by decide) rfl (fun c_141 => ?_) (fun c_141 => ?_)
            · skip
              have b_141 : z_138 = false := (bI_0 _).mp c_141
              have f_138 : fQ T false a_138 _ := b_141 ▸ fq_138
              have K_39 := (hS.1 a_138 W_138.1).2.1
              refine aw_iconst (n := 158) (v := 0) dX3_item_157 (by decide) rfl ?_
              exact aw_zret dX3_item_158 rfl (by decide) ⟨false, a_138, rfl, hT_138, hG_138, (by omega), (fH.fail g_37 f_138 (by first | exact qPc_4 T _ _ | exact qLp_4 (gOr_4 T) _ | exact qLp_4 (gAnd_4 T) _ | exact qLp_4 (gSum_4 T) _ | exact qLp_4 (gPro_4 T) _ | simp [qb_0, qb_1, qb_4, qX_4, seesP_4, nmP_4, nuP_4, whP_4, qT_4, qNm_4, qNu_4, qBd_4, qBr_4, qBo, qI_f, gOr_4, gAnd_4, gSum_4, gPro_4, qLp_4]))⟩ ⟨Nat.zero_le _, Nat.zero_le _⟩
            · skip
              have b_141 : z_138 = true := Bool.of_not_eq_false (fun e => c_141 ((bI_0 _).mpr e))
              have f_138 : fQ T true a_138 _ := b_141 ▸ fq_138
              have g_40 := fH.step g_37 f_138
              try dsimp only at g_40
              have K_41 := (hS.1 a_138 W_138.1).2.1
              refine aw_aload_n (n := 145) dX3_item_144 rfl 0 rfl rfl ?_
              refine aw_ldcS (n := 147) (q := 45) dX3_item_145 94 rfl rfl ?_
              refine aw_know (fun gd_41 hi_41 => ?_)
              refine aw_callV (n := 150) (C0 := RX3) (As := [.ref (gT G 45)]) (rest := []) (K2 := kX3_takes) dX3_item_147 q2822 q2824 qs49 q113 q2825 ⟨rfl, hcX3_takes⟩ rfl hT_138.1 (cf_takes G h_138 b ms T N a_138 hb hT_138 hS W_138.1 W_138.2 _ (sw 45) (str_at gd_41 hi_41 (i := 45) rfl) (lo_at (i := 45) rfl)) rfl (Nat.le_of_ble_eq_true rfl) ⟨by dsimp only [kX3_formulaForm, kX3_rowForm, kX3_sinceForm, kX3_oneForm, kX3_expressionForm, kX3_productForm, kX3_factorForm, kX3_bracesForm, kX3_sees, kX3_goes, kX3_takes, kX3_takesName, kX3_takesNumber, kX3_which, kX3_isName, kX3_boundsForm, kJ12_length, fK]; omega, by dsimp only [kX3_formulaForm, kX3_rowForm, kX3_sinceForm, kX3_oneForm, kX3_expressionForm, kX3_productForm, kX3_factorForm, kX3_bracesForm, kX3_sees, kX3_goes, kX3_takes, kX3_takesName, kX3_takesNumber, kX3_which, kX3_isName, kX3_boundsForm, kJ12_length, fK]; omega⟩ ⟨Nat.zero_le _, Nat.zero_le _⟩ (fun _ _ _ z => z.elim) rfl (fun r_147 h_147 q_147 => ?_)
              obtain ⟨rfl, hT_147, hF_147, hz_147⟩ := q_147
              have hG_147 := Fr.trans hG_138 hF_147
              refine AW.sts (st' := [.int (bI (seesP T a_138 (sw 45)))]) rfl ?_
              refine aw_if_eq (n := 153) (tgt := 157) dX3_item_150 (by decide) rfl (fun c_150 => ?_) (fun c_150 => ?_)
              · skip
                have b_150 : (seesP T a_138 (sw 45)) = false := (bI_0 _).mp c_150
                rw [if_neg (by rw [b_150]; decide)] at hT_147
                refine aw_iconst (n := 158) (v := 0) dX3_item_157 (by decide) rfl ?_
                exact aw_zret dX3_item_158 rfl (by decide) ⟨false, a_138, rfl, hT_147, hG_147, (by omega), (fH.lF g_40 b_150)⟩ ⟨Nat.zero_le _, Nat.zero_le _⟩
              · skip
                have b_150 : (seesP T a_138 (sw 45)) = true := Bool.of_not_eq_false (fun e => c_150 ((bI_0 _).mpr e))
                rw [if_pos b_150] at hT_147
                have t_147 := seesP_lt b_150
                have N_147 : a_138 + 1 ≤ N := lt_end hS.2.1 W_138.1 t_147.2
                have a_147 : a_138 + 1 ≤ 400 := by omega
                have g_43 := fH.lT g_40 b_150
                try dsimp only at g_43
                have K_44 := (hS.1 (a_138 + 1) N_147).2.1
                refine aw_iconst (n := 154) (v := 1) dX3_item_153 (by decide) rfl ?_
                refine aw_goto (tgt := 158) dX3_item_154 (by decide) ?_
                exact aw_zret dX3_item_158 rfl (by decide) ⟨true, a_138 + 1, rfl, hT_147, hG_147, (by omega), (fH.ok g_43)⟩ ⟨Nat.zero_le _, Nat.zero_le _⟩
    · skip
      have b_69 : (seesP T a (sw 1)) = true := Bool.of_not_eq_false (fun e => c_69 ((bI_0 _).mpr e))
      rw [if_pos b_69] at hT_66
      have t_66 := seesP_lt b_69
      have N_66 : a + 1 ≤ N := lt_end hS.2.1 hN t_66.2
      have a_66 : a + 1 ≤ 400 := by omega
      have g_45 := fH.T g_3 (by first | assumption | simp [seesP, nmP, nuP, gOr, gAnd, gSum, gPro, b_6, b_69])
      try dsimp only at g_45
      have K_46 := (hS.1 (a + 1) N_66).2.1
      refine aw_aload_n (n := 73) dX3_item_72 rfl 0 rfl rfl ?_
      refine aw_callV (n := 76) (C0 := RX3) (As := []) (rest := []) (K2 := kX3_takesName) dX3_item_73 q2840 q2842 qs53 q113 q2843 ⟨rfl, hcX3_takesName⟩ rfl hT_66.1 (cf_takesName G h_66 b ms T N (a + 1) hb hT_66 hS N_66 a_66) rfl (Nat.le_of_ble_eq_true rfl) ⟨by dsimp only [kX3_formulaForm, kX3_rowForm, kX3_sinceForm, kX3_oneForm, kX3_expressionForm, kX3_productForm, kX3_factorForm, kX3_bracesForm, kX3_sees, kX3_goes, kX3_takes, kX3_takesName, kX3_takesNumber, kX3_which, kX3_isName, kX3_boundsForm, kJ12_length, fK]; omega, by dsimp only [kX3_formulaForm, kX3_rowForm, kX3_sinceForm, kX3_oneForm, kX3_expressionForm, kX3_productForm, kX3_factorForm, kX3_bracesForm, kX3_sees, kX3_goes, kX3_takes, kX3_takesName, kX3_takesNumber, kX3_which, kX3_isName, kX3_boundsForm, kJ12_length, fK]; omega⟩ ⟨Nat.zero_le _, Nat.zero_le _⟩ (fun _ _ _ z => z.elim) rfl (fun r_73 h_73 q_73 => ?_)
      obtain ⟨rfl, hT_73, hF_73, hz_73⟩ := q_73
      have hG_73 := Fr.trans hG_66 hF_73
      refine AW.sts (st' := [.int (bI (nmP T (a + 1)))]) rfl ?_
      refine aw_if_eq (n := 79) (tgt := 109) dX3_item_76 (by decide) rfl (fun c_76 => ?_) (fun c_76 => ?_)
      · skip
        have b_76 : (nmP T (a + 1)) = false := (bI_0 _).mp c_76
        rw [if_neg (by rw [b_76]; decide)] at hT_73
        refine aw_iconst (n := 110) (v := 0) dX3_item_109 (by decide) rfl ?_
        exact aw_zret dX3_item_110 rfl (by decide) ⟨false, a + 1, rfl, hT_73, hG_73, (by omega), (fH.tF g_45 b_76)⟩ ⟨Nat.zero_le _, Nat.zero_le _⟩
      · skip
        have b_76 : (nmP T (a + 1)) = true := Bool.of_not_eq_false (fun e => c_76 ((bI_0 _).mpr e))
        rw [if_pos b_76] at hT_73
        have t_73 := nmP_lt b_76
        have N_73 : a + 1 + 1 ≤ N := lt_end hS.2.1 N_66 t_73.2
        have a_73 : a + 1 + 1 ≤ 400 := by omega
        have g_47 := fH.tT g_45 b_76
        try dsimp only at g_47
        have K_48 := (hS.1 ((a + 1) + 1) N_73).2.1
        refine aw_aload_n (n := 80) dX3_item_79 rfl 0 rfl rfl ?_
        refine aw_ldcS (n := 82) (q := 30) dX3_item_80 96 rfl rfl ?_
        refine aw_know (fun gd_48 hi_48 => ?_)
        refine aw_callV (n := 85) (C0 := RX3) (As := [.ref (gT G 30)]) (rest := []) (K2 := kX3_takes) dX3_item_82 q2822 q2824 qs49 q113 q2825 ⟨rfl, hcX3_takes⟩ rfl hT_73.1 (cf_takes G h_73 b ms T N ((a + 1) + 1) hb hT_73 hS N_73 a_73 _ (sw 30) (str_at gd_48 hi_48 (i := 30) rfl) (lo_at (i := 30) rfl)) rfl (Nat.le_of_ble_eq_true rfl) ⟨by dsimp only [kX3_formulaForm, kX3_rowForm, kX3_sinceForm, kX3_oneForm, kX3_expressionForm, kX3_productForm, kX3_factorForm, kX3_bracesForm, kX3_sees, kX3_goes, kX3_takes, kX3_takesName, kX3_takesNumber, kX3_which, kX3_isName, kX3_boundsForm, kJ12_length, fK]; omega, by dsimp only [kX3_formulaForm, kX3_rowForm, kX3_sinceForm, kX3_oneForm, kX3_expressionForm, kX3_productForm, kX3_factorForm, kX3_bracesForm, kX3_sees, kX3_goes, kX3_takes, kX3_takesName, kX3_takesNumber, kX3_which, kX3_isName, kX3_boundsForm, kJ12_length, fK]; omega⟩ ⟨Nat.zero_le _, Nat.zero_le _⟩ (fun _ _ _ z => z.elim) rfl (fun r_82 h_82 q_82 => ?_)
        obtain ⟨rfl, hT_82, hF_82, hz_82⟩ := q_82
        have hG_82 := Fr.trans hG_73 hF_82
        refine AW.sts (st' := [.int (bI (seesP T ((a + 1) + 1) (sw 30)))]) rfl ?_
        refine aw_if_eq (n := 88) (tgt := 109) dX3_item_85 (by decide) rfl (fun c_85 => ?_) (fun c_85 => ?_)
        · skip
          have b_85 : (seesP T ((a + 1) + 1) (sw 30)) = false := (bI_0 _).mp c_85
          rw [if_neg (by rw [b_85]; decide)] at hT_82
          refine aw_iconst (n := 110) (v := 0) dX3_item_109 (by decide) rfl ?_
          exact aw_zret dX3_item_110 rfl (by decide) ⟨false, (a + 1) + 1, rfl, hT_82, hG_82, (by omega), (fH.tF g_47 b_85)⟩ ⟨Nat.zero_le _, Nat.zero_le _⟩
        · skip
          have b_85 : (seesP T ((a + 1) + 1) (sw 30)) = true := Bool.of_not_eq_false (fun e => c_85 ((bI_0 _).mpr e))
          rw [if_pos b_85] at hT_82
          have t_82 := seesP_lt b_85
          have N_82 : (a + 1) + 1 + 1 ≤ N := lt_end hS.2.1 N_73 t_82.2
          have a_82 : (a + 1) + 1 + 1 ≤ 400 := by omega
          have g_50 := fH.tT g_47 b_85
          try dsimp only at g_50
          have K_51 := (hS.1 (((a + 1) + 1) + 1) N_82).2.1
          refine aw_aload_n (n := 89) dX3_item_88 rfl 0 rfl rfl ?_
          refine aw_iconst (n := 90) (v := 0) dX3_item_89 (by decide) rfl ?_
          refine AW.sts (st' := [.int (nI 0), .ref b]) (by rw [show (0 : Int32) = nI 0 from (by rfl)]) ?_
          have ne_90 : (qX T f 0 0 (((a + 1) + 1) + 1)).1 ≠ 99 := fH.nb g_50 hne
          have V_90 : qW T N (((a + 1) + 1) + 1) (qX T f 0 0 (((a + 1) + 1) + 1)) := qX_W hS.2.1 f 0 _ _ N_82 a_82
          refine aw_callV (n := 93) (C0 := RX3) (As := [.int (nI 0)]) (rest := []) (K2 := kX3_formulaForm) dX3_item_90 q2863 q2865 qs57 q113 q2866 ⟨rfl, hcX3_formulaForm⟩ rfl hT_82.1 (ih 0 h_82 b ms T N (((a + 1) + 1) + 1) 0 (by decide) hb hT_82 hS N_82 a_82 (by omega) ne_90) rfl (Nat.le_of_ble_eq_true rfl) ⟨by dsimp only [kX3_formulaForm, kX3_rowForm, kX3_sinceForm, kX3_oneForm, kX3_expressionForm, kX3_productForm, kX3_factorForm, kX3_bracesForm, kX3_sees, kX3_goes, kX3_takes, kX3_takesName, kX3_takesNumber, kX3_which, kX3_isName, kX3_boundsForm, kJ12_length, fK]; omega, by dsimp only [kX3_formulaForm, kX3_rowForm, kX3_sinceForm, kX3_oneForm, kX3_expressionForm, kX3_productForm, kX3_factorForm, kX3_bracesForm, kX3_sees, kX3_goes, kX3_takes, kX3_takesName, kX3_takesNumber, kX3_which, kX3_isName, kX3_boundsForm, kJ12_length, fK]; omega⟩ ⟨Nat.zero_le _, Nat.zero_le _⟩ (fun _ _ _ z => z.elim) rfl (fun r_90 h_90 q_90 => ?_)
          obtain ⟨z_90, a_90, rfl, hT_90, hF_90, hz_90, fq_90⟩ := q_90
          have W_90 : a_90 ≤ N ∧ a_90 ≤ 400 := by rw [fq_90.1]; exact V_90.2
          have hG_90 := Fr.trans hG_82 hF_90
          refine AW.sts (st' := [.int (bI z_90)]) rfl ?_
          refine aw_if_eq (n := 96) (tgt := 109) dX3_item_93 (by decide) rfl (fun c_93 => ?_) (fun c_93 => ?_)
          · skip
            have b_93 : z_90 = false := (bI_0 _).mp c_93
            have f_90 : fQ T false a_90 _ := b_93 ▸ fq_90
            have K_52 := (hS.1 a_90 W_90.1).2.1
            refine aw_iconst (n := 110) (v := 0) dX3_item_109 (by decide) rfl ?_
            exact aw_zret dX3_item_110 rfl (by decide) ⟨false, a_90, rfl, hT_90, hG_90, (by omega), (fH.fail g_50 f_90 (by first | exact qPc_4 T _ _ | exact qLp_4 (gOr_4 T) _ | exact qLp_4 (gAnd_4 T) _ | exact qLp_4 (gSum_4 T) _ | exact qLp_4 (gPro_4 T) _ | simp [qb_0, qb_1, qb_4, qX_4, seesP_4, nmP_4, nuP_4, whP_4, qT_4, qNm_4, qNu_4, qBd_4, qBr_4, qBo, qI_f, gOr_4, gAnd_4, gSum_4, gPro_4, qLp_4]))⟩ ⟨Nat.zero_le _, Nat.zero_le _⟩
          · skip
            have b_93 : z_90 = true := Bool.of_not_eq_false (fun e => c_93 ((bI_0 _).mpr e))
            have f_90 : fQ T true a_90 _ := b_93 ▸ fq_90
            have g_53 := fH.step g_50 f_90
            try dsimp only at g_53
            have K_54 := (hS.1 a_90 W_90.1).2.1
            refine aw_aload_n (n := 97) dX3_item_96 rfl 0 rfl rfl ?_
            refine aw_ldcS (n := 99) (q := 45) dX3_item_97 94 rfl rfl ?_
            refine aw_know (fun gd_54 hi_54 => ?_)
            refine aw_callV (n := 102) (C0 := RX3) (As := [.ref (gT G 45)]) (rest := []) (K2 := kX3_takes) dX3_item_99 q2822 q2824 qs49 q113 q2825 ⟨rfl, hcX3_takes⟩ rfl hT_90.1 (cf_takes G h_90 b ms T N a_90 hb hT_90 hS W_90.1 W_90.2 _ (sw 45) (str_at gd_54 hi_54 (i := 45) rfl) (lo_at (i := 45) rfl)) rfl (Nat.le_of_ble_eq_true rfl) ⟨by dsimp only [kX3_formulaForm, kX3_rowForm, kX3_sinceForm, kX3_oneForm, kX3_expressionForm, kX3_productForm, kX3_factorForm, kX3_bracesForm, kX3_sees, kX3_goes, kX3_takes, kX3_takesName, kX3_takesNumber, kX3_which, kX3_isName, kX3_boundsForm, kJ12_length, fK]; omega, by dsimp only [kX3_formulaForm, kX3_rowForm, kX3_sinceForm, kX3_oneForm, kX3_expressionForm, kX3_productForm, kX3_factorForm, kX3_bracesForm, kX3_sees, kX3_goes, kX3_takes, kX3_takesName, kX3_takesNumber, kX3_which, kX3_isName, kX3_boundsForm, kJ12_length, fK]; omega⟩ ⟨Nat.zero_le _, Nat.zero_le _⟩ (fun _ _ _ z => z.elim) rfl (fun r_99 h_99 q_99 => ?_)
            obtain ⟨rfl, hT_99, hF_99, hz_99⟩ := q_99
            have hG_99 := Fr.trans hG_90 hF_99
            refine AW.sts (st' := [.int (bI (seesP T a_90 (sw 45)))]) rfl ?_
            refine aw_if_eq (n := 105) (tgt := 109) dX3_item_102 (by decide) rfl (fun c_102 => ?_) (fun c_102 => ?_)
            · skip
              have b_102 : (seesP T a_90 (sw 45)) = false := (bI_0 _).mp c_102
              rw [if_neg (by rw [b_102]; decide)] at hT_99
              refine aw_iconst (n := 110) (v := 0) dX3_item_109 (by decide) rfl ?_
              exact aw_zret dX3_item_110 rfl (by decide) ⟨false, a_90, rfl, hT_99, hG_99, (by omega), (fH.lF g_53 b_102)⟩ ⟨Nat.zero_le _, Nat.zero_le _⟩
            · skip
              have b_102 : (seesP T a_90 (sw 45)) = true := Bool.of_not_eq_false (fun e => c_102 ((bI_0 _).mpr e))
              rw [if_pos b_102] at hT_99
              have t_99 := seesP_lt b_102
              have N_99 : a_90 + 1 ≤ N := lt_end hS.2.1 W_90.1 t_99.2
              have a_99 : a_90 + 1 ≤ 400 := by omega
              have g_56 := fH.lT g_53 b_102
              try dsimp only at g_56
              have K_57 := (hS.1 (a_90 + 1) N_99).2.1
              refine aw_iconst (n := 106) (v := 1) dX3_item_105 (by decide) rfl ?_
              refine aw_goto (tgt := 110) dX3_item_106 (by decide) ?_
              exact aw_zret dX3_item_110 rfl (by decide) ⟨true, a_90 + 1, rfl, hT_99, hG_99, (by omega), (fH.ok g_56)⟩ ⟨Nat.zero_le _, Nat.zero_le _⟩
  · skip
    have b_6 : (seesP T a (sw 0)) = true := Bool.of_not_eq_false (fun e => c_6 ((bI_0 _).mpr e))
    rw [if_pos b_6] at hT_3
    have t_3 := seesP_lt b_6
    have N_3 : a + 1 ≤ N := lt_end hS.2.1 hN t_3.2
    have a_3 : a + 1 ≤ 400 := by omega
    have g_58 := fH.T hg0 (by first | assumption | simp [seesP, nmP, nuP, gOr, gAnd, gSum, gPro, b_6])
    try dsimp only at g_58
    have K_59 := (hS.1 (a + 1) N_3).2.1
    refine aw_aload_n (n := 10) dX3_item_9 rfl 0 rfl rfl ?_
    refine aw_callV (n := 13) (C0 := RX3) (As := []) (rest := []) (K2 := kX3_takesName) dX3_item_10 q2840 q2842 qs53 q113 q2843 ⟨rfl, hcX3_takesName⟩ rfl hT_3.1 (cf_takesName G h_3 b ms T N (a + 1) hb hT_3 hS N_3 a_3) rfl (Nat.le_of_ble_eq_true rfl) ⟨by dsimp only [kX3_formulaForm, kX3_rowForm, kX3_sinceForm, kX3_oneForm, kX3_expressionForm, kX3_productForm, kX3_factorForm, kX3_bracesForm, kX3_sees, kX3_goes, kX3_takes, kX3_takesName, kX3_takesNumber, kX3_which, kX3_isName, kX3_boundsForm, kJ12_length, fK]; omega, by dsimp only [kX3_formulaForm, kX3_rowForm, kX3_sinceForm, kX3_oneForm, kX3_expressionForm, kX3_productForm, kX3_factorForm, kX3_bracesForm, kX3_sees, kX3_goes, kX3_takes, kX3_takesName, kX3_takesNumber, kX3_which, kX3_isName, kX3_boundsForm, kJ12_length, fK]; omega⟩ ⟨Nat.zero_le _, Nat.zero_le _⟩ (fun _ _ _ z => z.elim) rfl (fun r_10 h_10 q_10 => ?_)
    obtain ⟨rfl, hT_10, hF_10, hz_10⟩ := q_10
    have hG_10 := Fr.trans hF_3 hF_10
    refine AW.sts (st' := [.int (bI (nmP T (a + 1)))]) rfl ?_
    refine aw_if_eq (n := 16) (tgt := 61) dX3_item_13 (by decide) rfl (fun c_13 => ?_) (fun c_13 => ?_)
    · skip
      have b_13 : (nmP T (a + 1)) = false := (bI_0 _).mp c_13
      rw [if_neg (by rw [b_13]; decide)] at hT_10
      refine aw_iconst (n := 62) (v := 0) dX3_item_61 (by decide) rfl ?_
      exact aw_zret dX3_item_62 rfl (by decide) ⟨false, a + 1, rfl, hT_10, hG_10, (by omega), (fH.tF g_58 b_13)⟩ ⟨Nat.zero_le _, Nat.zero_le _⟩
    · skip
      have b_13 : (nmP T (a + 1)) = true := Bool.of_not_eq_false (fun e => c_13 ((bI_0 _).mpr e))
      rw [if_pos b_13] at hT_10
      have t_10 := nmP_lt b_13
      have N_10 : a + 1 + 1 ≤ N := lt_end hS.2.1 N_3 t_10.2
      have a_10 : a + 1 + 1 ≤ 400 := by omega
      have g_60 := fH.tT g_58 b_13
      try dsimp only at g_60
      have K_61 := (hS.1 ((a + 1) + 1) N_10).2.1
      refine aw_aload_n (n := 17) dX3_item_16 rfl 0 rfl rfl ?_
      refine aw_ldcS (n := 19) (q := 42) dX3_item_17 92 rfl rfl ?_
      refine aw_know (fun gd_61 hi_61 => ?_)
      refine aw_callV (n := 22) (C0 := RX3) (As := [.ref (gT G 42)]) (rest := []) (K2 := kX3_takes) dX3_item_19 q2822 q2824 qs49 q113 q2825 ⟨rfl, hcX3_takes⟩ rfl hT_10.1 (cf_takes G h_10 b ms T N ((a + 1) + 1) hb hT_10 hS N_10 a_10 _ (sw 42) (str_at gd_61 hi_61 (i := 42) rfl) (lo_at (i := 42) rfl)) rfl (Nat.le_of_ble_eq_true rfl) ⟨by dsimp only [kX3_formulaForm, kX3_rowForm, kX3_sinceForm, kX3_oneForm, kX3_expressionForm, kX3_productForm, kX3_factorForm, kX3_bracesForm, kX3_sees, kX3_goes, kX3_takes, kX3_takesName, kX3_takesNumber, kX3_which, kX3_isName, kX3_boundsForm, kJ12_length, fK]; omega, by dsimp only [kX3_formulaForm, kX3_rowForm, kX3_sinceForm, kX3_oneForm, kX3_expressionForm, kX3_productForm, kX3_factorForm, kX3_bracesForm, kX3_sees, kX3_goes, kX3_takes, kX3_takesName, kX3_takesNumber, kX3_which, kX3_isName, kX3_boundsForm, kJ12_length, fK]; omega⟩ ⟨Nat.zero_le _, Nat.zero_le _⟩ (fun _ _ _ z => z.elim) rfl (fun r_19 h_19 q_19 => ?_)
      obtain ⟨rfl, hT_19, hF_19, hz_19⟩ := q_19
      have hG_19 := Fr.trans hG_10 hF_19
      refine AW.sts (st' := [.int (bI (seesP T ((a + 1) + 1) (sw 42)))]) rfl ?_
      refine aw_if_eq (n := 25) (tgt := 61) dX3_item_22 (by decide) rfl (fun c_22 => ?_) (fun c_22 => ?_)
      · skip
        have b_22 : (seesP T ((a + 1) + 1) (sw 42)) = false := (bI_0 _).mp c_22
        rw [if_neg (by rw [b_22]; decide)] at hT_19
        refine aw_iconst (n := 62) (v := 0) dX3_item_61 (by decide) rfl ?_
        exact aw_zret dX3_item_62 rfl (by decide) ⟨false, (a + 1) + 1, rfl, hT_19, hG_19, (by omega), (fH.tF g_60 b_22)⟩ ⟨Nat.zero_le _, Nat.zero_le _⟩
      · skip
        have b_22 : (seesP T ((a + 1) + 1) (sw 42)) = true := Bool.of_not_eq_false (fun e => c_22 ((bI_0 _).mpr e))
        rw [if_pos b_22] at hT_19
        have t_19 := seesP_lt b_22
        have N_19 : (a + 1) + 1 + 1 ≤ N := lt_end hS.2.1 N_10 t_19.2
        have a_19 : (a + 1) + 1 + 1 ≤ 400 := by omega
        have g_63 := fH.tT g_60 b_22
        try dsimp only at g_63
        have K_64 := (hS.1 (((a + 1) + 1) + 1) N_19).2.1
        refine aw_aload_n (n := 26) dX3_item_25 rfl 0 rfl rfl ?_
        refine aw_ldcS (n := 28) (q := 38) dX3_item_26 93 rfl rfl ?_
        refine aw_know (fun gd_64 hi_64 => ?_)
        refine aw_callV (n := 31) (C0 := RX3) (As := [.ref (gT G 38)]) (rest := []) (K2 := kX3_sees) dX3_item_28 q2826 q2828 qs50 q113 q2829 ⟨rfl, hcX3_sees⟩ rfl hT_19.1 (ct_sees G h_19 b (ats ms (((a + 1) + 1) + 1)) hb hT_19 T (((a + 1) + 1) + 1) rfl (hS.1 (((a + 1) + 1) + 1) N_19) _ (sw 38) (str_at gd_64 hi_64 (i := 38) rfl) (lo_at (i := 38) rfl)) rfl (Nat.le_of_ble_eq_true rfl) ⟨by dsimp only [kX3_formulaForm, kX3_rowForm, kX3_sinceForm, kX3_oneForm, kX3_expressionForm, kX3_productForm, kX3_factorForm, kX3_bracesForm, kX3_sees, kX3_goes, kX3_takes, kX3_takesName, kX3_takesNumber, kX3_which, kX3_isName, kX3_boundsForm, kJ12_length, fK]; omega, by dsimp only [kX3_formulaForm, kX3_rowForm, kX3_sinceForm, kX3_oneForm, kX3_expressionForm, kX3_productForm, kX3_factorForm, kX3_bracesForm, kX3_sees, kX3_goes, kX3_takes, kX3_takesName, kX3_takesNumber, kX3_which, kX3_isName, kX3_boundsForm, kJ12_length, fK]; omega⟩ ⟨Nat.zero_le _, Nat.zero_le _⟩ (fun _ _ _ z => z.elim) rfl (fun r_28 h_28 q_28 => ?_)
        obtain ⟨rfl, rfl⟩ := q_28
        refine AW.sts (st' := [.int (bI (seesB T (((a + 1) + 1) + 1) (sw 38)))]) rfl ?_
        refine aw_if_eq (n := 34) (tgt := 41) dX3_item_31 (by decide) rfl (fun c_31 => ?_) (fun c_31 => ?_)
        · skip
          have b_31 : (seesB T (((a + 1) + 1) + 1) (sw 38)) = false := (bI_0 _).mp c_31
          have g_66 := fH.bF g_63 (by first | assumption | simp [seesP, nmP, nuP, gOr, gAnd, gSum, gPro, b_31])
          try dsimp only at g_66
          have g_67 := fH.b0 g_66
          try dsimp only at g_67
          refine aw_aload_n (n := 42) dX3_item_41 rfl 0 rfl rfl ?_
          refine aw_callV (n := 45) (C0 := RX3) (As := []) (rest := []) (K2 := kX3_takesNumber) dX3_item_42 q2856 q2858 qs56 q113 q2859 ⟨rfl, hcX3_takesNumber⟩ rfl hT_19.1 (cf_takesNumber G h_19 b ms T N (((a + 1) + 1) + 1) hb hT_19 hS N_19 a_19) rfl (Nat.le_of_ble_eq_true rfl) ⟨by dsimp only [kX3_formulaForm, kX3_rowForm, kX3_sinceForm, kX3_oneForm, kX3_expressionForm, kX3_productForm, kX3_factorForm, kX3_bracesForm, kX3_sees, kX3_goes, kX3_takes, kX3_takesName, kX3_takesNumber, kX3_which, kX3_isName, kX3_boundsForm, kJ12_length, fK]; omega, by dsimp only [kX3_formulaForm, kX3_rowForm, kX3_sinceForm, kX3_oneForm, kX3_expressionForm, kX3_productForm, kX3_factorForm, kX3_bracesForm, kX3_sees, kX3_goes, kX3_takes, kX3_takesName, kX3_takesNumber, kX3_which, kX3_isName, kX3_boundsForm, kJ12_length, fK]; omega⟩ ⟨Nat.zero_le _, Nat.zero_le _⟩ (fun _ _ _ z => z.elim) rfl (fun r_42 h_42 q_42 => ?_)
          obtain ⟨rfl, hT_42, hF_42, hz_42⟩ := q_42
          have hG_42 := Fr.trans hG_19 hF_42
          refine AW.sts (st' := [.int (bI (nuP T (((a + 1) + 1) + 1)))]) rfl ?_
          refine aw_if_eq (n := 48) (tgt := 61) dX3_item_45 (by decide) rfl (fun c_45 => ?_) (fun c_45 => ?_)
          · skip
            have b_45 : (nuP T (((a + 1) + 1) + 1)) = false := (bI_0 _).mp c_45
            rw [if_neg (by rw [b_45]; decide)] at hT_42
            refine aw_iconst (n := 62) (v := 0) dX3_item_61 (by decide) rfl ?_
            exact aw_zret dX3_item_62 rfl (by decide) ⟨false, ((a + 1) + 1) + 1, rfl, hT_42, hG_42, (by omega), (fH.tF g_67 b_45)⟩ ⟨Nat.zero_le _, Nat.zero_le _⟩
          · skip
            have b_45 : (nuP T (((a + 1) + 1) + 1)) = true := Bool.of_not_eq_false (fun e => c_45 ((bI_0 _).mpr e))
            rw [if_pos b_45] at hT_42
            have t_42 := nuP_lt b_45
            have N_42 : ((a + 1) + 1) + 1 + 1 ≤ N := lt_end hS.2.1 N_19 t_42.2
            have a_42 : ((a + 1) + 1) + 1 + 1 ≤ 400 := by omega
            have g_68 := fH.tT g_67 b_45
            try dsimp only at g_68
            have K_69 := (hS.1 ((((a + 1) + 1) + 1) + 1) N_42).2.1
            refine aw_aload_n (n := 49) dX3_item_48 rfl 0 rfl rfl ?_
            refine aw_ldcS (n := 51) (q := 45) dX3_item_49 94 rfl rfl ?_
            refine aw_know (fun gd_69 hi_69 => ?_)
            refine aw_callV (n := 54) (C0 := RX3) (As := [.ref (gT G 45)]) (rest := []) (K2 := kX3_takes) dX3_item_51 q2822 q2824 qs49 q113 q2825 ⟨rfl, hcX3_takes⟩ rfl hT_42.1 (cf_takes G h_42 b ms T N ((((a + 1) + 1) + 1) + 1) hb hT_42 hS N_42 a_42 _ (sw 45) (str_at gd_69 hi_69 (i := 45) rfl) (lo_at (i := 45) rfl)) rfl (Nat.le_of_ble_eq_true rfl) ⟨by dsimp only [kX3_formulaForm, kX3_rowForm, kX3_sinceForm, kX3_oneForm, kX3_expressionForm, kX3_productForm, kX3_factorForm, kX3_bracesForm, kX3_sees, kX3_goes, kX3_takes, kX3_takesName, kX3_takesNumber, kX3_which, kX3_isName, kX3_boundsForm, kJ12_length, fK]; omega, by dsimp only [kX3_formulaForm, kX3_rowForm, kX3_sinceForm, kX3_oneForm, kX3_expressionForm, kX3_productForm, kX3_factorForm, kX3_bracesForm, kX3_sees, kX3_goes, kX3_takes, kX3_takesName, kX3_takesNumber, kX3_which, kX3_isName, kX3_boundsForm, kJ12_length, fK]; omega⟩ ⟨Nat.zero_le _, Nat.zero_le _⟩ (fun _ _ _ z => z.elim) rfl (fun r_51 h_51 q_51 => ?_)
            obtain ⟨rfl, hT_51, hF_51, hz_51⟩ := q_51
            have hG_51 := Fr.trans hG_42 hF_51
            refine AW.sts (st' := [.int (bI (seesP T ((((a + 1) + 1) + 1) + 1) (sw 45)))]) rfl ?_
            refine aw_if_eq (n := 57) (tgt := 61) dX3_item_54 (by decide) rfl (fun c_54 => ?_) (fun c_54 => ?_)
            · skip
              have b_54 : (seesP T ((((a + 1) + 1) + 1) + 1) (sw 45)) = false := (bI_0 _).mp c_54
              rw [if_neg (by rw [b_54]; decide)] at hT_51
              refine aw_iconst (n := 62) (v := 0) dX3_item_61 (by decide) rfl ?_
              exact aw_zret dX3_item_62 rfl (by decide) ⟨false, (((a + 1) + 1) + 1) + 1, rfl, hT_51, hG_51, (by omega), (fH.lF g_68 b_54)⟩ ⟨Nat.zero_le _, Nat.zero_le _⟩
            · skip
              have b_54 : (seesP T ((((a + 1) + 1) + 1) + 1) (sw 45)) = true := Bool.of_not_eq_false (fun e => c_54 ((bI_0 _).mpr e))
              rw [if_pos b_54] at hT_51
              have t_51 := seesP_lt b_54
              have N_51 : (((a + 1) + 1) + 1) + 1 + 1 ≤ N := lt_end hS.2.1 N_42 t_51.2
              have a_51 : (((a + 1) + 1) + 1) + 1 + 1 ≤ 400 := by omega
              have g_71 := fH.lT g_68 b_54
              try dsimp only at g_71
              have K_72 := (hS.1 (((((a + 1) + 1) + 1) + 1) + 1) N_51).2.1
              refine aw_iconst (n := 58) (v := 1) dX3_item_57 (by decide) rfl ?_
              refine aw_goto (tgt := 62) dX3_item_58 (by decide) ?_
              exact aw_zret dX3_item_62 rfl (by decide) ⟨true, ((((a + 1) + 1) + 1) + 1) + 1, rfl, hT_51, hG_51, (by omega), (fH.ok g_71)⟩ ⟨Nat.zero_le _, Nat.zero_le _⟩
        · skip
          have b_31 : (seesB T (((a + 1) + 1) + 1) (sw 38)) = true := Bool.of_not_eq_false (fun e => c_31 ((bI_0 _).mpr e))
          refine aw_aload_n (n := 35) dX3_item_34 rfl 0 rfl rfl ?_
          refine aw_callV (n := 38) (C0 := RX3) (As := []) (rest := []) (K2 := kX3_goes) dX3_item_35 q2836 q2838 qs52 q113 q2839 ⟨rfl, hcX3_goes⟩ rfl hT_19.1 (ct_goes G h_19 b (ats ms (((a + 1) + 1) + 1)) hb hT_19 (((a + 1) + 1) + 1) rfl a_19) rfl (Nat.le_of_ble_eq_true rfl) ⟨by dsimp only [kX3_formulaForm, kX3_rowForm, kX3_sinceForm, kX3_oneForm, kX3_expressionForm, kX3_productForm, kX3_factorForm, kX3_bracesForm, kX3_sees, kX3_goes, kX3_takes, kX3_takesName, kX3_takesNumber, kX3_which, kX3_isName, kX3_boundsForm, kJ12_length, fK]; omega, by dsimp only [kX3_formulaForm, kX3_rowForm, kX3_sinceForm, kX3_oneForm, kX3_expressionForm, kX3_productForm, kX3_factorForm, kX3_bracesForm, kX3_sees, kX3_goes, kX3_takes, kX3_takesName, kX3_takesNumber, kX3_which, kX3_isName, kX3_boundsForm, kJ12_length, fK]; omega⟩ ⟨Nat.zero_le _, Nat.zero_le _⟩ (fun _ _ _ z => z.elim) rfl (fun r_35 h_35 q_35 => ?_)
          obtain ⟨rfl, hT_35, hF_35, hz_35⟩ := q_35
          have hG_35 := Fr.trans hG_19 hF_35
          refine AW.sts (st' := [.int (bI ((((a + 1) + 1) + 1) != 400))]) rfl ?_
          refine aw_if_eq (n := 41) (tgt := 61) dX3_item_38 (by decide) rfl (fun c_38 => ?_) (fun c_38 => ?_)
          · skip
            have b_38 : ((((a + 1) + 1) + 1) != 400) = false := (bI_0 _).mp c_38
            have e_35 : ((a + 1) + 1) + 1 = 400 := by simpa using b_38
            have ne_35 : T.1 (((a + 1) + 1) + 1) ≠ 0 := by first | exact seesB_ne (by assumption) | exact isNm_ne (by assumption) | exact whT_lt (by assumption) | omega
            have hU_35 : TW b h_35 (ats ms (((a + 1) + 1) + 1)) := by rw [e_35, goM_400] at hT_35; rw [e_35]; exact hT_35
            have fq_35 : fQ T false (((a + 1) + 1) + 1) (qItem T (qX T f) a) := by have z := g_63; rw [e_35] at z ne_35 ⊢; exact z.stay (by first | exact qPc_4 T _ _ | exact qLp_4 (gOr_4 T) _ | exact qLp_4 (gAnd_4 T) _ | exact qLp_4 (gSum_4 T) _ | exact qLp_4 (gPro_4 T) _ | simp [qb_0, qb_1, qb_4, qX_4, seesP_4, nmP_4, nuP_4, whP_4, qT_4, qNm_4, qNu_4, qBd_4, qBr_4, qBo, qI_f, gOr_4, gAnd_4, gSum_4, gPro_4, qLp_4]) ne_35
            refine aw_iconst (n := 62) (v := 0) dX3_item_61 (by decide) rfl ?_
            exact aw_zret dX3_item_62 rfl (by decide) ⟨false, ((a + 1) + 1) + 1, rfl, hU_35, hG_35, (by omega), fq_35⟩ ⟨Nat.zero_le _, Nat.zero_le _⟩
          · skip
            have b_38 : ((((a + 1) + 1) + 1) != 400) = true := Bool.of_not_eq_false (fun e => c_38 ((bI_0 _).mpr e))
            have l_35 : ((a + 1) + 1) + 1 < 400 := by have z : ((a + 1) + 1) + 1 ≠ 400 := (by simpa using b_38); omega
            have ne_35 : T.1 (((a + 1) + 1) + 1) ≠ 0 := by first | exact seesB_ne (by assumption) | exact isNm_ne (by assumption) | exact whT_lt (by assumption) | omega
            rw [goM_lt (by omega), tS_tS] at hT_35
            have g_73 := fH.bT g_63 (by first | assumption | simp [seesP, nmP, nuP, gOr, gAnd, gSum, gPro, b_31, l_35])
            try dsimp only at g_73
            have g_74 := fH.b0 g_73
            try dsimp only at g_74
            have N_35 : ((a + 1) + 1) + 1 + 1 ≤ N := lt_end hS.2.1 N_19 ne_35
            have a_35 : ((a + 1) + 1) + 1 + 1 ≤ 400 := by omega
            have K_75 := (hS.1 ((((a + 1) + 1) + 1) + 1) N_35).2.1
            refine aw_aload_n (n := 42) dX3_item_41 rfl 0 rfl rfl ?_
            refine aw_callV (n := 45) (C0 := RX3) (As := []) (rest := []) (K2 := kX3_takesNumber) dX3_item_42 q2856 q2858 qs56 q113 q2859 ⟨rfl, hcX3_takesNumber⟩ rfl hT_35.1 (cf_takesNumber G h_35 b ms T N ((((a + 1) + 1) + 1) + 1) hb hT_35 hS N_35 a_35) rfl (Nat.le_of_ble_eq_true rfl) ⟨by dsimp only [kX3_formulaForm, kX3_rowForm, kX3_sinceForm, kX3_oneForm, kX3_expressionForm, kX3_productForm, kX3_factorForm, kX3_bracesForm, kX3_sees, kX3_goes, kX3_takes, kX3_takesName, kX3_takesNumber, kX3_which, kX3_isName, kX3_boundsForm, kJ12_length, fK]; omega, by dsimp only [kX3_formulaForm, kX3_rowForm, kX3_sinceForm, kX3_oneForm, kX3_expressionForm, kX3_productForm, kX3_factorForm, kX3_bracesForm, kX3_sees, kX3_goes, kX3_takes, kX3_takesName, kX3_takesNumber, kX3_which, kX3_isName, kX3_boundsForm, kJ12_length, fK]; omega⟩ ⟨Nat.zero_le _, Nat.zero_le _⟩ (fun _ _ _ z => z.elim) rfl (fun r_42 h_42 q_42 => ?_)
            obtain ⟨rfl, hT_42, hF_42, hz_42⟩ := q_42
            have hG_42 := Fr.trans hG_35 hF_42
            refine AW.sts (st' := [.int (bI (nuP T ((((a + 1) + 1) + 1) + 1)))]) rfl ?_
            refine aw_if_eq (n := 48) (tgt := 61) dX3_item_45 (by decide) rfl (fun c_45_2 => ?_) (fun c_45_2 => ?_)
            · skip
              have b_45_2 : (nuP T ((((a + 1) + 1) + 1) + 1)) = false := (bI_0 _).mp c_45_2
              rw [if_neg (by rw [b_45_2]; decide)] at hT_42
              refine aw_iconst (n := 62) (v := 0) dX3_item_61 (by decide) rfl ?_
              exact aw_zret dX3_item_62 rfl (by decide) ⟨false, (((a + 1) + 1) + 1) + 1, rfl, hT_42, hG_42, (by omega), (fH.tF g_74 b_45_2)⟩ ⟨Nat.zero_le _, Nat.zero_le _⟩
            · skip
              have b_45_2 : (nuP T ((((a + 1) + 1) + 1) + 1)) = true := Bool.of_not_eq_false (fun e => c_45_2 ((bI_0 _).mpr e))
              rw [if_pos b_45_2] at hT_42
              have t_42 := nuP_lt b_45_2
              have N_42 : (((a + 1) + 1) + 1) + 1 + 1 ≤ N := lt_end hS.2.1 N_35 t_42.2
              have a_42 : (((a + 1) + 1) + 1) + 1 + 1 ≤ 400 := by omega
              have g_76 := fH.tT g_74 b_45_2
              try dsimp only at g_76
              have K_77 := (hS.1 (((((a + 1) + 1) + 1) + 1) + 1) N_42).2.1
              refine aw_aload_n (n := 49) dX3_item_48 rfl 0 rfl rfl ?_
              refine aw_ldcS (n := 51) (q := 45) dX3_item_49 94 rfl rfl ?_
              refine aw_know (fun gd_77 hi_77 => ?_)
              refine aw_callV (n := 54) (C0 := RX3) (As := [.ref (gT G 45)]) (rest := []) (K2 := kX3_takes) dX3_item_51 q2822 q2824 qs49 q113 q2825 ⟨rfl, hcX3_takes⟩ rfl hT_42.1 (cf_takes G h_42 b ms T N (((((a + 1) + 1) + 1) + 1) + 1) hb hT_42 hS N_42 a_42 _ (sw 45) (str_at gd_77 hi_77 (i := 45) rfl) (lo_at (i := 45) rfl)) rfl (Nat.le_of_ble_eq_true rfl) ⟨by dsimp only [kX3_formulaForm, kX3_rowForm, kX3_sinceForm, kX3_oneForm, kX3_expressionForm, kX3_productForm, kX3_factorForm, kX3_bracesForm, kX3_sees, kX3_goes, kX3_takes, kX3_takesName, kX3_takesNumber, kX3_which, kX3_isName, kX3_boundsForm, kJ12_length, fK]; omega, by dsimp only [kX3_formulaForm, kX3_rowForm, kX3_sinceForm, kX3_oneForm, kX3_expressionForm, kX3_productForm, kX3_factorForm, kX3_bracesForm, kX3_sees, kX3_goes, kX3_takes, kX3_takesName, kX3_takesNumber, kX3_which, kX3_isName, kX3_boundsForm, kJ12_length, fK]; omega⟩ ⟨Nat.zero_le _, Nat.zero_le _⟩ (fun _ _ _ z => z.elim) rfl (fun r_51 h_51 q_51 => ?_)
              obtain ⟨rfl, hT_51, hF_51, hz_51⟩ := q_51
              have hG_51 := Fr.trans hG_42 hF_51
              refine AW.sts (st' := [.int (bI (seesP T (((((a + 1) + 1) + 1) + 1) + 1) (sw 45)))]) rfl ?_
              refine aw_if_eq (n := 57) (tgt := 61) dX3_item_54 (by decide) rfl (fun c_54_2 => ?_) (fun c_54_2 => ?_)
              · skip
                have b_54_2 : (seesP T (((((a + 1) + 1) + 1) + 1) + 1) (sw 45)) = false := (bI_0 _).mp c_54_2
                rw [if_neg (by rw [b_54_2]; decide)] at hT_51
                refine aw_iconst (n := 62) (v := 0) dX3_item_61 (by decide) rfl ?_
                exact aw_zret dX3_item_62 rfl (by decide) ⟨false, ((((a + 1) + 1) + 1) + 1) + 1, rfl, hT_51, hG_51, (by omega), (fH.lF g_76 b_54_2)⟩ ⟨Nat.zero_le _, Nat.zero_le _⟩
              · skip
                have b_54_2 : (seesP T (((((a + 1) + 1) + 1) + 1) + 1) (sw 45)) = true := Bool.of_not_eq_false (fun e => c_54_2 ((bI_0 _).mpr e))
                rw [if_pos b_54_2] at hT_51
                have t_51 := seesP_lt b_54_2
                have N_51 : ((((a + 1) + 1) + 1) + 1) + 1 + 1 ≤ N := lt_end hS.2.1 N_42 t_51.2
                have a_51 : ((((a + 1) + 1) + 1) + 1) + 1 + 1 ≤ 400 := by omega
                have g_79 := fH.lT g_76 b_54_2
                try dsimp only at g_79
                have K_80 := (hS.1 ((((((a + 1) + 1) + 1) + 1) + 1) + 1) N_51).2.1
                refine aw_iconst (n := 58) (v := 1) dX3_item_57 (by decide) rfl ?_
                refine aw_goto (tgt := 62) dX3_item_58 (by decide) ?_
                exact aw_zret dX3_item_62 rfl (by decide) ⟨true, (((((a + 1) + 1) + 1) + 1) + 1) + 1, rfl, hT_51, hG_51, (by omega), (fH.ok g_79)⟩ ⟨Nat.zero_le _, Nat.zero_le _⟩

theorem fAll_s {G : aG} {f : Nat} (ih : fAll G f) : fAll G (f + 1) := by
  intro nt h b ms T N a d hnt hb hT hS hN ha4 hd hne
  match nt, hnt with
  | 0, _ => exact cf_nt0 G h b ms T N a hb hT hS hN ha4 f d hd hne ih
  | 1, _ => exact cf_nt1 G h b ms T N a hb hT hS hN ha4 f d hd hne ih
  | 2, _ => exact cf_nt2 G h b ms T N a hb hT hS hN ha4 f d hd hne ih
  | 3, _ => exact cf_nt3 G h b ms T N a hb hT hS hN ha4 f d hd hne ih
  | 4, _ => exact cf_nt4 G h b ms T N a hb hT hS hN ha4 f d hd hne ih
  | 5, _ => exact cf_nt5 G h b ms T N a hb hT hS hN ha4 f d hd hne ih
  | 6, _ => exact cf_nt6 G h b ms T N a hb hT hS hN ha4 f d hd hne ih
  | 7, _ => exact cf_nt7 G h b ms T N a hb hT hS hN ha4 f d hd hne ih
theorem fAll_all (G : aG) : ∀ f : Nat, fAll G f
  | 0 => fun _ _ _ _ _ _ _ _ _ _ _ _ _ _ _ hne => absurd rfl hne
  | f + 1 => fAll_s (fAll_all G f)
abbrev kX3_program : aK := (yX3_program, cX3_program, 1, (Option.some Jvm.ClassFile.FieldType.boolean), [])
theorem hcX3_program : kX3_program.1.cls ≠ "java/lang/invoke/MethodHandle" ∧ kX3_program.1.cls ≠ "java/lang/invoke/VarHandle" ∧ (parseMethodDescriptor kX3_program.1.desc).map (fun d => d.parameters.length) = some 0 := ⟨by decide, by decide, by decide +kernel⟩
theorem cf_program (G : aG) (h : hH)  (b : Nat) (ms : tM) (T : Tv) (N a : Nat) (hb : gB G ≤ b) (hT : TW b h (ats ms a)) (hS : tkS ms T N) (hN : a ≤ N) (ha4 : a ≤ 400) (f : Nat) (hne : (qPg T (qX T f) 401 a).1 ≠ 99) (ih : fAll G f) : Con G kX3_program [.ref b] h ((16 + 2 * f, 580 + 100 * f, 0, 0), (fun r h1 => ∃ (z : Bool) (a9 : Nat), r = some (.int (bI z)) ∧ TW b h1 (ats ms a9) ∧ Fr (TS b) h h1 ∧ h1.1 = h.1 ∧ fQ T z a9 (qPg T (qX T f) 401 a)), nX) := by
  refine Con.of (plainFor_of_name rfl) rfl (Nat.le_of_ble_eq_true rfl) ?_
  refine AW.eq (lv2 := [(0, .ref b)]) (s2 := []) rfl rfl rfl rfl rfl ?_
  have hg0 : fH T (qPg T (qX T f) 401 a) (qPg T (qX T f) 401 a) := fH.rf
  have K_1 := (hS.1 a hN).2.1
  suffices L_0 : ∀ (m_ : Nat) (c a9 : Nat) (hh : hH) (hN9 : a9 ≤ N) (h49 : a9 ≤ 400) (hTc : TW b hh (ats ms a9)) (hFc : Fr (TS b) h hh) (hzc : hh.1 = h.1) (hgc : fH T (qPg T (qX T f) c a9) (qPg T (qX T f) 401 a)), c < m_ → AW G kX3_program ((16 + 2 * f, 580 + 100 * f, 0, 0), (fun r h1 => ∃ (z : Bool) (a9 : Nat), r = some (.int (bI z)) ∧ TW b h1 (ats ms a9) ∧ Fr (TS b) h h1 ∧ h1.1 = h.1 ∧ fQ T z a9 (qPg T (qX T f) 401 a)), nX) 0 [(0, .ref b)] [] hh 0 0 from
    AW.lvs (lv' := [(0, .ref b)]) (AW.eq (lv2 := _) (rfl) rfl rfl rfl rfl (L_0 _ 401 a h hN ha4 hT Fr.rf rfl hg0 (Nat.lt_succ_self _))) (by simp)
  intro m_
  induction m_ with
  | zero => intro c a9 hh hN9 h49 hTc hFc hzc hgc h_m; exact absurd h_m (Nat.not_lt_zero _)
  | succ m_ ih_0 =>
    intro c a9 hh hN9 h49 hTc hFc hzc hgc h_m
    cases c with
    | zero => exact absurd (hgc.2 rfl) hne
    | succ c =>
      have K_2 := (hS.1 a9 hN9).2.1
      have hg1 : fH T (qb (qItem T (qX T f) a9) fun a1 => cond (T.1 a1 == 0) (0, a1) (qPg T (qX T f) c a1)) (qPg T (qX T f) 401 a) := hgc
      refine aw_aload_n (n := 1) dX3_program_0 rfl 0 rfl rfl ?_
      have ne_1 : (qItem T (qX T f) a9).1 ≠ 99 := fH.nb hg1 hne
      have V_1 : qW T N a9 (qItem T (qX T f) a9) := qItem_W hS.2.1 f _ hN9 h49
      refine aw_callV (n := 4) (C0 := RX3) (As := []) (rest := []) (K2 := kX3_item) dX3_program_1 q2817 q2819 qs48 q113 q2820 ⟨rfl, hcX3_item⟩ rfl hTc.1 (cf_item G hh b ms T N a9 hb hTc hS hN9 h49 f ne_1 ih) rfl (Nat.le_of_ble_eq_true rfl) ⟨by dsimp only [kX3_formulaForm, kX3_rowForm, kX3_sinceForm, kX3_oneForm, kX3_expressionForm, kX3_productForm, kX3_factorForm, kX3_bracesForm, kX3_sees, kX3_goes, kX3_takes, kX3_takesName, kX3_takesNumber, kX3_which, kX3_isName, kX3_boundsForm, kJ12_length, fK]; omega, by dsimp only [kX3_formulaForm, kX3_rowForm, kX3_sinceForm, kX3_oneForm, kX3_expressionForm, kX3_productForm, kX3_factorForm, kX3_bracesForm, kX3_sees, kX3_goes, kX3_takes, kX3_takesName, kX3_takesNumber, kX3_which, kX3_isName, kX3_boundsForm, kJ12_length, fK]; omega⟩ ⟨Nat.zero_le _, Nat.zero_le _⟩ (fun _ _ _ z => z.elim) rfl (fun r_1 h_1 q_1 => ?_)
      obtain ⟨z_1, a_1, rfl, hT_1, hF_1, hz_1, fq_1⟩ := q_1
      have W_1 : a_1 ≤ N ∧ a_1 ≤ 400 := by rw [fq_1.1]; exact V_1.2
      have hG_1 := Fr.trans hFc hF_1
      refine AW.sts (st' := [.int (bI z_1)]) rfl ?_
      refine aw_if_ne (n := 7) (tgt := 9) dX3_program_4 (by decide) rfl (fun c_4 => ?_) (fun c_4 => ?_)
      · skip
        have b_4 : z_1 = true := Bool.of_not_eq_false (fun e => c_4 ((bI_0 _).mpr e))
        have f_1 : fQ T true a_1 _ := b_4 ▸ fq_1
        have g_3 := fH.step hg1 f_1
        try dsimp only at g_3
        have K_4 := (hS.1 a_1 W_1.1).2.1
        refine aw_aload_n (n := 10) dX3_program_9 rfl 0 rfl rfl ?_
        refine aw_getf (n := 13) (v := .ref (b + 2)) (C0 := RX3) (T := TX3) dX3_program_10 rfl 4 q2645 (Or.inl rfl) hT_1.1 rfl rfl ?_
        refine aw_aload_n (n := 14) dX3_program_13 rfl 0 rfl rfl ?_
        refine aw_getf (n := 17) (v := .int (nI a_1)) (C0 := RX3) (T := TX3) dX3_program_14 rfl 7 q2648 (Or.inl rfl) hT_1.1 (congrArg some (congrArg Value.int rfl)) rfl ?_
        refine aw_iald (n := 18) (v := .int ((ats ms a_1).2.1 4 a_1)) dX3_program_17 rfl a_1 rfl hT_1.a4 (by omega) (by decide) rfl rfl ?_
        refine aw_if_ne (n := 21) (tgt := 0) dX3_program_18 (by decide) rfl (fun c_18 => ?_) (fun c_18 => ?_)
        · skip
          have n_18 : ¬ ((T.1 a_1) = 0) := fun z => c_18 (by have y := (nI_eq (a := (T.1 a_1)) (b := 0) (by omega) (by omega)).mpr z; rw [← ((hS.1 a_1 W_1.1).2.2.1 : ((ats ms a_1).2.1 4 a_1) = nI (T.1 a_1)), ← ((by rfl) : (0 : Int32) = nI 0)] at y; exact y)
          have g_5 := fH.F g_3 (by first | assumption | simp [seesP, nmP, nuP, gOr, gAnd, gSum, gPro, n_18])
          try dsimp only at g_5
          exact AW.lvs (lv' := [(0, .ref b)]) (AW.eq (lv2 := _) (rfl) rfl rfl rfl rfl (ih_0 c a_1 h_1 W_1.1 W_1.2 hT_1 hG_1 (by omega) g_5 (by omega))) (by simp)
        · skip
          have n_18 : (T.1 a_1) = 0 := (nI_eq (a := (T.1 a_1)) (b := 0) (by omega) (by omega)).mp (by rw [← ((hS.1 a_1 W_1.1).2.2.1 : ((ats ms a_1).2.1 4 a_1) = nI (T.1 a_1)), ← ((by rfl) : (0 : Int32) = nI 0)]; exact c_18)
          have g_6 := fH.T g_3 (by first | assumption | simp [seesP, nmP, nuP, gOr, gAnd, gSum, gPro, n_18])
          try dsimp only at g_6
          refine aw_iconst (n := 22) (v := 1) dX3_program_21 (by decide) rfl ?_
          exact aw_zret dX3_program_22 rfl (by decide) ⟨true, a_1, rfl, hT_1, hG_1, (by omega), (fH.ok g_6)⟩ ⟨Nat.zero_le _, Nat.zero_le _⟩
      · skip
        have b_4 : z_1 = false := (bI_0 _).mp c_4
        have f_1 : fQ T false a_1 _ := b_4 ▸ fq_1
        have K_7 := (hS.1 a_1 W_1.1).2.1
        refine aw_iconst (n := 8) (v := 0) dX3_program_7 (by decide) rfl ?_
        exact aw_zret dX3_program_8 rfl (by decide) ⟨false, a_1, rfl, hT_1, hG_1, (by omega), (fH.fail hg1 f_1 (by first | exact qPc_4 T _ _ | exact qLp_4 (gOr_4 T) _ | exact qLp_4 (gAnd_4 T) _ | exact qLp_4 (gSum_4 T) _ | exact qLp_4 (gPro_4 T) _ | simp [qb_0, qb_1, qb_4, qX_4, seesP_4, nmP_4, nuP_4, whP_4, qT_4, qNm_4, qNu_4, qBd_4, qBr_4, qBo, qI_f, gOr_4, gAnd_4, gSum_4, gPro_4, qLp_4]))⟩ ⟨Nat.zero_le _, Nat.zero_le _⟩

end
