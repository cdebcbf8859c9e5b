/-! The twin: queries and settings. -/
section
set_option maxRecDepth 100000

abbrev kX3_thrown : aK := (yX3_thrown, cX3_thrown, 1, (Option.some Jvm.ClassFile.FieldType.int), [])
theorem hcX3_thrown : kX3_thrown.1.cls ≠ "java/lang/invoke/MethodHandle" ∧ kX3_thrown.1.cls ≠ "java/lang/invoke/VarHandle" ∧ (parseMethodDescriptor kX3_thrown.1.desc).map (fun d => d.parameters.length) = some 0 := ⟨by decide, by decide, by decide +kernel⟩
theorem ct_thrown (G : aG) (h : hH) (b : Nat) (ms : tM) (hb : gB G ≤ b) (hT : TW b h ms) : Con G kX3_thrown [.ref b] h ((1, 0, 0, 0), (fun r h1 => r = some (.int (ms.1 0)) ∧ h = h1), nX) := by
  refine Con.of (plainFor_of_name rfl) rfl (Nat.le_of_ble_eq_true rfl) ?_
  refine AW.eq (lv2 := [(0, .ref b)]) (s2 := []) rfl rfl rfl rfl rfl ?_
  refine aw_aload_n (n := 1) dX3_thrown_0 rfl 0 rfl rfl ?_
  refine aw_getf (n := 4) (v := .int (ms.1 0)) (C0 := RX3) (T := TX3) dX3_thrown_1 rfl 0 q2641 (Or.inl rfl) hT.1 rfl rfl ?_
  exact aw_iret dX3_thrown_4 rfl ⟨congrArg some (congrArg Value.int (by rfl)), rfl⟩ ⟨Nat.zero_le _, Nat.zero_le _⟩

abbrev kX3_no : aK := (yX3_no, cX3_no, 2, (Option.some Jvm.ClassFile.FieldType.int), [])
theorem hcX3_no : kX3_no.1.cls ≠ "java/lang/invoke/MethodHandle" ∧ kX3_no.1.cls ≠ "java/lang/invoke/VarHandle" ∧ (parseMethodDescriptor kX3_no.1.desc).map (fun d => d.parameters.length) = some 1 := ⟨by decide, by decide, by decide +kernel⟩
theorem ct_no (G : aG) (h : hH) (b : Nat) (ms : tM) (hb : gB G ≤ b) (hT : TW b h ms) (k : Int32) : Con G kX3_no [.ref b, .int k] h ((1, 0, 0, 0), (fun r h1 => r = some (.int 0) ∧ TW b h1 (tS ms 0 k) ∧ Fr (TS b) h h1 ∧ h1.1 = h.1), nX) := by
  refine Con.of (plainFor_of_name rfl) rfl (Nat.le_of_ble_eq_true rfl) ?_
  refine AW.eq (lv2 := [(0, .ref b), (1, .int k)]) (s2 := []) rfl rfl rfl rfl rfl ?_
  refine aw_aload_n (n := 1) dX3_no_0 rfl 0 rfl rfl ?_
  refine aw_iload_n (n := 2) dX3_no_1 rfl 1 rfl rfl ?_
  refine aw_tput (n := 5) (k := 0) dX3_no_2 q2641 (by decide) rfl rfl rfl rfl rfl hT hb rfl rfl (fun h_1 hT_1 hF_1 hz_1 => ?_)
  refine aw_iconst (n := 6) (v := 0) dX3_no_5 (by decide) rfl ?_
  exact aw_iret dX3_no_6 rfl ⟨rfl, hT_1, hF_1, (by omega)⟩ ⟨Nat.zero_le _, Nat.zero_le _⟩

abbrev kX3_errorAt : aK := (yX3_errorAt, cX3_errorAt, 1, (Option.some Jvm.ClassFile.FieldType.int), [])
theorem hcX3_errorAt : kX3_errorAt.1.cls ≠ "java/lang/invoke/MethodHandle" ∧ kX3_errorAt.1.cls ≠ "java/lang/invoke/VarHandle" ∧ (parseMethodDescriptor kX3_errorAt.1.desc).map (fun d => d.parameters.length) = some 0 := ⟨by decide, by decide, by decide +kernel⟩
theorem ct_errorAt (G : aG) (h : hH) (b : Nat) (ms : tM) (hb : gB G ≤ b) (hT : TW b h ms) : Con G kX3_errorAt [.ref b] h ((1, 0, 0, 0), (fun r h1 => r = some (.int (ms.1 3)) ∧ TW b h1 (tS ms 0 0) ∧ Fr (TS b) h h1 ∧ h1.1 = h.1), nX) := by
  refine Con.of (plainFor_of_name rfl) rfl (Nat.le_of_ble_eq_true rfl) ?_
  refine AW.eq (lv2 := [(0, .ref b)]) (s2 := []) rfl rfl rfl rfl rfl ?_
  refine aw_aload_n (n := 1) dX3_errorAt_0 rfl 0 rfl rfl ?_
  refine aw_iconst (n := 2) (v := 0) dX3_errorAt_1 (by decide) rfl ?_
  refine aw_tput (n := 5) (k := 0) dX3_errorAt_2 q2641 (by decide) rfl rfl rfl rfl rfl hT hb rfl rfl (fun h_1 hT_1 hF_1 hz_1 => ?_)
  refine aw_aload_n (n := 6) dX3_errorAt_5 rfl 0 rfl rfl ?_
  refine aw_getf (n := 9) (v := .int (ms.1 3)) (C0 := RX3) (T := TX3) dX3_errorAt_6 rfl 3 q2644 (Or.inl rfl) hT_1.1 rfl rfl ?_
  exact aw_iret dX3_errorAt_9 rfl ⟨rfl, hT_1, hF_1, (by omega)⟩ ⟨Nat.zero_le _, Nat.zero_le _⟩

theorem isIn_nI {v lo hi : Nat} (hv : v < 2 ^ 31) (hl : lo < 2 ^ 31) (hh : hi < 2 ^ 31) : (decide (nI lo ≤ nI v) && decide (nI v ≤ nI hi)) = (decide (lo ≤ v) && decide (v ≤ hi)) := by
  rw [show decide (nI lo ≤ nI v) = decide (lo ≤ v) from decide_eq_decide.mpr (nI_leI hl hv), show decide (nI v ≤ nI hi) = decide (v ≤ hi) from decide_eq_decide.mpr (nI_leI hv hh)]
abbrev kX3_isStep : aK := (yX3_isStep, cX3_isStep, 2, (Option.some Jvm.ClassFile.FieldType.boolean), [])
theorem hcX3_isStep : kX3_isStep.1.cls ≠ "java/lang/invoke/MethodHandle" ∧ kX3_isStep.1.cls ≠ "java/lang/invoke/VarHandle" ∧ (parseMethodDescriptor kX3_isStep.1.desc).map (fun d => d.parameters.length) = some 1 := ⟨by decide, by decide, by decide +kernel⟩
theorem ct_isStep (G : aG) (h : hH) (b : Nat) (ms : tM) (hb : gB G ≤ b) (hT : TW b h ms) (hI : tOK ms) (v : Int32) : Con G kX3_isStep [.ref b, .int v] h ((2, 22, 0, 0), (fun r h1 => r = some (.int (bI (inS v (Sn ms)))) ∧ h = h1), nX) := by
  refine Con.of (plainFor_of_name rfl) rfl (Nat.le_of_ble_eq_true rfl) ?_
  refine AW.eq (lv2 := [(0, .ref b), (1, .int v)]) (s2 := []) rfl rfl rfl rfl rfl ?_
  refine aw_iload_n (n := 1) dX3_isStep_0 rfl 1 rfl rfl ?_
  refine aw_iconst (n := 2) (v := 0) dX3_isStep_1 (by decide) rfl ?_
  refine aw_aload_n (n := 3) dX3_isStep_2 rfl 0 rfl rfl ?_
  refine aw_getf (n := 6) (v := .int (ms.1 29)) (C0 := RX3) (T := TX3) dX3_isStep_3 rfl 29 q2670 (Or.inl rfl) hT.1 rfl rfl ?_
  refine aw_iconst (n := 7) (v := 1) dX3_isStep_6 (by decide) rfl ?_
  refine aw_isub (n := 8) dX3_isStep_7 rfl ?_
  refine aw_callS (n := 11) (As := [.int v, .int 0, .int ((ms.1 29) - 1)]) (rest := []) (K2 := kX3_isIn) dX3_isStep_8 q2781 q2782 q113 q2783 hcX3_isIn (ct_isIn G h v 0 ((ms.1 29) - 1)) rfl (Nat.le_of_ble_eq_true rfl) ⟨Nat.le_of_ble_eq_true rfl, Nat.le_of_ble_eq_true rfl⟩ ⟨Nat.zero_le _, Nat.zero_le _⟩ (fun _ _ _ z => z.elim) rfl (fun r_8 h_8 q_8 => ?_)
  obtain ⟨rfl, rfl⟩ := q_8
  refine AW.sts (st' := [.int (bI (decide ((0 : Int32) ≤ v) && decide (v ≤ ((ms.1 29) - 1))))]) rfl ?_
  exact aw_zret dX3_isStep_11 rfl (bI_le _) ⟨congrArg some (congrArg Value.int (by rw [inS, ← hI.S])), rfl⟩ ⟨Nat.zero_le _, Nat.zero_le _⟩

abbrev kX3_isWatch : aK := (yX3_isWatch, cX3_isWatch, 2, (Option.some Jvm.ClassFile.FieldType.boolean), [])
theorem hcX3_isWatch : kX3_isWatch.1.cls ≠ "java/lang/invoke/MethodHandle" ∧ kX3_isWatch.1.cls ≠ "java/lang/invoke/VarHandle" ∧ (parseMethodDescriptor kX3_isWatch.1.desc).map (fun d => d.parameters.length) = some 1 := ⟨by decide, by decide, by decide +kernel⟩
theorem ct_isWatch (G : aG) (h : hH) (b : Nat) (ms : tM) (hb : gB G ≤ b) (hT : TW b h ms) (hI : tOK ms) (v : Int32) : Con G kX3_isWatch [.ref b, .int v] h ((2, 22, 0, 0), (fun r h1 => r = some (.int (bI (inS v (Mn ms 3)))) ∧ h = h1), nX) := by
  refine Con.of (plainFor_of_name rfl) rfl (Nat.le_of_ble_eq_true rfl) ?_
  refine AW.eq (lv2 := [(0, .ref b), (1, .int v)]) (s2 := []) rfl rfl rfl rfl rfl ?_
  refine aw_iload_n (n := 1) dX3_isWatch_0 rfl 1 rfl rfl ?_
  refine aw_iconst (n := 2) (v := 0) dX3_isWatch_1 (by decide) rfl ?_
  refine aw_aload_n (n := 3) dX3_isWatch_2 rfl 0 rfl rfl ?_
  refine aw_getf (n := 6) (v := .ref (b + 16)) (C0 := RX3) (T := TX3) dX3_isWatch_3 rfl 23 q2664 (Or.inl rfl) hT.1 rfl rfl ?_
  refine aw_iconst (n := 7) (v := 3) dX3_isWatch_6 (by decide) rfl ?_
  refine aw_iald (n := 8) (v := .int (ms.2.1 23 3)) dX3_isWatch_7 rfl 3 (by rfl) hT.a23 (by omega) (by decide) rfl rfl ?_
  refine aw_iconst (n := 9) (v := 1) dX3_isWatch_8 (by decide) rfl ?_
  refine aw_isub (n := 10) dX3_isWatch_9 rfl ?_
  refine aw_callS (n := 13) (As := [.int v, .int 0, .int ((ms.2.1 23 3) - 1)]) (rest := []) (K2 := kX3_isIn) dX3_isWatch_10 q2781 q2782 q113 q2783 hcX3_isIn (ct_isIn G h v 0 ((ms.2.1 23 3) - 1)) rfl (Nat.le_of_ble_eq_true rfl) ⟨Nat.le_of_ble_eq_true rfl, Nat.le_of_ble_eq_true rfl⟩ ⟨Nat.zero_le _, Nat.zero_le _⟩ (fun _ _ _ z => z.elim) rfl (fun r_10 h_10 q_10 => ?_)
  obtain ⟨rfl, rfl⟩ := q_10
  refine AW.sts (st' := [.int (bI (decide ((0 : Int32) ≤ v) && decide (v ≤ ((ms.2.1 23 3) - 1))))]) rfl ?_
  exact aw_zret dX3_isWatch_13 rfl (bI_le _) ⟨congrArg some (congrArg Value.int (by rw [inS, ← hI.M (by decide)])), rfl⟩ ⟨Nat.zero_le _, Nat.zero_le _⟩

abbrev kX3_watches : aK := (yX3_watches, cX3_watches, 3, (Option.some Jvm.ClassFile.FieldType.boolean), [])
theorem hcX3_watches : kX3_watches.1.cls ≠ "java/lang/invoke/MethodHandle" ∧ kX3_watches.1.cls ≠ "java/lang/invoke/VarHandle" ∧ (parseMethodDescriptor kX3_watches.1.desc).map (fun d => d.parameters.length) = some 2 := ⟨by decide, by decide, by decide +kernel⟩
theorem ct_watches (G : aG) (h : hH) (b : Nat) (ms : tM) (hb : gB G ≤ b) (hT : TW b h ms) (v i t : Nat) (hv : v < 12) (hi : i < 120) (ht : ms.2.1 25 (36 + v) = nI t) (ht2 : t < 1203) : Con G kX3_watches [.ref b, .int (nI v), .int (nI i)] h ((3, 44, 0, 0), (fun r h1 => r = some (.int (bI (hd ms t i))) ∧ h = h1), nX) := by
  refine Con.of (plainFor_of_name rfl) rfl (Nat.le_of_ble_eq_true rfl) ?_
  refine AW.eq (lv2 := [(0, .ref b), (1, .int (nI v)), (2, .int (nI i))]) (s2 := []) rfl rfl rfl rfl rfl ?_
  refine aw_aload_n (n := 1) dX3_watches_0 rfl 0 rfl rfl ?_
  refine aw_aload_n (n := 2) dX3_watches_1 rfl 0 rfl rfl ?_
  refine aw_getf (n := 5) (v := .ref (b + 18)) (C0 := RX3) (T := TX3) dX3_watches_2 rfl 25 q2666 (Or.inl rfl) hT.1 rfl rfl ?_
  refine aw_bipush (n := 7) (v := 36) dX3_watches_5 (by decide) rfl ?_
  refine aw_iload_n (n := 8) dX3_watches_7 rfl 1 rfl rfl ?_
  refine aw_iadd (n := 9) dX3_watches_8 rfl ?_
  refine aw_iald (n := 10) (v := .int (ms.2.1 25 (36 + v))) dX3_watches_9 rfl (36 + v) (by rw [show 36 = nI 36 from (by rfl), show nI v = nI v from rfl]; exact nI_add _ _) hT.a25 (by omega) (by decide) rfl rfl ?_
  refine aw_iload_n (n := 11) dX3_watches_10 rfl 2 rfl rfl ?_
  refine AW.sts (st' := [.int (nI i), .int (nI t), .ref b]) (by rw [show ms.2.1 25 (36 + v) = nI t from ht]) ?_
  refine aw_callV (n := 14) (C0 := RX3) (As := [.int (nI t), .int (nI i)]) (rest := []) (K2 := kX3_holds) dX3_watches_11 q3056 q3058 qs91 q113 q3059 ⟨rfl, hcX3_holds⟩ rfl hT.1 (ct_holds G h b ms hb hT t i (by omega) (by omega)) rfl (Nat.le_of_ble_eq_true rfl) ⟨Nat.le_of_ble_eq_true rfl, Nat.le_of_ble_eq_true rfl⟩ ⟨Nat.zero_le _, Nat.zero_le _⟩ (fun _ _ _ z => z.elim) rfl (fun r_11 h_11 q_11 => ?_)
  obtain ⟨rfl, rfl⟩ := q_11
  refine AW.sts (st' := [.int (bI (hd ms t i))]) rfl ?_
  exact aw_zret dX3_watches_14 rfl (bI_le _) ⟨congrArg some (congrArg Value.int (by rfl)), rfl⟩ ⟨Nat.zero_le _, Nat.zero_le _⟩

abbrev kX3_trim : aK := (yX3_trim, cX3_trim, 2, (Option.some Jvm.ClassFile.FieldType.int), [])
theorem hcX3_trim : kX3_trim.1.cls ≠ "java/lang/invoke/MethodHandle" ∧ kX3_trim.1.cls ≠ "java/lang/invoke/VarHandle" ∧ (parseMethodDescriptor kX3_trim.1.desc).map (fun d => d.parameters.length) = some 1 := ⟨by decide, by decide, by decide +kernel⟩
theorem ct_trim (G : aG) (h : hH) (b : Nat) (ms : tM) (hb : gB G ≤ b) (hT : TW b h ms) (hI : tOK ms) (v : Int32) : Con G kX3_trim [.ref b, .int v] h ((2, 22, 0, 0), (fun r h1 => r = some (.int (opTrim ms v).1) ∧ TW b h1 ((opTrim ms v).2) ∧ Fr (TS b) h h1 ∧ h1.1 = h.1), nX) := by
  refine Con.of (plainFor_of_name rfl) rfl (Nat.le_of_ble_eq_true rfl) ?_
  refine AW.eq (lv2 := [(0, .ref b), (1, .int v)]) (s2 := []) rfl rfl rfl rfl rfl ?_
  refine aw_aload_n (n := 1) dX3_trim_0 rfl 0 rfl rfl ?_
  refine aw_iconst (n := 2) (v := 0) dX3_trim_1 (by decide) rfl ?_
  refine aw_tput (n := 5) (k := 0) dX3_trim_2 q2641 (by decide) rfl rfl rfl rfl rfl hT hb rfl rfl (fun h_1 hT_1 hF_1 hz_1 => ?_)
  refine aw_iload_n (n := 6) dX3_trim_5 rfl 1 rfl rfl ?_
  refine aw_iconst (n := 7) (v := 0) dX3_trim_6 (by decide) rfl ?_
  refine aw_aload_n (n := 8) dX3_trim_7 rfl 0 rfl rfl ?_
  refine aw_getf (n := 11) (v := .int (ms.1 2)) (C0 := RX3) (T := TX3) dX3_trim_8 rfl 2 q2643 (Or.inl rfl) hT_1.1 rfl rfl ?_
  refine aw_callS (n := 14) (As := [.int v, .int 0, .int (ms.1 2)]) (rest := []) (K2 := kX3_isIn) dX3_trim_11 q2781 q2782 q113 q2783 hcX3_isIn (ct_isIn G h_1 v 0 (ms.1 2)) rfl (Nat.le_of_ble_eq_true rfl) ⟨Nat.le_of_ble_eq_true rfl, Nat.le_of_ble_eq_true rfl⟩ ⟨Nat.zero_le _, Nat.zero_le _⟩ (fun _ _ _ z => z.elim) rfl (fun r_11 h_11 q_11 => ?_)
  obtain ⟨rfl, rfl⟩ := q_11
  refine AW.sts (st' := [.int (bI (decide ((0 : Int32) ≤ v) && decide (v ≤ (ms.1 2))))]) rfl ?_
  refine aw_if_ne (n := 17) (tgt := 23) dX3_trim_14 (by decide) rfl (fun c_14 => ?_) (fun c_14 => ?_)
  · skip
    have b_14 : (decide ((0 : Int32) ≤ v) && decide (v ≤ (ms.1 2))) = true := Bool.of_not_eq_false (fun e => c_14 ((bI_0 _).mpr e))
    refine aw_aload_n (n := 24) dX3_trim_23 rfl 0 rfl rfl ?_
    refine aw_iload_n (n := 25) dX3_trim_24 rfl 1 rfl rfl ?_
    refine aw_tput (n := 28) (k := 2) dX3_trim_25 q2643 (by decide) rfl rfl rfl rfl rfl hT_1 hb rfl rfl (fun h_2 hT_2 hF_2 hz_2 => ?_)
    have hG_2 := Fr.trans hF_1 hF_2
    refine aw_iload_n (n := 29) dX3_trim_28 rfl 1 rfl rfl ?_
    have e9 : opTrim ms v = (v, tS (tS ms 0 (0 : Int32)) 2 v) := by first | (simp [opTrim, b_14, c_14, tS_tS]; done) | simp_all [opTrim, tS_tS]
    exact aw_iret dX3_trim_29 rfl ⟨by rw [e9], by rw [e9]; exact hT_2, hG_2, (by omega)⟩ ⟨Nat.zero_le _, Nat.zero_le _⟩
  · skip
    have b_14 : (decide ((0 : Int32) ≤ v) && decide (v ≤ (ms.1 2))) = false := (bI_0 _).mp c_14
    refine aw_aload_n (n := 18) dX3_trim_17 rfl 0 rfl rfl ?_
    refine aw_iconst (n := 19) (v := 1) dX3_trim_18 (by decide) rfl ?_
    refine aw_callV (n := 22) (C0 := RX3) (As := [.int 1]) (rest := []) (K2 := kX3_no) dX3_trim_19 q2773 q2775 qs42 q113 q2776 ⟨rfl, hcX3_no⟩ rfl hT_1.1 (ct_no G h_1 b (tS ms 0 (0 : Int32)) hb hT_1 (1 : Int32)) rfl (Nat.le_of_ble_eq_true rfl) ⟨Nat.le_of_ble_eq_true rfl, Nat.le_of_ble_eq_true rfl⟩ ⟨Nat.zero_le _, Nat.zero_le _⟩ (fun _ _ _ z => z.elim) rfl (fun r_19 h_19 q_19 => ?_)
    obtain ⟨rfl, hT_19, hF_19, hz_19⟩ := q_19
    have hG_19 := Fr.trans hF_1 hF_19
    refine AW.sts (st' := [.int 0]) rfl ?_
    have e9 : opTrim ms v = (0, tS (tS ms 0 (0 : Int32)) 0 (1 : Int32)) := by first | (simp [opTrim, b_14, c_14, tS_tS]; done) | simp_all [opTrim, tS_tS]
    exact aw_iret dX3_trim_22 rfl ⟨by rw [e9], by rw [e9]; exact hT_19, hG_19, (by omega)⟩ ⟨Nat.zero_le _, Nat.zero_le _⟩

abbrev kX3_counted : aK := (yX3_counted, cX3_counted, 2, (Option.some Jvm.ClassFile.FieldType.int), [])
theorem hcX3_counted : kX3_counted.1.cls ≠ "java/lang/invoke/MethodHandle" ∧ kX3_counted.1.cls ≠ "java/lang/invoke/VarHandle" ∧ (parseMethodDescriptor kX3_counted.1.desc).map (fun d => d.parameters.length) = some 1 := ⟨by decide, by decide, by decide +kernel⟩
theorem ct_counted (G : aG) (h : hH) (b : Nat) (ms : tM) (hb : gB G ≤ b) (hT : TW b h ms) (k : Nat) (hk : k < 7) : Con G kX3_counted [.ref b, .int (nI k)] h ((1, 0, 0, 0), (fun r h1 => r = some (.int (cntT ms k)) ∧ h = h1), nX) := by
  refine Con.of (plainFor_of_name rfl) rfl (Nat.le_of_ble_eq_true rfl) ?_
  refine AW.eq (lv2 := [(0, .ref b), (1, .int (nI k))]) (s2 := []) rfl rfl rfl rfl rfl ?_
  refine aw_iload_n (n := 1) dX3_counted_0 rfl 1 rfl rfl ?_
  refine aw_iconst (n := 2) (v := 4) dX3_counted_1 (by decide) rfl ?_
  refine aw_icmp_ge (n := 5) (tgt := 14) dX3_counted_2 (by decide) rfl (fun c_2 => ?_) (fun c_2 => ?_)
  · skip
    have n_2 : 4 ≤ k := (nI_leI (a := 4) (b := k) (by omega) (by omega)).mp (by rw [← ((by rfl) : (4 : Int32) = nI 4)]; exact c_2)
    refine aw_iload_n (n := 15) dX3_counted_14 rfl 1 rfl rfl ?_
    refine aw_iconst (n := 16) (v := 4) dX3_counted_15 (by decide) rfl ?_
    refine aw_icmp_ne (n := 19) (tgt := 26) dX3_counted_16 (by decide) rfl (fun c_16 => ?_) (fun c_16 => ?_)
    · skip
      have n_16 : ¬ (k = 4) := fun z => c_16 (by have y := (nI_eq (a := k) (b := 4) (by omega) (by omega)).mpr z; rw [← ((by rfl) : (4 : Int32) = nI 4)] at y; exact y)
      refine aw_iload_n (n := 27) dX3_counted_26 rfl 1 rfl rfl ?_
      refine aw_iconst (n := 28) (v := 5) dX3_counted_27 (by decide) rfl ?_
      refine aw_icmp_ne (n := 31) (tgt := 38) dX3_counted_28 (by decide) rfl (fun c_28 => ?_) (fun c_28 => ?_)
      · skip
        have n_28 : ¬ (k = 5) := fun z => c_28 (by have y := (nI_eq (a := k) (b := 5) (by omega) (by omega)).mpr z; rw [← ((by rfl) : (5 : Int32) = nI 5)] at y; exact y)
        refine aw_aload_n (n := 39) dX3_counted_38 rfl 0 rfl rfl ?_
        refine aw_getf (n := 42) (v := .int (ms.1 2)) (C0 := RX3) (T := TX3) dX3_counted_39 rfl 2 q2643 (Or.inl rfl) hT.1 rfl rfl ?_
        exact aw_iret dX3_counted_42 rfl ⟨congrArg some (congrArg Value.int (by first | (simp [cntT, n_2, c_2, n_16, c_16, n_28, c_28]; done) | (simp [cntT, n_2, c_2, n_16, c_16, n_28, c_28]; intros; omega) | simp_all [cntT])), rfl⟩ ⟨Nat.zero_le _, Nat.zero_le _⟩
      · skip
        have n_28 : k = 5 := (nI_eq (a := k) (b := 5) (by omega) (by omega)).mp (by rw [← ((by rfl) : (5 : Int32) = nI 5)]; exact c_28)
        refine aw_aload_n (n := 32) dX3_counted_31 rfl 0 rfl rfl ?_
        refine aw_getf (n := 35) (v := .int (ms.1 33)) (C0 := RX3) (T := TX3) dX3_counted_32 rfl 33 q2674 (Or.inl rfl) hT.1 rfl rfl ?_
        refine aw_goto (tgt := 42) dX3_counted_35 (by decide) ?_
        exact aw_iret dX3_counted_42 rfl ⟨congrArg some (congrArg Value.int (by first | (simp [cntT, n_2, c_2, n_16, c_16, c_28]; done) | (simp [cntT, n_2, c_2, n_16, c_16, c_28]; intros; omega) | simp_all [cntT])), rfl⟩ ⟨Nat.zero_le _, Nat.zero_le _⟩
    · skip
      have n_16 : k = 4 := (nI_eq (a := k) (b := 4) (by omega) (by omega)).mp (by rw [← ((by rfl) : (4 : Int32) = nI 4)]; exact c_16)
      refine aw_aload_n (n := 20) dX3_counted_19 rfl 0 rfl rfl ?_
      refine aw_getf (n := 23) (v := .int (ms.1 29)) (C0 := RX3) (T := TX3) dX3_counted_20 rfl 29 q2670 (Or.inl rfl) hT.1 rfl rfl ?_
      refine aw_goto (tgt := 42) dX3_counted_23 (by decide) ?_
      exact aw_iret dX3_counted_42 rfl ⟨congrArg some (congrArg Value.int (by first | (simp [cntT, n_2, c_2, c_16]; done) | (simp [cntT, n_2, c_2, c_16]; intros; omega) | simp_all [cntT])), rfl⟩ ⟨Nat.zero_le _, Nat.zero_le _⟩
  · skip
    have n_2 : ¬ (4 ≤ k) := fun z => c_2 (by have y := (nI_leI (a := 4) (b := k) (by omega) (by omega)).mpr z; rw [← ((by rfl) : (4 : Int32) = nI 4)] at y; exact y)
    refine aw_aload_n (n := 6) dX3_counted_5 rfl 0 rfl rfl ?_
    refine aw_getf (n := 9) (v := .ref (b + 16)) (C0 := RX3) (T := TX3) dX3_counted_6 rfl 23 q2664 (Or.inl rfl) hT.1 rfl rfl ?_
    refine aw_iload_n (n := 10) dX3_counted_9 rfl 1 rfl rfl ?_
    refine aw_iald (n := 11) (v := .int (ms.2.1 23 k)) dX3_counted_10 rfl k rfl hT.a23 (by omega) (by decide) rfl rfl ?_
    refine aw_goto (tgt := 42) dX3_counted_11 (by decide) ?_
    exact aw_iret dX3_counted_42 rfl ⟨congrArg some (congrArg Value.int (by first | (simp [cntT, n_2, c_2]; done) | (simp [cntT, n_2, c_2]; intros; omega) | simp_all [cntT])), rfl⟩ ⟨Nat.zero_le _, Nat.zero_le _⟩

abbrev kX3_count : aK := (yX3_count, cX3_count, 2, (Option.some Jvm.ClassFile.FieldType.int), [])
theorem hcX3_count : kX3_count.1.cls ≠ "java/lang/invoke/MethodHandle" ∧ kX3_count.1.cls ≠ "java/lang/invoke/VarHandle" ∧ (parseMethodDescriptor kX3_count.1.desc).map (fun d => d.parameters.length) = some 1 := ⟨by decide, by decide, by decide +kernel⟩
theorem ct_count (G : aG) (h : hH) (b : Nat) (ms : tM) (hb : gB G ≤ b) (hT : TW b h ms) (hI : tOK ms) (v : Int32) : Con G kX3_count [.ref b, .int v] h ((2, 22, 0, 0), (fun r h1 => r = some (.int (opCount ms v).1) ∧ TW b h1 ((opCount ms v).2) ∧ Fr (TS b) h h1 ∧ h1.1 = h.1), nX) := by
  refine Con.of (plainFor_of_name rfl) rfl (Nat.le_of_ble_eq_true rfl) ?_
  refine AW.eq (lv2 := [(0, .ref b), (1, .int v)]) (s2 := []) rfl rfl rfl rfl rfl ?_
  refine aw_aload_n (n := 1) dX3_count_0 rfl 0 rfl rfl ?_
  refine aw_iconst (n := 2) (v := 0) dX3_count_1 (by decide) rfl ?_
  refine aw_tput (n := 5) (k := 0) dX3_count_2 q2641 (by decide) rfl rfl rfl rfl rfl hT hb rfl rfl (fun h_1 hT_1 hF_1 hz_1 => ?_)
  refine aw_iload_n (n := 6) dX3_count_5 rfl 1 rfl rfl ?_
  refine aw_iconst (n := 7) (v := 0) dX3_count_6 (by decide) rfl ?_
  refine aw_bipush (n := 9) (v := 6) dX3_count_7 (by decide) rfl ?_
  refine aw_callS (n := 12) (As := [.int v, .int 0, .int 6]) (rest := []) (K2 := kX3_isIn) dX3_count_9 q2781 q2782 q113 q2783 hcX3_isIn (ct_isIn G h_1 v (0 : Int32) (6 : Int32)) rfl (Nat.le_of_ble_eq_true rfl) ⟨Nat.le_of_ble_eq_true rfl, Nat.le_of_ble_eq_true rfl⟩ ⟨Nat.zero_le _, Nat.zero_le _⟩ (fun _ _ _ z => z.elim) rfl (fun r_9 h_9 q_9 => ?_)
  obtain ⟨rfl, rfl⟩ := q_9
  refine AW.sts (st' := [.int (bI (inS v 7))]) (by rw [inS, show nI 7 - 1 = 6 from by decide]; rfl) ?_
  refine aw_if_eq (n := 15) (tgt := 23) dX3_count_12 (by decide) rfl (fun c_12 => ?_) (fun c_12 => ?_)
  · skip
    have b_12 : (inS v 7) = false := (bI_0 _).mp c_12
    refine aw_aload_n (n := 24) dX3_count_23 rfl 0 rfl rfl ?_
    refine aw_iconst (n := 25) (v := 1) dX3_count_24 (by decide) rfl ?_
    refine aw_callV (n := 28) (C0 := RX3) (As := [.int 1]) (rest := []) (K2 := kX3_no) dX3_count_25 q2773 q2775 qs42 q113 q2776 ⟨rfl, hcX3_no⟩ rfl hT_1.1 (ct_no G h_1 b (tS ms 0 (0 : Int32)) hb hT_1 (1 : Int32)) rfl (Nat.le_of_ble_eq_true rfl) ⟨Nat.le_of_ble_eq_true rfl, Nat.le_of_ble_eq_true rfl⟩ ⟨Nat.zero_le _, Nat.zero_le _⟩ (fun _ _ _ z => z.elim) rfl (fun r_25 h_25 q_25 => ?_)
    obtain ⟨rfl, hT_25, hF_25, hz_25⟩ := q_25
    have hG_25 := Fr.trans hF_1 hF_25
    refine AW.sts (st' := [.int 0]) rfl ?_
    have e9 : opCount ms v = (0, tS (tS ms 0 (0 : Int32)) 0 (1 : Int32)) := by first | (simp [opCount, c_12, b_12, tS_tS]; done) | simp_all [opCount, tS_tS]
    exact aw_iret dX3_count_28 rfl ⟨by rw [e9], by rw [e9]; exact hT_25, hG_25, (by omega)⟩ ⟨Nat.zero_le _, Nat.zero_le _⟩
  · skip
    have b_12 : (inS v 7) = true := Bool.of_not_eq_false (fun e => c_12 ((bI_0 _).mpr e))
    obtain ⟨j, hj, rfl⟩ := inS_of b_12 (by omega)
    refine aw_aload_n (n := 16) dX3_count_15 rfl 0 rfl rfl ?_
    refine aw_iload_n (n := 17) dX3_count_16 rfl 1 rfl rfl ?_
    refine aw_callV (n := 20) (C0 := RX3) (As := [.int (nI j)]) (rest := []) (K2 := kX3_counted) dX3_count_17 q3032 q3034 qs87 q113 q3035 ⟨rfl, hcX3_counted⟩ rfl hT_1.1 (ct_counted G h_1 b (tS ms 0 (0 : Int32)) hb hT_1 j (by omega)) rfl (Nat.le_of_ble_eq_true rfl) ⟨Nat.le_of_ble_eq_true rfl, Nat.le_of_ble_eq_true rfl⟩ ⟨Nat.zero_le _, Nat.zero_le _⟩ (fun _ _ _ z => z.elim) rfl (fun r_17 h_17 q_17 => ?_)
    obtain ⟨rfl, rfl⟩ := q_17
    refine AW.sts (st' := [.int (cntT ms j)]) rfl ?_
    refine aw_goto (tgt := 28) dX3_count_20 (by decide) ?_
    have e9 : opCount ms (nI j) = (cntT ms j, tS ms 0 (0 : Int32)) := by first | (simp [opCount, c_12, b_12, nN_nI (show j < 2 ^ 31 by omega), tS_tS]; done) | simp_all [opCount, nN_nI (show j < 2 ^ 31 by omega), tS_tS]
    exact aw_iret dX3_count_28 rfl ⟨by rw [e9], by rw [e9]; exact hT_1, hF_1, (by omega)⟩ ⟨Nat.zero_le _, Nat.zero_le _⟩

abbrev kX3_time : aK := (yX3_time, cX3_time, 2, (Option.some Jvm.ClassFile.FieldType.int), [])
theorem hcX3_time : kX3_time.1.cls ≠ "java/lang/invoke/MethodHandle" ∧ kX3_time.1.cls ≠ "java/lang/invoke/VarHandle" ∧ (parseMethodDescriptor kX3_time.1.desc).map (fun d => d.parameters.length) = some 1 := ⟨by decide, by decide, by decide +kernel⟩
theorem ct_time (G : aG) (h : hH) (b : Nat) (ms : tM) (hb : gB G ≤ b) (hT : TW b h ms) (hI : tOK ms) (v : Int32) : Con G kX3_time [.ref b, .int v] h ((3, 43, 0, 0), (fun r h1 => r = some (.int (opTime ms v).1) ∧ TW b h1 ((opTime ms v).2) ∧ Fr (TS b) h h1 ∧ h1.1 = h.1), nX) := by
  have := hI.L2; have := hI.S2; have := hI.M0; have := hI.M1; have := hI.M2; have := hI.M3; have := hI.P2; have := hI.K2; have := hI.KM2
  refine Con.of (plainFor_of_name rfl) rfl (Nat.le_of_ble_eq_true rfl) ?_
  refine AW.eq (lv2 := [(0, .ref b), (1, .int v)]) (s2 := []) rfl rfl rfl rfl rfl ?_
  refine aw_aload_n (n := 1) dX3_time_0 rfl 0 rfl rfl ?_
  refine aw_iconst (n := 2) (v := 0) dX3_time_1 (by decide) rfl ?_
  refine aw_tput (n := 5) (k := 0) dX3_time_2 q2641 (by decide) rfl rfl rfl rfl rfl hT hb rfl rfl (fun h_1 hT_1 hF_1 hz_1 => ?_)
  refine aw_aload_n (n := 6) dX3_time_5 rfl 0 rfl rfl ?_
  refine aw_iload_n (n := 7) dX3_time_6 rfl 1 rfl rfl ?_
  refine aw_callV (n := 10) (C0 := RX3) (As := [.int v]) (rest := []) (K2 := kX3_isStep) dX3_time_7 q3126 q3128 qs100 q113 q3129 ⟨rfl, hcX3_isStep⟩ rfl hT_1.1 (ct_isStep G h_1 b (tS ms 0 (0 : Int32)) hb hT_1 (tOK.thrown hI _) v) rfl (Nat.le_of_ble_eq_true rfl) ⟨Nat.le_of_ble_eq_true rfl, Nat.le_of_ble_eq_true rfl⟩ ⟨Nat.zero_le _, Nat.zero_le _⟩ (fun _ _ _ z => z.elim) rfl (fun r_7 h_7 q_7 => ?_)
  obtain ⟨rfl, rfl⟩ := q_7
  refine AW.sts (st' := [.int (bI (inS v (Sn ms)))]) rfl ?_
  refine aw_if_eq (n := 13) (tgt := 22) dX3_time_10 (by decide) rfl (fun c_10 => ?_) (fun c_10 => ?_)
  · skip
    have b_10 : (inS v (Sn ms)) = false := (bI_0 _).mp c_10
    refine aw_aload_n (n := 23) dX3_time_22 rfl 0 rfl rfl ?_
    refine aw_iconst (n := 24) (v := 1) dX3_time_23 (by decide) rfl ?_
    refine aw_callV (n := 27) (C0 := RX3) (As := [.int 1]) (rest := []) (K2 := kX3_no) dX3_time_24 q2773 q2775 qs42 q113 q2776 ⟨rfl, hcX3_no⟩ rfl hT_1.1 (ct_no G h_1 b (tS ms 0 (0 : Int32)) hb hT_1 (1 : Int32)) rfl (Nat.le_of_ble_eq_true rfl) ⟨Nat.le_of_ble_eq_true rfl, Nat.le_of_ble_eq_true rfl⟩ ⟨Nat.zero_le _, Nat.zero_le _⟩ (fun _ _ _ z => z.elim) rfl (fun r_24 h_24 q_24 => ?_)
    obtain ⟨rfl, hT_24, hF_24, hz_24⟩ := q_24
    have hG_24 := Fr.trans hF_1 hF_24
    refine AW.sts (st' := [.int 0]) rfl ?_
    have e9 : opTime ms v = (0, tS (tS ms 0 (0 : Int32)) 0 (1 : Int32)) := by first | (simp [opTime, c_10, b_10, tS_tS]; done) | simp_all [opTime, tS_tS]
    exact aw_iret dX3_time_27 rfl ⟨by rw [e9], by rw [e9]; exact hT_24, hG_24, (by omega)⟩ ⟨Nat.zero_le _, Nat.zero_le _⟩
  · skip
    have b_10 : (inS v (Sn ms)) = true := Bool.of_not_eq_false (fun e => c_10 ((bI_0 _).mpr e))
    obtain ⟨j, hj, rfl⟩ := inS_of b_10 (by omega)
    refine aw_aload_n (n := 14) dX3_time_13 rfl 0 rfl rfl ?_
    refine aw_getf (n := 17) (v := .ref (b + 20)) (C0 := RX3) (T := TX3) dX3_time_14 rfl 30 q2671 (Or.inl rfl) hT_1.1 rfl rfl ?_
    refine aw_iload_n (n := 18) dX3_time_17 rfl 1 rfl rfl ?_
    refine aw_iald (n := 19) (v := .int (ms.2.1 30 j)) dX3_time_18 rfl j rfl hT_1.a30 (by omega) (by decide) rfl rfl ?_
    refine aw_goto (tgt := 27) dX3_time_19 (by decide) ?_
    have e9 : opTime ms (nI j) = (ms.2.1 30 j, tS ms 0 (0 : Int32)) := by first | (simp [opTime, c_10, b_10, nN_nI (show j < 2 ^ 31 by omega), tS_tS]; done) | simp_all [opTime, nN_nI (show j < 2 ^ 31 by omega), tS_tS]
    exact aw_iret dX3_time_27 rfl ⟨by rw [e9], by rw [e9]; exact hT_1, hF_1, (by omega)⟩ ⟨Nat.zero_le _, Nat.zero_le _⟩

abbrev kX3_set : aK := (yX3_set, cX3_set, 6, (Option.some Jvm.ClassFile.FieldType.long), [])
theorem hcX3_set : kX3_set.1.cls ≠ "java/lang/invoke/MethodHandle" ∧ kX3_set.1.cls ≠ "java/lang/invoke/VarHandle" ∧ (parseMethodDescriptor kX3_set.1.desc).map (fun d => d.parameters.length) = some 2 := ⟨by decide, by decide, by decide +kernel⟩
theorem ct_set (G : aG) (h : hH) (b : Nat) (ms : tM) (hb : gB G ≤ b) (hT : TW b h ms) (hI : tOK ms) (v : Int32) (x : Int64) : Con G kX3_set [.ref b, .int v, .long x] h ((2, 22, 0, 0), (fun r h1 => r = some (.long (opSet ms v x).1) ∧ TW b h1 ((opSet ms v x).2) ∧ Fr (TS b) h h1 ∧ h1.1 = h.1), nX) := by
  have := hI.L2; have := hI.S2; have := hI.M0; have := hI.M1; have := hI.M2; have := hI.M3; have := hI.P2; have := hI.K2; have := hI.KM2
  refine Con.of (plainFor_of_name rfl) rfl (Nat.le_of_ble_eq_true rfl) ?_
  refine AW.eq (lv2 := [(0, .ref b), (1, .int v), (2, .long x)]) (s2 := []) rfl rfl rfl rfl rfl ?_
  refine aw_aload_n (n := 1) dX3_set_0 rfl 0 rfl rfl ?_
  refine aw_iload_n (n := 2) dX3_set_1 rfl 1 rfl rfl ?_
  refine aw_iconst (n := 3) (v := 0) dX3_set_2 (by decide) rfl ?_
  refine aw_aload_n (n := 4) dX3_set_3 rfl 0 rfl rfl ?_
  refine aw_getf (n := 7) (v := .ref (b + 16)) (C0 := RX3) (T := TX3) dX3_set_4 rfl 23 q2664 (Or.inl rfl) hT.1 rfl rfl ?_
  refine aw_iconst (n := 8) (v := 0) dX3_set_7 (by decide) rfl ?_
  refine aw_iald (n := 9) (v := .int (ms.2.1 23 0)) dX3_set_8 rfl 0 (by rfl) hT.a23 (by omega) (by decide) rfl rfl ?_
  refine aw_iconst (n := 10) (v := 1) dX3_set_9 (by decide) rfl ?_
  refine aw_isub (n := 11) dX3_set_10 rfl ?_
  refine aw_callS (n := 14) (As := [.int v, .int 0, .int ((ms.2.1 23 0) - 1)]) (rest := [.ref b]) (K2 := kX3_isIn) dX3_set_11 q2781 q2782 q113 q2783 hcX3_isIn (ct_isIn G h v (0 : Int32) ((ms.2.1 23 0) - 1)) rfl (Nat.le_of_ble_eq_true rfl) ⟨Nat.le_of_ble_eq_true rfl, Nat.le_of_ble_eq_true rfl⟩ ⟨Nat.zero_le _, Nat.zero_le _⟩ (fun _ _ _ z => z.elim) rfl (fun r_11 h_11 q_11 => ?_)
  obtain ⟨rfl, rfl⟩ := q_11
  refine AW.sts (st' := [.int (bI (inS v (Mn ms 0))), .ref b]) (by rw [inS, ← hI.M (by decide)]; rfl) ?_
  refine aw_if_eq (n := 17) (tgt := 21) dX3_set_14 (by decide) rfl (fun c_14 => ?_) (fun c_14 => ?_)
  · skip
    have b_14 : (inS v (Mn ms 0)) = false := (bI_0 _).mp c_14
    refine aw_iconst (n := 22) (v := 1) dX3_set_21 (by decide) rfl ?_
    refine aw_tput (n := 25) (k := 0) dX3_set_22 q2641 (by decide) rfl rfl rfl rfl rfl hT hb rfl rfl (fun h_1 hT_1 hF_1 hz_1 => ?_)
    refine aw_aload_n (n := 26) dX3_set_25 rfl 0 rfl rfl ?_
    refine aw_getf (n := 29) (v := .int 1) (C0 := RX3) (T := TX3) dX3_set_26 rfl 0 q2641 (Or.inl rfl) hT_1.1 rfl rfl ?_
    refine aw_if_eq (n := 32) (tgt := 34) dX3_set_29 (by decide) rfl (fun c_29 => ?_) (fun c_29 => ?_)
    · skip
      exact absurd c_29 (by decide +kernel)
    · skip
      refine aw_lconst (n := 33) (v := 0) dX3_set_32 (by decide) rfl ?_
      have e9 : opSet ms v x = (0, tS ms 0 (1 : Int32)) := by first | (simp [opSet, c_14, b_14, c_29, tS_tS]; done) | simp_all [opSet, tS_tS]
      exact aw_lret dX3_set_33 rfl ⟨by rw [e9], by rw [e9]; exact hT_1, hF_1, (by omega)⟩ ⟨Nat.zero_le _, Nat.zero_le _⟩
  · skip
    have b_14 : (inS v (Mn ms 0)) = true := Bool.of_not_eq_false (fun e => c_14 ((bI_0 _).mpr e))
    obtain ⟨j, hj, rfl⟩ := inS_of b_14 (by omega)
    refine aw_iconst (n := 18) (v := 0) dX3_set_17 (by decide) rfl ?_
    refine aw_goto (tgt := 22) dX3_set_18 (by decide) ?_
    refine aw_tput (n := 25) (k := 0) dX3_set_22 q2641 (by decide) rfl rfl rfl rfl rfl hT hb rfl rfl (fun h_2 hT_2 hF_2 hz_2 => ?_)
    refine aw_aload_n (n := 26) dX3_set_25 rfl 0 rfl rfl ?_
    refine aw_getf (n := 29) (v := .int 0) (C0 := RX3) (T := TX3) dX3_set_26 rfl 0 q2641 (Or.inl rfl) hT_2.1 rfl rfl ?_
    refine aw_if_eq (n := 32) (tgt := 34) dX3_set_29 (by decide) rfl (fun c_29_2 => ?_) (fun c_29_2 => ?_)
    · skip
      refine aw_aload_n (n := 35) dX3_set_34 rfl 0 rfl rfl ?_
      refine aw_getf (n := 38) (v := .ref (b + 22)) (C0 := RX3) (T := TX3) dX3_set_35 rfl 32 q2673 (Or.inl rfl) hT_2.1 rfl rfl ?_
      refine aw_iload_n (n := 39) dX3_set_38 rfl 1 rfl rfl ?_
      refine aw_lald (n := 40) (v := .long (ms.2.2 32 j)) dX3_set_39 rfl j rfl hT_2.a32 (by omega) (by decide) rfl rfl ?_
      refine aw_lstore (n := 42) (lv' := [(4, .long (ms.2.2 32 j)), (0, .ref b), (1, .int (nI j)), (2, .long x)]) dX3_set_40 (by decide) rfl rfl ?_
      refine aw_aload_n (n := 43) dX3_set_42 rfl 1 rfl rfl ?_
      refine aw_getf (n := 46) (v := .ref (b + 22)) (C0 := RX3) (T := TX3) dX3_set_43 rfl 32 q2673 (Or.inl rfl) hT_2.1 rfl rfl ?_
      refine aw_iload_n (n := 47) dX3_set_46 rfl 2 rfl rfl ?_
      refine aw_lload_n (n := 48) dX3_set_47 rfl 3 rfl rfl ?_
      refine aw_tlast (n := 49) dX3_set_48 TW.m32 hT_2 hb j rfl (by omega) (by decide) rfl (fun h_3 hT_3 hF_3 hz_3 => ?_)
      have hG_3 := Fr.trans hF_2 hF_3
      refine aw_lload (n := 51) dX3_set_49 0 rfl rfl ?_
      have e9 : opSet ms (nI j) x = (ms.2.2 32 j, tL (tS ms 0 (0 : Int32)) 32 j x) := by first | (simp [opSet, c_14, b_14, c_29_2, nN_nI (show j < 2 ^ 31 by omega), tS_tS]; done) | simp_all [opSet, nN_nI (show j < 2 ^ 31 by omega), tS_tS]
      exact aw_lret dX3_set_51 rfl ⟨by rw [e9], by rw [e9]; exact hT_3, hG_3, (by omega)⟩ ⟨Nat.zero_le _, Nat.zero_le _⟩
    · skip
      exact absurd c_29_2 (by decide +kernel)

abbrev kX3_signal : aK := (yX3_signal, cX3_signal, 3, (Option.some Jvm.ClassFile.FieldType.long), [])
theorem hcX3_signal : kX3_signal.1.cls ≠ "java/lang/invoke/MethodHandle" ∧ kX3_signal.1.cls ≠ "java/lang/invoke/VarHandle" ∧ (parseMethodDescriptor kX3_signal.1.desc).map (fun d => d.parameters.length) = some 2 := ⟨by decide, by decide, by decide +kernel⟩
theorem ct_signal (G : aG) (h : hH) (b : Nat) (ms : tM) (hb : gB G ≤ b) (hT : TW b h ms) (hI : tOK ms) (v i : Int32) : Con G kX3_signal [.ref b, .int v, .int i] h ((3, 43, 0, 0), (fun r h1 => r = some (.long (opSig ms v i).1) ∧ TW b h1 ((opSig ms v i).2) ∧ Fr (TS b) h h1 ∧ h1.1 = h.1), nX) := by
  have := hI.L2; have := hI.S2; have := hI.M0; have := hI.M1; have := hI.M2; have := hI.M3; have := hI.P2; have := hI.K2; have := hI.KM2
  refine Con.of (plainFor_of_name rfl) rfl (Nat.le_of_ble_eq_true rfl) ?_
  refine AW.eq (lv2 := [(0, .ref b), (1, .int v), (2, .int i)]) (s2 := []) rfl rfl rfl rfl rfl ?_
  refine aw_aload_n (n := 1) dX3_signal_0 rfl 0 rfl rfl ?_
  refine aw_iload_n (n := 2) dX3_signal_1 rfl 1 rfl rfl ?_
  refine aw_iconst (n := 3) (v := 0) dX3_signal_2 (by decide) rfl ?_
  refine aw_aload_n (n := 4) dX3_signal_3 rfl 0 rfl rfl ?_
  refine aw_getf (n := 7) (v := .ref (b + 16)) (C0 := RX3) (T := TX3) dX3_signal_4 rfl 23 q2664 (Or.inl rfl) hT.1 rfl rfl ?_
  refine aw_iconst (n := 8) (v := 0) dX3_signal_7 (by decide) rfl ?_
  refine aw_iald (n := 9) (v := .int (ms.2.1 23 0)) dX3_signal_8 rfl 0 (by rfl) hT.a23 (by omega) (by decide) rfl rfl ?_
  refine aw_iconst (n := 10) (v := 1) dX3_signal_9 (by decide) rfl ?_
  refine aw_isub (n := 11) dX3_signal_10 rfl ?_
  refine aw_callS (n := 14) (As := [.int v, .int 0, .int ((ms.2.1 23 0) - 1)]) (rest := [.ref b]) (K2 := kX3_isIn) dX3_signal_11 q2781 q2782 q113 q2783 hcX3_isIn (ct_isIn G h v (0 : Int32) ((ms.2.1 23 0) - 1)) rfl (Nat.le_of_ble_eq_true rfl) ⟨Nat.le_of_ble_eq_true rfl, Nat.le_of_ble_eq_true rfl⟩ ⟨Nat.zero_le _, Nat.zero_le _⟩ (fun _ _ _ z => z.elim) rfl (fun r_11 h_11 q_11 => ?_)
  obtain ⟨rfl, rfl⟩ := q_11
  refine AW.sts (st' := [.int (bI (inS v (Mn ms 0))), .ref b]) (by rw [inS, ← hI.M (by decide)]; rfl) ?_
  refine aw_if_eq (n := 17) (tgt := 29) dX3_signal_14 (by decide) rfl (fun c_14 => ?_) (fun c_14 => ?_)
  · skip
    have b_14 : (inS v (Mn ms 0)) = false := (bI_0 _).mp c_14
    refine aw_iconst (n := 30) (v := 1) dX3_signal_29 (by decide) rfl ?_
    refine aw_tput (n := 33) (k := 0) dX3_signal_30 q2641 (by decide) rfl rfl rfl rfl rfl hT hb rfl rfl (fun h_1 hT_1 hF_1 hz_1 => ?_)
    refine aw_aload_n (n := 34) dX3_signal_33 rfl 0 rfl rfl ?_
    refine aw_getf (n := 37) (v := .int 1) (C0 := RX3) (T := TX3) dX3_signal_34 rfl 0 q2641 (Or.inl rfl) hT_1.1 rfl rfl ?_
    refine aw_if_ne (n := 40) (tgt := 54) dX3_signal_37 (by decide) rfl (fun c_37 => ?_) (fun c_37 => ?_)
    · skip
      refine aw_lconst (n := 55) (v := 0) dX3_signal_54 (by decide) rfl ?_
      have e9 : opSig ms v i = (0, tS ms 0 (1 : Int32)) := by first | (simp [opSig, c_14, b_14, c_37, tS_tS]; done) | simp_all [opSig, tS_tS]
      exact aw_lret dX3_signal_55 rfl ⟨by rw [e9], by rw [e9]; exact hT_1, hF_1, (by omega)⟩ ⟨Nat.zero_le _, Nat.zero_le _⟩
    · skip
      exact absurd c_37 (by decide +kernel)
  · skip
    have b_14 : (inS v (Mn ms 0)) = true := Bool.of_not_eq_false (fun e => c_14 ((bI_0 _).mpr e))
    obtain ⟨j, hj, rfl⟩ := inS_of b_14 (by omega)
    refine aw_aload_n (n := 18) dX3_signal_17 rfl 0 rfl rfl ?_
    refine aw_iload_n (n := 19) dX3_signal_18 rfl 2 rfl rfl ?_
    refine aw_callV (n := 22) (C0 := RX3) (As := [.int i]) (rest := [.ref b]) (K2 := kX3_isStep) dX3_signal_19 q3126 q3128 qs100 q113 q3129 ⟨rfl, hcX3_isStep⟩ rfl hT.1 (ct_isStep G h b ms hb hT hI i) rfl (Nat.le_of_ble_eq_true rfl) ⟨Nat.le_of_ble_eq_true rfl, Nat.le_of_ble_eq_true rfl⟩ ⟨Nat.zero_le _, Nat.zero_le _⟩ (fun _ _ _ z => z.elim) rfl (fun r_19 h_19 q_19 => ?_)
    obtain ⟨rfl, rfl⟩ := q_19
    refine AW.sts (st' := [.int (bI (inS i (Sn ms))), .ref b]) rfl ?_
    refine aw_if_eq (n := 25) (tgt := 29) dX3_signal_22 (by decide) rfl (fun c_22 => ?_) (fun c_22 => ?_)
    · skip
      have b_22 : (inS i (Sn ms)) = false := (bI_0 _).mp c_22
      refine aw_iconst (n := 30) (v := 1) dX3_signal_29 (by decide) rfl ?_
      refine aw_tput (n := 33) (k := 0) dX3_signal_30 q2641 (by decide) rfl rfl rfl rfl rfl hT hb rfl rfl (fun h_2 hT_2 hF_2 hz_2 => ?_)
      refine aw_aload_n (n := 34) dX3_signal_33 rfl 0 rfl rfl ?_
      refine aw_getf (n := 37) (v := .int 1) (C0 := RX3) (T := TX3) dX3_signal_34 rfl 0 q2641 (Or.inl rfl) hT_2.1 rfl rfl ?_
      refine aw_if_ne (n := 40) (tgt := 54) dX3_signal_37 (by decide) rfl (fun c_37_2 => ?_) (fun c_37_2 => ?_)
      · skip
        refine aw_lconst (n := 55) (v := 0) dX3_signal_54 (by decide) rfl ?_
        have e9 : opSig ms (nI j) i = (0, tS ms 0 (1 : Int32)) := by first | (simp [opSig, c_14, b_14, c_22, b_22, c_37_2, nN_nI (show j < 2 ^ 31 by omega), tS_tS]; done) | simp_all [opSig, nN_nI (show j < 2 ^ 31 by omega), tS_tS]
        exact aw_lret dX3_signal_55 rfl ⟨by rw [e9], by rw [e9]; exact hT_2, hF_2, (by omega)⟩ ⟨Nat.zero_le _, Nat.zero_le _⟩
      · skip
        exact absurd c_37_2 (by decide +kernel)
    · skip
      have b_22 : (inS i (Sn ms)) = true := Bool.of_not_eq_false (fun e => c_22 ((bI_0 _).mpr e))
      obtain ⟨i9, hi9, rfl⟩ := inS_of b_22 (by omega)
      refine aw_iconst (n := 26) (v := 0) dX3_signal_25 (by decide) rfl ?_
      refine aw_goto (tgt := 30) dX3_signal_26 (by decide) ?_
      refine aw_tput (n := 33) (k := 0) dX3_signal_30 q2641 (by decide) rfl rfl rfl rfl rfl hT hb rfl rfl (fun h_3 hT_3 hF_3 hz_3 => ?_)
      refine aw_aload_n (n := 34) dX3_signal_33 rfl 0 rfl rfl ?_
      refine aw_getf (n := 37) (v := .int 0) (C0 := RX3) (T := TX3) dX3_signal_34 rfl 0 q2641 (Or.inl rfl) hT_3.1 rfl rfl ?_
      refine aw_if_ne (n := 40) (tgt := 54) dX3_signal_37 (by decide) rfl (fun c_37_3 => ?_) (fun c_37_3 => ?_)
      · skip
        exact absurd c_37_3 (by decide +kernel)
      · skip
        refine aw_aload_n (n := 41) dX3_signal_40 rfl 0 rfl rfl ?_
        refine aw_getf (n := 44) (v := .ref (b + 21)) (C0 := RX3) (T := TX3) dX3_signal_41 rfl 31 q2672 (Or.inl rfl) hT_3.1 rfl rfl ?_
        refine aw_bipush (n := 46) (v := 8) dX3_signal_44 (by decide) rfl ?_
        refine aw_iload_n (n := 47) dX3_signal_46 rfl 2 rfl rfl ?_
        refine aw_imul (n := 48) dX3_signal_47 rfl ?_
        refine aw_iload_n (n := 49) dX3_signal_48 rfl 1 rfl rfl ?_
        refine aw_iadd (n := 50) dX3_signal_49 rfl ?_
        refine aw_lald (n := 51) (v := .long (ms.2.2 31 ((8 * i9) + j))) dX3_signal_50 rfl ((8 * i9) + j) (by rw [show 8 * (nI i9) = nI (8 * i9) from (by rw [show 8 = nI 8 from (by rfl), show nI i9 = nI i9 from rfl]; exact pk_mul _ _), show nI j = nI j from rfl]; exact nI_add _ _) hT_3.a31 (by omega) (by decide) rfl rfl ?_
        refine aw_goto (tgt := 55) dX3_signal_51 (by decide) ?_
        have e9 : opSig ms (nI j) (nI i9) = (ms.2.2 31 ((8 * i9) + j), tS ms 0 (0 : Int32)) := by first | (simp [opSig, c_14, b_14, c_22, b_22, c_37_3, nN_nI (show j < 2 ^ 31 by omega), nN_nI (show i9 < 2 ^ 31 by omega), tS_tS]; done) | simp_all [opSig, nN_nI (show j < 2 ^ 31 by omega), nN_nI (show i9 < 2 ^ 31 by omega), tS_tS]
        exact aw_lret dX3_signal_55 rfl ⟨by rw [e9], by rw [e9]; exact hT_3, hF_3, (by omega)⟩ ⟨Nat.zero_le _, Nat.zero_le _⟩

abbrev kX3_value : aK := (yX3_value, cX3_value, 3, (Option.some Jvm.ClassFile.FieldType.long), [])
theorem hcX3_value : kX3_value.1.cls ≠ "java/lang/invoke/MethodHandle" ∧ kX3_value.1.cls ≠ "java/lang/invoke/VarHandle" ∧ (parseMethodDescriptor kX3_value.1.desc).map (fun d => d.parameters.length) = some 2 := ⟨by decide, by decide, by decide +kernel⟩
theorem ct_value (G : aG) (h : hH) (b : Nat) (ms : tM) (hb : gB G ≤ b) (hT : TW b h ms) (hI : tOK ms) (v i : Int32) : Con G kX3_value [.ref b, .int v, .int i] h ((3, 43, 0, 0), (fun r h1 => r = some (.long (opVal ms v i).1) ∧ TW b h1 ((opVal ms v i).2) ∧ Fr (TS b) h h1 ∧ h1.1 = h.1), nX) := by
  have := hI.L2; have := hI.S2; have := hI.M0; have := hI.M1; have := hI.M2; have := hI.M3; have := hI.P2; have := hI.K2; have := hI.KM2
  refine Con.of (plainFor_of_name rfl) rfl (Nat.le_of_ble_eq_true rfl) ?_
  refine AW.eq (lv2 := [(0, .ref b), (1, .int v), (2, .int i)]) (s2 := []) rfl rfl rfl rfl rfl ?_
  refine aw_aload_n (n := 1) dX3_value_0 rfl 0 rfl rfl ?_
  refine aw_iload_n (n := 2) dX3_value_1 rfl 1 rfl rfl ?_
  refine aw_iconst (n := 3) (v := 0) dX3_value_2 (by decide) rfl ?_
  refine aw_aload_n (n := 4) dX3_value_3 rfl 0 rfl rfl ?_
  refine aw_getf (n := 7) (v := .ref (b + 16)) (C0 := RX3) (T := TX3) dX3_value_4 rfl 23 q2664 (Or.inl rfl) hT.1 rfl rfl ?_
  refine aw_iconst (n := 8) (v := 2) dX3_value_7 (by decide) rfl ?_
  refine aw_iald (n := 9) (v := .int (ms.2.1 23 2)) dX3_value_8 rfl 2 (by rfl) hT.a23 (by omega) (by decide) rfl rfl ?_
  refine aw_iconst (n := 10) (v := 1) dX3_value_9 (by decide) rfl ?_
  refine aw_isub (n := 11) dX3_value_10 rfl ?_
  refine aw_callS (n := 14) (As := [.int v, .int 0, .int ((ms.2.1 23 2) - 1)]) (rest := [.ref b]) (K2 := kX3_isIn) dX3_value_11 q2781 q2782 q113 q2783 hcX3_isIn (ct_isIn G h v (0 : Int32) ((ms.2.1 23 2) - 1)) rfl (Nat.le_of_ble_eq_true rfl) ⟨Nat.le_of_ble_eq_true rfl, Nat.le_of_ble_eq_true rfl⟩ ⟨Nat.zero_le _, Nat.zero_le _⟩ (fun _ _ _ z => z.elim) rfl (fun r_11 h_11 q_11 => ?_)
  obtain ⟨rfl, rfl⟩ := q_11
  refine AW.sts (st' := [.int (bI (inS v (Mn ms 2))), .ref b]) (by rw [inS, ← hI.M (by decide)]; rfl) ?_
  refine aw_if_eq (n := 17) (tgt := 29) dX3_value_14 (by decide) rfl (fun c_14 => ?_) (fun c_14 => ?_)
  · skip
    have b_14 : (inS v (Mn ms 2)) = false := (bI_0 _).mp c_14
    refine aw_iconst (n := 30) (v := 1) dX3_value_29 (by decide) rfl ?_
    refine aw_tput (n := 33) (k := 0) dX3_value_30 q2641 (by decide) rfl rfl rfl rfl rfl hT hb rfl rfl (fun h_1 hT_1 hF_1 hz_1 => ?_)
    refine aw_aload_n (n := 34) dX3_value_33 rfl 0 rfl rfl ?_
    refine aw_getf (n := 37) (v := .int 1) (C0 := RX3) (T := TX3) dX3_value_34 rfl 0 q2641 (Or.inl rfl) hT_1.1 rfl rfl ?_
    refine aw_if_ne (n := 40) (tgt := 57) dX3_value_37 (by decide) rfl (fun c_37 => ?_) (fun c_37 => ?_)
    · skip
      refine aw_lconst (n := 58) (v := 0) dX3_value_57 (by decide) rfl ?_
      have e9 : opVal ms v i = (0, tS ms 0 (1 : Int32)) := by first | (simp [opVal, c_14, b_14, c_37, tS_tS]; done) | simp_all [opVal, tS_tS]
      exact aw_lret dX3_value_58 rfl ⟨by rw [e9], by rw [e9]; exact hT_1, hF_1, (by omega)⟩ ⟨Nat.zero_le _, Nat.zero_le _⟩
    · skip
      exact absurd c_37 (by decide +kernel)
  · skip
    have b_14 : (inS v (Mn ms 2)) = true := Bool.of_not_eq_false (fun e => c_14 ((bI_0 _).mpr e))
    obtain ⟨j, hj, rfl⟩ := inS_of b_14 (by omega)
    refine aw_aload_n (n := 18) dX3_value_17 rfl 0 rfl rfl ?_
    refine aw_iload_n (n := 19) dX3_value_18 rfl 2 rfl rfl ?_
    refine aw_callV (n := 22) (C0 := RX3) (As := [.int i]) (rest := [.ref b]) (K2 := kX3_isStep) dX3_value_19 q3126 q3128 qs100 q113 q3129 ⟨rfl, hcX3_isStep⟩ rfl hT.1 (ct_isStep G h b ms hb hT hI i) rfl (Nat.le_of_ble_eq_true rfl) ⟨Nat.le_of_ble_eq_true rfl, Nat.le_of_ble_eq_true rfl⟩ ⟨Nat.zero_le _, Nat.zero_le _⟩ (fun _ _ _ z => z.elim) rfl (fun r_19 h_19 q_19 => ?_)
    obtain ⟨rfl, rfl⟩ := q_19
    refine AW.sts (st' := [.int (bI (inS i (Sn ms))), .ref b]) rfl ?_
    refine aw_if_eq (n := 25) (tgt := 29) dX3_value_22 (by decide) rfl (fun c_22 => ?_) (fun c_22 => ?_)
    · skip
      have b_22 : (inS i (Sn ms)) = false := (bI_0 _).mp c_22
      refine aw_iconst (n := 30) (v := 1) dX3_value_29 (by decide) rfl ?_
      refine aw_tput (n := 33) (k := 0) dX3_value_30 q2641 (by decide) rfl rfl rfl rfl rfl hT hb rfl rfl (fun h_2 hT_2 hF_2 hz_2 => ?_)
      refine aw_aload_n (n := 34) dX3_value_33 rfl 0 rfl rfl ?_
      refine aw_getf (n := 37) (v := .int 1) (C0 := RX3) (T := TX3) dX3_value_34 rfl 0 q2641 (Or.inl rfl) hT_2.1 rfl rfl ?_
      refine aw_if_ne (n := 40) (tgt := 57) dX3_value_37 (by decide) rfl (fun c_37_2 => ?_) (fun c_37_2 => ?_)
      · skip
        refine aw_lconst (n := 58) (v := 0) dX3_value_57 (by decide) rfl ?_
        have e9 : opVal ms (nI j) i = (0, tS ms 0 (1 : Int32)) := by first | (simp [opVal, c_14, b_14, c_22, b_22, c_37_2, nN_nI (show j < 2 ^ 31 by omega), tS_tS]; done) | simp_all [opVal, nN_nI (show j < 2 ^ 31 by omega), tS_tS]
        exact aw_lret dX3_value_58 rfl ⟨by rw [e9], by rw [e9]; exact hT_2, hF_2, (by omega)⟩ ⟨Nat.zero_le _, Nat.zero_le _⟩
      · skip
        exact absurd c_37_2 (by decide +kernel)
    · skip
      have b_22 : (inS i (Sn ms)) = true := Bool.of_not_eq_false (fun e => c_22 ((bI_0 _).mpr e))
      obtain ⟨i9, hi9, rfl⟩ := inS_of b_22 (by omega)
      have ht := hI.T (k := 2) (j := j) (by decide) (by decide) hj; have ht2 := hI.T2 (k := 2) (j := j) (by decide) (by decide) hj
      refine aw_iconst (n := 26) (v := 0) dX3_value_25 (by decide) rfl ?_
      refine aw_goto (tgt := 30) dX3_value_26 (by decide) ?_
      refine aw_tput (n := 33) (k := 0) dX3_value_30 q2641 (by decide) rfl rfl rfl rfl rfl hT hb rfl rfl (fun h_3 hT_3 hF_3 hz_3 => ?_)
      refine aw_aload_n (n := 34) dX3_value_33 rfl 0 rfl rfl ?_
      refine aw_getf (n := 37) (v := .int 0) (C0 := RX3) (T := TX3) dX3_value_34 rfl 0 q2641 (Or.inl rfl) hT_3.1 rfl rfl ?_
      refine aw_if_ne (n := 40) (tgt := 57) dX3_value_37 (by decide) rfl (fun c_37_3 => ?_) (fun c_37_3 => ?_)
      · skip
        exact absurd c_37_3 (by decide +kernel)
      · skip
        refine aw_aload_n (n := 41) dX3_value_40 rfl 0 rfl rfl ?_
        refine aw_aload_n (n := 42) dX3_value_41 rfl 0 rfl rfl ?_
        refine aw_getf (n := 45) (v := .ref (b + 18)) (C0 := RX3) (T := TX3) dX3_value_42 rfl 25 q2666 (Or.inl rfl) hT_3.1 rfl rfl ?_
        refine aw_bipush (n := 47) (v := 24) dX3_value_45 (by decide) rfl ?_
        refine aw_iload_n (n := 48) dX3_value_47 rfl 1 rfl rfl ?_
        refine aw_iadd (n := 49) dX3_value_48 rfl ?_
        refine aw_iald (n := 50) (v := .int (ms.2.1 25 (24 + j))) dX3_value_49 rfl (24 + j) (by rw [show 24 = nI 24 from (by rfl), show nI j = nI j from rfl]; exact nI_add _ _) hT_3.a25 (by omega) (by decide) rfl rfl ?_
        refine aw_iload_n (n := 51) dX3_value_50 rfl 2 rfl rfl ?_
        refine AW.sts (st' := [.int (nI i9), .int (nI (tp ms 2 j)), .ref b]) (by rw [show ms.2.1 25 (24 + j) = nI (tp ms 2 j) from ht]) ?_
        refine aw_callV (n := 54) (C0 := RX3) (As := [.int (nI (tp ms 2 j)), .int (nI i9)]) (rest := []) (K2 := kX3_at) dX3_value_51 q3060 q3062 qs92 q113 q3063 ⟨rfl, hcX3_at⟩ rfl hT_3.1 (ct_at G h_3 b (tS ms 0 (0 : Int32)) hb hT_3 (tp ms 2 j) i9 (by omega) (by omega)) rfl (Nat.le_of_ble_eq_true rfl) ⟨Nat.le_of_ble_eq_true rfl, Nat.le_of_ble_eq_true rfl⟩ ⟨Nat.zero_le _, Nat.zero_le _⟩ (fun _ _ _ z => z.elim) rfl (fun r_51 h_51 q_51 => ?_)
        obtain ⟨rfl, rfl⟩ := q_51
        refine AW.sts (st' := [.long (tb ms (tp ms 2 j) i9)]) rfl ?_
        refine aw_goto (tgt := 58) dX3_value_54 (by decide) ?_
        have e9 : opVal ms (nI j) (nI i9) = (tb ms (tp ms 2 j) i9, tS ms 0 (0 : Int32)) := by first | (simp [opVal, c_14, b_14, c_22, b_22, c_37_3, nN_nI (show j < 2 ^ 31 by omega), nN_nI (show i9 < 2 ^ 31 by omega), tS_tS]; done) | simp_all [opVal, nN_nI (show j < 2 ^ 31 by omega), nN_nI (show i9 < 2 ^ 31 by omega), tS_tS]
        exact aw_lret dX3_value_58 rfl ⟨by rw [e9], by rw [e9]; exact hT_3, hF_3, (by omega)⟩ ⟨Nat.zero_le _, Nat.zero_le _⟩

abbrev kX3_let : aK := (yX3_let, cX3_let, 3, (Option.some Jvm.ClassFile.FieldType.boolean), [])
theorem hcX3_let : kX3_let.1.cls ≠ "java/lang/invoke/MethodHandle" ∧ kX3_let.1.cls ≠ "java/lang/invoke/VarHandle" ∧ (parseMethodDescriptor kX3_let.1.desc).map (fun d => d.parameters.length) = some 2 := ⟨by decide, by decide, by decide +kernel⟩
theorem ct_let (G : aG) (h : hH) (b : Nat) (ms : tM) (hb : gB G ≤ b) (hT : TW b h ms) (hI : tOK ms) (v i : Int32) : Con G kX3_let [.ref b, .int v, .int i] h ((3, 44, 0, 0), (fun r h1 => r = some (.int (opLet ms v i).1) ∧ TW b h1 ((opLet ms v i).2) ∧ Fr (TS b) h h1 ∧ h1.1 = h.1), nX) := by
  have := hI.L2; have := hI.S2; have := hI.M0; have := hI.M1; have := hI.M2; have := hI.M3; have := hI.P2; have := hI.K2; have := hI.KM2
  refine Con.of (plainFor_of_name rfl) rfl (Nat.le_of_ble_eq_true rfl) ?_
  refine AW.eq (lv2 := [(0, .ref b), (1, .int v), (2, .int i)]) (s2 := []) rfl rfl rfl rfl rfl ?_
  refine aw_aload_n (n := 1) dX3_let_0 rfl 0 rfl rfl ?_
  refine aw_iload_n (n := 2) dX3_let_1 rfl 1 rfl rfl ?_
  refine aw_iconst (n := 3) (v := 0) dX3_let_2 (by decide) rfl ?_
  refine aw_aload_n (n := 4) dX3_let_3 rfl 0 rfl rfl ?_
  refine aw_getf (n := 7) (v := .ref (b + 16)) (C0 := RX3) (T := TX3) dX3_let_4 rfl 23 q2664 (Or.inl rfl) hT.1 rfl rfl ?_
  refine aw_iconst (n := 8) (v := 1) dX3_let_7 (by decide) rfl ?_
  refine aw_iald (n := 9) (v := .int (ms.2.1 23 1)) dX3_let_8 rfl 1 (by rfl) hT.a23 (by omega) (by decide) rfl rfl ?_
  refine aw_iconst (n := 10) (v := 1) dX3_let_9 (by decide) rfl ?_
  refine aw_isub (n := 11) dX3_let_10 rfl ?_
  refine aw_callS (n := 14) (As := [.int v, .int 0, .int ((ms.2.1 23 1) - 1)]) (rest := [.ref b]) (K2 := kX3_isIn) dX3_let_11 q2781 q2782 q113 q2783 hcX3_isIn (ct_isIn G h v (0 : Int32) ((ms.2.1 23 1) - 1)) rfl (Nat.le_of_ble_eq_true rfl) ⟨Nat.le_of_ble_eq_true rfl, Nat.le_of_ble_eq_true rfl⟩ ⟨Nat.zero_le _, Nat.zero_le _⟩ (fun _ _ _ z => z.elim) rfl (fun r_11 h_11 q_11 => ?_)
  obtain ⟨rfl, rfl⟩ := q_11
  refine AW.sts (st' := [.int (bI (inS v (Mn ms 1))), .ref b]) (by rw [inS, ← hI.M (by decide)]; rfl) ?_
  refine aw_if_eq (n := 17) (tgt := 29) dX3_let_14 (by decide) rfl (fun c_14 => ?_) (fun c_14 => ?_)
  · skip
    have b_14 : (inS v (Mn ms 1)) = false := (bI_0 _).mp c_14
    refine aw_iconst (n := 30) (v := 1) dX3_let_29 (by decide) rfl ?_
    refine aw_tput (n := 33) (k := 0) dX3_let_30 q2641 (by decide) rfl rfl rfl rfl rfl hT hb rfl rfl (fun h_1 hT_1 hF_1 hz_1 => ?_)
    refine aw_aload_n (n := 34) dX3_let_33 rfl 0 rfl rfl ?_
    refine aw_getf (n := 37) (v := .int 1) (C0 := RX3) (T := TX3) dX3_let_34 rfl 0 q2641 (Or.inl rfl) hT_1.1 rfl rfl ?_
    refine aw_if_ne (n := 40) (tgt := 61) dX3_let_37 (by decide) rfl (fun c_37 => ?_) (fun c_37 => ?_)
    · skip
      refine aw_iconst (n := 62) (v := 0) dX3_let_61 (by decide) rfl ?_
      have e9 : opLet ms v i = (0, tS ms 0 (1 : Int32)) := by first | (simp [opLet, bI, c_14, b_14, c_37, tS_tS]; done) | simp_all [opLet, bI, tS_tS]
      exact aw_zret dX3_let_62 rfl (by decide) ⟨by rw [e9], by rw [e9]; exact hT_1, hF_1, (by omega)⟩ ⟨Nat.zero_le _, Nat.zero_le _⟩
    · skip
      exact absurd c_37 (by decide +kernel)
  · skip
    have b_14 : (inS v (Mn ms 1)) = true := Bool.of_not_eq_false (fun e => c_14 ((bI_0 _).mpr e))
    obtain ⟨j, hj, rfl⟩ := inS_of b_14 (by omega)
    refine aw_aload_n (n := 18) dX3_let_17 rfl 0 rfl rfl ?_
    refine aw_iload_n (n := 19) dX3_let_18 rfl 2 rfl rfl ?_
    refine aw_callV (n := 22) (C0 := RX3) (As := [.int i]) (rest := [.ref b]) (K2 := kX3_isStep) dX3_let_19 q3126 q3128 qs100 q113 q3129 ⟨rfl, hcX3_isStep⟩ rfl hT.1 (ct_isStep G h b ms hb hT hI i) rfl (Nat.le_of_ble_eq_true rfl) ⟨Nat.le_of_ble_eq_true rfl, Nat.le_of_ble_eq_true rfl⟩ ⟨Nat.zero_le _, Nat.zero_le _⟩ (fun _ _ _ z => z.elim) rfl (fun r_19 h_19 q_19 => ?_)
    obtain ⟨rfl, rfl⟩ := q_19
    refine AW.sts (st' := [.int (bI (inS i (Sn ms))), .ref b]) rfl ?_
    refine aw_if_eq (n := 25) (tgt := 29) dX3_let_22 (by decide) rfl (fun c_22 => ?_) (fun c_22 => ?_)
    · skip
      have b_22 : (inS i (Sn ms)) = false := (bI_0 _).mp c_22
      refine aw_iconst (n := 30) (v := 1) dX3_let_29 (by decide) rfl ?_
      refine aw_tput (n := 33) (k := 0) dX3_let_30 q2641 (by decide) rfl rfl rfl rfl rfl hT hb rfl rfl (fun h_2 hT_2 hF_2 hz_2 => ?_)
      refine aw_aload_n (n := 34) dX3_let_33 rfl 0 rfl rfl ?_
      refine aw_getf (n := 37) (v := .int 1) (C0 := RX3) (T := TX3) dX3_let_34 rfl 0 q2641 (Or.inl rfl) hT_2.1 rfl rfl ?_
      refine aw_if_ne (n := 40) (tgt := 61) dX3_let_37 (by decide) rfl (fun c_37_2 => ?_) (fun c_37_2 => ?_)
      · skip
        refine aw_iconst (n := 62) (v := 0) dX3_let_61 (by decide) rfl ?_
        have e9 : opLet ms (nI j) i = (0, tS ms 0 (1 : Int32)) := by first | (simp [opLet, bI, c_14, b_14, c_22, b_22, c_37_2, nN_nI (show j < 2 ^ 31 by omega), tS_tS]; done) | simp_all [opLet, bI, nN_nI (show j < 2 ^ 31 by omega), tS_tS]
        exact aw_zret dX3_let_62 rfl (by decide) ⟨by rw [e9], by rw [e9]; exact hT_2, hF_2, (by omega)⟩ ⟨Nat.zero_le _, Nat.zero_le _⟩
      · skip
        exact absurd c_37_2 (by decide +kernel)
    · skip
      have b_22 : (inS i (Sn ms)) = true := Bool.of_not_eq_false (fun e => c_22 ((bI_0 _).mpr e))
      obtain ⟨i9, hi9, rfl⟩ := inS_of b_22 (by omega)
      have ht := hI.T (k := 1) (j := j) (by decide) (by decide) hj; have ht2 := hI.T2 (k := 1) (j := j) (by decide) (by decide) hj
      refine aw_iconst (n := 26) (v := 0) dX3_let_25 (by decide) rfl ?_
      refine aw_goto (tgt := 30) dX3_let_26 (by decide) ?_
      refine aw_tput (n := 33) (k := 0) dX3_let_30 q2641 (by decide) rfl rfl rfl rfl rfl hT hb rfl rfl (fun h_3 hT_3 hF_3 hz_3 => ?_)
      refine aw_aload_n (n := 34) dX3_let_33 rfl 0 rfl rfl ?_
      refine aw_getf (n := 37) (v := .int 0) (C0 := RX3) (T := TX3) dX3_let_34 rfl 0 q2641 (Or.inl rfl) hT_3.1 rfl rfl ?_
      refine aw_if_ne (n := 40) (tgt := 61) dX3_let_37 (by decide) rfl (fun c_37_3 => ?_) (fun c_37_3 => ?_)
      · skip
        exact absurd c_37_3 (by decide +kernel)
      · skip
        refine aw_aload_n (n := 41) dX3_let_40 rfl 0 rfl rfl ?_
        refine aw_aload_n (n := 42) dX3_let_41 rfl 0 rfl rfl ?_
        refine aw_getf (n := 45) (v := .ref (b + 18)) (C0 := RX3) (T := TX3) dX3_let_42 rfl 25 q2666 (Or.inl rfl) hT_3.1 rfl rfl ?_
        refine aw_bipush (n := 47) (v := 12) dX3_let_45 (by decide) rfl ?_
        refine aw_iload_n (n := 48) dX3_let_47 rfl 1 rfl rfl ?_
        refine aw_iadd (n := 49) dX3_let_48 rfl ?_
        refine aw_iald (n := 50) (v := .int (ms.2.1 25 (12 + j))) dX3_let_49 rfl (12 + j) (by rw [show 12 = nI 12 from (by rfl), show nI j = nI j from rfl]; exact nI_add _ _) hT_3.a25 (by omega) (by decide) rfl rfl ?_
        refine aw_iload_n (n := 51) dX3_let_50 rfl 2 rfl rfl ?_
        refine AW.sts (st' := [.int (nI i9), .int (nI (tp ms 1 j)), .ref b]) (by rw [show ms.2.1 25 (12 + j) = nI (tp ms 1 j) from ht]) ?_
        refine aw_callV (n := 54) (C0 := RX3) (As := [.int (nI (tp ms 1 j)), .int (nI i9)]) (rest := []) (K2 := kX3_holds) dX3_let_51 q3056 q3058 qs91 q113 q3059 ⟨rfl, hcX3_holds⟩ rfl hT_3.1 (ct_holds G h_3 b (tS ms 0 (0 : Int32)) hb hT_3 (tp ms 1 j) i9 (by omega) (by omega)) rfl (Nat.le_of_ble_eq_true rfl) ⟨Nat.le_of_ble_eq_true rfl, Nat.le_of_ble_eq_true rfl⟩ ⟨Nat.zero_le _, Nat.zero_le _⟩ (fun _ _ _ z => z.elim) rfl (fun r_51 h_51 q_51 => ?_)
        obtain ⟨rfl, rfl⟩ := q_51
        refine AW.sts (st' := [.int (bI (hd ms (tp ms 1 j) i9))]) rfl ?_
        refine aw_if_eq (n := 57) (tgt := 61) dX3_let_54 (by decide) rfl (fun c_54 => ?_) (fun c_54 => ?_)
        · skip
          have b_54 : (hd ms (tp ms 1 j) i9) = false := (bI_0 _).mp c_54
          refine aw_iconst (n := 62) (v := 0) dX3_let_61 (by decide) rfl ?_
          have e9 : opLet ms (nI j) (nI i9) = (0, tS ms 0 (0 : Int32)) := by first | (simp [opLet, bI, c_14, b_14, c_22, b_22, c_37_3, b_54, c_54, nN_nI (show j < 2 ^ 31 by omega), nN_nI (show i9 < 2 ^ 31 by omega), tS_tS]; done) | simp_all [opLet, bI, nN_nI (show j < 2 ^ 31 by omega), nN_nI (show i9 < 2 ^ 31 by omega), tS_tS]
          exact aw_zret dX3_let_62 rfl (by decide) ⟨by rw [e9], by rw [e9]; exact hT_3, hF_3, (by omega)⟩ ⟨Nat.zero_le _, Nat.zero_le _⟩
        · skip
          have b_54 : (hd ms (tp ms 1 j) i9) = true := Bool.of_not_eq_false (fun e => c_54 ((bI_0 _).mpr e))
          refine aw_iconst (n := 58) (v := 1) dX3_let_57 (by decide) rfl ?_
          refine aw_goto (tgt := 62) dX3_let_58 (by decide) ?_
          have e9 : opLet ms (nI j) (nI i9) = (1, tS ms 0 (0 : Int32)) := by first | (simp [opLet, bI, c_14, b_14, c_22, b_22, c_37_3, b_54, c_54, nN_nI (show j < 2 ^ 31 by omega), nN_nI (show i9 < 2 ^ 31 by omega), tS_tS]; done) | simp_all [opLet, bI, nN_nI (show j < 2 ^ 31 by omega), nN_nI (show i9 < 2 ^ 31 by omega), tS_tS]
          exact aw_zret dX3_let_62 rfl (by decide) ⟨by rw [e9], by rw [e9]; exact hT_3, hF_3, (by omega)⟩ ⟨Nat.zero_le _, Nat.zero_le _⟩

abbrev kX3_watch : aK := (yX3_watch, cX3_watch, 3, (Option.some Jvm.ClassFile.FieldType.boolean), [])
theorem hcX3_watch : kX3_watch.1.cls ≠ "java/lang/invoke/MethodHandle" ∧ kX3_watch.1.cls ≠ "java/lang/invoke/VarHandle" ∧ (parseMethodDescriptor kX3_watch.1.desc).map (fun d => d.parameters.length) = some 2 := ⟨by decide, by decide, by decide +kernel⟩
theorem ct_watch (G : aG) (h : hH) (b : Nat) (ms : tM) (hb : gB G ≤ b) (hT : TW b h ms) (hI : tOK ms) (v i : Int32) : Con G kX3_watch [.ref b, .int v, .int i] h ((4, 66, 0, 0), (fun r h1 => r = some (.int (opWatch ms v i).1) ∧ TW b h1 ((opWatch ms v i).2) ∧ Fr (TS b) h h1 ∧ h1.1 = h.1), nX) := by
  have := hI.L2; have := hI.S2; have := hI.M0; have := hI.M1; have := hI.M2; have := hI.M3; have := hI.P2; have := hI.K2; have := hI.KM2
  refine Con.of (plainFor_of_name rfl) rfl (Nat.le_of_ble_eq_true rfl) ?_
  refine AW.eq (lv2 := [(0, .ref b), (1, .int v), (2, .int i)]) (s2 := []) rfl rfl rfl rfl rfl ?_
  refine aw_aload_n (n := 1) dX3_watch_0 rfl 0 rfl rfl ?_
  refine aw_aload_n (n := 2) dX3_watch_1 rfl 0 rfl rfl ?_
  refine aw_iload_n (n := 3) dX3_watch_2 rfl 1 rfl rfl ?_
  refine aw_callV (n := 6) (C0 := RX3) (As := [.int v]) (rest := [.ref b]) (K2 := kX3_isWatch) dX3_watch_3 q3146 q3148 qs101 q113 q3149 ⟨rfl, hcX3_isWatch⟩ rfl hT.1 (ct_isWatch G h b ms hb hT hI v) rfl (Nat.le_of_ble_eq_true rfl) ⟨Nat.le_of_ble_eq_true rfl, Nat.le_of_ble_eq_true rfl⟩ ⟨Nat.zero_le _, Nat.zero_le _⟩ (fun _ _ _ z => z.elim) rfl (fun r_3 h_3 q_3 => ?_)
  obtain ⟨rfl, rfl⟩ := q_3
  refine AW.sts (st' := [.int (bI (inS v (Mn ms 3))), .ref b]) rfl ?_
  refine aw_if_eq (n := 9) (tgt := 21) dX3_watch_6 (by decide) rfl (fun c_6 => ?_) (fun c_6 => ?_)
  · skip
    have b_6 : (inS v (Mn ms 3)) = false := (bI_0 _).mp c_6
    refine aw_iconst (n := 22) (v := 1) dX3_watch_21 (by decide) rfl ?_
    refine aw_tput (n := 25) (k := 0) dX3_watch_22 q2641 (by decide) rfl rfl rfl rfl rfl hT hb rfl rfl (fun h_1 hT_1 hF_1 hz_1 => ?_)
    refine aw_aload_n (n := 26) dX3_watch_25 rfl 0 rfl rfl ?_
    refine aw_getf (n := 29) (v := .int 1) (C0 := RX3) (T := TX3) dX3_watch_26 rfl 0 q2641 (Or.inl rfl) hT_1.1 rfl rfl ?_
    refine aw_if_ne (n := 32) (tgt := 45) dX3_watch_29 (by decide) rfl (fun c_29 => ?_) (fun c_29 => ?_)
    · skip
      refine aw_iconst (n := 46) (v := 0) dX3_watch_45 (by decide) rfl ?_
      have e9 : opWatch ms v i = (0, tS ms 0 (1 : Int32)) := by first | (simp [opWatch, bI, c_6, b_6, c_29, tS_tS]; done) | simp_all [opWatch, bI, tS_tS]
      exact aw_zret dX3_watch_46 rfl (by decide) ⟨by rw [e9], by rw [e9]; exact hT_1, hF_1, (by omega)⟩ ⟨Nat.zero_le _, Nat.zero_le _⟩
    · skip
      exact absurd c_29 (by decide +kernel)
  · skip
    have b_6 : (inS v (Mn ms 3)) = true := Bool.of_not_eq_false (fun e => c_6 ((bI_0 _).mpr e))
    obtain ⟨j, hj, rfl⟩ := inS_of b_6 (by omega)
    refine aw_aload_n (n := 10) dX3_watch_9 rfl 0 rfl rfl ?_
    refine aw_iload_n (n := 11) dX3_watch_10 rfl 2 rfl rfl ?_
    refine aw_callV (n := 14) (C0 := RX3) (As := [.int i]) (rest := [.ref b]) (K2 := kX3_isStep) dX3_watch_11 q3126 q3128 qs100 q113 q3129 ⟨rfl, hcX3_isStep⟩ rfl hT.1 (ct_isStep G h b ms hb hT hI i) rfl (Nat.le_of_ble_eq_true rfl) ⟨Nat.le_of_ble_eq_true rfl, Nat.le_of_ble_eq_true rfl⟩ ⟨Nat.zero_le _, Nat.zero_le _⟩ (fun _ _ _ z => z.elim) rfl (fun r_11 h_11 q_11 => ?_)
    obtain ⟨rfl, rfl⟩ := q_11
    refine AW.sts (st' := [.int (bI (inS i (Sn ms))), .ref b]) rfl ?_
    refine aw_if_eq (n := 17) (tgt := 21) dX3_watch_14 (by decide) rfl (fun c_14 => ?_) (fun c_14 => ?_)
    · skip
      have b_14 : (inS i (Sn ms)) = false := (bI_0 _).mp c_14
      refine aw_iconst (n := 22) (v := 1) dX3_watch_21 (by decide) rfl ?_
      refine aw_tput (n := 25) (k := 0) dX3_watch_22 q2641 (by decide) rfl rfl rfl rfl rfl hT hb rfl rfl (fun h_2 hT_2 hF_2 hz_2 => ?_)
      refine aw_aload_n (n := 26) dX3_watch_25 rfl 0 rfl rfl ?_
      refine aw_getf (n := 29) (v := .int 1) (C0 := RX3) (T := TX3) dX3_watch_26 rfl 0 q2641 (Or.inl rfl) hT_2.1 rfl rfl ?_
      refine aw_if_ne (n := 32) (tgt := 45) dX3_watch_29 (by decide) rfl (fun c_29_2 => ?_) (fun c_29_2 => ?_)
      · skip
        refine aw_iconst (n := 46) (v := 0) dX3_watch_45 (by decide) rfl ?_
        have e9 : opWatch ms (nI j) i = (0, tS ms 0 (1 : Int32)) := by first | (simp [opWatch, bI, c_6, b_6, c_14, b_14, c_29_2, nN_nI (show j < 2 ^ 31 by omega), tS_tS]; done) | simp_all [opWatch, bI, nN_nI (show j < 2 ^ 31 by omega), tS_tS]
        exact aw_zret dX3_watch_46 rfl (by decide) ⟨by rw [e9], by rw [e9]; exact hT_2, hF_2, (by omega)⟩ ⟨Nat.zero_le _, Nat.zero_le _⟩
      · skip
        exact absurd c_29_2 (by decide +kernel)
    · skip
      have b_14 : (inS i (Sn ms)) = true := Bool.of_not_eq_false (fun e => c_14 ((bI_0 _).mpr e))
      obtain ⟨i9, hi9, rfl⟩ := inS_of b_14 (by omega)
      refine aw_iconst (n := 18) (v := 0) dX3_watch_17 (by decide) rfl ?_
      refine aw_goto (tgt := 22) dX3_watch_18 (by decide) ?_
      refine aw_tput (n := 25) (k := 0) dX3_watch_22 q2641 (by decide) rfl rfl rfl rfl rfl hT hb rfl rfl (fun h_3 hT_3 hF_3 hz_3 => ?_)
      refine aw_aload_n (n := 26) dX3_watch_25 rfl 0 rfl rfl ?_
      refine aw_getf (n := 29) (v := .int 0) (C0 := RX3) (T := TX3) dX3_watch_26 rfl 0 q2641 (Or.inl rfl) hT_3.1 rfl rfl ?_
      refine aw_if_ne (n := 32) (tgt := 45) dX3_watch_29 (by decide) rfl (fun c_29_3 => ?_) (fun c_29_3 => ?_)
      · skip
        exact absurd c_29_3 (by decide +kernel)
      · skip
        refine aw_aload_n (n := 33) dX3_watch_32 rfl 0 rfl rfl ?_
        refine aw_iload_n (n := 34) dX3_watch_33 rfl 1 rfl rfl ?_
        refine aw_iload_n (n := 35) dX3_watch_34 rfl 2 rfl rfl ?_
        refine aw_callV (n := 38) (C0 := RX3) (As := [.int (nI j), .int (nI i9)]) (rest := []) (K2 := kX3_watches) dX3_watch_35 q3100 q3102 qs99 q113 q3103 ⟨rfl, hcX3_watches⟩ rfl hT_3.1 (ct_watches G h_3 b (tS ms 0 (0 : Int32)) hb hT_3 j i9 (tp ms 3 j) (by omega) (by omega) (hI.T (k := 3) (by decide) (by decide) (by omega)) (by have := hI.T2 (k := 3) (j := j) (by decide) (by decide) (by omega); omega)) rfl (Nat.le_of_ble_eq_true rfl) ⟨Nat.le_of_ble_eq_true rfl, Nat.le_of_ble_eq_true rfl⟩ ⟨Nat.zero_le _, Nat.zero_le _⟩ (fun _ _ _ z => z.elim) rfl (fun r_35 h_35 q_35 => ?_)
        obtain ⟨rfl, rfl⟩ := q_35
        refine AW.sts (st' := [.int (bI (hd ms (tp ms 3 j) i9))]) rfl ?_
        refine aw_if_eq (n := 41) (tgt := 45) dX3_watch_38 (by decide) rfl (fun c_38 => ?_) (fun c_38 => ?_)
        · skip
          have b_38 : (hd ms (tp ms 3 j) i9) = false := (bI_0 _).mp c_38
          refine aw_iconst (n := 46) (v := 0) dX3_watch_45 (by decide) rfl ?_
          have e9 : opWatch ms (nI j) (nI i9) = (0, tS ms 0 (0 : Int32)) := by first | (simp [opWatch, bI, c_6, b_6, c_14, b_14, c_29_3, b_38, c_38, nN_nI (show j < 2 ^ 31 by omega), nN_nI (show i9 < 2 ^ 31 by omega), tS_tS]; done) | simp_all [opWatch, bI, nN_nI (show j < 2 ^ 31 by omega), nN_nI (show i9 < 2 ^ 31 by omega), tS_tS]
          exact aw_zret dX3_watch_46 rfl (by decide) ⟨by rw [e9], by rw [e9]; exact hT_3, hF_3, (by omega)⟩ ⟨Nat.zero_le _, Nat.zero_le _⟩
        · skip
          have b_38 : (hd ms (tp ms 3 j) i9) = true := Bool.of_not_eq_false (fun e => c_38 ((bI_0 _).mpr e))
          refine aw_iconst (n := 42) (v := 1) dX3_watch_41 (by decide) rfl ?_
          refine aw_goto (tgt := 46) dX3_watch_42 (by decide) ?_
          have e9 : opWatch ms (nI j) (nI i9) = (1, tS ms 0 (0 : Int32)) := by first | (simp [opWatch, bI, c_6, b_6, c_14, b_14, c_29_3, b_38, c_38, nN_nI (show j < 2 ^ 31 by omega), nN_nI (show i9 < 2 ^ 31 by omega), tS_tS]; done) | simp_all [opWatch, bI, nN_nI (show j < 2 ^ 31 by omega), nN_nI (show i9 < 2 ^ 31 by omega), tS_tS]
          exact aw_zret dX3_watch_46 rfl (by decide) ⟨by rw [e9], by rw [e9]; exact hT_3, hF_3, (by omega)⟩ ⟨Nat.zero_le _, Nat.zero_le _⟩

abbrev kX3_back : aK := (yX3_back, cX3_back, 2, (Option.some Jvm.ClassFile.FieldType.int), [])
theorem hcX3_back : kX3_back.1.cls ≠ "java/lang/invoke/MethodHandle" ∧ kX3_back.1.cls ≠ "java/lang/invoke/VarHandle" ∧ (parseMethodDescriptor kX3_back.1.desc).map (fun d => d.parameters.length) = some 1 := ⟨by decide, by decide, by decide +kernel⟩
theorem ct_back (G : aG) (h : hH) (b : Nat) (ms : tM) (hb : gB G ≤ b) (hT : TW b h ms) (hI : tOK ms) (v : Int32) : Con G kX3_back [.ref b, .int v] h ((2, 22, 0, 0), (fun r h1 => r = some (.int (opBack ms v).1) ∧ TW b h1 ((opBack ms v).2) ∧ Fr (TS b) h h1 ∧ h1.1 = h.1), nX) := by
  have := hI.L2; have := hI.S2; have := hI.M0; have := hI.M1; have := hI.M2; have := hI.M3; have := hI.P2; have := hI.K2; have := hI.KM2
  refine Con.of (plainFor_of_name rfl) rfl (Nat.le_of_ble_eq_true rfl) ?_
  refine AW.eq (lv2 := [(0, .ref b), (1, .int v)]) (s2 := []) rfl rfl rfl rfl rfl ?_
  refine aw_aload_n (n := 1) dX3_back_0 rfl 0 rfl rfl ?_
  refine aw_iconst (n := 2) (v := 0) dX3_back_1 (by decide) rfl ?_
  refine aw_tput (n := 5) (k := 0) dX3_back_2 q2641 (by decide) rfl rfl rfl rfl rfl hT hb rfl rfl (fun h_1 hT_1 hF_1 hz_1 => ?_)
  refine aw_iload_n (n := 6) dX3_back_5 rfl 1 rfl rfl ?_
  refine aw_iconst (n := 7) (v := 0) dX3_back_6 (by decide) rfl ?_
  refine aw_aload_n (n := 8) dX3_back_7 rfl 0 rfl rfl ?_
  refine aw_getf (n := 11) (v := .int (ms.1 29)) (C0 := RX3) (T := TX3) dX3_back_8 rfl 29 q2670 (Or.inl rfl) hT_1.1 rfl rfl ?_
  refine aw_callS (n := 14) (As := [.int v, .int 0, .int (ms.1 29)]) (rest := []) (K2 := kX3_isIn) dX3_back_11 q2781 q2782 q113 q2783 hcX3_isIn (ct_isIn G h_1 v (0 : Int32) (ms.1 29)) rfl (Nat.le_of_ble_eq_true rfl) ⟨Nat.le_of_ble_eq_true rfl, Nat.le_of_ble_eq_true rfl⟩ ⟨Nat.zero_le _, Nat.zero_le _⟩ (fun _ _ _ z => z.elim) rfl (fun r_11 h_11 q_11 => ?_)
  obtain ⟨rfl, rfl⟩ := q_11
  refine AW.sts (st' := [.int (bI (inS v (Sn ms + 1)))]) (by rw [inS, nI_pred, ← hI.S]; rfl) ?_
  refine aw_if_ne (n := 17) (tgt := 23) dX3_back_14 (by decide) rfl (fun c_14 => ?_) (fun c_14 => ?_)
  · skip
    have b_14 : (inS v (Sn ms + 1)) = true := Bool.of_not_eq_false (fun e => c_14 ((bI_0 _).mpr e))
    obtain ⟨j, hj, rfl⟩ := inS_of b_14 (by omega)
    refine aw_aload_n (n := 24) dX3_back_23 rfl 0 rfl rfl ?_
    refine aw_iload_n (n := 25) dX3_back_24 rfl 1 rfl rfl ?_
    refine aw_tput (n := 28) (k := 29) dX3_back_25 q2670 (by decide) rfl rfl rfl rfl rfl hT_1 hb rfl rfl (fun h_2 hT_2 hF_2 hz_2 => ?_)
    have hG_2 := Fr.trans hF_1 hF_2
    refine aw_iload_n (n := 29) dX3_back_28 rfl 1 rfl rfl ?_
    refine aw_if_ne (n := 32) (tgt := 36) dX3_back_29 (by decide) rfl (fun c_29 => ?_) (fun c_29 => ?_)
    · skip
      have n_29 : ¬ (j = 0) := fun z => c_29 (by have y := (nI_eq (a := j) (b := 0) (by omega) (by omega)).mpr z; rw [← ((by rfl) : (0 : Int32) = nI 0)] at y; exact y)
      refine aw_aload_n (n := 37) dX3_back_36 rfl 0 rfl rfl ?_
      refine aw_getf (n := 40) (v := .ref (b + 20)) (C0 := RX3) (T := TX3) dX3_back_37 rfl 30 q2671 (Or.inl rfl) hT_2.1 rfl rfl ?_
      refine aw_iload_n (n := 41) dX3_back_40 rfl 1 rfl rfl ?_
      refine aw_iconst (n := 42) (v := 1) dX3_back_41 (by decide) rfl ?_
      refine aw_isub (n := 43) dX3_back_42 rfl ?_
      refine aw_iald (n := 44) (v := .int (ms.2.1 30 (j - 1))) dX3_back_43 rfl (j - 1) (by exact (pk_sub (b := 1) (by omega))) hT_2.a30 (by omega) (by decide) rfl rfl ?_
      have e9 : opBack ms (nI j) = (ms.2.1 30 (j - 1), tS (tS ms 0 (0 : Int32)) 29 (nI j)) := by first | (simp [opBack, c_14, b_14, n_29, c_29, nN_nI (show j < 2 ^ 31 by omega), tS_tS]; done) | simp_all [opBack, nN_nI (show j < 2 ^ 31 by omega), tS_tS]
      exact aw_iret dX3_back_44 rfl ⟨by rw [e9], by rw [e9]; exact hT_2, hG_2, (by omega)⟩ ⟨Nat.zero_le _, Nat.zero_le _⟩
    · skip
      have n_29 : j = 0 := (nI_eq (a := j) (b := 0) (by omega) (by omega)).mp (by rw [← ((by rfl) : (0 : Int32) = nI 0)]; exact c_29)
      refine aw_iconst (n := 33) (v := 0) dX3_back_32 (by decide) rfl ?_
      refine aw_goto (tgt := 44) dX3_back_33 (by decide) ?_
      have e9 : opBack ms (nI j) = (0, tS (tS ms 0 (0 : Int32)) 29 (nI j)) := by first | (simp [opBack, c_14, b_14, c_29, nN_nI (show j < 2 ^ 31 by omega), tS_tS]; done) | simp_all [opBack, nN_nI (show j < 2 ^ 31 by omega), tS_tS]
      exact aw_iret dX3_back_44 rfl ⟨by rw [e9], by rw [e9]; exact hT_2, hG_2, (by omega)⟩ ⟨Nat.zero_le _, Nat.zero_le _⟩
  · skip
    have b_14 : (inS v (Sn ms + 1)) = false := (bI_0 _).mp c_14
    refine aw_aload_n (n := 18) dX3_back_17 rfl 0 rfl rfl ?_
    refine aw_iconst (n := 19) (v := 1) dX3_back_18 (by decide) rfl ?_
    refine aw_callV (n := 22) (C0 := RX3) (As := [.int 1]) (rest := []) (K2 := kX3_no) dX3_back_19 q2773 q2775 qs42 q113 q2776 ⟨rfl, hcX3_no⟩ rfl hT_1.1 (ct_no G h_1 b (tS ms 0 (0 : Int32)) hb hT_1 (1 : Int32)) rfl (Nat.le_of_ble_eq_true rfl) ⟨Nat.le_of_ble_eq_true rfl, Nat.le_of_ble_eq_true rfl⟩ ⟨Nat.zero_le _, Nat.zero_le _⟩ (fun _ _ _ z => z.elim) rfl (fun r_19 h_19 q_19 => ?_)
    obtain ⟨rfl, hT_19, hF_19, hz_19⟩ := q_19
    have hG_19 := Fr.trans hF_1 hF_19
    refine AW.sts (st' := [.int 0]) rfl ?_
    have e9 : opBack ms v = (0, tS (tS ms 0 (0 : Int32)) 0 (1 : Int32)) := by first | (simp [opBack, c_14, b_14, tS_tS]; done) | simp_all [opBack, tS_tS]
    exact aw_iret dX3_back_22 rfl ⟨by rw [e9], by rw [e9]; exact hT_19, hG_19, (by omega)⟩ ⟨Nat.zero_le _, Nat.zero_le _⟩

end
