/-! The twin: moveQuestion. -/
section
set_option maxRecDepth 100000
abbrev kX3_isPart : aK := (yX3_isPart, cX3_isPart, 2, (Option.some Jvm.ClassFile.FieldType.boolean), [])
theorem hcX3_isPart : kX3_isPart.1.cls ≠ "java/lang/invoke/MethodHandle" ∧ kX3_isPart.1.cls ≠ "java/lang/invoke/VarHandle" ∧ (parseMethodDescriptor kX3_isPart.1.desc).map (fun d => d.parameters.length) = some 2 := ⟨by decide, by decide, by decide +kernel⟩
theorem ct_isPart (G : aG) (h : hH) (x v : Int32) : Con G kX3_isPart [.int x, .int v] h ((1, 0, 0, 0), (fun r h1 => r = some (.int (bI (ptI x v))) ∧ h = h1), nX) := by
  refine Con.of (plainFor_of_name rfl) rfl (Nat.le_of_ble_eq_true rfl) ?_
  refine AW.eq (lv2 := [(0, .int x), (1, .int v)]) (s2 := []) rfl rfl rfl rfl rfl ?_
  refine aw_iload_n (n := 1) dX3_isPart_0 rfl 0 rfl rfl ?_
  refine aw_bipush (n := 3) (v := 20) dX3_isPart_1 (by decide) rfl ?_
  refine aw_icmp_eq (n := 6) (tgt := 12) dX3_isPart_3 (by decide) rfl (fun c_3 => ?_) (fun c_3 => ?_)
  · skip
    refine aw_iconst (n := 13) (v := 0) dX3_isPart_12 (by decide) rfl ?_
    exact aw_zret dX3_isPart_13 rfl (by decide) ⟨congrArg some (congrArg Value.int (by first | (simp [ptI, c_3]; done) | (simp_all [ptI, bI, Int32.not_lt, ← Int32.not_le]; done) | (simp_all [ptI, bI, ← Int32.not_lt]; done))), rfl⟩ ⟨Nat.zero_le _, Nat.zero_le _⟩
  · skip
    refine aw_iload_n (n := 7) dX3_isPart_6 rfl 0 rfl rfl ?_
    refine aw_bipush (n := 9) (v := 21) dX3_isPart_7 (by decide) rfl ?_
    refine aw_icmp_ne (n := 12) (tgt := 14) dX3_isPart_9 (by decide) rfl (fun c_9 => ?_) (fun c_9 => ?_)
    · skip
      refine aw_iload_n (n := 15) dX3_isPart_14 rfl 1 rfl rfl ?_
      refine aw_iconst (n := 16) (v := 3) dX3_isPart_15 (by decide) rfl ?_
      refine aw_icmp_lt (n := 19) (tgt := 25) dX3_isPart_16 (by decide) rfl (fun c_16 => ?_) (fun c_16 => ?_)
      · skip
        refine aw_iconst (n := 26) (v := 1) dX3_isPart_25 (by decide) rfl ?_
        refine aw_goto (tgt := 30) dX3_isPart_26 (by decide) ?_
        exact aw_zret dX3_isPart_30 rfl (by decide) ⟨congrArg some (congrArg Value.int (by first | (simp [ptI, c_3, c_9, c_16]; done) | (simp_all [ptI, bI, Int32.not_lt, ← Int32.not_le]; done) | (simp_all [ptI, bI, ← Int32.not_lt]; done))), rfl⟩ ⟨Nat.zero_le _, Nat.zero_le _⟩
      · skip
        refine aw_iload_n (n := 20) dX3_isPart_19 rfl 0 rfl rfl ?_
        refine aw_bipush (n := 22) (v := 33) dX3_isPart_20 (by decide) rfl ?_
        refine aw_icmp_ne (n := 25) (tgt := 29) dX3_isPart_22 (by decide) rfl (fun c_22 => ?_) (fun c_22 => ?_)
        · skip
          refine aw_iconst (n := 30) (v := 0) dX3_isPart_29 (by decide) rfl ?_
          exact aw_zret dX3_isPart_30 rfl (by decide) ⟨congrArg some (congrArg Value.int (by first | (simp [ptI, c_3, c_9, c_16, c_22]; done) | (simp_all [ptI, bI, Int32.not_lt, ← Int32.not_le]; done) | (simp_all [ptI, bI, ← Int32.not_lt]; done))), rfl⟩ ⟨Nat.zero_le _, Nat.zero_le _⟩
        · skip
          refine aw_iconst (n := 26) (v := 1) dX3_isPart_25 (by decide) rfl ?_
          refine aw_goto (tgt := 30) dX3_isPart_26 (by decide) ?_
          exact aw_zret dX3_isPart_30 rfl (by decide) ⟨congrArg some (congrArg Value.int (by first | (simp [ptI, c_3, c_9, c_16, c_22]; done) | (simp_all [ptI, bI, Int32.not_lt, ← Int32.not_le]; done) | (simp_all [ptI, bI, ← Int32.not_lt]; done))), rfl⟩ ⟨Nat.zero_le _, Nat.zero_le _⟩
    · skip
      refine aw_iconst (n := 13) (v := 0) dX3_isPart_12 (by decide) rfl ?_
      exact aw_zret dX3_isPart_13 rfl (by decide) ⟨congrArg some (congrArg Value.int (by first | (simp [ptI, c_3, c_9]; done) | (simp_all [ptI, bI, Int32.not_lt, ← Int32.not_le]; done) | (simp_all [ptI, bI, ← Int32.not_lt]; done))), rfl⟩ ⟨Nat.zero_le _, Nat.zero_le _⟩

abbrev kX3_moved : aK := (yX3_moved, cX3_moved, 4, (Option.some Jvm.ClassFile.FieldType.int), [])
theorem hcX3_moved : kX3_moved.1.cls ≠ "java/lang/invoke/MethodHandle" ∧ kX3_moved.1.cls ≠ "java/lang/invoke/VarHandle" ∧ (parseMethodDescriptor kX3_moved.1.desc).map (fun d => d.parameters.length) = some 4 := ⟨by decide, by decide, by decide +kernel⟩
theorem ct_moved (G : aG) (h : hH) (x y z : Int32) (q : Bool) : Con G kX3_moved [.int x, .int y, .int z, .int (bI q)] h ((1, 0, 0, 0), (fun r h1 => r = some (.int (mvI x y z q)) ∧ h = h1), nX) := by
  refine Con.of (plainFor_of_name rfl) rfl (Nat.le_of_ble_eq_true rfl) ?_
  refine AW.eq (lv2 := [(0, .int x), (1, .int y), (2, .int z), (3, .int (bI q))]) (s2 := []) rfl rfl rfl rfl rfl ?_
  refine aw_iload_n (n := 1) dX3_moved_0 rfl 3 rfl rfl ?_
  refine aw_if_eq (n := 4) (tgt := 15) dX3_moved_1 (by decide) rfl (fun c_1 => ?_) (fun c_1 => ?_)
  · skip
    have b_1 : q = false := (bI_0 _).mp c_1
    refine aw_iload_n (n := 16) dX3_moved_15 rfl 0 rfl rfl ?_
    exact aw_iret dX3_moved_16 rfl ⟨congrArg some (congrArg Value.int (by first | (simp [mvI, b_1, c_1]; done) | (simp_all [mvI, ← Int32.not_lt]; done) | (simp_all [mvI, bI, Int32.not_lt, ← Int32.not_le]; done))), rfl⟩ ⟨Nat.zero_le _, Nat.zero_le _⟩
  · skip
    have b_1 : q = true := Bool.of_not_eq_false (fun e => c_1 ((bI_0 _).mpr e))
    refine aw_iload_n (n := 5) dX3_moved_4 rfl 0 rfl rfl ?_
    refine aw_iload_n (n := 6) dX3_moved_5 rfl 1 rfl rfl ?_
    refine aw_icmp_lt (n := 9) (tgt := 15) dX3_moved_6 (by decide) rfl (fun c_6 => ?_) (fun c_6 => ?_)
    · skip
      refine aw_iload_n (n := 16) dX3_moved_15 rfl 0 rfl rfl ?_
      exact aw_iret dX3_moved_16 rfl ⟨congrArg some (congrArg Value.int (by first | (simp [mvI, b_1, c_1, c_6]; done) | (simp_all [mvI, ← Int32.not_lt]; done) | (simp_all [mvI, bI, Int32.not_lt, ← Int32.not_le]; done))), rfl⟩ ⟨Nat.zero_le _, Nat.zero_le _⟩
    · skip
      refine aw_iload_n (n := 10) dX3_moved_9 rfl 0 rfl rfl ?_
      refine aw_iload_n (n := 11) dX3_moved_10 rfl 2 rfl rfl ?_
      refine aw_isub (n := 12) dX3_moved_11 rfl ?_
      refine aw_goto (tgt := 16) dX3_moved_12 (by decide) ?_
      exact aw_iret dX3_moved_16 rfl ⟨congrArg some (congrArg Value.int (by first | (simp [mvI, b_1, c_1, c_6]; done) | (simp_all [mvI, ← Int32.not_lt]; done) | (simp_all [mvI, bI, Int32.not_lt, ← Int32.not_le]; done))), rfl⟩ ⟨Nat.zero_le _, Nat.zero_le _⟩

abbrev kX3_moveQuestion : aK := (yX3_moveQuestion, cX3_moveQuestion, 4, (Option.some Jvm.ClassFile.FieldType.int), [])
theorem hcX3_moveQuestion : kX3_moveQuestion.1.cls ≠ "java/lang/invoke/MethodHandle" ∧ kX3_moveQuestion.1.cls ≠ "java/lang/invoke/VarHandle" ∧ (parseMethodDescriptor kX3_moveQuestion.1.desc).map (fun d => d.parameters.length) = some 1 := ⟨by decide, by decide, by decide +kernel⟩
theorem ct_moveQuestion (G : aG) (h : hH) (b : Nat) (ms : tM) (hb : gB G ≤ b) (hT : TW b h ms) (P B NN : Nat) (hP : ms.1 27 = nI P) (hPB : P ≤ B) (hNN : ms.1 8 = nI NN) (hBN : B ≤ NN) (hN3 : NN ≤ 1203) : Con G kX3_moveQuestion [.ref b, .int (nI B)] h ((2, 23, 0, 0), (fun r h1 => r = some (.int (ms.1 17 - nI (B - P))) ∧ TW b h1 (tS (mqS ms B (B - P) (NN - B)) 8 (nI (NN - (B - P)))) ∧ Fr (TS b) h h1 ∧ h1.1 = h.1), nX) := by
  refine Con.of (plainFor_of_name rfl) rfl (Nat.le_of_ble_eq_true rfl) ?_
  refine AW.eq (lv2 := [(0, .ref b), (1, .int (nI B))]) (s2 := []) rfl rfl rfl rfl rfl ?_
  refine aw_iload_n (n := 1) dX3_moveQuestion_0 rfl 1 rfl rfl ?_
  refine aw_aload_n (n := 2) dX3_moveQuestion_1 rfl 0 rfl rfl ?_
  refine aw_getf (n := 5) (v := .int (nI P)) (C0 := RX3) (T := TX3) dX3_moveQuestion_2 rfl 27 q2668 (Or.inl rfl) hT.1 (congrArg some (congrArg Value.int hP)) rfl ?_
  refine aw_isub (n := 6) dX3_moveQuestion_5 rfl ?_
  refine AW.sts (st' := [.int (nI (B - P))]) (by rw [show (nI B) - (nI P) = nI (B - P) from (nI_sub2 hPB)]) ?_
  refine aw_istore_n (n := 7) (lv' := [(2, .int (nI (B - P))), (0, .ref b), (1, .int (nI B))]) dX3_moveQuestion_6 rfl (by decide) rfl rfl ?_
  refine aw_iload_n (n := 8) dX3_moveQuestion_7 rfl 2 rfl rfl ?_
  refine aw_istore_n (n := 9) (lv' := [(3, .int (nI B)), (2, .int (nI (B - P))), (0, .ref b), (1, .int (nI B))]) dX3_moveQuestion_8 rfl (by decide) rfl rfl ?_
  suffices L_9 : ∀ (m_ : Nat) (c : Nat) (hh : hH) (hc : B + c ≤ NN) (hTc : TW b hh (mqS ms B (B - P) c)) (hFc : Fr (TS b) h hh) (hzc : hh.1 = h.1), NN - (B + c) < m_ → AW G kX3_moveQuestion ((2, 23, 0, 0), (fun r h1 => r = some (.int (ms.1 17 - nI (B - P))) ∧ TW b h1 (tS (mqS ms B (B - P) (NN - B)) 8 (nI (NN - (B - P)))) ∧ Fr (TS b) h h1 ∧ h1.1 = h.1), nX) 9 [(3, .int (nI (B + c))), (2, .int (nI (B - P))), (1, .int (nI B)), (0, .ref b)] [] hh 0 0 from
    AW.lvs (lv' := [(3, .int (nI B)), (2, .int (nI (B - P))), (1, .int (nI B)), (0, .ref b)]) (AW.eq (lv2 := _) (rfl) rfl rfl rfl rfl (L_9 _ 0 h (by omega) hT Fr.rf (by omega) (Nat.lt_succ_self _))) (by simp)
  intro m_
  induction m_ with
  | zero => intro c hh hc hTc hFc hzc h_m; exact absurd h_m (Nat.not_lt_zero _)
  | succ m_ ih_9 =>
    intro c hh hc hTc hFc hzc h_m
    refine aw_iload_n (n := 10) dX3_moveQuestion_9 rfl 0 rfl rfl ?_
    refine aw_aload_n (n := 11) dX3_moveQuestion_10 rfl 3 rfl rfl ?_
    refine aw_getf (n := 14) (v := .int (nI NN)) (C0 := RX3) (T := TX3) dX3_moveQuestion_11 rfl 8 q2649 (Or.inl rfl) hTc.1 (congrArg some (congrArg Value.int (by rw [mqS_1]; exact hNN))) rfl ?_
    refine aw_icmp_ge (n := 17) (tgt := 166) dX3_moveQuestion_14 (by decide) rfl (fun c_14 => ?_) (fun c_14 => ?_)
    · skip
      have n_14 : NN ≤ (B + c) := (nI_leI (a := NN) (b := (B + c)) (by omega) (by omega)).mp (by exact c_14)
      have e9 : c = NN - B := by omega
      have eX : (mqS ms B (B - P) c) = mqS ms B (B - P) (NN - B) := by rw [e9]
      refine aw_aload_n (n := 167) dX3_moveQuestion_166 rfl 3 rfl rfl ?_
      refine aw_dup (n := 168) dX3_moveQuestion_167 rfl rfl ?_
      refine aw_getf (n := 171) (v := .int (nI NN)) (C0 := RX3) (T := TX3) dX3_moveQuestion_168 rfl 8 q2649 (Or.inl rfl) hTc.1 (congrArg some (congrArg Value.int (by rw [mqS_1]; exact hNN))) rfl ?_
      refine aw_iload_n (n := 172) dX3_moveQuestion_171 rfl 1 rfl rfl ?_
      refine aw_isub (n := 173) dX3_moveQuestion_172 rfl ?_
      refine AW.sts (st' := [.int (nI (NN - (B - P))), .ref b]) (by rw [show (nI NN) - (nI (B - P)) = nI (NN - (B - P)) from (nI_sub2 (by omega))]) ?_
      refine aw_tput (n := 176) (k := 8) dX3_moveQuestion_173 q2649 (by decide) rfl rfl rfl rfl rfl hTc hb rfl rfl (fun h_1 hT_1 hF_1 hz_1 => ?_)
      have hG_1 := Fr.trans hFc hF_1
      refine aw_aload_n (n := 177) dX3_moveQuestion_176 rfl 3 rfl rfl ?_
      refine aw_getf (n := 180) (v := .int ((mqS ms B (B - P) c).1 17)) (C0 := RX3) (T := TX3) dX3_moveQuestion_177 rfl 17 q2658 (Or.inl rfl) hT_1.1 rfl rfl ?_
      refine aw_iload_n (n := 181) dX3_moveQuestion_180 rfl 1 rfl rfl ?_
      refine aw_isub (n := 182) dX3_moveQuestion_181 rfl ?_
      exact aw_iret dX3_moveQuestion_182 rfl ⟨by rw [mqS_1] <;> rfl, by rw [← eX]; exact hT_1, hG_1, by omega⟩ ⟨Nat.zero_le _, Nat.zero_le _⟩
    · skip
      have n_14 : ¬ (NN ≤ (B + c)) := fun z => c_14 (by have y := (nI_leI (a := NN) (b := (B + c)) (by omega) (by omega)).mpr z; exact y)
      refine aw_aload_n (n := 18) dX3_moveQuestion_17 rfl 3 rfl rfl ?_
      refine aw_getf (n := 21) (v := .ref (b + 5)) (C0 := RX3) (T := TX3) dX3_moveQuestion_18 rfl 9 q2650 (Or.inl rfl) hTc.1 rfl rfl ?_
      refine aw_iload_n (n := 22) dX3_moveQuestion_21 rfl 0 rfl rfl ?_
      refine aw_iload_n (n := 23) dX3_moveQuestion_22 rfl 1 rfl rfl ?_
      refine aw_isub (n := 24) dX3_moveQuestion_23 rfl ?_
      refine aw_aload_n (n := 25) dX3_moveQuestion_24 rfl 3 rfl rfl ?_
      refine aw_getf (n := 28) (v := .ref (b + 5)) (C0 := RX3) (T := TX3) dX3_moveQuestion_25 rfl 9 q2650 (Or.inl rfl) hTc.1 rfl rfl ?_
      refine aw_iload_n (n := 29) dX3_moveQuestion_28 rfl 0 rfl rfl ?_
      refine aw_iald (n := 30) (v := .int ((mqS ms B (B - P) c).2.1 9 (B + c))) dX3_moveQuestion_29 rfl (B + c) rfl hTc.a9 (by omega) (by decide) rfl rfl ?_
      refine aw_tiast (n := 31) dX3_moveQuestion_30 TW.m9 hTc hb (B + c - (B - P)) (nI_sub2 (by omega)) (by omega) (by decide) rfl (fun h_2 hT_2 hF_2 hz_2 => ?_)
      have hG_2 := Fr.trans hFc hF_2
      refine aw_aload_n (n := 32) dX3_moveQuestion_31 rfl 3 rfl rfl ?_
      refine aw_getf (n := 35) (v := .ref (b + 6)) (C0 := RX3) (T := TX3) dX3_moveQuestion_32 rfl 10 q2651 (Or.inl rfl) hT_2.1 rfl rfl ?_
      refine aw_iload_n (n := 36) dX3_moveQuestion_35 rfl 0 rfl rfl ?_
      refine aw_iload_n (n := 37) dX3_moveQuestion_36 rfl 1 rfl rfl ?_
      refine aw_isub (n := 38) dX3_moveQuestion_37 rfl ?_
      refine aw_aload_n (n := 39) dX3_moveQuestion_38 rfl 3 rfl rfl ?_
      refine aw_getf (n := 42) (v := .ref (b + 6)) (C0 := RX3) (T := TX3) dX3_moveQuestion_39 rfl 10 q2651 (Or.inl rfl) hT_2.1 rfl rfl ?_
      refine aw_iload_n (n := 43) dX3_moveQuestion_42 rfl 0 rfl rfl ?_
      refine aw_iald (n := 44) (v := .int ((mqS ms B (B - P) c).2.1 10 (B + c))) dX3_moveQuestion_43 rfl (B + c) rfl hT_2.a10 (by omega) (by decide) rfl rfl ?_
      refine aw_iload_n (n := 45) dX3_moveQuestion_44 rfl 2 rfl rfl ?_
      refine aw_iload_n (n := 46) dX3_moveQuestion_45 rfl 1 rfl rfl ?_
      refine aw_aload_n (n := 47) dX3_moveQuestion_46 rfl 3 rfl rfl ?_
      refine aw_getf (n := 50) (v := .ref (b + 5)) (C0 := RX3) (T := TX3) dX3_moveQuestion_47 rfl 9 q2650 (Or.inl rfl) hT_2.1 rfl rfl ?_
      refine aw_iload_n (n := 51) dX3_moveQuestion_50 rfl 0 rfl rfl ?_
      refine aw_iald (n := 52) (v := .int ((tI (mqS ms B (B - P) c) 9 (B + c - (B - P)) ((mqS ms B (B - P) c).2.1 9 (B + c))).2.1 9 (B + c))) dX3_moveQuestion_51 rfl (B + c) rfl hT_2.a9 (by omega) (by decide) rfl rfl ?_
      refine aw_iconst (n := 53) (v := 1) dX3_moveQuestion_52 (by decide) rfl ?_
      refine aw_callS (n := 56) (As := [.int ((tI (mqS ms B (B - P) c) 9 (B + c - (B - P)) ((mqS ms B (B - P) c).2.1 9 (B + c))).2.1 9 (B + c)), .int 1]) (rest := [.int (nI (B - P)), .int (nI B), .int ((mqS ms B (B - P) c).2.1 10 (B + c)), .int ((nI (B + c)) - (nI (B - P))), .ref (b + 6)]) (K2 := kX3_isPart) dX3_moveQuestion_53 q3186 q3187 q113 q3188 hcX3_isPart (ct_isPart G h_2 ((tI (mqS ms B (B - P) c) 9 (B + c - (B - P)) ((mqS ms B (B - P) c).2.1 9 (B + c))).2.1 9 (B + c)) 1) rfl (Nat.le_of_ble_eq_true rfl) ⟨Nat.le_of_ble_eq_true rfl, Nat.le_of_ble_eq_true rfl⟩ ⟨Nat.zero_le _, Nat.zero_le _⟩ (fun _ _ _ z => z.elim) rfl (fun r_53 h_53 q_53 => ?_)
      obtain ⟨rfl, rfl⟩ := q_53
      refine AW.sts (st' := [.int (bI (ptI ((mqK (mqS ms B (B - P) c) (B + c - (B - P)) (B + c)).2.1 9 (B + c)) 1)), .int (nI (B - P)), .int (nI B), .int ((mqS ms B (B - P) c).2.1 10 (B + c)), .int ((nI (B + c)) - (nI (B - P))), .ref (b + 6)]) rfl ?_
      refine aw_callS (n := 59) (As := [.int ((mqS ms B (B - P) c).2.1 10 (B + c)), .int (nI B), .int (nI (B - P)), .int (bI (ptI ((mqK (mqS ms B (B - P) c) (B + c - (B - P)) (B + c)).2.1 9 (B + c)) 1))]) (rest := [.int ((nI (B + c)) - (nI (B - P))), .ref (b + 6)]) (K2 := kX3_moved) dX3_moveQuestion_56 q3189 q3190 q113 q3191 hcX3_moved (ct_moved G h_2 ((mqS ms B (B - P) c).2.1 10 (B + c)) (nI B) (nI (B - P)) (ptI ((mqK (mqS ms B (B - P) c) (B + c - (B - P)) (B + c)).2.1 9 (B + c)) 1)) rfl (Nat.le_of_ble_eq_true rfl) ⟨Nat.le_of_ble_eq_true rfl, Nat.le_of_ble_eq_true rfl⟩ ⟨Nat.zero_le _, Nat.zero_le _⟩ (fun _ _ _ z => z.elim) rfl (fun r_56 h_56 q_56 => ?_)
      obtain ⟨rfl, rfl⟩ := q_56
      refine AW.sts (st' := [.int (mvI ((mqS ms B (B - P) c).2.1 10 (B + c)) (nI B) (nI (B - P)) (ptI ((mqK (mqS ms B (B - P) c) (B + c - (B - P)) (B + c)).2.1 9 (B + c)) 1)), .int ((nI (B + c)) - (nI (B - P))), .ref (b + 6)]) rfl ?_
      refine aw_tiast (n := 60) dX3_moveQuestion_59 TW.m10 hT_2 hb (B + c - (B - P)) (nI_sub2 (by omega)) (by omega) (by decide) rfl (fun h_3 hT_3 hF_3 hz_3 => ?_)
      have hG_3 := Fr.trans hG_2 hF_3
      refine aw_aload_n (n := 61) dX3_moveQuestion_60 rfl 3 rfl rfl ?_
      refine aw_getf (n := 64) (v := .ref (b + 7)) (C0 := RX3) (T := TX3) dX3_moveQuestion_61 rfl 11 q2652 (Or.inl rfl) hT_3.1 rfl rfl ?_
      refine aw_iload_n (n := 65) dX3_moveQuestion_64 rfl 0 rfl rfl ?_
      refine aw_iload_n (n := 66) dX3_moveQuestion_65 rfl 1 rfl rfl ?_
      refine aw_isub (n := 67) dX3_moveQuestion_66 rfl ?_
      refine aw_aload_n (n := 68) dX3_moveQuestion_67 rfl 3 rfl rfl ?_
      refine aw_getf (n := 71) (v := .ref (b + 7)) (C0 := RX3) (T := TX3) dX3_moveQuestion_68 rfl 11 q2652 (Or.inl rfl) hT_3.1 rfl rfl ?_
      refine aw_iload_n (n := 72) dX3_moveQuestion_71 rfl 0 rfl rfl ?_
      refine aw_iald (n := 73) (v := .int ((mqS ms B (B - P) c).2.1 11 (B + c))) dX3_moveQuestion_72 rfl (B + c) rfl hT_3.a11 (by omega) (by decide) rfl rfl ?_
      refine aw_iload_n (n := 74) dX3_moveQuestion_73 rfl 2 rfl rfl ?_
      refine aw_iload_n (n := 75) dX3_moveQuestion_74 rfl 1 rfl rfl ?_
      refine aw_aload_n (n := 76) dX3_moveQuestion_75 rfl 3 rfl rfl ?_
      refine aw_getf (n := 79) (v := .ref (b + 5)) (C0 := RX3) (T := TX3) dX3_moveQuestion_76 rfl 9 q2650 (Or.inl rfl) hT_3.1 rfl rfl ?_
      refine aw_iload_n (n := 80) dX3_moveQuestion_79 rfl 0 rfl rfl ?_
      refine aw_iald (n := 81) (v := .int ((tI (tI (mqS ms B (B - P) c) 9 (B + c - (B - P)) ((mqS ms B (B - P) c).2.1 9 (B + c))) 10 (B + c - (B - P)) (mvI ((mqS ms B (B - P) c).2.1 10 (B + c)) (nI B) (nI (B - P)) (ptI ((mqK (mqS ms B (B - P) c) (B + c - (B - P)) (B + c)).2.1 9 (B + c)) 1))).2.1 9 (B + c))) dX3_moveQuestion_80 rfl (B + c) rfl hT_3.a9 (by omega) (by decide) rfl rfl ?_
      refine aw_iconst (n := 82) (v := 2) dX3_moveQuestion_81 (by decide) rfl ?_
      refine aw_callS (n := 85) (As := [.int ((tI (tI (mqS ms B (B - P) c) 9 (B + c - (B - P)) ((mqS ms B (B - P) c).2.1 9 (B + c))) 10 (B + c - (B - P)) (mvI ((mqS ms B (B - P) c).2.1 10 (B + c)) (nI B) (nI (B - P)) (ptI ((mqK (mqS ms B (B - P) c) (B + c - (B - P)) (B + c)).2.1 9 (B + c)) 1))).2.1 9 (B + c)), .int 2]) (rest := [.int (nI (B - P)), .int (nI B), .int ((mqS ms B (B - P) c).2.1 11 (B + c)), .int ((nI (B + c)) - (nI (B - P))), .ref (b + 7)]) (K2 := kX3_isPart) dX3_moveQuestion_82 q3186 q3187 q113 q3188 hcX3_isPart (ct_isPart G h_3 ((tI (tI (mqS ms B (B - P) c) 9 (B + c - (B - P)) ((mqS ms B (B - P) c).2.1 9 (B + c))) 10 (B + c - (B - P)) (mvI ((mqS ms B (B - P) c).2.1 10 (B + c)) (nI B) (nI (B - P)) (ptI ((mqK (mqS ms B (B - P) c) (B + c - (B - P)) (B + c)).2.1 9 (B + c)) 1))).2.1 9 (B + c)) 2) rfl (Nat.le_of_ble_eq_true rfl) ⟨Nat.le_of_ble_eq_true rfl, Nat.le_of_ble_eq_true rfl⟩ ⟨Nat.zero_le _, Nat.zero_le _⟩ (fun _ _ _ z => z.elim) rfl (fun r_82 h_82 q_82 => ?_)
      obtain ⟨rfl, rfl⟩ := q_82
      refine AW.sts (st' := [.int (bI (ptI ((mqK (mqS ms B (B - P) c) (B + c - (B - P)) (B + c)).2.1 9 (B + c)) 2)), .int (nI (B - P)), .int (nI B), .int ((mqS ms B (B - P) c).2.1 11 (B + c)), .int ((nI (B + c)) - (nI (B - P))), .ref (b + 7)]) rfl ?_
      refine aw_callS (n := 88) (As := [.int ((mqS ms B (B - P) c).2.1 11 (B + c)), .int (nI B), .int (nI (B - P)), .int (bI (ptI ((mqK (mqS ms B (B - P) c) (B + c - (B - P)) (B + c)).2.1 9 (B + c)) 2))]) (rest := [.int ((nI (B + c)) - (nI (B - P))), .ref (b + 7)]) (K2 := kX3_moved) dX3_moveQuestion_85 q3189 q3190 q113 q3191 hcX3_moved (ct_moved G h_3 ((mqS ms B (B - P) c).2.1 11 (B + c)) (nI B) (nI (B - P)) (ptI ((mqK (mqS ms B (B - P) c) (B + c - (B - P)) (B + c)).2.1 9 (B + c)) 2)) rfl (Nat.le_of_ble_eq_true rfl) ⟨Nat.le_of_ble_eq_true rfl, Nat.le_of_ble_eq_true rfl⟩ ⟨Nat.zero_le _, Nat.zero_le _⟩ (fun _ _ _ z => z.elim) rfl (fun r_85 h_85 q_85 => ?_)
      obtain ⟨rfl, rfl⟩ := q_85
      refine AW.sts (st' := [.int (mvI ((mqS ms B (B - P) c).2.1 11 (B + c)) (nI B) (nI (B - P)) (ptI ((mqK (mqS ms B (B - P) c) (B + c - (B - P)) (B + c)).2.1 9 (B + c)) 2)), .int ((nI (B + c)) - (nI (B - P))), .ref (b + 7)]) rfl ?_
      refine aw_tiast (n := 89) dX3_moveQuestion_88 TW.m11 hT_3 hb (B + c - (B - P)) (nI_sub2 (by omega)) (by omega) (by decide) rfl (fun h_4 hT_4 hF_4 hz_4 => ?_)
      have hG_4 := Fr.trans hG_3 hF_4
      refine aw_aload_n (n := 90) dX3_moveQuestion_89 rfl 3 rfl rfl ?_
      refine aw_getf (n := 93) (v := .ref (b + 8)) (C0 := RX3) (T := TX3) dX3_moveQuestion_90 rfl 12 q2653 (Or.inl rfl) hT_4.1 rfl rfl ?_
      refine aw_iload_n (n := 94) dX3_moveQuestion_93 rfl 0 rfl rfl ?_
      refine aw_iload_n (n := 95) dX3_moveQuestion_94 rfl 1 rfl rfl ?_
      refine aw_isub (n := 96) dX3_moveQuestion_95 rfl ?_
      refine aw_aload_n (n := 97) dX3_moveQuestion_96 rfl 3 rfl rfl ?_
      refine aw_getf (n := 100) (v := .ref (b + 8)) (C0 := RX3) (T := TX3) dX3_moveQuestion_97 rfl 12 q2653 (Or.inl rfl) hT_4.1 rfl rfl ?_
      refine aw_iload_n (n := 101) dX3_moveQuestion_100 rfl 0 rfl rfl ?_
      refine aw_iald (n := 102) (v := .int ((mqS ms B (B - P) c).2.1 12 (B + c))) dX3_moveQuestion_101 rfl (B + c) rfl hT_4.a12 (by omega) (by decide) rfl rfl ?_
      refine aw_iload_n (n := 103) dX3_moveQuestion_102 rfl 2 rfl rfl ?_
      refine aw_iload_n (n := 104) dX3_moveQuestion_103 rfl 1 rfl rfl ?_
      refine aw_aload_n (n := 105) dX3_moveQuestion_104 rfl 3 rfl rfl ?_
      refine aw_getf (n := 108) (v := .ref (b + 5)) (C0 := RX3) (T := TX3) dX3_moveQuestion_105 rfl 9 q2650 (Or.inl rfl) hT_4.1 rfl rfl ?_
      refine aw_iload_n (n := 109) dX3_moveQuestion_108 rfl 0 rfl rfl ?_
      refine aw_iald (n := 110) (v := .int ((tI (tI (tI (mqS ms B (B - P) c) 9 (B + c - (B - P)) ((mqS ms B (B - P) c).2.1 9 (B + c))) 10 (B + c - (B - P)) (mvI ((mqS ms B (B - P) c).2.1 10 (B + c)) (nI B) (nI (B - P)) (ptI ((mqK (mqS ms B (B - P) c) (B + c - (B - P)) (B + c)).2.1 9 (B + c)) 1))) 11 (B + c - (B - P)) (mvI ((mqS ms B (B - P) c).2.1 11 (B + c)) (nI B) (nI (B - P)) (ptI ((mqK (mqS ms B (B - P) c) (B + c - (B - P)) (B + c)).2.1 9 (B + c)) 2))).2.1 9 (B + c))) dX3_moveQuestion_109 rfl (B + c) rfl hT_4.a9 (by omega) (by decide) rfl rfl ?_
      refine aw_iconst (n := 111) (v := 3) dX3_moveQuestion_110 (by decide) rfl ?_
      refine aw_callS (n := 114) (As := [.int ((tI (tI (tI (mqS ms B (B - P) c) 9 (B + c - (B - P)) ((mqS ms B (B - P) c).2.1 9 (B + c))) 10 (B + c - (B - P)) (mvI ((mqS ms B (B - P) c).2.1 10 (B + c)) (nI B) (nI (B - P)) (ptI ((mqK (mqS ms B (B - P) c) (B + c - (B - P)) (B + c)).2.1 9 (B + c)) 1))) 11 (B + c - (B - P)) (mvI ((mqS ms B (B - P) c).2.1 11 (B + c)) (nI B) (nI (B - P)) (ptI ((mqK (mqS ms B (B - P) c) (B + c - (B - P)) (B + c)).2.1 9 (B + c)) 2))).2.1 9 (B + c)), .int 3]) (rest := [.int (nI (B - P)), .int (nI B), .int ((mqS ms B (B - P) c).2.1 12 (B + c)), .int ((nI (B + c)) - (nI (B - P))), .ref (b + 8)]) (K2 := kX3_isPart) dX3_moveQuestion_111 q3186 q3187 q113 q3188 hcX3_isPart (ct_isPart G h_4 ((tI (tI (tI (mqS ms B (B - P) c) 9 (B + c - (B - P)) ((mqS ms B (B - P) c).2.1 9 (B + c))) 10 (B + c - (B - P)) (mvI ((mqS ms B (B - P) c).2.1 10 (B + c)) (nI B) (nI (B - P)) (ptI ((mqK (mqS ms B (B - P) c) (B + c - (B - P)) (B + c)).2.1 9 (B + c)) 1))) 11 (B + c - (B - P)) (mvI ((mqS ms B (B - P) c).2.1 11 (B + c)) (nI B) (nI (B - P)) (ptI ((mqK (mqS ms B (B - P) c) (B + c - (B - P)) (B + c)).2.1 9 (B + c)) 2))).2.1 9 (B + c)) 3) rfl (Nat.le_of_ble_eq_true rfl) ⟨Nat.le_of_ble_eq_true rfl, Nat.le_of_ble_eq_true rfl⟩ ⟨Nat.zero_le _, Nat.zero_le _⟩ (fun _ _ _ z => z.elim) rfl (fun r_111 h_111 q_111 => ?_)
      obtain ⟨rfl, rfl⟩ := q_111
      refine AW.sts (st' := [.int (bI (ptI ((mqK (mqS ms B (B - P) c) (B + c - (B - P)) (B + c)).2.1 9 (B + c)) 3)), .int (nI (B - P)), .int (nI B), .int ((mqS ms B (B - P) c).2.1 12 (B + c)), .int ((nI (B + c)) - (nI (B - P))), .ref (b + 8)]) rfl ?_
      refine aw_callS (n := 117) (As := [.int ((mqS ms B (B - P) c).2.1 12 (B + c)), .int (nI B), .int (nI (B - P)), .int (bI (ptI ((mqK (mqS ms B (B - P) c) (B + c - (B - P)) (B + c)).2.1 9 (B + c)) 3))]) (rest := [.int ((nI (B + c)) - (nI (B - P))), .ref (b + 8)]) (K2 := kX3_moved) dX3_moveQuestion_114 q3189 q3190 q113 q3191 hcX3_moved (ct_moved G h_4 ((mqS ms B (B - P) c).2.1 12 (B + c)) (nI B) (nI (B - P)) (ptI ((mqK (mqS ms B (B - P) c) (B + c - (B - P)) (B + c)).2.1 9 (B + c)) 3)) rfl (Nat.le_of_ble_eq_true rfl) ⟨Nat.le_of_ble_eq_true rfl, Nat.le_of_ble_eq_true rfl⟩ ⟨Nat.zero_le _, Nat.zero_le _⟩ (fun _ _ _ z => z.elim) rfl (fun r_114 h_114 q_114 => ?_)
      obtain ⟨rfl, rfl⟩ := q_114
      refine AW.sts (st' := [.int (mvI ((mqS ms B (B - P) c).2.1 12 (B + c)) (nI B) (nI (B - P)) (ptI ((mqK (mqS ms B (B - P) c) (B + c - (B - P)) (B + c)).2.1 9 (B + c)) 3)), .int ((nI (B + c)) - (nI (B - P))), .ref (b + 8)]) rfl ?_
      refine aw_tiast (n := 118) dX3_moveQuestion_117 TW.m12 hT_4 hb (B + c - (B - P)) (nI_sub2 (by omega)) (by omega) (by decide) rfl (fun h_5 hT_5 hF_5 hz_5 => ?_)
      have hG_5 := Fr.trans hG_4 hF_5
      refine aw_aload_n (n := 119) dX3_moveQuestion_118 rfl 3 rfl rfl ?_
      refine aw_getf (n := 122) (v := .ref (b + 9)) (C0 := RX3) (T := TX3) dX3_moveQuestion_119 rfl 13 q2654 (Or.inl rfl) hT_5.1 rfl rfl ?_
      refine aw_iload_n (n := 123) dX3_moveQuestion_122 rfl 0 rfl rfl ?_
      refine aw_iload_n (n := 124) dX3_moveQuestion_123 rfl 1 rfl rfl ?_
      refine aw_isub (n := 125) dX3_moveQuestion_124 rfl ?_
      refine aw_aload_n (n := 126) dX3_moveQuestion_125 rfl 3 rfl rfl ?_
      refine aw_getf (n := 129) (v := .ref (b + 9)) (C0 := RX3) (T := TX3) dX3_moveQuestion_126 rfl 13 q2654 (Or.inl rfl) hT_5.1 rfl rfl ?_
      refine aw_iload_n (n := 130) dX3_moveQuestion_129 rfl 0 rfl rfl ?_
      refine aw_iald (n := 131) (v := .int ((mqS ms B (B - P) c).2.1 13 (B + c))) dX3_moveQuestion_130 rfl (B + c) rfl hT_5.a13 (by omega) (by decide) rfl rfl ?_
      refine aw_tiast (n := 132) dX3_moveQuestion_131 TW.m13 hT_5 hb (B + c - (B - P)) (nI_sub2 (by omega)) (by omega) (by decide) rfl (fun h_6 hT_6 hF_6 hz_6 => ?_)
      have hG_6 := Fr.trans hG_5 hF_6
      refine aw_aload_n (n := 133) dX3_moveQuestion_132 rfl 3 rfl rfl ?_
      refine aw_getf (n := 136) (v := .ref (b + 10)) (C0 := RX3) (T := TX3) dX3_moveQuestion_133 rfl 14 q2655 (Or.inl rfl) hT_6.1 rfl rfl ?_
      refine aw_iload_n (n := 137) dX3_moveQuestion_136 rfl 0 rfl rfl ?_
      refine aw_iload_n (n := 138) dX3_moveQuestion_137 rfl 1 rfl rfl ?_
      refine aw_isub (n := 139) dX3_moveQuestion_138 rfl ?_
      refine aw_aload_n (n := 140) dX3_moveQuestion_139 rfl 3 rfl rfl ?_
      refine aw_getf (n := 143) (v := .ref (b + 10)) (C0 := RX3) (T := TX3) dX3_moveQuestion_140 rfl 14 q2655 (Or.inl rfl) hT_6.1 rfl rfl ?_
      refine aw_iload_n (n := 144) dX3_moveQuestion_143 rfl 0 rfl rfl ?_
      refine aw_iald (n := 145) (v := .int ((mqS ms B (B - P) c).2.1 14 (B + c))) dX3_moveQuestion_144 rfl (B + c) rfl hT_6.a14 (by omega) (by decide) rfl rfl ?_
      refine aw_tiast (n := 146) dX3_moveQuestion_145 TW.m14 hT_6 hb (B + c - (B - P)) (nI_sub2 (by omega)) (by omega) (by decide) rfl (fun h_7 hT_7 hF_7 hz_7 => ?_)
      have hG_7 := Fr.trans hG_6 hF_7
      refine aw_aload_n (n := 147) dX3_moveQuestion_146 rfl 3 rfl rfl ?_
      refine aw_getf (n := 150) (v := .ref (b + 11)) (C0 := RX3) (T := TX3) dX3_moveQuestion_147 rfl 15 q2656 (Or.inl rfl) hT_7.1 rfl rfl ?_
      refine aw_iload_n (n := 151) dX3_moveQuestion_150 rfl 0 rfl rfl ?_
      refine aw_iload_n (n := 152) dX3_moveQuestion_151 rfl 1 rfl rfl ?_
      refine aw_isub (n := 153) dX3_moveQuestion_152 rfl ?_
      refine aw_aload_n (n := 154) dX3_moveQuestion_153 rfl 3 rfl rfl ?_
      refine aw_getf (n := 157) (v := .ref (b + 11)) (C0 := RX3) (T := TX3) dX3_moveQuestion_154 rfl 15 q2656 (Or.inl rfl) hT_7.1 rfl rfl ?_
      refine aw_iload_n (n := 158) dX3_moveQuestion_157 rfl 0 rfl rfl ?_
      refine aw_iald (n := 159) (v := .int ((mqS ms B (B - P) c).2.1 15 (B + c))) dX3_moveQuestion_158 rfl (B + c) rfl hT_7.a15 (by omega) (by decide) rfl rfl ?_
      refine aw_tiast (n := 160) dX3_moveQuestion_159 TW.m15 hT_7 hb (B + c - (B - P)) (nI_sub2 (by omega)) (by omega) (by decide) rfl (fun h_8 hT_8 hF_8 hz_8 => ?_)
      have hG_8 := Fr.trans hG_7 hF_8
      refine aw_iinc (n := 163) (v := nI ((B + c) + 1)) (lv' := [(3, .int (nI ((B + c) + 1))), (2, .int (nI (B - P))), (1, .int (nI B)), (0, .ref b)]) dX3_moveQuestion_160 0 rfl (by rw [show nI (B + c) = nI (B + c) from rfl]; exact nI_1 _) (by decide) rfl rfl ?_
      refine aw_goto (tgt := 9) dX3_moveQuestion_163 (by decide) ?_
      exact AW.lvs (lv' := [(3, .int (nI ((B + c) + 1))), (2, .int (nI (B - P))), (1, .int (nI B)), (0, .ref b)]) (AW.eq (lv2 := _) (rfl) rfl rfl rfl rfl (ih_9 (c + 1) h_8 (by omega) hT_8 hG_8 (by omega) (by omega))) (by simp)

end
