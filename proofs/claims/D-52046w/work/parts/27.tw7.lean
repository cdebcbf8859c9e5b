/-! The twin: differ, alarms, digest. -/
section
set_option maxRecDepth 100000
theorem bI_inj {x y : Bool} (h : bI x = bI y) : x = y := by
  cases x <;> cases y <;> simp_all [bI]
abbrev kX3_differ : aK := (yX3_differ, cX3_differ, 4, (Option.some Jvm.ClassFile.FieldType.int), [])
theorem hcX3_differ : kX3_differ.1.cls ≠ "java/lang/invoke/MethodHandle" ∧ kX3_differ.1.cls ≠ "java/lang/invoke/VarHandle" ∧ (parseMethodDescriptor kX3_differ.1.desc).map (fun d => d.parameters.length) = some 2 := ⟨by decide, by decide, by decide +kernel⟩
theorem ct_differ (G : aG) (h : hH) (b : Nat) (ms : tM) (hb : gB G ≤ b) (hT : TW b h ms) (hI : tOK ms) (v w : Int32) : Con G kX3_differ [.ref b, .int v, .int w] h ((4, 66, 0, 0), (fun r h1 => r = some (.int (opDiffer ms v w).1) ∧ TW b h1 ((opDiffer ms v w).2) ∧ Fr (TS b) h h1 ∧ h1.1 = h.1), nX) := by
  have := hI.L2; have := hI.S2; have := hI.M0; have := hI.M1; have := hI.M2; have := hI.M3; have := hI.P2; have := hI.K2; have := hI.KM2
  refine Con.of (plainFor_of_name rfl) rfl (Nat.le_of_ble_eq_true rfl) ?_
  refine AW.eq (lv2 := [(0, .ref b), (1, .int v), (2, .int w)]) (s2 := []) rfl rfl rfl rfl rfl ?_
  refine aw_aload_n (n := 1) dX3_differ_0 rfl 0 rfl rfl ?_
  refine aw_iconst (n := 2) (v := 0) dX3_differ_1 (by decide) rfl ?_
  refine aw_tput (n := 5) (k := 0) dX3_differ_2 q2641 (by decide) rfl rfl rfl rfl rfl hT hb rfl rfl (fun h_1 hT_1 hF_1 hz_1 => ?_)
  refine aw_aload_n (n := 6) dX3_differ_5 rfl 0 rfl rfl ?_
  refine aw_iload_n (n := 7) dX3_differ_6 rfl 1 rfl rfl ?_
  refine aw_callV (n := 10) (C0 := RX3) (As := [.int v]) (rest := []) (K2 := kX3_isWatch) dX3_differ_7 q3146 q3148 qs101 q113 q3149 ⟨rfl, hcX3_isWatch⟩ rfl hT_1.1 (ct_isWatch G h_1 b (tS ms 0 (0 : Int32)) hb hT_1 (tOK.thrown hI _) v) rfl (Nat.le_of_ble_eq_true rfl) ⟨Nat.le_of_ble_eq_true rfl, Nat.le_of_ble_eq_true rfl⟩ ⟨Nat.zero_le _, Nat.zero_le _⟩ (fun _ _ _ z => z.elim) rfl (fun r_7 h_7 q_7 => ?_)
  obtain ⟨rfl, rfl⟩ := q_7
  refine AW.sts (st' := [.int (bI (inS v (Mn ms 3)))]) rfl ?_
  refine aw_if_eq (n := 13) (tgt := 21) dX3_differ_10 (by decide) rfl (fun c_10 => ?_) (fun c_10 => ?_)
  · skip
    have b_10 : (inS v (Mn ms 3)) = false := (bI_0 _).mp c_10
    refine aw_aload_n (n := 22) dX3_differ_21 rfl 0 rfl rfl ?_
    refine aw_iconst (n := 23) (v := 1) dX3_differ_22 (by decide) rfl ?_
    refine aw_callV (n := 26) (C0 := RX3) (As := [.int 1]) (rest := []) (K2 := kX3_no) dX3_differ_23 q2773 q2775 qs42 q113 q2776 ⟨rfl, hcX3_no⟩ rfl hT_1.1 (ct_no G h_1 b (tS ms 0 (0 : Int32)) hb hT_1 (1 : Int32)) rfl (Nat.le_of_ble_eq_true rfl) ⟨Nat.le_of_ble_eq_true rfl, Nat.le_of_ble_eq_true rfl⟩ ⟨Nat.zero_le _, Nat.zero_le _⟩ (fun _ _ _ z => z.elim) rfl (fun r_23 h_23 q_23 => ?_)
    obtain ⟨rfl, hT_23, hF_23, hz_23⟩ := q_23
    have hG_23 := Fr.trans hF_1 hF_23
    refine AW.sts (st' := [.int 0]) rfl ?_
    have e9 : opDiffer ms v w = (0, tS (tS ms 0 (0 : Int32)) 0 (1 : Int32)) := by simp [opDiffer, c_10, b_10, tS_tS]
    exact aw_iret dX3_differ_26 rfl ⟨by rw [e9], by rw [e9]; exact hT_23, hG_23, (by omega)⟩ ⟨Nat.zero_le _, Nat.zero_le _⟩
  · skip
    have b_10 : (inS v (Mn ms 3)) = true := Bool.of_not_eq_false (fun e => c_10 ((bI_0 _).mpr e))
    obtain ⟨j, hj, rfl⟩ := inS_of b_10 (by omega)
    refine aw_aload_n (n := 14) dX3_differ_13 rfl 0 rfl rfl ?_
    refine aw_iload_n (n := 15) dX3_differ_14 rfl 2 rfl rfl ?_
    refine aw_callV (n := 18) (C0 := RX3) (As := [.int w]) (rest := []) (K2 := kX3_isWatch) dX3_differ_15 q3146 q3148 qs101 q113 q3149 ⟨rfl, hcX3_isWatch⟩ rfl hT_1.1 (ct_isWatch G h_1 b (tS ms 0 (0 : Int32)) hb hT_1 (tOK.thrown hI _) w) rfl (Nat.le_of_ble_eq_true rfl) ⟨Nat.le_of_ble_eq_true rfl, Nat.le_of_ble_eq_true rfl⟩ ⟨Nat.zero_le _, Nat.zero_le _⟩ (fun _ _ _ z => z.elim) rfl (fun r_15 h_15 q_15 => ?_)
    obtain ⟨rfl, rfl⟩ := q_15
    refine AW.sts (st' := [.int (bI (inS w (Mn ms 3)))]) rfl ?_
    refine aw_if_ne (n := 21) (tgt := 27) dX3_differ_18 (by decide) rfl (fun c_18 => ?_) (fun c_18 => ?_)
    · skip
      have b_18 : (inS w (Mn ms 3)) = true := Bool.of_not_eq_false (fun e => c_18 ((bI_0 _).mpr e))
      obtain ⟨j2, hj2, rfl⟩ := inS_of b_18 (by omega)
      refine aw_iconst (n := 28) (v := 0) dX3_differ_27 (by decide) rfl ?_
      refine aw_istore_n (n := 29) (lv' := [(3, .int 0), (0, .ref b), (1, .int (nI j)), (2, .int (nI j2))]) dX3_differ_28 rfl (by decide) rfl rfl ?_
      suffices L_29 : ∀ (m_ : Nat) (c : Nat) (hc : c ≤ Sn ms) (hv : dfT (hd ms (tp ms 3 j)) (hd ms (tp ms 3 j2)) (Sn ms) (Sn ms) = dfT (hd ms (tp ms 3 j)) (hd ms (tp ms 3 j2)) (Sn ms) (Sn ms - c)), Sn ms - c < m_ → AW G kX3_differ ((4, 66, 0, 0), (fun r h1 => r = some (.int (opDiffer ms (nI j) (nI j2)).1) ∧ TW b h1 ((opDiffer ms (nI j) (nI j2)).2) ∧ Fr (TS b) h h1 ∧ h1.1 = h.1), nX) 29 [(3, .int (nI c)), (0, .ref b), (1, .int (nI j)), (2, .int (nI j2))] [] h_1 0 0 from
        AW.lvs (lv' := [(3, .int 0), (0, .ref b), (1, .int (nI j)), (2, .int (nI j2))]) (AW.eq (lv2 := _) (rfl) rfl rfl rfl rfl (L_29 _ 0 (by omega) (by rw [Nat.sub_zero]) (Nat.lt_succ_self _))) (by simp)
      intro m_
      induction m_ with
      | zero => intro c hc hv h_m; exact absurd h_m (Nat.not_lt_zero _)
      | succ m_ ih_29 =>
        intro c hc hv h_m
        refine aw_iload_n (n := 30) dX3_differ_29 rfl 0 rfl rfl ?_
        refine aw_aload_n (n := 31) dX3_differ_30 rfl 1 rfl rfl ?_
        refine aw_getf (n := 34) (v := .int (nI (Sn ms))) (C0 := RX3) (T := TX3) dX3_differ_31 rfl 29 q2670 (Or.inl rfl) hT_1.1 (congrArg some (congrArg Value.int hI.S)) rfl ?_
        refine aw_icmp_ge (n := 37) (tgt := 60) dX3_differ_34 (by decide) rfl (fun c_34 => ?_) (fun c_34 => ?_)
        · skip
          have n_34 : (Sn ms) ≤ c := (nI_leI (a := (Sn ms)) (b := c) (by omega) (by omega)).mp (by exact c_34)
          refine aw_iconst (n := 61) (v := (-1)) dX3_differ_60 (by decide) rfl ?_
          have e8 : dfT (hd ms (tp ms 3 j)) (hd ms (tp ms 3 j2)) (Sn ms) (Sn ms - c) = (-1) := by rw [show Sn ms - c = 0 by omega]; rfl
          have e9 : opDiffer ms (nI j) (nI j2) = ((-1), tS ms 0 (0 : Int32)) := by simp [opDiffer, b_10, b_18, nN_nI (show j < 2 ^ 31 by omega), nN_nI (show j2 < 2 ^ 31 by omega), hv, e8]
          exact aw_iret dX3_differ_61 rfl ⟨by rw [e9], by rw [e9]; exact hT_1, hF_1, (by omega)⟩ ⟨Nat.zero_le _, Nat.zero_le _⟩
        · skip
          have n_34 : ¬ ((Sn ms) ≤ c) := fun z => c_34 (by have y := (nI_leI (a := (Sn ms)) (b := c) (by omega) (by omega)).mpr z; exact y)
          refine aw_aload_n (n := 38) dX3_differ_37 rfl 1 rfl rfl ?_
          refine aw_iload_n (n := 39) dX3_differ_38 rfl 2 rfl rfl ?_
          refine aw_iload_n (n := 40) dX3_differ_39 rfl 0 rfl rfl ?_
          refine aw_callV (n := 43) (C0 := RX3) (As := [.int (nI j), .int (nI c)]) (rest := []) (K2 := kX3_watches) dX3_differ_40 q3100 q3102 qs99 q113 q3103 ⟨rfl, hcX3_watches⟩ rfl hT_1.1 (ct_watches G h_1 b (tS ms 0 (0 : Int32)) hb hT_1 j c (tp ms 3 j) (by omega) (by omega) (hI.T (k := 3) (by decide) (by decide) (by omega)) (by have := hI.T2 (k := 3) (j := j) (by decide) (by decide) (by omega); omega)) rfl (Nat.le_of_ble_eq_true rfl) ⟨Nat.le_of_ble_eq_true rfl, Nat.le_of_ble_eq_true rfl⟩ ⟨Nat.zero_le _, Nat.zero_le _⟩ (fun _ _ _ z => z.elim) rfl (fun r_40 h_40 q_40 => ?_)
          obtain ⟨rfl, rfl⟩ := q_40
          refine AW.sts (st' := [.int (bI (hd ms (tp ms 3 j) c))]) rfl ?_
          refine aw_aload_n (n := 44) dX3_differ_43 rfl 1 rfl rfl ?_
          refine aw_iload_n (n := 45) dX3_differ_44 rfl 3 rfl rfl ?_
          refine aw_iload_n (n := 46) dX3_differ_45 rfl 0 rfl rfl ?_
          refine aw_callV (n := 49) (C0 := RX3) (As := [.int (nI j2), .int (nI c)]) (rest := [.int (bI (hd ms (tp ms 3 j) c))]) (K2 := kX3_watches) dX3_differ_46 q3100 q3102 qs99 q113 q3103 ⟨rfl, hcX3_watches⟩ rfl hT_1.1 (ct_watches G h_1 b (tS ms 0 (0 : Int32)) hb hT_1 j2 c (tp ms 3 j2) (by omega) (by omega) (hI.T (k := 3) (by decide) (by decide) (by omega)) (by have := hI.T2 (k := 3) (j := j2) (by decide) (by decide) (by omega); omega)) rfl (Nat.le_of_ble_eq_true rfl) ⟨Nat.le_of_ble_eq_true rfl, Nat.le_of_ble_eq_true rfl⟩ ⟨Nat.zero_le _, Nat.zero_le _⟩ (fun _ _ _ z => z.elim) rfl (fun r_46 h_46 q_46 => ?_)
          obtain ⟨rfl, rfl⟩ := q_46
          refine AW.sts (st' := [.int (bI (hd ms (tp ms 3 j2) c)), .int (bI (hd ms (tp ms 3 j) c))]) rfl ?_
          refine aw_icmp_eq (n := 52) (tgt := 54) dX3_differ_49 (by decide) rfl (fun c_49 => ?_) (fun c_49 => ?_)
          · skip
            have d_49 : (hd ms (tp ms 3 j)) c = (hd ms (tp ms 3 j2)) c := bI_inj c_49
            refine aw_iinc (n := 57) (v := nI (c + 1)) (lv' := [(3, .int (nI (c + 1))), (0, .ref b), (1, .int (nI j)), (2, .int (nI j2))]) dX3_differ_54 0 rfl (by rw [show nI c = nI c from rfl]; exact nI_1 _) (by decide) rfl rfl ?_
            refine aw_goto (tgt := 29) dX3_differ_57 (by decide) ?_
            exact AW.lvs (lv' := [(3, .int (nI (c + 1))), (0, .ref b), (1, .int (nI j)), (2, .int (nI j2))]) (AW.eq (lv2 := _) (rfl) rfl rfl rfl rfl (ih_29 (c + 1) (by omega) (by rw [hv, show Sn ms - c = (Sn ms - (c + 1)) + 1 by omega, dfT, show Sn ms - (Sn ms - (c + 1) + 1) = c by omega, if_pos d_49]) (by omega))) (by simp)
          · skip
            have d_49 : ¬ ((hd ms (tp ms 3 j)) c = (hd ms (tp ms 3 j2)) c) := fun z => c_49 (by rw [z])
            refine aw_iload_n (n := 53) dX3_differ_52 rfl 0 rfl rfl ?_
            have e8 : dfT (hd ms (tp ms 3 j)) (hd ms (tp ms 3 j2)) (Sn ms) (Sn ms - c) = nI c := by rw [show Sn ms - c = (Sn ms - (c + 1)) + 1 by omega, dfT, show Sn ms - (Sn ms - (c + 1) + 1) = c by omega, if_neg d_49]
            have e9 : opDiffer ms (nI j) (nI j2) = (nI c, tS ms 0 (0 : Int32)) := by simp [opDiffer, b_10, b_18, nN_nI (show j < 2 ^ 31 by omega), nN_nI (show j2 < 2 ^ 31 by omega), hv, e8]
            exact aw_iret dX3_differ_53 rfl ⟨by rw [e9], by rw [e9]; exact hT_1, hF_1, (by omega)⟩ ⟨Nat.zero_le _, Nat.zero_le _⟩
    · skip
      have b_18 : (inS w (Mn ms 3)) = false := (bI_0 _).mp c_18
      refine aw_aload_n (n := 22) dX3_differ_21 rfl 0 rfl rfl ?_
      refine aw_iconst (n := 23) (v := 1) dX3_differ_22 (by decide) rfl ?_
      refine aw_callV (n := 26) (C0 := RX3) (As := [.int 1]) (rest := []) (K2 := kX3_no) dX3_differ_23 q2773 q2775 qs42 q113 q2776 ⟨rfl, hcX3_no⟩ rfl hT_1.1 (ct_no G h_1 b (tS ms 0 (0 : Int32)) hb hT_1 (1 : Int32)) rfl (Nat.le_of_ble_eq_true rfl) ⟨Nat.le_of_ble_eq_true rfl, Nat.le_of_ble_eq_true rfl⟩ ⟨Nat.zero_le _, Nat.zero_le _⟩ (fun _ _ _ z => z.elim) rfl (fun r_23 h_23 q_23 => ?_)
      obtain ⟨rfl, hT_23, hF_23, hz_23⟩ := q_23
      have hG_23 := Fr.trans hF_1 hF_23
      refine AW.sts (st' := [.int 0]) rfl ?_
      have e9 : opDiffer ms (nI j) w = (0, tS (tS ms 0 (0 : Int32)) 0 (1 : Int32)) := by simp [opDiffer, c_10, b_10, c_18, b_18, nN_nI (show j < 2 ^ 31 by omega), tS_tS]
      exact aw_iret dX3_differ_26 rfl ⟨by rw [e9], by rw [e9]; exact hT_23, hG_23, (by omega)⟩ ⟨Nat.zero_le _, Nat.zero_le _⟩

abbrev kX3_alarms : aK := (yX3_alarms, cX3_alarms, 4, (Option.some Jvm.ClassFile.FieldType.int), [])
theorem hcX3_alarms : kX3_alarms.1.cls ≠ "java/lang/invoke/MethodHandle" ∧ kX3_alarms.1.cls ≠ "java/lang/invoke/VarHandle" ∧ (parseMethodDescriptor kX3_alarms.1.desc).map (fun d => d.parameters.length) = some 1 := ⟨by decide, by decide, by decide +kernel⟩
theorem ct_alarms (G : aG) (h : hH) (b : Nat) (ms : tM) (hb : gB G ≤ b) (hT : TW b h ms) (hI : tOK ms) (v : Int32) : Con G kX3_alarms [.ref b, .int v] h ((4, 66, 0, 0), (fun r h1 => r = some (.int (opAlarms ms v).1) ∧ TW b h1 ((opAlarms ms v).2) ∧ Fr (TS b) h h1 ∧ h1.1 = h.1), nX) := by
  have := hI.L2; have := hI.S2; have := hI.M0; have := hI.M1; have := hI.M2; have := hI.M3; have := hI.P2; have := hI.K2; have := hI.KM2
  refine Con.of (plainFor_of_name rfl) rfl (Nat.le_of_ble_eq_true rfl) ?_
  refine AW.eq (lv2 := [(0, .ref b), (1, .int v)]) (s2 := []) rfl rfl rfl rfl rfl ?_
  refine aw_aload_n (n := 1) dX3_alarms_0 rfl 0 rfl rfl ?_
  refine aw_iconst (n := 2) (v := 0) dX3_alarms_1 (by decide) rfl ?_
  refine aw_tput (n := 5) (k := 0) dX3_alarms_2 q2641 (by decide) rfl rfl rfl rfl rfl hT hb rfl rfl (fun h_1 hT_1 hF_1 hz_1 => ?_)
  refine aw_iload_n (n := 6) dX3_alarms_5 rfl 1 rfl rfl ?_
  refine aw_iconst (n := 7) (v := 0) dX3_alarms_6 (by decide) rfl ?_
  refine aw_bipush (n := 9) (v := 9) dX3_alarms_7 (by decide) rfl ?_
  refine aw_callS (n := 12) (As := [.int v, .int 0, .int 9]) (rest := []) (K2 := kX3_isIn) dX3_alarms_9 q2781 q2782 q113 q2783 hcX3_isIn (ct_isIn G h_1 v (0 : Int32) (9 : Int32)) rfl (Nat.le_of_ble_eq_true rfl) ⟨Nat.le_of_ble_eq_true rfl, Nat.le_of_ble_eq_true rfl⟩ ⟨Nat.zero_le _, Nat.zero_le _⟩ (fun _ _ _ z => z.elim) rfl (fun r_9 h_9 q_9 => ?_)
  obtain ⟨rfl, rfl⟩ := q_9
  refine AW.sts (st' := [.int (bI (inS v 10))]) (by rw [inS, show nI 10 - 1 = 9 from by decide]; rfl) ?_
  refine aw_if_ne (n := 15) (tgt := 21) dX3_alarms_12 (by decide) rfl (fun c_12 => ?_) (fun c_12 => ?_)
  · skip
    have b_12 : inS v 10 = true := Bool.of_not_eq_false (fun e => c_12 ((bI_0 _).mpr e))
    refine aw_iconst (n := 22) (v := 0) dX3_alarms_21 (by decide) rfl ?_
    refine aw_istore_n (n := 23) (lv' := [(2, .int 0), (0, .ref b), (1, .int v)]) dX3_alarms_22 rfl (by decide) rfl rfl ?_
    refine aw_iconst (n := 24) (v := 0) dX3_alarms_23 (by decide) rfl ?_
    refine aw_istore_n (n := 25) (lv' := [(3, .int 0), (2, .int 0), (0, .ref b), (1, .int v)]) dX3_alarms_24 rfl (by decide) rfl rfl ?_
    suffices L_25 : ∀ (m_ : Nat) (c : Nat) (hc : c ≤ Mn ms 3), Mn ms 3 - c < m_ → AW G kX3_alarms ((4, 66, 0, 0), (fun r h1 => r = some (.int (opAlarms ms v).1) ∧ TW b h1 ((opAlarms ms v).2) ∧ Fr (TS b) h h1 ∧ h1.1 = h.1), nX) 25 [(3, .int (nI c)), (2, .int (alT ms v c)), (0, .ref b), (1, .int v)] [] h_1 0 0 from
      AW.lvs (lv' := [(3, .int 0), (2, .int 0), (0, .ref b), (1, .int v)]) (AW.eq (lv2 := _) (rfl) rfl rfl rfl rfl (L_25 _ 0 (by omega) (Nat.lt_succ_self _))) (by simp)
    intro m_
    induction m_ with
    | zero => intro c hc h_m; exact absurd h_m (Nat.not_lt_zero _)
    | succ m_ ih_25 =>
      intro c hc h_m
      refine aw_iload_n (n := 26) dX3_alarms_25 rfl 0 rfl rfl ?_
      refine aw_aload_n (n := 27) dX3_alarms_26 rfl 2 rfl rfl ?_
      refine aw_getf (n := 30) (v := .ref (b + 16)) (C0 := RX3) (T := TX3) dX3_alarms_27 rfl 23 q2664 (Or.inl rfl) hT_1.1 rfl rfl ?_
      refine aw_iconst (n := 31) (v := 3) dX3_alarms_30 (by decide) rfl ?_
      refine aw_iald (n := 32) (v := .int (ms.2.1 23 3)) dX3_alarms_31 rfl 3 (by rfl) hT_1.a23 (by omega) (by decide) rfl rfl ?_
      refine aw_icmp_ge (n := 35) (tgt := 80) dX3_alarms_32 (by decide) rfl (fun c_32 => ?_) (fun c_32 => ?_)
      · skip
        have n_32 : (Mn ms 3) ≤ c := (nI_leI (a := (Mn ms 3)) (b := c) (by omega) (by omega)).mp (by rw [← ((hI.M (by decide)) : (ms.2.1 23 3) = nI (Mn ms 3))]; exact c_32)
        refine aw_iload_n (n := 81) dX3_alarms_80 rfl 1 rfl rfl ?_
        have e9 : opAlarms ms v = (alT ms v c, tS ms 0 (0 : Int32)) := by rw [opAlarms, if_pos b_12, show Mn ms 3 = c by omega]
        exact aw_iret dX3_alarms_81 rfl ⟨by rw [e9], by rw [e9]; exact hT_1, hF_1, (by omega)⟩ ⟨Nat.zero_le _, Nat.zero_le _⟩
      · skip
        have n_32 : ¬ ((Mn ms 3) ≤ c) := fun z => c_32 (by have y := (nI_leI (a := (Mn ms 3)) (b := c) (by omega) (by omega)).mpr z; rw [← ((hI.M (by decide)) : (ms.2.1 23 3) = nI (Mn ms 3))] at y; exact y)
        refine aw_iload_n (n := 36) dX3_alarms_35 rfl 1 rfl rfl ?_
        refine aw_aload_n (n := 37) dX3_alarms_36 rfl 2 rfl rfl ?_
        refine aw_getf (n := 40) (v := .int (nI (Sn ms))) (C0 := RX3) (T := TX3) dX3_alarms_37 rfl 29 q2670 (Or.inl rfl) hT_1.1 (congrArg some (congrArg Value.int hI.S)) rfl ?_
        refine aw_if_le (n := 43) (tgt := 71) dX3_alarms_40 (by decide) rfl (fun c_40 => ?_) (fun c_40 => ?_)
        · skip
          have n_40 : (Sn ms) ≤ 0 := (nI_leI (a := (Sn ms)) (b := 0) (by omega) (by omega)).mp (by rw [← ((by rfl) : (0 : Int32) = nI 0)]; exact c_40)
          refine aw_iconst (n := 72) (v := 0) dX3_alarms_71 (by decide) rfl ?_
          refine aw_iadd (n := 73) dX3_alarms_72 rfl ?_
          refine aw_istore_n (n := 74) (lv' := [(2, .int ((alT ms v c) + 0)), (3, .int (nI c)), (0, .ref b), (1, .int v)]) dX3_alarms_73 rfl (by decide) rfl rfl ?_
          refine aw_iinc (n := 77) (v := nI (c + 1)) (lv' := [(3, .int (nI (c + 1))), (2, .int ((alT ms v c) + 0)), (0, .ref b), (1, .int v)]) dX3_alarms_74 1 rfl (by rw [show nI c = nI c from rfl]; exact nI_1 _) (by decide) rfl rfl ?_
          refine aw_goto (tgt := 25) dX3_alarms_77 (by decide) ?_
          exact AW.lvs (lv' := [(3, .int (nI (c + 1))), (2, .int ((alT ms v c) + 0)), (0, .ref b), (1, .int v)]) (AW.eq (lv2 := _) (by first | (simp [alT, n_32, c_32, n_40, c_40]; done) | (simp_all [alT]; done) | (simp [alT, n_32, c_32, n_40, c_40]; intros; first | omega | exact absurd (by assumption) (Int32.not_le.mpr (by assumption)) | exact absurd (by assumption) (by assumption))) rfl rfl rfl rfl (ih_25 (c + 1) (by omega) (by omega))) (by simp)
        · skip
          have n_40 : ¬ ((Sn ms) ≤ 0) := fun z => c_40 (by have y := (nI_leI (a := (Sn ms)) (b := 0) (by omega) (by omega)).mpr z; rw [← ((by rfl) : (0 : Int32) = nI 0)] at y; exact y)
          refine aw_aload_n (n := 44) dX3_alarms_43 rfl 2 rfl rfl ?_
          refine aw_getf (n := 47) (v := .ref (b + 19)) (C0 := RX3) (T := TX3) dX3_alarms_44 rfl 26 q2667 (Or.inl rfl) hT_1.1 rfl rfl ?_
          refine aw_iload_n (n := 48) dX3_alarms_47 rfl 0 rfl rfl ?_
          refine aw_iald (n := 49) (v := .int (ms.2.1 26 c)) dX3_alarms_48 rfl c rfl hT_1.a26 (by omega) (by decide) rfl rfl ?_
          refine aw_iload_n (n := 50) dX3_alarms_49 rfl 3 rfl rfl ?_
          refine aw_icmp_lt (n := 53) (tgt := 71) dX3_alarms_50 (by decide) rfl (fun c_50 => ?_) (fun c_50 => ?_)
          · skip
            refine aw_iconst (n := 72) (v := 0) dX3_alarms_71 (by decide) rfl ?_
            refine aw_iadd (n := 73) dX3_alarms_72 rfl ?_
            refine aw_istore_n (n := 74) (lv' := [(2, .int ((alT ms v c) + 0)), (3, .int (nI c)), (0, .ref b), (1, .int v)]) dX3_alarms_73 rfl (by decide) rfl rfl ?_
            refine aw_iinc (n := 77) (v := nI (c + 1)) (lv' := [(3, .int (nI (c + 1))), (2, .int ((alT ms v c) + 0)), (0, .ref b), (1, .int v)]) dX3_alarms_74 1 rfl (by rw [show nI c = nI c from rfl]; exact nI_1 _) (by decide) rfl rfl ?_
            refine aw_goto (tgt := 25) dX3_alarms_77 (by decide) ?_
            exact AW.lvs (lv' := [(3, .int (nI (c + 1))), (2, .int ((alT ms v c) + 0)), (0, .ref b), (1, .int v)]) (AW.eq (lv2 := _) (by first | (simp [alT, n_32, c_32, n_40, c_40, c_50]; done) | (simp_all [alT]; done) | (simp [alT, n_32, c_32, n_40, c_40, c_50]; intros; first | omega | exact absurd (by assumption) (Int32.not_le.mpr (by assumption)) | exact absurd (by assumption) (by assumption))) rfl rfl rfl rfl (ih_25 (c + 1) (by omega) (by omega))) (by simp)
          · skip
            refine aw_aload_n (n := 54) dX3_alarms_53 rfl 2 rfl rfl ?_
            refine aw_iload_n (n := 55) dX3_alarms_54 rfl 0 rfl rfl ?_
            refine aw_aload_n (n := 56) dX3_alarms_55 rfl 2 rfl rfl ?_
            refine aw_getf (n := 59) (v := .int (nI (Sn ms))) (C0 := RX3) (T := TX3) dX3_alarms_56 rfl 29 q2670 (Or.inl rfl) hT_1.1 (congrArg some (congrArg Value.int hI.S)) rfl ?_
            refine aw_iconst (n := 60) (v := 1) dX3_alarms_59 (by decide) rfl ?_
            refine aw_isub (n := 61) dX3_alarms_60 rfl ?_
            refine AW.sts (st' := [.int (nI ((Sn ms) - 1)), .int (nI c), .ref b, .int (alT ms v c)]) (by rw [show (nI (Sn ms)) - 1 = nI ((Sn ms) - 1) from (by exact (pk_sub (b := 1) (by omega)))]) ?_
            refine aw_callV (n := 64) (C0 := RX3) (As := [.int (nI c), .int (nI ((Sn ms) - 1))]) (rest := [.int (alT ms v c)]) (K2 := kX3_watches) dX3_alarms_61 q3100 q3102 qs99 q113 q3103 ⟨rfl, hcX3_watches⟩ rfl hT_1.1 (ct_watches G h_1 b (tS ms 0 (0 : Int32)) hb hT_1 c ((Sn ms) - 1) (tp ms 3 c) (by omega) (by omega) (hI.T (k := 3) (by decide) (by decide) (by omega)) (by have := hI.T2 (k := 3) (j := c) (by decide) (by decide) (by omega); omega)) rfl (Nat.le_of_ble_eq_true rfl) ⟨Nat.le_of_ble_eq_true rfl, Nat.le_of_ble_eq_true rfl⟩ ⟨Nat.zero_le _, Nat.zero_le _⟩ (fun _ _ _ z => z.elim) rfl (fun r_61 h_61 q_61 => ?_)
            obtain ⟨rfl, rfl⟩ := q_61
            refine AW.sts (st' := [.int (bI (hd ms (tp ms 3 c) ((Sn ms) - 1))), .int (alT ms v c)]) rfl ?_
            refine aw_if_ne (n := 67) (tgt := 71) dX3_alarms_64 (by decide) rfl (fun c_64 => ?_) (fun c_64 => ?_)
            · skip
              have b_64 : (hd ms (tp ms 3 c) ((Sn ms) - 1)) = true := Bool.of_not_eq_false (fun e => c_64 ((bI_0 _).mpr e))
              refine aw_iconst (n := 72) (v := 0) dX3_alarms_71 (by decide) rfl ?_
              refine aw_iadd (n := 73) dX3_alarms_72 rfl ?_
              refine aw_istore_n (n := 74) (lv' := [(2, .int ((alT ms v c) + 0)), (3, .int (nI c)), (0, .ref b), (1, .int v)]) dX3_alarms_73 rfl (by decide) rfl rfl ?_
              refine aw_iinc (n := 77) (v := nI (c + 1)) (lv' := [(3, .int (nI (c + 1))), (2, .int ((alT ms v c) + 0)), (0, .ref b), (1, .int v)]) dX3_alarms_74 1 rfl (by rw [show nI c = nI c from rfl]; exact nI_1 _) (by decide) rfl rfl ?_
              refine aw_goto (tgt := 25) dX3_alarms_77 (by decide) ?_
              exact AW.lvs (lv' := [(3, .int (nI (c + 1))), (2, .int ((alT ms v c) + 0)), (0, .ref b), (1, .int v)]) (AW.eq (lv2 := _) (by first | (simp [alT, n_32, c_32, n_40, c_40, c_50, b_64, c_64]; done) | (simp_all [alT]; done) | (simp [alT, n_32, c_32, n_40, c_40, c_50, b_64, c_64]; intros; first | omega | exact absurd (by assumption) (Int32.not_le.mpr (by assumption)) | exact absurd (by assumption) (by assumption))) rfl rfl rfl rfl (ih_25 (c + 1) (by omega) (by omega))) (by simp)
            · skip
              have b_64 : (hd ms (tp ms 3 c) ((Sn ms) - 1)) = false := (bI_0 _).mp c_64
              refine aw_iconst (n := 68) (v := 1) dX3_alarms_67 (by decide) rfl ?_
              refine aw_goto (tgt := 72) dX3_alarms_68 (by decide) ?_
              refine aw_iadd (n := 73) dX3_alarms_72 rfl ?_
              refine aw_istore_n (n := 74) (lv' := [(2, .int ((alT ms v c) + 1)), (3, .int (nI c)), (0, .ref b), (1, .int v)]) dX3_alarms_73 rfl (by decide) rfl rfl ?_
              refine aw_iinc (n := 77) (v := nI (c + 1)) (lv' := [(3, .int (nI (c + 1))), (2, .int ((alT ms v c) + 1)), (0, .ref b), (1, .int v)]) dX3_alarms_74 1 rfl (by rw [show nI c = nI c from rfl]; exact nI_1 _) (by decide) rfl rfl ?_
              refine aw_goto (tgt := 25) dX3_alarms_77 (by decide) ?_
              exact AW.lvs (lv' := [(3, .int (nI (c + 1))), (2, .int ((alT ms v c) + 1)), (0, .ref b), (1, .int v)]) (AW.eq (lv2 := _) (by first | (simp [alT, n_32, c_32, n_40, c_40, c_50, b_64, c_64]; done) | (simp_all [alT]; done) | (simp [alT, n_32, c_32, n_40, c_40, c_50, b_64, c_64]; intros; first | omega | exact absurd (by assumption) (Int32.not_le.mpr (by assumption)) | exact absurd (by assumption) (by assumption))) rfl rfl rfl rfl (ih_25 (c + 1) (by omega) (by omega))) (by simp)
  · skip
    have b_12 : inS v 10 = false := (bI_0 _).mp c_12
    refine aw_aload_n (n := 16) dX3_alarms_15 rfl 0 rfl rfl ?_
    refine aw_iconst (n := 17) (v := 1) dX3_alarms_16 (by decide) rfl ?_
    refine aw_callV (n := 20) (C0 := RX3) (As := [.int 1]) (rest := []) (K2 := kX3_no) dX3_alarms_17 q2773 q2775 qs42 q113 q2776 ⟨rfl, hcX3_no⟩ rfl hT_1.1 (ct_no G h_1 b (tS ms 0 (0 : Int32)) hb hT_1 (1 : Int32)) rfl (Nat.le_of_ble_eq_true rfl) ⟨Nat.le_of_ble_eq_true rfl, Nat.le_of_ble_eq_true rfl⟩ ⟨Nat.zero_le _, Nat.zero_le _⟩ (fun _ _ _ z => z.elim) rfl (fun r_17 h_17 q_17 => ?_)
    obtain ⟨rfl, hT_17, hF_17, hz_17⟩ := q_17
    have hG_17 := Fr.trans hF_1 hF_17
    refine AW.sts (st' := [.int 0]) rfl ?_
    have e9 : opAlarms ms v = (0, tS (tS ms 0 (0 : Int32)) 0 (1 : Int32)) := by simp [opAlarms, c_12, b_12, tS_tS]
    exact aw_iret dX3_alarms_20 rfl ⟨by rw [e9], by rw [e9]; exact hT_17, hG_17, (by omega)⟩ ⟨Nat.zero_le _, Nat.zero_le _⟩

end
