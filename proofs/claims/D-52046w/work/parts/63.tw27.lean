/-! The twin: forget, compile. -/
section
set_option maxRecDepth 100000
abbrev kX3_forget : aK := (yX3_forget, cX3_forget, 2, (Option.none : Option Jvm.ClassFile.FieldType), [])
theorem hcX3_forget : kX3_forget.1.cls ≠ "java/lang/invoke/MethodHandle" ∧ kX3_forget.1.cls ≠ "java/lang/invoke/VarHandle" ∧ (parseMethodDescriptor kX3_forget.1.desc).map (fun d => d.parameters.length) = some 0 := ⟨by decide, by decide, by decide +kernel⟩
theorem ct_forget (G : aG) (h : hH) (b : Nat) (ms : tM) (hb : gB G ≤ b) (hT : TW b h ms) : Con G kX3_forget [.ref b] h ((1, 0, 0, 0), (fun r h1 => r = none ∧ TW b h1 (fgT ms) ∧ Fr (TS b) h h1 ∧ h1.1 = h.1), nX) := by
  refine Con.of (plainFor_of_name rfl) rfl (Nat.le_of_ble_eq_true rfl) ?_
  refine AW.eq (lv2 := [(0, .ref b)]) (s2 := []) rfl rfl rfl rfl rfl ?_
  refine aw_aload_n (n := 1) dX3_forget_0 rfl 0 rfl rfl ?_
  refine aw_iconst (n := 2) (v := 0) dX3_forget_1 (by decide) rfl ?_
  refine aw_tput (n := 5) (k := 18) dX3_forget_2 q2659 (by decide) rfl rfl rfl (by decide) rfl hT hb rfl rfl (fun h_1 hT_1 hF_1 hz_1 => ?_)
  refine aw_aload_n (n := 6) dX3_forget_5 rfl 0 rfl rfl ?_
  refine aw_iconst (n := 7) (v := 0) dX3_forget_6 (by decide) rfl ?_
  refine aw_tput (n := 10) (k := 19) dX3_forget_7 q2660 (by decide) rfl rfl rfl rfl rfl hT_1 hb rfl rfl (fun h_2 hT_2 hF_2 hz_2 => ?_)
  have hG_2 := Fr.trans hF_1 hF_2
  refine aw_iconst (n := 11) (v := 0) dX3_forget_10 (by decide) rfl ?_
  refine aw_istore_n (n := 12) (lv' := [(1, .int 0), (0, .ref b)]) dX3_forget_11 rfl (by decide) rfl rfl ?_
  suffices L_12 : ∀ (m_ : Nat) (c : Nat) (hh : hH) (hc : c ≤ 4) (hTc : TW b hh (fgM (tS (tS ms 18 0) 19 0) c)) (hFc : Fr (TS b) h hh) (hzc : hh.1 = h.1), 4 - c < m_ → AW G kX3_forget ((1, 0, 0, 0), (fun r h1 => r = none ∧ TW b h1 (fgT ms) ∧ Fr (TS b) h h1 ∧ h1.1 = h.1), nX) 12 [(1, .int (nI c)), (0, .ref b)] [] hh 0 0 from
    AW.lvs (lv' := [(1, .int 0), (0, .ref b)]) (AW.eq (lv2 := _) (rfl) rfl rfl rfl rfl (L_12 _ 0 h_2 (by omega) hT_2 hG_2 (by omega) (Nat.lt_succ_self _))) (by simp)
  intro m_
  induction m_ with
  | zero => intro c hh hc hTc hFc hzc h_m; exact absurd h_m (Nat.not_lt_zero _)
  | succ m_ ih_12 =>
    intro c hh hc hTc hFc hzc h_m
    refine aw_iload_n (n := 13) dX3_forget_12 rfl 0 rfl rfl ?_
    refine aw_iconst (n := 14) (v := 4) dX3_forget_13 (by decide) rfl ?_
    refine aw_icmp_ge (n := 17) (tgt := 30) dX3_forget_14 (by decide) rfl (fun c_14 => ?_) (fun c_14 => ?_)
    · skip
      have n_14 : 4 ≤ c := (nI_leI (a := 4) (b := c) (by omega) (by omega)).mp (by rw [← ((by rfl) : (4 : Int32) = nI 4)]; exact c_14)
      have e9 : c = 4 := by omega
      subst e9
      refine aw_aload_n (n := 31) dX3_forget_30 rfl 1 rfl rfl ?_
      refine aw_iconst (n := 32) (v := 0) dX3_forget_31 (by decide) rfl ?_
      refine aw_tput (n := 35) (k := 8) dX3_forget_32 q2649 (by decide) rfl rfl rfl rfl rfl hTc hb rfl rfl (fun h_3 hT_3 hF_3 hz_3 => ?_)
      have hG_3 := Fr.trans hFc hF_3
      refine aw_aload_n (n := 36) dX3_forget_35 rfl 1 rfl rfl ?_
      refine aw_iconst (n := 37) (v := 0) dX3_forget_36 (by decide) rfl ?_
      refine aw_tput (n := 40) (k := 27) dX3_forget_37 q2668 (by decide) rfl rfl rfl rfl rfl hT_3 hb rfl rfl (fun h_4 hT_4 hF_4 hz_4 => ?_)
      have hG_4 := Fr.trans hG_3 hF_4
      refine aw_aload_n (n := 41) dX3_forget_40 rfl 1 rfl rfl ?_
      refine aw_iconst (n := 42) (v := (-1)) dX3_forget_41 (by decide) rfl ?_
      refine aw_tput (n := 45) (k := 28) dX3_forget_42 q2669 (by decide) rfl rfl rfl rfl rfl hT_4 hb rfl rfl (fun h_5 hT_5 hF_5 hz_5 => ?_)
      have hG_5 := Fr.trans hG_4 hF_5
      refine aw_aload_n (n := 46) dX3_forget_45 rfl 1 rfl rfl ?_
      refine aw_iconst (n := 47) (v := 0) dX3_forget_46 (by decide) rfl ?_
      refine aw_tput (n := 50) (k := 29) dX3_forget_47 q2670 (by decide) rfl rfl rfl rfl rfl hT_5 hb rfl rfl (fun h_6 hT_6 hF_6 hz_6 => ?_)
      have hG_6 := Fr.trans hG_5 hF_6
      exact aw_vret dX3_forget_50 rfl ⟨rfl, hT_6, hG_6, (by omega)⟩ ⟨Nat.zero_le _, Nat.zero_le _⟩
    · skip
      have n_14 : ¬ (4 ≤ c) := fun z => c_14 (by have y := (nI_leI (a := 4) (b := c) (by omega) (by omega)).mpr z; rw [← ((by rfl) : (4 : Int32) = nI 4)] at y; exact y)
      refine aw_aload_n (n := 18) dX3_forget_17 rfl 1 rfl rfl ?_
      refine aw_getf (n := 21) (v := .ref (b + 16)) (C0 := RX3) (T := TX3) dX3_forget_18 rfl 23 q2664 (Or.inl rfl) hTc.1 rfl rfl ?_
      refine aw_iload_n (n := 22) dX3_forget_21 rfl 0 rfl rfl ?_
      refine aw_iconst (n := 23) (v := 0) dX3_forget_22 (by decide) rfl ?_
      refine aw_tiast (n := 24) dX3_forget_23 TW.m23 hTc hb c rfl (by omega) (by decide) rfl (fun h_7 hT_7 hF_7 hz_7 => ?_)
      have hG_7 := Fr.trans hFc hF_7
      refine aw_iinc (n := 27) (v := nI (c + 1)) (lv' := [(1, .int (nI (c + 1))), (0, .ref b)]) dX3_forget_24 0 rfl (by rw [show nI c = nI c from rfl]; exact nI_1 _) (by decide) rfl rfl ?_
      refine aw_goto (tgt := 12) dX3_forget_27 (by decide) ?_
      exact AW.lvs (lv' := [(1, .int (nI (c + 1))), (0, .ref b)]) (AW.eq (lv2 := _) (rfl) rfl rfl rfl rfl (ih_12 (c + 1) h_7 (by omega) hT_7 hG_7 (by omega) (by omega))) (by simp)

theorem cb_begin (G : aG) (h : hH) (b : Nat) (ms : tM) (hb : gB G ≤ b) (hT : TW b h ms) (hM : ms.2.1 23 0 = nI (Mn ms 0)) (hM8 : Mn ms 0 ≤ 8) : Con G kX3_begin [.ref b] h ((1, 0, 0, 0), (fun r h1 => r = none ∧ TW b h1 (begT ms) ∧ Fr (TS b) h h1 ∧ h1.1 = h.1), nX) := by
  refine Con.of (plainFor_of_name rfl) rfl (Nat.le_of_ble_eq_true rfl) ?_
  refine AW.eq (lv2 := [(0, .ref b)]) (s2 := []) rfl rfl rfl rfl rfl ?_
  refine aw_aload_n (n := 1) dX3_begin_0 rfl 0 rfl rfl ?_
  refine aw_iconst (n := 2) (v := 0) dX3_begin_1 (by decide) rfl ?_
  refine aw_tput (n := 5) (k := 29) dX3_begin_2 q2670 (by decide) rfl rfl rfl rfl rfl hT hb rfl rfl (fun h_1 hT_1 hF_1 hz_1 => ?_)
  refine aw_iconst (n := 6) (v := 0) dX3_begin_5 (by decide) rfl ?_
  refine aw_istore_n (n := 7) (lv' := [(1, .int 0), (0, .ref b)]) dX3_begin_6 rfl (by decide) rfl rfl ?_
  suffices L_7 : ∀ (m_ : Nat) (c : Nat) (hh : hH) (hc : c ≤ Mn ms 0) (hTc : TW b hh (bgS ms c)) (hFc : Fr (TS b) h hh) (hzc : hh.1 = h.1), Mn ms 0 - c < m_ → AW G kX3_begin ((1, 0, 0, 0), (fun r h1 => r = none ∧ TW b h1 (begT ms) ∧ Fr (TS b) h h1 ∧ h1.1 = h.1), nX) 7 [(1, .int (nI c)), (0, .ref b)] [] hh 0 0 from
    AW.lvs (lv' := [(1, .int 0), (0, .ref b)]) (AW.eq (lv2 := _) (rfl) rfl rfl rfl rfl (L_7 _ 0 h_1 (by omega) hT_1 hF_1 (by omega) (Nat.lt_succ_self _))) (by simp)
  intro m_
  induction m_ with
  | zero => intro c hh hc hTc hFc hzc h_m; exact absurd h_m (Nat.not_lt_zero _)
  | succ m_ ih_7 =>
    intro c hh hc hTc hFc hzc h_m
    refine aw_iload_n (n := 8) dX3_begin_7 rfl 0 rfl rfl ?_
    refine aw_aload_n (n := 9) dX3_begin_8 rfl 1 rfl rfl ?_
    refine aw_getf (n := 12) (v := .ref (b + 16)) (C0 := RX3) (T := TX3) dX3_begin_9 rfl 23 q2664 (Or.inl rfl) hTc.1 rfl rfl ?_
    refine aw_iconst (n := 13) (v := 0) dX3_begin_12 (by decide) rfl ?_
    refine aw_iald (n := 14) (v := .int ((bgS ms c).2.1 23 0)) dX3_begin_13 rfl 0 (by rfl) hTc.a23 (by omega) (by decide) rfl rfl ?_
    refine aw_icmp_ge (n := 17) (tgt := 35) dX3_begin_14 (by decide) rfl (fun c_14 => ?_) (fun c_14 => ?_)
    · skip
      have n_14 : (Mn ms 0) ≤ c := (nI_leI (a := (Mn ms 0)) (b := c) (by omega) (by omega)).mp (by rw [← ((by rw [bgS_21]; exact hM) : ((bgS ms c).2.1 23 0) = nI (Mn ms 0))]; exact c_14)
      exact aw_vret dX3_begin_35 rfl ⟨rfl, by rw [begT, show Mn ms 0 = c by omega]; exact hTc, hFc, hzc⟩ ⟨Nat.zero_le _, Nat.zero_le _⟩
    · skip
      have n_14 : ¬ ((Mn ms 0) ≤ c) := fun z => c_14 (by have y := (nI_leI (a := (Mn ms 0)) (b := c) (by omega) (by omega)).mpr z; rw [← ((by rw [bgS_21]; exact hM) : ((bgS ms c).2.1 23 0) = nI (Mn ms 0))] at y; exact y)
      refine aw_aload_n (n := 18) dX3_begin_17 rfl 1 rfl rfl ?_
      refine aw_getf (n := 21) (v := .ref (b + 22)) (C0 := RX3) (T := TX3) dX3_begin_18 rfl 32 q2673 (Or.inl rfl) hTc.1 rfl rfl ?_
      refine aw_iload_n (n := 22) dX3_begin_21 rfl 0 rfl rfl ?_
      refine aw_aload_n (n := 23) dX3_begin_22 rfl 1 rfl rfl ?_
      refine aw_getf (n := 26) (v := .ref (b + 17)) (C0 := RX3) (T := TX3) dX3_begin_23 rfl 24 q2665 (Or.inl rfl) hTc.1 rfl rfl ?_
      refine aw_iload_n (n := 27) dX3_begin_26 rfl 0 rfl rfl ?_
      refine aw_lald (n := 28) (v := .long ((bgS ms c).2.2 24 c)) dX3_begin_27 rfl c rfl hTc.a24 (by omega) (by decide) rfl rfl ?_
      refine aw_tlast (n := 29) dX3_begin_28 TW.m32 hTc hb c rfl (by omega) (by decide) rfl (fun h_2 hT_2 hF_2 hz_2 => ?_)
      have hG_2 := Fr.trans hFc hF_2
      refine aw_iinc (n := 32) (v := nI (c + 1)) (lv' := [(1, .int (nI (c + 1))), (0, .ref b)]) dX3_begin_29 0 rfl (by rw [show nI c = nI c from rfl]; exact nI_1 _) (by decide) rfl rfl ?_
      refine aw_goto (tgt := 7) dX3_begin_32 (by decide) ?_
      exact AW.lvs (lv' := [(1, .int (nI (c + 1))), (0, .ref b)]) (AW.eq (lv2 := _) (rfl) rfl rfl rfl rfl (ih_7 (c + 1) h_2 (by omega) (by simpa [bgS, bgS_22] using hT_2) hG_2 (by omega) (by omega))) (by simp)

abbrev kX3_compile : aK := (yX3_compile, cX3_compile, 2, (Option.some Jvm.ClassFile.FieldType.int), [])
theorem hcX3_compile : kX3_compile.1.cls ≠ "java/lang/invoke/MethodHandle" ∧ kX3_compile.1.cls ≠ "java/lang/invoke/VarHandle" ∧ (parseMethodDescriptor kX3_compile.1.desc).map (fun d => d.parameters.length) = some 0 := ⟨by decide, by decide, by decide +kernel⟩
theorem ct_compile (G : aG) (h : hH) (b : Nat) (ms : tM) (hb : gB G ≤ b) (hT : TW b h ms) (hL : ms.1 2 = nI (Ln ms)) (hL2 : Ln ms ≤ 1800) (hY : tpOK ms) (hlt : b + 25 ≤ h.1) : Con G kX3_compile [.ref b] h ((1057, 52701, 401, 1604), (fun r h1 => ∃ (n e pl : Nat) (m1 m9 : tM), r = some (.int (nI e)) ∧ kinT (byT ms) (Ln ms) n = 0 ∧ (∀ i : Nat, i < n → kinT (byT ms) (Ln ms) i ≠ 0) ∧ TW b h1 m9 ∧ Fr (TS b) h h1 ∧ h1.1 ≤ h.1 + 401 ∧ cpE ms n e pl ∧ (e = 0 → m9 = cpOK (pPg (TkV ms) true (pX (TkV ms) true 520) 401 0 (cS ms n)).2.2.2) ∧ (e ≠ 0 → gF (cS ms n) m1 ∧ m1.1 3 = nI pl ∧ m9 = cpNO m1)), nX) := by
  refine Con.of (plainFor_of_name rfl) rfl (Nat.le_of_ble_eq_true rfl) ?_
  refine AW.eq (lv2 := [(0, .ref b)]) (s2 := []) rfl rfl rfl rfl rfl ?_
  refine aw_aload_n (n := 1) dX3_compile_0 rfl 0 rfl rfl ?_
  refine aw_iconst (n := 2) (v := 0) dX3_compile_1 (by decide) rfl ?_
  refine aw_tput (n := 5) (k := 0) dX3_compile_2 q2641 (by decide) rfl rfl rfl rfl rfl hT hb rfl rfl (fun h_1 hT_1 hF_1 hz_1 => ?_)
  refine aw_aload_n (n := 6) dX3_compile_5 rfl 0 rfl rfl ?_
  refine aw_callV (n := 9) (C0 := RX3) (As := []) (rest := []) (K2 := kX3_forget) dX3_compile_6 q2788 q2790 qs43 q113 q2791 ⟨rfl, hcX3_forget⟩ rfl hT_1.1 (ct_forget G h_1 b (tS ms 0 (0 : Int32)) hb hT_1 ) rfl (Nat.le_of_ble_eq_true rfl) ⟨Nat.le_of_ble_eq_true rfl, Nat.le_of_ble_eq_true rfl⟩ ⟨Nat.zero_le _, Nat.zero_le _⟩ (fun _ _ _ z => z.elim) rfl (fun r_6 h_6 q_6 => ?_)
  obtain ⟨rfl, hT_6, hF_6, hz_6⟩ := q_6
  have hG_6 := Fr.trans hF_1 hF_6
  refine AW.sts (st' := []) rfl ?_
  refine aw_aload_n (n := 10) dX3_compile_9 rfl 0 rfl rfl ?_
  refine aw_iconst (n := 11) (v := (-1)) dX3_compile_10 (by decide) rfl ?_
  refine aw_tput (n := 14) (k := 3) dX3_compile_11 q2644 (by decide) rfl rfl rfl rfl rfl hT_6 hb rfl rfl (fun h_2 hT_2 hF_2 hz_2 => ?_)
  have hG_2 := Fr.trans hG_6 hF_2
  refine aw_aload_n (n := 15) dX3_compile_14 rfl 0 rfl rfl ?_
  have hT_s : TW b h_2 (cM ms) := hT_2
  refine aw_callV (n := 18) (C0 := RX3) (As := []) (rest := []) (K2 := kX3_scan) dX3_compile_15 q2792 q2794 qs44 q113 q2795 ⟨rfl, hcX3_scan⟩ rfl hT_2.1 (ct_scan G h_2 b (cM ms) hb hT_s (by rw [cM_2, cM_L]; exact hL) (by rw [cM_L]; exact hL2) (cM_Y hY)) rfl (Nat.le_of_ble_eq_true rfl) ⟨Nat.le_of_ble_eq_true rfl, Nat.le_of_ble_eq_true rfl⟩ ⟨Nat.zero_le _, Nat.zero_le _⟩ (fun _ _ _ z => z.elim) rfl (fun r_15 h_15 q_15 => ?_)
  obtain ⟨n, rfl, hT_15, hF_15, hz_15, hn0, hne⟩ := q_15
  rw [cM_byT, cM_L] at hn0 hne
  have hG_15 := Fr.trans hG_2 hF_15
  refine AW.sts (st' := []) rfl ?_
  refine aw_aload_n (n := 19) dX3_compile_18 rfl 0 rfl rfl ?_
  refine aw_iconst (n := 20) (v := 0) dX3_compile_19 (by decide) rfl ?_
  refine aw_tput (n := 23) (k := 7) dX3_compile_20 q2648 (by decide) rfl rfl rfl rfl rfl hT_15 hb rfl rfl (fun h_3 hT_3 hF_3 hz_3 => ?_)
  have hG_3 := Fr.trans hG_15 hF_3
  refine aw_aload_n (n := 24) dX3_compile_23 rfl 0 rfl rfl ?_
  have hS := cS_tk hY hL2 hn0 hne
  have q9 : (qPg (TkV ms) (qX (TkV ms) 520) 401 0).1 ≠ 99 := qPg_99 (N := n) hS.2.1 (by decide) 401 0 (Nat.zero_le _) (by decide) (by decide)
  have qW9 := qPg_W (N := n) hS.2.1 520 401 0 (Nat.zero_le _) (by decide)
  have hT_p : TW b h_3 (ats (scT (cM ms) (n + 1)) 0) := hT_3
  refine aw_callV (n := 27) (C0 := RX3) (As := []) (rest := []) (K2 := kX3_program) dX3_compile_24 q2813 q2815 qs47 q113 q2816 ⟨rfl, hcX3_program⟩ rfl hT_3.1 (cf_program G h_3 b (scT (cM ms) (n + 1)) (TkV ms) n 0 hb hT_p hS (Nat.zero_le _) (by decide) 520 q9 (fAll_all G 520)) rfl (Nat.le_of_ble_eq_true rfl) ⟨Nat.le_of_ble_eq_true rfl, Nat.le_of_ble_eq_true rfl⟩ ⟨Nat.zero_le _, Nat.zero_le _⟩ (fun _ _ _ z => z.elim) rfl (fun r_24 h_24 q_24 => ?_)
  obtain ⟨z, a9, rfl, hT_24, hF_24, hz_24, fq⟩ := q_24
  have hT_24 : TW b h_24 (tS (scT (cM ms) (n + 1)) 7 (nI a9)) := hT_24
  have hG_24 := Fr.trans hG_3 hF_24
  have ha9 : a9 ≤ n := by rw [fq.1]; exact qW9.2.1
  refine AW.sts (st' := [.int (bI z)]) rfl ?_
  refine aw_if_eq (n := 30) (tgt := 34) dX3_compile_27 (by decide) rfl (fun c_27 => ?_) (fun c_27 => ?_)
  · skip
    have b_27 : z = false := (bI_0 _).mp c_27
    refine aw_aload_n (n := 35) dX3_compile_34 rfl 0 rfl rfl ?_
    refine aw_iconst (n := 36) (v := 1) dX3_compile_35 (by decide) rfl ?_
    refine aw_aload_n (n := 37) dX3_compile_36 rfl 0 rfl rfl ?_
    refine aw_getf (n := 40) (v := .int (nI a9)) (C0 := RX3) (T := TX3) dX3_compile_37 rfl 7 q2648 (Or.inl rfl) hT_24.1 (congrArg some (congrArg Value.int rfl)) rfl ?_
    refine AW.sts (st' := [.int (nI a9), .int (nI 1), .ref b]) (by rw [show (1 : Int32) = nI 1 from (by rfl)]) ?_
    refine aw_callV (n := 43) (C0 := RX3) (As := [.int (nI 1), .int (nI a9)]) (rest := []) (K2 := kX3_wrong) dX3_compile_40 q2935 q2937 qs66 q113 q2938 ⟨rfl, hcX3_wrong⟩ rfl hT_24.1 (ct_wrong G h_24 b (tS (scT (cM ms) (n + 1)) 7 (nI a9)) hb hT_24 (TkV ms) a9 (hS.1 a9 ha9) 1) rfl (Nat.le_of_ble_eq_true rfl) ⟨Nat.le_of_ble_eq_true rfl, Nat.le_of_ble_eq_true rfl⟩ ⟨Nat.zero_le _, Nat.zero_le _⟩ (fun _ _ _ z => z.elim) rfl (fun r_40 h_40 q_40 => ?_)
    obtain ⟨rfl, hT_40, hF_40, hz_40⟩ := q_40
    have hG_40 := Fr.trans hG_24 hF_40
    refine AW.sts (st' := [.int (nI 1)]) rfl ?_
    refine aw_istore_n (n := 44) (lv' := [(1, .int (nI 1)), (0, .ref b)]) dX3_compile_43 rfl (by decide) rfl rfl ?_
    refine aw_aload_n (n := 45) dX3_compile_44 rfl 1 rfl rfl ?_
    refine aw_iconst (n := 46) (v := 0) dX3_compile_45 (by decide) rfl ?_
    refine aw_tput (n := 49) (k := 7) dX3_compile_46 q2648 (by decide) rfl rfl rfl rfl rfl hT_40 hb rfl rfl (fun h_4 hT_4 hF_4 hz_4 => ?_)
    have hG_4 := Fr.trans hG_40 hF_4
    obtain ⟨m1, hm1⟩ : ∃ m : tM, m = tS (tS (tS (scT (cM ms) (n + 1)) 7 (nI a9)) 3 (nI ((TkV ms).2.1 a9))) 7 (0 : Int32) := ⟨_, rfl⟩
    have gm : gF (cS ms n) m1 := by rw [hm1]; have z9 := (((gF.rf (cS ms n)).S (k := 7) (v := nI a9) (by decide)).S (k := 3) (v := nI ((TkV ms).2.1 a9)) (by decide)).S (k := 7) (v := 0) (by decide); rw [show tS (cS ms n) 7 (nI a9) = (tS (scT (cM ms) (n + 1)) 7 (nI a9)) from by unfold cS; rw [tS_tS]] at z9; exact z9
    have hm3 : m1.1 3 = nI ((TkV ms).2.1 a9) := by rw [hm1]; rfl
    have hT_b : TW b h_4 m1 := by rw [hm1]; exact hT_4
    refine aw_iload_n (n := 50) dX3_compile_49 rfl 0 rfl rfl ?_
    refine aw_if_ne (n := 53) (tgt := 58) dX3_compile_50 (by decide) rfl (fun c_50 => ?_) (fun c_50 => ?_)
    · skip
      refine aw_aload_n (n := 59) dX3_compile_58 rfl 1 rfl rfl ?_
      refine aw_iconst (n := 60) (v := 0) dX3_compile_59 (by decide) rfl ?_
      refine aw_tput (n := 63) (k := 2) dX3_compile_60 q2643 (by decide) rfl rfl rfl rfl rfl hT_b hb rfl rfl (fun h_5 hT_5 hF_5 hz_5 => ?_)
      have hG_5 := Fr.trans hG_4 hF_5
      refine aw_iload_n (n := 64) dX3_compile_63 rfl 0 rfl rfl ?_
      refine aw_if_eq (n := 67) (tgt := 71) dX3_compile_64 (by decide) rfl (fun c_64 => ?_) (fun c_64 => ?_)
      · skip
        exact absurd c_64 (by decide +kernel)
      · skip
        refine aw_aload_n (n := 68) dX3_compile_67 rfl 1 rfl rfl ?_
        refine aw_callV (n := 71) (C0 := RX3) (As := []) (rest := []) (K2 := kX3_forget) dX3_compile_68 q2788 q2790 qs43 q113 q2791 ⟨rfl, hcX3_forget⟩ rfl hT_5.1 (ct_forget G h_5 b (tS m1 2 (0 : Int32)) hb hT_5 ) rfl (Nat.le_of_ble_eq_true rfl) ⟨Nat.le_of_ble_eq_true rfl, Nat.le_of_ble_eq_true rfl⟩ ⟨Nat.zero_le _, Nat.zero_le _⟩ (fun _ _ _ z => z.elim) rfl (fun r_68 h_68 q_68 => ?_)
        obtain ⟨rfl, hT_68, hF_68, hz_68⟩ := q_68
        have hG_68 := Fr.trans hG_5 hF_68
        refine AW.sts (st' := []) rfl ?_
        refine aw_aload_n (n := 72) dX3_compile_71 rfl 1 rfl rfl ?_
        refine aw_iload_n (n := 73) dX3_compile_72 rfl 0 rfl rfl ?_
        refine aw_if_ne (n := 76) (tgt := 80) dX3_compile_73 (by decide) rfl (fun c_73 => ?_) (fun c_73 => ?_)
        · skip
          refine aw_iconst (n := 81) (v := 0) dX3_compile_80 (by decide) rfl ?_
          refine aw_tput (n := 84) (k := 18) dX3_compile_81 q2659 (by decide) rfl rfl rfl (by decide) rfl hT_68 hb rfl rfl (fun h_6 hT_6 hF_6 hz_6 => ?_)
          have hG_6 := Fr.trans hG_68 hF_6
          refine aw_aload_n (n := 85) dX3_compile_84 rfl 1 rfl rfl ?_
          refine aw_aload_n (n := 86) dX3_compile_85 rfl 1 rfl rfl ?_
          refine aw_getf (n := 89) (v := .int ((fgT (tS m1 2 (0 : Int32))).1 8)) (C0 := RX3) (T := TX3) dX3_compile_86 rfl 8 q2649 (Or.inl rfl) hT_6.1 rfl rfl ?_
          refine aw_tput (n := 92) (k := 27) dX3_compile_89 q2668 (by decide) rfl rfl rfl rfl rfl hT_6 hb rfl rfl (fun h_7 hT_7 hF_7 hz_7 => ?_)
          have hG_7 := Fr.trans hG_6 hF_7
          refine aw_aload_n (n := 93) dX3_compile_92 rfl 1 rfl rfl ?_
          refine aw_callV (n := 96) (C0 := RX3) (As := []) (rest := []) (K2 := kX3_begin) dX3_compile_93 q3020 q3022 qs86 q113 q3023 ⟨rfl, hcX3_begin⟩ rfl hT_7.1 (cb_begin G h_7 b (tS (tS (fgT (tS m1 2 (0 : Int32))) 18 (0 : Int32)) 27 ((fgT (tS m1 2 (0 : Int32))).1 8)) hb hT_7 (by show (fgT (tS m1 2 0)).2.1 23 0 = nI (nN ((fgT (tS m1 2 0)).2.1 23 0)); rw [fgT_z _ (by decide)]; rfl) (by show nN ((fgT (tS m1 2 0)).2.1 23 0) ≤ 8; rw [fgT_z _ (by decide)]; exact (by decide : nN 0 ≤ 8))) rfl (Nat.le_of_ble_eq_true rfl) ⟨Nat.le_of_ble_eq_true rfl, Nat.le_of_ble_eq_true rfl⟩ ⟨Nat.zero_le _, Nat.zero_le _⟩ (fun _ _ _ z => z.elim) rfl (fun r_93 h_93 q_93 => ?_)
          obtain ⟨rfl, hT_93, hF_93, hz_93⟩ := q_93
          have hG_93 := Fr.trans hG_7 hF_93
          refine AW.sts (st' := []) rfl ?_
          refine aw_iload_n (n := 97) dX3_compile_96 rfl 0 rfl rfl ?_
          exact aw_iret dX3_compile_97 rfl ⟨n, 1, (TkV ms).2.1 a9, m1, cpNO m1, rfl, hn0, hne, hT_93, hG_93, by omega, Or.inl ⟨by rw [← fq.1] ; exact fq.1 ▸ fq.2.2 b_27, rfl, by rw [fq.1]⟩, fun z => absurd z (by decide), fun _ => ⟨gm, hm3, rfl⟩⟩ ⟨Nat.zero_le _, Nat.zero_le _⟩
        · skip
          exact absurd c_73 (by decide +kernel)
    · skip
      exact absurd c_50 (by decide +kernel)
  · skip
    have b_27 : z = true := Bool.of_not_eq_false (fun e => c_27 ((bI_0 _).mpr e))
    refine aw_iconst (n := 31) (v := 0) dX3_compile_30 (by decide) rfl ?_
    refine aw_goto (tgt := 43) dX3_compile_31 (by decide) ?_
    refine aw_istore_n (n := 44) (lv' := [(1, .int 0), (0, .ref b)]) dX3_compile_43 rfl (by decide) rfl rfl ?_
    refine aw_aload_n (n := 45) dX3_compile_44 rfl 1 rfl rfl ?_
    refine aw_iconst (n := 46) (v := 0) dX3_compile_45 (by decide) rfl ?_
    refine aw_tput (n := 49) (k := 7) dX3_compile_46 q2648 (by decide) rfl rfl rfl rfl rfl hT_24 hb rfl rfl (fun h_8 hT_8 hF_8 hz_8 => ?_)
    have hG_8 := Fr.trans hG_24 hF_8
    have hT_c : TW b h_8 (cS ms n) := by have z9 := hT_8; rw [tS_tS] at z9; exact z9
    refine aw_iload_n (n := 50) dX3_compile_49 rfl 0 rfl rfl ?_
    refine aw_if_ne (n := 53) (tgt := 58) dX3_compile_50 (by decide) rfl (fun c_50_2 => ?_) (fun c_50_2 => ?_)
    · skip
      exact absurd c_50_2 (by decide +kernel)
    · skip
      refine aw_aload_n (n := 54) dX3_compile_53 rfl 1 rfl rfl ?_
      have q0 : (qPg (TkV ms) (qX (TkV ms) 520) 401 0).1 = 0 := fq.2.1 b_27
      have n4 : n ≤ 400 := by have z1 := qPg_end 401 0 q0; have z2 := qW9.2.2; have z3 := qW9.2.1; exact (Nat.lt_or_ge (qPg (TkV ms) (qX (TkV ms) 520) 401 0).2 n).elim (fun l => absurd z1 (hS.2.2.1 _ l)) (fun l => by omega)
      have np := (pQ_Pg (TkV ms) true 520 401 0 (cS ms n)).1 q0
      have V := pPg_inv (T := TkV ms) (f := 520) (B := 802) (by decide) (by decide) 401 0 (cS ms n) (show pG 802 0 (cS ms n) 0 (cS ms n) from ⟨Nat.le_refl _, by omega, cS_mS ms n 802, cS_pgI ms n, gF.rf _⟩)
      obtain ⟨e8, l8, a8, w8, hR⟩ : ∃ (e l x : Nat) (w : tM), pPg (TkV ms) true (pX (TkV ms) true 520) 401 0 (cS ms n) = (e, l, x, w) := ⟨_, _, _, _, rfl⟩
      have cE : e8 = (pPg (TkV ms) true (pX (TkV ms) true 520) 401 0 (cS ms n)).1 ∧ l8 = (pPg (TkV ms) true (pX (TkV ms) true 520) 401 0 (cS ms n)).2.1 := by rw [hR]; exact ⟨rfl, rfl⟩
      rw [hR] at V
      refine aw_callV (n := 57) (C0 := RX3) (As := []) (rest := []) (K2 := kX3_meaning) dX3_compile_54 q2939 q2941 qs67 q113 q2942 ⟨rfl, hcX3_meaning⟩ rfl hT_c.1 (cm_meaning G h_8 b (cS ms n) (TkV ms) n 0 hb hT_c hS n4 (Nat.zero_le _) 520 801 (by decide) (by decide) (cS_mS ms n (801 + 1)) (cS_pgI ms n) (by omega) np.1 np.2 (meAll_all G 520)) rfl (Nat.le_of_ble_eq_true rfl) ⟨Nat.le_of_ble_eq_true rfl, Nat.le_of_ble_eq_true rfl⟩ ⟨by first | omega | (dsimp only; omega) | decide, by first | omega | (dsimp only; omega) | decide⟩ (fun _ _ _ z => z.elim) rfl (fun r_54 h_54 q_54 => ?_)
      obtain ⟨m8, rfl, hT_54, hF_54, hz_54, ok, er⟩ := q_54
      rw [hR] at ok er
      dsimp only at ok er
      have hG_54 := Fr.trans hG_8 hF_54
      rcases Nat.eq_zero_or_pos e8 with y | y
      · skip
        subst y
        have ok1 := ok rfl; subst ok1; replace V := V rfl; dsimp only at V
        have PM := V.1.2.2.2.1
        refine AW.sts (st' := [.int 0]) (by rw [hR]; rfl) ?_
        refine aw_istore_n (n := 58) (lv' := [(1, .int 0), (0, .ref b)]) dX3_compile_57 rfl (by decide) rfl rfl ?_
        refine aw_aload_n (n := 59) dX3_compile_58 rfl 1 rfl rfl ?_
        refine aw_iconst (n := 60) (v := 0) dX3_compile_59 (by decide) rfl ?_
        refine aw_tput (n := 63) (k := 2) dX3_compile_60 q2643 (by decide) rfl rfl rfl rfl rfl hT_54 hb rfl rfl (fun h_9 hT_9 hF_9 hz_9 => ?_)
        have hG_9 := Fr.trans hG_54 hF_9
        refine aw_iload_n (n := 64) dX3_compile_63 rfl 0 rfl rfl ?_
        refine aw_if_eq (n := 67) (tgt := 71) dX3_compile_64 (by decide) rfl (fun c_64_2 => ?_) (fun c_64_2 => ?_)
        · skip
          refine aw_aload_n (n := 72) dX3_compile_71 rfl 1 rfl rfl ?_
          refine aw_iload_n (n := 73) dX3_compile_72 rfl 0 rfl rfl ?_
          refine aw_if_ne (n := 76) (tgt := 80) dX3_compile_73 (by decide) rfl (fun c_73_2 => ?_) (fun c_73_2 => ?_)
          · skip
            exact absurd c_73_2 (by decide +kernel)
          · skip
            refine aw_iconst (n := 77) (v := 1) dX3_compile_76 (by decide) rfl ?_
            refine aw_goto (tgt := 81) dX3_compile_77 (by decide) ?_
            refine aw_tput (n := 84) (k := 18) dX3_compile_81 q2659 (by decide) rfl rfl rfl (by decide) rfl hT_9 hb rfl rfl (fun h_10 hT_10 hF_10 hz_10 => ?_)
            have hG_10 := Fr.trans hG_9 hF_10
            refine aw_aload_n (n := 85) dX3_compile_84 rfl 1 rfl rfl ?_
            refine aw_aload_n (n := 86) dX3_compile_85 rfl 1 rfl rfl ?_
            refine aw_getf (n := 89) (v := .int (m8.1 8)) (C0 := RX3) (T := TX3) dX3_compile_86 rfl 8 q2649 (Or.inl rfl) hT_10.1 rfl rfl ?_
            refine aw_tput (n := 92) (k := 27) dX3_compile_89 q2668 (by decide) rfl rfl rfl rfl rfl hT_10 hb rfl rfl (fun h_11 hT_11 hF_11 hz_11 => ?_)
            have hG_11 := Fr.trans hG_10 hF_11
            refine aw_aload_n (n := 93) dX3_compile_92 rfl 1 rfl rfl ?_
            refine aw_callV (n := 96) (C0 := RX3) (As := []) (rest := []) (K2 := kX3_begin) dX3_compile_93 q3020 q3022 qs86 q113 q3023 ⟨rfl, hcX3_begin⟩ rfl hT_11.1 (cb_begin G h_11 b (tS (tS (tS m8 2 (0 : Int32)) 18 (1 : Int32)) 27 (m8.1 8)) hb hT_11 (PM.1 0 (by decide)) PM.2.1) rfl (Nat.le_of_ble_eq_true rfl) ⟨Nat.le_of_ble_eq_true rfl, Nat.le_of_ble_eq_true rfl⟩ ⟨by first | omega | (dsimp only; omega) | decide, by first | omega | (dsimp only; omega) | decide⟩ (fun _ _ _ z => z.elim) rfl (fun r_93 h_93 q_93 => ?_)
            obtain ⟨rfl, hT_93, hF_93, hz_93⟩ := q_93
            have hG_93 := Fr.trans hG_11 hF_93
            refine AW.sts (st' := []) rfl ?_
            refine aw_iload_n (n := 97) dX3_compile_96 rfl 0 rfl rfl ?_
            exact aw_iret dX3_compile_97 rfl ⟨n, 0, 0, m8, cpOK m8, rfl, hn0, hne, hT_93, hG_93, by omega, Or.inr ⟨q0, n4, cE.1, fun z => absurd rfl z⟩, fun _ => by rw [hR], fun z => absurd rfl z⟩ ⟨(by first | exact Nat.le_refl _ | omega | (dsimp only; omega)), (by first | exact Nat.le_refl _ | omega | (dsimp only; omega))⟩
        · skip
          exact absurd c_64_2 (by decide +kernel)
      · skip
        obtain ⟨gm, hm3, e50⟩ := er (by omega)
        refine AW.sts (st' := [.int (nI e8)]) (by rw [hR]; rfl) ?_
        refine aw_istore_n (n := 58) (lv' := [(1, .int (nI e8)), (0, .ref b)]) dX3_compile_57 rfl (by decide) rfl rfl ?_
        refine aw_aload_n (n := 59) dX3_compile_58 rfl 1 rfl rfl ?_
        refine aw_iconst (n := 60) (v := 0) dX3_compile_59 (by decide) rfl ?_
        refine aw_tput (n := 63) (k := 2) dX3_compile_60 q2643 (by decide) rfl rfl rfl rfl rfl hT_54 hb rfl rfl (fun h_12 hT_12 hF_12 hz_12 => ?_)
        have hG_12 := Fr.trans hG_54 hF_12
        refine aw_iload_n (n := 64) dX3_compile_63 rfl 0 rfl rfl ?_
        refine aw_if_eq (n := 67) (tgt := 71) dX3_compile_64 (by decide) rfl (fun c_64_3 => ?_) (fun c_64_3 => ?_)
        · skip
          have n_64_3 : e8 = 0 := (nI_eq (a := e8) (b := 0) (by omega) (by omega)).mp (by rw [← ((by rfl) : (0 : Int32) = nI 0)]; exact c_64_3)
          exact absurd n_64_3 (by omega)
        · skip
          have n_64_3 : ¬ (e8 = 0) := fun z => c_64_3 (by have y := (nI_eq (a := e8) (b := 0) (by omega) (by omega)).mpr z; rw [← ((by rfl) : (0 : Int32) = nI 0)] at y; exact y)
          refine aw_aload_n (n := 68) dX3_compile_67 rfl 1 rfl rfl ?_
          refine aw_callV (n := 71) (C0 := RX3) (As := []) (rest := []) (K2 := kX3_forget) dX3_compile_68 q2788 q2790 qs43 q113 q2791 ⟨rfl, hcX3_forget⟩ rfl hT_12.1 (ct_forget G h_12 b (tS m8 2 (0 : Int32)) hb hT_12 ) rfl (Nat.le_of_ble_eq_true rfl) ⟨Nat.le_of_ble_eq_true rfl, Nat.le_of_ble_eq_true rfl⟩ ⟨by first | omega | (dsimp only; omega) | decide, by first | omega | (dsimp only; omega) | decide⟩ (fun _ _ _ z => z.elim) rfl (fun r_68 h_68 q_68 => ?_)
          obtain ⟨rfl, hT_68, hF_68, hz_68⟩ := q_68
          have hG_68 := Fr.trans hG_12 hF_68
          refine AW.sts (st' := []) rfl ?_
          refine aw_aload_n (n := 72) dX3_compile_71 rfl 1 rfl rfl ?_
          refine aw_iload_n (n := 73) dX3_compile_72 rfl 0 rfl rfl ?_
          refine aw_if_ne (n := 76) (tgt := 80) dX3_compile_73 (by decide) rfl (fun c_73_3 => ?_) (fun c_73_3 => ?_)
          · skip
            have n_73_3 : ¬ (e8 = 0) := fun z => c_73_3 (by have y := (nI_eq (a := e8) (b := 0) (by omega) (by omega)).mpr z; rw [← ((by rfl) : (0 : Int32) = nI 0)] at y; exact y)
            refine aw_iconst (n := 81) (v := 0) dX3_compile_80 (by decide) rfl ?_
            refine aw_tput (n := 84) (k := 18) dX3_compile_81 q2659 (by decide) rfl rfl rfl (by decide) rfl hT_68 hb rfl rfl (fun h_13 hT_13 hF_13 hz_13 => ?_)
            have hG_13 := Fr.trans hG_68 hF_13
            refine aw_aload_n (n := 85) dX3_compile_84 rfl 1 rfl rfl ?_
            refine aw_aload_n (n := 86) dX3_compile_85 rfl 1 rfl rfl ?_
            refine aw_getf (n := 89) (v := .int ((fgT (tS m8 2 (0 : Int32))).1 8)) (C0 := RX3) (T := TX3) dX3_compile_86 rfl 8 q2649 (Or.inl rfl) hT_13.1 rfl rfl ?_
            refine aw_tput (n := 92) (k := 27) dX3_compile_89 q2668 (by decide) rfl rfl rfl rfl rfl hT_13 hb rfl rfl (fun h_14 hT_14 hF_14 hz_14 => ?_)
            have hG_14 := Fr.trans hG_13 hF_14
            refine aw_aload_n (n := 93) dX3_compile_92 rfl 1 rfl rfl ?_
            refine aw_callV (n := 96) (C0 := RX3) (As := []) (rest := []) (K2 := kX3_begin) dX3_compile_93 q3020 q3022 qs86 q113 q3023 ⟨rfl, hcX3_begin⟩ rfl hT_14.1 (cb_begin G h_14 b (tS (tS (fgT (tS m8 2 (0 : Int32))) 18 (0 : Int32)) 27 ((fgT (tS m8 2 (0 : Int32))).1 8)) hb hT_14 (by show (fgT (tS m8 2 0)).2.1 23 0 = nI (nN ((fgT (tS m8 2 0)).2.1 23 0)); rw [fgT_z _ (by decide)]; rfl) (by show nN ((fgT (tS m8 2 0)).2.1 23 0) ≤ 8; rw [fgT_z _ (by decide)]; exact (by decide : nN 0 ≤ 8))) rfl (Nat.le_of_ble_eq_true rfl) ⟨Nat.le_of_ble_eq_true rfl, Nat.le_of_ble_eq_true rfl⟩ ⟨by first | omega | (dsimp only; omega) | decide, by first | omega | (dsimp only; omega) | decide⟩ (fun _ _ _ z => z.elim) rfl (fun r_93 h_93 q_93 => ?_)
            obtain ⟨rfl, hT_93, hF_93, hz_93⟩ := q_93
            have hG_93 := Fr.trans hG_14 hF_93
            refine AW.sts (st' := []) rfl ?_
            refine aw_iload_n (n := 97) dX3_compile_96 rfl 0 rfl rfl ?_
            exact aw_iret dX3_compile_97 rfl ⟨n, e8, l8, m8, cpNO m8, rfl, hn0, hne, hT_93, hG_93, by omega, Or.inr ⟨q0, n4, cE.1, fun _ => ⟨e50, cE.2⟩⟩, fun z => absurd z (by omega), fun _ => ⟨gm, hm3, rfl⟩⟩ ⟨(by first | exact Nat.le_refl _ | omega | (dsimp only; omega)), (by first | exact Nat.le_refl _ | omega | (dsimp only; omega))⟩
          · skip
            have n_73_3 : e8 = 0 := (nI_eq (a := e8) (b := 0) (by omega) (by omega)).mp (by rw [← ((by rfl) : (0 : Int32) = nI 0)]; exact c_73_3)
            exact absurd n_73_3 (by omega)

end
