/-! The twin: ask. -/
section
set_option maxRecDepth 100000
abbrev kX3_ask : aK := (yX3_ask, cX3_ask, 3, (Option.some Jvm.ClassFile.FieldType.int), [])
theorem hcX3_ask : kX3_ask.1.cls ≠ "java/lang/invoke/MethodHandle" ∧ kX3_ask.1.cls ≠ "java/lang/invoke/VarHandle" ∧ (parseMethodDescriptor kX3_ask.1.desc).map (fun d => d.parameters.length) = some 0 := ⟨by decide, by decide, by decide +kernel⟩
theorem ct_ask (G : aG) (h : hH) (b : Nat) (ms : tM) (hb : gB G ≤ b) (hT : TW b h ms) (hL : ms.1 2 = nI (Ln ms)) (hL2 : Ln ms ≤ 1800) (hY : tpOK ms) (hP : ms.1 27 = nI (Pn ms)) (hE : ms.1 28 ≠ -1 → ms.1 40 = nI (En ms) ∧ Pn ms ≤ En ms) (hPB : Pn ms ≤ bsN ms) (hB8 : bsN ms ≤ 802) (hm : mS 802 0 (tS (tS ms 7 0) 8 (nI (bsN ms)))) : Con G kX3_ask [.ref b] h ((1055, 52522, 0, 0), (fun r h1 => ∃ (n e pl : Nat) (m1 m9 : tM), r = some (.int (nI e)) ∧ kinT (byT ms) (Ln ms) n = 0 ∧ (∀ i : Nat, i < n → kinT (byT ms) (Ln ms) i ≠ 0) ∧ TW b h1 m9 ∧ Fr (TS b) h h1 ∧ h1.1 = h.1 ∧ aqE ms n e pl ∧ (e = 0 → m9 = aqOK ms (pX (TkV ms) true 520 0 0 0 (aF ms n)).2.2.2) ∧ (e ≠ 0 → mE (aF ms n) m1 ∧ m1.1 3 = nI pl ∧ m9 = tS m1 2 0)), nX) := by
  refine Con.of (plainFor_of_name rfl) rfl (Nat.le_of_ble_eq_true rfl) ?_
  refine AW.eq (lv2 := [(0, .ref b)]) (s2 := []) rfl rfl rfl rfl rfl ?_
  refine aw_aload_n (n := 1) dX3_ask_0 rfl 0 rfl rfl ?_
  refine aw_iconst (n := 2) (v := 0) dX3_ask_1 (by decide) rfl ?_
  refine aw_tput (n := 5) (k := 0) dX3_ask_2 q2641 (by decide) rfl rfl rfl rfl rfl hT hb rfl rfl (fun h_1 hT_1 hF_1 hz_1 => ?_)
  refine aw_aload_n (n := 6) dX3_ask_5 rfl 0 rfl rfl ?_
  refine aw_iconst (n := 7) (v := (-1)) dX3_ask_6 (by decide) rfl ?_
  refine aw_tput (n := 10) (k := 3) dX3_ask_7 q2644 (by decide) rfl rfl rfl rfl rfl hT_1 hb rfl rfl (fun h_2 hT_2 hF_2 hz_2 => ?_)
  have hG_2 := Fr.trans hF_1 hF_2
  refine aw_aload_n (n := 11) dX3_ask_10 rfl 0 rfl rfl ?_
  have hT_s : TW b h_2 (aM ms) := hT_2
  refine aw_callV (n := 14) (C0 := RX3) (As := []) (rest := []) (K2 := kX3_scan) dX3_ask_11 q2792 q2794 qs44 q113 q2795 ⟨rfl, hcX3_scan⟩ rfl hT_2.1 (ct_scan G h_2 b (aM ms) hb hT_s hL hL2 (aM_Y hY)) rfl (Nat.le_of_ble_eq_true rfl) ⟨Nat.le_of_ble_eq_true rfl, Nat.le_of_ble_eq_true rfl⟩ ⟨Nat.zero_le _, Nat.zero_le _⟩ (fun _ _ _ z => z.elim) rfl (fun r_11 h_11 q_11 => ?_)
  obtain ⟨n, rfl, hT_11, hF_11, hz_11, hn0, hne⟩ := q_11
  replace hn0 : kinT (byT ms) (Ln ms) n = 0 := hn0; replace hne : ∀ i : Nat, i < n → kinT (byT ms) (Ln ms) i ≠ 0 := hne
  have hG_11 := Fr.trans hG_2 hF_11
  refine AW.sts (st' := []) rfl ?_
  refine aw_aload_n (n := 15) dX3_ask_14 rfl 0 rfl rfl ?_
  refine aw_iconst (n := 16) (v := 0) dX3_ask_15 (by decide) rfl ?_
  refine aw_tput (n := 19) (k := 7) dX3_ask_16 q2648 (by decide) rfl rfl rfl rfl rfl hT_11 hb rfl rfl (fun h_3 hT_3 hF_3 hz_3 => ?_)
  have hG_3 := Fr.trans hG_11 hF_3
  refine aw_aload_n (n := 20) dX3_ask_19 rfl 0 rfl rfl ?_
  refine aw_iconst (n := 21) (v := 0) dX3_ask_20 (by decide) rfl ?_
  have hS := aS_tk hY hL2 hn0 hne
  have q9 : (qX (TkV ms) 520 0 0 0).1 ≠ 99 := qX_99 (N := n) hS.2.1 520 0 0 0 (Nat.zero_le _) (by decide) (by decide) (by decide)
  have qW9 := qX_W (N := n) hS.2.1 520 0 0 0 (Nat.zero_le _) (by decide)
  have hT_p : TW b h_3 (ats (scT (aM ms) (n + 1)) 0) := hT_3
  refine aw_callV (n := 24) (C0 := RX3) (As := [.int 0]) (rest := []) (K2 := kX3_formulaForm) dX3_ask_21 q2863 q2865 qs57 q113 q2866 ⟨rfl, hcX3_formulaForm⟩ rfl hT_3.1 (fAll_all G 520 0 h_3 b (scT (aM ms) (n + 1)) (TkV ms) n 0 0 (by decide) hb hT_p hS (Nat.zero_le _) (by decide) (by decide) q9) rfl (Nat.le_of_ble_eq_true rfl) ⟨Nat.le_of_ble_eq_true rfl, Nat.le_of_ble_eq_true rfl⟩ ⟨Nat.zero_le _, Nat.zero_le _⟩ (fun _ _ _ z => z.elim) rfl (fun r_21 h_21 q_21 => ?_)
  obtain ⟨z, a9, rfl, hT_21, hF_21, hz_21, fq⟩ := q_21
  have hT_21 : TW b h_21 (tS (scT (aM ms) (n + 1)) 7 (nI a9)) := hT_21
  have hG_21 := Fr.trans hG_3 hF_21
  have ha9 : a9 ≤ n := by rw [fq.1]; exact qW9.2.1
  have b18 : a9 ≤ 1800 := by have := hS.2.2.2; omega
  have tk9 := hS.1 a9 ha9; have Ktk9 := tk9.2.1
  refine AW.sts (st' := [.int (bI z)]) rfl ?_
  refine aw_if_eq (n := 27) (tgt := 43) dX3_ask_24 (by decide) rfl (fun c_24 => ?_) (fun c_24 => ?_)
  · skip
    have b_24 : z = false := (bI_0 _).mp c_24
    refine aw_aload_n (n := 44) dX3_ask_43 rfl 0 rfl rfl ?_
    refine aw_iconst (n := 45) (v := 1) dX3_ask_44 (by decide) rfl ?_
    refine aw_aload_n (n := 46) dX3_ask_45 rfl 0 rfl rfl ?_
    refine aw_getf (n := 49) (v := .int (nI a9)) (C0 := RX3) (T := TX3) dX3_ask_46 rfl 7 q2648 (Or.inl rfl) hT_21.1 (congrArg some (congrArg Value.int rfl)) rfl ?_
    refine AW.sts (st' := [.int (nI a9), .int (nI 1), .ref b]) (by rw [show (1 : Int32) = nI 1 from (by rfl)]) ?_
    refine aw_callV (n := 52) (C0 := RX3) (As := [.int (nI 1), .int (nI a9)]) (rest := []) (K2 := kX3_wrong) dX3_ask_49 q2935 q2937 qs66 q113 q2938 ⟨rfl, hcX3_wrong⟩ rfl hT_21.1 (ct_wrong G h_21 b (tS (scT (aM ms) (n + 1)) 7 (nI a9)) hb hT_21 (TkV ms) a9 (hS.1 a9 ha9) 1) rfl (Nat.le_of_ble_eq_true rfl) ⟨Nat.le_of_ble_eq_true rfl, Nat.le_of_ble_eq_true rfl⟩ ⟨Nat.zero_le _, Nat.zero_le _⟩ (fun _ _ _ z => z.elim) rfl (fun r_49 h_49 q_49 => ?_)
    obtain ⟨rfl, hT_49, hF_49, hz_49⟩ := q_49
    have hG_49 := Fr.trans hG_21 hF_49
    refine AW.sts (st' := [.int (nI 1)]) rfl ?_
    refine aw_istore_n (n := 53) (lv' := [(1, .int (nI 1)), (0, .ref b)]) dX3_ask_52 rfl (by decide) rfl rfl ?_
    refine aw_aload_n (n := 54) dX3_ask_53 rfl 1 rfl rfl ?_
    refine aw_iconst (n := 55) (v := 0) dX3_ask_54 (by decide) rfl ?_
    refine aw_tput (n := 58) (k := 7) dX3_ask_55 q2648 (by decide) rfl rfl rfl rfl rfl hT_49 hb rfl rfl (fun h_4 hT_4 hF_4 hz_4 => ?_)
    have hG_4 := Fr.trans hG_49 hF_4
    obtain ⟨m1, hm1⟩ : ∃ m : tM, m = tS (tS (tS (scT (aM ms) (n + 1)) 7 (nI a9)) 3 (nI ((TkV ms).2.1 a9))) 7 (0 : Int32) := ⟨_, rfl⟩
    have hm2 : ∀ k : Nat, k ≠ 0 → k ≠ 3 → k ≠ 7 → m1.1 k = ms.1 k := fun k h0 h3 h7 => by rw [hm1]; show upd (upd (upd (scT (aM ms) (n + 1)).1 7 (nI a9)) 3 _) 7 0 k = ms.1 k; rw [scT_1]; simp [upd, aM, tS, h7, h0, h3]
    have gm : mE (aS ms n) m1 := by rw [hm1]; have z9 := (((mE.of (mF.rf (aS ms n))).S (k := 7) (v := nI a9) (by decide)).S (k := 3) (v := nI ((TkV ms).2.1 a9)) (by decide)).S (k := 7) (v := 0) (by decide); rw [show tS (aS ms n) 7 (nI a9) = (tS (scT (aM ms) (n + 1)) 7 (nI a9)) from by unfold aS; rw [tS_tS]] at z9; exact z9
    have hm3 : m1.1 3 = nI ((TkV ms).2.1 a9) := by rw [hm1]; rfl
    have hT_b : TW b h_4 m1 := by rw [hm1]; exact hT_4
    refine aw_aload_n (n := 59) dX3_ask_58 rfl 1 rfl rfl ?_
    refine aw_getf (n := 62) (v := .int (ms.1 28)) (C0 := RX3) (T := TX3) dX3_ask_59 rfl 28 q2669 (Or.inl rfl) hT_b.1 (congrArg some (congrArg Value.int ((hm2 28 (by decide) (by decide) (by decide)).trans rfl))) rfl ?_
    refine aw_iconst (n := 63) (v := (-1)) dX3_ask_62 (by decide) rfl ?_
    refine aw_icmp_ne (n := 66) (tgt := 73) dX3_ask_63 (by decide) rfl (fun c_63 => ?_) (fun c_63 => ?_)
    · skip
      refine aw_aload_n (n := 74) dX3_ask_73 rfl 1 rfl rfl ?_
      refine aw_getf (n := 77) (v := .int (nI (En ms))) (C0 := RX3) (T := TX3) dX3_ask_74 rfl 40 q2681 (Or.inl rfl) hT_b.1 (congrArg some (congrArg Value.int ((hm2 40 (by decide) (by decide) (by decide)).trans (hE (by assumption)).1))) rfl ?_
      refine AW.sts (st' := [.int (nI (bsN ms))]) (by simp [bsN, c_63]) ?_
      refine aw_istore_n (n := 78) (lv' := [(2, .int (nI (bsN ms))), (1, .int (nI 1)), (0, .ref b)]) dX3_ask_77 rfl (by decide) rfl rfl ?_
      refine aw_aload_n (n := 79) dX3_ask_78 rfl 2 rfl rfl ?_
      refine aw_iload_n (n := 80) dX3_ask_79 rfl 0 rfl rfl ?_
      refine aw_tput (n := 83) (k := 8) dX3_ask_80 q2649 (by decide) rfl rfl rfl rfl rfl hT_b hb rfl rfl (fun h_5 hT_5 hF_5 hz_5 => ?_)
      have hG_5 := Fr.trans hG_4 hF_5
      refine aw_iload_n (n := 84) dX3_ask_83 rfl 1 rfl rfl ?_
      refine aw_if_ne (n := 87) (tgt := 92) dX3_ask_84 (by decide) rfl (fun c_84 => ?_) (fun c_84 => ?_)
      · skip
        refine aw_aload_n (n := 93) dX3_ask_92 rfl 2 rfl rfl ?_
        refine aw_iconst (n := 94) (v := 0) dX3_ask_93 (by decide) rfl ?_
        refine aw_tput (n := 97) (k := 2) dX3_ask_94 q2643 (by decide) rfl rfl rfl rfl rfl hT_5 hb rfl rfl (fun h_6 hT_6 hF_6 hz_6 => ?_)
        have hG_6 := Fr.trans hG_5 hF_6
        refine aw_iload_n (n := 98) dX3_ask_97 rfl 1 rfl rfl ?_
        refine aw_if_eq (n := 101) (tgt := 103) dX3_ask_98 (by decide) rfl (fun c_98 => ?_) (fun c_98 => ?_)
        · skip
          exact absurd c_98 (by decide +kernel)
        · skip
          refine aw_iload_n (n := 102) dX3_ask_101 rfl 1 rfl rfl ?_
          exact aw_iret dX3_ask_102 rfl ⟨n, 1, (TkV ms).2.1 a9, tS m1 8 (nI (bsN ms)), tS (tS m1 8 (nI (bsN ms))) 2 0, rfl, hn0, hne, hT_6, hG_6, by omega, Or.inl ⟨(by first | exact Or.inr (Or.inr (fq.1 ▸ n_36)) | exact (fq.2.2 b_24).elim Or.inl (fun z => Or.inr (Or.inl z))), rfl, by rw [fq.1]⟩, fun z => absurd z (by decide), fun _ => ⟨⟨fun k h3 h7 h8 h17 h37 h38 => (gm.S (k := 8) (v := nI (bsN ms)) (by decide)).1 k h3 h7 h8 h17 h37 h38 |>.trans (by show _ = upd (aS ms n).1 8 _ k; simp [upd, h8]), gm.2.1, fun k j hj => congrFun (by rw [hm1]; rfl) j, gm.2.2.2⟩, hm3, rfl⟩⟩ ⟨Nat.zero_le _, Nat.zero_le _⟩
      · skip
        exact absurd c_84 (by decide +kernel)
    · skip
      refine aw_aload_n (n := 67) dX3_ask_66 rfl 1 rfl rfl ?_
      refine aw_getf (n := 70) (v := .int (nI (Pn ms))) (C0 := RX3) (T := TX3) dX3_ask_67 rfl 27 q2668 (Or.inl rfl) hT_b.1 (congrArg some (congrArg Value.int ((hm2 27 (by decide) (by decide) (by decide)).trans hP))) rfl ?_
      refine aw_goto (tgt := 77) dX3_ask_70 (by decide) ?_
      refine AW.sts (st' := [.int (nI (bsN ms))]) (by simp [bsN, c_63]) ?_
      refine aw_istore_n (n := 78) (lv' := [(2, .int (nI (bsN ms))), (1, .int (nI 1)), (0, .ref b)]) dX3_ask_77 rfl (by decide) rfl rfl ?_
      refine aw_aload_n (n := 79) dX3_ask_78 rfl 2 rfl rfl ?_
      refine aw_iload_n (n := 80) dX3_ask_79 rfl 0 rfl rfl ?_
      refine aw_tput (n := 83) (k := 8) dX3_ask_80 q2649 (by decide) rfl rfl rfl rfl rfl hT_b hb rfl rfl (fun h_7 hT_7 hF_7 hz_7 => ?_)
      have hG_7 := Fr.trans hG_4 hF_7
      refine aw_iload_n (n := 84) dX3_ask_83 rfl 1 rfl rfl ?_
      refine aw_if_ne (n := 87) (tgt := 92) dX3_ask_84 (by decide) rfl (fun c_84_2 => ?_) (fun c_84_2 => ?_)
      · skip
        refine aw_aload_n (n := 93) dX3_ask_92 rfl 2 rfl rfl ?_
        refine aw_iconst (n := 94) (v := 0) dX3_ask_93 (by decide) rfl ?_
        refine aw_tput (n := 97) (k := 2) dX3_ask_94 q2643 (by decide) rfl rfl rfl rfl rfl hT_7 hb rfl rfl (fun h_8 hT_8 hF_8 hz_8 => ?_)
        have hG_8 := Fr.trans hG_7 hF_8
        refine aw_iload_n (n := 98) dX3_ask_97 rfl 1 rfl rfl ?_
        refine aw_if_eq (n := 101) (tgt := 103) dX3_ask_98 (by decide) rfl (fun c_98_2 => ?_) (fun c_98_2 => ?_)
        · skip
          exact absurd c_98_2 (by decide +kernel)
        · skip
          refine aw_iload_n (n := 102) dX3_ask_101 rfl 1 rfl rfl ?_
          exact aw_iret dX3_ask_102 rfl ⟨n, 1, (TkV ms).2.1 a9, tS m1 8 (nI (bsN ms)), tS (tS m1 8 (nI (bsN ms))) 2 0, rfl, hn0, hne, hT_8, hG_8, by omega, Or.inl ⟨(by first | exact Or.inr (Or.inr (fq.1 ▸ n_36)) | exact (fq.2.2 b_24).elim Or.inl (fun z => Or.inr (Or.inl z))), rfl, by rw [fq.1]⟩, fun z => absurd z (by decide), fun _ => ⟨⟨fun k h3 h7 h8 h17 h37 h38 => (gm.S (k := 8) (v := nI (bsN ms)) (by decide)).1 k h3 h7 h8 h17 h37 h38 |>.trans (by show _ = upd (aS ms n).1 8 _ k; simp [upd, h8]), gm.2.1, fun k j hj => congrFun (by rw [hm1]; rfl) j, gm.2.2.2⟩, hm3, rfl⟩⟩ ⟨Nat.zero_le _, Nat.zero_le _⟩
      · skip
        exact absurd c_84_2 (by decide +kernel)
  · skip
    have b_24 : z = true := Bool.of_not_eq_false (fun e => c_24 ((bI_0 _).mpr e))
    refine aw_aload_n (n := 28) dX3_ask_27 rfl 0 rfl rfl ?_
    refine aw_getf (n := 31) (v := .ref (b + 2)) (C0 := RX3) (T := TX3) dX3_ask_28 rfl 4 q2645 (Or.inl rfl) hT_21.1 rfl rfl ?_
    refine aw_aload_n (n := 32) dX3_ask_31 rfl 0 rfl rfl ?_
    refine aw_getf (n := 35) (v := .int (nI a9)) (C0 := RX3) (T := TX3) dX3_ask_32 rfl 7 q2648 (Or.inl rfl) hT_21.1 (congrArg some (congrArg Value.int rfl)) rfl ?_
    refine aw_iald (n := 36) (v := .int ((tS (scT (aM ms) (n + 1)) 7 (nI a9)).2.1 4 a9)) dX3_ask_35 rfl a9 rfl hT_21.a4 (by omega) (by decide) rfl rfl ?_
    refine aw_if_ne (n := 39) (tgt := 43) dX3_ask_36 (by decide) rfl (fun c_36 => ?_) (fun c_36 => ?_)
    · skip
      have n_36 : ¬ (((TkV ms).1 a9) = 0) := fun z => c_36 (by have y := (nI_eq (a := ((TkV ms).1 a9)) (b := 0) (by omega) (by omega)).mpr z; rw [← (tk9.2.2.1 : ((tS (scT (aM ms) (n + 1)) 7 (nI a9)).2.1 4 a9) = nI ((TkV ms).1 a9)), ← ((by rfl) : (0 : Int32) = nI 0)] at y; exact y)
      refine aw_aload_n (n := 44) dX3_ask_43 rfl 0 rfl rfl ?_
      refine aw_iconst (n := 45) (v := 1) dX3_ask_44 (by decide) rfl ?_
      refine aw_aload_n (n := 46) dX3_ask_45 rfl 0 rfl rfl ?_
      refine aw_getf (n := 49) (v := .int (nI a9)) (C0 := RX3) (T := TX3) dX3_ask_46 rfl 7 q2648 (Or.inl rfl) hT_21.1 (congrArg some (congrArg Value.int rfl)) rfl ?_
      refine AW.sts (st' := [.int (nI a9), .int (nI 1), .ref b]) (by rw [show (1 : Int32) = nI 1 from (by rfl)]) ?_
      refine aw_callV (n := 52) (C0 := RX3) (As := [.int (nI 1), .int (nI a9)]) (rest := []) (K2 := kX3_wrong) dX3_ask_49 q2935 q2937 qs66 q113 q2938 ⟨rfl, hcX3_wrong⟩ rfl hT_21.1 (ct_wrong G h_21 b (tS (scT (aM ms) (n + 1)) 7 (nI a9)) hb hT_21 (TkV ms) a9 (hS.1 a9 ha9) 1) rfl (Nat.le_of_ble_eq_true rfl) ⟨Nat.le_of_ble_eq_true rfl, Nat.le_of_ble_eq_true rfl⟩ ⟨Nat.zero_le _, Nat.zero_le _⟩ (fun _ _ _ z => z.elim) rfl (fun r_49 h_49 q_49 => ?_)
      obtain ⟨rfl, hT_49, hF_49, hz_49⟩ := q_49
      have hG_49 := Fr.trans hG_21 hF_49
      refine AW.sts (st' := [.int (nI 1)]) rfl ?_
      refine aw_istore_n (n := 53) (lv' := [(1, .int (nI 1)), (0, .ref b)]) dX3_ask_52 rfl (by decide) rfl rfl ?_
      refine aw_aload_n (n := 54) dX3_ask_53 rfl 1 rfl rfl ?_
      refine aw_iconst (n := 55) (v := 0) dX3_ask_54 (by decide) rfl ?_
      refine aw_tput (n := 58) (k := 7) dX3_ask_55 q2648 (by decide) rfl rfl rfl rfl rfl hT_49 hb rfl rfl (fun h_9 hT_9 hF_9 hz_9 => ?_)
      have hG_9 := Fr.trans hG_49 hF_9
      obtain ⟨m1, hm1⟩ : ∃ m : tM, m = tS (tS (tS (scT (aM ms) (n + 1)) 7 (nI a9)) 3 (nI ((TkV ms).2.1 a9))) 7 (0 : Int32) := ⟨_, rfl⟩
      have hm2 : ∀ k : Nat, k ≠ 0 → k ≠ 3 → k ≠ 7 → m1.1 k = ms.1 k := fun k h0 h3 h7 => by rw [hm1]; show upd (upd (upd (scT (aM ms) (n + 1)).1 7 (nI a9)) 3 _) 7 0 k = ms.1 k; rw [scT_1]; simp [upd, aM, tS, h7, h0, h3]
      have gm : mE (aS ms n) m1 := by rw [hm1]; have z9 := (((mE.of (mF.rf (aS ms n))).S (k := 7) (v := nI a9) (by decide)).S (k := 3) (v := nI ((TkV ms).2.1 a9)) (by decide)).S (k := 7) (v := 0) (by decide); rw [show tS (aS ms n) 7 (nI a9) = (tS (scT (aM ms) (n + 1)) 7 (nI a9)) from by unfold aS; rw [tS_tS]] at z9; exact z9
      have hm3 : m1.1 3 = nI ((TkV ms).2.1 a9) := by rw [hm1]; rfl
      have hT_b : TW b h_9 m1 := by rw [hm1]; exact hT_9
      refine aw_aload_n (n := 59) dX3_ask_58 rfl 1 rfl rfl ?_
      refine aw_getf (n := 62) (v := .int (ms.1 28)) (C0 := RX3) (T := TX3) dX3_ask_59 rfl 28 q2669 (Or.inl rfl) hT_b.1 (congrArg some (congrArg Value.int ((hm2 28 (by decide) (by decide) (by decide)).trans rfl))) rfl ?_
      refine aw_iconst (n := 63) (v := (-1)) dX3_ask_62 (by decide) rfl ?_
      refine aw_icmp_ne (n := 66) (tgt := 73) dX3_ask_63 (by decide) rfl (fun c_63_2 => ?_) (fun c_63_2 => ?_)
      · skip
        refine aw_aload_n (n := 74) dX3_ask_73 rfl 1 rfl rfl ?_
        refine aw_getf (n := 77) (v := .int (nI (En ms))) (C0 := RX3) (T := TX3) dX3_ask_74 rfl 40 q2681 (Or.inl rfl) hT_b.1 (congrArg some (congrArg Value.int ((hm2 40 (by decide) (by decide) (by decide)).trans (hE (by assumption)).1))) rfl ?_
        refine AW.sts (st' := [.int (nI (bsN ms))]) (by simp [bsN, c_63_2]) ?_
        refine aw_istore_n (n := 78) (lv' := [(2, .int (nI (bsN ms))), (1, .int (nI 1)), (0, .ref b)]) dX3_ask_77 rfl (by decide) rfl rfl ?_
        refine aw_aload_n (n := 79) dX3_ask_78 rfl 2 rfl rfl ?_
        refine aw_iload_n (n := 80) dX3_ask_79 rfl 0 rfl rfl ?_
        refine aw_tput (n := 83) (k := 8) dX3_ask_80 q2649 (by decide) rfl rfl rfl rfl rfl hT_b hb rfl rfl (fun h_10 hT_10 hF_10 hz_10 => ?_)
        have hG_10 := Fr.trans hG_9 hF_10
        refine aw_iload_n (n := 84) dX3_ask_83 rfl 1 rfl rfl ?_
        refine aw_if_ne (n := 87) (tgt := 92) dX3_ask_84 (by decide) rfl (fun c_84_3 => ?_) (fun c_84_3 => ?_)
        · skip
          refine aw_aload_n (n := 93) dX3_ask_92 rfl 2 rfl rfl ?_
          refine aw_iconst (n := 94) (v := 0) dX3_ask_93 (by decide) rfl ?_
          refine aw_tput (n := 97) (k := 2) dX3_ask_94 q2643 (by decide) rfl rfl rfl rfl rfl hT_10 hb rfl rfl (fun h_11 hT_11 hF_11 hz_11 => ?_)
          have hG_11 := Fr.trans hG_10 hF_11
          refine aw_iload_n (n := 98) dX3_ask_97 rfl 1 rfl rfl ?_
          refine aw_if_eq (n := 101) (tgt := 103) dX3_ask_98 (by decide) rfl (fun c_98_3 => ?_) (fun c_98_3 => ?_)
          · skip
            exact absurd c_98_3 (by decide +kernel)
          · skip
            refine aw_iload_n (n := 102) dX3_ask_101 rfl 1 rfl rfl ?_
            exact aw_iret dX3_ask_102 rfl ⟨n, 1, (TkV ms).2.1 a9, tS m1 8 (nI (bsN ms)), tS (tS m1 8 (nI (bsN ms))) 2 0, rfl, hn0, hne, hT_11, hG_11, by omega, Or.inl ⟨(by first | exact Or.inr (Or.inr (fq.1 ▸ n_36)) | exact (fq.2.2 b_24).elim Or.inl (fun z => Or.inr (Or.inl z))), rfl, by rw [fq.1]⟩, fun z => absurd z (by decide), fun _ => ⟨⟨fun k h3 h7 h8 h17 h37 h38 => (gm.S (k := 8) (v := nI (bsN ms)) (by decide)).1 k h3 h7 h8 h17 h37 h38 |>.trans (by show _ = upd (aS ms n).1 8 _ k; simp [upd, h8]), gm.2.1, fun k j hj => congrFun (by rw [hm1]; rfl) j, gm.2.2.2⟩, hm3, rfl⟩⟩ ⟨Nat.zero_le _, Nat.zero_le _⟩
        · skip
          exact absurd c_84_3 (by decide +kernel)
      · skip
        refine aw_aload_n (n := 67) dX3_ask_66 rfl 1 rfl rfl ?_
        refine aw_getf (n := 70) (v := .int (nI (Pn ms))) (C0 := RX3) (T := TX3) dX3_ask_67 rfl 27 q2668 (Or.inl rfl) hT_b.1 (congrArg some (congrArg Value.int ((hm2 27 (by decide) (by decide) (by decide)).trans hP))) rfl ?_
        refine aw_goto (tgt := 77) dX3_ask_70 (by decide) ?_
        refine AW.sts (st' := [.int (nI (bsN ms))]) (by simp [bsN, c_63_2]) ?_
        refine aw_istore_n (n := 78) (lv' := [(2, .int (nI (bsN ms))), (1, .int (nI 1)), (0, .ref b)]) dX3_ask_77 rfl (by decide) rfl rfl ?_
        refine aw_aload_n (n := 79) dX3_ask_78 rfl 2 rfl rfl ?_
        refine aw_iload_n (n := 80) dX3_ask_79 rfl 0 rfl rfl ?_
        refine aw_tput (n := 83) (k := 8) dX3_ask_80 q2649 (by decide) rfl rfl rfl rfl rfl hT_b hb rfl rfl (fun h_12 hT_12 hF_12 hz_12 => ?_)
        have hG_12 := Fr.trans hG_9 hF_12
        refine aw_iload_n (n := 84) dX3_ask_83 rfl 1 rfl rfl ?_
        refine aw_if_ne (n := 87) (tgt := 92) dX3_ask_84 (by decide) rfl (fun c_84_4 => ?_) (fun c_84_4 => ?_)
        · skip
          refine aw_aload_n (n := 93) dX3_ask_92 rfl 2 rfl rfl ?_
          refine aw_iconst (n := 94) (v := 0) dX3_ask_93 (by decide) rfl ?_
          refine aw_tput (n := 97) (k := 2) dX3_ask_94 q2643 (by decide) rfl rfl rfl rfl rfl hT_12 hb rfl rfl (fun h_13 hT_13 hF_13 hz_13 => ?_)
          have hG_13 := Fr.trans hG_12 hF_13
          refine aw_iload_n (n := 98) dX3_ask_97 rfl 1 rfl rfl ?_
          refine aw_if_eq (n := 101) (tgt := 103) dX3_ask_98 (by decide) rfl (fun c_98_4 => ?_) (fun c_98_4 => ?_)
          · skip
            exact absurd c_98_4 (by decide +kernel)
          · skip
            refine aw_iload_n (n := 102) dX3_ask_101 rfl 1 rfl rfl ?_
            exact aw_iret dX3_ask_102 rfl ⟨n, 1, (TkV ms).2.1 a9, tS m1 8 (nI (bsN ms)), tS (tS m1 8 (nI (bsN ms))) 2 0, rfl, hn0, hne, hT_13, hG_13, by omega, Or.inl ⟨(by first | exact Or.inr (Or.inr (fq.1 ▸ n_36)) | exact (fq.2.2 b_24).elim Or.inl (fun z => Or.inr (Or.inl z))), rfl, by rw [fq.1]⟩, fun z => absurd z (by decide), fun _ => ⟨⟨fun k h3 h7 h8 h17 h37 h38 => (gm.S (k := 8) (v := nI (bsN ms)) (by decide)).1 k h3 h7 h8 h17 h37 h38 |>.trans (by show _ = upd (aS ms n).1 8 _ k; simp [upd, h8]), gm.2.1, fun k j hj => congrFun (by rw [hm1]; rfl) j, gm.2.2.2⟩, hm3, rfl⟩⟩ ⟨Nat.zero_le _, Nat.zero_le _⟩
        · skip
          exact absurd c_84_4 (by decide +kernel)
    · skip
      have n_36 : ((TkV ms).1 a9) = 0 := (nI_eq (a := ((TkV ms).1 a9)) (b := 0) (by omega) (by omega)).mp (by rw [← (tk9.2.2.1 : ((tS (scT (aM ms) (n + 1)) 7 (nI a9)).2.1 4 a9) = nI ((TkV ms).1 a9)), ← ((by rfl) : (0 : Int32) = nI 0)]; exact c_36)
      refine aw_iconst (n := 40) (v := 0) dX3_ask_39 (by decide) rfl ?_
      refine aw_goto (tgt := 52) dX3_ask_40 (by decide) ?_
      refine aw_istore_n (n := 53) (lv' := [(1, .int 0), (0, .ref b)]) dX3_ask_52 rfl (by decide) rfl rfl ?_
      refine aw_aload_n (n := 54) dX3_ask_53 rfl 1 rfl rfl ?_
      refine aw_iconst (n := 55) (v := 0) dX3_ask_54 (by decide) rfl ?_
      refine aw_tput (n := 58) (k := 7) dX3_ask_55 q2648 (by decide) rfl rfl rfl rfl rfl hT_21 hb rfl rfl (fun h_14 hT_14 hF_14 hz_14 => ?_)
      have hG_14 := Fr.trans hG_21 hF_14
      have hT_c : TW b h_14 (aS ms n) := by have z9 := hT_14; rw [tS_tS] at z9; exact z9
      refine aw_aload_n (n := 59) dX3_ask_58 rfl 1 rfl rfl ?_
      refine aw_getf (n := 62) (v := .int (ms.1 28)) (C0 := RX3) (T := TX3) dX3_ask_59 rfl 28 q2669 (Or.inl rfl) hT_c.1 (congrArg some (congrArg Value.int ((aS_1 ms n (k := 28) (by decide) (by decide) (by decide)).trans rfl))) rfl ?_
      refine aw_iconst (n := 63) (v := (-1)) dX3_ask_62 (by decide) rfl ?_
      refine aw_icmp_ne (n := 66) (tgt := 73) dX3_ask_63 (by decide) rfl (fun c_63_3 => ?_) (fun c_63_3 => ?_)
      · skip
        refine aw_aload_n (n := 74) dX3_ask_73 rfl 1 rfl rfl ?_
        refine aw_getf (n := 77) (v := .int (nI (En ms))) (C0 := RX3) (T := TX3) dX3_ask_74 rfl 40 q2681 (Or.inl rfl) hT_c.1 (congrArg some (congrArg Value.int ((aS_1 ms n (k := 40) (by decide) (by decide) (by decide)).trans (hE (by assumption)).1))) rfl ?_
        refine AW.sts (st' := [.int (nI (bsN ms))]) (by simp [bsN, c_63_3]) ?_
        refine aw_istore_n (n := 78) (lv' := [(2, .int (nI (bsN ms))), (1, .int 0), (0, .ref b)]) dX3_ask_77 rfl (by decide) rfl rfl ?_
        refine aw_aload_n (n := 79) dX3_ask_78 rfl 2 rfl rfl ?_
        refine aw_iload_n (n := 80) dX3_ask_79 rfl 0 rfl rfl ?_
        refine aw_tput (n := 83) (k := 8) dX3_ask_80 q2649 (by decide) rfl rfl rfl rfl rfl hT_c hb rfl rfl (fun h_15 hT_15 hF_15 hz_15 => ?_)
        have hG_15 := Fr.trans hG_14 hF_15
        refine aw_iload_n (n := 84) dX3_ask_83 rfl 1 rfl rfl ?_
        refine aw_if_ne (n := 87) (tgt := 92) dX3_ask_84 (by decide) rfl (fun c_84_5 => ?_) (fun c_84_5 => ?_)
        · skip
          exact absurd c_84_5 (by decide +kernel)
        · skip
          refine aw_aload_n (n := 88) dX3_ask_87 rfl 2 rfl rfl ?_
          have q0 : (qX (TkV ms) 520 0 0 0).1 = 0 := fq.2.1 b_24
          have t0 : (TkV ms).1 (qX (TkV ms) 520 0 0 0).2 = 0 := by rw [← fq.1]; exact n_36
          have n4 : n ≤ 400 := by have z2 := qW9.2.2; have z3 := qW9.2.1; exact (Nat.lt_or_ge (qX (TkV ms) 520 0 0 0).2 n).elim (fun l => absurd t0 (hS.2.2.1 _ l)) (fun l => by omega)
          have np := (pQ_X (TkV ms) true 520 0 0 0 (aF ms n)).1 q0
          have hmF := aF_mS (n := n) hm
          have V := pX_inv (TkV ms) 520 0 0 0 802 (aF ms n) (by decide) (by decide) (by decide) hmF
          obtain ⟨R, hR⟩ : ∃ R : pR, pX (TkV ms) true 520 0 0 0 (aF ms n) = R := ⟨_, rfl⟩
          obtain ⟨e8, l8, a8, w8⟩ := R
          have cE : e8 = (pX (TkV ms) true 520 0 0 0 (aF ms n)).1 ∧ l8 = (pX (TkV ms) true 520 0 0 0 (aF ms n)).2.1 := by rw [hR]; exact ⟨rfl, rfl⟩
          rw [hR] at V
          refine aw_callV (n := 91) (C0 := RX3) (As := []) (rest := []) (K2 := kX3_formula) dX3_ask_88 q2986 q2988 qs78 q113 q2989 ⟨rfl, hcX3_formula⟩ rfl hT_15.1 (meAll_all G 520 0 h_15 b (aF ms n) (TkV ms) n 0 0 802 (by decide) hb hT_15 hS n4 (Nat.zero_le _) (by decide) (by decide) hmF np.1 np.2) rfl (Nat.le_of_ble_eq_true rfl) ⟨Nat.le_of_ble_eq_true rfl, Nat.le_of_ble_eq_true rfl⟩ ⟨Nat.zero_le _, Nat.zero_le _⟩ (fun _ _ _ z => z.elim) rfl (fun r_88 h_88 q_88 => ?_)
          obtain ⟨m8, rfl, hT_88, hF_88, hz_88, ok, er⟩ := q_88
          rw [hR] at ok er
          dsimp only at ok er
          have hG_88 := Fr.trans hG_15 hF_88
          rcases Nat.eq_zero_or_pos e8 with y | y
          · skip
            subst y
            have ok1 := ok rfl; subst ok1; replace V := V rfl; dsimp only at V
            obtain ⟨⟨V1, V2, V3, V4⟩, V5⟩ := V
            have P8 : m8.1 27 = nI (Pn ms) := (V4.2.1 27 (by decide) (by decide) (by decide) (by decide) (by decide)).trans ((aS_1 ms n (k := 27) (by decide) (by decide) (by decide)).trans hP)
            have N8 := V3.2.1; have N9 := V3.2.2.1
            have B8 : bsN ms ≤ nn m8 := by have z := V4.1; have z2 : nn (aF ms n) = bsN ms := (nN_nI (by omega)); omega
            refine AW.sts (st' := [.int 0]) (by rw [hR]; rfl) ?_
            refine aw_istore_n (n := 92) (lv' := [(1, .int 0), (2, .int (nI (bsN ms))), (0, .ref b)]) dX3_ask_91 rfl (by decide) rfl rfl ?_
            refine aw_aload_n (n := 93) dX3_ask_92 rfl 2 rfl rfl ?_
            refine aw_iconst (n := 94) (v := 0) dX3_ask_93 (by decide) rfl ?_
            refine aw_tput (n := 97) (k := 2) dX3_ask_94 q2643 (by decide) rfl rfl rfl rfl rfl hT_88 hb rfl rfl (fun h_16 hT_16 hF_16 hz_16 => ?_)
            have hG_16 := Fr.trans hG_88 hF_16
            refine aw_iload_n (n := 98) dX3_ask_97 rfl 0 rfl rfl ?_
            refine aw_if_eq (n := 101) (tgt := 103) dX3_ask_98 (by decide) rfl (fun c_98_5 => ?_) (fun c_98_5 => ?_)
            · skip
              refine aw_aload_n (n := 104) dX3_ask_103 rfl 2 rfl rfl ?_
              refine aw_aload_n (n := 105) dX3_ask_104 rfl 2 rfl rfl ?_
              refine aw_iload_n (n := 106) dX3_ask_105 rfl 1 rfl rfl ?_
              refine aw_callV (n := 109) (C0 := RX3) (As := [.int (nI (bsN ms))]) (rest := [.ref b]) (K2 := kX3_moveQuestion) dX3_ask_106 q3182 q3184 qs104 q113 q3185 ⟨rfl, hcX3_moveQuestion⟩ rfl hT_16.1 (ct_moveQuestion G h_16 b (tS m8 2 0) hb hT_16 (Pn ms) (bsN ms) (nn m8) P8 hPB N8 B8 (by omega)) rfl (Nat.le_of_ble_eq_true rfl) ⟨Nat.le_of_ble_eq_true rfl, Nat.le_of_ble_eq_true rfl⟩ ⟨Nat.zero_le _, Nat.zero_le _⟩ (fun _ _ _ z => z.elim) rfl (fun r_106 h_106 q_106 => ?_)
              obtain ⟨rfl, hT_106, hF_106, hz_106⟩ := q_106
              have hG_106 := Fr.trans hG_16 hF_106
              refine AW.sts (st' := [.int (m8.1 17 - nI (bsN ms - Pn ms)), .ref b]) rfl ?_
              refine aw_tput (n := 112) (k := 28) dX3_ask_109 q2669 (by decide) rfl rfl rfl rfl rfl hT_106 hb rfl rfl (fun h_17 hT_17 hF_17 hz_17 => ?_)
              have hG_17 := Fr.trans hG_106 hF_17
              refine aw_aload_n (n := 113) dX3_ask_112 rfl 2 rfl rfl ?_
              refine aw_aload_n (n := 114) dX3_ask_113 rfl 2 rfl rfl ?_
              refine aw_getf (n := 117) (v := .int (nI (nn m8 - (bsN ms - Pn ms)))) (C0 := RX3) (T := TX3) dX3_ask_114 rfl 8 q2649 (Or.inl rfl) hT_17.1 (congrArg some (congrArg Value.int rfl)) rfl ?_
              refine aw_tput (n := 120) (k := 40) dX3_ask_117 q2681 (by decide) rfl rfl rfl rfl rfl hT_17 hb rfl rfl (fun h_18 hT_18 hF_18 hz_18 => ?_)
              have hG_18 := Fr.trans hG_17 hF_18
              refine aw_iconst (n := 121) (v := 0) dX3_ask_120 (by decide) rfl ?_
              exact aw_iret dX3_ask_121 rfl ⟨n, 0, 0, m8, aqOK ms m8, rfl, hn0, hne, hT_18, hG_18, by omega, Or.inr ⟨q0, t0, n4, cE.1, fun z => absurd rfl z⟩, fun _ => by rw [hR], fun z => absurd rfl z⟩ ⟨Nat.zero_le _, Nat.zero_le _⟩
            · skip
              exact absurd c_98_5 (by decide +kernel)
          · skip
            obtain ⟨gm, hm3, e50⟩ := er (by omega)
            refine AW.sts (st' := [.int (nI e8)]) (by rw [hR]; rfl) ?_
            refine aw_istore_n (n := 92) (lv' := [(1, .int (nI e8)), (2, .int (nI (bsN ms))), (0, .ref b)]) dX3_ask_91 rfl (by decide) rfl rfl ?_
            refine aw_aload_n (n := 93) dX3_ask_92 rfl 2 rfl rfl ?_
            refine aw_iconst (n := 94) (v := 0) dX3_ask_93 (by decide) rfl ?_
            refine aw_tput (n := 97) (k := 2) dX3_ask_94 q2643 (by decide) rfl rfl rfl rfl rfl hT_88 hb rfl rfl (fun h_19 hT_19 hF_19 hz_19 => ?_)
            have hG_19 := Fr.trans hG_88 hF_19
            refine aw_iload_n (n := 98) dX3_ask_97 rfl 0 rfl rfl ?_
            refine aw_if_eq (n := 101) (tgt := 103) dX3_ask_98 (by decide) rfl (fun c_98_6 => ?_) (fun c_98_6 => ?_)
            · skip
              have n_98_6 : e8 = 0 := (nI_eq (a := e8) (b := 0) (by omega) (by omega)).mp (by rw [← ((by rfl) : (0 : Int32) = nI 0)]; exact c_98_6)
              exact absurd n_98_6 (by omega)
            · skip
              have n_98_6 : ¬ (e8 = 0) := fun z => c_98_6 (by have y := (nI_eq (a := e8) (b := 0) (by omega) (by omega)).mpr z; rw [← ((by rfl) : (0 : Int32) = nI 0)] at y; exact y)
              refine aw_iload_n (n := 102) dX3_ask_101 rfl 0 rfl rfl ?_
              exact aw_iret dX3_ask_102 rfl ⟨n, e8, l8, m8, tS m8 2 0, rfl, hn0, hne, hT_19, hG_19, by omega, Or.inr ⟨q0, t0, n4, cE.1, fun _ => ⟨e50, cE.2⟩⟩, fun z => absurd z (by omega), fun _ => ⟨gm, hm3, rfl⟩⟩ ⟨Nat.zero_le _, Nat.zero_le _⟩
      · skip
        refine aw_aload_n (n := 67) dX3_ask_66 rfl 1 rfl rfl ?_
        refine aw_getf (n := 70) (v := .int (nI (Pn ms))) (C0 := RX3) (T := TX3) dX3_ask_67 rfl 27 q2668 (Or.inl rfl) hT_c.1 (congrArg some (congrArg Value.int ((aS_1 ms n (k := 27) (by decide) (by decide) (by decide)).trans hP))) rfl ?_
        refine aw_goto (tgt := 77) dX3_ask_70 (by decide) ?_
        refine AW.sts (st' := [.int (nI (bsN ms))]) (by simp [bsN, c_63_3]) ?_
        refine aw_istore_n (n := 78) (lv' := [(2, .int (nI (bsN ms))), (1, .int 0), (0, .ref b)]) dX3_ask_77 rfl (by decide) rfl rfl ?_
        refine aw_aload_n (n := 79) dX3_ask_78 rfl 2 rfl rfl ?_
        refine aw_iload_n (n := 80) dX3_ask_79 rfl 0 rfl rfl ?_
        refine aw_tput (n := 83) (k := 8) dX3_ask_80 q2649 (by decide) rfl rfl rfl rfl rfl hT_c hb rfl rfl (fun h_20 hT_20 hF_20 hz_20 => ?_)
        have hG_20 := Fr.trans hG_14 hF_20
        refine aw_iload_n (n := 84) dX3_ask_83 rfl 1 rfl rfl ?_
        refine aw_if_ne (n := 87) (tgt := 92) dX3_ask_84 (by decide) rfl (fun c_84_6 => ?_) (fun c_84_6 => ?_)
        · skip
          exact absurd c_84_6 (by decide +kernel)
        · skip
          refine aw_aload_n (n := 88) dX3_ask_87 rfl 2 rfl rfl ?_
          have q0 : (qX (TkV ms) 520 0 0 0).1 = 0 := fq.2.1 b_24
          have t0 : (TkV ms).1 (qX (TkV ms) 520 0 0 0).2 = 0 := by rw [← fq.1]; exact n_36
          have n4 : n ≤ 400 := by have z2 := qW9.2.2; have z3 := qW9.2.1; exact (Nat.lt_or_ge (qX (TkV ms) 520 0 0 0).2 n).elim (fun l => absurd t0 (hS.2.2.1 _ l)) (fun l => by omega)
          have np := (pQ_X (TkV ms) true 520 0 0 0 (aF ms n)).1 q0
          have hmF := aF_mS (n := n) hm
          have V := pX_inv (TkV ms) 520 0 0 0 802 (aF ms n) (by decide) (by decide) (by decide) hmF
          obtain ⟨R, hR⟩ : ∃ R : pR, pX (TkV ms) true 520 0 0 0 (aF ms n) = R := ⟨_, rfl⟩
          obtain ⟨e8, l8, a8, w8⟩ := R
          have cE : e8 = (pX (TkV ms) true 520 0 0 0 (aF ms n)).1 ∧ l8 = (pX (TkV ms) true 520 0 0 0 (aF ms n)).2.1 := by rw [hR]; exact ⟨rfl, rfl⟩
          rw [hR] at V
          refine aw_callV (n := 91) (C0 := RX3) (As := []) (rest := []) (K2 := kX3_formula) dX3_ask_88 q2986 q2988 qs78 q113 q2989 ⟨rfl, hcX3_formula⟩ rfl hT_20.1 (meAll_all G 520 0 h_20 b (aF ms n) (TkV ms) n 0 0 802 (by decide) hb hT_20 hS n4 (Nat.zero_le _) (by decide) (by decide) hmF np.1 np.2) rfl (Nat.le_of_ble_eq_true rfl) ⟨Nat.le_of_ble_eq_true rfl, Nat.le_of_ble_eq_true rfl⟩ ⟨Nat.zero_le _, Nat.zero_le _⟩ (fun _ _ _ z => z.elim) rfl (fun r_88 h_88 q_88 => ?_)
          obtain ⟨m8, rfl, hT_88, hF_88, hz_88, ok, er⟩ := q_88
          rw [hR] at ok er
          dsimp only at ok er
          have hG_88 := Fr.trans hG_20 hF_88
          rcases Nat.eq_zero_or_pos e8 with y | y
          · skip
            subst y
            have ok1 := ok rfl; subst ok1; replace V := V rfl; dsimp only at V
            obtain ⟨⟨V1, V2, V3, V4⟩, V5⟩ := V
            have P8 : m8.1 27 = nI (Pn ms) := (V4.2.1 27 (by decide) (by decide) (by decide) (by decide) (by decide)).trans ((aS_1 ms n (k := 27) (by decide) (by decide) (by decide)).trans hP)
            have N8 := V3.2.1; have N9 := V3.2.2.1
            have B8 : bsN ms ≤ nn m8 := by have z := V4.1; have z2 : nn (aF ms n) = bsN ms := (nN_nI (by omega)); omega
            refine AW.sts (st' := [.int 0]) (by rw [hR]; rfl) ?_
            refine aw_istore_n (n := 92) (lv' := [(1, .int 0), (2, .int (nI (bsN ms))), (0, .ref b)]) dX3_ask_91 rfl (by decide) rfl rfl ?_
            refine aw_aload_n (n := 93) dX3_ask_92 rfl 2 rfl rfl ?_
            refine aw_iconst (n := 94) (v := 0) dX3_ask_93 (by decide) rfl ?_
            refine aw_tput (n := 97) (k := 2) dX3_ask_94 q2643 (by decide) rfl rfl rfl rfl rfl hT_88 hb rfl rfl (fun h_21 hT_21 hF_21 hz_21 => ?_)
            have hG_21 := Fr.trans hG_88 hF_21
            refine aw_iload_n (n := 98) dX3_ask_97 rfl 0 rfl rfl ?_
            refine aw_if_eq (n := 101) (tgt := 103) dX3_ask_98 (by decide) rfl (fun c_98_7 => ?_) (fun c_98_7 => ?_)
            · skip
              refine aw_aload_n (n := 104) dX3_ask_103 rfl 2 rfl rfl ?_
              refine aw_aload_n (n := 105) dX3_ask_104 rfl 2 rfl rfl ?_
              refine aw_iload_n (n := 106) dX3_ask_105 rfl 1 rfl rfl ?_
              refine aw_callV (n := 109) (C0 := RX3) (As := [.int (nI (bsN ms))]) (rest := [.ref b]) (K2 := kX3_moveQuestion) dX3_ask_106 q3182 q3184 qs104 q113 q3185 ⟨rfl, hcX3_moveQuestion⟩ rfl hT_21.1 (ct_moveQuestion G h_21 b (tS m8 2 0) hb hT_21 (Pn ms) (bsN ms) (nn m8) P8 hPB N8 B8 (by omega)) rfl (Nat.le_of_ble_eq_true rfl) ⟨Nat.le_of_ble_eq_true rfl, Nat.le_of_ble_eq_true rfl⟩ ⟨Nat.zero_le _, Nat.zero_le _⟩ (fun _ _ _ z => z.elim) rfl (fun r_106 h_106 q_106 => ?_)
              obtain ⟨rfl, hT_106, hF_106, hz_106⟩ := q_106
              have hG_106 := Fr.trans hG_21 hF_106
              refine AW.sts (st' := [.int (m8.1 17 - nI (bsN ms - Pn ms)), .ref b]) rfl ?_
              refine aw_tput (n := 112) (k := 28) dX3_ask_109 q2669 (by decide) rfl rfl rfl rfl rfl hT_106 hb rfl rfl (fun h_22 hT_22 hF_22 hz_22 => ?_)
              have hG_22 := Fr.trans hG_106 hF_22
              refine aw_aload_n (n := 113) dX3_ask_112 rfl 2 rfl rfl ?_
              refine aw_aload_n (n := 114) dX3_ask_113 rfl 2 rfl rfl ?_
              refine aw_getf (n := 117) (v := .int (nI (nn m8 - (bsN ms - Pn ms)))) (C0 := RX3) (T := TX3) dX3_ask_114 rfl 8 q2649 (Or.inl rfl) hT_22.1 (congrArg some (congrArg Value.int rfl)) rfl ?_
              refine aw_tput (n := 120) (k := 40) dX3_ask_117 q2681 (by decide) rfl rfl rfl rfl rfl hT_22 hb rfl rfl (fun h_23 hT_23 hF_23 hz_23 => ?_)
              have hG_23 := Fr.trans hG_22 hF_23
              refine aw_iconst (n := 121) (v := 0) dX3_ask_120 (by decide) rfl ?_
              exact aw_iret dX3_ask_121 rfl ⟨n, 0, 0, m8, aqOK ms m8, rfl, hn0, hne, hT_23, hG_23, by omega, Or.inr ⟨q0, t0, n4, cE.1, fun z => absurd rfl z⟩, fun _ => by rw [hR], fun z => absurd rfl z⟩ ⟨Nat.zero_le _, Nat.zero_le _⟩
            · skip
              exact absurd c_98_7 (by decide +kernel)
          · skip
            obtain ⟨gm, hm3, e50⟩ := er (by omega)
            refine AW.sts (st' := [.int (nI e8)]) (by rw [hR]; rfl) ?_
            refine aw_istore_n (n := 92) (lv' := [(1, .int (nI e8)), (2, .int (nI (bsN ms))), (0, .ref b)]) dX3_ask_91 rfl (by decide) rfl rfl ?_
            refine aw_aload_n (n := 93) dX3_ask_92 rfl 2 rfl rfl ?_
            refine aw_iconst (n := 94) (v := 0) dX3_ask_93 (by decide) rfl ?_
            refine aw_tput (n := 97) (k := 2) dX3_ask_94 q2643 (by decide) rfl rfl rfl rfl rfl hT_88 hb rfl rfl (fun h_24 hT_24 hF_24 hz_24 => ?_)
            have hG_24 := Fr.trans hG_88 hF_24
            refine aw_iload_n (n := 98) dX3_ask_97 rfl 0 rfl rfl ?_
            refine aw_if_eq (n := 101) (tgt := 103) dX3_ask_98 (by decide) rfl (fun c_98_8 => ?_) (fun c_98_8 => ?_)
            · skip
              have n_98_8 : e8 = 0 := (nI_eq (a := e8) (b := 0) (by omega) (by omega)).mp (by rw [← ((by rfl) : (0 : Int32) = nI 0)]; exact c_98_8)
              exact absurd n_98_8 (by omega)
            · skip
              have n_98_8 : ¬ (e8 = 0) := fun z => c_98_8 (by have y := (nI_eq (a := e8) (b := 0) (by omega) (by omega)).mpr z; rw [← ((by rfl) : (0 : Int32) = nI 0)] at y; exact y)
              refine aw_iload_n (n := 102) dX3_ask_101 rfl 0 rfl rfl ?_
              exact aw_iret dX3_ask_102 rfl ⟨n, e8, l8, m8, tS m8 2 0, rfl, hn0, hne, hT_24, hG_24, by omega, Or.inr ⟨q0, t0, n4, cE.1, fun _ => ⟨e50, cE.2⟩⟩, fun z => absurd z (by omega), fun _ => ⟨gm, hm3, rfl⟩⟩ ⟨Nat.zero_le _, Nat.zero_le _⟩

end
