/-! The twin: meanings, names. -/
section
set_option maxRecDepth 100000
theorem cm_named (G : aG) (h : hH)  (b : Nat) (ms : tM) (T : Tv) (N a : Nat) (hb : gB G ≤ b) (hT : TW b h (ats ms (a + 1))) (hS : tkS ms T N) (hN4 : N ≤ 400) (hN : a ≤ N) (B : Nat) (hB : B + 1 ≤ 802) (hm : mS (B + 1) a ms) (hne0 : T.1 a ≠ 0) (h1 : (pNv T true a ms).1 ≠ 1) : Con G kX3_namedValue [.ref b, .int (nI a)] h ((5, 89, 0, 0), (fun r h1 => ∃ m9 : tM, r = some (.int (nI (pNv T true a ms).1)) ∧ TW b h1 m9 ∧ Fr (TS b) h h1 ∧ h1.1 = h.1 ∧ ((pNv T true a ms).1 = 0 → m9 = (pNv T true a ms).2.2.2) ∧ ((pNv T true a ms).1 ≠ 0 → mE ms m9 ∧ m9.1 3 = nI (pNv T true a ms).2.1 ∧ (pNv T true a ms).1 < 50)), nX) := by
  refine Con.of (plainFor_of_name rfl) rfl (Nat.le_of_ble_eq_true rfl) ?_
  refine AW.eq (lv2 := [(0, .ref b), (1, .int (nI a))]) (s2 := []) rfl rfl rfl rfl rfl ?_
  generalize hW_ : pNv T true a ms = W9 at h1 ⊢
  have hI0 : pM (B) a ms (a + 1) (ats ms (a + 1)) := (pM.rf hm (by omega)).at1 (at_end hN hN4 hS.2.1 hne0)
  have hg0 : W9 = pNv T true a ms := hW_.symm
  unfold pNv at hg0
  have hN1 : a + 1 ≤ N := lt_end hS.2.1 hN hne0
  have tk_1 := (hS.kept hI0.2.2.2).1 (a + 1) hN1; have Ktk_1 := tk_1.2.1
  try simp only [Bool.true_and, pT, ef, cond_true, gOr, gAnd, gSum, gPro, tS_tS, seesP_eq hN1 hN4 hS.2.1, nmP_eq hN1 hN4 hS.2.1, nuP_eq hN1 hN4 hS.2.1, whP_eq hN1 hN4 hS.2.1] at hg0
  refine aw_aload_n (n := 1) dX3_namedValue_0 rfl 0 rfl rfl ?_
  refine aw_iload_n (n := 2) dX3_namedValue_1 rfl 1 rfl rfl ?_
  refine aw_callV (n := 5) (C0 := RX3) (As := [.int (nI a)]) (rest := []) (K2 := kX3_find) dX3_namedValue_2 q2949 q2951 qs69 q113 q2952 ⟨rfl, hcX3_find⟩ rfl hT.1 (ct_find G h b (ats ms (a + 1)) hb hT T a ((hS.kept hI0.2.2.2).1 a hN) hI0.2.2.1.2.2.2.2.1 hI0.2.2.1.2.2.2.2.2.1) rfl (Nat.le_of_ble_eq_true rfl) ⟨Nat.le_of_ble_eq_true rfl, Nat.le_of_ble_eq_true rfl⟩ ⟨Nat.zero_le _, Nat.zero_le _⟩ (fun _ _ _ z => z.elim) rfl (fun r_2 h_2 q_2 => ?_)
  obtain ⟨rfl, rfl⟩ := q_2
  refine AW.sts (st' := [.int (fnT T (ats ms (a + 1)) a)]) rfl ?_
  refine aw_istore_n (n := 6) (lv' := [(2, .int (fnT T (ats ms (a + 1)) a)), (0, .ref b), (1, .int (nI a))]) dX3_namedValue_5 rfl (by decide) rfl rfl ?_
  refine aw_iload_n (n := 7) dX3_namedValue_6 rfl 0 rfl rfl ?_
  refine aw_iconst (n := 8) (v := (-1)) dX3_namedValue_7 (by decide) rfl ?_
  refine aw_icmp_eq (n := 11) (tgt := 23) dX3_namedValue_8 (by decide) rfl (fun c_8 => ?_) (fun c_8 => ?_)
  · skip
    have f_8 : nvT T ms a = true := by unfold nvT; rw [show fnT T ms a = -1 from c_8]; rfl
    have g_2 := pG_T hg0 (by first | assumption | simp [f_8])
    try dsimp only at g_2
    refine aw_aload_n (n := 24) dX3_namedValue_23 rfl 1 rfl rfl ?_
    refine aw_iconst (n := 25) (v := 2) dX3_namedValue_24 (by decide) rfl ?_
    refine aw_iload_n (n := 26) dX3_namedValue_25 rfl 2 rfl rfl ?_
    refine aw_callV (n := 29) (C0 := RX3) (As := [.int 2, .int (nI a)]) (rest := []) (K2 := kX3_wrong) dX3_namedValue_26 q2935 q2937 qs66 q113 q2938 ⟨rfl, hcX3_wrong⟩ rfl hT.1 (ct_wrong G h b (ats ms (a + 1)) hb hT T a ((hS.kept hI0.2.2.2).1 a hN) (2 : Int32)) rfl (Nat.le_of_ble_eq_true rfl) ⟨Nat.le_of_ble_eq_true rfl, Nat.le_of_ble_eq_true rfl⟩ ⟨Nat.zero_le _, Nat.zero_le _⟩ (fun _ _ _ z => z.elim) rfl (fun r_26 h_26 q_26 => ?_)
    obtain ⟨rfl, hT_26, hF_26, hz_26⟩ := q_26
    refine AW.sts (st' := [.int 2]) rfl ?_
    exact aw_iret dX3_namedValue_29 rfl ⟨tS (ats ms (a + 1)) 3 (nI (T.2.1 a)), by rw [g_2] <;> rfl, hT_26, hF_26, (by omega), fun z => absurd z (by rw [g_2]; exact (by decide : (2 : Nat) ≠ 0)), fun _ => ⟨(mE.of hI0.2.2.2).S (by decide), by rw [g_2] <;> rfl, by rw [g_2]; exact (by decide : (2 : Nat) < 50)⟩⟩ ⟨Nat.zero_le _, Nat.zero_le _⟩
  · skip
    obtain ⟨j, sr, q, g1, g2, g3, g4, g5, g6, g7, g8, g9⟩ := find_in (T := T) (t := a) hm.2.2.2.2 c_8
    have hnm4 := hm.2.2.2.2.2.1
    have g6r : ms.2.1 22 j = nI q := by have z := g6; rw [g1] at z; unfold numX at z; rw [nN_nI (by omega)] at z; exact z
    rcases (by omega : sr = 0 ∨ sr = 1 ∨ sr = 2 ∨ sr = 3) with rfl | rfl | rfl | rfl
    · skip
      have f_nv : nvT T ms a = false := by unfold nvT; rw [g3]; simp [show ¬ fnT T ms a = -1 from c_8]
      have g_3 := pG_F hg0 (by first | assumption | simp [f_nv])
      try dsimp only at g_3
      unfold valX at g_3
      rw [g3, g6] at g_3
      refine aw_aload_n (n := 12) dX3_namedValue_11 rfl 1 rfl rfl ?_
      refine aw_getf (n := 15) (v := .ref (b + 14)) (C0 := RX3) (T := TX3) dX3_namedValue_12 rfl 21 q2662 (Or.inl rfl) hT.1 rfl rfl ?_
      refine aw_iload_n (n := 16) dX3_namedValue_15 rfl 0 rfl rfl ?_
      refine aw_iald (n := 17) (v := .int ((ats ms (a + 1)).2.1 21 j)) dX3_namedValue_16 rfl j g1 hT.a21 (by omega) (by decide) rfl rfl ?_
      refine aw_iconst (n := 18) (v := 2) dX3_namedValue_17 (by decide) rfl ?_
      refine aw_irem (n := 19) dX3_namedValue_18 (by decide) rfl ?_
      refine AW.sts (st' := [.int 0]) (by rw [show (ats ms (a + 1)).2.1 21 j = nI 0 from g5]; rfl) ?_
      refine aw_iconst (n := 20) (v := 1) dX3_namedValue_19 (by decide) rfl ?_
      refine aw_icmp_ne (n := 23) (tgt := 30) dX3_namedValue_20 (by decide) rfl (fun c_20 => ?_) (fun c_20 => ?_)
      · skip
        refine aw_aload_n (n := 31) dX3_namedValue_30 rfl 1 rfl rfl ?_
        refine aw_getf (n := 34) (v := .ref (b + 14)) (C0 := RX3) (T := TX3) dX3_namedValue_31 rfl 21 q2662 (Or.inl rfl) hT.1 rfl rfl ?_
        refine aw_iload_n (n := 35) dX3_namedValue_34 rfl 0 rfl rfl ?_
        refine aw_iald (n := 36) (v := .int ((ats ms (a + 1)).2.1 21 j)) dX3_namedValue_35 rfl j g1 hT.a21 (by omega) (by decide) rfl rfl ?_
        refine aw_if_ne (n := 39) (tgt := 62) dX3_namedValue_36 (by decide) rfl (fun c_36 => ?_) (fun c_36 => ?_)
        · skip
          exact absurd c_36 (by rw [show ((ats ms (a + 1)).2.1 21 j) = nI 0 from g5]; decide +kernel)
        · skip
          refine aw_aload_n (n := 40) dX3_namedValue_39 rfl 1 rfl rfl ?_
          refine aw_bipush (n := 42) (v := 21) dX3_namedValue_40 (by decide) rfl ?_
          refine aw_aload_n (n := 43) dX3_namedValue_42 rfl 1 rfl rfl ?_
          refine aw_getf (n := 46) (v := .ref (b + 15)) (C0 := RX3) (T := TX3) dX3_namedValue_43 rfl 22 q2663 (Or.inl rfl) hT.1 rfl rfl ?_
          refine aw_iload_n (n := 47) dX3_namedValue_46 rfl 0 rfl rfl ?_
          refine aw_iald (n := 48) (v := .int ((ats ms (a + 1)).2.1 22 j)) dX3_namedValue_47 rfl j g1 hT.a22 (by omega) (by decide) rfl rfl ?_
          refine AW.sts (st' := [.int (nI q), .int 21, .ref b]) (by rw [show (ats ms (a + 1)).2.1 22 j = nI q from g6r]) ?_
          refine aw_iconst (n := 49) (v := (-1)) dX3_namedValue_48 (by decide) rfl ?_
          refine aw_iconst (n := 50) (v := (-1)) dX3_namedValue_49 (by decide) rfl ?_
          refine aw_aload_n (n := 51) dX3_namedValue_50 rfl 1 rfl rfl ?_
          refine aw_getf (n := 54) (v := .ref (b + 3)) (C0 := RX3) (T := TX3) dX3_namedValue_51 rfl 5 q2646 (Or.inl rfl) hT.1 rfl rfl ?_
          refine aw_iload_n (n := 55) dX3_namedValue_54 rfl 2 rfl rfl ?_
          refine aw_iald (n := 56) (v := .int ((ats ms (a + 1)).2.1 5 a)) dX3_namedValue_55 rfl a rfl hT.a5 (by omega) (by decide) rfl rfl ?_
          have nlt_56 : nn (ats ms (a + 1)) < 1203 := Nat.lt_of_le_of_lt hI0.2.2.1.2.2.1 (by have := hI0.2.1; omega)
          refine AW.sts (st' := [.int (frmI T a), .int (-1), .int (-1), .int (nI q), .int 21, .ref b]) (by rw [show (ats ms (a + 1)).2.1 5 a = frmI T a from ((hS.kept hI0.2.2.2).1 a hN).2.2.2.1]) ?_
          refine aw_callV (n := 59) (C0 := RX3) (As := [.int 21, .int (nI q), .int (-1), .int (-1), .int (frmI T a)]) (rest := []) (K2 := kX3_node) dX3_namedValue_56 q2974 q2976 qs75 q113 q2977 ⟨rfl, hcX3_node⟩ rfl hT.1 (ct_node G h b (ats ms (a + 1)) hb hT (21 : Int32) (nI q) ((-1) : Int32) ((-1) : Int32) (frmI T a) hI0.2.2.1.2.1 (by have := hI0.2.2.1.2.2.1; have := hI0.2.1; omega)) rfl (Nat.le_of_ble_eq_true rfl) ⟨Nat.le_of_ble_eq_true rfl, Nat.le_of_ble_eq_true rfl⟩ ⟨Nat.zero_le _, Nat.zero_le _⟩ (fun _ _ _ z => z.elim) rfl (fun r_56 h_56 q_56 => ?_)
          obtain ⟨rfl, hT_56, hF_56, hz_56⟩ := q_56
          refine AW.sts (st' := [.int 0]) rfl ?_
          refine aw_goto (tgt := 90) dX3_namedValue_59 (by decide) ?_
          exact aw_iret dX3_namedValue_90 rfl ⟨nodT (ats ms (a + 1)) (21 : Int32) (nI q) ((-1) : Int32) ((-1) : Int32) (frmI T a), by rw [g_3] <;> rfl, hT_56, hF_56, (by omega), fun _ => by rw [g_3] <;> rfl, fun z => absurd (by rw [g_3] <;> rfl) z⟩ ⟨Nat.zero_le _, Nat.zero_le _⟩
      · skip
        exact absurd c_20 (by decide +kernel)
    · skip
      have f_nv : nvT T ms a = true := by unfold nvT; rw [g3]; simp
      have g_4 := pG_T hg0 (by first | assumption | simp [f_nv])
      try dsimp only at g_4
      refine aw_aload_n (n := 12) dX3_namedValue_11 rfl 1 rfl rfl ?_
      refine aw_getf (n := 15) (v := .ref (b + 14)) (C0 := RX3) (T := TX3) dX3_namedValue_12 rfl 21 q2662 (Or.inl rfl) hT.1 rfl rfl ?_
      refine aw_iload_n (n := 16) dX3_namedValue_15 rfl 0 rfl rfl ?_
      refine aw_iald (n := 17) (v := .int ((ats ms (a + 1)).2.1 21 j)) dX3_namedValue_16 rfl j g1 hT.a21 (by omega) (by decide) rfl rfl ?_
      refine aw_iconst (n := 18) (v := 2) dX3_namedValue_17 (by decide) rfl ?_
      refine aw_irem (n := 19) dX3_namedValue_18 (by decide) rfl ?_
      refine AW.sts (st' := [.int 1]) (by rw [show (ats ms (a + 1)).2.1 21 j = nI 1 from g5]; rfl) ?_
      refine aw_iconst (n := 20) (v := 1) dX3_namedValue_19 (by decide) rfl ?_
      refine aw_icmp_ne (n := 23) (tgt := 30) dX3_namedValue_20 (by decide) rfl (fun c_20 => ?_) (fun c_20 => ?_)
      · skip
        exact absurd c_20 (by decide +kernel)
      · skip
        refine aw_aload_n (n := 24) dX3_namedValue_23 rfl 1 rfl rfl ?_
        refine aw_iconst (n := 25) (v := 2) dX3_namedValue_24 (by decide) rfl ?_
        refine aw_iload_n (n := 26) dX3_namedValue_25 rfl 2 rfl rfl ?_
        refine aw_callV (n := 29) (C0 := RX3) (As := [.int 2, .int (nI a)]) (rest := []) (K2 := kX3_wrong) dX3_namedValue_26 q2935 q2937 qs66 q113 q2938 ⟨rfl, hcX3_wrong⟩ rfl hT.1 (ct_wrong G h b (ats ms (a + 1)) hb hT T a ((hS.kept hI0.2.2.2).1 a hN) (2 : Int32)) rfl (Nat.le_of_ble_eq_true rfl) ⟨Nat.le_of_ble_eq_true rfl, Nat.le_of_ble_eq_true rfl⟩ ⟨Nat.zero_le _, Nat.zero_le _⟩ (fun _ _ _ z => z.elim) rfl (fun r_26 h_26 q_26 => ?_)
        obtain ⟨rfl, hT_26, hF_26, hz_26⟩ := q_26
        refine AW.sts (st' := [.int 2]) rfl ?_
        exact aw_iret dX3_namedValue_29 rfl ⟨tS (ats ms (a + 1)) 3 (nI (T.2.1 a)), by rw [g_4] <;> rfl, hT_26, hF_26, (by omega), fun z => absurd z (by rw [g_4]; exact (by decide : (2 : Nat) ≠ 0)), fun _ => ⟨(mE.of hI0.2.2.2).S (by decide), by rw [g_4] <;> rfl, by rw [g_4]; exact (by decide : (2 : Nat) < 50)⟩⟩ ⟨Nat.zero_le _, Nat.zero_le _⟩
    · skip
      have f_nv : nvT T ms a = false := by unfold nvT; rw [g3]; simp [show ¬ fnT T ms a = -1 from c_8]
      have g_5 := pG_F hg0 (by first | assumption | simp [f_nv])
      try dsimp only at g_5
      unfold valX at g_5
      rw [g3, g6] at g_5
      rw [show topX ms 2 (nI q) = ms.2.1 25 (24 + q) from by unfold topX; rw [nN_nI (by omega)]] at g_5
      refine aw_aload_n (n := 12) dX3_namedValue_11 rfl 1 rfl rfl ?_
      refine aw_getf (n := 15) (v := .ref (b + 14)) (C0 := RX3) (T := TX3) dX3_namedValue_12 rfl 21 q2662 (Or.inl rfl) hT.1 rfl rfl ?_
      refine aw_iload_n (n := 16) dX3_namedValue_15 rfl 0 rfl rfl ?_
      refine aw_iald (n := 17) (v := .int ((ats ms (a + 1)).2.1 21 j)) dX3_namedValue_16 rfl j g1 hT.a21 (by omega) (by decide) rfl rfl ?_
      refine aw_iconst (n := 18) (v := 2) dX3_namedValue_17 (by decide) rfl ?_
      refine aw_irem (n := 19) dX3_namedValue_18 (by decide) rfl ?_
      refine AW.sts (st' := [.int 0]) (by rw [show (ats ms (a + 1)).2.1 21 j = nI 2 from g5]; rfl) ?_
      refine aw_iconst (n := 20) (v := 1) dX3_namedValue_19 (by decide) rfl ?_
      refine aw_icmp_ne (n := 23) (tgt := 30) dX3_namedValue_20 (by decide) rfl (fun c_20 => ?_) (fun c_20 => ?_)
      · skip
        refine aw_aload_n (n := 31) dX3_namedValue_30 rfl 1 rfl rfl ?_
        refine aw_getf (n := 34) (v := .ref (b + 14)) (C0 := RX3) (T := TX3) dX3_namedValue_31 rfl 21 q2662 (Or.inl rfl) hT.1 rfl rfl ?_
        refine aw_iload_n (n := 35) dX3_namedValue_34 rfl 0 rfl rfl ?_
        refine aw_iald (n := 36) (v := .int ((ats ms (a + 1)).2.1 21 j)) dX3_namedValue_35 rfl j g1 hT.a21 (by omega) (by decide) rfl rfl ?_
        refine aw_if_ne (n := 39) (tgt := 62) dX3_namedValue_36 (by decide) rfl (fun c_36 => ?_) (fun c_36 => ?_)
        · skip
          refine aw_aload_n (n := 63) dX3_namedValue_62 rfl 1 rfl rfl ?_
          refine aw_bipush (n := 65) (v := 22) dX3_namedValue_63 (by decide) rfl ?_
          refine aw_aload_n (n := 66) dX3_namedValue_65 rfl 1 rfl rfl ?_
          refine aw_getf (n := 69) (v := .ref (b + 18)) (C0 := RX3) (T := TX3) dX3_namedValue_66 rfl 25 q2666 (Or.inl rfl) hT.1 rfl rfl ?_
          refine aw_bipush (n := 71) (v := 24) dX3_namedValue_69 (by decide) rfl ?_
          refine aw_aload_n (n := 72) dX3_namedValue_71 rfl 1 rfl rfl ?_
          refine aw_getf (n := 75) (v := .ref (b + 15)) (C0 := RX3) (T := TX3) dX3_namedValue_72 rfl 22 q2663 (Or.inl rfl) hT.1 rfl rfl ?_
          refine aw_iload_n (n := 76) dX3_namedValue_75 rfl 0 rfl rfl ?_
          refine aw_iald (n := 77) (v := .int ((ats ms (a + 1)).2.1 22 j)) dX3_namedValue_76 rfl j g1 hT.a22 (by omega) (by decide) rfl rfl ?_
          refine aw_iadd (n := 78) dX3_namedValue_77 rfl ?_
          refine aw_iald (n := 79) (v := .int ((ats ms (a + 1)).2.1 25 (24 + q))) dX3_namedValue_78 rfl (24 + q) (by rw [show 24 = nI 24 from (by rfl), show (ats ms (a + 1)).2.1 22 j = nI q from g6r]; exact nI_add _ _) hT.a25 (by omega) (by decide) rfl rfl ?_
          refine aw_iconst (n := 80) (v := (-1)) dX3_namedValue_79 (by decide) rfl ?_
          refine aw_iconst (n := 81) (v := (-1)) dX3_namedValue_80 (by decide) rfl ?_
          refine aw_aload_n (n := 82) dX3_namedValue_81 rfl 1 rfl rfl ?_
          refine aw_getf (n := 85) (v := .ref (b + 3)) (C0 := RX3) (T := TX3) dX3_namedValue_82 rfl 5 q2646 (Or.inl rfl) hT.1 rfl rfl ?_
          refine aw_iload_n (n := 86) dX3_namedValue_85 rfl 2 rfl rfl ?_
          refine aw_iald (n := 87) (v := .int ((ats ms (a + 1)).2.1 5 a)) dX3_namedValue_86 rfl a rfl hT.a5 (by omega) (by decide) rfl rfl ?_
          have nlt_87 : nn (ats ms (a + 1)) < 1203 := Nat.lt_of_le_of_lt hI0.2.2.1.2.2.1 (by have := hI0.2.1; omega)
          refine AW.sts (st' := [.int (frmI T a), .int (-1), .int (-1), .int ((ats ms (a + 1)).2.1 25 (24 + q)), .int 22, .ref b]) (by rw [show (ats ms (a + 1)).2.1 5 a = frmI T a from ((hS.kept hI0.2.2.2).1 a hN).2.2.2.1]) ?_
          refine aw_callV (n := 90) (C0 := RX3) (As := [.int 22, .int ((ats ms (a + 1)).2.1 25 (24 + q)), .int (-1), .int (-1), .int (frmI T a)]) (rest := []) (K2 := kX3_node) dX3_namedValue_87 q2974 q2976 qs75 q113 q2977 ⟨rfl, hcX3_node⟩ rfl hT.1 (ct_node G h b (ats ms (a + 1)) hb hT (22 : Int32) ((ats ms (a + 1)).2.1 25 (24 + q)) ((-1) : Int32) ((-1) : Int32) (frmI T a) hI0.2.2.1.2.1 (by have := hI0.2.2.1.2.2.1; have := hI0.2.1; omega)) rfl (Nat.le_of_ble_eq_true rfl) ⟨Nat.le_of_ble_eq_true rfl, Nat.le_of_ble_eq_true rfl⟩ ⟨Nat.zero_le _, Nat.zero_le _⟩ (fun _ _ _ z => z.elim) rfl (fun r_87 h_87 q_87 => ?_)
          obtain ⟨rfl, hT_87, hF_87, hz_87⟩ := q_87
          refine AW.sts (st' := [.int 0]) rfl ?_
          exact aw_iret dX3_namedValue_90 rfl ⟨nodT (ats ms (a + 1)) (22 : Int32) ((ats ms (a + 1)).2.1 25 (24 + q)) ((-1) : Int32) ((-1) : Int32) (frmI T a), by rw [g_5] <;> rfl, hT_87, hF_87, (by omega), fun _ => by rw [g_5] <;> rfl, fun z => absurd (by rw [g_5] <;> rfl) z⟩ ⟨Nat.zero_le _, Nat.zero_le _⟩
        · skip
          exact absurd c_36 (by rw [show ((ats ms (a + 1)).2.1 21 j) = nI 2 from g5]; decide +kernel)
      · skip
        exact absurd c_20 (by decide +kernel)
    · skip
      have f_nv : nvT T ms a = true := by unfold nvT; rw [g3]; simp
      have g_6 := pG_T hg0 (by first | assumption | simp [f_nv])
      try dsimp only at g_6
      refine aw_aload_n (n := 12) dX3_namedValue_11 rfl 1 rfl rfl ?_
      refine aw_getf (n := 15) (v := .ref (b + 14)) (C0 := RX3) (T := TX3) dX3_namedValue_12 rfl 21 q2662 (Or.inl rfl) hT.1 rfl rfl ?_
      refine aw_iload_n (n := 16) dX3_namedValue_15 rfl 0 rfl rfl ?_
      refine aw_iald (n := 17) (v := .int ((ats ms (a + 1)).2.1 21 j)) dX3_namedValue_16 rfl j g1 hT.a21 (by omega) (by decide) rfl rfl ?_
      refine aw_iconst (n := 18) (v := 2) dX3_namedValue_17 (by decide) rfl ?_
      refine aw_irem (n := 19) dX3_namedValue_18 (by decide) rfl ?_
      refine AW.sts (st' := [.int 1]) (by rw [show (ats ms (a + 1)).2.1 21 j = nI 3 from g5]; rfl) ?_
      refine aw_iconst (n := 20) (v := 1) dX3_namedValue_19 (by decide) rfl ?_
      refine aw_icmp_ne (n := 23) (tgt := 30) dX3_namedValue_20 (by decide) rfl (fun c_20 => ?_) (fun c_20 => ?_)
      · skip
        exact absurd c_20 (by decide +kernel)
      · skip
        refine aw_aload_n (n := 24) dX3_namedValue_23 rfl 1 rfl rfl ?_
        refine aw_iconst (n := 25) (v := 2) dX3_namedValue_24 (by decide) rfl ?_
        refine aw_iload_n (n := 26) dX3_namedValue_25 rfl 2 rfl rfl ?_
        refine aw_callV (n := 29) (C0 := RX3) (As := [.int 2, .int (nI a)]) (rest := []) (K2 := kX3_wrong) dX3_namedValue_26 q2935 q2937 qs66 q113 q2938 ⟨rfl, hcX3_wrong⟩ rfl hT.1 (ct_wrong G h b (ats ms (a + 1)) hb hT T a ((hS.kept hI0.2.2.2).1 a hN) (2 : Int32)) rfl (Nat.le_of_ble_eq_true rfl) ⟨Nat.le_of_ble_eq_true rfl, Nat.le_of_ble_eq_true rfl⟩ ⟨Nat.zero_le _, Nat.zero_le _⟩ (fun _ _ _ z => z.elim) rfl (fun r_26 h_26 q_26 => ?_)
        obtain ⟨rfl, hT_26, hF_26, hz_26⟩ := q_26
        refine AW.sts (st' := [.int 2]) rfl ?_
        exact aw_iret dX3_namedValue_29 rfl ⟨tS (ats ms (a + 1)) 3 (nI (T.2.1 a)), by rw [g_6] <;> rfl, hT_26, hF_26, (by omega), fun z => absurd z (by rw [g_6]; exact (by decide : (2 : Nat) ≠ 0)), fun _ => ⟨(mE.of hI0.2.2.2).S (by decide), by rw [g_6] <;> rfl, by rw [g_6]; exact (by decide : (2 : Nat) < 50)⟩⟩ ⟨Nat.zero_le _, Nat.zero_le _⟩

theorem wl0_at : ∀ j : Nat, j < 30 → (wlW 0).getD j [] = sw j := by decide +kernel
theorem wl0_len : (wlW 0).length = 30 := by decide +kernel
theorem kw_nm {T : Tv} {a i : Nat} (hi : i < 30) (h : seesB T a (sw i) = true) : isNm T a = false := by
  have : whT T a (wlW 0) ≠ -1 := by
    unfold whT
    refine fU_some (j := i) ?_ _ (by rw [wl0_len]; exact hi) (by rw [wl0_len]; decide)
    show seesB T a ((wlW 0).getD i []) = true
    rw [wl0_at i hi]
    exact h
  unfold isNm
  rw [beq_false_of_ne this, Bool.and_false]
theorem sees_un {T : Tv} {a i j : Nat} (h : seesB T a (sw i) = true) (hij : sw i ≠ sw j) : seesB T a (sw j) = false := by
  cases e : seesB T a (sw j) with
  | false => rfl
  | true =>
    simp only [seesB, Bool.and_eq_true, beq_iff_eq] at h e
    exact absurd (h.2.symm.trans e.2) hij
theorem pb_br {T : Tv} {r : pR} {b : Nat → Bool} {K : Int32 → Nat → tM → pR} : pb r (fun a1 m1 => pb (pI T (b a1) a1 m1) (fun a2 m2 => K (m1.1 17) a2 m2)) = pb (pb r (fun a1 m1 => pI T (b a1) a1 m1)) (fun a2 m2 => K (m2.1 17) a2 m2) := by
  rw [pb_as]
  congr 1
  funext a1 m1
  cases b a1 with
  | true => rfl
  | false => rfl
theorem cm_nt4 (G : aG) (h : hH)  (b : Nat) (ms : tM) (T : Tv) (N a : Nat) (hb : gB G ≤ b) (hT : TW b h ms) (hS : tkS ms T N) (hN4 : N ≤ 400) (hN : a ≤ N) (f d B : Nat) (hfB : f ≤ B) (hB : B + 1 ≤ 802) (hm : mS (B + 1) a ms) (h1 : (pX T true (f + 1) 4 d a ms).1 ≠ 1) (h9 : (pX T true (f + 1) 4 d a ms).1 ≠ 99) (ih : meAll G f) : Con G kX3_one [.ref b] h ((14 + 2 * (f + 1), 500 + 100 * (f + 1), 0, 0), (fun r h1 => ∃ m9 : tM, r = some (.int (nI (pX T true (f + 1) 4 d a ms).1)) ∧ TW b h1 m9 ∧ Fr (TS b) h h1 ∧ h1.1 = h.1 ∧ ((pX T true (f + 1) 4 d a ms).1 = 0 → m9 = (pX T true (f + 1) 4 d a ms).2.2.2) ∧ ((pX T true (f + 1) 4 d a ms).1 ≠ 0 → mE ms m9 ∧ m9.1 3 = nI (pX T true (f + 1) 4 d a ms).2.1 ∧ (pX T true (f + 1) 4 d a ms).1 < 50)), nX) := by
  refine Con.of (plainFor_of_name rfl) rfl (Nat.le_of_ble_eq_true rfl) ?_
  refine AW.eq (lv2 := [(0, .ref b)]) (s2 := []) rfl rfl rfl rfl rfl ?_
  generalize hW_ : pX T true (f + 1) 4 d a ms = W9 at h1 h9 ⊢
  have hI0 : pM (B + 1) a ms a ms := pM.rf hm (by omega)
  have hg0 : W9 = pB4 T true (pX T true f) d a ms := hW_.symm
  unfold pB4 at hg0
  have tk_1 := (hS.kept hI0.2.2.2).1 a hN; have Ktk_1 := tk_1.2.1
  try simp only [Bool.true_and, pT, ef, cond_true, gOr, gAnd, gSum, gPro, tS_tS, seesP_eq hN hN4 hS.2.1, nmP_eq hN hN4 hS.2.1, nuP_eq hN hN4 hS.2.1, whP_eq hN hN4 hS.2.1] at hg0
  refine aw_aload_n (n := 1) dX3_one_0 rfl 0 rfl rfl ?_
  refine aw_getf (n := 4) (v := .int (nI a)) (C0 := RX3) (T := TX3) dX3_one_1 rfl 7 q2648 (Or.inl rfl) hT.1 (congrArg some (congrArg Value.int hI0.2.2.1.1)) rfl ?_
  refine aw_istore_n (n := 5) (lv' := [(1, .int (nI a)), (0, .ref b)]) dX3_one_4 rfl (by decide) rfl rfl ?_
  refine aw_aload_n (n := 6) dX3_one_5 rfl 1 rfl rfl ?_
  refine aw_aload_n (n := 7) dX3_one_6 rfl 1 rfl rfl ?_
  refine aw_getf (n := 10) (v := .int (nI a)) (C0 := RX3) (T := TX3) dX3_one_7 rfl 7 q2648 (Or.inl rfl) hT.1 (congrArg some (congrArg Value.int hI0.2.2.1.1)) rfl ?_
  refine aw_know (fun gd_1 hi_1 => ?_)
  refine aw_gets (n := 13) (v := .ref (vAd (gV G 30))) dX3_one_10 30 rfl q2881 rfl (vAd_at gd_1 (by decide)) rfl ?_
  refine aw_know (fun gd_2 hi_2 => ?_)
  refine aw_callV (n := 16) (C0 := RX3) (As := [.int (nI a), .ref (vAd (gV G 30))]) (rest := []) (K2 := kX3_which) dX3_one_13 q2850 q2852 qs55 q113 q2853 ⟨rfl, hcX3_which⟩ rfl hT.1 (ct_which G h b ms hb hT T a ((hS.kept hI0.2.2.2).1 a hN) _ (wlW 3) (wl_at gd_2 hi_2 (k := 3) rfl) (by decide)) rfl (Nat.le_of_ble_eq_true rfl) ⟨by dsimp only [kX3_formula, kX3_row, kX3_since, kX3_one, kX3_expression, kX3_product, kX3_factor, kX3_fronted, kX3_compare, kX3_twoSided, kX3_braces, kX3_namedValue, kX3_bounds, kX3_sees, kX3_is, kX3_isName, kX3_which, kX3_numberOf, kX3_find, kX3_node, kX3_wrong, kJ12_length, meK]; omega, by dsimp only [kX3_formula, kX3_row, kX3_since, kX3_one, kX3_expression, kX3_product, kX3_factor, kX3_fronted, kX3_compare, kX3_twoSided, kX3_braces, kX3_namedValue, kX3_bounds, kX3_sees, kX3_is, kX3_isName, kX3_which, kX3_numberOf, kX3_find, kX3_node, kX3_wrong, kJ12_length, meK]; omega⟩ ⟨Nat.zero_le _, Nat.zero_le _⟩ (fun _ _ _ z => z.elim) rfl (fun r_13 h_13 q_13 => ?_)
  obtain ⟨rfl, rfl⟩ := q_13
  refine AW.sts (st' := [.int (whT T a (wlW 3))]) rfl ?_
  refine aw_istore_n (n := 17) (lv' := [(2, .int (whT T a (wlW 3))), (1, .int (nI a)), (0, .ref b)]) dX3_one_16 rfl (by decide) rfl rfl ?_
  refine aw_iload_n (n := 18) dX3_one_17 rfl 0 rfl rfl ?_
  refine aw_iconst (n := 19) (v := (-1)) dX3_one_18 (by decide) rfl ?_
  refine aw_icmp_eq (n := 22) (tgt := 29) dX3_one_19 (by decide) rfl (fun c_19 => ?_) (fun c_19 => ?_)
  · skip
    have v_19 : (whT T a (wlW 3) != -1) = false := by simp [c_19]
    have g_4 := pG_F hg0 (by first | assumption | simp [v_19])
    try dsimp only at g_4
    refine aw_aload_n (n := 30) dX3_one_29 rfl 2 rfl rfl ?_
    refine aw_ldcS (n := 32) (q := 49) dX3_one_30 108 rfl rfl ?_
    refine aw_know (fun gd_4 hi_4 => ?_)
    refine aw_callV (n := 35) (C0 := RX3) (As := [.ref (gT G 49)]) (rest := []) (K2 := kX3_sees) dX3_one_32 q2826 q2828 qs50 q113 q2829 ⟨rfl, hcX3_sees⟩ rfl hT.1 (ct_sees G h b ms hb hT T a hI0.2.2.1.1 tk_1 _ (sw 49) (str_at gd_4 hi_4 (i := 49) rfl) (lo_at (i := 49) rfl)) rfl (Nat.le_of_ble_eq_true rfl) ⟨by dsimp only [kX3_formula, kX3_row, kX3_since, kX3_one, kX3_expression, kX3_product, kX3_factor, kX3_fronted, kX3_compare, kX3_twoSided, kX3_braces, kX3_namedValue, kX3_bounds, kX3_sees, kX3_is, kX3_isName, kX3_which, kX3_numberOf, kX3_find, kX3_node, kX3_wrong, kJ12_length, meK]; omega, by dsimp only [kX3_formula, kX3_row, kX3_since, kX3_one, kX3_expression, kX3_product, kX3_factor, kX3_fronted, kX3_compare, kX3_twoSided, kX3_braces, kX3_namedValue, kX3_bounds, kX3_sees, kX3_is, kX3_isName, kX3_which, kX3_numberOf, kX3_find, kX3_node, kX3_wrong, kJ12_length, meK]; omega⟩ ⟨Nat.zero_le _, Nat.zero_le _⟩ (fun _ _ _ z => z.elim) rfl (fun r_32 h_32 q_32 => ?_)
    obtain ⟨rfl, rfl⟩ := q_32
    refine AW.sts (st' := [.int (bI (seesB T a (sw 49)))]) rfl ?_
    refine aw_if_eq (n := 38) (tgt := 65) dX3_one_35 (by decide) rfl (fun c_35 => ?_) (fun c_35 => ?_)
    · skip
      have b_35 : (seesB T a (sw 49)) = false := (bI_0 _).mp c_35
      have g_6 := pG_F g_4 (by first | assumption | simp [v_19, b_35])
      try dsimp only at g_6
      refine aw_aload_n (n := 66) dX3_one_65 rfl 2 rfl rfl ?_
      refine aw_ldcS (n := 68) (q := 16) dX3_one_66 110 rfl rfl ?_
      refine aw_know (fun gd_6 hi_6 => ?_)
      refine aw_callV (n := 71) (C0 := RX3) (As := [.ref (gT G 16)]) (rest := []) (K2 := kX3_sees) dX3_one_68 q2826 q2828 qs50 q113 q2829 ⟨rfl, hcX3_sees⟩ rfl hT.1 (ct_sees G h b ms hb hT T a hI0.2.2.1.1 tk_1 _ (sw 16) (str_at gd_6 hi_6 (i := 16) rfl) (lo_at (i := 16) rfl)) rfl (Nat.le_of_ble_eq_true rfl) ⟨by dsimp only [kX3_formula, kX3_row, kX3_since, kX3_one, kX3_expression, kX3_product, kX3_factor, kX3_fronted, kX3_compare, kX3_twoSided, kX3_braces, kX3_namedValue, kX3_bounds, kX3_sees, kX3_is, kX3_isName, kX3_which, kX3_numberOf, kX3_find, kX3_node, kX3_wrong, kJ12_length, meK]; omega, by dsimp only [kX3_formula, kX3_row, kX3_since, kX3_one, kX3_expression, kX3_product, kX3_factor, kX3_fronted, kX3_compare, kX3_twoSided, kX3_braces, kX3_namedValue, kX3_bounds, kX3_sees, kX3_is, kX3_isName, kX3_which, kX3_numberOf, kX3_find, kX3_node, kX3_wrong, kJ12_length, meK]; omega⟩ ⟨Nat.zero_le _, Nat.zero_le _⟩ (fun _ _ _ z => z.elim) rfl (fun r_68 h_68 q_68 => ?_)
      obtain ⟨rfl, rfl⟩ := q_68
      refine AW.sts (st' := [.int (bI (seesB T a (sw 16)))]) rfl ?_
      refine aw_if_ne (n := 74) (tgt := 83) dX3_one_71 (by decide) rfl (fun c_71 => ?_) (fun c_71 => ?_)
      · skip
        have b_71 : (seesB T a (sw 16)) = true := Bool.of_not_eq_false (fun e => c_71 ((bI_0 _).mpr e))
        have g_9 := pG_T g_6 (by first | assumption | simp [v_19, b_35, b_71])
        try dsimp only at g_9
        have ne_10 : T.1 a ≠ 0 := by have z9 := b_71; first | exact seesB_ne z9 | exact isNm_ne z9 | (have z8 := (beq_iff_eq.mp z9); omega) | exact whT_lt (bne_iff_ne.mp z9) | (rcases (Bool.or_eq_true _ _).mp z9 with z8 | z8 <;> first | exact seesB_ne z8 | (rcases (Bool.or_eq_true _ _).mp z8 with z7 | z7 <;> exact seesB_ne z7))
        refine aw_aload_n (n := 84) dX3_one_83 rfl 2 rfl rfl ?_
        refine aw_dup (n := 85) dX3_one_84 rfl rfl ?_
        refine aw_getf (n := 88) (v := .int (nI a)) (C0 := RX3) (T := TX3) dX3_one_85 rfl 7 q2648 (Or.inl rfl) hT.1 (congrArg some (congrArg Value.int hI0.2.2.1.1)) rfl ?_
        refine aw_iconst (n := 89) (v := 1) dX3_one_88 (by decide) rfl ?_
        refine aw_iadd (n := 90) dX3_one_89 rfl ?_
        refine AW.sts (st' := [.int (nI (a + 1)), .ref b]) (by rw [show (nI a) + 1 = nI (a + 1) from (nI_1 _)]) ?_
        refine aw_tput (n := 93) (k := 7) dX3_one_90 q2648 (by decide) rfl rfl rfl rfl rfl hT hb rfl rfl (fun h_11 hT_11 hF_11 hz_11 => ?_)
        have N_12 : a + 1 ≤ N := lt_end hS.2.1 hN ne_10
        have I_13 := hI0.at1 (by omega)
        have tk_14 := (hS.kept I_13.2.2.2).1 (a + 1) N_12; have Ktk_14 := tk_14.2.1
        try simp only [Bool.true_and, pT, ef, cond_true, gOr, gAnd, gSum, gPro, tS_tS, seesP_eq N_12 hN4 hS.2.1, nmP_eq N_12 hN4 hS.2.1, nuP_eq N_12 hN4 hS.2.1, whP_eq N_12 hN4 hS.2.1] at g_9
        refine aw_aload_n (n := 94) dX3_one_93 rfl 2 rfl rfl ?_
        refine aw_aload_n (n := 95) dX3_one_94 rfl 2 rfl rfl ?_
        refine aw_iload_n (n := 96) dX3_one_95 rfl 1 rfl rfl ?_
        refine aw_ldcS (n := 98) (q := 16) dX3_one_96 110 rfl rfl ?_
        refine aw_know (fun gd_14 hi_14 => ?_)
        refine aw_callV (n := 101) (C0 := RX3) (As := [.int (nI a), .ref (gT G 16)]) (rest := [.ref b]) (K2 := kX3_is) dX3_one_98 q2830 q2832 qs51 q113 q2833 ⟨rfl, hcX3_is⟩ rfl hT_11.1 (ct_is G h_11 b (tS ms 7 (nI (a + 1))) hb hT_11 T a ((hS.kept I_13.2.2.2).1 a hN) _ (sw 16) (str_at gd_14 hi_14 (i := 16) rfl) (lo_at (i := 16) rfl)) rfl (Nat.le_of_ble_eq_true rfl) ⟨by dsimp only [kX3_formula, kX3_row, kX3_since, kX3_one, kX3_expression, kX3_product, kX3_factor, kX3_fronted, kX3_compare, kX3_twoSided, kX3_braces, kX3_namedValue, kX3_bounds, kX3_sees, kX3_is, kX3_isName, kX3_which, kX3_numberOf, kX3_find, kX3_node, kX3_wrong, kJ12_length, meK]; omega, by dsimp only [kX3_formula, kX3_row, kX3_since, kX3_one, kX3_expression, kX3_product, kX3_factor, kX3_fronted, kX3_compare, kX3_twoSided, kX3_braces, kX3_namedValue, kX3_bounds, kX3_sees, kX3_is, kX3_isName, kX3_which, kX3_numberOf, kX3_find, kX3_node, kX3_wrong, kJ12_length, meK]; omega⟩ ⟨Nat.zero_le _, Nat.zero_le _⟩ (fun _ _ _ z => z.elim) rfl (fun r_98 h_98 q_98 => ?_)
        obtain ⟨rfl, rfl⟩ := q_98
        refine AW.sts (st' := [.int (bI (seesB T a (sw 16))), .ref b]) rfl ?_
        refine aw_if_eq (n := 104) (tgt := 109) dX3_one_101 (by decide) rfl (fun c_101 => ?_) (fun c_101 => ?_)
        · skip
          have b_101 : (seesB T a (sw 16)) = false := (bI_0 _).mp c_101
          exact absurd (b_71.symm.trans b_101) (by decide)
        · skip
          have b_101 : (seesB T a (sw 16)) = true := Bool.of_not_eq_false (fun e => c_101 ((bI_0 _).mpr e))
          try simp only [if_pos b_101] at g_9
          refine aw_bipush (n := 106) (v := 6) dX3_one_104 (by decide) rfl ?_
          refine aw_goto (tgt := 111) dX3_one_106 (by decide) ?_
          refine aw_iconst (n := 112) (v := (-1)) dX3_one_111 (by decide) rfl ?_
          refine aw_iconst (n := 113) (v := (-1)) dX3_one_112 (by decide) rfl ?_
          refine aw_iconst (n := 114) (v := (-1)) dX3_one_113 (by decide) rfl ?_
          refine aw_aload_n (n := 115) dX3_one_114 rfl 2 rfl rfl ?_
          refine aw_getf (n := 118) (v := .ref (b + 3)) (C0 := RX3) (T := TX3) dX3_one_115 rfl 5 q2646 (Or.inl rfl) hT_11.1 rfl rfl ?_
          refine aw_iload_n (n := 119) dX3_one_118 rfl 1 rfl rfl ?_
          refine aw_iald (n := 120) (v := .int (ms.2.1 5 a)) dX3_one_119 rfl a rfl hT_11.a5 (by omega) (by decide) rfl rfl ?_
          have nlt_120 : nn (tS ms 7 (nI (a + 1))) < 1203 := Nat.lt_of_le_of_lt I_13.2.2.1.2.2.1 (by have := I_13.2.1; omega)
          refine AW.sts (st' := [.int (frmI T a), .int (-1), .int (-1), .int (-1), .int 6, .ref b]) (by rw [show ms.2.1 5 a = frmI T a from (hS.1 a hN).2.2.2.1]) ?_
          refine aw_callV (n := 123) (C0 := RX3) (As := [.int 6, .int (-1), .int (-1), .int (-1), .int (frmI T a)]) (rest := []) (K2 := kX3_node) dX3_one_120 q2974 q2976 qs75 q113 q2977 ⟨rfl, hcX3_node⟩ rfl hT_11.1 (ct_node G h_11 b (tS ms 7 (nI (a + 1))) hb hT_11 (6 : Int32) ((-1) : Int32) ((-1) : Int32) ((-1) : Int32) (frmI T a) I_13.2.2.1.2.1 (by have := I_13.2.2.1.2.2.1; have := I_13.2.1; omega)) rfl (Nat.le_of_ble_eq_true rfl) ⟨by dsimp only [kX3_formula, kX3_row, kX3_since, kX3_one, kX3_expression, kX3_product, kX3_factor, kX3_fronted, kX3_compare, kX3_twoSided, kX3_braces, kX3_namedValue, kX3_bounds, kX3_sees, kX3_is, kX3_isName, kX3_which, kX3_numberOf, kX3_find, kX3_node, kX3_wrong, kJ12_length, meK]; omega, by dsimp only [kX3_formula, kX3_row, kX3_since, kX3_one, kX3_expression, kX3_product, kX3_factor, kX3_fronted, kX3_compare, kX3_twoSided, kX3_braces, kX3_namedValue, kX3_bounds, kX3_sees, kX3_is, kX3_isName, kX3_which, kX3_numberOf, kX3_find, kX3_node, kX3_wrong, kJ12_length, meK]; omega⟩ ⟨Nat.zero_le _, Nat.zero_le _⟩ (fun _ _ _ z => z.elim) rfl (fun r_120 h_120 q_120 => ?_)
          obtain ⟨rfl, hT_120, hF_120, hz_120⟩ := q_120
          have hG_120 := Fr.trans hF_11 hF_120
          refine AW.sts (st' := [.int 0]) rfl ?_
          exact aw_iret dX3_one_123 rfl ⟨nodT (tS ms 7 (nI (a + 1))) (6 : Int32) ((-1) : Int32) ((-1) : Int32) ((-1) : Int32) (frmI T a), by rw [g_9] <;> rfl, hT_120, hG_120, (by omega), fun _ => by rw [g_9] <;> rfl, fun z => absurd (by rw [g_9] <;> rfl) z⟩ ⟨Nat.zero_le _, Nat.zero_le _⟩
      · skip
        have b_71 : (seesB T a (sw 16)) = false := (bI_0 _).mp c_71
        refine aw_aload_n (n := 75) dX3_one_74 rfl 2 rfl rfl ?_
        refine aw_ldcS (n := 77) (q := 17) dX3_one_75 111 rfl rfl ?_
        refine aw_know (fun gd_15 hi_15 => ?_)
        refine aw_callV (n := 80) (C0 := RX3) (As := [.ref (gT G 17)]) (rest := []) (K2 := kX3_sees) dX3_one_77 q2826 q2828 qs50 q113 q2829 ⟨rfl, hcX3_sees⟩ rfl hT.1 (ct_sees G h b ms hb hT T a hI0.2.2.1.1 tk_1 _ (sw 17) (str_at gd_15 hi_15 (i := 17) rfl) (lo_at (i := 17) rfl)) rfl (Nat.le_of_ble_eq_true rfl) ⟨by dsimp only [kX3_formula, kX3_row, kX3_since, kX3_one, kX3_expression, kX3_product, kX3_factor, kX3_fronted, kX3_compare, kX3_twoSided, kX3_braces, kX3_namedValue, kX3_bounds, kX3_sees, kX3_is, kX3_isName, kX3_which, kX3_numberOf, kX3_find, kX3_node, kX3_wrong, kJ12_length, meK]; omega, by dsimp only [kX3_formula, kX3_row, kX3_since, kX3_one, kX3_expression, kX3_product, kX3_factor, kX3_fronted, kX3_compare, kX3_twoSided, kX3_braces, kX3_namedValue, kX3_bounds, kX3_sees, kX3_is, kX3_isName, kX3_which, kX3_numberOf, kX3_find, kX3_node, kX3_wrong, kJ12_length, meK]; omega⟩ ⟨Nat.zero_le _, Nat.zero_le _⟩ (fun _ _ _ z => z.elim) rfl (fun r_77 h_77 q_77 => ?_)
        obtain ⟨rfl, rfl⟩ := q_77
        refine AW.sts (st' := [.int (bI (seesB T a (sw 17)))]) rfl ?_
        refine aw_if_eq (n := 83) (tgt := 124) dX3_one_80 (by decide) rfl (fun c_80 => ?_) (fun c_80 => ?_)
        · skip
          have b_80 : (seesB T a (sw 17)) = false := (bI_0 _).mp c_80
          have g_17 := pG_F g_6 (by first | assumption | simp [v_19, b_35, b_71, b_80])
          try dsimp only at g_17
          refine aw_aload_n (n := 125) dX3_one_124 rfl 2 rfl rfl ?_
          refine aw_ldcS (n := 127) (q := 15) dX3_one_125 112 rfl rfl ?_
          refine aw_know (fun gd_17 hi_17 => ?_)
          refine aw_callV (n := 130) (C0 := RX3) (As := [.ref (gT G 15)]) (rest := []) (K2 := kX3_sees) dX3_one_127 q2826 q2828 qs50 q113 q2829 ⟨rfl, hcX3_sees⟩ rfl hT.1 (ct_sees G h b ms hb hT T a hI0.2.2.1.1 tk_1 _ (sw 15) (str_at gd_17 hi_17 (i := 15) rfl) (lo_at (i := 15) rfl)) rfl (Nat.le_of_ble_eq_true rfl) ⟨by dsimp only [kX3_formula, kX3_row, kX3_since, kX3_one, kX3_expression, kX3_product, kX3_factor, kX3_fronted, kX3_compare, kX3_twoSided, kX3_braces, kX3_namedValue, kX3_bounds, kX3_sees, kX3_is, kX3_isName, kX3_which, kX3_numberOf, kX3_find, kX3_node, kX3_wrong, kJ12_length, meK]; omega, by dsimp only [kX3_formula, kX3_row, kX3_since, kX3_one, kX3_expression, kX3_product, kX3_factor, kX3_fronted, kX3_compare, kX3_twoSided, kX3_braces, kX3_namedValue, kX3_bounds, kX3_sees, kX3_is, kX3_isName, kX3_which, kX3_numberOf, kX3_find, kX3_node, kX3_wrong, kJ12_length, meK]; omega⟩ ⟨Nat.zero_le _, Nat.zero_le _⟩ (fun _ _ _ z => z.elim) rfl (fun r_127 h_127 q_127 => ?_)
          obtain ⟨rfl, rfl⟩ := q_127
          refine AW.sts (st' := [.int (bI (seesB T a (sw 15)))]) rfl ?_
          refine aw_if_ne (n := 133) (tgt := 139) dX3_one_130 (by decide) rfl (fun c_130 => ?_) (fun c_130 => ?_)
          · skip
            have b_130 : (seesB T a (sw 15)) = true := Bool.of_not_eq_false (fun e => c_130 ((bI_0 _).mpr e))
            have g_20 := pG_T g_17 (by first | assumption | simp [v_19, b_35, b_71, b_80, b_130])
            try dsimp only at g_20
            have ne_21 : T.1 a ≠ 0 := by have z9 := b_130; first | exact seesB_ne z9 | exact isNm_ne z9 | (have z8 := (beq_iff_eq.mp z9); omega) | exact whT_lt (bne_iff_ne.mp z9) | (rcases (Bool.or_eq_true _ _).mp z9 with z8 | z8 <;> first | exact seesB_ne z8 | (rcases (Bool.or_eq_true _ _).mp z8 with z7 | z7 <;> exact seesB_ne z7))
            refine aw_aload_n (n := 140) dX3_one_139 rfl 2 rfl rfl ?_
            refine aw_dup (n := 141) dX3_one_140 rfl rfl ?_
            refine aw_getf (n := 144) (v := .int (nI a)) (C0 := RX3) (T := TX3) dX3_one_141 rfl 7 q2648 (Or.inl rfl) hT.1 (congrArg some (congrArg Value.int hI0.2.2.1.1)) rfl ?_
            refine aw_iconst (n := 145) (v := 1) dX3_one_144 (by decide) rfl ?_
            refine aw_iadd (n := 146) dX3_one_145 rfl ?_
            refine AW.sts (st' := [.int (nI (a + 1)), .ref b]) (by rw [show (nI a) + 1 = nI (a + 1) from (nI_1 _)]) ?_
            refine aw_tput (n := 149) (k := 7) dX3_one_146 q2648 (by decide) rfl rfl rfl rfl rfl hT hb rfl rfl (fun h_22 hT_22 hF_22 hz_22 => ?_)
            have N_23 : a + 1 ≤ N := lt_end hS.2.1 hN ne_21
            have I_24 := hI0.at1 (by omega)
            have tk_25 := (hS.kept I_24.2.2.2).1 (a + 1) N_23; have Ktk_25 := tk_25.2.1
            try simp only [Bool.true_and, pT, ef, cond_true, gOr, gAnd, gSum, gPro, tS_tS, seesP_eq N_23 hN4 hS.2.1, nmP_eq N_23 hN4 hS.2.1, nuP_eq N_23 hN4 hS.2.1, whP_eq N_23 hN4 hS.2.1] at g_20
            have g_26 := pG_c g_20 h1
            have g_27 := g_26.2
            try dsimp only at g_27
            have ne_28 : T.1 (a + 1) ≠ 0 := by have z9 := g_26.1; first | exact seesB_ne z9 | exact isNm_ne z9 | (have z8 := (beq_iff_eq.mp z9); omega) | exact whT_lt (bne_iff_ne.mp z9) | (rcases (Bool.or_eq_true _ _).mp z9 with z8 | z8 <;> first | exact seesB_ne z8 | (rcases (Bool.or_eq_true _ _).mp z8 with z7 | z7 <;> exact seesB_ne z7))
            refine aw_aload_n (n := 150) dX3_one_149 rfl 2 rfl rfl ?_
            refine aw_aload_n (n := 151) dX3_one_150 rfl 2 rfl rfl ?_
            refine aw_getf (n := 154) (v := .int (nI (a + 1))) (C0 := RX3) (T := TX3) dX3_one_151 rfl 7 q2648 (Or.inl rfl) hT_22.1 rfl rfl ?_
            refine aw_callV (n := 157) (C0 := RX3) (As := [.int (nI (a + 1))]) (rest := []) (K2 := kX3_find) dX3_one_154 q2949 q2951 qs69 q113 q2952 ⟨rfl, hcX3_find⟩ rfl hT_22.1 (ct_find G h_22 b (tS ms 7 (nI (a + 1))) hb hT_22 T (a + 1) ((hS.kept I_24.2.2.2).1 (a + 1) N_23) I_24.2.2.1.2.2.2.2.1 I_24.2.2.1.2.2.2.2.2.1) rfl (Nat.le_of_ble_eq_true rfl) ⟨by dsimp only [kX3_formula, kX3_row, kX3_since, kX3_one, kX3_expression, kX3_product, kX3_factor, kX3_fronted, kX3_compare, kX3_twoSided, kX3_braces, kX3_namedValue, kX3_bounds, kX3_sees, kX3_is, kX3_isName, kX3_which, kX3_numberOf, kX3_find, kX3_node, kX3_wrong, kJ12_length, meK]; omega, by dsimp only [kX3_formula, kX3_row, kX3_since, kX3_one, kX3_expression, kX3_product, kX3_factor, kX3_fronted, kX3_compare, kX3_twoSided, kX3_braces, kX3_namedValue, kX3_bounds, kX3_sees, kX3_is, kX3_isName, kX3_which, kX3_numberOf, kX3_find, kX3_node, kX3_wrong, kJ12_length, meK]; omega⟩ ⟨Nat.zero_le _, Nat.zero_le _⟩ (fun _ _ _ z => z.elim) rfl (fun r_154 h_154 q_154 => ?_)
            obtain ⟨rfl, rfl⟩ := q_154
            refine AW.sts (st' := [.int (fnT T (tS ms 7 (nI (a + 1))) (a + 1))]) rfl ?_
            refine aw_istore_n (n := 158) (lv' := [(3, .int (fnT T (tS ms 7 (nI (a + 1))) (a + 1))), (2, .int (whT T a (wlW 3))), (1, .int (nI a)), (0, .ref b)]) dX3_one_157 rfl (by decide) rfl rfl ?_
            refine aw_iload_n (n := 159) dX3_one_158 rfl 0 rfl rfl ?_
            refine aw_iconst (n := 160) (v := (-1)) dX3_one_159 (by decide) rfl ?_
            refine aw_icmp_eq (n := 163) (tgt := 174) dX3_one_160 (by decide) rfl (fun c_160 => ?_) (fun c_160 => ?_)
            · skip
              have f_160 : nfT T ms (a + 1) = true := by unfold nfT; rw [show fnT T ms (a + 1) = -1 from c_160]; rfl
              have g_29 := pG_T g_27 (by first | assumption | simp [f_160])
              try dsimp only at g_29
              refine aw_aload_n (n := 175) dX3_one_174 rfl 3 rfl rfl ?_
              refine aw_iconst (n := 176) (v := 2) dX3_one_175 (by decide) rfl ?_
              refine aw_aload_n (n := 177) dX3_one_176 rfl 3 rfl rfl ?_
              refine aw_getf (n := 180) (v := .int (nI (a + 1))) (C0 := RX3) (T := TX3) dX3_one_177 rfl 7 q2648 (Or.inl rfl) hT_22.1 rfl rfl ?_
              refine aw_callV (n := 183) (C0 := RX3) (As := [.int 2, .int (nI (a + 1))]) (rest := []) (K2 := kX3_wrong) dX3_one_180 q2935 q2937 qs66 q113 q2938 ⟨rfl, hcX3_wrong⟩ rfl hT_22.1 (ct_wrong G h_22 b (tS ms 7 (nI (a + 1))) hb hT_22 T (a + 1) ((hS.kept I_24.2.2.2).1 (a + 1) N_23) (2 : Int32)) rfl (Nat.le_of_ble_eq_true rfl) ⟨by dsimp only [kX3_formula, kX3_row, kX3_since, kX3_one, kX3_expression, kX3_product, kX3_factor, kX3_fronted, kX3_compare, kX3_twoSided, kX3_braces, kX3_namedValue, kX3_bounds, kX3_sees, kX3_is, kX3_isName, kX3_which, kX3_numberOf, kX3_find, kX3_node, kX3_wrong, kJ12_length, meK]; omega, by dsimp only [kX3_formula, kX3_row, kX3_since, kX3_one, kX3_expression, kX3_product, kX3_factor, kX3_fronted, kX3_compare, kX3_twoSided, kX3_braces, kX3_namedValue, kX3_bounds, kX3_sees, kX3_is, kX3_isName, kX3_which, kX3_numberOf, kX3_find, kX3_node, kX3_wrong, kJ12_length, meK]; omega⟩ ⟨Nat.zero_le _, Nat.zero_le _⟩ (fun _ _ _ z => z.elim) rfl (fun r_180 h_180 q_180 => ?_)
              obtain ⟨rfl, hT_180, hF_180, hz_180⟩ := q_180
              have hG_180 := Fr.trans hF_22 hF_180
              refine AW.sts (st' := [.int 2]) rfl ?_
              exact aw_iret dX3_one_183 rfl ⟨tS (tS ms 7 (nI (a + 1))) 3 (nI (T.2.1 (a + 1))), by rw [g_29] <;> rfl, hT_180, hG_180, (by omega), fun z => absurd z (by rw [g_29]; exact (by decide : (2 : Nat) ≠ 0)), fun _ => ⟨(mE.of I_24.2.2.2).S (by decide), by rw [g_29] <;> rfl, by rw [g_29]; exact (by decide : (2 : Nat) < 50)⟩⟩ ⟨Nat.zero_le _, Nat.zero_le _⟩
            · skip
              obtain ⟨j, sr, q, g1, g2, g3, g4, g5, g6, g7, g8, g9⟩ := find_in (T := T) (t := (a + 1)) hm.2.2.2.2 c_160
              have hnm4 := hm.2.2.2.2.2.1
              have g6r : ms.2.1 22 j = nI q := by have z := g6; rw [g1] at z; unfold numX at z; rw [nN_nI (by omega)] at z; exact z
              rcases (by omega : sr = 0 ∨ sr = 1 ∨ sr = 2 ∨ sr = 3) with rfl | rfl | rfl | rfl
              · skip
                have f_nf : nfT T ms (a + 1) = true := by unfold nfT; rw [g3]; simp
                have g_30 := pG_T g_27 (by first | assumption | simp [f_nf])
                try dsimp only at g_30
                refine aw_aload_n (n := 164) dX3_one_163 rfl 3 rfl rfl ?_
                refine aw_getf (n := 167) (v := .ref (b + 14)) (C0 := RX3) (T := TX3) dX3_one_164 rfl 21 q2662 (Or.inl rfl) hT_22.1 rfl rfl ?_
                refine aw_iload_n (n := 168) dX3_one_167 rfl 0 rfl rfl ?_
                refine aw_iald (n := 169) (v := .int (ms.2.1 21 j)) dX3_one_168 rfl j g1 hT_22.a21 (by omega) (by decide) rfl rfl ?_
                refine aw_iconst (n := 170) (v := 2) dX3_one_169 (by decide) rfl ?_
                refine aw_irem (n := 171) dX3_one_170 (by decide) rfl ?_
                refine AW.sts (st' := [.int 0]) (by rw [show ms.2.1 21 j = nI 0 from g5]; rfl) ?_
                refine aw_if_ne (n := 174) (tgt := 184) dX3_one_171 (by decide) rfl (fun c_171 => ?_) (fun c_171 => ?_)
                · skip
                  exact absurd c_171 (by decide +kernel)
                · skip
                  refine aw_aload_n (n := 175) dX3_one_174 rfl 3 rfl rfl ?_
                  refine aw_iconst (n := 176) (v := 2) dX3_one_175 (by decide) rfl ?_
                  refine aw_aload_n (n := 177) dX3_one_176 rfl 3 rfl rfl ?_
                  refine aw_getf (n := 180) (v := .int (nI (a + 1))) (C0 := RX3) (T := TX3) dX3_one_177 rfl 7 q2648 (Or.inl rfl) hT_22.1 rfl rfl ?_
                  refine aw_callV (n := 183) (C0 := RX3) (As := [.int 2, .int (nI (a + 1))]) (rest := []) (K2 := kX3_wrong) dX3_one_180 q2935 q2937 qs66 q113 q2938 ⟨rfl, hcX3_wrong⟩ rfl hT_22.1 (ct_wrong G h_22 b (tS ms 7 (nI (a + 1))) hb hT_22 T (a + 1) ((hS.kept I_24.2.2.2).1 (a + 1) N_23) (2 : Int32)) rfl (Nat.le_of_ble_eq_true rfl) ⟨by dsimp only [kX3_formula, kX3_row, kX3_since, kX3_one, kX3_expression, kX3_product, kX3_factor, kX3_fronted, kX3_compare, kX3_twoSided, kX3_braces, kX3_namedValue, kX3_bounds, kX3_sees, kX3_is, kX3_isName, kX3_which, kX3_numberOf, kX3_find, kX3_node, kX3_wrong, kJ12_length, meK]; omega, by dsimp only [kX3_formula, kX3_row, kX3_since, kX3_one, kX3_expression, kX3_product, kX3_factor, kX3_fronted, kX3_compare, kX3_twoSided, kX3_braces, kX3_namedValue, kX3_bounds, kX3_sees, kX3_is, kX3_isName, kX3_which, kX3_numberOf, kX3_find, kX3_node, kX3_wrong, kJ12_length, meK]; omega⟩ ⟨Nat.zero_le _, Nat.zero_le _⟩ (fun _ _ _ z => z.elim) rfl (fun r_180 h_180 q_180 => ?_)
                  obtain ⟨rfl, hT_180, hF_180, hz_180⟩ := q_180
                  have hG_180 := Fr.trans hF_22 hF_180
                  refine AW.sts (st' := [.int 2]) rfl ?_
                  exact aw_iret dX3_one_183 rfl ⟨tS (tS ms 7 (nI (a + 1))) 3 (nI (T.2.1 (a + 1))), by rw [g_30] <;> rfl, hT_180, hG_180, (by omega), fun z => absurd z (by rw [g_30]; exact (by decide : (2 : Nat) ≠ 0)), fun _ => ⟨(mE.of I_24.2.2.2).S (by decide), by rw [g_30] <;> rfl, by rw [g_30]; exact (by decide : (2 : Nat) < 50)⟩⟩ ⟨Nat.zero_le _, Nat.zero_le _⟩
              · skip
                have f_nf : nfT T ms (a + 1) = false := by unfold nfT; rw [g3]; simp [show ¬ fnT T ms (a + 1) = -1 from c_160]
                have g_31 := pG_F g_27 (by first | assumption | simp [f_nf])
                try dsimp only at g_31
                rw [g3, g6, show topX ms 1 (nI q) = ms.2.1 25 (12 * 1 + q) from by unfold topX; rw [nN_nI (by omega)]] at g_31
                refine aw_aload_n (n := 164) dX3_one_163 rfl 3 rfl rfl ?_
                refine aw_getf (n := 167) (v := .ref (b + 14)) (C0 := RX3) (T := TX3) dX3_one_164 rfl 21 q2662 (Or.inl rfl) hT_22.1 rfl rfl ?_
                refine aw_iload_n (n := 168) dX3_one_167 rfl 0 rfl rfl ?_
                refine aw_iald (n := 169) (v := .int (ms.2.1 21 j)) dX3_one_168 rfl j g1 hT_22.a21 (by omega) (by decide) rfl rfl ?_
                refine aw_iconst (n := 170) (v := 2) dX3_one_169 (by decide) rfl ?_
                refine aw_irem (n := 171) dX3_one_170 (by decide) rfl ?_
                refine AW.sts (st' := [.int 1]) (by rw [show ms.2.1 21 j = nI 1 from g5]; rfl) ?_
                refine aw_if_ne (n := 174) (tgt := 184) dX3_one_171 (by decide) rfl (fun c_171 => ?_) (fun c_171 => ?_)
                · skip
                  refine aw_aload_n (n := 185) dX3_one_184 rfl 3 rfl rfl ?_
                  refine aw_dup (n := 186) dX3_one_185 rfl rfl ?_
                  refine aw_getf (n := 189) (v := .int (nI (a + 1))) (C0 := RX3) (T := TX3) dX3_one_186 rfl 7 q2648 (Or.inl rfl) hT_22.1 rfl rfl ?_
                  refine aw_iconst (n := 190) (v := 1) dX3_one_189 (by decide) rfl ?_
                  refine aw_iadd (n := 191) dX3_one_190 rfl ?_
                  refine AW.sts (st' := [.int (nI ((a + 1) + 1)), .ref b]) (by rw [show (nI (a + 1)) + 1 = nI ((a + 1) + 1) from (nI_1 _)]) ?_
                  refine aw_tput (n := 194) (k := 7) dX3_one_191 q2648 (by decide) rfl rfl rfl rfl rfl hT_22 hb rfl rfl (fun h_32 hT_32 hF_32 hz_32 => ?_)
                  have hG_32 := Fr.trans hF_22 hF_32
                  have N_33 : (a + 1) + 1 ≤ N := lt_end hS.2.1 N_23 ne_28
                  have I_34 := I_24.at (a' := (a + 1) + 1) (by omega) (by omega)
                  rw [tS_tS] at hT_32
                  have I_35 : pM (B) a ms ((a + 1) + 1) (tS ms 7 (nI ((a + 1) + 1))) := by have z : pM (B) a ms ((a + 1) + 1) (tS (tS ms 7 (nI (a + 1))) 7 (nI ((a + 1) + 1))) := I_34; rw [tS_tS] at z; exact z
                  have tk_36 := (hS.kept I_35.2.2.2).1 ((a + 1) + 1) N_33; have Ktk_36 := tk_36.2.1
                  try simp only [Bool.true_and, pT, ef, cond_true, gOr, gAnd, gSum, gPro, tS_tS, seesP_eq N_33 hN4 hS.2.1, nmP_eq N_33 hN4 hS.2.1, nuP_eq N_33 hN4 hS.2.1, whP_eq N_33 hN4 hS.2.1] at g_31
                  refine aw_aload_n (n := 195) dX3_one_194 rfl 3 rfl rfl ?_
                  refine aw_bipush (n := 197) (v := 8) dX3_one_195 (by decide) rfl ?_
                  refine aw_aload_n (n := 198) dX3_one_197 rfl 3 rfl rfl ?_
                  refine aw_getf (n := 201) (v := .ref (b + 18)) (C0 := RX3) (T := TX3) dX3_one_198 rfl 25 q2666 (Or.inl rfl) hT_32.1 rfl rfl ?_
                  refine aw_bipush (n := 203) (v := 12) dX3_one_201 (by decide) rfl ?_
                  refine aw_aload_n (n := 204) dX3_one_203 rfl 3 rfl rfl ?_
                  refine aw_getf (n := 207) (v := .ref (b + 14)) (C0 := RX3) (T := TX3) dX3_one_204 rfl 21 q2662 (Or.inl rfl) hT_32.1 rfl rfl ?_
                  refine aw_iload_n (n := 208) dX3_one_207 rfl 0 rfl rfl ?_
                  refine aw_iald (n := 209) (v := .int (ms.2.1 21 j)) dX3_one_208 rfl j g1 hT_32.a21 (by omega) (by decide) rfl rfl ?_
                  refine aw_imul (n := 210) dX3_one_209 rfl ?_
                  refine aw_aload_n (n := 211) dX3_one_210 rfl 3 rfl rfl ?_
                  refine aw_getf (n := 214) (v := .ref (b + 15)) (C0 := RX3) (T := TX3) dX3_one_211 rfl 22 q2663 (Or.inl rfl) hT_32.1 rfl rfl ?_
                  refine aw_iload_n (n := 215) dX3_one_214 rfl 0 rfl rfl ?_
                  refine aw_iald (n := 216) (v := .int (ms.2.1 22 j)) dX3_one_215 rfl j g1 hT_32.a22 (by omega) (by decide) rfl rfl ?_
                  refine aw_iadd (n := 217) dX3_one_216 rfl ?_
                  refine aw_iald (n := 218) (v := .int (ms.2.1 25 ((12 * 1) + q))) dX3_one_217 rfl ((12 * 1) + q) (by rw [show 12 * (ms.2.1 21 j) = nI (12 * 1) from (by rw [show 12 = nI 12 from (by rfl), show ms.2.1 21 j = nI 1 from g5]; exact pk_mul _ _), show ms.2.1 22 j = nI q from g6r]; exact nI_add _ _) hT_32.a25 (by omega) (by decide) rfl rfl ?_
                  refine aw_iconst (n := 219) (v := (-1)) dX3_one_218 (by decide) rfl ?_
                  refine aw_iconst (n := 220) (v := (-1)) dX3_one_219 (by decide) rfl ?_
                  refine aw_aload_n (n := 221) dX3_one_220 rfl 3 rfl rfl ?_
                  refine aw_getf (n := 224) (v := .ref (b + 3)) (C0 := RX3) (T := TX3) dX3_one_221 rfl 5 q2646 (Or.inl rfl) hT_32.1 rfl rfl ?_
                  refine aw_iload_n (n := 225) dX3_one_224 rfl 2 rfl rfl ?_
                  refine aw_iald (n := 226) (v := .int (ms.2.1 5 a)) dX3_one_225 rfl a rfl hT_32.a5 (by omega) (by decide) rfl rfl ?_
                  have nlt_226 : nn (tS ms 7 (nI ((a + 1) + 1))) < 1203 := Nat.lt_of_le_of_lt I_35.2.2.1.2.2.1 (by have := I_35.2.1; omega)
                  refine AW.sts (st' := [.int (frmI T a), .int (-1), .int (-1), .int (ms.2.1 25 ((12 * 1) + q)), .int 8, .ref b]) (by rw [show ms.2.1 5 a = frmI T a from (hS.1 a hN).2.2.2.1]) ?_
                  refine aw_callV (n := 229) (C0 := RX3) (As := [.int 8, .int (ms.2.1 25 ((12 * 1) + q)), .int (-1), .int (-1), .int (frmI T a)]) (rest := []) (K2 := kX3_node) dX3_one_226 q2974 q2976 qs75 q113 q2977 ⟨rfl, hcX3_node⟩ rfl hT_32.1 (ct_node G h_32 b (tS ms 7 (nI ((a + 1) + 1))) hb hT_32 (8 : Int32) (ms.2.1 25 ((12 * 1) + q)) ((-1) : Int32) ((-1) : Int32) (frmI T a) I_35.2.2.1.2.1 (by have := I_35.2.2.1.2.2.1; have := I_35.2.1; omega)) rfl (Nat.le_of_ble_eq_true rfl) ⟨by dsimp only [kX3_formula, kX3_row, kX3_since, kX3_one, kX3_expression, kX3_product, kX3_factor, kX3_fronted, kX3_compare, kX3_twoSided, kX3_braces, kX3_namedValue, kX3_bounds, kX3_sees, kX3_is, kX3_isName, kX3_which, kX3_numberOf, kX3_find, kX3_node, kX3_wrong, kJ12_length, meK]; omega, by dsimp only [kX3_formula, kX3_row, kX3_since, kX3_one, kX3_expression, kX3_product, kX3_factor, kX3_fronted, kX3_compare, kX3_twoSided, kX3_braces, kX3_namedValue, kX3_bounds, kX3_sees, kX3_is, kX3_isName, kX3_which, kX3_numberOf, kX3_find, kX3_node, kX3_wrong, kJ12_length, meK]; omega⟩ ⟨Nat.zero_le _, Nat.zero_le _⟩ (fun _ _ _ z => z.elim) rfl (fun r_226 h_226 q_226 => ?_)
                  obtain ⟨rfl, hT_226, hF_226, hz_226⟩ := q_226
                  have hG_226 := Fr.trans hG_32 hF_226
                  refine AW.sts (st' := [.int 0]) rfl ?_
                  exact aw_iret dX3_one_229 rfl ⟨nodT (tS ms 7 (nI ((a + 1) + 1))) (8 : Int32) (ms.2.1 25 ((12 * 1) + q)) ((-1) : Int32) ((-1) : Int32) (frmI T a), by rw [g_31] <;> rfl, hT_226, hG_226, (by omega), fun _ => by rw [g_31] <;> rfl, fun z => absurd (by rw [g_31] <;> rfl) z⟩ ⟨Nat.zero_le _, Nat.zero_le _⟩
                · skip
                  exact absurd c_171 (by decide +kernel)
              · skip
                have f_nf : nfT T ms (a + 1) = true := by unfold nfT; rw [g3]; simp
                have g_37 := pG_T g_27 (by first | assumption | simp [f_nf])
                try dsimp only at g_37
                refine aw_aload_n (n := 164) dX3_one_163 rfl 3 rfl rfl ?_
                refine aw_getf (n := 167) (v := .ref (b + 14)) (C0 := RX3) (T := TX3) dX3_one_164 rfl 21 q2662 (Or.inl rfl) hT_22.1 rfl rfl ?_
                refine aw_iload_n (n := 168) dX3_one_167 rfl 0 rfl rfl ?_
                refine aw_iald (n := 169) (v := .int (ms.2.1 21 j)) dX3_one_168 rfl j g1 hT_22.a21 (by omega) (by decide) rfl rfl ?_
                refine aw_iconst (n := 170) (v := 2) dX3_one_169 (by decide) rfl ?_
                refine aw_irem (n := 171) dX3_one_170 (by decide) rfl ?_
                refine AW.sts (st' := [.int 0]) (by rw [show ms.2.1 21 j = nI 2 from g5]; rfl) ?_
                refine aw_if_ne (n := 174) (tgt := 184) dX3_one_171 (by decide) rfl (fun c_171 => ?_) (fun c_171 => ?_)
                · skip
                  exact absurd c_171 (by decide +kernel)
                · skip
                  refine aw_aload_n (n := 175) dX3_one_174 rfl 3 rfl rfl ?_
                  refine aw_iconst (n := 176) (v := 2) dX3_one_175 (by decide) rfl ?_
                  refine aw_aload_n (n := 177) dX3_one_176 rfl 3 rfl rfl ?_
                  refine aw_getf (n := 180) (v := .int (nI (a + 1))) (C0 := RX3) (T := TX3) dX3_one_177 rfl 7 q2648 (Or.inl rfl) hT_22.1 rfl rfl ?_
                  refine aw_callV (n := 183) (C0 := RX3) (As := [.int 2, .int (nI (a + 1))]) (rest := []) (K2 := kX3_wrong) dX3_one_180 q2935 q2937 qs66 q113 q2938 ⟨rfl, hcX3_wrong⟩ rfl hT_22.1 (ct_wrong G h_22 b (tS ms 7 (nI (a + 1))) hb hT_22 T (a + 1) ((hS.kept I_24.2.2.2).1 (a + 1) N_23) (2 : Int32)) rfl (Nat.le_of_ble_eq_true rfl) ⟨by dsimp only [kX3_formula, kX3_row, kX3_since, kX3_one, kX3_expression, kX3_product, kX3_factor, kX3_fronted, kX3_compare, kX3_twoSided, kX3_braces, kX3_namedValue, kX3_bounds, kX3_sees, kX3_is, kX3_isName, kX3_which, kX3_numberOf, kX3_find, kX3_node, kX3_wrong, kJ12_length, meK]; omega, by dsimp only [kX3_formula, kX3_row, kX3_since, kX3_one, kX3_expression, kX3_product, kX3_factor, kX3_fronted, kX3_compare, kX3_twoSided, kX3_braces, kX3_namedValue, kX3_bounds, kX3_sees, kX3_is, kX3_isName, kX3_which, kX3_numberOf, kX3_find, kX3_node, kX3_wrong, kJ12_length, meK]; omega⟩ ⟨Nat.zero_le _, Nat.zero_le _⟩ (fun _ _ _ z => z.elim) rfl (fun r_180 h_180 q_180 => ?_)
                  obtain ⟨rfl, hT_180, hF_180, hz_180⟩ := q_180
                  have hG_180 := Fr.trans hF_22 hF_180
                  refine AW.sts (st' := [.int 2]) rfl ?_
                  exact aw_iret dX3_one_183 rfl ⟨tS (tS ms 7 (nI (a + 1))) 3 (nI (T.2.1 (a + 1))), by rw [g_37] <;> rfl, hT_180, hG_180, (by omega), fun z => absurd z (by rw [g_37]; exact (by decide : (2 : Nat) ≠ 0)), fun _ => ⟨(mE.of I_24.2.2.2).S (by decide), by rw [g_37] <;> rfl, by rw [g_37]; exact (by decide : (2 : Nat) < 50)⟩⟩ ⟨Nat.zero_le _, Nat.zero_le _⟩
              · skip
                have f_nf : nfT T ms (a + 1) = false := by unfold nfT; rw [g3]; simp [show ¬ fnT T ms (a + 1) = -1 from c_160]
                have g_38 := pG_F g_27 (by first | assumption | simp [f_nf])
                try dsimp only at g_38
                rw [g3, g6, show topX ms 3 (nI q) = ms.2.1 25 (12 * 3 + q) from by unfold topX; rw [nN_nI (by omega)]] at g_38
                refine aw_aload_n (n := 164) dX3_one_163 rfl 3 rfl rfl ?_
                refine aw_getf (n := 167) (v := .ref (b + 14)) (C0 := RX3) (T := TX3) dX3_one_164 rfl 21 q2662 (Or.inl rfl) hT_22.1 rfl rfl ?_
                refine aw_iload_n (n := 168) dX3_one_167 rfl 0 rfl rfl ?_
                refine aw_iald (n := 169) (v := .int (ms.2.1 21 j)) dX3_one_168 rfl j g1 hT_22.a21 (by omega) (by decide) rfl rfl ?_
                refine aw_iconst (n := 170) (v := 2) dX3_one_169 (by decide) rfl ?_
                refine aw_irem (n := 171) dX3_one_170 (by decide) rfl ?_
                refine AW.sts (st' := [.int 1]) (by rw [show ms.2.1 21 j = nI 3 from g5]; rfl) ?_
                refine aw_if_ne (n := 174) (tgt := 184) dX3_one_171 (by decide) rfl (fun c_171 => ?_) (fun c_171 => ?_)
                · skip
                  refine aw_aload_n (n := 185) dX3_one_184 rfl 3 rfl rfl ?_
                  refine aw_dup (n := 186) dX3_one_185 rfl rfl ?_
                  refine aw_getf (n := 189) (v := .int (nI (a + 1))) (C0 := RX3) (T := TX3) dX3_one_186 rfl 7 q2648 (Or.inl rfl) hT_22.1 rfl rfl ?_
                  refine aw_iconst (n := 190) (v := 1) dX3_one_189 (by decide) rfl ?_
                  refine aw_iadd (n := 191) dX3_one_190 rfl ?_
                  refine AW.sts (st' := [.int (nI ((a + 1) + 1)), .ref b]) (by rw [show (nI (a + 1)) + 1 = nI ((a + 1) + 1) from (nI_1 _)]) ?_
                  refine aw_tput (n := 194) (k := 7) dX3_one_191 q2648 (by decide) rfl rfl rfl rfl rfl hT_22 hb rfl rfl (fun h_39 hT_39 hF_39 hz_39 => ?_)
                  have hG_39 := Fr.trans hF_22 hF_39
                  have N_40 : (a + 1) + 1 ≤ N := lt_end hS.2.1 N_23 ne_28
                  have I_41 := I_24.at (a' := (a + 1) + 1) (by omega) (by omega)
                  rw [tS_tS] at hT_39
                  have I_42 : pM (B) a ms ((a + 1) + 1) (tS ms 7 (nI ((a + 1) + 1))) := by have z : pM (B) a ms ((a + 1) + 1) (tS (tS ms 7 (nI (a + 1))) 7 (nI ((a + 1) + 1))) := I_41; rw [tS_tS] at z; exact z
                  have tk_43 := (hS.kept I_42.2.2.2).1 ((a + 1) + 1) N_40; have Ktk_43 := tk_43.2.1
                  try simp only [Bool.true_and, pT, ef, cond_true, gOr, gAnd, gSum, gPro, tS_tS, seesP_eq N_40 hN4 hS.2.1, nmP_eq N_40 hN4 hS.2.1, nuP_eq N_40 hN4 hS.2.1, whP_eq N_40 hN4 hS.2.1] at g_38
                  refine aw_aload_n (n := 195) dX3_one_194 rfl 3 rfl rfl ?_
                  refine aw_bipush (n := 197) (v := 8) dX3_one_195 (by decide) rfl ?_
                  refine aw_aload_n (n := 198) dX3_one_197 rfl 3 rfl rfl ?_
                  refine aw_getf (n := 201) (v := .ref (b + 18)) (C0 := RX3) (T := TX3) dX3_one_198 rfl 25 q2666 (Or.inl rfl) hT_39.1 rfl rfl ?_
                  refine aw_bipush (n := 203) (v := 12) dX3_one_201 (by decide) rfl ?_
                  refine aw_aload_n (n := 204) dX3_one_203 rfl 3 rfl rfl ?_
                  refine aw_getf (n := 207) (v := .ref (b + 14)) (C0 := RX3) (T := TX3) dX3_one_204 rfl 21 q2662 (Or.inl rfl) hT_39.1 rfl rfl ?_
                  refine aw_iload_n (n := 208) dX3_one_207 rfl 0 rfl rfl ?_
                  refine aw_iald (n := 209) (v := .int (ms.2.1 21 j)) dX3_one_208 rfl j g1 hT_39.a21 (by omega) (by decide) rfl rfl ?_
                  refine aw_imul (n := 210) dX3_one_209 rfl ?_
                  refine aw_aload_n (n := 211) dX3_one_210 rfl 3 rfl rfl ?_
                  refine aw_getf (n := 214) (v := .ref (b + 15)) (C0 := RX3) (T := TX3) dX3_one_211 rfl 22 q2663 (Or.inl rfl) hT_39.1 rfl rfl ?_
                  refine aw_iload_n (n := 215) dX3_one_214 rfl 0 rfl rfl ?_
                  refine aw_iald (n := 216) (v := .int (ms.2.1 22 j)) dX3_one_215 rfl j g1 hT_39.a22 (by omega) (by decide) rfl rfl ?_
                  refine aw_iadd (n := 217) dX3_one_216 rfl ?_
                  refine aw_iald (n := 218) (v := .int (ms.2.1 25 ((12 * 3) + q))) dX3_one_217 rfl ((12 * 3) + q) (by rw [show 12 * (ms.2.1 21 j) = nI (12 * 3) from (by rw [show 12 = nI 12 from (by rfl), show ms.2.1 21 j = nI 3 from g5]; exact pk_mul _ _), show ms.2.1 22 j = nI q from g6r]; exact nI_add _ _) hT_39.a25 (by omega) (by decide) rfl rfl ?_
                  refine aw_iconst (n := 219) (v := (-1)) dX3_one_218 (by decide) rfl ?_
                  refine aw_iconst (n := 220) (v := (-1)) dX3_one_219 (by decide) rfl ?_
                  refine aw_aload_n (n := 221) dX3_one_220 rfl 3 rfl rfl ?_
                  refine aw_getf (n := 224) (v := .ref (b + 3)) (C0 := RX3) (T := TX3) dX3_one_221 rfl 5 q2646 (Or.inl rfl) hT_39.1 rfl rfl ?_
                  refine aw_iload_n (n := 225) dX3_one_224 rfl 2 rfl rfl ?_
                  refine aw_iald (n := 226) (v := .int (ms.2.1 5 a)) dX3_one_225 rfl a rfl hT_39.a5 (by omega) (by decide) rfl rfl ?_
                  have nlt_226 : nn (tS ms 7 (nI ((a + 1) + 1))) < 1203 := Nat.lt_of_le_of_lt I_42.2.2.1.2.2.1 (by have := I_42.2.1; omega)
                  refine AW.sts (st' := [.int (frmI T a), .int (-1), .int (-1), .int (ms.2.1 25 ((12 * 3) + q)), .int 8, .ref b]) (by rw [show ms.2.1 5 a = frmI T a from (hS.1 a hN).2.2.2.1]) ?_
                  refine aw_callV (n := 229) (C0 := RX3) (As := [.int 8, .int (ms.2.1 25 ((12 * 3) + q)), .int (-1), .int (-1), .int (frmI T a)]) (rest := []) (K2 := kX3_node) dX3_one_226 q2974 q2976 qs75 q113 q2977 ⟨rfl, hcX3_node⟩ rfl hT_39.1 (ct_node G h_39 b (tS ms 7 (nI ((a + 1) + 1))) hb hT_39 (8 : Int32) (ms.2.1 25 ((12 * 3) + q)) ((-1) : Int32) ((-1) : Int32) (frmI T a) I_42.2.2.1.2.1 (by have := I_42.2.2.1.2.2.1; have := I_42.2.1; omega)) rfl (Nat.le_of_ble_eq_true rfl) ⟨by dsimp only [kX3_formula, kX3_row, kX3_since, kX3_one, kX3_expression, kX3_product, kX3_factor, kX3_fronted, kX3_compare, kX3_twoSided, kX3_braces, kX3_namedValue, kX3_bounds, kX3_sees, kX3_is, kX3_isName, kX3_which, kX3_numberOf, kX3_find, kX3_node, kX3_wrong, kJ12_length, meK]; omega, by dsimp only [kX3_formula, kX3_row, kX3_since, kX3_one, kX3_expression, kX3_product, kX3_factor, kX3_fronted, kX3_compare, kX3_twoSided, kX3_braces, kX3_namedValue, kX3_bounds, kX3_sees, kX3_is, kX3_isName, kX3_which, kX3_numberOf, kX3_find, kX3_node, kX3_wrong, kJ12_length, meK]; omega⟩ ⟨Nat.zero_le _, Nat.zero_le _⟩ (fun _ _ _ z => z.elim) rfl (fun r_226 h_226 q_226 => ?_)
                  obtain ⟨rfl, hT_226, hF_226, hz_226⟩ := q_226
                  have hG_226 := Fr.trans hG_39 hF_226
                  refine AW.sts (st' := [.int 0]) rfl ?_
                  exact aw_iret dX3_one_229 rfl ⟨nodT (tS ms 7 (nI ((a + 1) + 1))) (8 : Int32) (ms.2.1 25 ((12 * 3) + q)) ((-1) : Int32) ((-1) : Int32) (frmI T a), by rw [g_38] <;> rfl, hT_226, hG_226, (by omega), fun _ => by rw [g_38] <;> rfl, fun z => absurd (by rw [g_38] <;> rfl) z⟩ ⟨Nat.zero_le _, Nat.zero_le _⟩
                · skip
                  exact absurd c_171 (by decide +kernel)
          · skip
            have b_130 : (seesB T a (sw 15)) = false := (bI_0 _).mp c_130
            have g_44 := pG_F g_17 (by first | assumption | simp [v_19, b_35, b_71, b_80, b_130])
            try dsimp only at g_44
            refine aw_aload_n (n := 134) dX3_one_133 rfl 2 rfl rfl ?_
            refine aw_iload_n (n := 135) dX3_one_134 rfl 1 rfl rfl ?_
            obtain ⟨e_135, l_135, a_135, w_135, hR_135⟩ : ∃ (e8 l8 x8 : Nat) (w8 : tM), pCm T true (pX T true f) d a ms = (e8, l8, x8, w8) := ⟨_, _, _, _, rfl⟩
            have n1_135 : (pCm T true (pX T true f) d a ms).1 ≠ 1 := (by rw [← g_44]; exact h1)
            have n9_135 : (pCm T true (pX T true f) d a ms).1 ≠ 99 := (by rw [← g_44]; exact h9)
            have V_135 := (by have z := pX_inv T (f + 1) 4 d a (B + 1) ms (by omega) hB (by omega) hm; rw [hW_, g_44] at z; exact z)
            have Z_135 := (by have z := pX_N (T := T) (N := N) (f := f + 1) (nt := 4) (d := d) (a := a) (m := ms) hS.2.1 hN (by omega); rw [hW_, g_44] at z; exact z)
            rw [hR_135] at g_44 V_135 Z_135
            refine aw_callV (n := 138) (C0 := RX3) (As := [.int (nI a)]) (rest := []) (K2 := kX3_compare) dX3_one_135 q3010 q3012 qs84 q113 q3013 ⟨rfl, hcX3_compare⟩ rfl hT.1 (cm_compare G h b ms T N a hb hT hS hN4 hN f d B hfB hB hm n1_135 n9_135 ih) rfl (Nat.le_of_ble_eq_true rfl) ⟨by dsimp only [kX3_formula, kX3_row, kX3_since, kX3_one, kX3_expression, kX3_product, kX3_factor, kX3_fronted, kX3_compare, kX3_twoSided, kX3_braces, kX3_namedValue, kX3_bounds, kX3_sees, kX3_is, kX3_isName, kX3_which, kX3_numberOf, kX3_find, kX3_node, kX3_wrong, kJ12_length, meK]; omega, by dsimp only [kX3_formula, kX3_row, kX3_since, kX3_one, kX3_expression, kX3_product, kX3_factor, kX3_fronted, kX3_compare, kX3_twoSided, kX3_braces, kX3_namedValue, kX3_bounds, kX3_sees, kX3_is, kX3_isName, kX3_which, kX3_numberOf, kX3_find, kX3_node, kX3_wrong, kJ12_length, meK]; omega⟩ ⟨Nat.zero_le _, Nat.zero_le _⟩ (fun _ _ _ z => z.elim) rfl (fun r_135 h_135 q_135 => ?_)
            obtain ⟨m_135, rfl, hT_135, hF_135, hz_135, ok_135, er_135⟩ := q_135
            rw [hR_135] at ok_135 er_135
            dsimp only at ok_135 er_135
            rcases Nat.eq_zero_or_pos e_135 with y_135 | y_135
            · skip
              subst y_135
              have x_135 := ok_135 rfl
              subst x_135
              refine AW.sts (st' := [.int 0]) (by rw [hR_135]; rfl) ?_
              replace V_135 := V_135 rfl
              replace Z_135 := Z_135 rfl
              dsimp only at V_135 Z_135
              have lt_135 : nN (m_135.1 17) < 1203 := by have := V_135.2.2.1; have := V_135.1.2.2.1.2.2.1; have := V_135.1.2.1; omega
              have tk_45 := (hS.kept V_135.1.2.2.2).1 a_135 Z_135; have Ktk_45 := tk_45.2.1
              try simp only [Bool.true_and, pT, ef, cond_true, gOr, gAnd, gSum, gPro, tS_tS, seesP_eq Z_135 hN4 hS.2.1, nmP_eq Z_135 hN4 hS.2.1, nuP_eq Z_135 hN4 hS.2.1, whP_eq Z_135 hN4 hS.2.1] at g_44
              exact aw_iret dX3_one_138 rfl ⟨m_135, by rw [g_44] <;> rfl, hT_135, hF_135, (by omega), fun _ => by rw [g_44] <;> rfl, fun z => absurd (by rw [g_44] <;> rfl) z⟩ ⟨Nat.zero_le _, Nat.zero_le _⟩
            · skip
              refine AW.sts (st' := [.int (nI e_135)]) (by rw [hR_135]; rfl) ?_
              have gE_135 : W9 = (e_135, l_135, a_135, w_135) := g_44
              replace er_135 := er_135 (by omega)
              have E_135 := mE.tr hI0.2.2.2 er_135.1
              have P_135 := er_135.2.1
              exact aw_iret dX3_one_138 rfl ⟨m_135, by rw [gE_135], hT_135, hF_135, (by omega), fun z => absurd z (by rw [gE_135]; show e_135 ≠ 0; omega), fun _ => ⟨E_135, by rw [gE_135]; exact P_135, by rw [gE_135]; exact er_135.2.2⟩⟩ ⟨Nat.zero_le _, Nat.zero_le _⟩
        · skip
          have b_80 : (seesB T a (sw 17)) = true := Bool.of_not_eq_false (fun e => c_80 ((bI_0 _).mpr e))
          have g_47 := pG_T g_6 (by first | assumption | simp [v_19, b_35, b_71, b_80])
          try dsimp only at g_47
          have ne_48 : T.1 a ≠ 0 := by have z9 := b_80; first | exact seesB_ne z9 | exact isNm_ne z9 | (have z8 := (beq_iff_eq.mp z9); omega) | exact whT_lt (bne_iff_ne.mp z9) | (rcases (Bool.or_eq_true _ _).mp z9 with z8 | z8 <;> first | exact seesB_ne z8 | (rcases (Bool.or_eq_true _ _).mp z8 with z7 | z7 <;> exact seesB_ne z7))
          refine aw_aload_n (n := 84) dX3_one_83 rfl 2 rfl rfl ?_
          refine aw_dup (n := 85) dX3_one_84 rfl rfl ?_
          refine aw_getf (n := 88) (v := .int (nI a)) (C0 := RX3) (T := TX3) dX3_one_85 rfl 7 q2648 (Or.inl rfl) hT.1 (congrArg some (congrArg Value.int hI0.2.2.1.1)) rfl ?_
          refine aw_iconst (n := 89) (v := 1) dX3_one_88 (by decide) rfl ?_
          refine aw_iadd (n := 90) dX3_one_89 rfl ?_
          refine AW.sts (st' := [.int (nI (a + 1)), .ref b]) (by rw [show (nI a) + 1 = nI (a + 1) from (nI_1 _)]) ?_
          refine aw_tput (n := 93) (k := 7) dX3_one_90 q2648 (by decide) rfl rfl rfl rfl rfl hT hb rfl rfl (fun h_49 hT_49 hF_49 hz_49 => ?_)
          have N_50 : a + 1 ≤ N := lt_end hS.2.1 hN ne_48
          have I_51 := hI0.at1 (by omega)
          have tk_52 := (hS.kept I_51.2.2.2).1 (a + 1) N_50; have Ktk_52 := tk_52.2.1
          try simp only [Bool.true_and, pT, ef, cond_true, gOr, gAnd, gSum, gPro, tS_tS, seesP_eq N_50 hN4 hS.2.1, nmP_eq N_50 hN4 hS.2.1, nuP_eq N_50 hN4 hS.2.1, whP_eq N_50 hN4 hS.2.1] at g_47
          refine aw_aload_n (n := 94) dX3_one_93 rfl 2 rfl rfl ?_
          refine aw_aload_n (n := 95) dX3_one_94 rfl 2 rfl rfl ?_
          refine aw_iload_n (n := 96) dX3_one_95 rfl 1 rfl rfl ?_
          refine aw_ldcS (n := 98) (q := 16) dX3_one_96 110 rfl rfl ?_
          refine aw_know (fun gd_52 hi_52 => ?_)
          refine aw_callV (n := 101) (C0 := RX3) (As := [.int (nI a), .ref (gT G 16)]) (rest := [.ref b]) (K2 := kX3_is) dX3_one_98 q2830 q2832 qs51 q113 q2833 ⟨rfl, hcX3_is⟩ rfl hT_49.1 (ct_is G h_49 b (tS ms 7 (nI (a + 1))) hb hT_49 T a ((hS.kept I_51.2.2.2).1 a hN) _ (sw 16) (str_at gd_52 hi_52 (i := 16) rfl) (lo_at (i := 16) rfl)) rfl (Nat.le_of_ble_eq_true rfl) ⟨by dsimp only [kX3_formula, kX3_row, kX3_since, kX3_one, kX3_expression, kX3_product, kX3_factor, kX3_fronted, kX3_compare, kX3_twoSided, kX3_braces, kX3_namedValue, kX3_bounds, kX3_sees, kX3_is, kX3_isName, kX3_which, kX3_numberOf, kX3_find, kX3_node, kX3_wrong, kJ12_length, meK]; omega, by dsimp only [kX3_formula, kX3_row, kX3_since, kX3_one, kX3_expression, kX3_product, kX3_factor, kX3_fronted, kX3_compare, kX3_twoSided, kX3_braces, kX3_namedValue, kX3_bounds, kX3_sees, kX3_is, kX3_isName, kX3_which, kX3_numberOf, kX3_find, kX3_node, kX3_wrong, kJ12_length, meK]; omega⟩ ⟨Nat.zero_le _, Nat.zero_le _⟩ (fun _ _ _ z => z.elim) rfl (fun r_98 h_98 q_98 => ?_)
          obtain ⟨rfl, rfl⟩ := q_98
          refine AW.sts (st' := [.int (bI (seesB T a (sw 16))), .ref b]) rfl ?_
          refine aw_if_eq (n := 104) (tgt := 109) dX3_one_101 (by decide) rfl (fun c_101 => ?_) (fun c_101 => ?_)
          · skip
            have b_101 : (seesB T a (sw 16)) = false := (bI_0 _).mp c_101
            try simp only [if_neg (show ¬ seesB T a (sw 16) = true from by rw [b_101]; decide)] at g_47
            refine aw_bipush (n := 111) (v := 7) dX3_one_109 (by decide) rfl ?_
            refine aw_iconst (n := 112) (v := (-1)) dX3_one_111 (by decide) rfl ?_
            refine aw_iconst (n := 113) (v := (-1)) dX3_one_112 (by decide) rfl ?_
            refine aw_iconst (n := 114) (v := (-1)) dX3_one_113 (by decide) rfl ?_
            refine aw_aload_n (n := 115) dX3_one_114 rfl 2 rfl rfl ?_
            refine aw_getf (n := 118) (v := .ref (b + 3)) (C0 := RX3) (T := TX3) dX3_one_115 rfl 5 q2646 (Or.inl rfl) hT_49.1 rfl rfl ?_
            refine aw_iload_n (n := 119) dX3_one_118 rfl 1 rfl rfl ?_
            refine aw_iald (n := 120) (v := .int (ms.2.1 5 a)) dX3_one_119 rfl a rfl hT_49.a5 (by omega) (by decide) rfl rfl ?_
            have nlt_120 : nn (tS ms 7 (nI (a + 1))) < 1203 := Nat.lt_of_le_of_lt I_51.2.2.1.2.2.1 (by have := I_51.2.1; omega)
            refine AW.sts (st' := [.int (frmI T a), .int (-1), .int (-1), .int (-1), .int 7, .ref b]) (by rw [show ms.2.1 5 a = frmI T a from (hS.1 a hN).2.2.2.1]) ?_
            refine aw_callV (n := 123) (C0 := RX3) (As := [.int 7, .int (-1), .int (-1), .int (-1), .int (frmI T a)]) (rest := []) (K2 := kX3_node) dX3_one_120 q2974 q2976 qs75 q113 q2977 ⟨rfl, hcX3_node⟩ rfl hT_49.1 (ct_node G h_49 b (tS ms 7 (nI (a + 1))) hb hT_49 (7 : Int32) ((-1) : Int32) ((-1) : Int32) ((-1) : Int32) (frmI T a) I_51.2.2.1.2.1 (by have := I_51.2.2.1.2.2.1; have := I_51.2.1; omega)) rfl (Nat.le_of_ble_eq_true rfl) ⟨by dsimp only [kX3_formula, kX3_row, kX3_since, kX3_one, kX3_expression, kX3_product, kX3_factor, kX3_fronted, kX3_compare, kX3_twoSided, kX3_braces, kX3_namedValue, kX3_bounds, kX3_sees, kX3_is, kX3_isName, kX3_which, kX3_numberOf, kX3_find, kX3_node, kX3_wrong, kJ12_length, meK]; omega, by dsimp only [kX3_formula, kX3_row, kX3_since, kX3_one, kX3_expression, kX3_product, kX3_factor, kX3_fronted, kX3_compare, kX3_twoSided, kX3_braces, kX3_namedValue, kX3_bounds, kX3_sees, kX3_is, kX3_isName, kX3_which, kX3_numberOf, kX3_find, kX3_node, kX3_wrong, kJ12_length, meK]; omega⟩ ⟨Nat.zero_le _, Nat.zero_le _⟩ (fun _ _ _ z => z.elim) rfl (fun r_120 h_120 q_120 => ?_)
            obtain ⟨rfl, hT_120, hF_120, hz_120⟩ := q_120
            have hG_120 := Fr.trans hF_49 hF_120
            refine AW.sts (st' := [.int 0]) rfl ?_
            exact aw_iret dX3_one_123 rfl ⟨nodT (tS ms 7 (nI (a + 1))) (7 : Int32) ((-1) : Int32) ((-1) : Int32) ((-1) : Int32) (frmI T a), by rw [g_47] <;> rfl, hT_120, hG_120, (by omega), fun _ => by rw [g_47] <;> rfl, fun z => absurd (by rw [g_47] <;> rfl) z⟩ ⟨Nat.zero_le _, Nat.zero_le _⟩
          · skip
            have b_101 : (seesB T a (sw 16)) = true := Bool.of_not_eq_false (fun e => c_101 ((bI_0 _).mpr e))
            exact absurd (b_71.symm.trans b_101) (by decide)
    · skip
      have b_35 : (seesB T a (sw 49)) = true := Bool.of_not_eq_false (fun e => c_35 ((bI_0 _).mpr e))
      have g_55 := pG_T g_4 (by first | assumption | simp [v_19, b_35])
      try dsimp only at g_55
      have ne_56 : T.1 a ≠ 0 := by have z9 := b_35; first | exact seesB_ne z9 | exact isNm_ne z9 | (have z8 := (beq_iff_eq.mp z9); omega) | exact whT_lt (bne_iff_ne.mp z9) | (rcases (Bool.or_eq_true _ _).mp z9 with z8 | z8 <;> first | exact seesB_ne z8 | (rcases (Bool.or_eq_true _ _).mp z8 with z7 | z7 <;> exact seesB_ne z7))
      unfold pBo at g_55
      try simp only [Bool.true_and, pT, ef, cond_true, gOr, gAnd, gSum, gPro, tS_tS, seesP_eq hN hN4 hS.2.1, nmP_eq hN hN4 hS.2.1, nuP_eq hN hN4 hS.2.1, whP_eq hN hN4 hS.2.1] at g_55
      have g_57 := pG_bc g_55 h1
      have g_58 := g_57.2
      try dsimp only at g_58
      have hd9 : d < 10 := of_decide_eq_true g_57.1
      refine aw_aload_n (n := 39) dX3_one_38 rfl 2 rfl rfl ?_
      refine aw_dup (n := 40) dX3_one_39 rfl rfl ?_
      refine aw_getf (n := 43) (v := .int (nI a)) (C0 := RX3) (T := TX3) dX3_one_40 rfl 7 q2648 (Or.inl rfl) hT.1 (congrArg some (congrArg Value.int hI0.2.2.1.1)) rfl ?_
      refine aw_iconst (n := 44) (v := 1) dX3_one_43 (by decide) rfl ?_
      refine aw_iadd (n := 45) dX3_one_44 rfl ?_
      refine AW.sts (st' := [.int (nI (a + 1)), .ref b]) (by rw [show (nI a) + 1 = nI (a + 1) from (nI_1 _)]) ?_
      refine aw_tput (n := 48) (k := 7) dX3_one_45 q2648 (by decide) rfl rfl rfl rfl rfl hT hb rfl rfl (fun h_59 hT_59 hF_59 hz_59 => ?_)
      have N_60 : a + 1 ≤ N := lt_end hS.2.1 hN ne_56
      have I_61 := hI0.at1 (by omega)
      have tk_62 := (hS.kept I_61.2.2.2).1 (a + 1) N_60; have Ktk_62 := tk_62.2.1
      try simp only [Bool.true_and, pT, ef, cond_true, gOr, gAnd, gSum, gPro, tS_tS, seesP_eq N_60 hN4 hS.2.1, nmP_eq N_60 hN4 hS.2.1, nuP_eq N_60 hN4 hS.2.1, whP_eq N_60 hN4 hS.2.1] at g_58
      refine aw_aload_n (n := 49) dX3_one_48 rfl 2 rfl rfl ?_
      obtain ⟨e_49, l_49, a_49, w_49, hR_49⟩ : ∃ (e8 l8 x8 : Nat) (w8 : tM), pX T true f 0 (d + 1) (a + 1) (tS ms 7 (nI (a + 1))) = (e8, l8, x8, w8) := ⟨_, _, _, _, rfl⟩
      have n1_49 : (pX T true f 0 (d + 1) (a + 1) (tS ms 7 (nI (a + 1)))).1 ≠ 1 := pG_n g_58 h1 (by decide)
      have n9_49 : (pX T true f 0 (d + 1) (a + 1) (tS ms 7 (nI (a + 1)))).1 ≠ 99 := pG_n g_58 h9 (by decide)
      have V_49 := (pX_inv T f 0 (d + 1) (a + 1) (B) (tS ms 7 (nI (a + 1))) (by omega) (by omega) (by omega) I_61.2.2.1).w (fun _ _ z => I_61.trW z)
      have Z_49 := pX_N (T := T) (N := N) (f := f) (nt := 0) (d := d + 1) (a := a + 1) (m := tS ms 7 (nI (a + 1))) hS.2.1 N_60 (by omega)
      have U_49 := pX_inv T f 0 (d + 1) (a + 1) (B) (tS ms 7 (nI (a + 1))) (by omega) (by omega) (by omega) I_61.2.2.1
      rw [hR_49] at U_49
      rw [hR_49] at g_58 V_49 Z_49
      refine aw_callV (n := 52) (C0 := RX3) (As := []) (rest := []) (K2 := kX3_formula) dX3_one_49 q2986 q2988 qs78 q113 q2989 ⟨rfl, hcX3_formula⟩ rfl hT_59.1 (ih 0 h_59 b (tS ms 7 (nI (a + 1))) T N (a + 1) (d + 1) (B) (by decide) hb hT_59 (hS.kept I_61.2.2.2) hN4 N_60 (by omega) (by omega) I_61.2.2.1 n1_49 n9_49) rfl (Nat.le_of_ble_eq_true rfl) ⟨by dsimp only [kX3_formula, kX3_row, kX3_since, kX3_one, kX3_expression, kX3_product, kX3_factor, kX3_fronted, kX3_compare, kX3_twoSided, kX3_braces, kX3_namedValue, kX3_bounds, kX3_sees, kX3_is, kX3_isName, kX3_which, kX3_numberOf, kX3_find, kX3_node, kX3_wrong, kJ12_length, meK]; omega, by dsimp only [kX3_formula, kX3_row, kX3_since, kX3_one, kX3_expression, kX3_product, kX3_factor, kX3_fronted, kX3_compare, kX3_twoSided, kX3_braces, kX3_namedValue, kX3_bounds, kX3_sees, kX3_is, kX3_isName, kX3_which, kX3_numberOf, kX3_find, kX3_node, kX3_wrong, kJ12_length, meK]; omega⟩ ⟨Nat.zero_le _, Nat.zero_le _⟩ (fun _ _ _ z => z.elim) rfl (fun r_49 h_49 q_49 => ?_)
      obtain ⟨m_49, rfl, hT_49, hF_49, hz_49, ok_49, er_49⟩ := q_49
      rw [hR_49] at ok_49 er_49
      dsimp only at ok_49 er_49
      have hG_49 := Fr.trans hF_59 hF_49
      rcases Nat.eq_zero_or_pos e_49 with y_49 | y_49
      · skip
        subst y_49
        have x_49 := ok_49 rfl
        subst x_49
        refine AW.sts (st' := [.int 0]) (by rw [hR_49]; rfl) ?_
        replace V_49 := V_49 rfl
        replace Z_49 := Z_49 rfl
        dsimp only at V_49 Z_49
        replace U_49 := U_49 rfl
        dsimp only at U_49
        have lt_49 : nN (m_49.1 17) < 1203 := by have := V_49.2.2.1; have := V_49.1.2.2.1.2.2.1; have := V_49.1.2.1; omega
        have g_63 := pG_o g_58
        try dsimp only at g_63
        have tk_64 := (hS.kept V_49.1.2.2.2).1 a_49 Z_49; have Ktk_64 := tk_64.2.1
        try simp only [Bool.true_and, pT, ef, cond_true, gOr, gAnd, gSum, gPro, tS_tS, seesP_eq Z_49 hN4 hS.2.1, nmP_eq Z_49 hN4 hS.2.1, nuP_eq Z_49 hN4 hS.2.1, whP_eq Z_49 hN4 hS.2.1] at g_63
        refine aw_istore_n (n := 53) (lv' := [(3, .int 0), (2, .int (whT T a (wlW 3))), (1, .int (nI a)), (0, .ref b)]) dX3_one_52 rfl (by decide) rfl rfl ?_
        refine aw_aload_n (n := 54) dX3_one_53 rfl 3 rfl rfl ?_
        refine aw_dup (n := 55) dX3_one_54 rfl rfl ?_
        refine aw_getf (n := 58) (v := .int (nI a_49)) (C0 := RX3) (T := TX3) dX3_one_55 rfl 7 q2648 (Or.inl rfl) hT_49.1 (congrArg some (congrArg Value.int V_49.1.2.2.1.1)) rfl ?_
        refine aw_iconst (n := 59) (v := 1) dX3_one_58 (by decide) rfl ?_
        refine aw_iadd (n := 60) dX3_one_59 rfl ?_
        refine AW.sts (st' := [.int (nI (a_49 + 1)), .ref b]) (by rw [show (nI a_49) + 1 = nI (a_49 + 1) from (nI_1 _)]) ?_
        refine aw_tput (n := 63) (k := 7) dX3_one_60 q2648 (by decide) rfl rfl rfl rfl rfl hT_49 hb rfl rfl (fun h_65 hT_65 hF_65 hz_65 => ?_)
        have hG_65 := Fr.trans hG_49 hF_65
        have g_66 := pG_l g_63 h1
        have ne_67 : T.1 a_49 ≠ 0 := by have z9 := g_66.1; first | exact seesB_ne z9 | exact isNm_ne z9 | (have z8 := (beq_iff_eq.mp z9); omega) | exact whT_lt (bne_iff_ne.mp z9) | (rcases (Bool.or_eq_true _ _).mp z9 with z8 | z8 <;> first | exact seesB_ne z8 | (rcases (Bool.or_eq_true _ _).mp z8 with z7 | z7 <;> exact seesB_ne z7))
        have g_68 := g_66.2
        try dsimp only at g_68
        have N_69 : a_49 + 1 ≤ N := lt_end hS.2.1 Z_49 ne_67
        have I_70 := V_49.1.at (a' := a_49 + 1) (by omega) (by omega)
        have tk_71 := (hS.kept I_70.2.2.2).1 (a_49 + 1) N_69; have Ktk_71 := tk_71.2.1
        try simp only [Bool.true_and, pT, ef, cond_true, gOr, gAnd, gSum, gPro, tS_tS, seesP_eq N_69 hN4 hS.2.1, nmP_eq N_69 hN4 hS.2.1, nuP_eq N_69 hN4 hS.2.1, whP_eq N_69 hN4 hS.2.1] at g_68
        refine aw_iload_n (n := 64) dX3_one_63 rfl 0 rfl rfl ?_
        exact aw_iret dX3_one_64 rfl ⟨tS m_49 7 (nI (a_49 + 1)), by rw [g_68] <;> rfl, hT_65, hG_65, (by omega), fun _ => by rw [g_68] <;> rfl, fun z => absurd (by rw [g_68] <;> rfl) z⟩ ⟨Nat.zero_le _, Nat.zero_le _⟩
      · skip
        refine AW.sts (st' := [.int (nI e_49)]) (by rw [hR_49]; rfl) ?_
        have gE_49 : W9 = (e_49, l_49, a_49, w_49) := pG_er g_58 (by omega)
        replace er_49 := er_49 (by omega)
        have E_49 := mE.tr I_61.2.2.2 er_49.1
        have P_49 := er_49.2.1
        refine aw_istore_n (n := 53) (lv' := [(3, .int (nI e_49)), (2, .int (whT T a (wlW 3))), (1, .int (nI a)), (0, .ref b)]) dX3_one_52 rfl (by decide) rfl rfl ?_
        refine aw_aload_n (n := 54) dX3_one_53 rfl 3 rfl rfl ?_
        refine aw_dup (n := 55) dX3_one_54 rfl rfl ?_
        refine aw_getf (n := 58) (v := .int (m_49.1 7)) (C0 := RX3) (T := TX3) dX3_one_55 rfl 7 q2648 (Or.inl rfl) hT_49.1 rfl rfl ?_
        refine aw_iconst (n := 59) (v := 1) dX3_one_58 (by decide) rfl ?_
        refine aw_iadd (n := 60) dX3_one_59 rfl ?_
        refine aw_tput (n := 63) (k := 7) dX3_one_60 q2648 (by decide) rfl rfl rfl rfl rfl hT_49 hb rfl rfl (fun h_72 hT_72 hF_72 hz_72 => ?_)
        have hG_72 := Fr.trans hG_49 hF_72
        refine aw_iload_n (n := 64) dX3_one_63 rfl 0 rfl rfl ?_
        exact aw_iret dX3_one_64 rfl ⟨tS m_49 7 ((m_49.1 7) + 1), by rw [gE_49], hT_72, hG_72, (by omega), fun z => absurd z (by rw [gE_49]; show e_49 ≠ 0; omega), fun _ => ⟨(E_49.S (by decide)), by rw [gE_49]; exact P_49, by rw [gE_49]; exact er_49.2.2⟩⟩ ⟨Nat.zero_le _, Nat.zero_le _⟩
  · skip
    have v_19 : (whT T a (wlW 3) != -1) = true := bne_iff_ne.mpr c_19
    have g_74 := pG_T hg0 (by first | assumption | simp [v_19])
    try dsimp only at g_74
    have ne_75 : T.1 a ≠ 0 := by have z9 := v_19; first | exact seesB_ne z9 | exact isNm_ne z9 | (have z8 := (beq_iff_eq.mp z9); omega) | exact whT_lt (bne_iff_ne.mp z9) | (rcases (Bool.or_eq_true _ _).mp z9 with z8 | z8 <;> first | exact seesB_ne z8 | (rcases (Bool.or_eq_true _ _).mp z8 with z7 | z7 <;> exact seesB_ne z7))
    have g_76 := pG_c g_74 h1
    have g_77 := g_76.2
    try dsimp only at g_77
    have hd9 : d < 10 := of_decide_eq_true g_76.1
    refine aw_aload_n (n := 23) dX3_one_22 rfl 2 rfl rfl ?_
    refine aw_iload_n (n := 24) dX3_one_23 rfl 1 rfl rfl ?_
    refine aw_iload_n (n := 25) dX3_one_24 rfl 0 rfl rfl ?_
    obtain ⟨j9, hj9, ej9⟩ := whT_n (T := T) (a := a) (k := 3) (bne_iff_ne.mp v_19) wl_len.2.2.1
    rw [ej9] at g_77
    refine AW.sts (st' := [.int (nI j9), .int (nI a), .ref b]) (by rw [ej9]) ?_
    obtain ⟨e_25, l_25, a_25, w_25, hR_25⟩ : ∃ (e8 l8 x8 : Nat) (w8 : tM), pFr T true (pX T true f) (nI j9) d a ms = (e8, l8, x8, w8) := ⟨_, _, _, _, rfl⟩
    have n1_25 : (pFr T true (pX T true f) (nI j9) d a ms).1 ≠ 1 := (by rw [← g_77]; exact h1)
    have n9_25 : (pFr T true (pX T true f) (nI j9) d a ms).1 ≠ 99 := (by rw [← g_77]; exact h9)
    have V_25 := (by have z := pX_inv T (f + 1) 4 d a (B + 1) ms (by omega) hB (by omega) hm; rw [hW_, g_77] at z; exact z)
    have Z_25 := (by have z := pX_N (T := T) (N := N) (f := f + 1) (nt := 4) (d := d) (a := a) (m := ms) hS.2.1 hN (by omega); rw [hW_, g_77] at z; exact z)
    rw [hR_25] at g_77 V_25 Z_25
    refine aw_callV (n := 28) (C0 := RX3) (As := [.int (nI a), .int (nI j9)]) (rest := []) (K2 := kX3_fronted) dX3_one_25 q3002 q3004 qs82 q113 q3005 ⟨rfl, hcX3_fronted⟩ rfl hT.1 (cm_fronted G h b ms T N a hb hT hS hN4 hN f d B hfB hB hm j9 hj9 ne_75 n1_25 n9_25 ih) rfl (Nat.le_of_ble_eq_true rfl) ⟨by dsimp only [kX3_formula, kX3_row, kX3_since, kX3_one, kX3_expression, kX3_product, kX3_factor, kX3_fronted, kX3_compare, kX3_twoSided, kX3_braces, kX3_namedValue, kX3_bounds, kX3_sees, kX3_is, kX3_isName, kX3_which, kX3_numberOf, kX3_find, kX3_node, kX3_wrong, kJ12_length, meK]; omega, by dsimp only [kX3_formula, kX3_row, kX3_since, kX3_one, kX3_expression, kX3_product, kX3_factor, kX3_fronted, kX3_compare, kX3_twoSided, kX3_braces, kX3_namedValue, kX3_bounds, kX3_sees, kX3_is, kX3_isName, kX3_which, kX3_numberOf, kX3_find, kX3_node, kX3_wrong, kJ12_length, meK]; omega⟩ ⟨Nat.zero_le _, Nat.zero_le _⟩ (fun _ _ _ z => z.elim) rfl (fun r_25 h_25 q_25 => ?_)
    obtain ⟨m_25, rfl, hT_25, hF_25, hz_25, ok_25, er_25⟩ := q_25
    rw [hR_25] at ok_25 er_25
    dsimp only at ok_25 er_25
    rcases Nat.eq_zero_or_pos e_25 with y_25 | y_25
    · skip
      subst y_25
      have x_25 := ok_25 rfl
      subst x_25
      refine AW.sts (st' := [.int 0]) (by rw [hR_25]; rfl) ?_
      replace V_25 := V_25 rfl
      replace Z_25 := Z_25 rfl
      dsimp only at V_25 Z_25
      have lt_25 : nN (m_25.1 17) < 1203 := by have := V_25.2.2.1; have := V_25.1.2.2.1.2.2.1; have := V_25.1.2.1; omega
      have tk_78 := (hS.kept V_25.1.2.2.2).1 a_25 Z_25; have Ktk_78 := tk_78.2.1
      try simp only [Bool.true_and, pT, ef, cond_true, gOr, gAnd, gSum, gPro, tS_tS, seesP_eq Z_25 hN4 hS.2.1, nmP_eq Z_25 hN4 hS.2.1, nuP_eq Z_25 hN4 hS.2.1, whP_eq Z_25 hN4 hS.2.1] at g_77
      exact aw_iret dX3_one_28 rfl ⟨m_25, by rw [g_77] <;> rfl, hT_25, hF_25, (by omega), fun _ => by rw [g_77] <;> rfl, fun z => absurd (by rw [g_77] <;> rfl) z⟩ ⟨Nat.zero_le _, Nat.zero_le _⟩
    · skip
      refine AW.sts (st' := [.int (nI e_25)]) (by rw [hR_25]; rfl) ?_
      have gE_25 : W9 = (e_25, l_25, a_25, w_25) := g_77
      replace er_25 := er_25 (by omega)
      have E_25 := mE.tr hI0.2.2.2 er_25.1
      have P_25 := er_25.2.1
      exact aw_iret dX3_one_28 rfl ⟨m_25, by rw [gE_25], hT_25, hF_25, (by omega), fun z => absurd z (by rw [gE_25]; show e_25 ≠ 0; omega), fun _ => ⟨E_25, by rw [gE_25]; exact P_25, by rw [gE_25]; exact er_25.2.2⟩⟩ ⟨Nat.zero_le _, Nat.zero_le _⟩

theorem cm_nt7 (G : aG) (h : hH)  (b : Nat) (ms : tM) (T : Tv) (N a : Nat) (hb : gB G ≤ b) (hT : TW b h ms) (hS : tkS ms T N) (hN4 : N ≤ 400) (hN : a ≤ N) (f d B : Nat) (hfB : f ≤ B) (hB : B + 1 ≤ 802) (hm : mS (B + 1) a ms) (h1 : (pX T true (f + 1) 7 d a ms).1 ≠ 1) (h9 : (pX T true (f + 1) 7 d a ms).1 ≠ 99) (ih : meAll G f) : Con G kX3_factor [.ref b] h ((14 + 2 * (f + 1), 500 + 100 * (f + 1), 0, 0), (fun r h1 => ∃ m9 : tM, r = some (.int (nI (pX T true (f + 1) 7 d a ms).1)) ∧ TW b h1 m9 ∧ Fr (TS b) h h1 ∧ h1.1 = h.1 ∧ ((pX T true (f + 1) 7 d a ms).1 = 0 → m9 = (pX T true (f + 1) 7 d a ms).2.2.2) ∧ ((pX T true (f + 1) 7 d a ms).1 ≠ 0 → mE ms m9 ∧ m9.1 3 = nI (pX T true (f + 1) 7 d a ms).2.1 ∧ (pX T true (f + 1) 7 d a ms).1 < 50)), nX) := by
  refine Con.of (plainFor_of_name rfl) rfl (Nat.le_of_ble_eq_true rfl) ?_
  refine AW.eq (lv2 := [(0, .ref b)]) (s2 := []) rfl rfl rfl rfl rfl ?_
  generalize hW_ : pX T true (f + 1) 7 d a ms = W9 at h1 h9 ⊢
  have hI0 : pM (B + 1) a ms a ms := pM.rf hm (by omega)
  have hg0 : W9 = pB7 T true (pX T true f) d a ms := hW_.symm
  unfold pB7 at hg0
  have ne0 : T.1 a ≠ 0 := pB7_ne (by rw [show pB7 T true (pX T true f) d a ms = W9 from hW_]; exact h1)
  have tk_1 := (hS.kept hI0.2.2.2).1 a hN; have Ktk_1 := tk_1.2.1
  try simp only [Bool.true_and, pT, ef, cond_true, gOr, gAnd, gSum, gPro, tS_tS, seesP_eq hN hN4 hS.2.1, nmP_eq hN hN4 hS.2.1, nuP_eq hN hN4 hS.2.1, whP_eq hN hN4 hS.2.1] at hg0
  refine aw_aload_n (n := 1) dX3_factor_0 rfl 0 rfl rfl ?_
  refine aw_getf (n := 4) (v := .int (nI a)) (C0 := RX3) (T := TX3) dX3_factor_1 rfl 7 q2648 (Or.inl rfl) hT.1 (congrArg some (congrArg Value.int hI0.2.2.1.1)) rfl ?_
  refine aw_istore_n (n := 5) (lv' := [(1, .int (nI a)), (0, .ref b)]) dX3_factor_4 rfl (by decide) rfl rfl ?_
  refine aw_aload_n (n := 6) dX3_factor_5 rfl 1 rfl rfl ?_
  refine aw_getf (n := 9) (v := .ref (b + 3)) (C0 := RX3) (T := TX3) dX3_factor_6 rfl 5 q2646 (Or.inl rfl) hT.1 rfl rfl ?_
  refine aw_iload_n (n := 10) dX3_factor_9 rfl 0 rfl rfl ?_
  refine aw_iald (n := 11) (v := .int (ms.2.1 5 a)) dX3_factor_10 rfl a rfl hT.a5 (by omega) (by decide) rfl rfl ?_
  refine aw_istore_n (n := 12) (lv' := [(2, .int (ms.2.1 5 a)), (1, .int (nI a)), (0, .ref b)]) dX3_factor_11 rfl (by decide) rfl rfl ?_
  refine aw_aload_n (n := 13) dX3_factor_12 rfl 2 rfl rfl ?_
  refine aw_dup (n := 14) dX3_factor_13 rfl rfl ?_
  refine aw_getf (n := 17) (v := .int (nI a)) (C0 := RX3) (T := TX3) dX3_factor_14 rfl 7 q2648 (Or.inl rfl) hT.1 (congrArg some (congrArg Value.int hI0.2.2.1.1)) rfl ?_
  refine aw_iconst (n := 18) (v := 1) dX3_factor_17 (by decide) rfl ?_
  refine aw_iadd (n := 19) dX3_factor_18 rfl ?_
  refine AW.sts (st' := [.int (nI (a + 1)), .ref b]) (by rw [show (nI a) + 1 = nI (a + 1) from (nI_1 _)]) ?_
  refine aw_tput (n := 22) (k := 7) dX3_factor_19 q2648 (by decide) rfl rfl rfl rfl rfl hT hb rfl rfl (fun h_2 hT_2 hF_2 hz_2 => ?_)
  have N_3 : a + 1 ≤ N := lt_end hS.2.1 hN ne0
  have I_4 := hI0.at1 (by omega)
  have tk_5 := (hS.kept I_4.2.2.2).1 (a + 1) N_3; have Ktk_5 := tk_5.2.1
  try simp only [Bool.true_and, pT, ef, cond_true, gOr, gAnd, gSum, gPro, tS_tS, seesP_eq N_3 hN4 hS.2.1, nmP_eq N_3 hN4 hS.2.1, nuP_eq N_3 hN4 hS.2.1, whP_eq N_3 hN4 hS.2.1] at hg0
  refine aw_aload_n (n := 23) dX3_factor_22 rfl 2 rfl rfl ?_
  refine aw_getf (n := 26) (v := .ref (b + 2)) (C0 := RX3) (T := TX3) dX3_factor_23 rfl 4 q2645 (Or.inl rfl) hT_2.1 rfl rfl ?_
  refine aw_iload_n (n := 27) dX3_factor_26 rfl 1 rfl rfl ?_
  refine aw_iald (n := 28) (v := .int (ms.2.1 4 a)) dX3_factor_27 rfl a rfl hT_2.a4 (by omega) (by decide) rfl rfl ?_
  refine aw_iconst (n := 29) (v := 2) dX3_factor_28 (by decide) rfl ?_
  refine aw_icmp_ne (n := 32) (tgt := 47) dX3_factor_29 (by decide) rfl (fun c_29 => ?_) (fun c_29 => ?_)
  · skip
    have n_29 : ¬ ((T.1 a) = 2) := fun z => c_29 (by have y := (nI_eq (a := (T.1 a)) (b := 2) (by omega) (by omega)).mpr z; rw [← (tk_1.2.2.1 : (ms.2.1 4 a) = nI (T.1 a)), ← ((by rfl) : (2 : Int32) = nI 2)] at y; exact y)
    have g_6 := pG_F hg0 (by first | assumption | simp [n_29])
    try dsimp only at g_6
    refine aw_aload_n (n := 48) dX3_factor_47 rfl 2 rfl rfl ?_
    refine aw_iload_n (n := 49) dX3_factor_48 rfl 1 rfl rfl ?_
    refine aw_ldcwS (n := 52) (q := 28) dX3_factor_49 117 rfl rfl ?_
    refine aw_know (fun gd_6 hi_6 => ?_)
    refine aw_callV (n := 55) (C0 := RX3) (As := [.int (nI a), .ref (gT G 28)]) (rest := []) (K2 := kX3_is) dX3_factor_52 q2830 q2832 qs51 q113 q2833 ⟨rfl, hcX3_is⟩ rfl hT_2.1 (ct_is G h_2 b (tS ms 7 (nI (a + 1))) hb hT_2 T a ((hS.kept I_4.2.2.2).1 a hN) _ (sw 28) (str_at gd_6 hi_6 (i := 28) rfl) (lo_at (i := 28) rfl)) rfl (Nat.le_of_ble_eq_true rfl) ⟨by dsimp only [kX3_formula, kX3_row, kX3_since, kX3_one, kX3_expression, kX3_product, kX3_factor, kX3_fronted, kX3_compare, kX3_twoSided, kX3_braces, kX3_namedValue, kX3_bounds, kX3_sees, kX3_is, kX3_isName, kX3_which, kX3_numberOf, kX3_find, kX3_node, kX3_wrong, kJ12_length, meK]; omega, by dsimp only [kX3_formula, kX3_row, kX3_since, kX3_one, kX3_expression, kX3_product, kX3_factor, kX3_fronted, kX3_compare, kX3_twoSided, kX3_braces, kX3_namedValue, kX3_bounds, kX3_sees, kX3_is, kX3_isName, kX3_which, kX3_numberOf, kX3_find, kX3_node, kX3_wrong, kJ12_length, meK]; omega⟩ ⟨Nat.zero_le _, Nat.zero_le _⟩ (fun _ _ _ z => z.elim) rfl (fun r_52 h_52 q_52 => ?_)
    obtain ⟨rfl, rfl⟩ := q_52
    refine AW.sts (st' := [.int (bI (seesB T a (sw 28)))]) rfl ?_
    refine aw_if_eq (n := 58) (tgt := 69) dX3_factor_55 (by decide) rfl (fun c_55 => ?_) (fun c_55 => ?_)
    · skip
      have b_55 : (seesB T a (sw 28)) = false := (bI_0 _).mp c_55
      refine aw_aload_n (n := 70) dX3_factor_69 rfl 2 rfl rfl ?_
      refine aw_iload_n (n := 71) dX3_factor_70 rfl 1 rfl rfl ?_
      refine aw_ldcwS (n := 74) (q := 29) dX3_factor_71 118 rfl rfl ?_
      refine aw_know (fun gd_7 hi_7 => ?_)
      refine aw_callV (n := 77) (C0 := RX3) (As := [.int (nI a), .ref (gT G 29)]) (rest := []) (K2 := kX3_is) dX3_factor_74 q2830 q2832 qs51 q113 q2833 ⟨rfl, hcX3_is⟩ rfl hT_2.1 (ct_is G h_2 b (tS ms 7 (nI (a + 1))) hb hT_2 T a ((hS.kept I_4.2.2.2).1 a hN) _ (sw 29) (str_at gd_7 hi_7 (i := 29) rfl) (lo_at (i := 29) rfl)) rfl (Nat.le_of_ble_eq_true rfl) ⟨by dsimp only [kX3_formula, kX3_row, kX3_since, kX3_one, kX3_expression, kX3_product, kX3_factor, kX3_fronted, kX3_compare, kX3_twoSided, kX3_braces, kX3_namedValue, kX3_bounds, kX3_sees, kX3_is, kX3_isName, kX3_which, kX3_numberOf, kX3_find, kX3_node, kX3_wrong, kJ12_length, meK]; omega, by dsimp only [kX3_formula, kX3_row, kX3_since, kX3_one, kX3_expression, kX3_product, kX3_factor, kX3_fronted, kX3_compare, kX3_twoSided, kX3_braces, kX3_namedValue, kX3_bounds, kX3_sees, kX3_is, kX3_isName, kX3_which, kX3_numberOf, kX3_find, kX3_node, kX3_wrong, kJ12_length, meK]; omega⟩ ⟨Nat.zero_le _, Nat.zero_le _⟩ (fun _ _ _ z => z.elim) rfl (fun r_74 h_74 q_74 => ?_)
      obtain ⟨rfl, rfl⟩ := q_74
      refine AW.sts (st' := [.int (bI (seesB T a (sw 29)))]) rfl ?_
      refine aw_if_eq (n := 80) (tgt := 91) dX3_factor_77 (by decide) rfl (fun c_77 => ?_) (fun c_77 => ?_)
      · skip
        have b_77 : (seesB T a (sw 29)) = false := (bI_0 _).mp c_77
        refine aw_aload_n (n := 92) dX3_factor_91 rfl 2 rfl rfl ?_
        refine aw_iload_n (n := 93) dX3_factor_92 rfl 1 rfl rfl ?_
        refine aw_callV (n := 96) (C0 := RX3) (As := [.int (nI a)]) (rest := []) (K2 := kX3_isName) dX3_factor_93 q2844 q2846 qs54 q113 q2847 ⟨rfl, hcX3_isName⟩ rfl hT_2.1 (ct_isName G h_2 b (tS ms 7 (nI (a + 1))) hb hT_2 T a ((hS.kept I_4.2.2.2).1 a hN)) rfl (Nat.le_of_ble_eq_true rfl) ⟨by dsimp only [kX3_formula, kX3_row, kX3_since, kX3_one, kX3_expression, kX3_product, kX3_factor, kX3_fronted, kX3_compare, kX3_twoSided, kX3_braces, kX3_namedValue, kX3_bounds, kX3_sees, kX3_is, kX3_isName, kX3_which, kX3_numberOf, kX3_find, kX3_node, kX3_wrong, kJ12_length, meK]; omega, by dsimp only [kX3_formula, kX3_row, kX3_since, kX3_one, kX3_expression, kX3_product, kX3_factor, kX3_fronted, kX3_compare, kX3_twoSided, kX3_braces, kX3_namedValue, kX3_bounds, kX3_sees, kX3_is, kX3_isName, kX3_which, kX3_numberOf, kX3_find, kX3_node, kX3_wrong, kJ12_length, meK]; omega⟩ ⟨Nat.zero_le _, Nat.zero_le _⟩ (fun _ _ _ z => z.elim) rfl (fun r_93 h_93 q_93 => ?_)
        obtain ⟨rfl, rfl⟩ := q_93
        refine AW.sts (st' := [.int (bI (isNm T a))]) rfl ?_
        refine aw_if_eq (n := 99) (tgt := 105) dX3_factor_96 (by decide) rfl (fun c_96 => ?_) (fun c_96 => ?_)
        · skip
          have b_96 : (isNm T a) = false := (bI_0 _).mp c_96
          have g_9 := pG_F g_6 (by first | assumption | simp [n_29, b_55, b_77, b_96])
          try dsimp only at g_9
          have g_10 := pG_F g_9 (by first | assumption | simp [n_29, b_55, b_77, b_96])
          try dsimp only at g_10
          have g_11 := pG_F g_10 (by first | assumption | simp [n_29, b_55, b_77, b_96])
          try dsimp only at g_11
          refine aw_iconst (n := 106) (v := 0) dX3_factor_105 (by decide) rfl ?_
          refine aw_istore_n (n := 107) (lv' := [(3, .int 0), (2, .int (ms.2.1 5 a)), (1, .int (nI a)), (0, .ref b)]) dX3_factor_106 rfl (by decide) rfl rfl ?_
          refine aw_aload_n (n := 108) dX3_factor_107 rfl 3 rfl rfl ?_
          refine aw_iload_n (n := 109) dX3_factor_108 rfl 2 rfl rfl ?_
          refine aw_ldcwS (n := 112) (q := 51) dX3_factor_109 119 rfl rfl ?_
          refine aw_know (fun gd_11 hi_11 => ?_)
          refine aw_callV (n := 115) (C0 := RX3) (As := [.int (nI a), .ref (gT G 51)]) (rest := []) (K2 := kX3_is) dX3_factor_112 q2830 q2832 qs51 q113 q2833 ⟨rfl, hcX3_is⟩ rfl hT_2.1 (ct_is G h_2 b (tS ms 7 (nI (a + 1))) hb hT_2 T a ((hS.kept I_4.2.2.2).1 a hN) _ (sw 51) (str_at gd_11 hi_11 (i := 51) rfl) (lo_at (i := 51) rfl)) rfl (Nat.le_of_ble_eq_true rfl) ⟨by dsimp only [kX3_formula, kX3_row, kX3_since, kX3_one, kX3_expression, kX3_product, kX3_factor, kX3_fronted, kX3_compare, kX3_twoSided, kX3_braces, kX3_namedValue, kX3_bounds, kX3_sees, kX3_is, kX3_isName, kX3_which, kX3_numberOf, kX3_find, kX3_node, kX3_wrong, kJ12_length, meK]; omega, by dsimp only [kX3_formula, kX3_row, kX3_since, kX3_one, kX3_expression, kX3_product, kX3_factor, kX3_fronted, kX3_compare, kX3_twoSided, kX3_braces, kX3_namedValue, kX3_bounds, kX3_sees, kX3_is, kX3_isName, kX3_which, kX3_numberOf, kX3_find, kX3_node, kX3_wrong, kJ12_length, meK]; omega⟩ ⟨Nat.zero_le _, Nat.zero_le _⟩ (fun _ _ _ z => z.elim) rfl (fun r_112 h_112 q_112 => ?_)
          obtain ⟨rfl, rfl⟩ := q_112
          refine AW.sts (st' := [.int (bI (seesB T a (sw 51)))]) rfl ?_
          refine aw_if_eq (n := 118) (tgt := 135) dX3_factor_115 (by decide) rfl (fun c_115 => ?_) (fun c_115 => ?_)
          · skip
            have b_115 : (seesB T a (sw 51)) = false := (bI_0 _).mp c_115
            have g_13 := pG_F g_11 (by first | assumption | simp [n_29, b_55, b_77, b_96, b_115])
            try dsimp only at g_13
            refine aw_aload_n (n := 136) dX3_factor_135 rfl 3 rfl rfl ?_
            refine aw_iload_n (n := 137) dX3_factor_136 rfl 2 rfl rfl ?_
            refine aw_know (fun gd_13 hi_13 => ?_)
            refine aw_gets (n := 140) (v := .ref (vAd (gV G 31))) dX3_factor_137 31 rfl q2911 rfl (vAd_at gd_13 (by decide)) rfl ?_
            refine aw_know (fun gd_14 hi_14 => ?_)
            refine aw_callV (n := 143) (C0 := RX3) (As := [.int (nI a), .ref (vAd (gV G 31))]) (rest := []) (K2 := kX3_which) dX3_factor_140 q2850 q2852 qs55 q113 q2853 ⟨rfl, hcX3_which⟩ rfl hT_2.1 (ct_which G h_2 b (tS ms 7 (nI (a + 1))) hb hT_2 T a ((hS.kept I_4.2.2.2).1 a hN) _ (wlW 4) (wl_at gd_14 hi_14 (k := 4) rfl) (by decide)) rfl (Nat.le_of_ble_eq_true rfl) ⟨by dsimp only [kX3_formula, kX3_row, kX3_since, kX3_one, kX3_expression, kX3_product, kX3_factor, kX3_fronted, kX3_compare, kX3_twoSided, kX3_braces, kX3_namedValue, kX3_bounds, kX3_sees, kX3_is, kX3_isName, kX3_which, kX3_numberOf, kX3_find, kX3_node, kX3_wrong, kJ12_length, meK]; omega, by dsimp only [kX3_formula, kX3_row, kX3_since, kX3_one, kX3_expression, kX3_product, kX3_factor, kX3_fronted, kX3_compare, kX3_twoSided, kX3_braces, kX3_namedValue, kX3_bounds, kX3_sees, kX3_is, kX3_isName, kX3_which, kX3_numberOf, kX3_find, kX3_node, kX3_wrong, kJ12_length, meK]; omega⟩ ⟨Nat.zero_le _, Nat.zero_le _⟩ (fun _ _ _ z => z.elim) rfl (fun r_140 h_140 q_140 => ?_)
            obtain ⟨rfl, rfl⟩ := q_140
            refine AW.sts (st' := [.int (whT T a (wlW 4))]) rfl ?_
            refine aw_istore (n := 145) (lv' := [(4, .int (whT T a (wlW 4))), (3, .int 0), (2, .int (ms.2.1 5 a)), (1, .int (nI a)), (0, .ref b)]) dX3_factor_143 (by decide) rfl rfl ?_
            refine aw_iload (n := 147) dX3_factor_145 0 rfl rfl ?_
            refine aw_iconst (n := 148) (v := (-1)) dX3_factor_147 (by decide) rfl ?_
            refine aw_icmp_eq (n := 151) (tgt := 181) dX3_factor_148 (by decide) rfl (fun c_148 => ?_) (fun c_148 => ?_)
            · skip
              have v_148 : (whT T a (wlW 4) != -1) = false := by simp [c_148]
              have g_16 := pG_F g_13 (by first | assumption | simp [n_29, b_55, b_77, b_96, b_115, v_148])
              try dsimp only at g_16
              have hcs : seesB T a (sw 25) = true ∨ seesB T a (sw 27) = true ∨ (seesB T a (sw 25) = false ∧ seesB T a (sw 27) = false ∧ seesB T a (sw 26) = true) ∨ (seesB T a (sw 25) = false ∧ seesB T a (sw 27) = false ∧ seesB T a (sw 26) = false) := by cases seesB T a (sw 25) <;> cases seesB T a (sw 27) <;> cases seesB T a (sw 26) <;> simp
              rcases hcs with k1 | k1 | ⟨k1, k2, k3⟩ | ⟨k1, k2, k3⟩
              · skip
                have u27 := sees_un (j := 27) k1 (by decide)
                have u26 := sees_un (j := 26) k1 (by decide)
                have u18 := sees_un (j := 18) k1 (by decide)
                have g_18 := pG_T g_16 (by first | assumption | simp [n_29, b_55, b_77, b_96, b_115, v_148, k1, u27, u26, u18])
                try dsimp only at g_18
                try simp only [Bool.true_and, pT, ef, cond_true, gOr, gAnd, gSum, gPro, tS_tS] at g_18
                simp only [if_pos k1] at g_18
                have g_19 : W9 = pb (pBrC T (pX T true f) d (a + 1) (ats ms (a + 1))) (fun a2 m2 => (fun l a2 m2 => pO a2 (nodT m2 30 l (-1) (-1) (frmI T a))) (m2.1 17) a2 m2) := g_18.trans (pb_br (K := fun l a2 m2 => pO a2 (nodT m2 30 l (-1) (-1) (frmI T a))))
                dsimp only at g_19
                refine aw_aload_n (n := 182) dX3_factor_181 rfl 4 rfl rfl ?_
                obtain ⟨e_182, l_182, a_182, w_182, hR_182⟩ : ∃ (e8 l8 x8 : Nat) (w8 : tM), pBrC T (pX T true f) d (a + 1) (tS ms 7 (nI (a + 1))) = (e8, l8, x8, w8) := ⟨_, _, _, _, rfl⟩
                have n1_182 : (pBrC T (pX T true f) d (a + 1) (tS ms 7 (nI (a + 1)))).1 ≠ 1 := pG_n g_19 h1 (by decide)
                have n9_182 : (pBrC T (pX T true f) d (a + 1) (tS ms 7 (nI (a + 1)))).1 ≠ 99 := pG_n g_19 h9 (by decide)
                have V_182 := pBrC_inv (T := T) (f := f) (d := d) hfB (by omega) I_4
                have Z_182 := brC_N (T := T) (N := N) (f := f) (d := d) (a := a + 1) (m := tS ms 7 (nI (a + 1))) hS.2.1 N_3 (by omega)
                rw [hR_182] at g_19 V_182 Z_182
                refine aw_callV (n := 185) (C0 := RX3) (As := []) (rest := []) (K2 := kX3_braces) dX3_factor_182 q2982 q2984 qs77 q113 q2985 ⟨rfl, hcX3_braces⟩ rfl hT_2.1 (cm_braces G h_2 b (tS ms 7 (nI (a + 1))) T N (a + 1) hb hT_2 (hS.kept I_4.2.2.2) hN4 N_3 f d B hfB hB I_4.2.2.1.up n1_182 n9_182 ih) rfl (Nat.le_of_ble_eq_true rfl) ⟨by dsimp only [kX3_formula, kX3_row, kX3_since, kX3_one, kX3_expression, kX3_product, kX3_factor, kX3_fronted, kX3_compare, kX3_twoSided, kX3_braces, kX3_namedValue, kX3_bounds, kX3_sees, kX3_is, kX3_isName, kX3_which, kX3_numberOf, kX3_find, kX3_node, kX3_wrong, kJ12_length, meK]; omega, by dsimp only [kX3_formula, kX3_row, kX3_since, kX3_one, kX3_expression, kX3_product, kX3_factor, kX3_fronted, kX3_compare, kX3_twoSided, kX3_braces, kX3_namedValue, kX3_bounds, kX3_sees, kX3_is, kX3_isName, kX3_which, kX3_numberOf, kX3_find, kX3_node, kX3_wrong, kJ12_length, meK]; omega⟩ ⟨Nat.zero_le _, Nat.zero_le _⟩ (fun _ _ _ z => z.elim) rfl (fun r_182 h_182 q_182 => ?_)
                obtain ⟨m_182, rfl, hT_182, hF_182, hz_182, ok_182, er_182⟩ := q_182
                rw [hR_182] at ok_182 er_182
                dsimp only at ok_182 er_182
                have hG_182 := Fr.trans hF_2 hF_182
                rcases Nat.eq_zero_or_pos e_182 with y_182 | y_182
                · skip
                  subst y_182
                  have x_182 := ok_182 rfl
                  subst x_182
                  refine AW.sts (st' := [.int 0]) (by rw [hR_182]; rfl) ?_
                  replace V_182 := V_182 rfl
                  replace Z_182 := Z_182 rfl
                  dsimp only at V_182 Z_182
                  have lt_182 : nN (m_182.1 17) < 1203 := by have := V_182.2.2.1; have := V_182.1.2.2.1.2.2.1; have := V_182.1.2.1; omega
                  have g_20 := pG_o g_19
                  try dsimp only at g_20
                  have tk_21 := (hS.kept V_182.1.2.2.2).1 a_182 Z_182; have Ktk_21 := tk_21.2.1
                  try simp only [Bool.true_and, pT, ef, cond_true, gOr, gAnd, gSum, gPro, tS_tS, seesP_eq Z_182 hN4 hS.2.1, nmP_eq Z_182 hN4 hS.2.1, nuP_eq Z_182 hN4 hS.2.1, whP_eq Z_182 hN4 hS.2.1] at g_20
                  refine aw_istore_n (n := 186) (lv' := [(3, .int 0), (4, .int (whT T a (wlW 4))), (2, .int (ms.2.1 5 a)), (1, .int (nI a)), (0, .ref b)]) dX3_factor_185 rfl (by decide) rfl rfl ?_
                  refine aw_aload_n (n := 187) dX3_factor_186 rfl 4 rfl rfl ?_
                  refine aw_getf (n := 190) (v := .int (m_182.1 17)) (C0 := RX3) (T := TX3) dX3_factor_187 rfl 17 q2658 (Or.inl rfl) hT_182.1 rfl rfl ?_
                  refine aw_istore (n := 192) (lv' := [(5, .int (m_182.1 17)), (3, .int 0), (4, .int (whT T a (wlW 4))), (2, .int (ms.2.1 5 a)), (1, .int (nI a)), (0, .ref b)]) dX3_factor_190 (by decide) rfl rfl ?_
                  refine aw_iload_n (n := 193) dX3_factor_192 rfl 1 rfl rfl ?_
                  refine aw_if_eq (n := 196) (tgt := 198) dX3_factor_193 (by decide) rfl (fun c_193 => ?_) (fun c_193 => ?_)
                  · skip
                    refine aw_aload_n (n := 199) dX3_factor_198 rfl 5 rfl rfl ?_
                    refine aw_iload_n (n := 200) dX3_factor_199 rfl 4 rfl rfl ?_
                    refine aw_ldcwS (n := 203) (q := 25) dX3_factor_200 121 rfl rfl ?_
                    refine aw_know (fun gd_21 hi_21 => ?_)
                    refine aw_callV (n := 206) (C0 := RX3) (As := [.int (nI a), .ref (gT G 25)]) (rest := []) (K2 := kX3_is) dX3_factor_203 q2830 q2832 qs51 q113 q2833 ⟨rfl, hcX3_is⟩ rfl hT_182.1 (ct_is G h_182 b m_182 hb hT_182 T a ((hS.kept V_182.1.2.2.2).1 a hN) _ (sw 25) (str_at gd_21 hi_21 (i := 25) rfl) (lo_at (i := 25) rfl)) rfl (Nat.le_of_ble_eq_true rfl) ⟨by dsimp only [kX3_formula, kX3_row, kX3_since, kX3_one, kX3_expression, kX3_product, kX3_factor, kX3_fronted, kX3_compare, kX3_twoSided, kX3_braces, kX3_namedValue, kX3_bounds, kX3_sees, kX3_is, kX3_isName, kX3_which, kX3_numberOf, kX3_find, kX3_node, kX3_wrong, kJ12_length, meK]; omega, by dsimp only [kX3_formula, kX3_row, kX3_since, kX3_one, kX3_expression, kX3_product, kX3_factor, kX3_fronted, kX3_compare, kX3_twoSided, kX3_braces, kX3_namedValue, kX3_bounds, kX3_sees, kX3_is, kX3_isName, kX3_which, kX3_numberOf, kX3_find, kX3_node, kX3_wrong, kJ12_length, meK]; omega⟩ ⟨Nat.zero_le _, Nat.zero_le _⟩ (fun _ _ _ z => z.elim) rfl (fun r_203 h_203 q_203 => ?_)
                    obtain ⟨rfl, rfl⟩ := q_203
                    refine AW.sts (st' := [.int (bI (seesB T a (sw 25)))]) rfl ?_
                    refine aw_if_ne (n := 209) (tgt := 220) dX3_factor_206 (by decide) rfl (fun c_206 => ?_) (fun c_206 => ?_)
                    · skip
                      have b_206 : (seesB T a (sw 25)) = true := Bool.of_not_eq_false (fun e => c_206 ((bI_0 _).mpr e))
                      refine aw_aload_n (n := 221) dX3_factor_220 rfl 5 rfl rfl ?_
                      refine aw_aload_n (n := 222) dX3_factor_221 rfl 5 rfl rfl ?_
                      refine aw_iload_n (n := 223) dX3_factor_222 rfl 4 rfl rfl ?_
                      refine aw_ldcwS (n := 226) (q := 25) dX3_factor_223 121 rfl rfl ?_
                      refine aw_know (fun gd_22 hi_22 => ?_)
                      refine aw_callV (n := 229) (C0 := RX3) (As := [.int (nI a), .ref (gT G 25)]) (rest := [.ref b]) (K2 := kX3_is) dX3_factor_226 q2830 q2832 qs51 q113 q2833 ⟨rfl, hcX3_is⟩ rfl hT_182.1 (ct_is G h_182 b m_182 hb hT_182 T a ((hS.kept V_182.1.2.2.2).1 a hN) _ (sw 25) (str_at gd_22 hi_22 (i := 25) rfl) (lo_at (i := 25) rfl)) rfl (Nat.le_of_ble_eq_true rfl) ⟨by dsimp only [kX3_formula, kX3_row, kX3_since, kX3_one, kX3_expression, kX3_product, kX3_factor, kX3_fronted, kX3_compare, kX3_twoSided, kX3_braces, kX3_namedValue, kX3_bounds, kX3_sees, kX3_is, kX3_isName, kX3_which, kX3_numberOf, kX3_find, kX3_node, kX3_wrong, kJ12_length, meK]; omega, by dsimp only [kX3_formula, kX3_row, kX3_since, kX3_one, kX3_expression, kX3_product, kX3_factor, kX3_fronted, kX3_compare, kX3_twoSided, kX3_braces, kX3_namedValue, kX3_bounds, kX3_sees, kX3_is, kX3_isName, kX3_which, kX3_numberOf, kX3_find, kX3_node, kX3_wrong, kJ12_length, meK]; omega⟩ ⟨Nat.zero_le _, Nat.zero_le _⟩ (fun _ _ _ z => z.elim) rfl (fun r_226 h_226 q_226 => ?_)
                      obtain ⟨rfl, rfl⟩ := q_226
                      refine AW.sts (st' := [.int (bI (seesB T a (sw 25))), .ref b]) rfl ?_
                      refine aw_if_eq (n := 232) (tgt := 237) dX3_factor_229 (by decide) rfl (fun c_229 => ?_) (fun c_229 => ?_)
                      · skip
                        have b_229 : (seesB T a (sw 25)) = false := (bI_0 _).mp c_229
                        exact absurd (b_206.symm.trans b_229) (by decide)
                      · skip
                        have b_229 : (seesB T a (sw 25)) = true := Bool.of_not_eq_false (fun e => c_229 ((bI_0 _).mpr e))
                        refine aw_bipush (n := 234) (v := 30) dX3_factor_232 (by decide) rfl ?_
                        refine aw_goto (tgt := 239) dX3_factor_234 (by decide) ?_
                        refine aw_iload (n := 241) dX3_factor_239 0 rfl rfl ?_
                        refine aw_iconst (n := 242) (v := (-1)) dX3_factor_241 (by decide) rfl ?_
                        refine aw_iconst (n := 243) (v := (-1)) dX3_factor_242 (by decide) rfl ?_
                        refine aw_iload_n (n := 244) dX3_factor_243 rfl 3 rfl rfl ?_
                        have nlt_244 : nn m_182 < 1203 := Nat.lt_of_le_of_lt V_182.1.2.2.1.2.2.1 (by have := V_182.1.2.1; omega)
                        refine AW.sts (st' := [.int (frmI T a), .int (-1), .int (-1), .int (m_182.1 17), .int 30, .ref b]) (by rw [show ms.2.1 5 a = frmI T a from (hS.1 a hN).2.2.2.1]) ?_
                        refine aw_callV (n := 247) (C0 := RX3) (As := [.int 30, .int (m_182.1 17), .int (-1), .int (-1), .int (frmI T a)]) (rest := []) (K2 := kX3_node) dX3_factor_244 q2974 q2976 qs75 q113 q2977 ⟨rfl, hcX3_node⟩ rfl hT_182.1 (ct_node G h_182 b m_182 hb hT_182 (30 : Int32) (m_182.1 17) ((-1) : Int32) ((-1) : Int32) (frmI T a) V_182.1.2.2.1.2.1 (by have := V_182.1.2.2.1.2.2.1; have := V_182.1.2.1; omega)) rfl (Nat.le_of_ble_eq_true rfl) ⟨by dsimp only [kX3_formula, kX3_row, kX3_since, kX3_one, kX3_expression, kX3_product, kX3_factor, kX3_fronted, kX3_compare, kX3_twoSided, kX3_braces, kX3_namedValue, kX3_bounds, kX3_sees, kX3_is, kX3_isName, kX3_which, kX3_numberOf, kX3_find, kX3_node, kX3_wrong, kJ12_length, meK]; omega, by dsimp only [kX3_formula, kX3_row, kX3_since, kX3_one, kX3_expression, kX3_product, kX3_factor, kX3_fronted, kX3_compare, kX3_twoSided, kX3_braces, kX3_namedValue, kX3_bounds, kX3_sees, kX3_is, kX3_isName, kX3_which, kX3_numberOf, kX3_find, kX3_node, kX3_wrong, kJ12_length, meK]; omega⟩ ⟨Nat.zero_le _, Nat.zero_le _⟩ (fun _ _ _ z => z.elim) rfl (fun r_244 h_244 q_244 => ?_)
                        obtain ⟨rfl, hT_244, hF_244, hz_244⟩ := q_244
                        have hG_244 := Fr.trans hG_182 hF_244
                        refine AW.sts (st' := [.int 0]) rfl ?_
                        exact aw_iret dX3_factor_247 rfl ⟨nodT m_182 (30 : Int32) (m_182.1 17) ((-1) : Int32) ((-1) : Int32) (frmI T a), by rw [g_20] <;> rfl, hT_244, hG_244, (by omega), fun _ => by rw [g_20] <;> rfl, fun z => absurd (by rw [g_20] <;> rfl) z⟩ ⟨Nat.zero_le _, Nat.zero_le _⟩
                    · skip
                      have b_206 : (seesB T a (sw 25)) = false := (bI_0 _).mp c_206
                      exact absurd (k1.symm.trans b_206) (by decide)
                  · skip
                    exact absurd c_193 (by decide +kernel)
                · skip
                  refine AW.sts (st' := [.int (nI e_182)]) (by rw [hR_182]; rfl) ?_
                  have gE_182 : W9 = (e_182, l_182, a_182, w_182) := pG_er g_19 (by omega)
                  replace er_182 := er_182 (by omega)
                  have E_182 := mE.tr I_4.2.2.2 er_182.1
                  have P_182 := er_182.2.1
                  refine aw_istore_n (n := 186) (lv' := [(3, .int (nI e_182)), (4, .int (whT T a (wlW 4))), (2, .int (ms.2.1 5 a)), (1, .int (nI a)), (0, .ref b)]) dX3_factor_185 rfl (by decide) rfl rfl ?_
                  refine aw_aload_n (n := 187) dX3_factor_186 rfl 4 rfl rfl ?_
                  refine aw_getf (n := 190) (v := .int (m_182.1 17)) (C0 := RX3) (T := TX3) dX3_factor_187 rfl 17 q2658 (Or.inl rfl) hT_182.1 rfl rfl ?_
                  refine aw_istore (n := 192) (lv' := [(5, .int (m_182.1 17)), (3, .int (nI e_182)), (4, .int (whT T a (wlW 4))), (2, .int (ms.2.1 5 a)), (1, .int (nI a)), (0, .ref b)]) dX3_factor_190 (by decide) rfl rfl ?_
                  refine aw_iload_n (n := 193) dX3_factor_192 rfl 1 rfl rfl ?_
                  refine aw_if_eq (n := 196) (tgt := 198) dX3_factor_193 (by decide) rfl (fun c_193_2 => ?_) (fun c_193_2 => ?_)
                  · skip
                    have n_193_2 : e_182 = 0 := (nI_eq (a := e_182) (b := 0) (by omega) (by omega)).mp (by rw [← ((by rfl) : (0 : Int32) = nI 0)]; exact c_193_2)
                    exact absurd n_193_2 (by omega)
                  · skip
                    have n_193_2 : ¬ (e_182 = 0) := fun z => c_193_2 (by have y := (nI_eq (a := e_182) (b := 0) (by omega) (by omega)).mpr z; rw [← ((by rfl) : (0 : Int32) = nI 0)] at y; exact y)
                    refine aw_iload_n (n := 197) dX3_factor_196 rfl 1 rfl rfl ?_
                    exact aw_iret dX3_factor_197 rfl ⟨m_182, by rw [gE_182], hT_182, hG_182, (by omega), fun z => absurd z (by rw [gE_182]; show e_182 ≠ 0; omega), fun _ => ⟨E_182, by rw [gE_182]; exact P_182, by rw [gE_182]; exact er_182.2.2⟩⟩ ⟨Nat.zero_le _, Nat.zero_le _⟩
              · skip
                have u25 := sees_un (j := 25) k1 (by decide)
                have u26 := sees_un (j := 26) k1 (by decide)
                have u18 := sees_un (j := 18) k1 (by decide)
                have g_25 := pG_T g_16 (by first | assumption | simp [n_29, b_55, b_77, b_96, b_115, v_148, k1, u25, u26, u18])
                try dsimp only at g_25
                try simp only [Bool.true_and, pT, ef, cond_true, gOr, gAnd, gSum, gPro, tS_tS] at g_25
                simp only [if_neg (show ¬ seesB T a (sw 25) = true from by rw [u25]; decide)] at g_25
                have g_26 : W9 = pb (pBrC T (pX T true f) d (a + 1) (ats ms (a + 1))) (fun a2 m2 => (fun l a2 m2 => pO a2 (nodT m2 31 l (-1) (-1) (frmI T a))) (m2.1 17) a2 m2) := g_25.trans (pb_br (K := fun l a2 m2 => pO a2 (nodT m2 31 l (-1) (-1) (frmI T a))))
                dsimp only at g_26
                refine aw_aload_n (n := 182) dX3_factor_181 rfl 4 rfl rfl ?_
                obtain ⟨e_182, l_182, a_182, w_182, hR_182⟩ : ∃ (e8 l8 x8 : Nat) (w8 : tM), pBrC T (pX T true f) d (a + 1) (tS ms 7 (nI (a + 1))) = (e8, l8, x8, w8) := ⟨_, _, _, _, rfl⟩
                have n1_182 : (pBrC T (pX T true f) d (a + 1) (tS ms 7 (nI (a + 1)))).1 ≠ 1 := pG_n g_26 h1 (by decide)
                have n9_182 : (pBrC T (pX T true f) d (a + 1) (tS ms 7 (nI (a + 1)))).1 ≠ 99 := pG_n g_26 h9 (by decide)
                have V_182 := pBrC_inv (T := T) (f := f) (d := d) hfB (by omega) I_4
                have Z_182 := brC_N (T := T) (N := N) (f := f) (d := d) (a := a + 1) (m := tS ms 7 (nI (a + 1))) hS.2.1 N_3 (by omega)
                rw [hR_182] at g_26 V_182 Z_182
                refine aw_callV (n := 185) (C0 := RX3) (As := []) (rest := []) (K2 := kX3_braces) dX3_factor_182 q2982 q2984 qs77 q113 q2985 ⟨rfl, hcX3_braces⟩ rfl hT_2.1 (cm_braces G h_2 b (tS ms 7 (nI (a + 1))) T N (a + 1) hb hT_2 (hS.kept I_4.2.2.2) hN4 N_3 f d B hfB hB I_4.2.2.1.up n1_182 n9_182 ih) rfl (Nat.le_of_ble_eq_true rfl) ⟨by dsimp only [kX3_formula, kX3_row, kX3_since, kX3_one, kX3_expression, kX3_product, kX3_factor, kX3_fronted, kX3_compare, kX3_twoSided, kX3_braces, kX3_namedValue, kX3_bounds, kX3_sees, kX3_is, kX3_isName, kX3_which, kX3_numberOf, kX3_find, kX3_node, kX3_wrong, kJ12_length, meK]; omega, by dsimp only [kX3_formula, kX3_row, kX3_since, kX3_one, kX3_expression, kX3_product, kX3_factor, kX3_fronted, kX3_compare, kX3_twoSided, kX3_braces, kX3_namedValue, kX3_bounds, kX3_sees, kX3_is, kX3_isName, kX3_which, kX3_numberOf, kX3_find, kX3_node, kX3_wrong, kJ12_length, meK]; omega⟩ ⟨Nat.zero_le _, Nat.zero_le _⟩ (fun _ _ _ z => z.elim) rfl (fun r_182 h_182 q_182 => ?_)
                obtain ⟨m_182, rfl, hT_182, hF_182, hz_182, ok_182, er_182⟩ := q_182
                rw [hR_182] at ok_182 er_182
                dsimp only at ok_182 er_182
                have hG_182 := Fr.trans hF_2 hF_182
                rcases Nat.eq_zero_or_pos e_182 with y_182 | y_182
                · skip
                  subst y_182
                  have x_182 := ok_182 rfl
                  subst x_182
                  refine AW.sts (st' := [.int 0]) (by rw [hR_182]; rfl) ?_
                  replace V_182 := V_182 rfl
                  replace Z_182 := Z_182 rfl
                  dsimp only at V_182 Z_182
                  have lt_182 : nN (m_182.1 17) < 1203 := by have := V_182.2.2.1; have := V_182.1.2.2.1.2.2.1; have := V_182.1.2.1; omega
                  have g_27 := pG_o g_26
                  try dsimp only at g_27
                  have tk_28 := (hS.kept V_182.1.2.2.2).1 a_182 Z_182; have Ktk_28 := tk_28.2.1
                  try simp only [Bool.true_and, pT, ef, cond_true, gOr, gAnd, gSum, gPro, tS_tS, seesP_eq Z_182 hN4 hS.2.1, nmP_eq Z_182 hN4 hS.2.1, nuP_eq Z_182 hN4 hS.2.1, whP_eq Z_182 hN4 hS.2.1] at g_27
                  refine aw_istore_n (n := 186) (lv' := [(3, .int 0), (4, .int (whT T a (wlW 4))), (2, .int (ms.2.1 5 a)), (1, .int (nI a)), (0, .ref b)]) dX3_factor_185 rfl (by decide) rfl rfl ?_
                  refine aw_aload_n (n := 187) dX3_factor_186 rfl 4 rfl rfl ?_
                  refine aw_getf (n := 190) (v := .int (m_182.1 17)) (C0 := RX3) (T := TX3) dX3_factor_187 rfl 17 q2658 (Or.inl rfl) hT_182.1 rfl rfl ?_
                  refine aw_istore (n := 192) (lv' := [(5, .int (m_182.1 17)), (3, .int 0), (4, .int (whT T a (wlW 4))), (2, .int (ms.2.1 5 a)), (1, .int (nI a)), (0, .ref b)]) dX3_factor_190 (by decide) rfl rfl ?_
                  refine aw_iload_n (n := 193) dX3_factor_192 rfl 1 rfl rfl ?_
                  refine aw_if_eq (n := 196) (tgt := 198) dX3_factor_193 (by decide) rfl (fun c_193 => ?_) (fun c_193 => ?_)
                  · skip
                    refine aw_aload_n (n := 199) dX3_factor_198 rfl 5 rfl rfl ?_
                    refine aw_iload_n (n := 200) dX3_factor_199 rfl 4 rfl rfl ?_
                    refine aw_ldcwS (n := 203) (q := 25) dX3_factor_200 121 rfl rfl ?_
                    refine aw_know (fun gd_28 hi_28 => ?_)
                    refine aw_callV (n := 206) (C0 := RX3) (As := [.int (nI a), .ref (gT G 25)]) (rest := []) (K2 := kX3_is) dX3_factor_203 q2830 q2832 qs51 q113 q2833 ⟨rfl, hcX3_is⟩ rfl hT_182.1 (ct_is G h_182 b m_182 hb hT_182 T a ((hS.kept V_182.1.2.2.2).1 a hN) _ (sw 25) (str_at gd_28 hi_28 (i := 25) rfl) (lo_at (i := 25) rfl)) rfl (Nat.le_of_ble_eq_true rfl) ⟨by dsimp only [kX3_formula, kX3_row, kX3_since, kX3_one, kX3_expression, kX3_product, kX3_factor, kX3_fronted, kX3_compare, kX3_twoSided, kX3_braces, kX3_namedValue, kX3_bounds, kX3_sees, kX3_is, kX3_isName, kX3_which, kX3_numberOf, kX3_find, kX3_node, kX3_wrong, kJ12_length, meK]; omega, by dsimp only [kX3_formula, kX3_row, kX3_since, kX3_one, kX3_expression, kX3_product, kX3_factor, kX3_fronted, kX3_compare, kX3_twoSided, kX3_braces, kX3_namedValue, kX3_bounds, kX3_sees, kX3_is, kX3_isName, kX3_which, kX3_numberOf, kX3_find, kX3_node, kX3_wrong, kJ12_length, meK]; omega⟩ ⟨Nat.zero_le _, Nat.zero_le _⟩ (fun _ _ _ z => z.elim) rfl (fun r_203 h_203 q_203 => ?_)
                    obtain ⟨rfl, rfl⟩ := q_203
                    refine AW.sts (st' := [.int (bI (seesB T a (sw 25)))]) rfl ?_
                    refine aw_if_ne (n := 209) (tgt := 220) dX3_factor_206 (by decide) rfl (fun c_206 => ?_) (fun c_206 => ?_)
                    · skip
                      have b_206 : (seesB T a (sw 25)) = true := Bool.of_not_eq_false (fun e => c_206 ((bI_0 _).mpr e))
                      exact absurd (u25.symm.trans b_206) (by decide)
                    · skip
                      have b_206 : (seesB T a (sw 25)) = false := (bI_0 _).mp c_206
                      refine aw_aload_n (n := 210) dX3_factor_209 rfl 5 rfl rfl ?_
                      refine aw_iload_n (n := 211) dX3_factor_210 rfl 4 rfl rfl ?_
                      refine aw_ldcwS (n := 214) (q := 27) dX3_factor_211 122 rfl rfl ?_
                      refine aw_know (fun gd_29 hi_29 => ?_)
                      refine aw_callV (n := 217) (C0 := RX3) (As := [.int (nI a), .ref (gT G 27)]) (rest := []) (K2 := kX3_is) dX3_factor_214 q2830 q2832 qs51 q113 q2833 ⟨rfl, hcX3_is⟩ rfl hT_182.1 (ct_is G h_182 b m_182 hb hT_182 T a ((hS.kept V_182.1.2.2.2).1 a hN) _ (sw 27) (str_at gd_29 hi_29 (i := 27) rfl) (lo_at (i := 27) rfl)) rfl (Nat.le_of_ble_eq_true rfl) ⟨by dsimp only [kX3_formula, kX3_row, kX3_since, kX3_one, kX3_expression, kX3_product, kX3_factor, kX3_fronted, kX3_compare, kX3_twoSided, kX3_braces, kX3_namedValue, kX3_bounds, kX3_sees, kX3_is, kX3_isName, kX3_which, kX3_numberOf, kX3_find, kX3_node, kX3_wrong, kJ12_length, meK]; omega, by dsimp only [kX3_formula, kX3_row, kX3_since, kX3_one, kX3_expression, kX3_product, kX3_factor, kX3_fronted, kX3_compare, kX3_twoSided, kX3_braces, kX3_namedValue, kX3_bounds, kX3_sees, kX3_is, kX3_isName, kX3_which, kX3_numberOf, kX3_find, kX3_node, kX3_wrong, kJ12_length, meK]; omega⟩ ⟨Nat.zero_le _, Nat.zero_le _⟩ (fun _ _ _ z => z.elim) rfl (fun r_214 h_214 q_214 => ?_)
                      obtain ⟨rfl, rfl⟩ := q_214
                      refine AW.sts (st' := [.int (bI (seesB T a (sw 27)))]) rfl ?_
                      refine aw_if_eq (n := 220) (tgt := 248) dX3_factor_217 (by decide) rfl (fun c_217 => ?_) (fun c_217 => ?_)
                      · skip
                        have b_217 : (seesB T a (sw 27)) = false := (bI_0 _).mp c_217
                        exact absurd (k1.symm.trans b_217) (by decide)
                      · skip
                        have b_217 : (seesB T a (sw 27)) = true := Bool.of_not_eq_false (fun e => c_217 ((bI_0 _).mpr e))
                        refine aw_aload_n (n := 221) dX3_factor_220 rfl 5 rfl rfl ?_
                        refine aw_aload_n (n := 222) dX3_factor_221 rfl 5 rfl rfl ?_
                        refine aw_iload_n (n := 223) dX3_factor_222 rfl 4 rfl rfl ?_
                        refine aw_ldcwS (n := 226) (q := 25) dX3_factor_223 121 rfl rfl ?_
                        refine aw_know (fun gd_30 hi_30 => ?_)
                        refine aw_callV (n := 229) (C0 := RX3) (As := [.int (nI a), .ref (gT G 25)]) (rest := [.ref b]) (K2 := kX3_is) dX3_factor_226 q2830 q2832 qs51 q113 q2833 ⟨rfl, hcX3_is⟩ rfl hT_182.1 (ct_is G h_182 b m_182 hb hT_182 T a ((hS.kept V_182.1.2.2.2).1 a hN) _ (sw 25) (str_at gd_30 hi_30 (i := 25) rfl) (lo_at (i := 25) rfl)) rfl (Nat.le_of_ble_eq_true rfl) ⟨by dsimp only [kX3_formula, kX3_row, kX3_since, kX3_one, kX3_expression, kX3_product, kX3_factor, kX3_fronted, kX3_compare, kX3_twoSided, kX3_braces, kX3_namedValue, kX3_bounds, kX3_sees, kX3_is, kX3_isName, kX3_which, kX3_numberOf, kX3_find, kX3_node, kX3_wrong, kJ12_length, meK]; omega, by dsimp only [kX3_formula, kX3_row, kX3_since, kX3_one, kX3_expression, kX3_product, kX3_factor, kX3_fronted, kX3_compare, kX3_twoSided, kX3_braces, kX3_namedValue, kX3_bounds, kX3_sees, kX3_is, kX3_isName, kX3_which, kX3_numberOf, kX3_find, kX3_node, kX3_wrong, kJ12_length, meK]; omega⟩ ⟨Nat.zero_le _, Nat.zero_le _⟩ (fun _ _ _ z => z.elim) rfl (fun r_226 h_226 q_226 => ?_)
                        obtain ⟨rfl, rfl⟩ := q_226
                        refine AW.sts (st' := [.int (bI (seesB T a (sw 25))), .ref b]) rfl ?_
                        refine aw_if_eq (n := 232) (tgt := 237) dX3_factor_229 (by decide) rfl (fun c_229 => ?_) (fun c_229 => ?_)
                        · skip
                          have b_229 : (seesB T a (sw 25)) = false := (bI_0 _).mp c_229
                          refine aw_bipush (n := 239) (v := 31) dX3_factor_237 (by decide) rfl ?_
                          refine aw_iload (n := 241) dX3_factor_239 0 rfl rfl ?_
                          refine aw_iconst (n := 242) (v := (-1)) dX3_factor_241 (by decide) rfl ?_
                          refine aw_iconst (n := 243) (v := (-1)) dX3_factor_242 (by decide) rfl ?_
                          refine aw_iload_n (n := 244) dX3_factor_243 rfl 3 rfl rfl ?_
                          have nlt_244 : nn m_182 < 1203 := Nat.lt_of_le_of_lt V_182.1.2.2.1.2.2.1 (by have := V_182.1.2.1; omega)
                          refine AW.sts (st' := [.int (frmI T a), .int (-1), .int (-1), .int (m_182.1 17), .int 31, .ref b]) (by rw [show ms.2.1 5 a = frmI T a from (hS.1 a hN).2.2.2.1]) ?_
                          refine aw_callV (n := 247) (C0 := RX3) (As := [.int 31, .int (m_182.1 17), .int (-1), .int (-1), .int (frmI T a)]) (rest := []) (K2 := kX3_node) dX3_factor_244 q2974 q2976 qs75 q113 q2977 ⟨rfl, hcX3_node⟩ rfl hT_182.1 (ct_node G h_182 b m_182 hb hT_182 (31 : Int32) (m_182.1 17) ((-1) : Int32) ((-1) : Int32) (frmI T a) V_182.1.2.2.1.2.1 (by have := V_182.1.2.2.1.2.2.1; have := V_182.1.2.1; omega)) rfl (Nat.le_of_ble_eq_true rfl) ⟨by dsimp only [kX3_formula, kX3_row, kX3_since, kX3_one, kX3_expression, kX3_product, kX3_factor, kX3_fronted, kX3_compare, kX3_twoSided, kX3_braces, kX3_namedValue, kX3_bounds, kX3_sees, kX3_is, kX3_isName, kX3_which, kX3_numberOf, kX3_find, kX3_node, kX3_wrong, kJ12_length, meK]; omega, by dsimp only [kX3_formula, kX3_row, kX3_since, kX3_one, kX3_expression, kX3_product, kX3_factor, kX3_fronted, kX3_compare, kX3_twoSided, kX3_braces, kX3_namedValue, kX3_bounds, kX3_sees, kX3_is, kX3_isName, kX3_which, kX3_numberOf, kX3_find, kX3_node, kX3_wrong, kJ12_length, meK]; omega⟩ ⟨Nat.zero_le _, Nat.zero_le _⟩ (fun _ _ _ z => z.elim) rfl (fun r_244 h_244 q_244 => ?_)
                          obtain ⟨rfl, hT_244, hF_244, hz_244⟩ := q_244
                          have hG_244 := Fr.trans hG_182 hF_244
                          refine AW.sts (st' := [.int 0]) rfl ?_
                          exact aw_iret dX3_factor_247 rfl ⟨nodT m_182 (31 : Int32) (m_182.1 17) ((-1) : Int32) ((-1) : Int32) (frmI T a), by rw [g_27] <;> rfl, hT_244, hG_244, (by omega), fun _ => by rw [g_27] <;> rfl, fun z => absurd (by rw [g_27] <;> rfl) z⟩ ⟨Nat.zero_le _, Nat.zero_le _⟩
                        · skip
                          have b_229 : (seesB T a (sw 25)) = true := Bool.of_not_eq_false (fun e => c_229 ((bI_0 _).mpr e))
                          exact absurd (b_206.symm.trans b_229) (by decide)
                  · skip
                    exact absurd c_193 (by decide +kernel)
                · skip
                  refine AW.sts (st' := [.int (nI e_182)]) (by rw [hR_182]; rfl) ?_
                  have gE_182 : W9 = (e_182, l_182, a_182, w_182) := pG_er g_26 (by omega)
                  replace er_182 := er_182 (by omega)
                  have E_182 := mE.tr I_4.2.2.2 er_182.1
                  have P_182 := er_182.2.1
                  refine aw_istore_n (n := 186) (lv' := [(3, .int (nI e_182)), (4, .int (whT T a (wlW 4))), (2, .int (ms.2.1 5 a)), (1, .int (nI a)), (0, .ref b)]) dX3_factor_185 rfl (by decide) rfl rfl ?_
                  refine aw_aload_n (n := 187) dX3_factor_186 rfl 4 rfl rfl ?_
                  refine aw_getf (n := 190) (v := .int (m_182.1 17)) (C0 := RX3) (T := TX3) dX3_factor_187 rfl 17 q2658 (Or.inl rfl) hT_182.1 rfl rfl ?_
                  refine aw_istore (n := 192) (lv' := [(5, .int (m_182.1 17)), (3, .int (nI e_182)), (4, .int (whT T a (wlW 4))), (2, .int (ms.2.1 5 a)), (1, .int (nI a)), (0, .ref b)]) dX3_factor_190 (by decide) rfl rfl ?_
                  refine aw_iload_n (n := 193) dX3_factor_192 rfl 1 rfl rfl ?_
                  refine aw_if_eq (n := 196) (tgt := 198) dX3_factor_193 (by decide) rfl (fun c_193_2 => ?_) (fun c_193_2 => ?_)
                  · skip
                    have n_193_2 : e_182 = 0 := (nI_eq (a := e_182) (b := 0) (by omega) (by omega)).mp (by rw [← ((by rfl) : (0 : Int32) = nI 0)]; exact c_193_2)
                    exact absurd n_193_2 (by omega)
                  · skip
                    have n_193_2 : ¬ (e_182 = 0) := fun z => c_193_2 (by have y := (nI_eq (a := e_182) (b := 0) (by omega) (by omega)).mpr z; rw [← ((by rfl) : (0 : Int32) = nI 0)] at y; exact y)
                    refine aw_iload_n (n := 197) dX3_factor_196 rfl 1 rfl rfl ?_
                    exact aw_iret dX3_factor_197 rfl ⟨m_182, by rw [gE_182], hT_182, hG_182, (by omega), fun z => absurd z (by rw [gE_182]; show e_182 ≠ 0; omega), fun _ => ⟨E_182, by rw [gE_182]; exact P_182, by rw [gE_182]; exact er_182.2.2⟩⟩ ⟨Nat.zero_le _, Nat.zero_le _⟩
              · skip
                have u18 := sees_un (j := 18) k3 (by decide)
                have g_32 := pG_F g_16 (by first | assumption | simp [n_29, b_55, b_77, b_96, b_115, v_148, k1, k2, k3])
                try dsimp only at g_32
                have g_34 := pG_T g_32 (by first | assumption | simp [n_29, b_55, b_77, b_96, b_115, v_148, k1, k2, k3])
                try dsimp only at g_34
                try simp only [Bool.true_and, pT, ef, cond_true, gOr, gAnd, gSum, gPro, tS_tS] at g_34
                have g_35 : W9 = pb (pBrC T (pX T true f) d (a + 1) (ats ms (a + 1))) (fun a2 m2 => (fun l a2 m2 => pb (pX T true f 7 (d + 1) a2 m2) fun a3 m3 => pO a3 (nodT m3 32 l (m3.1 17) (-1) (frmI T a))) (m2.1 17) a2 m2) := g_34.trans (pb_br (K := fun l a2 m2 => pb (pX T true f 7 (d + 1) a2 m2) fun a3 m3 => pO a3 (nodT m3 32 l (m3.1 17) (-1) (frmI T a))))
                dsimp only at g_35
                refine aw_aload_n (n := 182) dX3_factor_181 rfl 4 rfl rfl ?_
                obtain ⟨e_182, l_182, a_182, w_182, hR_182⟩ : ∃ (e8 l8 x8 : Nat) (w8 : tM), pBrC T (pX T true f) d (a + 1) (tS ms 7 (nI (a + 1))) = (e8, l8, x8, w8) := ⟨_, _, _, _, rfl⟩
                have n1_182 : (pBrC T (pX T true f) d (a + 1) (tS ms 7 (nI (a + 1)))).1 ≠ 1 := pG_n g_35 h1 (by decide)
                have n9_182 : (pBrC T (pX T true f) d (a + 1) (tS ms 7 (nI (a + 1)))).1 ≠ 99 := pG_n g_35 h9 (by decide)
                have V_182 := pBrC_inv (T := T) (f := f) (d := d) hfB (by omega) I_4
                have Z_182 := brC_N (T := T) (N := N) (f := f) (d := d) (a := a + 1) (m := tS ms 7 (nI (a + 1))) hS.2.1 N_3 (by omega)
                rw [hR_182] at g_35 V_182 Z_182
                refine aw_callV (n := 185) (C0 := RX3) (As := []) (rest := []) (K2 := kX3_braces) dX3_factor_182 q2982 q2984 qs77 q113 q2985 ⟨rfl, hcX3_braces⟩ rfl hT_2.1 (cm_braces G h_2 b (tS ms 7 (nI (a + 1))) T N (a + 1) hb hT_2 (hS.kept I_4.2.2.2) hN4 N_3 f d B hfB hB I_4.2.2.1.up n1_182 n9_182 ih) rfl (Nat.le_of_ble_eq_true rfl) ⟨by dsimp only [kX3_formula, kX3_row, kX3_since, kX3_one, kX3_expression, kX3_product, kX3_factor, kX3_fronted, kX3_compare, kX3_twoSided, kX3_braces, kX3_namedValue, kX3_bounds, kX3_sees, kX3_is, kX3_isName, kX3_which, kX3_numberOf, kX3_find, kX3_node, kX3_wrong, kJ12_length, meK]; omega, by dsimp only [kX3_formula, kX3_row, kX3_since, kX3_one, kX3_expression, kX3_product, kX3_factor, kX3_fronted, kX3_compare, kX3_twoSided, kX3_braces, kX3_namedValue, kX3_bounds, kX3_sees, kX3_is, kX3_isName, kX3_which, kX3_numberOf, kX3_find, kX3_node, kX3_wrong, kJ12_length, meK]; omega⟩ ⟨Nat.zero_le _, Nat.zero_le _⟩ (fun _ _ _ z => z.elim) rfl (fun r_182 h_182 q_182 => ?_)
                obtain ⟨m_182, rfl, hT_182, hF_182, hz_182, ok_182, er_182⟩ := q_182
                rw [hR_182] at ok_182 er_182
                dsimp only at ok_182 er_182
                have hG_182 := Fr.trans hF_2 hF_182
                rcases Nat.eq_zero_or_pos e_182 with y_182 | y_182
                · skip
                  subst y_182
                  have x_182 := ok_182 rfl
                  subst x_182
                  refine AW.sts (st' := [.int 0]) (by rw [hR_182]; rfl) ?_
                  replace V_182 := V_182 rfl
                  replace Z_182 := Z_182 rfl
                  dsimp only at V_182 Z_182
                  have lt_182 : nN (m_182.1 17) < 1203 := by have := V_182.2.2.1; have := V_182.1.2.2.1.2.2.1; have := V_182.1.2.1; omega
                  have g_36 := pG_o g_35
                  try dsimp only at g_36
                  have tk_37 := (hS.kept V_182.1.2.2.2).1 a_182 Z_182; have Ktk_37 := tk_37.2.1
                  try simp only [Bool.true_and, pT, ef, cond_true, gOr, gAnd, gSum, gPro, tS_tS, seesP_eq Z_182 hN4 hS.2.1, nmP_eq Z_182 hN4 hS.2.1, nuP_eq Z_182 hN4 hS.2.1, whP_eq Z_182 hN4 hS.2.1] at g_36
                  refine aw_istore_n (n := 186) (lv' := [(3, .int 0), (4, .int (whT T a (wlW 4))), (2, .int (ms.2.1 5 a)), (1, .int (nI a)), (0, .ref b)]) dX3_factor_185 rfl (by decide) rfl rfl ?_
                  refine aw_aload_n (n := 187) dX3_factor_186 rfl 4 rfl rfl ?_
                  refine aw_getf (n := 190) (v := .int (m_182.1 17)) (C0 := RX3) (T := TX3) dX3_factor_187 rfl 17 q2658 (Or.inl rfl) hT_182.1 rfl rfl ?_
                  refine aw_istore (n := 192) (lv' := [(5, .int (m_182.1 17)), (3, .int 0), (4, .int (whT T a (wlW 4))), (2, .int (ms.2.1 5 a)), (1, .int (nI a)), (0, .ref b)]) dX3_factor_190 (by decide) rfl rfl ?_
                  refine aw_iload_n (n := 193) dX3_factor_192 rfl 1 rfl rfl ?_
                  refine aw_if_eq (n := 196) (tgt := 198) dX3_factor_193 (by decide) rfl (fun c_193 => ?_) (fun c_193 => ?_)
                  · skip
                    refine aw_aload_n (n := 199) dX3_factor_198 rfl 5 rfl rfl ?_
                    refine aw_iload_n (n := 200) dX3_factor_199 rfl 4 rfl rfl ?_
                    refine aw_ldcwS (n := 203) (q := 25) dX3_factor_200 121 rfl rfl ?_
                    refine aw_know (fun gd_37 hi_37 => ?_)
                    refine aw_callV (n := 206) (C0 := RX3) (As := [.int (nI a), .ref (gT G 25)]) (rest := []) (K2 := kX3_is) dX3_factor_203 q2830 q2832 qs51 q113 q2833 ⟨rfl, hcX3_is⟩ rfl hT_182.1 (ct_is G h_182 b m_182 hb hT_182 T a ((hS.kept V_182.1.2.2.2).1 a hN) _ (sw 25) (str_at gd_37 hi_37 (i := 25) rfl) (lo_at (i := 25) rfl)) rfl (Nat.le_of_ble_eq_true rfl) ⟨by dsimp only [kX3_formula, kX3_row, kX3_since, kX3_one, kX3_expression, kX3_product, kX3_factor, kX3_fronted, kX3_compare, kX3_twoSided, kX3_braces, kX3_namedValue, kX3_bounds, kX3_sees, kX3_is, kX3_isName, kX3_which, kX3_numberOf, kX3_find, kX3_node, kX3_wrong, kJ12_length, meK]; omega, by dsimp only [kX3_formula, kX3_row, kX3_since, kX3_one, kX3_expression, kX3_product, kX3_factor, kX3_fronted, kX3_compare, kX3_twoSided, kX3_braces, kX3_namedValue, kX3_bounds, kX3_sees, kX3_is, kX3_isName, kX3_which, kX3_numberOf, kX3_find, kX3_node, kX3_wrong, kJ12_length, meK]; omega⟩ ⟨Nat.zero_le _, Nat.zero_le _⟩ (fun _ _ _ z => z.elim) rfl (fun r_203 h_203 q_203 => ?_)
                    obtain ⟨rfl, rfl⟩ := q_203
                    refine AW.sts (st' := [.int (bI (seesB T a (sw 25)))]) rfl ?_
                    refine aw_if_ne (n := 209) (tgt := 220) dX3_factor_206 (by decide) rfl (fun c_206 => ?_) (fun c_206 => ?_)
                    · skip
                      have b_206 : (seesB T a (sw 25)) = true := Bool.of_not_eq_false (fun e => c_206 ((bI_0 _).mpr e))
                      exact absurd (k1.symm.trans b_206) (by decide)
                    · skip
                      have b_206 : (seesB T a (sw 25)) = false := (bI_0 _).mp c_206
                      refine aw_aload_n (n := 210) dX3_factor_209 rfl 5 rfl rfl ?_
                      refine aw_iload_n (n := 211) dX3_factor_210 rfl 4 rfl rfl ?_
                      refine aw_ldcwS (n := 214) (q := 27) dX3_factor_211 122 rfl rfl ?_
                      refine aw_know (fun gd_38 hi_38 => ?_)
                      refine aw_callV (n := 217) (C0 := RX3) (As := [.int (nI a), .ref (gT G 27)]) (rest := []) (K2 := kX3_is) dX3_factor_214 q2830 q2832 qs51 q113 q2833 ⟨rfl, hcX3_is⟩ rfl hT_182.1 (ct_is G h_182 b m_182 hb hT_182 T a ((hS.kept V_182.1.2.2.2).1 a hN) _ (sw 27) (str_at gd_38 hi_38 (i := 27) rfl) (lo_at (i := 27) rfl)) rfl (Nat.le_of_ble_eq_true rfl) ⟨by dsimp only [kX3_formula, kX3_row, kX3_since, kX3_one, kX3_expression, kX3_product, kX3_factor, kX3_fronted, kX3_compare, kX3_twoSided, kX3_braces, kX3_namedValue, kX3_bounds, kX3_sees, kX3_is, kX3_isName, kX3_which, kX3_numberOf, kX3_find, kX3_node, kX3_wrong, kJ12_length, meK]; omega, by dsimp only [kX3_formula, kX3_row, kX3_since, kX3_one, kX3_expression, kX3_product, kX3_factor, kX3_fronted, kX3_compare, kX3_twoSided, kX3_braces, kX3_namedValue, kX3_bounds, kX3_sees, kX3_is, kX3_isName, kX3_which, kX3_numberOf, kX3_find, kX3_node, kX3_wrong, kJ12_length, meK]; omega⟩ ⟨Nat.zero_le _, Nat.zero_le _⟩ (fun _ _ _ z => z.elim) rfl (fun r_214 h_214 q_214 => ?_)
                      obtain ⟨rfl, rfl⟩ := q_214
                      refine AW.sts (st' := [.int (bI (seesB T a (sw 27)))]) rfl ?_
                      refine aw_if_eq (n := 220) (tgt := 248) dX3_factor_217 (by decide) rfl (fun c_217 => ?_) (fun c_217 => ?_)
                      · skip
                        have b_217 : (seesB T a (sw 27)) = false := (bI_0 _).mp c_217
                        refine aw_aload_n (n := 249) dX3_factor_248 rfl 5 rfl rfl ?_
                        refine aw_iload_n (n := 250) dX3_factor_249 rfl 4 rfl rfl ?_
                        refine aw_ldcwS (n := 253) (q := 18) dX3_factor_250 124 rfl rfl ?_
                        refine aw_know (fun gd_39 hi_39 => ?_)
                        refine aw_callV (n := 256) (C0 := RX3) (As := [.int (nI a), .ref (gT G 18)]) (rest := []) (K2 := kX3_is) dX3_factor_253 q2830 q2832 qs51 q113 q2833 ⟨rfl, hcX3_is⟩ rfl hT_182.1 (ct_is G h_182 b m_182 hb hT_182 T a ((hS.kept V_182.1.2.2.2).1 a hN) _ (sw 18) (str_at gd_39 hi_39 (i := 18) rfl) (lo_at (i := 18) rfl)) rfl (Nat.le_of_ble_eq_true rfl) ⟨by dsimp only [kX3_formula, kX3_row, kX3_since, kX3_one, kX3_expression, kX3_product, kX3_factor, kX3_fronted, kX3_compare, kX3_twoSided, kX3_braces, kX3_namedValue, kX3_bounds, kX3_sees, kX3_is, kX3_isName, kX3_which, kX3_numberOf, kX3_find, kX3_node, kX3_wrong, kJ12_length, meK]; omega, by dsimp only [kX3_formula, kX3_row, kX3_since, kX3_one, kX3_expression, kX3_product, kX3_factor, kX3_fronted, kX3_compare, kX3_twoSided, kX3_braces, kX3_namedValue, kX3_bounds, kX3_sees, kX3_is, kX3_isName, kX3_which, kX3_numberOf, kX3_find, kX3_node, kX3_wrong, kJ12_length, meK]; omega⟩ ⟨Nat.zero_le _, Nat.zero_le _⟩ (fun _ _ _ z => z.elim) rfl (fun r_253 h_253 q_253 => ?_)
                        obtain ⟨rfl, rfl⟩ := q_253
                        refine AW.sts (st' := [.int (bI (seesB T a (sw 18)))]) rfl ?_
                        refine aw_if_eq (n := 259) (tgt := 269) dX3_factor_256 (by decide) rfl (fun c_256 => ?_) (fun c_256 => ?_)
                        · skip
                          have b_256 : (seesB T a (sw 18)) = false := (bI_0 _).mp c_256
                          refine aw_aload_n (n := 270) dX3_factor_269 rfl 5 rfl rfl ?_
                          obtain ⟨e_270, l_270, a_270, w_270, hR_270⟩ : ∃ (e8 l8 x8 : Nat) (w8 : tM), pX T true f 7 (d + 1) a_182 m_182 = (e8, l8, x8, w8) := ⟨_, _, _, _, rfl⟩
                          have n1_270 : (pX T true f 7 (d + 1) a_182 m_182).1 ≠ 1 := pG_n g_36 h1 (by decide)
                          have n9_270 : (pX T true f 7 (d + 1) a_182 m_182).1 ≠ 99 := pG_n g_36 h9 (by decide)
                          have V_270 := (pX_inv T f 7 (d + 1) a_182 (B) m_182 (by omega) (by omega) (by omega) V_182.1.2.2.1).w (fun _ _ z => V_182.1.trW z)
                          have Z_270 := pX_N (T := T) (N := N) (f := f) (nt := 7) (d := d + 1) (a := a_182) (m := m_182) hS.2.1 Z_182 (by omega)
                          have U_270 := pX_inv T f 7 (d + 1) a_182 (B) m_182 (by omega) (by omega) (by omega) V_182.1.2.2.1
                          rw [hR_270] at U_270
                          rw [hR_270] at g_36 V_270 Z_270
                          refine aw_callV (n := 273) (C0 := RX3) (As := []) (rest := []) (K2 := kX3_factor) dX3_factor_270 q2970 q2972 qs74 q113 q2973 ⟨rfl, hcX3_factor⟩ rfl hT_182.1 (ih 7 h_182 b m_182 T N a_182 (d + 1) (B) (by decide) hb hT_182 (hS.kept V_182.1.2.2.2) hN4 Z_182 (by omega) (by omega) V_182.1.2.2.1 n1_270 n9_270) rfl (Nat.le_of_ble_eq_true rfl) ⟨by dsimp only [kX3_formula, kX3_row, kX3_since, kX3_one, kX3_expression, kX3_product, kX3_factor, kX3_fronted, kX3_compare, kX3_twoSided, kX3_braces, kX3_namedValue, kX3_bounds, kX3_sees, kX3_is, kX3_isName, kX3_which, kX3_numberOf, kX3_find, kX3_node, kX3_wrong, kJ12_length, meK]; omega, by dsimp only [kX3_formula, kX3_row, kX3_since, kX3_one, kX3_expression, kX3_product, kX3_factor, kX3_fronted, kX3_compare, kX3_twoSided, kX3_braces, kX3_namedValue, kX3_bounds, kX3_sees, kX3_is, kX3_isName, kX3_which, kX3_numberOf, kX3_find, kX3_node, kX3_wrong, kJ12_length, meK]; omega⟩ ⟨Nat.zero_le _, Nat.zero_le _⟩ (fun _ _ _ z => z.elim) rfl (fun r_270 h_270 q_270 => ?_)
                          obtain ⟨m_270, rfl, hT_270, hF_270, hz_270, ok_270, er_270⟩ := q_270
                          rw [hR_270] at ok_270 er_270
                          dsimp only at ok_270 er_270
                          have hG_270 := Fr.trans hG_182 hF_270
                          rcases Nat.eq_zero_or_pos e_270 with y_270 | y_270
                          · skip
                            subst y_270
                            have x_270 := ok_270 rfl
                            subst x_270
                            refine AW.sts (st' := [.int 0]) (by rw [hR_270]; rfl) ?_
                            replace V_270 := V_270 rfl
                            replace Z_270 := Z_270 rfl
                            dsimp only at V_270 Z_270
                            replace U_270 := U_270 rfl
                            dsimp only at U_270
                            have lt_270 : nN (m_270.1 17) < 1203 := by have := V_270.2.2.1; have := V_270.1.2.2.1.2.2.1; have := V_270.1.2.1; omega
                            have g_41 := pG_o g_36
                            try dsimp only at g_41
                            have tk_42 := (hS.kept V_270.1.2.2.2).1 a_270 Z_270; have Ktk_42 := tk_42.2.1
                            try simp only [Bool.true_and, pT, ef, cond_true, gOr, gAnd, gSum, gPro, tS_tS, seesP_eq Z_270 hN4 hS.2.1, nmP_eq Z_270 hN4 hS.2.1, nuP_eq Z_270 hN4 hS.2.1, whP_eq Z_270 hN4 hS.2.1] at g_41
                            refine aw_istore_n (n := 274) (lv' := [(3, .int 0), (5, .int (m_182.1 17)), (4, .int (whT T a (wlW 4))), (2, .int (ms.2.1 5 a)), (1, .int (nI a)), (0, .ref b)]) dX3_factor_273 rfl (by decide) rfl rfl ?_
                            refine aw_aload_n (n := 275) dX3_factor_274 rfl 5 rfl rfl ?_
                            refine aw_getf (n := 278) (v := .int (m_270.1 17)) (C0 := RX3) (T := TX3) dX3_factor_275 rfl 17 q2658 (Or.inl rfl) hT_270.1 rfl rfl ?_
                            refine aw_istore (n := 280) (lv' := [(6, .int (m_270.1 17)), (3, .int 0), (5, .int (m_182.1 17)), (4, .int (whT T a (wlW 4))), (2, .int (ms.2.1 5 a)), (1, .int (nI a)), (0, .ref b)]) dX3_factor_278 (by decide) rfl rfl ?_
                            refine aw_iload_n (n := 281) dX3_factor_280 rfl 1 rfl rfl ?_
                            refine aw_if_eq (n := 284) (tgt := 286) dX3_factor_281 (by decide) rfl (fun c_281 => ?_) (fun c_281 => ?_)
                            · skip
                              refine aw_aload_n (n := 287) dX3_factor_286 rfl 6 rfl rfl ?_
                              refine aw_iload_n (n := 288) dX3_factor_287 rfl 5 rfl rfl ?_
                              refine aw_ldcwS (n := 291) (q := 26) dX3_factor_288 123 rfl rfl ?_
                              refine aw_know (fun gd_42 hi_42 => ?_)
                              refine aw_callV (n := 294) (C0 := RX3) (As := [.int (nI a), .ref (gT G 26)]) (rest := []) (K2 := kX3_is) dX3_factor_291 q2830 q2832 qs51 q113 q2833 ⟨rfl, hcX3_is⟩ rfl hT_270.1 (ct_is G h_270 b m_270 hb hT_270 T a ((hS.kept V_270.1.2.2.2).1 a hN) _ (sw 26) (str_at gd_42 hi_42 (i := 26) rfl) (lo_at (i := 26) rfl)) rfl (Nat.le_of_ble_eq_true rfl) ⟨by dsimp only [kX3_formula, kX3_row, kX3_since, kX3_one, kX3_expression, kX3_product, kX3_factor, kX3_fronted, kX3_compare, kX3_twoSided, kX3_braces, kX3_namedValue, kX3_bounds, kX3_sees, kX3_is, kX3_isName, kX3_which, kX3_numberOf, kX3_find, kX3_node, kX3_wrong, kJ12_length, meK]; omega, by dsimp only [kX3_formula, kX3_row, kX3_since, kX3_one, kX3_expression, kX3_product, kX3_factor, kX3_fronted, kX3_compare, kX3_twoSided, kX3_braces, kX3_namedValue, kX3_bounds, kX3_sees, kX3_is, kX3_isName, kX3_which, kX3_numberOf, kX3_find, kX3_node, kX3_wrong, kJ12_length, meK]; omega⟩ ⟨Nat.zero_le _, Nat.zero_le _⟩ (fun _ _ _ z => z.elim) rfl (fun r_291 h_291 q_291 => ?_)
                              obtain ⟨rfl, rfl⟩ := q_291
                              refine AW.sts (st' := [.int (bI (seesB T a (sw 26)))]) rfl ?_
                              refine aw_if_eq (n := 297) (tgt := 310) dX3_factor_294 (by decide) rfl (fun c_294 => ?_) (fun c_294 => ?_)
                              · skip
                                have b_294 : (seesB T a (sw 26)) = false := (bI_0 _).mp c_294
                                exact absurd (k3.symm.trans b_294) (by decide)
                              · skip
                                have b_294 : (seesB T a (sw 26)) = true := Bool.of_not_eq_false (fun e => c_294 ((bI_0 _).mpr e))
                                refine aw_aload_n (n := 298) dX3_factor_297 rfl 6 rfl rfl ?_
                                refine aw_bipush (n := 300) (v := 32) dX3_factor_298 (by decide) rfl ?_
                                refine aw_iload (n := 302) dX3_factor_300 2 rfl rfl ?_
                                refine aw_iload (n := 304) dX3_factor_302 0 rfl rfl ?_
                                refine aw_iconst (n := 305) (v := (-1)) dX3_factor_304 (by decide) rfl ?_
                                refine aw_iload_n (n := 306) dX3_factor_305 rfl 4 rfl rfl ?_
                                have nlt_306 : nn m_270 < 1203 := Nat.lt_of_le_of_lt V_270.1.2.2.1.2.2.1 (by have := V_270.1.2.1; omega)
                                refine AW.sts (st' := [.int (frmI T a), .int (-1), .int (m_270.1 17), .int (m_182.1 17), .int 32, .ref b]) (by rw [show ms.2.1 5 a = frmI T a from (hS.1 a hN).2.2.2.1]) ?_
                                refine aw_callV (n := 309) (C0 := RX3) (As := [.int 32, .int (m_182.1 17), .int (m_270.1 17), .int (-1), .int (frmI T a)]) (rest := []) (K2 := kX3_node) dX3_factor_306 q2974 q2976 qs75 q113 q2977 ⟨rfl, hcX3_node⟩ rfl hT_270.1 (ct_node G h_270 b m_270 hb hT_270 (32 : Int32) (m_182.1 17) (m_270.1 17) ((-1) : Int32) (frmI T a) V_270.1.2.2.1.2.1 (by have := V_270.1.2.2.1.2.2.1; have := V_270.1.2.1; omega)) rfl (Nat.le_of_ble_eq_true rfl) ⟨by dsimp only [kX3_formula, kX3_row, kX3_since, kX3_one, kX3_expression, kX3_product, kX3_factor, kX3_fronted, kX3_compare, kX3_twoSided, kX3_braces, kX3_namedValue, kX3_bounds, kX3_sees, kX3_is, kX3_isName, kX3_which, kX3_numberOf, kX3_find, kX3_node, kX3_wrong, kJ12_length, meK]; omega, by dsimp only [kX3_formula, kX3_row, kX3_since, kX3_one, kX3_expression, kX3_product, kX3_factor, kX3_fronted, kX3_compare, kX3_twoSided, kX3_braces, kX3_namedValue, kX3_bounds, kX3_sees, kX3_is, kX3_isName, kX3_which, kX3_numberOf, kX3_find, kX3_node, kX3_wrong, kJ12_length, meK]; omega⟩ ⟨Nat.zero_le _, Nat.zero_le _⟩ (fun _ _ _ z => z.elim) rfl (fun r_306 h_306 q_306 => ?_)
                                obtain ⟨rfl, hT_306, hF_306, hz_306⟩ := q_306
                                have hG_306 := Fr.trans hG_270 hF_306
                                refine AW.sts (st' := [.int 0]) rfl ?_
                                exact aw_iret dX3_factor_309 rfl ⟨nodT m_270 (32 : Int32) (m_182.1 17) (m_270.1 17) ((-1) : Int32) (frmI T a), by rw [g_41] <;> rfl, hT_306, hG_306, (by omega), fun _ => by rw [g_41] <;> rfl, fun z => absurd (by rw [g_41] <;> rfl) z⟩ ⟨Nat.zero_le _, Nat.zero_le _⟩
                            · skip
                              exact absurd c_281 (by decide +kernel)
                          · skip
                            refine AW.sts (st' := [.int (nI e_270)]) (by rw [hR_270]; rfl) ?_
                            have gE_270 : W9 = (e_270, l_270, a_270, w_270) := pG_er g_36 (by omega)
                            replace er_270 := er_270 (by omega)
                            have E_270 := mE.tr V_182.1.2.2.2 er_270.1
                            have P_270 := er_270.2.1
                            refine aw_istore_n (n := 274) (lv' := [(3, .int (nI e_270)), (5, .int (m_182.1 17)), (4, .int (whT T a (wlW 4))), (2, .int (ms.2.1 5 a)), (1, .int (nI a)), (0, .ref b)]) dX3_factor_273 rfl (by decide) rfl rfl ?_
                            refine aw_aload_n (n := 275) dX3_factor_274 rfl 5 rfl rfl ?_
                            refine aw_getf (n := 278) (v := .int (m_270.1 17)) (C0 := RX3) (T := TX3) dX3_factor_275 rfl 17 q2658 (Or.inl rfl) hT_270.1 rfl rfl ?_
                            refine aw_istore (n := 280) (lv' := [(6, .int (m_270.1 17)), (3, .int (nI e_270)), (5, .int (m_182.1 17)), (4, .int (whT T a (wlW 4))), (2, .int (ms.2.1 5 a)), (1, .int (nI a)), (0, .ref b)]) dX3_factor_278 (by decide) rfl rfl ?_
                            refine aw_iload_n (n := 281) dX3_factor_280 rfl 1 rfl rfl ?_
                            refine aw_if_eq (n := 284) (tgt := 286) dX3_factor_281 (by decide) rfl (fun c_281_2 => ?_) (fun c_281_2 => ?_)
                            · skip
                              have n_281_2 : e_270 = 0 := (nI_eq (a := e_270) (b := 0) (by omega) (by omega)).mp (by rw [← ((by rfl) : (0 : Int32) = nI 0)]; exact c_281_2)
                              exact absurd n_281_2 (by omega)
                            · skip
                              have n_281_2 : ¬ (e_270 = 0) := fun z => c_281_2 (by have y := (nI_eq (a := e_270) (b := 0) (by omega) (by omega)).mpr z; rw [← ((by rfl) : (0 : Int32) = nI 0)] at y; exact y)
                              refine aw_iload_n (n := 285) dX3_factor_284 rfl 1 rfl rfl ?_
                              exact aw_iret dX3_factor_285 rfl ⟨m_270, by rw [gE_270], hT_270, hG_270, (by omega), fun z => absurd z (by rw [gE_270]; show e_270 ≠ 0; omega), fun _ => ⟨E_270, by rw [gE_270]; exact P_270, by rw [gE_270]; exact er_270.2.2⟩⟩ ⟨Nat.zero_le _, Nat.zero_le _⟩
                        · skip
                          have b_256 : (seesB T a (sw 18)) = true := Bool.of_not_eq_false (fun e => c_256 ((bI_0 _).mpr e))
                          exact absurd (u18.symm.trans b_256) (by decide)
                      · skip
                        have b_217 : (seesB T a (sw 27)) = true := Bool.of_not_eq_false (fun e => c_217 ((bI_0 _).mpr e))
                        exact absurd (k2.symm.trans b_217) (by decide)
                  · skip
                    exact absurd c_193 (by decide +kernel)
                · skip
                  refine AW.sts (st' := [.int (nI e_182)]) (by rw [hR_182]; rfl) ?_
                  have gE_182 : W9 = (e_182, l_182, a_182, w_182) := pG_er g_35 (by omega)
                  replace er_182 := er_182 (by omega)
                  have E_182 := mE.tr I_4.2.2.2 er_182.1
                  have P_182 := er_182.2.1
                  refine aw_istore_n (n := 186) (lv' := [(3, .int (nI e_182)), (4, .int (whT T a (wlW 4))), (2, .int (ms.2.1 5 a)), (1, .int (nI a)), (0, .ref b)]) dX3_factor_185 rfl (by decide) rfl rfl ?_
                  refine aw_aload_n (n := 187) dX3_factor_186 rfl 4 rfl rfl ?_
                  refine aw_getf (n := 190) (v := .int (m_182.1 17)) (C0 := RX3) (T := TX3) dX3_factor_187 rfl 17 q2658 (Or.inl rfl) hT_182.1 rfl rfl ?_
                  refine aw_istore (n := 192) (lv' := [(5, .int (m_182.1 17)), (3, .int (nI e_182)), (4, .int (whT T a (wlW 4))), (2, .int (ms.2.1 5 a)), (1, .int (nI a)), (0, .ref b)]) dX3_factor_190 (by decide) rfl rfl ?_
                  refine aw_iload_n (n := 193) dX3_factor_192 rfl 1 rfl rfl ?_
                  refine aw_if_eq (n := 196) (tgt := 198) dX3_factor_193 (by decide) rfl (fun c_193_2 => ?_) (fun c_193_2 => ?_)
                  · skip
                    have n_193_2 : e_182 = 0 := (nI_eq (a := e_182) (b := 0) (by omega) (by omega)).mp (by rw [← ((by rfl) : (0 : Int32) = nI 0)]; exact c_193_2)
                    exact absurd n_193_2 (by omega)
                  · skip
                    have n_193_2 : ¬ (e_182 = 0) := fun z => c_193_2 (by have y := (nI_eq (a := e_182) (b := 0) (by omega) (by omega)).mpr z; rw [← ((by rfl) : (0 : Int32) = nI 0)] at y; exact y)
                    refine aw_iload_n (n := 197) dX3_factor_196 rfl 1 rfl rfl ?_
                    exact aw_iret dX3_factor_197 rfl ⟨m_182, by rw [gE_182], hT_182, hG_182, (by omega), fun z => absurd z (by rw [gE_182]; show e_182 ≠ 0; omega), fun _ => ⟨E_182, by rw [gE_182]; exact P_182, by rw [gE_182]; exact er_182.2.2⟩⟩ ⟨Nat.zero_le _, Nat.zero_le _⟩
              · skip
                have g_44 := pG_F g_16 (by first | assumption | simp [n_29, b_55, b_77, b_96, b_115, v_148, k1, k2, k3])
                try dsimp only at g_44
                have g_45 := pG_F g_44 (by first | assumption | simp [n_29, b_55, b_77, b_96, b_115, v_148, k1, k2, k3])
                try dsimp only at g_45
                have g_46 := pG_t g_45 h1
                have g_47 := g_46.2
                try dsimp only at g_47
                have u18 : seesB T a (sw 18) = true := by first | exact g_46.1 | (have z := g_46.1; rw [seesP_eq hN hN4 hS.2.1] at z; exact z)
                try simp only [Bool.true_and, pT, ef, cond_true, gOr, gAnd, gSum, gPro, tS_tS] at g_47
                have g_48 : W9 = pb (pBrC T (pX T true f) d (a + 1) (ats ms (a + 1))) (fun a2 m2 => (fun l a2 m2 => pb (pT T (sw 19) a2 m2) fun a3 m3 => pb (pX T true f 7 (d + 1) a3 m3) fun a4 m4 => pb (pT T (sw 20) a4 m4) fun a5 m5 => pb (pX T true f 7 (d + 1) a5 m5) fun a6 m6 => pO a6 (nodT m6 33 l (m4.1 17) (m6.1 17) (frmI T a))) (m2.1 17) a2 m2) := g_47.trans (pb_br (K := fun l a2 m2 => pb (pT T (sw 19) a2 m2) fun a3 m3 => pb (pX T true f 7 (d + 1) a3 m3) fun a4 m4 => pb (pT T (sw 20) a4 m4) fun a5 m5 => pb (pX T true f 7 (d + 1) a5 m5) fun a6 m6 => pO a6 (nodT m6 33 l (m4.1 17) (m6.1 17) (frmI T a))))
                dsimp only at g_48
                refine aw_aload_n (n := 182) dX3_factor_181 rfl 4 rfl rfl ?_
                obtain ⟨e_182, l_182, a_182, w_182, hR_182⟩ : ∃ (e8 l8 x8 : Nat) (w8 : tM), pBrC T (pX T true f) d (a + 1) (tS ms 7 (nI (a + 1))) = (e8, l8, x8, w8) := ⟨_, _, _, _, rfl⟩
                have n1_182 : (pBrC T (pX T true f) d (a + 1) (tS ms 7 (nI (a + 1)))).1 ≠ 1 := pG_n g_48 h1 (by decide)
                have n9_182 : (pBrC T (pX T true f) d (a + 1) (tS ms 7 (nI (a + 1)))).1 ≠ 99 := pG_n g_48 h9 (by decide)
                have V_182 := pBrC_inv (T := T) (f := f) (d := d) hfB (by omega) I_4
                have Z_182 := brC_N (T := T) (N := N) (f := f) (d := d) (a := a + 1) (m := tS ms 7 (nI (a + 1))) hS.2.1 N_3 (by omega)
                rw [hR_182] at g_48 V_182 Z_182
                refine aw_callV (n := 185) (C0 := RX3) (As := []) (rest := []) (K2 := kX3_braces) dX3_factor_182 q2982 q2984 qs77 q113 q2985 ⟨rfl, hcX3_braces⟩ rfl hT_2.1 (cm_braces G h_2 b (tS ms 7 (nI (a + 1))) T N (a + 1) hb hT_2 (hS.kept I_4.2.2.2) hN4 N_3 f d B hfB hB I_4.2.2.1.up n1_182 n9_182 ih) rfl (Nat.le_of_ble_eq_true rfl) ⟨by dsimp only [kX3_formula, kX3_row, kX3_since, kX3_one, kX3_expression, kX3_product, kX3_factor, kX3_fronted, kX3_compare, kX3_twoSided, kX3_braces, kX3_namedValue, kX3_bounds, kX3_sees, kX3_is, kX3_isName, kX3_which, kX3_numberOf, kX3_find, kX3_node, kX3_wrong, kJ12_length, meK]; omega, by dsimp only [kX3_formula, kX3_row, kX3_since, kX3_one, kX3_expression, kX3_product, kX3_factor, kX3_fronted, kX3_compare, kX3_twoSided, kX3_braces, kX3_namedValue, kX3_bounds, kX3_sees, kX3_is, kX3_isName, kX3_which, kX3_numberOf, kX3_find, kX3_node, kX3_wrong, kJ12_length, meK]; omega⟩ ⟨Nat.zero_le _, Nat.zero_le _⟩ (fun _ _ _ z => z.elim) rfl (fun r_182 h_182 q_182 => ?_)
                obtain ⟨m_182, rfl, hT_182, hF_182, hz_182, ok_182, er_182⟩ := q_182
                rw [hR_182] at ok_182 er_182
                dsimp only at ok_182 er_182
                have hG_182 := Fr.trans hF_2 hF_182
                rcases Nat.eq_zero_or_pos e_182 with y_182 | y_182
                · skip
                  subst y_182
                  have x_182 := ok_182 rfl
                  subst x_182
                  refine AW.sts (st' := [.int 0]) (by rw [hR_182]; rfl) ?_
                  replace V_182 := V_182 rfl
                  replace Z_182 := Z_182 rfl
                  dsimp only at V_182 Z_182
                  have lt_182 : nN (m_182.1 17) < 1203 := by have := V_182.2.2.1; have := V_182.1.2.2.1.2.2.1; have := V_182.1.2.1; omega
                  have g_49 := pG_o g_48
                  try dsimp only at g_49
                  have tk_50 := (hS.kept V_182.1.2.2.2).1 a_182 Z_182; have Ktk_50 := tk_50.2.1
                  try simp only [Bool.true_and, pT, ef, cond_true, gOr, gAnd, gSum, gPro, tS_tS, seesP_eq Z_182 hN4 hS.2.1, nmP_eq Z_182 hN4 hS.2.1, nuP_eq Z_182 hN4 hS.2.1, whP_eq Z_182 hN4 hS.2.1] at g_49
                  refine aw_istore_n (n := 186) (lv' := [(3, .int 0), (4, .int (whT T a (wlW 4))), (2, .int (ms.2.1 5 a)), (1, .int (nI a)), (0, .ref b)]) dX3_factor_185 rfl (by decide) rfl rfl ?_
                  refine aw_aload_n (n := 187) dX3_factor_186 rfl 4 rfl rfl ?_
                  refine aw_getf (n := 190) (v := .int (m_182.1 17)) (C0 := RX3) (T := TX3) dX3_factor_187 rfl 17 q2658 (Or.inl rfl) hT_182.1 rfl rfl ?_
                  refine aw_istore (n := 192) (lv' := [(5, .int (m_182.1 17)), (3, .int 0), (4, .int (whT T a (wlW 4))), (2, .int (ms.2.1 5 a)), (1, .int (nI a)), (0, .ref b)]) dX3_factor_190 (by decide) rfl rfl ?_
                  refine aw_iload_n (n := 193) dX3_factor_192 rfl 1 rfl rfl ?_
                  refine aw_if_eq (n := 196) (tgt := 198) dX3_factor_193 (by decide) rfl (fun c_193 => ?_) (fun c_193 => ?_)
                  · skip
                    refine aw_aload_n (n := 199) dX3_factor_198 rfl 5 rfl rfl ?_
                    refine aw_iload_n (n := 200) dX3_factor_199 rfl 4 rfl rfl ?_
                    refine aw_ldcwS (n := 203) (q := 25) dX3_factor_200 121 rfl rfl ?_
                    refine aw_know (fun gd_50 hi_50 => ?_)
                    refine aw_callV (n := 206) (C0 := RX3) (As := [.int (nI a), .ref (gT G 25)]) (rest := []) (K2 := kX3_is) dX3_factor_203 q2830 q2832 qs51 q113 q2833 ⟨rfl, hcX3_is⟩ rfl hT_182.1 (ct_is G h_182 b m_182 hb hT_182 T a ((hS.kept V_182.1.2.2.2).1 a hN) _ (sw 25) (str_at gd_50 hi_50 (i := 25) rfl) (lo_at (i := 25) rfl)) rfl (Nat.le_of_ble_eq_true rfl) ⟨by dsimp only [kX3_formula, kX3_row, kX3_since, kX3_one, kX3_expression, kX3_product, kX3_factor, kX3_fronted, kX3_compare, kX3_twoSided, kX3_braces, kX3_namedValue, kX3_bounds, kX3_sees, kX3_is, kX3_isName, kX3_which, kX3_numberOf, kX3_find, kX3_node, kX3_wrong, kJ12_length, meK]; omega, by dsimp only [kX3_formula, kX3_row, kX3_since, kX3_one, kX3_expression, kX3_product, kX3_factor, kX3_fronted, kX3_compare, kX3_twoSided, kX3_braces, kX3_namedValue, kX3_bounds, kX3_sees, kX3_is, kX3_isName, kX3_which, kX3_numberOf, kX3_find, kX3_node, kX3_wrong, kJ12_length, meK]; omega⟩ ⟨Nat.zero_le _, Nat.zero_le _⟩ (fun _ _ _ z => z.elim) rfl (fun r_203 h_203 q_203 => ?_)
                    obtain ⟨rfl, rfl⟩ := q_203
                    refine AW.sts (st' := [.int (bI (seesB T a (sw 25)))]) rfl ?_
                    refine aw_if_ne (n := 209) (tgt := 220) dX3_factor_206 (by decide) rfl (fun c_206 => ?_) (fun c_206 => ?_)
                    · skip
                      have b_206 : (seesB T a (sw 25)) = true := Bool.of_not_eq_false (fun e => c_206 ((bI_0 _).mpr e))
                      exact absurd (k1.symm.trans b_206) (by decide)
                    · skip
                      have b_206 : (seesB T a (sw 25)) = false := (bI_0 _).mp c_206
                      refine aw_aload_n (n := 210) dX3_factor_209 rfl 5 rfl rfl ?_
                      refine aw_iload_n (n := 211) dX3_factor_210 rfl 4 rfl rfl ?_
                      refine aw_ldcwS (n := 214) (q := 27) dX3_factor_211 122 rfl rfl ?_
                      refine aw_know (fun gd_51 hi_51 => ?_)
                      refine aw_callV (n := 217) (C0 := RX3) (As := [.int (nI a), .ref (gT G 27)]) (rest := []) (K2 := kX3_is) dX3_factor_214 q2830 q2832 qs51 q113 q2833 ⟨rfl, hcX3_is⟩ rfl hT_182.1 (ct_is G h_182 b m_182 hb hT_182 T a ((hS.kept V_182.1.2.2.2).1 a hN) _ (sw 27) (str_at gd_51 hi_51 (i := 27) rfl) (lo_at (i := 27) rfl)) rfl (Nat.le_of_ble_eq_true rfl) ⟨by dsimp only [kX3_formula, kX3_row, kX3_since, kX3_one, kX3_expression, kX3_product, kX3_factor, kX3_fronted, kX3_compare, kX3_twoSided, kX3_braces, kX3_namedValue, kX3_bounds, kX3_sees, kX3_is, kX3_isName, kX3_which, kX3_numberOf, kX3_find, kX3_node, kX3_wrong, kJ12_length, meK]; omega, by dsimp only [kX3_formula, kX3_row, kX3_since, kX3_one, kX3_expression, kX3_product, kX3_factor, kX3_fronted, kX3_compare, kX3_twoSided, kX3_braces, kX3_namedValue, kX3_bounds, kX3_sees, kX3_is, kX3_isName, kX3_which, kX3_numberOf, kX3_find, kX3_node, kX3_wrong, kJ12_length, meK]; omega⟩ ⟨Nat.zero_le _, Nat.zero_le _⟩ (fun _ _ _ z => z.elim) rfl (fun r_214 h_214 q_214 => ?_)
                      obtain ⟨rfl, rfl⟩ := q_214
                      refine AW.sts (st' := [.int (bI (seesB T a (sw 27)))]) rfl ?_
                      refine aw_if_eq (n := 220) (tgt := 248) dX3_factor_217 (by decide) rfl (fun c_217 => ?_) (fun c_217 => ?_)
                      · skip
                        have b_217 : (seesB T a (sw 27)) = false := (bI_0 _).mp c_217
                        refine aw_aload_n (n := 249) dX3_factor_248 rfl 5 rfl rfl ?_
                        refine aw_iload_n (n := 250) dX3_factor_249 rfl 4 rfl rfl ?_
                        refine aw_ldcwS (n := 253) (q := 18) dX3_factor_250 124 rfl rfl ?_
                        refine aw_know (fun gd_52 hi_52 => ?_)
                        refine aw_callV (n := 256) (C0 := RX3) (As := [.int (nI a), .ref (gT G 18)]) (rest := []) (K2 := kX3_is) dX3_factor_253 q2830 q2832 qs51 q113 q2833 ⟨rfl, hcX3_is⟩ rfl hT_182.1 (ct_is G h_182 b m_182 hb hT_182 T a ((hS.kept V_182.1.2.2.2).1 a hN) _ (sw 18) (str_at gd_52 hi_52 (i := 18) rfl) (lo_at (i := 18) rfl)) rfl (Nat.le_of_ble_eq_true rfl) ⟨by dsimp only [kX3_formula, kX3_row, kX3_since, kX3_one, kX3_expression, kX3_product, kX3_factor, kX3_fronted, kX3_compare, kX3_twoSided, kX3_braces, kX3_namedValue, kX3_bounds, kX3_sees, kX3_is, kX3_isName, kX3_which, kX3_numberOf, kX3_find, kX3_node, kX3_wrong, kJ12_length, meK]; omega, by dsimp only [kX3_formula, kX3_row, kX3_since, kX3_one, kX3_expression, kX3_product, kX3_factor, kX3_fronted, kX3_compare, kX3_twoSided, kX3_braces, kX3_namedValue, kX3_bounds, kX3_sees, kX3_is, kX3_isName, kX3_which, kX3_numberOf, kX3_find, kX3_node, kX3_wrong, kJ12_length, meK]; omega⟩ ⟨Nat.zero_le _, Nat.zero_le _⟩ (fun _ _ _ z => z.elim) rfl (fun r_253 h_253 q_253 => ?_)
                        obtain ⟨rfl, rfl⟩ := q_253
                        refine AW.sts (st' := [.int (bI (seesB T a (sw 18)))]) rfl ?_
                        refine aw_if_eq (n := 259) (tgt := 269) dX3_factor_256 (by decide) rfl (fun c_256 => ?_) (fun c_256 => ?_)
                        · skip
                          have b_256 : (seesB T a (sw 18)) = false := (bI_0 _).mp c_256
                          exact absurd (u18.symm.trans b_256) (by decide)
                        · skip
                          have b_256 : (seesB T a (sw 18)) = true := Bool.of_not_eq_false (fun e => c_256 ((bI_0 _).mpr e))
                          refine aw_aload_n (n := 260) dX3_factor_259 rfl 5 rfl rfl ?_
                          refine aw_dup (n := 261) dX3_factor_260 rfl rfl ?_
                          refine aw_getf (n := 264) (v := .int (nI a_182)) (C0 := RX3) (T := TX3) dX3_factor_261 rfl 7 q2648 (Or.inl rfl) hT_182.1 (congrArg some (congrArg Value.int V_182.1.2.2.1.1)) rfl ?_
                          refine aw_iconst (n := 265) (v := 1) dX3_factor_264 (by decide) rfl ?_
                          refine aw_iadd (n := 266) dX3_factor_265 rfl ?_
                          refine AW.sts (st' := [.int (nI (a_182 + 1)), .ref b]) (by rw [show (nI a_182) + 1 = nI (a_182 + 1) from (nI_1 _)]) ?_
                          refine aw_tput (n := 269) (k := 7) dX3_factor_266 q2648 (by decide) rfl rfl rfl rfl rfl hT_182 hb rfl rfl (fun h_54 hT_54 hF_54 hz_54 => ?_)
                          have hG_54 := Fr.trans hG_182 hF_54
                          have g_55 := pG_t g_49 h1
                          have ne_56 : T.1 a_182 ≠ 0 := by have z9 := g_55.1; first | exact seesB_ne z9 | exact isNm_ne z9 | (have z8 := (beq_iff_eq.mp z9); omega) | exact whT_lt (bne_iff_ne.mp z9) | (rcases (Bool.or_eq_true _ _).mp z9 with z8 | z8 <;> first | exact seesB_ne z8 | (rcases (Bool.or_eq_true _ _).mp z8 with z7 | z7 <;> exact seesB_ne z7))
                          have g_57 := g_55.2
                          try dsimp only at g_57
                          have N_58 : a_182 + 1 ≤ N := lt_end hS.2.1 Z_182 ne_56
                          have I_59 := V_182.1.at (a' := a_182 + 1) (by omega) (by omega)
                          have tk_60 := (hS.kept I_59.2.2.2).1 (a_182 + 1) N_58; have Ktk_60 := tk_60.2.1
                          try simp only [Bool.true_and, pT, ef, cond_true, gOr, gAnd, gSum, gPro, tS_tS, seesP_eq N_58 hN4 hS.2.1, nmP_eq N_58 hN4 hS.2.1, nuP_eq N_58 hN4 hS.2.1, whP_eq N_58 hN4 hS.2.1] at g_57
                          refine aw_aload_n (n := 270) dX3_factor_269 rfl 5 rfl rfl ?_
                          obtain ⟨e_270, l_270, a_270, w_270, hR_270⟩ : ∃ (e8 l8 x8 : Nat) (w8 : tM), pX T true f 7 (d + 1) (a_182 + 1) (tS m_182 7 (nI (a_182 + 1))) = (e8, l8, x8, w8) := ⟨_, _, _, _, rfl⟩
                          have n1_270 : (pX T true f 7 (d + 1) (a_182 + 1) (tS m_182 7 (nI (a_182 + 1)))).1 ≠ 1 := pG_n g_57 h1 (by decide)
                          have n9_270 : (pX T true f 7 (d + 1) (a_182 + 1) (tS m_182 7 (nI (a_182 + 1)))).1 ≠ 99 := pG_n g_57 h9 (by decide)
                          have V_270 := (pX_inv T f 7 (d + 1) (a_182 + 1) (B) (tS m_182 7 (nI (a_182 + 1))) (by omega) (by omega) (by omega) I_59.2.2.1).w (fun _ _ z => I_59.trW z)
                          have Z_270 := pX_N (T := T) (N := N) (f := f) (nt := 7) (d := d + 1) (a := a_182 + 1) (m := tS m_182 7 (nI (a_182 + 1))) hS.2.1 N_58 (by omega)
                          have U_270 := pX_inv T f 7 (d + 1) (a_182 + 1) (B) (tS m_182 7 (nI (a_182 + 1))) (by omega) (by omega) (by omega) I_59.2.2.1
                          rw [hR_270] at U_270
                          rw [hR_270] at g_57 V_270 Z_270
                          refine aw_callV (n := 273) (C0 := RX3) (As := []) (rest := []) (K2 := kX3_factor) dX3_factor_270 q2970 q2972 qs74 q113 q2973 ⟨rfl, hcX3_factor⟩ rfl hT_54.1 (ih 7 h_54 b (tS m_182 7 (nI (a_182 + 1))) T N (a_182 + 1) (d + 1) (B) (by decide) hb hT_54 (hS.kept I_59.2.2.2) hN4 N_58 (by omega) (by omega) I_59.2.2.1 n1_270 n9_270) rfl (Nat.le_of_ble_eq_true rfl) ⟨by dsimp only [kX3_formula, kX3_row, kX3_since, kX3_one, kX3_expression, kX3_product, kX3_factor, kX3_fronted, kX3_compare, kX3_twoSided, kX3_braces, kX3_namedValue, kX3_bounds, kX3_sees, kX3_is, kX3_isName, kX3_which, kX3_numberOf, kX3_find, kX3_node, kX3_wrong, kJ12_length, meK]; omega, by dsimp only [kX3_formula, kX3_row, kX3_since, kX3_one, kX3_expression, kX3_product, kX3_factor, kX3_fronted, kX3_compare, kX3_twoSided, kX3_braces, kX3_namedValue, kX3_bounds, kX3_sees, kX3_is, kX3_isName, kX3_which, kX3_numberOf, kX3_find, kX3_node, kX3_wrong, kJ12_length, meK]; omega⟩ ⟨Nat.zero_le _, Nat.zero_le _⟩ (fun _ _ _ z => z.elim) rfl (fun r_270 h_270 q_270 => ?_)
                          obtain ⟨m_270, rfl, hT_270, hF_270, hz_270, ok_270, er_270⟩ := q_270
                          rw [hR_270] at ok_270 er_270
                          dsimp only at ok_270 er_270
                          have hG_270 := Fr.trans hG_54 hF_270
                          rcases Nat.eq_zero_or_pos e_270 with y_270 | y_270
                          · skip
                            subst y_270
                            have x_270 := ok_270 rfl
                            subst x_270
                            refine AW.sts (st' := [.int 0]) (by rw [hR_270]; rfl) ?_
                            replace V_270 := V_270 rfl
                            replace Z_270 := Z_270 rfl
                            dsimp only at V_270 Z_270
                            replace U_270 := U_270 rfl
                            dsimp only at U_270
                            have lt_270 : nN (m_270.1 17) < 1203 := by have := V_270.2.2.1; have := V_270.1.2.2.1.2.2.1; have := V_270.1.2.1; omega
                            have g_61 := pG_o g_57
                            try dsimp only at g_61
                            have tk_62 := (hS.kept V_270.1.2.2.2).1 a_270 Z_270; have Ktk_62 := tk_62.2.1
                            try simp only [Bool.true_and, pT, ef, cond_true, gOr, gAnd, gSum, gPro, tS_tS, seesP_eq Z_270 hN4 hS.2.1, nmP_eq Z_270 hN4 hS.2.1, nuP_eq Z_270 hN4 hS.2.1, whP_eq Z_270 hN4 hS.2.1] at g_61
                            refine aw_istore_n (n := 274) (lv' := [(3, .int 0), (5, .int (m_182.1 17)), (4, .int (whT T a (wlW 4))), (2, .int (ms.2.1 5 a)), (1, .int (nI a)), (0, .ref b)]) dX3_factor_273 rfl (by decide) rfl rfl ?_
                            refine aw_aload_n (n := 275) dX3_factor_274 rfl 5 rfl rfl ?_
                            refine aw_getf (n := 278) (v := .int (m_270.1 17)) (C0 := RX3) (T := TX3) dX3_factor_275 rfl 17 q2658 (Or.inl rfl) hT_270.1 rfl rfl ?_
                            refine aw_istore (n := 280) (lv' := [(6, .int (m_270.1 17)), (3, .int 0), (5, .int (m_182.1 17)), (4, .int (whT T a (wlW 4))), (2, .int (ms.2.1 5 a)), (1, .int (nI a)), (0, .ref b)]) dX3_factor_278 (by decide) rfl rfl ?_
                            refine aw_iload_n (n := 281) dX3_factor_280 rfl 1 rfl rfl ?_
                            refine aw_if_eq (n := 284) (tgt := 286) dX3_factor_281 (by decide) rfl (fun c_281 => ?_) (fun c_281 => ?_)
                            · skip
                              refine aw_aload_n (n := 287) dX3_factor_286 rfl 6 rfl rfl ?_
                              refine aw_iload_n (n := 288) dX3_factor_287 rfl 5 rfl rfl ?_
                              refine aw_ldcwS (n := 291) (q := 26) dX3_factor_288 123 rfl rfl ?_
                              refine aw_know (fun gd_62 hi_62 => ?_)
                              refine aw_callV (n := 294) (C0 := RX3) (As := [.int (nI a), .ref (gT G 26)]) (rest := []) (K2 := kX3_is) dX3_factor_291 q2830 q2832 qs51 q113 q2833 ⟨rfl, hcX3_is⟩ rfl hT_270.1 (ct_is G h_270 b m_270 hb hT_270 T a ((hS.kept V_270.1.2.2.2).1 a hN) _ (sw 26) (str_at gd_62 hi_62 (i := 26) rfl) (lo_at (i := 26) rfl)) rfl (Nat.le_of_ble_eq_true rfl) ⟨by dsimp only [kX3_formula, kX3_row, kX3_since, kX3_one, kX3_expression, kX3_product, kX3_factor, kX3_fronted, kX3_compare, kX3_twoSided, kX3_braces, kX3_namedValue, kX3_bounds, kX3_sees, kX3_is, kX3_isName, kX3_which, kX3_numberOf, kX3_find, kX3_node, kX3_wrong, kJ12_length, meK]; omega, by dsimp only [kX3_formula, kX3_row, kX3_since, kX3_one, kX3_expression, kX3_product, kX3_factor, kX3_fronted, kX3_compare, kX3_twoSided, kX3_braces, kX3_namedValue, kX3_bounds, kX3_sees, kX3_is, kX3_isName, kX3_which, kX3_numberOf, kX3_find, kX3_node, kX3_wrong, kJ12_length, meK]; omega⟩ ⟨Nat.zero_le _, Nat.zero_le _⟩ (fun _ _ _ z => z.elim) rfl (fun r_291 h_291 q_291 => ?_)
                              obtain ⟨rfl, rfl⟩ := q_291
                              refine AW.sts (st' := [.int (bI (seesB T a (sw 26)))]) rfl ?_
                              refine aw_if_eq (n := 297) (tgt := 310) dX3_factor_294 (by decide) rfl (fun c_294 => ?_) (fun c_294 => ?_)
                              · skip
                                have b_294 : (seesB T a (sw 26)) = false := (bI_0 _).mp c_294
                                refine aw_aload_n (n := 311) dX3_factor_310 rfl 6 rfl rfl ?_
                                refine aw_dup (n := 312) dX3_factor_311 rfl rfl ?_
                                refine aw_getf (n := 315) (v := .int (nI a_270)) (C0 := RX3) (T := TX3) dX3_factor_312 rfl 7 q2648 (Or.inl rfl) hT_270.1 (congrArg some (congrArg Value.int V_270.1.2.2.1.1)) rfl ?_
                                refine aw_iconst (n := 316) (v := 1) dX3_factor_315 (by decide) rfl ?_
                                refine aw_iadd (n := 317) dX3_factor_316 rfl ?_
                                refine AW.sts (st' := [.int (nI (a_270 + 1)), .ref b]) (by rw [show (nI a_270) + 1 = nI (a_270 + 1) from (nI_1 _)]) ?_
                                refine aw_tput (n := 320) (k := 7) dX3_factor_317 q2648 (by decide) rfl rfl rfl rfl rfl hT_270 hb rfl rfl (fun h_64 hT_64 hF_64 hz_64 => ?_)
                                have hG_64 := Fr.trans hG_270 hF_64
                                have g_65 := pG_t g_61 h1
                                have ne_66 : T.1 a_270 ≠ 0 := by have z9 := g_65.1; first | exact seesB_ne z9 | exact isNm_ne z9 | (have z8 := (beq_iff_eq.mp z9); omega) | exact whT_lt (bne_iff_ne.mp z9) | (rcases (Bool.or_eq_true _ _).mp z9 with z8 | z8 <;> first | exact seesB_ne z8 | (rcases (Bool.or_eq_true _ _).mp z8 with z7 | z7 <;> exact seesB_ne z7))
                                have g_67 := g_65.2
                                try dsimp only at g_67
                                have N_68 : a_270 + 1 ≤ N := lt_end hS.2.1 Z_270 ne_66
                                have I_69 := V_270.1.at (a' := a_270 + 1) (by omega) (by omega)
                                have tk_70 := (hS.kept I_69.2.2.2).1 (a_270 + 1) N_68; have Ktk_70 := tk_70.2.1
                                try simp only [Bool.true_and, pT, ef, cond_true, gOr, gAnd, gSum, gPro, tS_tS, seesP_eq N_68 hN4 hS.2.1, nmP_eq N_68 hN4 hS.2.1, nuP_eq N_68 hN4 hS.2.1, whP_eq N_68 hN4 hS.2.1] at g_67
                                refine aw_aload_n (n := 321) dX3_factor_320 rfl 6 rfl rfl ?_
                                obtain ⟨e_321, l_321, a_321, w_321, hR_321⟩ : ∃ (e8 l8 x8 : Nat) (w8 : tM), pX T true f 7 (d + 1) (a_270 + 1) (tS m_270 7 (nI (a_270 + 1))) = (e8, l8, x8, w8) := ⟨_, _, _, _, rfl⟩
                                have n1_321 : (pX T true f 7 (d + 1) (a_270 + 1) (tS m_270 7 (nI (a_270 + 1)))).1 ≠ 1 := pG_n g_67 h1 (by decide)
                                have n9_321 : (pX T true f 7 (d + 1) (a_270 + 1) (tS m_270 7 (nI (a_270 + 1)))).1 ≠ 99 := pG_n g_67 h9 (by decide)
                                have V_321 := (pX_inv T f 7 (d + 1) (a_270 + 1) (B) (tS m_270 7 (nI (a_270 + 1))) (by omega) (by omega) (by omega) I_69.2.2.1).w (fun _ _ z => I_69.trW z)
                                have Z_321 := pX_N (T := T) (N := N) (f := f) (nt := 7) (d := d + 1) (a := a_270 + 1) (m := tS m_270 7 (nI (a_270 + 1))) hS.2.1 N_68 (by omega)
                                have U_321 := pX_inv T f 7 (d + 1) (a_270 + 1) (B) (tS m_270 7 (nI (a_270 + 1))) (by omega) (by omega) (by omega) I_69.2.2.1
                                rw [hR_321] at U_321
                                rw [hR_321] at g_67 V_321 Z_321
                                refine aw_callV (n := 324) (C0 := RX3) (As := []) (rest := []) (K2 := kX3_factor) dX3_factor_321 q2970 q2972 qs74 q113 q2973 ⟨rfl, hcX3_factor⟩ rfl hT_64.1 (ih 7 h_64 b (tS m_270 7 (nI (a_270 + 1))) T N (a_270 + 1) (d + 1) (B) (by decide) hb hT_64 (hS.kept I_69.2.2.2) hN4 N_68 (by omega) (by omega) I_69.2.2.1 n1_321 n9_321) rfl (Nat.le_of_ble_eq_true rfl) ⟨by dsimp only [kX3_formula, kX3_row, kX3_since, kX3_one, kX3_expression, kX3_product, kX3_factor, kX3_fronted, kX3_compare, kX3_twoSided, kX3_braces, kX3_namedValue, kX3_bounds, kX3_sees, kX3_is, kX3_isName, kX3_which, kX3_numberOf, kX3_find, kX3_node, kX3_wrong, kJ12_length, meK]; omega, by dsimp only [kX3_formula, kX3_row, kX3_since, kX3_one, kX3_expression, kX3_product, kX3_factor, kX3_fronted, kX3_compare, kX3_twoSided, kX3_braces, kX3_namedValue, kX3_bounds, kX3_sees, kX3_is, kX3_isName, kX3_which, kX3_numberOf, kX3_find, kX3_node, kX3_wrong, kJ12_length, meK]; omega⟩ ⟨Nat.zero_le _, Nat.zero_le _⟩ (fun _ _ _ z => z.elim) rfl (fun r_321 h_321 q_321 => ?_)
                                obtain ⟨m_321, rfl, hT_321, hF_321, hz_321, ok_321, er_321⟩ := q_321
                                rw [hR_321] at ok_321 er_321
                                dsimp only at ok_321 er_321
                                have hG_321 := Fr.trans hG_64 hF_321
                                rcases Nat.eq_zero_or_pos e_321 with y_321 | y_321
                                · skip
                                  subst y_321
                                  have x_321 := ok_321 rfl
                                  subst x_321
                                  refine AW.sts (st' := [.int 0]) (by rw [hR_321]; rfl) ?_
                                  replace V_321 := V_321 rfl
                                  replace Z_321 := Z_321 rfl
                                  dsimp only at V_321 Z_321
                                  replace U_321 := U_321 rfl
                                  dsimp only at U_321
                                  have lt_321 : nN (m_321.1 17) < 1203 := by have := V_321.2.2.1; have := V_321.1.2.2.1.2.2.1; have := V_321.1.2.1; omega
                                  have g_71 := pG_o g_67
                                  try dsimp only at g_71
                                  have tk_72 := (hS.kept V_321.1.2.2.2).1 a_321 Z_321; have Ktk_72 := tk_72.2.1
                                  try simp only [Bool.true_and, pT, ef, cond_true, gOr, gAnd, gSum, gPro, tS_tS, seesP_eq Z_321 hN4 hS.2.1, nmP_eq Z_321 hN4 hS.2.1, nuP_eq Z_321 hN4 hS.2.1, whP_eq Z_321 hN4 hS.2.1] at g_71
                                  refine aw_istore_n (n := 325) (lv' := [(3, .int 0), (6, .int (m_270.1 17)), (5, .int (m_182.1 17)), (4, .int (whT T a (wlW 4))), (2, .int (ms.2.1 5 a)), (1, .int (nI a)), (0, .ref b)]) dX3_factor_324 rfl (by decide) rfl rfl ?_
                                  refine aw_iload_n (n := 326) dX3_factor_325 rfl 0 rfl rfl ?_
                                  refine aw_if_eq (n := 329) (tgt := 333) dX3_factor_326 (by decide) rfl (fun c_326 => ?_) (fun c_326 => ?_)
                                  · skip
                                    refine aw_aload_n (n := 334) dX3_factor_333 rfl 6 rfl rfl ?_
                                    refine aw_bipush (n := 336) (v := 33) dX3_factor_334 (by decide) rfl ?_
                                    refine aw_iload (n := 338) dX3_factor_336 2 rfl rfl ?_
                                    refine aw_iload (n := 340) dX3_factor_338 1 rfl rfl ?_
                                    refine aw_aload_n (n := 341) dX3_factor_340 rfl 6 rfl rfl ?_
                                    refine aw_getf (n := 344) (v := .int (m_321.1 17)) (C0 := RX3) (T := TX3) dX3_factor_341 rfl 17 q2658 (Or.inl rfl) hT_321.1 rfl rfl ?_
                                    refine aw_iload_n (n := 345) dX3_factor_344 rfl 4 rfl rfl ?_
                                    have nlt_345 : nn m_321 < 1203 := Nat.lt_of_le_of_lt V_321.1.2.2.1.2.2.1 (by have := V_321.1.2.1; omega)
                                    refine AW.sts (st' := [.int (frmI T a), .int (m_321.1 17), .int (m_270.1 17), .int (m_182.1 17), .int 33, .ref b]) (by rw [show ms.2.1 5 a = frmI T a from (hS.1 a hN).2.2.2.1]) ?_
                                    refine aw_callV (n := 348) (C0 := RX3) (As := [.int 33, .int (m_182.1 17), .int (m_270.1 17), .int (m_321.1 17), .int (frmI T a)]) (rest := []) (K2 := kX3_node) dX3_factor_345 q2974 q2976 qs75 q113 q2977 ⟨rfl, hcX3_node⟩ rfl hT_321.1 (ct_node G h_321 b m_321 hb hT_321 (33 : Int32) (m_182.1 17) (m_270.1 17) (m_321.1 17) (frmI T a) V_321.1.2.2.1.2.1 (by have := V_321.1.2.2.1.2.2.1; have := V_321.1.2.1; omega)) rfl (Nat.le_of_ble_eq_true rfl) ⟨by dsimp only [kX3_formula, kX3_row, kX3_since, kX3_one, kX3_expression, kX3_product, kX3_factor, kX3_fronted, kX3_compare, kX3_twoSided, kX3_braces, kX3_namedValue, kX3_bounds, kX3_sees, kX3_is, kX3_isName, kX3_which, kX3_numberOf, kX3_find, kX3_node, kX3_wrong, kJ12_length, meK]; omega, by dsimp only [kX3_formula, kX3_row, kX3_since, kX3_one, kX3_expression, kX3_product, kX3_factor, kX3_fronted, kX3_compare, kX3_twoSided, kX3_braces, kX3_namedValue, kX3_bounds, kX3_sees, kX3_is, kX3_isName, kX3_which, kX3_numberOf, kX3_find, kX3_node, kX3_wrong, kJ12_length, meK]; omega⟩ ⟨Nat.zero_le _, Nat.zero_le _⟩ (fun _ _ _ z => z.elim) rfl (fun r_345 h_345 q_345 => ?_)
                                    obtain ⟨rfl, hT_345, hF_345, hz_345⟩ := q_345
                                    have hG_345 := Fr.trans hG_321 hF_345
                                    refine AW.sts (st' := [.int 0]) rfl ?_
                                    exact aw_iret dX3_factor_348 rfl ⟨nodT m_321 (33 : Int32) (m_182.1 17) (m_270.1 17) (m_321.1 17) (frmI T a), by rw [g_71] <;> rfl, hT_345, hG_345, (by omega), fun _ => by rw [g_71] <;> rfl, fun z => absurd (by rw [g_71] <;> rfl) z⟩ ⟨Nat.zero_le _, Nat.zero_le _⟩
                                  · skip
                                    exact absurd c_326 (by decide +kernel)
                                · skip
                                  refine AW.sts (st' := [.int (nI e_321)]) (by rw [hR_321]; rfl) ?_
                                  have gE_321 : W9 = (e_321, l_321, a_321, w_321) := pG_er g_67 (by omega)
                                  replace er_321 := er_321 (by omega)
                                  have E_321 := mE.tr I_69.2.2.2 er_321.1
                                  have P_321 := er_321.2.1
                                  refine aw_istore_n (n := 325) (lv' := [(3, .int (nI e_321)), (6, .int (m_270.1 17)), (5, .int (m_182.1 17)), (4, .int (whT T a (wlW 4))), (2, .int (ms.2.1 5 a)), (1, .int (nI a)), (0, .ref b)]) dX3_factor_324 rfl (by decide) rfl rfl ?_
                                  refine aw_iload_n (n := 326) dX3_factor_325 rfl 0 rfl rfl ?_
                                  refine aw_if_eq (n := 329) (tgt := 333) dX3_factor_326 (by decide) rfl (fun c_326_2 => ?_) (fun c_326_2 => ?_)
                                  · skip
                                    have n_326_2 : e_321 = 0 := (nI_eq (a := e_321) (b := 0) (by omega) (by omega)).mp (by rw [← ((by rfl) : (0 : Int32) = nI 0)]; exact c_326_2)
                                    exact absurd n_326_2 (by omega)
                                  · skip
                                    have n_326_2 : ¬ (e_321 = 0) := fun z => c_326_2 (by have y := (nI_eq (a := e_321) (b := 0) (by omega) (by omega)).mpr z; rw [← ((by rfl) : (0 : Int32) = nI 0)] at y; exact y)
                                    refine aw_iload_n (n := 330) dX3_factor_329 rfl 0 rfl rfl ?_
                                    refine aw_goto (tgt := 348) dX3_factor_330 (by decide) ?_
                                    exact aw_iret dX3_factor_348 rfl ⟨m_321, by rw [gE_321], hT_321, hG_321, (by omega), fun z => absurd z (by rw [gE_321]; show e_321 ≠ 0; omega), fun _ => ⟨E_321, by rw [gE_321]; exact P_321, by rw [gE_321]; exact er_321.2.2⟩⟩ ⟨Nat.zero_le _, Nat.zero_le _⟩
                              · skip
                                have b_294 : (seesB T a (sw 26)) = true := Bool.of_not_eq_false (fun e => c_294 ((bI_0 _).mpr e))
                                exact absurd (k3.symm.trans b_294) (by decide)
                            · skip
                              exact absurd c_281 (by decide +kernel)
                          · skip
                            refine AW.sts (st' := [.int (nI e_270)]) (by rw [hR_270]; rfl) ?_
                            have gE_270 : W9 = (e_270, l_270, a_270, w_270) := pG_er g_57 (by omega)
                            replace er_270 := er_270 (by omega)
                            have E_270 := mE.tr I_59.2.2.2 er_270.1
                            have P_270 := er_270.2.1
                            refine aw_istore_n (n := 274) (lv' := [(3, .int (nI e_270)), (5, .int (m_182.1 17)), (4, .int (whT T a (wlW 4))), (2, .int (ms.2.1 5 a)), (1, .int (nI a)), (0, .ref b)]) dX3_factor_273 rfl (by decide) rfl rfl ?_
                            refine aw_aload_n (n := 275) dX3_factor_274 rfl 5 rfl rfl ?_
                            refine aw_getf (n := 278) (v := .int (m_270.1 17)) (C0 := RX3) (T := TX3) dX3_factor_275 rfl 17 q2658 (Or.inl rfl) hT_270.1 rfl rfl ?_
                            refine aw_istore (n := 280) (lv' := [(6, .int (m_270.1 17)), (3, .int (nI e_270)), (5, .int (m_182.1 17)), (4, .int (whT T a (wlW 4))), (2, .int (ms.2.1 5 a)), (1, .int (nI a)), (0, .ref b)]) dX3_factor_278 (by decide) rfl rfl ?_
                            refine aw_iload_n (n := 281) dX3_factor_280 rfl 1 rfl rfl ?_
                            refine aw_if_eq (n := 284) (tgt := 286) dX3_factor_281 (by decide) rfl (fun c_281_2 => ?_) (fun c_281_2 => ?_)
                            · skip
                              have n_281_2 : e_270 = 0 := (nI_eq (a := e_270) (b := 0) (by omega) (by omega)).mp (by rw [← ((by rfl) : (0 : Int32) = nI 0)]; exact c_281_2)
                              exact absurd n_281_2 (by omega)
                            · skip
                              have n_281_2 : ¬ (e_270 = 0) := fun z => c_281_2 (by have y := (nI_eq (a := e_270) (b := 0) (by omega) (by omega)).mpr z; rw [← ((by rfl) : (0 : Int32) = nI 0)] at y; exact y)
                              refine aw_iload_n (n := 285) dX3_factor_284 rfl 1 rfl rfl ?_
                              exact aw_iret dX3_factor_285 rfl ⟨m_270, by rw [gE_270], hT_270, hG_270, (by omega), fun z => absurd z (by rw [gE_270]; show e_270 ≠ 0; omega), fun _ => ⟨E_270, by rw [gE_270]; exact P_270, by rw [gE_270]; exact er_270.2.2⟩⟩ ⟨Nat.zero_le _, Nat.zero_le _⟩
                      · skip
                        have b_217 : (seesB T a (sw 27)) = true := Bool.of_not_eq_false (fun e => c_217 ((bI_0 _).mpr e))
                        exact absurd (k2.symm.trans b_217) (by decide)
                  · skip
                    exact absurd c_193 (by decide +kernel)
                · skip
                  refine AW.sts (st' := [.int (nI e_182)]) (by rw [hR_182]; rfl) ?_
                  have gE_182 : W9 = (e_182, l_182, a_182, w_182) := pG_er g_48 (by omega)
                  replace er_182 := er_182 (by omega)
                  have E_182 := mE.tr I_4.2.2.2 er_182.1
                  have P_182 := er_182.2.1
                  refine aw_istore_n (n := 186) (lv' := [(3, .int (nI e_182)), (4, .int (whT T a (wlW 4))), (2, .int (ms.2.1 5 a)), (1, .int (nI a)), (0, .ref b)]) dX3_factor_185 rfl (by decide) rfl rfl ?_
                  refine aw_aload_n (n := 187) dX3_factor_186 rfl 4 rfl rfl ?_
                  refine aw_getf (n := 190) (v := .int (m_182.1 17)) (C0 := RX3) (T := TX3) dX3_factor_187 rfl 17 q2658 (Or.inl rfl) hT_182.1 rfl rfl ?_
                  refine aw_istore (n := 192) (lv' := [(5, .int (m_182.1 17)), (3, .int (nI e_182)), (4, .int (whT T a (wlW 4))), (2, .int (ms.2.1 5 a)), (1, .int (nI a)), (0, .ref b)]) dX3_factor_190 (by decide) rfl rfl ?_
                  refine aw_iload_n (n := 193) dX3_factor_192 rfl 1 rfl rfl ?_
                  refine aw_if_eq (n := 196) (tgt := 198) dX3_factor_193 (by decide) rfl (fun c_193_2 => ?_) (fun c_193_2 => ?_)
                  · skip
                    have n_193_2 : e_182 = 0 := (nI_eq (a := e_182) (b := 0) (by omega) (by omega)).mp (by rw [← ((by rfl) : (0 : Int32) = nI 0)]; exact c_193_2)
                    exact absurd n_193_2 (by omega)
                  · skip
                    have n_193_2 : ¬ (e_182 = 0) := fun z => c_193_2 (by have y := (nI_eq (a := e_182) (b := 0) (by omega) (by omega)).mpr z; rw [← ((by rfl) : (0 : Int32) = nI 0)] at y; exact y)
                    refine aw_iload_n (n := 197) dX3_factor_196 rfl 1 rfl rfl ?_
                    exact aw_iret dX3_factor_197 rfl ⟨m_182, by rw [gE_182], hT_182, hG_182, (by omega), fun z => absurd z (by rw [gE_182]; show e_182 ≠ 0; omega), fun _ => ⟨E_182, by rw [gE_182]; exact P_182, by rw [gE_182]; exact er_182.2.2⟩⟩ ⟨Nat.zero_le _, Nat.zero_le _⟩
            · skip
              have v_148 : (whT T a (wlW 4) != -1) = true := bne_iff_ne.mpr c_148
              have g_74 := pG_T g_13 (by first | assumption | simp [n_29, b_55, b_77, b_96, b_115, v_148])
              try dsimp only at g_74
              have g_75 := pG_c g_74 h1
              have g_76 := g_75.2
              try dsimp only at g_76
              have hd9 : d < 10 := of_decide_eq_true g_75.1
              refine aw_aload_n (n := 152) dX3_factor_151 rfl 4 rfl rfl ?_
              obtain ⟨e_152, l_152, a_152, w_152, hR_152⟩ : ∃ (e8 l8 x8 : Nat) (w8 : tM), pX T true f 7 (d + 1) (a + 1) (tS ms 7 (nI (a + 1))) = (e8, l8, x8, w8) := ⟨_, _, _, _, rfl⟩
              have n1_152 : (pX T true f 7 (d + 1) (a + 1) (tS ms 7 (nI (a + 1)))).1 ≠ 1 := pG_n g_76 h1 (by decide)
              have n9_152 : (pX T true f 7 (d + 1) (a + 1) (tS ms 7 (nI (a + 1)))).1 ≠ 99 := pG_n g_76 h9 (by decide)
              have V_152 := (pX_inv T f 7 (d + 1) (a + 1) (B) (tS ms 7 (nI (a + 1))) (by omega) (by omega) (by omega) I_4.2.2.1).w (fun _ _ z => I_4.trW z)
              have Z_152 := pX_N (T := T) (N := N) (f := f) (nt := 7) (d := d + 1) (a := a + 1) (m := tS ms 7 (nI (a + 1))) hS.2.1 N_3 (by omega)
              have U_152 := pX_inv T f 7 (d + 1) (a + 1) (B) (tS ms 7 (nI (a + 1))) (by omega) (by omega) (by omega) I_4.2.2.1
              rw [hR_152] at U_152
              rw [hR_152] at g_76 V_152 Z_152
              refine aw_callV (n := 155) (C0 := RX3) (As := []) (rest := []) (K2 := kX3_factor) dX3_factor_152 q2970 q2972 qs74 q113 q2973 ⟨rfl, hcX3_factor⟩ rfl hT_2.1 (ih 7 h_2 b (tS ms 7 (nI (a + 1))) T N (a + 1) (d + 1) (B) (by decide) hb hT_2 (hS.kept I_4.2.2.2) hN4 N_3 (by omega) (by omega) I_4.2.2.1 n1_152 n9_152) rfl (Nat.le_of_ble_eq_true rfl) ⟨by dsimp only [kX3_formula, kX3_row, kX3_since, kX3_one, kX3_expression, kX3_product, kX3_factor, kX3_fronted, kX3_compare, kX3_twoSided, kX3_braces, kX3_namedValue, kX3_bounds, kX3_sees, kX3_is, kX3_isName, kX3_which, kX3_numberOf, kX3_find, kX3_node, kX3_wrong, kJ12_length, meK]; omega, by dsimp only [kX3_formula, kX3_row, kX3_since, kX3_one, kX3_expression, kX3_product, kX3_factor, kX3_fronted, kX3_compare, kX3_twoSided, kX3_braces, kX3_namedValue, kX3_bounds, kX3_sees, kX3_is, kX3_isName, kX3_which, kX3_numberOf, kX3_find, kX3_node, kX3_wrong, kJ12_length, meK]; omega⟩ ⟨Nat.zero_le _, Nat.zero_le _⟩ (fun _ _ _ z => z.elim) rfl (fun r_152 h_152 q_152 => ?_)
              obtain ⟨m_152, rfl, hT_152, hF_152, hz_152, ok_152, er_152⟩ := q_152
              rw [hR_152] at ok_152 er_152
              dsimp only at ok_152 er_152
              have hG_152 := Fr.trans hF_2 hF_152
              rcases Nat.eq_zero_or_pos e_152 with y_152 | y_152
              · skip
                subst y_152
                have x_152 := ok_152 rfl
                subst x_152
                refine AW.sts (st' := [.int 0]) (by rw [hR_152]; rfl) ?_
                replace V_152 := V_152 rfl
                replace Z_152 := Z_152 rfl
                dsimp only at V_152 Z_152
                replace U_152 := U_152 rfl
                dsimp only at U_152
                have lt_152 : nN (m_152.1 17) < 1203 := by have := V_152.2.2.1; have := V_152.1.2.2.1.2.2.1; have := V_152.1.2.1; omega
                have g_77 := pG_o g_76
                try dsimp only at g_77
                have tk_78 := (hS.kept V_152.1.2.2.2).1 a_152 Z_152; have Ktk_78 := tk_78.2.1
                try simp only [Bool.true_and, pT, ef, cond_true, gOr, gAnd, gSum, gPro, tS_tS, seesP_eq Z_152 hN4 hS.2.1, nmP_eq Z_152 hN4 hS.2.1, nuP_eq Z_152 hN4 hS.2.1, whP_eq Z_152 hN4 hS.2.1] at g_77
                refine aw_istore_n (n := 156) (lv' := [(3, .int 0), (4, .int (whT T a (wlW 4))), (2, .int (ms.2.1 5 a)), (1, .int (nI a)), (0, .ref b)]) dX3_factor_155 rfl (by decide) rfl rfl ?_
                refine aw_iload_n (n := 157) dX3_factor_156 rfl 0 rfl rfl ?_
                refine aw_if_eq (n := 160) (tgt := 164) dX3_factor_157 (by decide) rfl (fun c_157 => ?_) (fun c_157 => ?_)
                · skip
                  refine aw_aload_n (n := 165) dX3_factor_164 rfl 4 rfl rfl ?_
                  refine aw_bipush (n := 167) (v := 25) dX3_factor_165 (by decide) rfl ?_
                  refine aw_iload (n := 169) dX3_factor_167 1 rfl rfl ?_
                  refine aw_iadd (n := 170) dX3_factor_169 rfl ?_
                  refine aw_aload_n (n := 171) dX3_factor_170 rfl 4 rfl rfl ?_
                  refine aw_getf (n := 174) (v := .int (m_152.1 17)) (C0 := RX3) (T := TX3) dX3_factor_171 rfl 17 q2658 (Or.inl rfl) hT_152.1 rfl rfl ?_
                  refine aw_iconst (n := 175) (v := (-1)) dX3_factor_174 (by decide) rfl ?_
                  refine aw_iconst (n := 176) (v := (-1)) dX3_factor_175 (by decide) rfl ?_
                  refine aw_iload_n (n := 177) dX3_factor_176 rfl 2 rfl rfl ?_
                  have nlt_177 : nn m_152 < 1203 := Nat.lt_of_le_of_lt V_152.1.2.2.1.2.2.1 (by have := V_152.1.2.1; omega)
                  refine AW.sts (st' := [.int (frmI T a), .int (-1), .int (-1), .int (m_152.1 17), .int (25 + (whT T a (wlW 4))), .ref b]) (by rw [show ms.2.1 5 a = frmI T a from (hS.1 a hN).2.2.2.1]) ?_
                  refine aw_callV (n := 180) (C0 := RX3) (As := [.int (25 + (whT T a (wlW 4))), .int (m_152.1 17), .int (-1), .int (-1), .int (frmI T a)]) (rest := []) (K2 := kX3_node) dX3_factor_177 q2974 q2976 qs75 q113 q2977 ⟨rfl, hcX3_node⟩ rfl hT_152.1 (ct_node G h_152 b m_152 hb hT_152 (25 + (whT T a (wlW 4))) (m_152.1 17) ((-1) : Int32) ((-1) : Int32) (frmI T a) V_152.1.2.2.1.2.1 (by have := V_152.1.2.2.1.2.2.1; have := V_152.1.2.1; omega)) rfl (Nat.le_of_ble_eq_true rfl) ⟨by dsimp only [kX3_formula, kX3_row, kX3_since, kX3_one, kX3_expression, kX3_product, kX3_factor, kX3_fronted, kX3_compare, kX3_twoSided, kX3_braces, kX3_namedValue, kX3_bounds, kX3_sees, kX3_is, kX3_isName, kX3_which, kX3_numberOf, kX3_find, kX3_node, kX3_wrong, kJ12_length, meK]; omega, by dsimp only [kX3_formula, kX3_row, kX3_since, kX3_one, kX3_expression, kX3_product, kX3_factor, kX3_fronted, kX3_compare, kX3_twoSided, kX3_braces, kX3_namedValue, kX3_bounds, kX3_sees, kX3_is, kX3_isName, kX3_which, kX3_numberOf, kX3_find, kX3_node, kX3_wrong, kJ12_length, meK]; omega⟩ ⟨Nat.zero_le _, Nat.zero_le _⟩ (fun _ _ _ z => z.elim) rfl (fun r_177 h_177 q_177 => ?_)
                  obtain ⟨rfl, hT_177, hF_177, hz_177⟩ := q_177
                  have hG_177 := Fr.trans hG_152 hF_177
                  refine AW.sts (st' := [.int 0]) rfl ?_
                  exact aw_iret dX3_factor_180 rfl ⟨nodT m_152 (25 + (whT T a (wlW 4))) (m_152.1 17) ((-1) : Int32) ((-1) : Int32) (frmI T a), by rw [g_77] <;> rfl, hT_177, hG_177, (by omega), fun _ => by rw [g_77] <;> rfl, fun z => absurd (by rw [g_77] <;> rfl) z⟩ ⟨Nat.zero_le _, Nat.zero_le _⟩
                · skip
                  exact absurd c_157 (by decide +kernel)
              · skip
                refine AW.sts (st' := [.int (nI e_152)]) (by rw [hR_152]; rfl) ?_
                have gE_152 : W9 = (e_152, l_152, a_152, w_152) := pG_er g_76 (by omega)
                replace er_152 := er_152 (by omega)
                have E_152 := mE.tr I_4.2.2.2 er_152.1
                have P_152 := er_152.2.1
                refine aw_istore_n (n := 156) (lv' := [(3, .int (nI e_152)), (4, .int (whT T a (wlW 4))), (2, .int (ms.2.1 5 a)), (1, .int (nI a)), (0, .ref b)]) dX3_factor_155 rfl (by decide) rfl rfl ?_
                refine aw_iload_n (n := 157) dX3_factor_156 rfl 0 rfl rfl ?_
                refine aw_if_eq (n := 160) (tgt := 164) dX3_factor_157 (by decide) rfl (fun c_157_2 => ?_) (fun c_157_2 => ?_)
                · skip
                  have n_157_2 : e_152 = 0 := (nI_eq (a := e_152) (b := 0) (by omega) (by omega)).mp (by rw [← ((by rfl) : (0 : Int32) = nI 0)]; exact c_157_2)
                  exact absurd n_157_2 (by omega)
                · skip
                  have n_157_2 : ¬ (e_152 = 0) := fun z => c_157_2 (by have y := (nI_eq (a := e_152) (b := 0) (by omega) (by omega)).mpr z; rw [← ((by rfl) : (0 : Int32) = nI 0)] at y; exact y)
                  refine aw_iload_n (n := 161) dX3_factor_160 rfl 0 rfl rfl ?_
                  refine aw_goto (tgt := 180) dX3_factor_161 (by decide) ?_
                  exact aw_iret dX3_factor_180 rfl ⟨m_152, by rw [gE_152], hT_152, hG_152, (by omega), fun z => absurd z (by rw [gE_152]; show e_152 ≠ 0; omega), fun _ => ⟨E_152, by rw [gE_152]; exact P_152, by rw [gE_152]; exact er_152.2.2⟩⟩ ⟨Nat.zero_le _, Nat.zero_le _⟩
          · skip
            have b_115 : (seesB T a (sw 51)) = true := Bool.of_not_eq_false (fun e => c_115 ((bI_0 _).mpr e))
            have g_80 := pG_T g_11 (by first | assumption | simp [n_29, b_55, b_77, b_96, b_115])
            try dsimp only at g_80
            have g_81 := pG_c g_80 h1
            have g_82 := g_81.2
            try dsimp only at g_82
            have hd9 : d < 10 := of_decide_eq_true g_81.1
            refine aw_aload_n (n := 119) dX3_factor_118 rfl 3 rfl rfl ?_
            obtain ⟨e_119, l_119, a_119, w_119, hR_119⟩ : ∃ (e8 l8 x8 : Nat) (w8 : tM), pX T true f 5 (d + 1) (a + 1) (tS ms 7 (nI (a + 1))) = (e8, l8, x8, w8) := ⟨_, _, _, _, rfl⟩
            have n1_119 : (pX T true f 5 (d + 1) (a + 1) (tS ms 7 (nI (a + 1)))).1 ≠ 1 := pG_n g_82 h1 (by decide)
            have n9_119 : (pX T true f 5 (d + 1) (a + 1) (tS ms 7 (nI (a + 1)))).1 ≠ 99 := pG_n g_82 h9 (by decide)
            have V_119 := (pX_inv T f 5 (d + 1) (a + 1) (B) (tS ms 7 (nI (a + 1))) (by omega) (by omega) (by omega) I_4.2.2.1).w (fun _ _ z => I_4.trW z)
            have Z_119 := pX_N (T := T) (N := N) (f := f) (nt := 5) (d := d + 1) (a := a + 1) (m := tS ms 7 (nI (a + 1))) hS.2.1 N_3 (by omega)
            have U_119 := pX_inv T f 5 (d + 1) (a + 1) (B) (tS ms 7 (nI (a + 1))) (by omega) (by omega) (by omega) I_4.2.2.1
            rw [hR_119] at U_119
            rw [hR_119] at g_82 V_119 Z_119
            refine aw_callV (n := 122) (C0 := RX3) (As := []) (rest := []) (K2 := kX3_expression) dX3_factor_119 q2962 q2964 qs72 q113 q2965 ⟨rfl, hcX3_expression⟩ rfl hT_2.1 (ih 5 h_2 b (tS ms 7 (nI (a + 1))) T N (a + 1) (d + 1) (B) (by decide) hb hT_2 (hS.kept I_4.2.2.2) hN4 N_3 (by omega) (by omega) I_4.2.2.1 n1_119 n9_119) rfl (Nat.le_of_ble_eq_true rfl) ⟨by dsimp only [kX3_formula, kX3_row, kX3_since, kX3_one, kX3_expression, kX3_product, kX3_factor, kX3_fronted, kX3_compare, kX3_twoSided, kX3_braces, kX3_namedValue, kX3_bounds, kX3_sees, kX3_is, kX3_isName, kX3_which, kX3_numberOf, kX3_find, kX3_node, kX3_wrong, kJ12_length, meK]; omega, by dsimp only [kX3_formula, kX3_row, kX3_since, kX3_one, kX3_expression, kX3_product, kX3_factor, kX3_fronted, kX3_compare, kX3_twoSided, kX3_braces, kX3_namedValue, kX3_bounds, kX3_sees, kX3_is, kX3_isName, kX3_which, kX3_numberOf, kX3_find, kX3_node, kX3_wrong, kJ12_length, meK]; omega⟩ ⟨Nat.zero_le _, Nat.zero_le _⟩ (fun _ _ _ z => z.elim) rfl (fun r_119 h_119 q_119 => ?_)
            obtain ⟨m_119, rfl, hT_119, hF_119, hz_119, ok_119, er_119⟩ := q_119
            rw [hR_119] at ok_119 er_119
            dsimp only at ok_119 er_119
            have hG_119 := Fr.trans hF_2 hF_119
            rcases Nat.eq_zero_or_pos e_119 with y_119 | y_119
            · skip
              subst y_119
              have x_119 := ok_119 rfl
              subst x_119
              refine AW.sts (st' := [.int 0]) (by rw [hR_119]; rfl) ?_
              replace V_119 := V_119 rfl
              replace Z_119 := Z_119 rfl
              dsimp only at V_119 Z_119
              replace U_119 := U_119 rfl
              dsimp only at U_119
              have lt_119 : nN (m_119.1 17) < 1203 := by have := V_119.2.2.1; have := V_119.1.2.2.1.2.2.1; have := V_119.1.2.1; omega
              have g_83 := pG_o g_82
              try dsimp only at g_83
              have tk_84 := (hS.kept V_119.1.2.2.2).1 a_119 Z_119; have Ktk_84 := tk_84.2.1
              try simp only [Bool.true_and, pT, ef, cond_true, gOr, gAnd, gSum, gPro, tS_tS, seesP_eq Z_119 hN4 hS.2.1, nmP_eq Z_119 hN4 hS.2.1, nuP_eq Z_119 hN4 hS.2.1, whP_eq Z_119 hN4 hS.2.1] at g_83
              refine aw_istore_n (n := 123) (lv' := [(3, .int 0), (2, .int (ms.2.1 5 a)), (1, .int (nI a)), (0, .ref b)]) dX3_factor_122 rfl (by decide) rfl rfl ?_
              refine aw_aload_n (n := 124) dX3_factor_123 rfl 3 rfl rfl ?_
              refine aw_dup (n := 125) dX3_factor_124 rfl rfl ?_
              refine aw_getf (n := 128) (v := .int (nI a_119)) (C0 := RX3) (T := TX3) dX3_factor_125 rfl 7 q2648 (Or.inl rfl) hT_119.1 (congrArg some (congrArg Value.int V_119.1.2.2.1.1)) rfl ?_
              refine aw_iconst (n := 129) (v := 1) dX3_factor_128 (by decide) rfl ?_
              refine aw_iadd (n := 130) dX3_factor_129 rfl ?_
              refine AW.sts (st' := [.int (nI (a_119 + 1)), .ref b]) (by rw [show (nI a_119) + 1 = nI (a_119 + 1) from (nI_1 _)]) ?_
              refine aw_tput (n := 133) (k := 7) dX3_factor_130 q2648 (by decide) rfl rfl rfl rfl rfl hT_119 hb rfl rfl (fun h_85 hT_85 hF_85 hz_85 => ?_)
              have hG_85 := Fr.trans hG_119 hF_85
              have g_86 := pG_l g_83 h1
              have ne_87 : T.1 a_119 ≠ 0 := by have z9 := g_86.1; first | exact seesB_ne z9 | exact isNm_ne z9 | (have z8 := (beq_iff_eq.mp z9); omega) | exact whT_lt (bne_iff_ne.mp z9) | (rcases (Bool.or_eq_true _ _).mp z9 with z8 | z8 <;> first | exact seesB_ne z8 | (rcases (Bool.or_eq_true _ _).mp z8 with z7 | z7 <;> exact seesB_ne z7))
              have g_88 := g_86.2
              try dsimp only at g_88
              have N_89 : a_119 + 1 ≤ N := lt_end hS.2.1 Z_119 ne_87
              have I_90 := V_119.1.at (a' := a_119 + 1) (by omega) (by omega)
              have tk_91 := (hS.kept I_90.2.2.2).1 (a_119 + 1) N_89; have Ktk_91 := tk_91.2.1
              try simp only [Bool.true_and, pT, ef, cond_true, gOr, gAnd, gSum, gPro, tS_tS, seesP_eq N_89 hN4 hS.2.1, nmP_eq N_89 hN4 hS.2.1, nuP_eq N_89 hN4 hS.2.1, whP_eq N_89 hN4 hS.2.1] at g_88
              refine aw_iload_n (n := 134) dX3_factor_133 rfl 0 rfl rfl ?_
              exact aw_iret dX3_factor_134 rfl ⟨tS m_119 7 (nI (a_119 + 1)), by rw [g_88] <;> rfl, hT_85, hG_85, (by omega), fun _ => by rw [g_88] <;> rfl, fun z => absurd (by rw [g_88] <;> rfl) z⟩ ⟨Nat.zero_le _, Nat.zero_le _⟩
            · skip
              refine AW.sts (st' := [.int (nI e_119)]) (by rw [hR_119]; rfl) ?_
              have gE_119 : W9 = (e_119, l_119, a_119, w_119) := pG_er g_82 (by omega)
              replace er_119 := er_119 (by omega)
              have E_119 := mE.tr I_4.2.2.2 er_119.1
              have P_119 := er_119.2.1
              refine aw_istore_n (n := 123) (lv' := [(3, .int (nI e_119)), (2, .int (ms.2.1 5 a)), (1, .int (nI a)), (0, .ref b)]) dX3_factor_122 rfl (by decide) rfl rfl ?_
              refine aw_aload_n (n := 124) dX3_factor_123 rfl 3 rfl rfl ?_
              refine aw_dup (n := 125) dX3_factor_124 rfl rfl ?_
              refine aw_getf (n := 128) (v := .int (m_119.1 7)) (C0 := RX3) (T := TX3) dX3_factor_125 rfl 7 q2648 (Or.inl rfl) hT_119.1 rfl rfl ?_
              refine aw_iconst (n := 129) (v := 1) dX3_factor_128 (by decide) rfl ?_
              refine aw_iadd (n := 130) dX3_factor_129 rfl ?_
              refine aw_tput (n := 133) (k := 7) dX3_factor_130 q2648 (by decide) rfl rfl rfl rfl rfl hT_119 hb rfl rfl (fun h_92 hT_92 hF_92 hz_92 => ?_)
              have hG_92 := Fr.trans hG_119 hF_92
              refine aw_iload_n (n := 134) dX3_factor_133 rfl 0 rfl rfl ?_
              exact aw_iret dX3_factor_134 rfl ⟨tS m_119 7 ((m_119.1 7) + 1), by rw [gE_119], hT_92, hG_92, (by omega), fun z => absurd z (by rw [gE_119]; show e_119 ≠ 0; omega), fun _ => ⟨(E_119.S (by decide)), by rw [gE_119]; exact P_119, by rw [gE_119]; exact er_119.2.2⟩⟩ ⟨Nat.zero_le _, Nat.zero_le _⟩
        · skip
          have b_96 : (isNm T a) = true := Bool.of_not_eq_false (fun e => c_96 ((bI_0 _).mpr e))
          have g_94 := pG_T g_6 (by first | assumption | simp [n_29, b_55, b_77, b_96])
          try dsimp only at g_94
          refine aw_aload_n (n := 100) dX3_factor_99 rfl 2 rfl rfl ?_
          refine aw_iload_n (n := 101) dX3_factor_100 rfl 1 rfl rfl ?_
          obtain ⟨e_101, l_101, a_101, w_101, hR_101⟩ : ∃ (e8 l8 x8 : Nat) (w8 : tM), pNv T true a ms = (e8, l8, x8, w8) := ⟨_, _, _, _, rfl⟩
          have n1_101 : (pNv T true a ms).1 ≠ 1 := (by rw [← g_94]; exact h1)
          have n9_101 : (pNv T true a ms).1 ≠ 99 := (by rw [← g_94]; exact h9)
          have V_101 := (by have z := pX_inv T (f + 1) 7 d a (B + 1) ms (by omega) hB (by omega) hm; rw [hW_, g_94] at z; exact z)
          have Z_101 := (by have z := pX_N (T := T) (N := N) (f := f + 1) (nt := 7) (d := d) (a := a) (m := ms) hS.2.1 hN (by omega); rw [hW_, g_94] at z; exact z)
          rw [hR_101] at g_94 V_101 Z_101
          refine aw_callV (n := 104) (C0 := RX3) (As := [.int (nI a)]) (rest := []) (K2 := kX3_namedValue) dX3_factor_101 q2978 q2980 qs76 q113 q2981 ⟨rfl, hcX3_namedValue⟩ rfl hT_2.1 (cm_named G h_2 b ms T N a hb hT_2 hS hN4 hN B hB hm ne0 n1_101) rfl (Nat.le_of_ble_eq_true rfl) ⟨by dsimp only [kX3_formula, kX3_row, kX3_since, kX3_one, kX3_expression, kX3_product, kX3_factor, kX3_fronted, kX3_compare, kX3_twoSided, kX3_braces, kX3_namedValue, kX3_bounds, kX3_sees, kX3_is, kX3_isName, kX3_which, kX3_numberOf, kX3_find, kX3_node, kX3_wrong, kJ12_length, meK]; omega, by dsimp only [kX3_formula, kX3_row, kX3_since, kX3_one, kX3_expression, kX3_product, kX3_factor, kX3_fronted, kX3_compare, kX3_twoSided, kX3_braces, kX3_namedValue, kX3_bounds, kX3_sees, kX3_is, kX3_isName, kX3_which, kX3_numberOf, kX3_find, kX3_node, kX3_wrong, kJ12_length, meK]; omega⟩ ⟨Nat.zero_le _, Nat.zero_le _⟩ (fun _ _ _ z => z.elim) rfl (fun r_101 h_101 q_101 => ?_)
          obtain ⟨m_101, rfl, hT_101, hF_101, hz_101, ok_101, er_101⟩ := q_101
          rw [hR_101] at ok_101 er_101
          dsimp only at ok_101 er_101
          have hG_101 := Fr.trans hF_2 hF_101
          rcases Nat.eq_zero_or_pos e_101 with y_101 | y_101
          · skip
            subst y_101
            have x_101 := ok_101 rfl
            subst x_101
            refine AW.sts (st' := [.int 0]) (by rw [hR_101]; rfl) ?_
            replace V_101 := V_101 rfl
            replace Z_101 := Z_101 rfl
            dsimp only at V_101 Z_101
            have lt_101 : nN (m_101.1 17) < 1203 := by have := V_101.2.2.1; have := V_101.1.2.2.1.2.2.1; have := V_101.1.2.1; omega
            have tk_95 := (hS.kept V_101.1.2.2.2).1 a_101 Z_101; have Ktk_95 := tk_95.2.1
            try simp only [Bool.true_and, pT, ef, cond_true, gOr, gAnd, gSum, gPro, tS_tS, seesP_eq Z_101 hN4 hS.2.1, nmP_eq Z_101 hN4 hS.2.1, nuP_eq Z_101 hN4 hS.2.1, whP_eq Z_101 hN4 hS.2.1] at g_94
            exact aw_iret dX3_factor_104 rfl ⟨m_101, by rw [g_94] <;> rfl, hT_101, hG_101, (by omega), fun _ => by rw [g_94] <;> rfl, fun z => absurd (by rw [g_94] <;> rfl) z⟩ ⟨Nat.zero_le _, Nat.zero_le _⟩
          · skip
            refine AW.sts (st' := [.int (nI e_101)]) (by rw [hR_101]; rfl) ?_
            have gE_101 : W9 = (e_101, l_101, a_101, w_101) := g_94
            replace er_101 := er_101 (by omega)
            have E_101 := er_101.1
            have P_101 := er_101.2.1
            exact aw_iret dX3_factor_104 rfl ⟨m_101, by rw [gE_101], hT_101, hG_101, (by omega), fun z => absurd z (by rw [gE_101]; show e_101 ≠ 0; omega), fun _ => ⟨E_101, by rw [gE_101]; exact P_101, by rw [gE_101]; exact er_101.2.2⟩⟩ ⟨Nat.zero_le _, Nat.zero_le _⟩
      · skip
        have b_77 : (seesB T a (sw 29)) = true := Bool.of_not_eq_false (fun e => c_77 ((bI_0 _).mpr e))
        have kn_77 := kw_nm (by decide) b_77
        have g_96 := pG_F g_6 (by first | assumption | simp [n_29, b_55, b_77, kn_77])
        try dsimp only at g_96
        have g_97 := pG_F g_96 (by first | assumption | simp [n_29, b_55, b_77, kn_77])
        try dsimp only at g_97
        have g_99 := pG_T g_97 (by first | assumption | simp [n_29, b_55, b_77, kn_77])
        try dsimp only at g_99
        refine aw_aload_n (n := 81) dX3_factor_80 rfl 2 rfl rfl ?_
        refine aw_bipush (n := 83) (v := 24) dX3_factor_81 (by decide) rfl ?_
        refine aw_iconst (n := 84) (v := (-1)) dX3_factor_83 (by decide) rfl ?_
        refine aw_iconst (n := 85) (v := (-1)) dX3_factor_84 (by decide) rfl ?_
        refine aw_iconst (n := 86) (v := (-1)) dX3_factor_85 (by decide) rfl ?_
        refine aw_iload_n (n := 87) dX3_factor_86 rfl 0 rfl rfl ?_
        have nlt_87 : nn (tS ms 7 (nI (a + 1))) < 1203 := Nat.lt_of_le_of_lt I_4.2.2.1.2.2.1 (by have := I_4.2.1; omega)
        refine AW.sts (st' := [.int (frmI T a), .int (-1), .int (-1), .int (-1), .int 24, .ref b]) (by rw [show ms.2.1 5 a = frmI T a from (hS.1 a hN).2.2.2.1]) ?_
        refine aw_callV (n := 90) (C0 := RX3) (As := [.int 24, .int (-1), .int (-1), .int (-1), .int (frmI T a)]) (rest := []) (K2 := kX3_node) dX3_factor_87 q2974 q2976 qs75 q113 q2977 ⟨rfl, hcX3_node⟩ rfl hT_2.1 (ct_node G h_2 b (tS ms 7 (nI (a + 1))) hb hT_2 (24 : Int32) ((-1) : Int32) ((-1) : Int32) ((-1) : Int32) (frmI T a) I_4.2.2.1.2.1 (by have := I_4.2.2.1.2.2.1; have := I_4.2.1; omega)) rfl (Nat.le_of_ble_eq_true rfl) ⟨by dsimp only [kX3_formula, kX3_row, kX3_since, kX3_one, kX3_expression, kX3_product, kX3_factor, kX3_fronted, kX3_compare, kX3_twoSided, kX3_braces, kX3_namedValue, kX3_bounds, kX3_sees, kX3_is, kX3_isName, kX3_which, kX3_numberOf, kX3_find, kX3_node, kX3_wrong, kJ12_length, meK]; omega, by dsimp only [kX3_formula, kX3_row, kX3_since, kX3_one, kX3_expression, kX3_product, kX3_factor, kX3_fronted, kX3_compare, kX3_twoSided, kX3_braces, kX3_namedValue, kX3_bounds, kX3_sees, kX3_is, kX3_isName, kX3_which, kX3_numberOf, kX3_find, kX3_node, kX3_wrong, kJ12_length, meK]; omega⟩ ⟨Nat.zero_le _, Nat.zero_le _⟩ (fun _ _ _ z => z.elim) rfl (fun r_87 h_87 q_87 => ?_)
        obtain ⟨rfl, hT_87, hF_87, hz_87⟩ := q_87
        have hG_87 := Fr.trans hF_2 hF_87
        refine AW.sts (st' := [.int 0]) rfl ?_
        exact aw_iret dX3_factor_90 rfl ⟨nodT (tS ms 7 (nI (a + 1))) (24 : Int32) ((-1) : Int32) ((-1) : Int32) ((-1) : Int32) (frmI T a), by rw [g_99] <;> rfl, hT_87, hG_87, (by omega), fun _ => by rw [g_99] <;> rfl, fun z => absurd (by rw [g_99] <;> rfl) z⟩ ⟨Nat.zero_le _, Nat.zero_le _⟩
    · skip
      have b_55 : (seesB T a (sw 28)) = true := Bool.of_not_eq_false (fun e => c_55 ((bI_0 _).mpr e))
      have kn_55 := kw_nm (by decide) b_55
      have g_100 := pG_F g_6 (by first | assumption | simp [n_29, b_55, kn_55])
      try dsimp only at g_100
      have g_102 := pG_T g_100 (by first | assumption | simp [n_29, b_55, kn_55])
      try dsimp only at g_102
      refine aw_aload_n (n := 59) dX3_factor_58 rfl 2 rfl rfl ?_
      refine aw_bipush (n := 61) (v := 23) dX3_factor_59 (by decide) rfl ?_
      refine aw_iconst (n := 62) (v := (-1)) dX3_factor_61 (by decide) rfl ?_
      refine aw_iconst (n := 63) (v := (-1)) dX3_factor_62 (by decide) rfl ?_
      refine aw_iconst (n := 64) (v := (-1)) dX3_factor_63 (by decide) rfl ?_
      refine aw_iload_n (n := 65) dX3_factor_64 rfl 0 rfl rfl ?_
      have nlt_65 : nn (tS ms 7 (nI (a + 1))) < 1203 := Nat.lt_of_le_of_lt I_4.2.2.1.2.2.1 (by have := I_4.2.1; omega)
      refine AW.sts (st' := [.int (frmI T a), .int (-1), .int (-1), .int (-1), .int 23, .ref b]) (by rw [show ms.2.1 5 a = frmI T a from (hS.1 a hN).2.2.2.1]) ?_
      refine aw_callV (n := 68) (C0 := RX3) (As := [.int 23, .int (-1), .int (-1), .int (-1), .int (frmI T a)]) (rest := []) (K2 := kX3_node) dX3_factor_65 q2974 q2976 qs75 q113 q2977 ⟨rfl, hcX3_node⟩ rfl hT_2.1 (ct_node G h_2 b (tS ms 7 (nI (a + 1))) hb hT_2 (23 : Int32) ((-1) : Int32) ((-1) : Int32) ((-1) : Int32) (frmI T a) I_4.2.2.1.2.1 (by have := I_4.2.2.1.2.2.1; have := I_4.2.1; omega)) rfl (Nat.le_of_ble_eq_true rfl) ⟨by dsimp only [kX3_formula, kX3_row, kX3_since, kX3_one, kX3_expression, kX3_product, kX3_factor, kX3_fronted, kX3_compare, kX3_twoSided, kX3_braces, kX3_namedValue, kX3_bounds, kX3_sees, kX3_is, kX3_isName, kX3_which, kX3_numberOf, kX3_find, kX3_node, kX3_wrong, kJ12_length, meK]; omega, by dsimp only [kX3_formula, kX3_row, kX3_since, kX3_one, kX3_expression, kX3_product, kX3_factor, kX3_fronted, kX3_compare, kX3_twoSided, kX3_braces, kX3_namedValue, kX3_bounds, kX3_sees, kX3_is, kX3_isName, kX3_which, kX3_numberOf, kX3_find, kX3_node, kX3_wrong, kJ12_length, meK]; omega⟩ ⟨Nat.zero_le _, Nat.zero_le _⟩ (fun _ _ _ z => z.elim) rfl (fun r_65 h_65 q_65 => ?_)
      obtain ⟨rfl, hT_65, hF_65, hz_65⟩ := q_65
      have hG_65 := Fr.trans hF_2 hF_65
      refine AW.sts (st' := [.int 0]) rfl ?_
      exact aw_iret dX3_factor_68 rfl ⟨nodT (tS ms 7 (nI (a + 1))) (23 : Int32) ((-1) : Int32) ((-1) : Int32) ((-1) : Int32) (frmI T a), by rw [g_102] <;> rfl, hT_65, hG_65, (by omega), fun _ => by rw [g_102] <;> rfl, fun z => absurd (by rw [g_102] <;> rfl) z⟩ ⟨Nat.zero_le _, Nat.zero_le _⟩
  · skip
    have n_29 : (T.1 a) = 2 := (nI_eq (a := (T.1 a)) (b := 2) (by omega) (by omega)).mp (by rw [← (tk_1.2.2.1 : (ms.2.1 4 a) = nI (T.1 a)), ← ((by rfl) : (2 : Int32) = nI 2)]; exact c_29)
    have g_104 := pG_T hg0 (by first | assumption | simp [n_29])
    try dsimp only at g_104
    refine aw_aload_n (n := 33) dX3_factor_32 rfl 2 rfl rfl ?_
    refine aw_bipush (n := 35) (v := 20) dX3_factor_33 (by decide) rfl ?_
    refine aw_aload_n (n := 36) dX3_factor_35 rfl 2 rfl rfl ?_
    refine aw_iload_n (n := 37) dX3_factor_36 rfl 1 rfl rfl ?_
    refine aw_callV (n := 40) (C0 := RX3) (As := [.int (nI a)]) (rest := [.int 20, .ref b]) (K2 := kX3_numberOf) dX3_factor_37 q2958 q2960 qs71 q113 q2961 ⟨rfl, hcX3_numberOf⟩ rfl hT_2.1 (ct_numberOf G h_2 b (tS ms 7 (nI (a + 1))) hb hT_2 T a ((hS.kept I_4.2.2.2).1 a hN)) rfl (Nat.le_of_ble_eq_true rfl) ⟨by dsimp only [kX3_formula, kX3_row, kX3_since, kX3_one, kX3_expression, kX3_product, kX3_factor, kX3_fronted, kX3_compare, kX3_twoSided, kX3_braces, kX3_namedValue, kX3_bounds, kX3_sees, kX3_is, kX3_isName, kX3_which, kX3_numberOf, kX3_find, kX3_node, kX3_wrong, kJ12_length, meK]; omega, by dsimp only [kX3_formula, kX3_row, kX3_since, kX3_one, kX3_expression, kX3_product, kX3_factor, kX3_fronted, kX3_compare, kX3_twoSided, kX3_braces, kX3_namedValue, kX3_bounds, kX3_sees, kX3_is, kX3_isName, kX3_which, kX3_numberOf, kX3_find, kX3_node, kX3_wrong, kJ12_length, meK]; omega⟩ ⟨Nat.zero_le _, Nat.zero_le _⟩ (fun _ _ _ z => z.elim) rfl (fun r_37 h_37 q_37 => ?_)
    obtain ⟨rfl, rfl⟩ := q_37
    refine AW.sts (st' := [.int (numT T a), .int 20, .ref b]) rfl ?_
    refine aw_iconst (n := 41) (v := (-1)) dX3_factor_40 (by decide) rfl ?_
    refine aw_iconst (n := 42) (v := (-1)) dX3_factor_41 (by decide) rfl ?_
    refine aw_iload_n (n := 43) dX3_factor_42 rfl 0 rfl rfl ?_
    have nlt_43 : nn (tS ms 7 (nI (a + 1))) < 1203 := Nat.lt_of_le_of_lt I_4.2.2.1.2.2.1 (by have := I_4.2.1; omega)
    refine AW.sts (st' := [.int (frmI T a), .int (-1), .int (-1), .int (numT T a), .int 20, .ref b]) (by rw [show ms.2.1 5 a = frmI T a from (hS.1 a hN).2.2.2.1]) ?_
    refine aw_callV (n := 46) (C0 := RX3) (As := [.int 20, .int (numT T a), .int (-1), .int (-1), .int (frmI T a)]) (rest := []) (K2 := kX3_node) dX3_factor_43 q2974 q2976 qs75 q113 q2977 ⟨rfl, hcX3_node⟩ rfl hT_2.1 (ct_node G h_2 b (tS ms 7 (nI (a + 1))) hb hT_2 (20 : Int32) (numT T a) ((-1) : Int32) ((-1) : Int32) (frmI T a) I_4.2.2.1.2.1 (by have := I_4.2.2.1.2.2.1; have := I_4.2.1; omega)) rfl (Nat.le_of_ble_eq_true rfl) ⟨by dsimp only [kX3_formula, kX3_row, kX3_since, kX3_one, kX3_expression, kX3_product, kX3_factor, kX3_fronted, kX3_compare, kX3_twoSided, kX3_braces, kX3_namedValue, kX3_bounds, kX3_sees, kX3_is, kX3_isName, kX3_which, kX3_numberOf, kX3_find, kX3_node, kX3_wrong, kJ12_length, meK]; omega, by dsimp only [kX3_formula, kX3_row, kX3_since, kX3_one, kX3_expression, kX3_product, kX3_factor, kX3_fronted, kX3_compare, kX3_twoSided, kX3_braces, kX3_namedValue, kX3_bounds, kX3_sees, kX3_is, kX3_isName, kX3_which, kX3_numberOf, kX3_find, kX3_node, kX3_wrong, kJ12_length, meK]; omega⟩ ⟨Nat.zero_le _, Nat.zero_le _⟩ (fun _ _ _ z => z.elim) rfl (fun r_43 h_43 q_43 => ?_)
    obtain ⟨rfl, hT_43, hF_43, hz_43⟩ := q_43
    have hG_43 := Fr.trans hF_2 hF_43
    refine AW.sts (st' := [.int 0]) rfl ?_
    exact aw_iret dX3_factor_46 rfl ⟨nodT (tS ms 7 (nI (a + 1))) (20 : Int32) (numT T a) ((-1) : Int32) ((-1) : Int32) (frmI T a), by rw [g_104] <;> rfl, hT_43, hG_43, (by omega), fun _ => by rw [g_104] <;> rfl, fun z => absurd (by rw [g_104] <;> rfl) z⟩ ⟨Nat.zero_le _, Nat.zero_le _⟩

theorem meAll_s {G : aG} {f : Nat} (ih : meAll G f) : meAll G (f + 1) := by
  intro nt h b ms T N a d B hnt hb hT hS hN4 hN hfB hB hm h1 h9
  obtain ⟨B, rfl⟩ : ∃ B', B = B' + 1 := ⟨B - 1, by omega⟩
  match nt, hnt with
  | 0, _ => exact cm_nt0 G h b ms T N a hb hT hS hN4 hN f d B (by omega) hB hm h1 h9 ih
  | 1, _ => exact cm_nt1 G h b ms T N a hb hT hS hN4 hN f d B (by omega) hB hm h1 h9 ih
  | 2, _ => exact cm_nt2 G h b ms T N a hb hT hS hN4 hN f d B (by omega) hB hm h1 h9 ih
  | 3, _ => exact cm_nt3 G h b ms T N a hb hT hS hN4 hN f d B (by omega) hB hm h1 h9 ih
  | 4, _ => exact cm_nt4 G h b ms T N a hb hT hS hN4 hN f d B (by omega) hB hm h1 h9 ih
  | 5, _ => exact cm_nt5 G h b ms T N a hb hT hS hN4 hN f d B (by omega) hB hm h1 h9 ih
  | 6, _ => exact cm_nt6 G h b ms T N a hb hT hS hN4 hN f d B (by omega) hB hm h1 h9 ih
  | 7, _ => exact cm_nt7 G h b ms T N a hb hT hS hN4 hN f d B (by omega) hB hm h1 h9 ih
theorem meAll_all (G : aG) : ∀ f : Nat, meAll G f
  | 0 => fun _ _ _ _ _ _ _ _ _ _ _ _ _ _ _ _ _ _ _ h9 => absurd rfl h9
  | f + 1 => meAll_s (meAll_all G f)
end
