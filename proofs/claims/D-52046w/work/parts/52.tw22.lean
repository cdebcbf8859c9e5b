/-! The twin: meanings, the rest of the group. -/
section
set_option maxRecDepth 100000
theorem cm_two6 (G : aG) (h : hH)  (b : Nat) (ms : tM) (T : Tv) (N a : Nat) (hb : gB G ≤ b) (hT : TW b h ms) (hS : tkS ms T N) (hN4 : N ≤ 400) (hN : a ≤ N) (f d B : Nat) (hfB : f ≤ B) (hB : B + 1 ≤ 802) (hm : mS (B + 1) a ms) (hmd : mL false ms (ms.1 17)) (hgs : gSum T a = true ∨ gPro T a = true) (h1 : (pTw T (pX T true f 6 d) a ms).1 ≠ 1) (h9 : (pTw T (pX T true f 6 d) a ms).1 ≠ 99) (ih : meAll G f) : Con G kX3_twoSided [.ref b, .int 1] h ((15 + 2 * f, 540 + 100 * f, 0, 0), (fun r h1 => ∃ m9 : tM, r = some (.int (nI (pTw T (pX T true f 6 d) a ms).1)) ∧ TW b h1 m9 ∧ Fr (TS b) h h1 ∧ h1.1 = h.1 ∧ ((pTw T (pX T true f 6 d) a ms).1 = 0 → m9 = (pTw T (pX T true f 6 d) a ms).2.2.2) ∧ ((pTw T (pX T true f 6 d) a ms).1 ≠ 0 → mE ms m9 ∧ m9.1 3 = nI (pTw T (pX T true f 6 d) a ms).2.1 ∧ (pTw T (pX T true f 6 d) a ms).1 < 50)), nX) := by
  refine Con.of (plainFor_of_name rfl) rfl (Nat.le_of_ble_eq_true rfl) ?_
  refine AW.eq (lv2 := [(0, .ref b), (1, .int 1)]) (s2 := []) rfl rfl rfl rfl rfl ?_
  generalize hW_ : pTw T (pX T true f 6 d) a ms = W9 at h1 h9 ⊢
  have hI0 : pM (B + 1) a ms a ms := pM.rf hm (by omega)
  have hg0 : W9 = pTw T (pX T true f 6 d) a ms := hW_.symm
  unfold pTw at hg0
  unfold eBin at hg0
  have ne0 : T.1 a ≠ 0 := (hgs.elim (fun z => (gSum_lt z).2) (fun z => (gPro_lt z).2))
  have tk_1 := (hS.kept hI0.2.2.2).1 a hN; have Ktk_1 := tk_1.2.1
  try simp only [Bool.true_and, pT, ef, cond_true, gOr, gAnd, gSum, gPro, tS_tS, seesP_eq hN hN4 hS.2.1, nmP_eq hN hN4 hS.2.1, nuP_eq hN hN4 hS.2.1, whP_eq hN hN4 hS.2.1] at hg0
  have lt0 : nN (ms.1 17) < 1203 := by have := hmd.2.1; have := hm.2.2.1; omega
  refine aw_aload_n (n := 1) dX3_twoSided_0 rfl 0 rfl rfl ?_
  refine aw_getf (n := 4) (v := .int (ms.1 17)) (C0 := RX3) (T := TX3) dX3_twoSided_1 rfl 17 q2658 (Or.inl rfl) hT.1 rfl rfl ?_
  refine aw_istore_n (n := 5) (lv' := [(2, .int (ms.1 17)), (0, .ref b), (1, .int 1)]) dX3_twoSided_4 rfl (by decide) rfl rfl ?_
  refine aw_aload_n (n := 6) dX3_twoSided_5 rfl 1 rfl rfl ?_
  refine aw_aload_n (n := 7) dX3_twoSided_6 rfl 1 rfl rfl ?_
  refine aw_getf (n := 10) (v := .int (nI a)) (C0 := RX3) (T := TX3) dX3_twoSided_7 rfl 7 q2648 (Or.inl rfl) hT.1 (congrArg some (congrArg Value.int hI0.2.2.1.1)) rfl ?_
  refine aw_know (fun gd_1 hi_1 => ?_)
  refine aw_gets (n := 13) (v := .ref (vAd (gV G 29))) dX3_twoSided_10 29 rfl q3018 rfl (vAd_at gd_1 (by decide)) rfl ?_
  refine aw_know (fun gd_2 hi_2 => ?_)
  refine aw_callV (n := 16) (C0 := RX3) (As := [.int (nI a), .ref (vAd (gV G 29))]) (rest := []) (K2 := kX3_which) dX3_twoSided_13 q2850 q2852 qs55 q113 q2853 ⟨rfl, hcX3_which⟩ rfl hT.1 (ct_which G h b ms hb hT T a ((hS.kept hI0.2.2.2).1 a hN) _ (wlW 2) (wl_at gd_2 hi_2 (k := 2) rfl) (by decide)) rfl (Nat.le_of_ble_eq_true rfl) ⟨by dsimp only [kX3_formula, kX3_row, kX3_since, kX3_one, kX3_expression, kX3_product, kX3_factor, kX3_fronted, kX3_compare, kX3_twoSided, kX3_braces, kX3_namedValue, kX3_bounds, kX3_sees, kX3_is, kX3_isName, kX3_which, kX3_numberOf, kX3_find, kX3_node, kX3_wrong, kJ12_length, meK]; omega, by dsimp only [kX3_formula, kX3_row, kX3_since, kX3_one, kX3_expression, kX3_product, kX3_factor, kX3_fronted, kX3_compare, kX3_twoSided, kX3_braces, kX3_namedValue, kX3_bounds, kX3_sees, kX3_is, kX3_isName, kX3_which, kX3_numberOf, kX3_find, kX3_node, kX3_wrong, kJ12_length, meK]; omega⟩ ⟨Nat.zero_le _, Nat.zero_le _⟩ (fun _ _ _ z => z.elim) rfl (fun r_13 h_13 q_13 => ?_)
  obtain ⟨rfl, rfl⟩ := q_13
  refine AW.sts (st' := [.int (whT T a (wlW 2))]) rfl ?_
  refine aw_istore_n (n := 17) (lv' := [(3, .int (whT T a (wlW 2))), (2, .int (ms.1 17)), (0, .ref b), (1, .int 1)]) dX3_twoSided_16 rfl (by decide) rfl rfl ?_
  refine aw_aload_n (n := 18) dX3_twoSided_17 rfl 2 rfl rfl ?_
  refine aw_dup (n := 19) dX3_twoSided_18 rfl rfl ?_
  refine aw_getf (n := 22) (v := .int (nI a)) (C0 := RX3) (T := TX3) dX3_twoSided_19 rfl 7 q2648 (Or.inl rfl) hT.1 (congrArg some (congrArg Value.int hI0.2.2.1.1)) rfl ?_
  refine aw_iconst (n := 23) (v := 1) dX3_twoSided_22 (by decide) rfl ?_
  refine aw_iadd (n := 24) dX3_twoSided_23 rfl ?_
  refine AW.sts (st' := [.int (nI (a + 1)), .ref b]) (by rw [show (nI a) + 1 = nI (a + 1) from (nI_1 _)]) ?_
  refine aw_tput (n := 27) (k := 7) dX3_twoSided_24 q2648 (by decide) rfl rfl rfl rfl rfl hT hb rfl rfl (fun h_4 hT_4 hF_4 hz_4 => ?_)
  have N_5 : a + 1 ≤ N := lt_end hS.2.1 hN ne0
  have I_6 := hI0.at1 (by omega)
  have tk_7 := (hS.kept I_6.2.2.2).1 (a + 1) N_5; have Ktk_7 := tk_7.2.1
  try simp only [Bool.true_and, pT, ef, cond_true, gOr, gAnd, gSum, gPro, tS_tS, seesP_eq N_5 hN4 hS.2.1, nmP_eq N_5 hN4 hS.2.1, nuP_eq N_5 hN4 hS.2.1, whP_eq N_5 hN4 hS.2.1] at hg0
  refine aw_iload_n (n := 28) dX3_twoSided_27 rfl 3 rfl rfl ?_
  refine aw_if_eq (n := 31) (tgt := 38) dX3_twoSided_28 (by decide) rfl (fun c_28 => ?_) (fun c_28 => ?_)
  · skip
    exact absurd c_28 (by decide +kernel)
  · skip
    refine aw_aload_n (n := 32) dX3_twoSided_31 rfl 2 rfl rfl ?_
    obtain ⟨e_32, l_32, a_32, w_32, hR_32⟩ : ∃ (e8 l8 x8 : Nat) (w8 : tM), pX T true f 6 d (a + 1) (tS ms 7 (nI (a + 1))) = (e8, l8, x8, w8) := ⟨_, _, _, _, rfl⟩
    have n1_32 : (pX T true f 6 d (a + 1) (tS ms 7 (nI (a + 1)))).1 ≠ 1 := pG_n hg0 h1 (by decide)
    have n9_32 : (pX T true f 6 d (a + 1) (tS ms 7 (nI (a + 1)))).1 ≠ 99 := pG_n hg0 h9 (by decide)
    have V_32 := (pX_inv T f 6 d (a + 1) (B) (tS ms 7 (nI (a + 1))) (by omega) (by omega) (by omega) I_6.2.2.1).w (fun _ _ z => I_6.trW z)
    have Z_32 := pX_N (T := T) (N := N) (f := f) (nt := 6) (d := d) (a := a + 1) (m := tS ms 7 (nI (a + 1))) hS.2.1 N_5 (by omega)
    have U_32 := pX_inv T f 6 d (a + 1) (B) (tS ms 7 (nI (a + 1))) (by omega) (by omega) (by omega) I_6.2.2.1
    rw [hR_32] at U_32
    rw [hR_32] at hg0 V_32 Z_32
    refine aw_callV (n := 35) (C0 := RX3) (As := []) (rest := []) (K2 := kX3_product) dX3_twoSided_32 q2966 q2968 qs73 q113 q2969 ⟨rfl, hcX3_product⟩ rfl hT_4.1 (ih 6 h_4 b (tS ms 7 (nI (a + 1))) T N (a + 1) d (B) (by decide) hb hT_4 (hS.kept I_6.2.2.2) hN4 N_5 (by omega) (by omega) I_6.2.2.1 n1_32 n9_32) rfl (Nat.le_of_ble_eq_true rfl) ⟨by dsimp only [kX3_formula, kX3_row, kX3_since, kX3_one, kX3_expression, kX3_product, kX3_factor, kX3_fronted, kX3_compare, kX3_twoSided, kX3_braces, kX3_namedValue, kX3_bounds, kX3_sees, kX3_is, kX3_isName, kX3_which, kX3_numberOf, kX3_find, kX3_node, kX3_wrong, kJ12_length, meK]; omega, by dsimp only [kX3_formula, kX3_row, kX3_since, kX3_one, kX3_expression, kX3_product, kX3_factor, kX3_fronted, kX3_compare, kX3_twoSided, kX3_braces, kX3_namedValue, kX3_bounds, kX3_sees, kX3_is, kX3_isName, kX3_which, kX3_numberOf, kX3_find, kX3_node, kX3_wrong, kJ12_length, meK]; omega⟩ ⟨Nat.zero_le _, Nat.zero_le _⟩ (fun _ _ _ z => z.elim) rfl (fun r_32 h_32 q_32 => ?_)
    obtain ⟨m_32, rfl, hT_32, hF_32, hz_32, ok_32, er_32⟩ := q_32
    rw [hR_32] at ok_32 er_32
    dsimp only at ok_32 er_32
    have hG_32 := Fr.trans hF_4 hF_32
    rcases Nat.eq_zero_or_pos e_32 with y_32 | y_32
    · skip
      subst y_32
      have x_32 := ok_32 rfl
      subst x_32
      refine AW.sts (st' := [.int 0]) (by rw [hR_32]; rfl) ?_
      replace V_32 := V_32 rfl
      replace Z_32 := Z_32 rfl
      dsimp only at V_32 Z_32
      replace U_32 := U_32 rfl
      dsimp only at U_32
      have lt_32 : nN (m_32.1 17) < 1203 := by have := V_32.2.2.1; have := V_32.1.2.2.1.2.2.1; have := V_32.1.2.1; omega
      have g_8 := pG_o hg0
      try dsimp only at g_8
      have tk_9 := (hS.kept V_32.1.2.2.2).1 a_32 Z_32; have Ktk_9 := tk_9.2.1
      try simp only [Bool.true_and, pT, ef, cond_true, gOr, gAnd, gSum, gPro, tS_tS, seesP_eq Z_32 hN4 hS.2.1, nmP_eq Z_32 hN4 hS.2.1, nuP_eq Z_32 hN4 hS.2.1, whP_eq Z_32 hN4 hS.2.1] at g_8
      refine aw_goto (tgt := 42) dX3_twoSided_35 (by decide) ?_
      refine aw_istore (n := 44) (lv' := [(4, .int 0), (3, .int (whT T a (wlW 2))), (2, .int (ms.1 17)), (0, .ref b), (1, .int 1)]) dX3_twoSided_42 (by decide) rfl rfl ?_
      refine aw_iload (n := 46) dX3_twoSided_44 0 rfl rfl ?_
      refine aw_if_eq (n := 49) (tgt := 54) dX3_twoSided_46 (by decide) rfl (fun c_46 => ?_) (fun c_46 => ?_)
      · skip
        refine aw_aload_n (n := 55) dX3_twoSided_54 rfl 3 rfl rfl ?_
        refine aw_bipush (n := 57) (v := 34) dX3_twoSided_55 (by decide) rfl ?_
        refine aw_iload_n (n := 58) dX3_twoSided_57 rfl 2 rfl rfl ?_
        refine aw_aload_n (n := 59) dX3_twoSided_58 rfl 3 rfl rfl ?_
        refine aw_getf (n := 62) (v := .int (m_32.1 17)) (C0 := RX3) (T := TX3) dX3_twoSided_59 rfl 17 q2658 (Or.inl rfl) hT_32.1 rfl rfl ?_
        refine aw_iload_n (n := 63) dX3_twoSided_62 rfl 1 rfl rfl ?_
        refine aw_aload_n (n := 64) dX3_twoSided_63 rfl 3 rfl rfl ?_
        refine aw_getf (n := 67) (v := .ref (b + 11)) (C0 := RX3) (T := TX3) dX3_twoSided_64 rfl 15 q2656 (Or.inl rfl) hT_32.1 rfl rfl ?_
        refine aw_iload_n (n := 68) dX3_twoSided_67 rfl 2 rfl rfl ?_
        refine aw_iald (n := 69) (v := .int (m_32.2.1 15 (nN (ms.1 17)))) dX3_twoSided_68 rfl (nN (ms.1 17)) hmd.1 hT_32.a15 (by omega) (by decide) rfl rfl ?_
        have nlt_69 : nn m_32 < 1203 := Nat.lt_of_le_of_lt V_32.1.2.2.1.2.2.1 (by have := V_32.1.2.1; omega)
        refine aw_callV (n := 72) (C0 := RX3) (As := [.int 34, .int (ms.1 17), .int (m_32.1 17), .int (whT T a (wlW 2)), .int (m_32.2.1 15 (nN (ms.1 17)))]) (rest := []) (K2 := kX3_node) dX3_twoSided_69 q2974 q2976 qs75 q113 q2977 ⟨rfl, hcX3_node⟩ rfl hT_32.1 (ct_node G h_32 b m_32 hb hT_32 (34 : Int32) (ms.1 17) (m_32.1 17) (whT T a (wlW 2)) (m_32.2.1 15 (nN (ms.1 17))) V_32.1.2.2.1.2.1 (by have := V_32.1.2.2.1.2.2.1; have := V_32.1.2.1; omega)) rfl (Nat.le_of_ble_eq_true rfl) ⟨by dsimp only [kX3_formula, kX3_row, kX3_since, kX3_one, kX3_expression, kX3_product, kX3_factor, kX3_fronted, kX3_compare, kX3_twoSided, kX3_braces, kX3_namedValue, kX3_bounds, kX3_sees, kX3_is, kX3_isName, kX3_which, kX3_numberOf, kX3_find, kX3_node, kX3_wrong, kJ12_length, meK]; omega, by dsimp only [kX3_formula, kX3_row, kX3_since, kX3_one, kX3_expression, kX3_product, kX3_factor, kX3_fronted, kX3_compare, kX3_twoSided, kX3_braces, kX3_namedValue, kX3_bounds, kX3_sees, kX3_is, kX3_isName, kX3_which, kX3_numberOf, kX3_find, kX3_node, kX3_wrong, kJ12_length, meK]; omega⟩ ⟨Nat.zero_le _, Nat.zero_le _⟩ (fun _ _ _ z => z.elim) rfl (fun r_69 h_69 q_69 => ?_)
        obtain ⟨rfl, hT_69, hF_69, hz_69⟩ := q_69
        have hG_69 := Fr.trans hG_32 hF_69
        refine AW.sts (st' := [.int 0]) rfl ?_
        exact aw_iret dX3_twoSided_72 rfl ⟨nodT m_32 (34 : Int32) (ms.1 17) (m_32.1 17) (whT T a (wlW 2)) (m_32.2.1 15 (nN (ms.1 17))), by rw [g_8] <;> rfl, hT_69, hG_69, (by omega), fun _ => by rw [g_8] <;> rfl, fun z => absurd (by rw [g_8] <;> rfl) z⟩ ⟨Nat.zero_le _, Nat.zero_le _⟩
      · skip
        exact absurd c_46 (by decide +kernel)
    · skip
      refine AW.sts (st' := [.int (nI e_32)]) (by rw [hR_32]; rfl) ?_
      have gE_32 : W9 = (e_32, l_32, a_32, w_32) := pG_er hg0 (by omega)
      replace er_32 := er_32 (by omega)
      have E_32 := mE.tr I_6.2.2.2 er_32.1
      have P_32 := er_32.2.1
      refine aw_goto (tgt := 42) dX3_twoSided_35 (by decide) ?_
      refine aw_istore (n := 44) (lv' := [(4, .int (nI e_32)), (3, .int (whT T a (wlW 2))), (2, .int (ms.1 17)), (0, .ref b), (1, .int 1)]) dX3_twoSided_42 (by decide) rfl rfl ?_
      refine aw_iload (n := 46) dX3_twoSided_44 0 rfl rfl ?_
      refine aw_if_eq (n := 49) (tgt := 54) dX3_twoSided_46 (by decide) rfl (fun c_46_2 => ?_) (fun c_46_2 => ?_)
      · skip
        have n_46_2 : e_32 = 0 := (nI_eq (a := e_32) (b := 0) (by omega) (by omega)).mp (by rw [← ((by rfl) : (0 : Int32) = nI 0)]; exact c_46_2)
        exact absurd n_46_2 (by omega)
      · skip
        have n_46_2 : ¬ (e_32 = 0) := fun z => c_46_2 (by have y := (nI_eq (a := e_32) (b := 0) (by omega) (by omega)).mpr z; rw [← ((by rfl) : (0 : Int32) = nI 0)] at y; exact y)
        refine aw_iload (n := 51) dX3_twoSided_49 0 rfl rfl ?_
        refine aw_goto (tgt := 72) dX3_twoSided_51 (by decide) ?_
        exact aw_iret dX3_twoSided_72 rfl ⟨m_32, by rw [gE_32], hT_32, hG_32, (by omega), fun z => absurd z (by rw [gE_32]; show e_32 ≠ 0; omega), fun _ => ⟨E_32, by rw [gE_32]; exact P_32, by rw [gE_32]; exact er_32.2.2⟩⟩ ⟨Nat.zero_le _, Nat.zero_le _⟩

theorem cm_two7 (G : aG) (h : hH)  (b : Nat) (ms : tM) (T : Tv) (N a : Nat) (hb : gB G ≤ b) (hT : TW b h ms) (hS : tkS ms T N) (hN4 : N ≤ 400) (hN : a ≤ N) (f d B : Nat) (hfB : f ≤ B) (hB : B + 1 ≤ 802) (hm : mS (B + 1) a ms) (hmd : mL false ms (ms.1 17)) (hgs : gSum T a = true ∨ gPro T a = true) (h1 : (pTw T (pX T true f 7 d) a ms).1 ≠ 1) (h9 : (pTw T (pX T true f 7 d) a ms).1 ≠ 99) (ih : meAll G f) : Con G kX3_twoSided [.ref b, .int 0] h ((15 + 2 * f, 540 + 100 * f, 0, 0), (fun r h1 => ∃ m9 : tM, r = some (.int (nI (pTw T (pX T true f 7 d) a ms).1)) ∧ TW b h1 m9 ∧ Fr (TS b) h h1 ∧ h1.1 = h.1 ∧ ((pTw T (pX T true f 7 d) a ms).1 = 0 → m9 = (pTw T (pX T true f 7 d) a ms).2.2.2) ∧ ((pTw T (pX T true f 7 d) a ms).1 ≠ 0 → mE ms m9 ∧ m9.1 3 = nI (pTw T (pX T true f 7 d) a ms).2.1 ∧ (pTw T (pX T true f 7 d) a ms).1 < 50)), nX) := by
  refine Con.of (plainFor_of_name rfl) rfl (Nat.le_of_ble_eq_true rfl) ?_
  refine AW.eq (lv2 := [(0, .ref b), (1, .int 0)]) (s2 := []) rfl rfl rfl rfl rfl ?_
  generalize hW_ : pTw T (pX T true f 7 d) a ms = W9 at h1 h9 ⊢
  have hI0 : pM (B + 1) a ms a ms := pM.rf hm (by omega)
  have hg0 : W9 = pTw T (pX T true f 7 d) a ms := hW_.symm
  unfold pTw at hg0
  unfold eBin at hg0
  have ne0 : T.1 a ≠ 0 := (hgs.elim (fun z => (gSum_lt z).2) (fun z => (gPro_lt z).2))
  have tk_1 := (hS.kept hI0.2.2.2).1 a hN; have Ktk_1 := tk_1.2.1
  try simp only [Bool.true_and, pT, ef, cond_true, gOr, gAnd, gSum, gPro, tS_tS, seesP_eq hN hN4 hS.2.1, nmP_eq hN hN4 hS.2.1, nuP_eq hN hN4 hS.2.1, whP_eq hN hN4 hS.2.1] at hg0
  have lt0 : nN (ms.1 17) < 1203 := by have := hmd.2.1; have := hm.2.2.1; omega
  refine aw_aload_n (n := 1) dX3_twoSided_0 rfl 0 rfl rfl ?_
  refine aw_getf (n := 4) (v := .int (ms.1 17)) (C0 := RX3) (T := TX3) dX3_twoSided_1 rfl 17 q2658 (Or.inl rfl) hT.1 rfl rfl ?_
  refine aw_istore_n (n := 5) (lv' := [(2, .int (ms.1 17)), (0, .ref b), (1, .int 0)]) dX3_twoSided_4 rfl (by decide) rfl rfl ?_
  refine aw_aload_n (n := 6) dX3_twoSided_5 rfl 1 rfl rfl ?_
  refine aw_aload_n (n := 7) dX3_twoSided_6 rfl 1 rfl rfl ?_
  refine aw_getf (n := 10) (v := .int (nI a)) (C0 := RX3) (T := TX3) dX3_twoSided_7 rfl 7 q2648 (Or.inl rfl) hT.1 (congrArg some (congrArg Value.int hI0.2.2.1.1)) rfl ?_
  refine aw_know (fun gd_1 hi_1 => ?_)
  refine aw_gets (n := 13) (v := .ref (vAd (gV G 29))) dX3_twoSided_10 29 rfl q3018 rfl (vAd_at gd_1 (by decide)) rfl ?_
  refine aw_know (fun gd_2 hi_2 => ?_)
  refine aw_callV (n := 16) (C0 := RX3) (As := [.int (nI a), .ref (vAd (gV G 29))]) (rest := []) (K2 := kX3_which) dX3_twoSided_13 q2850 q2852 qs55 q113 q2853 ⟨rfl, hcX3_which⟩ rfl hT.1 (ct_which G h b ms hb hT T a ((hS.kept hI0.2.2.2).1 a hN) _ (wlW 2) (wl_at gd_2 hi_2 (k := 2) rfl) (by decide)) rfl (Nat.le_of_ble_eq_true rfl) ⟨by dsimp only [kX3_formula, kX3_row, kX3_since, kX3_one, kX3_expression, kX3_product, kX3_factor, kX3_fronted, kX3_compare, kX3_twoSided, kX3_braces, kX3_namedValue, kX3_bounds, kX3_sees, kX3_is, kX3_isName, kX3_which, kX3_numberOf, kX3_find, kX3_node, kX3_wrong, kJ12_length, meK]; omega, by dsimp only [kX3_formula, kX3_row, kX3_since, kX3_one, kX3_expression, kX3_product, kX3_factor, kX3_fronted, kX3_compare, kX3_twoSided, kX3_braces, kX3_namedValue, kX3_bounds, kX3_sees, kX3_is, kX3_isName, kX3_which, kX3_numberOf, kX3_find, kX3_node, kX3_wrong, kJ12_length, meK]; omega⟩ ⟨Nat.zero_le _, Nat.zero_le _⟩ (fun _ _ _ z => z.elim) rfl (fun r_13 h_13 q_13 => ?_)
  obtain ⟨rfl, rfl⟩ := q_13
  refine AW.sts (st' := [.int (whT T a (wlW 2))]) rfl ?_
  refine aw_istore_n (n := 17) (lv' := [(3, .int (whT T a (wlW 2))), (2, .int (ms.1 17)), (0, .ref b), (1, .int 0)]) dX3_twoSided_16 rfl (by decide) rfl rfl ?_
  refine aw_aload_n (n := 18) dX3_twoSided_17 rfl 2 rfl rfl ?_
  refine aw_dup (n := 19) dX3_twoSided_18 rfl rfl ?_
  refine aw_getf (n := 22) (v := .int (nI a)) (C0 := RX3) (T := TX3) dX3_twoSided_19 rfl 7 q2648 (Or.inl rfl) hT.1 (congrArg some (congrArg Value.int hI0.2.2.1.1)) rfl ?_
  refine aw_iconst (n := 23) (v := 1) dX3_twoSided_22 (by decide) rfl ?_
  refine aw_iadd (n := 24) dX3_twoSided_23 rfl ?_
  refine AW.sts (st' := [.int (nI (a + 1)), .ref b]) (by rw [show (nI a) + 1 = nI (a + 1) from (nI_1 _)]) ?_
  refine aw_tput (n := 27) (k := 7) dX3_twoSided_24 q2648 (by decide) rfl rfl rfl rfl rfl hT hb rfl rfl (fun h_4 hT_4 hF_4 hz_4 => ?_)
  have N_5 : a + 1 ≤ N := lt_end hS.2.1 hN ne0
  have I_6 := hI0.at1 (by omega)
  have tk_7 := (hS.kept I_6.2.2.2).1 (a + 1) N_5; have Ktk_7 := tk_7.2.1
  try simp only [Bool.true_and, pT, ef, cond_true, gOr, gAnd, gSum, gPro, tS_tS, seesP_eq N_5 hN4 hS.2.1, nmP_eq N_5 hN4 hS.2.1, nuP_eq N_5 hN4 hS.2.1, whP_eq N_5 hN4 hS.2.1] at hg0
  refine aw_iload_n (n := 28) dX3_twoSided_27 rfl 3 rfl rfl ?_
  refine aw_if_eq (n := 31) (tgt := 38) dX3_twoSided_28 (by decide) rfl (fun c_28 => ?_) (fun c_28 => ?_)
  · skip
    refine aw_aload_n (n := 39) dX3_twoSided_38 rfl 2 rfl rfl ?_
    obtain ⟨e_39, l_39, a_39, w_39, hR_39⟩ : ∃ (e8 l8 x8 : Nat) (w8 : tM), pX T true f 7 d (a + 1) (tS ms 7 (nI (a + 1))) = (e8, l8, x8, w8) := ⟨_, _, _, _, rfl⟩
    have n1_39 : (pX T true f 7 d (a + 1) (tS ms 7 (nI (a + 1)))).1 ≠ 1 := pG_n hg0 h1 (by decide)
    have n9_39 : (pX T true f 7 d (a + 1) (tS ms 7 (nI (a + 1)))).1 ≠ 99 := pG_n hg0 h9 (by decide)
    have V_39 := (pX_inv T f 7 d (a + 1) (B) (tS ms 7 (nI (a + 1))) (by omega) (by omega) (by omega) I_6.2.2.1).w (fun _ _ z => I_6.trW z)
    have Z_39 := pX_N (T := T) (N := N) (f := f) (nt := 7) (d := d) (a := a + 1) (m := tS ms 7 (nI (a + 1))) hS.2.1 N_5 (by omega)
    have U_39 := pX_inv T f 7 d (a + 1) (B) (tS ms 7 (nI (a + 1))) (by omega) (by omega) (by omega) I_6.2.2.1
    rw [hR_39] at U_39
    rw [hR_39] at hg0 V_39 Z_39
    refine aw_callV (n := 42) (C0 := RX3) (As := []) (rest := []) (K2 := kX3_factor) dX3_twoSided_39 q2970 q2972 qs74 q113 q2973 ⟨rfl, hcX3_factor⟩ rfl hT_4.1 (ih 7 h_4 b (tS ms 7 (nI (a + 1))) T N (a + 1) d (B) (by decide) hb hT_4 (hS.kept I_6.2.2.2) hN4 N_5 (by omega) (by omega) I_6.2.2.1 n1_39 n9_39) rfl (Nat.le_of_ble_eq_true rfl) ⟨by dsimp only [kX3_formula, kX3_row, kX3_since, kX3_one, kX3_expression, kX3_product, kX3_factor, kX3_fronted, kX3_compare, kX3_twoSided, kX3_braces, kX3_namedValue, kX3_bounds, kX3_sees, kX3_is, kX3_isName, kX3_which, kX3_numberOf, kX3_find, kX3_node, kX3_wrong, kJ12_length, meK]; omega, by dsimp only [kX3_formula, kX3_row, kX3_since, kX3_one, kX3_expression, kX3_product, kX3_factor, kX3_fronted, kX3_compare, kX3_twoSided, kX3_braces, kX3_namedValue, kX3_bounds, kX3_sees, kX3_is, kX3_isName, kX3_which, kX3_numberOf, kX3_find, kX3_node, kX3_wrong, kJ12_length, meK]; omega⟩ ⟨Nat.zero_le _, Nat.zero_le _⟩ (fun _ _ _ z => z.elim) rfl (fun r_39 h_39 q_39 => ?_)
    obtain ⟨m_39, rfl, hT_39, hF_39, hz_39, ok_39, er_39⟩ := q_39
    rw [hR_39] at ok_39 er_39
    dsimp only at ok_39 er_39
    have hG_39 := Fr.trans hF_4 hF_39
    rcases Nat.eq_zero_or_pos e_39 with y_39 | y_39
    · skip
      subst y_39
      have x_39 := ok_39 rfl
      subst x_39
      refine AW.sts (st' := [.int 0]) (by rw [hR_39]; rfl) ?_
      replace V_39 := V_39 rfl
      replace Z_39 := Z_39 rfl
      dsimp only at V_39 Z_39
      replace U_39 := U_39 rfl
      dsimp only at U_39
      have lt_39 : nN (m_39.1 17) < 1203 := by have := V_39.2.2.1; have := V_39.1.2.2.1.2.2.1; have := V_39.1.2.1; omega
      have g_8 := pG_o hg0
      try dsimp only at g_8
      have tk_9 := (hS.kept V_39.1.2.2.2).1 a_39 Z_39; have Ktk_9 := tk_9.2.1
      try simp only [Bool.true_and, pT, ef, cond_true, gOr, gAnd, gSum, gPro, tS_tS, seesP_eq Z_39 hN4 hS.2.1, nmP_eq Z_39 hN4 hS.2.1, nuP_eq Z_39 hN4 hS.2.1, whP_eq Z_39 hN4 hS.2.1] at g_8
      refine aw_istore (n := 44) (lv' := [(4, .int 0), (3, .int (whT T a (wlW 2))), (2, .int (ms.1 17)), (0, .ref b), (1, .int 0)]) dX3_twoSided_42 (by decide) rfl rfl ?_
      refine aw_iload (n := 46) dX3_twoSided_44 0 rfl rfl ?_
      refine aw_if_eq (n := 49) (tgt := 54) dX3_twoSided_46 (by decide) rfl (fun c_46 => ?_) (fun c_46 => ?_)
      · skip
        refine aw_aload_n (n := 55) dX3_twoSided_54 rfl 3 rfl rfl ?_
        refine aw_bipush (n := 57) (v := 34) dX3_twoSided_55 (by decide) rfl ?_
        refine aw_iload_n (n := 58) dX3_twoSided_57 rfl 2 rfl rfl ?_
        refine aw_aload_n (n := 59) dX3_twoSided_58 rfl 3 rfl rfl ?_
        refine aw_getf (n := 62) (v := .int (m_39.1 17)) (C0 := RX3) (T := TX3) dX3_twoSided_59 rfl 17 q2658 (Or.inl rfl) hT_39.1 rfl rfl ?_
        refine aw_iload_n (n := 63) dX3_twoSided_62 rfl 1 rfl rfl ?_
        refine aw_aload_n (n := 64) dX3_twoSided_63 rfl 3 rfl rfl ?_
        refine aw_getf (n := 67) (v := .ref (b + 11)) (C0 := RX3) (T := TX3) dX3_twoSided_64 rfl 15 q2656 (Or.inl rfl) hT_39.1 rfl rfl ?_
        refine aw_iload_n (n := 68) dX3_twoSided_67 rfl 2 rfl rfl ?_
        refine aw_iald (n := 69) (v := .int (m_39.2.1 15 (nN (ms.1 17)))) dX3_twoSided_68 rfl (nN (ms.1 17)) hmd.1 hT_39.a15 (by omega) (by decide) rfl rfl ?_
        have nlt_69 : nn m_39 < 1203 := Nat.lt_of_le_of_lt V_39.1.2.2.1.2.2.1 (by have := V_39.1.2.1; omega)
        refine aw_callV (n := 72) (C0 := RX3) (As := [.int 34, .int (ms.1 17), .int (m_39.1 17), .int (whT T a (wlW 2)), .int (m_39.2.1 15 (nN (ms.1 17)))]) (rest := []) (K2 := kX3_node) dX3_twoSided_69 q2974 q2976 qs75 q113 q2977 ⟨rfl, hcX3_node⟩ rfl hT_39.1 (ct_node G h_39 b m_39 hb hT_39 (34 : Int32) (ms.1 17) (m_39.1 17) (whT T a (wlW 2)) (m_39.2.1 15 (nN (ms.1 17))) V_39.1.2.2.1.2.1 (by have := V_39.1.2.2.1.2.2.1; have := V_39.1.2.1; omega)) rfl (Nat.le_of_ble_eq_true rfl) ⟨by dsimp only [kX3_formula, kX3_row, kX3_since, kX3_one, kX3_expression, kX3_product, kX3_factor, kX3_fronted, kX3_compare, kX3_twoSided, kX3_braces, kX3_namedValue, kX3_bounds, kX3_sees, kX3_is, kX3_isName, kX3_which, kX3_numberOf, kX3_find, kX3_node, kX3_wrong, kJ12_length, meK]; omega, by dsimp only [kX3_formula, kX3_row, kX3_since, kX3_one, kX3_expression, kX3_product, kX3_factor, kX3_fronted, kX3_compare, kX3_twoSided, kX3_braces, kX3_namedValue, kX3_bounds, kX3_sees, kX3_is, kX3_isName, kX3_which, kX3_numberOf, kX3_find, kX3_node, kX3_wrong, kJ12_length, meK]; omega⟩ ⟨Nat.zero_le _, Nat.zero_le _⟩ (fun _ _ _ z => z.elim) rfl (fun r_69 h_69 q_69 => ?_)
        obtain ⟨rfl, hT_69, hF_69, hz_69⟩ := q_69
        have hG_69 := Fr.trans hG_39 hF_69
        refine AW.sts (st' := [.int 0]) rfl ?_
        exact aw_iret dX3_twoSided_72 rfl ⟨nodT m_39 (34 : Int32) (ms.1 17) (m_39.1 17) (whT T a (wlW 2)) (m_39.2.1 15 (nN (ms.1 17))), by rw [g_8] <;> rfl, hT_69, hG_69, (by omega), fun _ => by rw [g_8] <;> rfl, fun z => absurd (by rw [g_8] <;> rfl) z⟩ ⟨Nat.zero_le _, Nat.zero_le _⟩
      · skip
        exact absurd c_46 (by decide +kernel)
    · skip
      refine AW.sts (st' := [.int (nI e_39)]) (by rw [hR_39]; rfl) ?_
      have gE_39 : W9 = (e_39, l_39, a_39, w_39) := pG_er hg0 (by omega)
      replace er_39 := er_39 (by omega)
      have E_39 := mE.tr I_6.2.2.2 er_39.1
      have P_39 := er_39.2.1
      refine aw_istore (n := 44) (lv' := [(4, .int (nI e_39)), (3, .int (whT T a (wlW 2))), (2, .int (ms.1 17)), (0, .ref b), (1, .int 0)]) dX3_twoSided_42 (by decide) rfl rfl ?_
      refine aw_iload (n := 46) dX3_twoSided_44 0 rfl rfl ?_
      refine aw_if_eq (n := 49) (tgt := 54) dX3_twoSided_46 (by decide) rfl (fun c_46_2 => ?_) (fun c_46_2 => ?_)
      · skip
        have n_46_2 : e_39 = 0 := (nI_eq (a := e_39) (b := 0) (by omega) (by omega)).mp (by rw [← ((by rfl) : (0 : Int32) = nI 0)]; exact c_46_2)
        exact absurd n_46_2 (by omega)
      · skip
        have n_46_2 : ¬ (e_39 = 0) := fun z => c_46_2 (by have y := (nI_eq (a := e_39) (b := 0) (by omega) (by omega)).mpr z; rw [← ((by rfl) : (0 : Int32) = nI 0)] at y; exact y)
        refine aw_iload (n := 51) dX3_twoSided_49 0 rfl rfl ?_
        refine aw_goto (tgt := 72) dX3_twoSided_51 (by decide) ?_
        exact aw_iret dX3_twoSided_72 rfl ⟨m_39, by rw [gE_39], hT_39, hG_39, (by omega), fun z => absurd z (by rw [gE_39]; show e_39 ≠ 0; omega), fun _ => ⟨E_39, by rw [gE_39]; exact P_39, by rw [gE_39]; exact er_39.2.2⟩⟩ ⟨Nat.zero_le _, Nat.zero_le _⟩
  · skip
    exact absurd c_28 (by decide +kernel)

theorem cm_nt5 (G : aG) (h : hH)  (b : Nat) (ms : tM) (T : Tv) (N a : Nat) (hb : gB G ≤ b) (hT : TW b h ms) (hS : tkS ms T N) (hN4 : N ≤ 400) (hN : a ≤ N) (f d B : Nat) (hfB : f ≤ B) (hB : B + 1 ≤ 802) (hm : mS (B + 1) a ms) (h1 : (pX T true (f + 1) 5 d a ms).1 ≠ 1) (h9 : (pX T true (f + 1) 5 d a ms).1 ≠ 99) (ih : meAll G f) : Con G kX3_expression [.ref b] h ((14 + 2 * (f + 1), 500 + 100 * (f + 1), 0, 0), (fun r h1 => ∃ m9 : tM, r = some (.int (nI (pX T true (f + 1) 5 d a ms).1)) ∧ TW b h1 m9 ∧ Fr (TS b) h h1 ∧ h1.1 = h.1 ∧ ((pX T true (f + 1) 5 d a ms).1 = 0 → m9 = (pX T true (f + 1) 5 d a ms).2.2.2) ∧ ((pX T true (f + 1) 5 d a ms).1 ≠ 0 → mE ms m9 ∧ m9.1 3 = nI (pX T true (f + 1) 5 d a ms).2.1 ∧ (pX T true (f + 1) 5 d a ms).1 < 50)), nX) := by
  refine Con.of (plainFor_of_name rfl) rfl (Nat.le_of_ble_eq_true rfl) ?_
  refine AW.eq (lv2 := [(0, .ref b)]) (s2 := []) rfl rfl rfl rfl rfl ?_
  generalize hW_ : pX T true (f + 1) 5 d a ms = W9 at h1 h9 ⊢
  have hI0 : pM (B + 1) a ms a ms := pM.rf hm (by omega)
  have hg0 : W9 = pB5 T true (pX T true f) d a ms := hW_.symm
  unfold pB5 at hg0
  have tk_1 := (hS.kept hI0.2.2.2).1 a hN; have Ktk_1 := tk_1.2.1
  try simp only [Bool.true_and, pT, ef, cond_true, gOr, gAnd, gSum, gPro, tS_tS, seesP_eq hN hN4 hS.2.1, nmP_eq hN hN4 hS.2.1, nuP_eq hN hN4 hS.2.1, whP_eq hN hN4 hS.2.1] at hg0
  refine aw_aload_n (n := 1) dX3_expression_0 rfl 0 rfl rfl ?_
  obtain ⟨e_1, l_1, a_1, w_1, hR_1⟩ : ∃ (e8 l8 x8 : Nat) (w8 : tM), pX T true f 6 d a ms = (e8, l8, x8, w8) := ⟨_, _, _, _, rfl⟩
  have n1_1 : (pX T true f 6 d a ms).1 ≠ 1 := pG_n hg0 h1 (by decide)
  have n9_1 : (pX T true f 6 d a ms).1 ≠ 99 := pG_n hg0 h9 (by decide)
  have V_1 := (pX_inv T f 6 d a (B + 1) ms (by omega) (by omega) (by omega) hI0.2.2.1).w (fun _ _ z => hI0.trW z)
  have Z_1 := pX_N (T := T) (N := N) (f := f) (nt := 6) (d := d) (a := a) (m := ms) hS.2.1 hN (by omega)
  have U_1 := pX_inv T f 6 d a (B + 1) ms (by omega) (by omega) (by omega) hI0.2.2.1
  rw [hR_1] at U_1
  rw [hR_1] at hg0 V_1 Z_1
  refine aw_callV (n := 4) (C0 := RX3) (As := []) (rest := []) (K2 := kX3_product) dX3_expression_1 q2966 q2968 qs73 q113 q2969 ⟨rfl, hcX3_product⟩ rfl hT.1 (ih 6 h b ms T N a d (B + 1) (by decide) hb hT (hS.kept hI0.2.2.2) hN4 hN (by omega) (by omega) hI0.2.2.1 n1_1 n9_1) rfl (Nat.le_of_ble_eq_true rfl) ⟨by dsimp only [kX3_formula, kX3_row, kX3_since, kX3_one, kX3_expression, kX3_product, kX3_factor, kX3_fronted, kX3_compare, kX3_twoSided, kX3_braces, kX3_namedValue, kX3_bounds, kX3_sees, kX3_is, kX3_isName, kX3_which, kX3_numberOf, kX3_find, kX3_node, kX3_wrong, kJ12_length, meK]; omega, by dsimp only [kX3_formula, kX3_row, kX3_since, kX3_one, kX3_expression, kX3_product, kX3_factor, kX3_fronted, kX3_compare, kX3_twoSided, kX3_braces, kX3_namedValue, kX3_bounds, kX3_sees, kX3_is, kX3_isName, kX3_which, kX3_numberOf, kX3_find, kX3_node, kX3_wrong, kJ12_length, meK]; omega⟩ ⟨Nat.zero_le _, Nat.zero_le _⟩ (fun _ _ _ z => z.elim) rfl (fun r_1 h_1 q_1 => ?_)
  obtain ⟨m_1, rfl, hT_1, hF_1, hz_1, ok_1, er_1⟩ := q_1
  rw [hR_1] at ok_1 er_1
  dsimp only at ok_1 er_1
  rcases Nat.eq_zero_or_pos e_1 with y_1 | y_1
  · skip
    subst y_1
    have x_1 := ok_1 rfl
    subst x_1
    refine AW.sts (st' := [.int 0]) (by rw [hR_1]; rfl) ?_
    replace V_1 := V_1 rfl
    replace Z_1 := Z_1 rfl
    dsimp only at V_1 Z_1
    replace U_1 := U_1 rfl
    dsimp only at U_1
    have lt_1 : nN (m_1.1 17) < 1203 := by have := V_1.2.2.1; have := V_1.1.2.2.1.2.2.1; have := V_1.1.2.1; omega
    have g_2 := pG_o hg0
    try dsimp only at g_2
    have tk_3 := (hS.kept V_1.1.2.2.2).1 a_1 Z_1; have Ktk_3 := tk_3.2.1
    try simp only [Bool.true_and, pT, ef, cond_true, gOr, gAnd, gSum, gPro, tS_tS, seesP_eq Z_1 hN4 hS.2.1, nmP_eq Z_1 hN4 hS.2.1, nuP_eq Z_1 hN4 hS.2.1, whP_eq Z_1 hN4 hS.2.1] at g_2
    refine aw_istore_n (n := 5) (lv' := [(1, .int 0), (0, .ref b)]) dX3_expression_4 rfl (by decide) rfl rfl ?_
    suffices L_5 : ∀ (m_ : Nat) (c a9 : Nat) (m9 : tM) (hh : hH) (hN9 : a9 ≤ N) (hTc : TW b hh m9) (hFc : Fr (TS b) h hh) (hzc : hh.1 = h.1) (hWc : pW false (B + 1) a ms a9 m9) (hgc : W9 = pLp (pX T true f 6 d) (gSum T) (eBin T true) c a9 m9), c < m_ → AW G kX3_expression ((14 + 2 * (f + 1), 500 + 100 * (f + 1), 0, 0), (fun r h1 => ∃ m9 : tM, r = some (.int (nI W9.1)) ∧ TW b h1 m9 ∧ Fr (TS b) h h1 ∧ h1.1 = h.1 ∧ (W9.1 = 0 → m9 = W9.2.2.2) ∧ (W9.1 ≠ 0 → mE ms m9 ∧ m9.1 3 = nI W9.2.1 ∧ W9.1 < 50)), nX) 5 [(1, .int 0), (0, .ref b)] [] hh 0 0 from
      AW.lvs (lv' := [(1, .int 0), (0, .ref b)]) (AW.eq (lv2 := _) (rfl) rfl rfl rfl rfl (L_5 _ 401 a_1 m_1 h_1 Z_1 hT_1 hF_1 (by omega) V_1 g_2 (Nat.lt_succ_self _))) (by simp)
    intro m_
    induction m_ with
    | zero => intro c a9 m9 hh hN9 hTc hFc hzc hWc hgc h_m; exact absurd h_m (Nat.not_lt_zero _)
    | succ m_ ih_5 =>
      intro c a9 m9 hh hN9 hTc hFc hzc hWc hgc h_m
      cases c with
      | zero => exact absurd (by rw [hgc]; rfl) h9
      | succ c =>
        have lt9 : nN (m9.1 17) < 1203 := by have := hWc.2.2.1; have := hWc.1.2.2.1.2.2.1; have := hWc.1.2.1; omega
        have hg1 : W9 = cond (gSum T a9) (pb (pTw T (pX T true f 6 d) a9 m9) fun a1 m1 => pLp (pX T true f 6 d) (gSum T) (eBin T true) c a1 m1) (pO a9 m9) := by rw [hgc]; cases hgg : gSum T a9 with
            | true => rw [pLp_tw hgg]; rfl
            | false => rw [pLp, hgg]; rfl
        have tk_4 := (hS.kept hWc.1.2.2.2).1 a9 hN9; have Ktk_4 := tk_4.2.1
        try simp only [Bool.true_and, pT, ef, cond_true, gOr, gAnd, gSum, gPro, tS_tS, seesP_eq hN9 hN4 hS.2.1, nmP_eq hN9 hN4 hS.2.1, nuP_eq hN9 hN4 hS.2.1, whP_eq hN9 hN4 hS.2.1] at hg1
        refine aw_iload_n (n := 6) dX3_expression_5 rfl 0 rfl rfl ?_
        refine aw_if_ne (n := 9) (tgt := 36) dX3_expression_6 (by decide) rfl (fun c_6 => ?_) (fun c_6 => ?_)
        · skip
          exact absurd c_6 (by decide +kernel)
        · skip
          refine aw_aload_n (n := 10) dX3_expression_9 rfl 1 rfl rfl ?_
          refine aw_ldcS (n := 12) (q := 37) dX3_expression_10 113 rfl rfl ?_
          refine aw_know (fun gd_4 hi_4 => ?_)
          refine aw_callV (n := 15) (C0 := RX3) (As := [.ref (gT G 37)]) (rest := []) (K2 := kX3_sees) dX3_expression_12 q2826 q2828 qs50 q113 q2829 ⟨rfl, hcX3_sees⟩ rfl hTc.1 (ct_sees G hh b m9 hb hTc T a9 hWc.1.2.2.1.1 tk_4 _ (sw 37) (str_at gd_4 hi_4 (i := 37) rfl) (lo_at (i := 37) rfl)) rfl (Nat.le_of_ble_eq_true rfl) ⟨by dsimp only [kX3_formula, kX3_row, kX3_since, kX3_one, kX3_expression, kX3_product, kX3_factor, kX3_fronted, kX3_compare, kX3_twoSided, kX3_braces, kX3_namedValue, kX3_bounds, kX3_sees, kX3_is, kX3_isName, kX3_which, kX3_numberOf, kX3_find, kX3_node, kX3_wrong, kJ12_length, meK]; omega, by dsimp only [kX3_formula, kX3_row, kX3_since, kX3_one, kX3_expression, kX3_product, kX3_factor, kX3_fronted, kX3_compare, kX3_twoSided, kX3_braces, kX3_namedValue, kX3_bounds, kX3_sees, kX3_is, kX3_isName, kX3_which, kX3_numberOf, kX3_find, kX3_node, kX3_wrong, kJ12_length, meK]; omega⟩ ⟨Nat.zero_le _, Nat.zero_le _⟩ (fun _ _ _ z => z.elim) rfl (fun r_12 h_12 q_12 => ?_)
          obtain ⟨rfl, rfl⟩ := q_12
          refine AW.sts (st' := [.int (bI (seesB T a9 (sw 37)))]) rfl ?_
          refine aw_if_ne (n := 18) (tgt := 27) dX3_expression_15 (by decide) rfl (fun c_15 => ?_) (fun c_15 => ?_)
          · skip
            have b_15 : (seesB T a9 (sw 37)) = true := Bool.of_not_eq_false (fun e => c_15 ((bI_0 _).mpr e))
            have g_7 := pG_T hg1 (by first | assumption | simp [b_15])
            try dsimp only at g_7
            have ne_8 : T.1 a9 ≠ 0 := by have z9 := b_15; first | exact seesB_ne z9 | exact isNm_ne z9 | (have z8 := (beq_iff_eq.mp z9); omega) | exact whT_lt (bne_iff_ne.mp z9) | (rcases (Bool.or_eq_true _ _).mp z9 with z8 | z8 <;> first | exact seesB_ne z8 | (rcases (Bool.or_eq_true _ _).mp z8 with z7 | z7 <;> exact seesB_ne z7))
            refine aw_aload_n (n := 28) dX3_expression_27 rfl 1 rfl rfl ?_
            refine aw_iconst (n := 29) (v := 1) dX3_expression_28 (by decide) rfl ?_
            have gs_9 : gSum T a9 = true ∨ gPro T a9 = true := Or.inl (by simp [gSum, seesP_eq hN9 hN4 hS.2.1, b_15])
            have hne_29 : T.1 a9 ≠ 0 := gs_9.elim (fun z => (gSum_lt z).2) (fun z => (gPro_lt z).2)
            have hlt_29 : a9 < 400 := gs_9.elim (fun z => (gSum_lt z).1) (fun z => (gPro_lt z).1)
            obtain ⟨e_29, l_29, a_29, w_29, hR_29⟩ : ∃ (e8 l8 x8 : Nat) (w8 : tM), pTw T (pX T true f 6 d) a9 m9 = (e8, l8, x8, w8) := ⟨_, _, _, _, rfl⟩
            have n1_29 : (pTw T (pX T true f 6 d) a9 m9).1 ≠ 1 := pG_n g_7 h1 (by decide)
            have n9_29 : (pTw T (pX T true f 6 d) a9 m9).1 ≠ 99 := pG_n g_7 h9 (by decide)
            have V_29 := pTw_inv (nt := 6) (d := d) (by decide) hfB hB hWc gs_9
            have Z_29 := tw_N (T := T) (N := N) (f := f) (nt := 6) (d := d) (a := a9) (m := m9) hS.2.1 hN9 hne_29 hlt_29
            rw [hR_29] at g_7 V_29 Z_29
            refine aw_callV (n := 32) (C0 := RX3) (As := [.int 1]) (rest := []) (K2 := kX3_twoSided) dX3_expression_29 q3014 q3016 qs85 q113 q3017 ⟨rfl, hcX3_twoSided⟩ rfl hTc.1 (cm_two6 G hh b m9 T N a9 hb hTc (hS.kept hWc.1.2.2.2) hN4 hN9 f d B hfB hB hWc.1.2.2.1 hWc.2 gs_9 n1_29 n9_29 ih) rfl (Nat.le_of_ble_eq_true rfl) ⟨by dsimp only [kX3_formula, kX3_row, kX3_since, kX3_one, kX3_expression, kX3_product, kX3_factor, kX3_fronted, kX3_compare, kX3_twoSided, kX3_braces, kX3_namedValue, kX3_bounds, kX3_sees, kX3_is, kX3_isName, kX3_which, kX3_numberOf, kX3_find, kX3_node, kX3_wrong, kJ12_length, meK]; omega, by dsimp only [kX3_formula, kX3_row, kX3_since, kX3_one, kX3_expression, kX3_product, kX3_factor, kX3_fronted, kX3_compare, kX3_twoSided, kX3_braces, kX3_namedValue, kX3_bounds, kX3_sees, kX3_is, kX3_isName, kX3_which, kX3_numberOf, kX3_find, kX3_node, kX3_wrong, kJ12_length, meK]; omega⟩ ⟨Nat.zero_le _, Nat.zero_le _⟩ (fun _ _ _ z => z.elim) rfl (fun r_29 h_29 q_29 => ?_)
            obtain ⟨m_29, rfl, hT_29, hF_29, hz_29, ok_29, er_29⟩ := q_29
            rw [hR_29] at ok_29 er_29
            dsimp only at ok_29 er_29
            have hG_29 := Fr.trans hFc hF_29
            rcases Nat.eq_zero_or_pos e_29 with y_29 | y_29
            · skip
              subst y_29
              have x_29 := ok_29 rfl
              subst x_29
              refine AW.sts (st' := [.int 0]) (by rw [hR_29]; rfl) ?_
              replace V_29 := V_29 rfl
              replace Z_29 := Z_29 rfl
              dsimp only at V_29 Z_29
              have lt_29 : nN (m_29.1 17) < 1203 := by have := V_29.2.2.1; have := V_29.1.2.2.1.2.2.1; have := V_29.1.2.1; omega
              have g_10 := pG_o g_7
              try dsimp only at g_10
              have tk_11 := (hS.kept V_29.1.2.2.2).1 a_29 Z_29; have Ktk_11 := tk_11.2.1
              try simp only [Bool.true_and, pT, ef, cond_true, gOr, gAnd, gSum, gPro, tS_tS, seesP_eq Z_29 hN4 hS.2.1, nmP_eq Z_29 hN4 hS.2.1, nuP_eq Z_29 hN4 hS.2.1, whP_eq Z_29 hN4 hS.2.1] at g_10
              refine aw_istore_n (n := 33) (lv' := [(1, .int 0), (0, .ref b)]) dX3_expression_32 rfl (by decide) rfl rfl ?_
              refine aw_goto (tgt := 5) dX3_expression_33 (by decide) ?_
              exact AW.lvs (lv' := [(1, .int 0), (0, .ref b)]) (AW.eq (lv2 := _) (rfl) rfl rfl rfl rfl (ih_5 c a_29 m_29 h_29 Z_29 hT_29 hG_29 (by omega) V_29 g_10 (by omega))) (by simp)
            · skip
              refine AW.sts (st' := [.int (nI e_29)]) (by rw [hR_29]; rfl) ?_
              have gE_29 : W9 = (e_29, l_29, a_29, w_29) := pG_er g_7 (by omega)
              replace er_29 := er_29 (by omega)
              have E_29 := mE.tr hWc.1.2.2.2 er_29.1
              have P_29 := er_29.2.1
              refine aw_istore_n (n := 33) (lv' := [(1, .int (nI e_29)), (0, .ref b)]) dX3_expression_32 rfl (by decide) rfl rfl ?_
              refine aw_goto (tgt := 5) dX3_expression_33 (by decide) ?_
              refine aw_iload_n (n := 6) dX3_expression_5 rfl 0 rfl rfl ?_
              refine aw_if_ne (n := 9) (tgt := 36) dX3_expression_6 (by decide) rfl (fun c_6_2 => ?_) (fun c_6_2 => ?_)
              · skip
                have n_6_2 : ¬ (e_29 = 0) := fun z => c_6_2 (by have y := (nI_eq (a := e_29) (b := 0) (by omega) (by omega)).mpr z; rw [← ((by rfl) : (0 : Int32) = nI 0)] at y; exact y)
                refine aw_iload_n (n := 37) dX3_expression_36 rfl 0 rfl rfl ?_
                exact aw_iret dX3_expression_37 rfl ⟨m_29, by rw [gE_29], hT_29, hG_29, (by omega), fun z => absurd z (by rw [gE_29]; show e_29 ≠ 0; omega), fun _ => ⟨E_29, by rw [gE_29]; exact P_29, by rw [gE_29]; exact er_29.2.2⟩⟩ ⟨Nat.zero_le _, Nat.zero_le _⟩
              · skip
                have n_6_2 : e_29 = 0 := (nI_eq (a := e_29) (b := 0) (by omega) (by omega)).mp (by rw [← ((by rfl) : (0 : Int32) = nI 0)]; exact c_6_2)
                exact absurd n_6_2 (by omega)
          · skip
            have b_15 : (seesB T a9 (sw 37)) = false := (bI_0 _).mp c_15
            refine aw_aload_n (n := 19) dX3_expression_18 rfl 1 rfl rfl ?_
            refine aw_ldcS (n := 21) (q := 38) dX3_expression_19 93 rfl rfl ?_
            refine aw_know (fun gd_11 hi_11 => ?_)
            refine aw_callV (n := 24) (C0 := RX3) (As := [.ref (gT G 38)]) (rest := []) (K2 := kX3_sees) dX3_expression_21 q2826 q2828 qs50 q113 q2829 ⟨rfl, hcX3_sees⟩ rfl hTc.1 (ct_sees G hh b m9 hb hTc T a9 hWc.1.2.2.1.1 tk_4 _ (sw 38) (str_at gd_11 hi_11 (i := 38) rfl) (lo_at (i := 38) rfl)) rfl (Nat.le_of_ble_eq_true rfl) ⟨by dsimp only [kX3_formula, kX3_row, kX3_since, kX3_one, kX3_expression, kX3_product, kX3_factor, kX3_fronted, kX3_compare, kX3_twoSided, kX3_braces, kX3_namedValue, kX3_bounds, kX3_sees, kX3_is, kX3_isName, kX3_which, kX3_numberOf, kX3_find, kX3_node, kX3_wrong, kJ12_length, meK]; omega, by dsimp only [kX3_formula, kX3_row, kX3_since, kX3_one, kX3_expression, kX3_product, kX3_factor, kX3_fronted, kX3_compare, kX3_twoSided, kX3_braces, kX3_namedValue, kX3_bounds, kX3_sees, kX3_is, kX3_isName, kX3_which, kX3_numberOf, kX3_find, kX3_node, kX3_wrong, kJ12_length, meK]; omega⟩ ⟨Nat.zero_le _, Nat.zero_le _⟩ (fun _ _ _ z => z.elim) rfl (fun r_21 h_21 q_21 => ?_)
            obtain ⟨rfl, rfl⟩ := q_21
            refine AW.sts (st' := [.int (bI (seesB T a9 (sw 38)))]) rfl ?_
            refine aw_if_eq (n := 27) (tgt := 36) dX3_expression_24 (by decide) rfl (fun c_24 => ?_) (fun c_24 => ?_)
            · skip
              have b_24 : (seesB T a9 (sw 38)) = false := (bI_0 _).mp c_24
              have g_13 := pG_F hg1 (by first | assumption | simp [b_15, b_24])
              try dsimp only at g_13
              refine aw_iload_n (n := 37) dX3_expression_36 rfl 0 rfl rfl ?_
              exact aw_iret dX3_expression_37 rfl ⟨m9, by rw [g_13] <;> rfl, hTc, hFc, (by omega), fun _ => by rw [g_13] <;> rfl, fun z => absurd (by rw [g_13] <;> rfl) z⟩ ⟨Nat.zero_le _, Nat.zero_le _⟩
            · skip
              have b_24 : (seesB T a9 (sw 38)) = true := Bool.of_not_eq_false (fun e => c_24 ((bI_0 _).mpr e))
              have g_15 := pG_T hg1 (by first | assumption | simp [b_15, b_24])
              try dsimp only at g_15
              have ne_16 : T.1 a9 ≠ 0 := by have z9 := b_24; first | exact seesB_ne z9 | exact isNm_ne z9 | (have z8 := (beq_iff_eq.mp z9); omega) | exact whT_lt (bne_iff_ne.mp z9) | (rcases (Bool.or_eq_true _ _).mp z9 with z8 | z8 <;> first | exact seesB_ne z8 | (rcases (Bool.or_eq_true _ _).mp z8 with z7 | z7 <;> exact seesB_ne z7))
              refine aw_aload_n (n := 28) dX3_expression_27 rfl 1 rfl rfl ?_
              refine aw_iconst (n := 29) (v := 1) dX3_expression_28 (by decide) rfl ?_
              have gs_17 : gSum T a9 = true ∨ gPro T a9 = true := Or.inl (by simp [gSum, seesP_eq hN9 hN4 hS.2.1, b_15, b_24])
              have hne_29 : T.1 a9 ≠ 0 := gs_17.elim (fun z => (gSum_lt z).2) (fun z => (gPro_lt z).2)
              have hlt_29 : a9 < 400 := gs_17.elim (fun z => (gSum_lt z).1) (fun z => (gPro_lt z).1)
              obtain ⟨e_29, l_29, a_29, w_29, hR_29⟩ : ∃ (e8 l8 x8 : Nat) (w8 : tM), pTw T (pX T true f 6 d) a9 m9 = (e8, l8, x8, w8) := ⟨_, _, _, _, rfl⟩
              have n1_29 : (pTw T (pX T true f 6 d) a9 m9).1 ≠ 1 := pG_n g_15 h1 (by decide)
              have n9_29 : (pTw T (pX T true f 6 d) a9 m9).1 ≠ 99 := pG_n g_15 h9 (by decide)
              have V_29 := pTw_inv (nt := 6) (d := d) (by decide) hfB hB hWc gs_17
              have Z_29 := tw_N (T := T) (N := N) (f := f) (nt := 6) (d := d) (a := a9) (m := m9) hS.2.1 hN9 hne_29 hlt_29
              rw [hR_29] at g_15 V_29 Z_29
              refine aw_callV (n := 32) (C0 := RX3) (As := [.int 1]) (rest := []) (K2 := kX3_twoSided) dX3_expression_29 q3014 q3016 qs85 q113 q3017 ⟨rfl, hcX3_twoSided⟩ rfl hTc.1 (cm_two6 G hh b m9 T N a9 hb hTc (hS.kept hWc.1.2.2.2) hN4 hN9 f d B hfB hB hWc.1.2.2.1 hWc.2 gs_17 n1_29 n9_29 ih) rfl (Nat.le_of_ble_eq_true rfl) ⟨by dsimp only [kX3_formula, kX3_row, kX3_since, kX3_one, kX3_expression, kX3_product, kX3_factor, kX3_fronted, kX3_compare, kX3_twoSided, kX3_braces, kX3_namedValue, kX3_bounds, kX3_sees, kX3_is, kX3_isName, kX3_which, kX3_numberOf, kX3_find, kX3_node, kX3_wrong, kJ12_length, meK]; omega, by dsimp only [kX3_formula, kX3_row, kX3_since, kX3_one, kX3_expression, kX3_product, kX3_factor, kX3_fronted, kX3_compare, kX3_twoSided, kX3_braces, kX3_namedValue, kX3_bounds, kX3_sees, kX3_is, kX3_isName, kX3_which, kX3_numberOf, kX3_find, kX3_node, kX3_wrong, kJ12_length, meK]; omega⟩ ⟨Nat.zero_le _, Nat.zero_le _⟩ (fun _ _ _ z => z.elim) rfl (fun r_29 h_29 q_29 => ?_)
              obtain ⟨m_29, rfl, hT_29, hF_29, hz_29, ok_29, er_29⟩ := q_29
              rw [hR_29] at ok_29 er_29
              dsimp only at ok_29 er_29
              have hG_29 := Fr.trans hFc hF_29
              rcases Nat.eq_zero_or_pos e_29 with y_29 | y_29
              · skip
                subst y_29
                have x_29 := ok_29 rfl
                subst x_29
                refine AW.sts (st' := [.int 0]) (by rw [hR_29]; rfl) ?_
                replace V_29 := V_29 rfl
                replace Z_29 := Z_29 rfl
                dsimp only at V_29 Z_29
                have lt_29 : nN (m_29.1 17) < 1203 := by have := V_29.2.2.1; have := V_29.1.2.2.1.2.2.1; have := V_29.1.2.1; omega
                have g_18 := pG_o g_15
                try dsimp only at g_18
                have tk_19 := (hS.kept V_29.1.2.2.2).1 a_29 Z_29; have Ktk_19 := tk_19.2.1
                try simp only [Bool.true_and, pT, ef, cond_true, gOr, gAnd, gSum, gPro, tS_tS, seesP_eq Z_29 hN4 hS.2.1, nmP_eq Z_29 hN4 hS.2.1, nuP_eq Z_29 hN4 hS.2.1, whP_eq Z_29 hN4 hS.2.1] at g_18
                refine aw_istore_n (n := 33) (lv' := [(1, .int 0), (0, .ref b)]) dX3_expression_32 rfl (by decide) rfl rfl ?_
                refine aw_goto (tgt := 5) dX3_expression_33 (by decide) ?_
                exact AW.lvs (lv' := [(1, .int 0), (0, .ref b)]) (AW.eq (lv2 := _) (rfl) rfl rfl rfl rfl (ih_5 c a_29 m_29 h_29 Z_29 hT_29 hG_29 (by omega) V_29 g_18 (by omega))) (by simp)
              · skip
                refine AW.sts (st' := [.int (nI e_29)]) (by rw [hR_29]; rfl) ?_
                have gE_29 : W9 = (e_29, l_29, a_29, w_29) := pG_er g_15 (by omega)
                replace er_29 := er_29 (by omega)
                have E_29 := mE.tr hWc.1.2.2.2 er_29.1
                have P_29 := er_29.2.1
                refine aw_istore_n (n := 33) (lv' := [(1, .int (nI e_29)), (0, .ref b)]) dX3_expression_32 rfl (by decide) rfl rfl ?_
                refine aw_goto (tgt := 5) dX3_expression_33 (by decide) ?_
                refine aw_iload_n (n := 6) dX3_expression_5 rfl 0 rfl rfl ?_
                refine aw_if_ne (n := 9) (tgt := 36) dX3_expression_6 (by decide) rfl (fun c_6_3 => ?_) (fun c_6_3 => ?_)
                · skip
                  have n_6_3 : ¬ (e_29 = 0) := fun z => c_6_3 (by have y := (nI_eq (a := e_29) (b := 0) (by omega) (by omega)).mpr z; rw [← ((by rfl) : (0 : Int32) = nI 0)] at y; exact y)
                  refine aw_iload_n (n := 37) dX3_expression_36 rfl 0 rfl rfl ?_
                  exact aw_iret dX3_expression_37 rfl ⟨m_29, by rw [gE_29], hT_29, hG_29, (by omega), fun z => absurd z (by rw [gE_29]; show e_29 ≠ 0; omega), fun _ => ⟨E_29, by rw [gE_29]; exact P_29, by rw [gE_29]; exact er_29.2.2⟩⟩ ⟨Nat.zero_le _, Nat.zero_le _⟩
                · skip
                  have n_6_3 : e_29 = 0 := (nI_eq (a := e_29) (b := 0) (by omega) (by omega)).mp (by rw [← ((by rfl) : (0 : Int32) = nI 0)]; exact c_6_3)
                  exact absurd n_6_3 (by omega)
  · skip
    refine AW.sts (st' := [.int (nI e_1)]) (by rw [hR_1]; rfl) ?_
    have gE_1 : W9 = (e_1, l_1, a_1, w_1) := pG_er hg0 (by omega)
    replace er_1 := er_1 (by omega)
    have E_1 := mE.tr hI0.2.2.2 er_1.1
    have P_1 := er_1.2.1
    refine aw_istore_n (n := 5) (lv' := [(1, .int (nI e_1)), (0, .ref b)]) dX3_expression_4 rfl (by decide) rfl rfl ?_
    refine aw_iload_n (n := 6) dX3_expression_5 rfl 0 rfl rfl ?_
    refine aw_if_ne (n := 9) (tgt := 36) dX3_expression_6 (by decide) rfl (fun c_6_4 => ?_) (fun c_6_4 => ?_)
    · skip
      have n_6_4 : ¬ (e_1 = 0) := fun z => c_6_4 (by have y := (nI_eq (a := e_1) (b := 0) (by omega) (by omega)).mpr z; rw [← ((by rfl) : (0 : Int32) = nI 0)] at y; exact y)
      refine aw_iload_n (n := 37) dX3_expression_36 rfl 0 rfl rfl ?_
      exact aw_iret dX3_expression_37 rfl ⟨m_1, by rw [gE_1], hT_1, hF_1, (by omega), fun z => absurd z (by rw [gE_1]; show e_1 ≠ 0; omega), fun _ => ⟨E_1, by rw [gE_1]; exact P_1, by rw [gE_1]; exact er_1.2.2⟩⟩ ⟨Nat.zero_le _, Nat.zero_le _⟩
    · skip
      have n_6_4 : e_1 = 0 := (nI_eq (a := e_1) (b := 0) (by omega) (by omega)).mp (by rw [← ((by rfl) : (0 : Int32) = nI 0)]; exact c_6_4)
      exact absurd n_6_4 (by omega)

theorem cm_nt6 (G : aG) (h : hH)  (b : Nat) (ms : tM) (T : Tv) (N a : Nat) (hb : gB G ≤ b) (hT : TW b h ms) (hS : tkS ms T N) (hN4 : N ≤ 400) (hN : a ≤ N) (f d B : Nat) (hfB : f ≤ B) (hB : B + 1 ≤ 802) (hm : mS (B + 1) a ms) (h1 : (pX T true (f + 1) 6 d a ms).1 ≠ 1) (h9 : (pX T true (f + 1) 6 d a ms).1 ≠ 99) (ih : meAll G f) : Con G kX3_product [.ref b] h ((14 + 2 * (f + 1), 500 + 100 * (f + 1), 0, 0), (fun r h1 => ∃ m9 : tM, r = some (.int (nI (pX T true (f + 1) 6 d a ms).1)) ∧ TW b h1 m9 ∧ Fr (TS b) h h1 ∧ h1.1 = h.1 ∧ ((pX T true (f + 1) 6 d a ms).1 = 0 → m9 = (pX T true (f + 1) 6 d a ms).2.2.2) ∧ ((pX T true (f + 1) 6 d a ms).1 ≠ 0 → mE ms m9 ∧ m9.1 3 = nI (pX T true (f + 1) 6 d a ms).2.1 ∧ (pX T true (f + 1) 6 d a ms).1 < 50)), nX) := by
  refine Con.of (plainFor_of_name rfl) rfl (Nat.le_of_ble_eq_true rfl) ?_
  refine AW.eq (lv2 := [(0, .ref b)]) (s2 := []) rfl rfl rfl rfl rfl ?_
  generalize hW_ : pX T true (f + 1) 6 d a ms = W9 at h1 h9 ⊢
  have hI0 : pM (B + 1) a ms a ms := pM.rf hm (by omega)
  have hg0 : W9 = pB6 T true (pX T true f) d a ms := hW_.symm
  unfold pB6 at hg0
  have tk_1 := (hS.kept hI0.2.2.2).1 a hN; have Ktk_1 := tk_1.2.1
  try simp only [Bool.true_and, pT, ef, cond_true, gOr, gAnd, gSum, gPro, tS_tS, seesP_eq hN hN4 hS.2.1, nmP_eq hN hN4 hS.2.1, nuP_eq hN hN4 hS.2.1, whP_eq hN hN4 hS.2.1] at hg0
  refine aw_aload_n (n := 1) dX3_product_0 rfl 0 rfl rfl ?_
  obtain ⟨e_1, l_1, a_1, w_1, hR_1⟩ : ∃ (e8 l8 x8 : Nat) (w8 : tM), pX T true f 7 d a ms = (e8, l8, x8, w8) := ⟨_, _, _, _, rfl⟩
  have n1_1 : (pX T true f 7 d a ms).1 ≠ 1 := pG_n hg0 h1 (by decide)
  have n9_1 : (pX T true f 7 d a ms).1 ≠ 99 := pG_n hg0 h9 (by decide)
  have V_1 := (pX_inv T f 7 d a (B + 1) ms (by omega) (by omega) (by omega) hI0.2.2.1).w (fun _ _ z => hI0.trW z)
  have Z_1 := pX_N (T := T) (N := N) (f := f) (nt := 7) (d := d) (a := a) (m := ms) hS.2.1 hN (by omega)
  have U_1 := pX_inv T f 7 d a (B + 1) ms (by omega) (by omega) (by omega) hI0.2.2.1
  rw [hR_1] at U_1
  rw [hR_1] at hg0 V_1 Z_1
  refine aw_callV (n := 4) (C0 := RX3) (As := []) (rest := []) (K2 := kX3_factor) dX3_product_1 q2970 q2972 qs74 q113 q2973 ⟨rfl, hcX3_factor⟩ rfl hT.1 (ih 7 h b ms T N a d (B + 1) (by decide) hb hT (hS.kept hI0.2.2.2) hN4 hN (by omega) (by omega) hI0.2.2.1 n1_1 n9_1) rfl (Nat.le_of_ble_eq_true rfl) ⟨by dsimp only [kX3_formula, kX3_row, kX3_since, kX3_one, kX3_expression, kX3_product, kX3_factor, kX3_fronted, kX3_compare, kX3_twoSided, kX3_braces, kX3_namedValue, kX3_bounds, kX3_sees, kX3_is, kX3_isName, kX3_which, kX3_numberOf, kX3_find, kX3_node, kX3_wrong, kJ12_length, meK]; omega, by dsimp only [kX3_formula, kX3_row, kX3_since, kX3_one, kX3_expression, kX3_product, kX3_factor, kX3_fronted, kX3_compare, kX3_twoSided, kX3_braces, kX3_namedValue, kX3_bounds, kX3_sees, kX3_is, kX3_isName, kX3_which, kX3_numberOf, kX3_find, kX3_node, kX3_wrong, kJ12_length, meK]; omega⟩ ⟨Nat.zero_le _, Nat.zero_le _⟩ (fun _ _ _ z => z.elim) rfl (fun r_1 h_1 q_1 => ?_)
  obtain ⟨m_1, rfl, hT_1, hF_1, hz_1, ok_1, er_1⟩ := q_1
  rw [hR_1] at ok_1 er_1
  dsimp only at ok_1 er_1
  rcases Nat.eq_zero_or_pos e_1 with y_1 | y_1
  · skip
    subst y_1
    have x_1 := ok_1 rfl
    subst x_1
    refine AW.sts (st' := [.int 0]) (by rw [hR_1]; rfl) ?_
    replace V_1 := V_1 rfl
    replace Z_1 := Z_1 rfl
    dsimp only at V_1 Z_1
    replace U_1 := U_1 rfl
    dsimp only at U_1
    have lt_1 : nN (m_1.1 17) < 1203 := by have := V_1.2.2.1; have := V_1.1.2.2.1.2.2.1; have := V_1.1.2.1; omega
    have g_2 := pG_o hg0
    try dsimp only at g_2
    have tk_3 := (hS.kept V_1.1.2.2.2).1 a_1 Z_1; have Ktk_3 := tk_3.2.1
    try simp only [Bool.true_and, pT, ef, cond_true, gOr, gAnd, gSum, gPro, tS_tS, seesP_eq Z_1 hN4 hS.2.1, nmP_eq Z_1 hN4 hS.2.1, nuP_eq Z_1 hN4 hS.2.1, whP_eq Z_1 hN4 hS.2.1] at g_2
    refine aw_istore_n (n := 5) (lv' := [(1, .int 0), (0, .ref b)]) dX3_product_4 rfl (by decide) rfl rfl ?_
    suffices L_5 : ∀ (m_ : Nat) (c a9 : Nat) (m9 : tM) (hh : hH) (hN9 : a9 ≤ N) (hTc : TW b hh m9) (hFc : Fr (TS b) h hh) (hzc : hh.1 = h.1) (hWc : pW false (B + 1) a ms a9 m9) (hgc : W9 = pLp (pX T true f 7 d) (gPro T) (eBin T true) c a9 m9), c < m_ → AW G kX3_product ((14 + 2 * (f + 1), 500 + 100 * (f + 1), 0, 0), (fun r h1 => ∃ m9 : tM, r = some (.int (nI W9.1)) ∧ TW b h1 m9 ∧ Fr (TS b) h h1 ∧ h1.1 = h.1 ∧ (W9.1 = 0 → m9 = W9.2.2.2) ∧ (W9.1 ≠ 0 → mE ms m9 ∧ m9.1 3 = nI W9.2.1 ∧ W9.1 < 50)), nX) 5 [(1, .int 0), (0, .ref b)] [] hh 0 0 from
      AW.lvs (lv' := [(1, .int 0), (0, .ref b)]) (AW.eq (lv2 := _) (rfl) rfl rfl rfl rfl (L_5 _ 401 a_1 m_1 h_1 Z_1 hT_1 hF_1 (by omega) V_1 g_2 (Nat.lt_succ_self _))) (by simp)
    intro m_
    induction m_ with
    | zero => intro c a9 m9 hh hN9 hTc hFc hzc hWc hgc h_m; exact absurd h_m (Nat.not_lt_zero _)
    | succ m_ ih_5 =>
      intro c a9 m9 hh hN9 hTc hFc hzc hWc hgc h_m
      cases c with
      | zero => exact absurd (by rw [hgc]; rfl) h9
      | succ c =>
        have lt9 : nN (m9.1 17) < 1203 := by have := hWc.2.2.1; have := hWc.1.2.2.1.2.2.1; have := hWc.1.2.1; omega
        have hg1 : W9 = cond (gPro T a9) (pb (pTw T (pX T true f 7 d) a9 m9) fun a1 m1 => pLp (pX T true f 7 d) (gPro T) (eBin T true) c a1 m1) (pO a9 m9) := by rw [hgc]; cases hgg : gPro T a9 with
            | true => rw [pLp_tw hgg]; rfl
            | false => rw [pLp, hgg]; rfl
        have tk_4 := (hS.kept hWc.1.2.2.2).1 a9 hN9; have Ktk_4 := tk_4.2.1
        try simp only [Bool.true_and, pT, ef, cond_true, gOr, gAnd, gSum, gPro, tS_tS, seesP_eq hN9 hN4 hS.2.1, nmP_eq hN9 hN4 hS.2.1, nuP_eq hN9 hN4 hS.2.1, whP_eq hN9 hN4 hS.2.1] at hg1
        refine aw_iload_n (n := 6) dX3_product_5 rfl 0 rfl rfl ?_
        refine aw_if_ne (n := 9) (tgt := 46) dX3_product_6 (by decide) rfl (fun c_6 => ?_) (fun c_6 => ?_)
        · skip
          exact absurd c_6 (by decide +kernel)
        · skip
          refine aw_aload_n (n := 10) dX3_product_9 rfl 1 rfl rfl ?_
          refine aw_ldcS (n := 12) (q := 39) dX3_product_10 114 rfl rfl ?_
          refine aw_know (fun gd_4 hi_4 => ?_)
          refine aw_callV (n := 15) (C0 := RX3) (As := [.ref (gT G 39)]) (rest := []) (K2 := kX3_sees) dX3_product_12 q2826 q2828 qs50 q113 q2829 ⟨rfl, hcX3_sees⟩ rfl hTc.1 (ct_sees G hh b m9 hb hTc T a9 hWc.1.2.2.1.1 tk_4 _ (sw 39) (str_at gd_4 hi_4 (i := 39) rfl) (lo_at (i := 39) rfl)) rfl (Nat.le_of_ble_eq_true rfl) ⟨by dsimp only [kX3_formula, kX3_row, kX3_since, kX3_one, kX3_expression, kX3_product, kX3_factor, kX3_fronted, kX3_compare, kX3_twoSided, kX3_braces, kX3_namedValue, kX3_bounds, kX3_sees, kX3_is, kX3_isName, kX3_which, kX3_numberOf, kX3_find, kX3_node, kX3_wrong, kJ12_length, meK]; omega, by dsimp only [kX3_formula, kX3_row, kX3_since, kX3_one, kX3_expression, kX3_product, kX3_factor, kX3_fronted, kX3_compare, kX3_twoSided, kX3_braces, kX3_namedValue, kX3_bounds, kX3_sees, kX3_is, kX3_isName, kX3_which, kX3_numberOf, kX3_find, kX3_node, kX3_wrong, kJ12_length, meK]; omega⟩ ⟨Nat.zero_le _, Nat.zero_le _⟩ (fun _ _ _ z => z.elim) rfl (fun r_12 h_12 q_12 => ?_)
          obtain ⟨rfl, rfl⟩ := q_12
          refine AW.sts (st' := [.int (bI (seesB T a9 (sw 39)))]) rfl ?_
          refine aw_if_ne (n := 18) (tgt := 37) dX3_product_15 (by decide) rfl (fun c_15 => ?_) (fun c_15 => ?_)
          · skip
            have b_15 : (seesB T a9 (sw 39)) = true := Bool.of_not_eq_false (fun e => c_15 ((bI_0 _).mpr e))
            have g_7 := pG_T hg1 (by first | assumption | simp [b_15])
            try dsimp only at g_7
            have ne_8 : T.1 a9 ≠ 0 := by have z9 := b_15; first | exact seesB_ne z9 | exact isNm_ne z9 | (have z8 := (beq_iff_eq.mp z9); omega) | exact whT_lt (bne_iff_ne.mp z9) | (rcases (Bool.or_eq_true _ _).mp z9 with z8 | z8 <;> first | exact seesB_ne z8 | (rcases (Bool.or_eq_true _ _).mp z8 with z7 | z7 <;> exact seesB_ne z7))
            refine aw_aload_n (n := 38) dX3_product_37 rfl 1 rfl rfl ?_
            refine aw_iconst (n := 39) (v := 0) dX3_product_38 (by decide) rfl ?_
            have gs_9 : gSum T a9 = true ∨ gPro T a9 = true := Or.inr (by simp [gPro, seesP_eq hN9 hN4 hS.2.1, b_15])
            have hne_39 : T.1 a9 ≠ 0 := gs_9.elim (fun z => (gSum_lt z).2) (fun z => (gPro_lt z).2)
            have hlt_39 : a9 < 400 := gs_9.elim (fun z => (gSum_lt z).1) (fun z => (gPro_lt z).1)
            obtain ⟨e_39, l_39, a_39, w_39, hR_39⟩ : ∃ (e8 l8 x8 : Nat) (w8 : tM), pTw T (pX T true f 7 d) a9 m9 = (e8, l8, x8, w8) := ⟨_, _, _, _, rfl⟩
            have n1_39 : (pTw T (pX T true f 7 d) a9 m9).1 ≠ 1 := pG_n g_7 h1 (by decide)
            have n9_39 : (pTw T (pX T true f 7 d) a9 m9).1 ≠ 99 := pG_n g_7 h9 (by decide)
            have V_39 := pTw_inv (nt := 7) (d := d) (by decide) hfB hB hWc gs_9
            have Z_39 := tw_N (T := T) (N := N) (f := f) (nt := 7) (d := d) (a := a9) (m := m9) hS.2.1 hN9 hne_39 hlt_39
            rw [hR_39] at g_7 V_39 Z_39
            refine aw_callV (n := 42) (C0 := RX3) (As := [.int 0]) (rest := []) (K2 := kX3_twoSided) dX3_product_39 q3014 q3016 qs85 q113 q3017 ⟨rfl, hcX3_twoSided⟩ rfl hTc.1 (cm_two7 G hh b m9 T N a9 hb hTc (hS.kept hWc.1.2.2.2) hN4 hN9 f d B hfB hB hWc.1.2.2.1 hWc.2 gs_9 n1_39 n9_39 ih) rfl (Nat.le_of_ble_eq_true rfl) ⟨by dsimp only [kX3_formula, kX3_row, kX3_since, kX3_one, kX3_expression, kX3_product, kX3_factor, kX3_fronted, kX3_compare, kX3_twoSided, kX3_braces, kX3_namedValue, kX3_bounds, kX3_sees, kX3_is, kX3_isName, kX3_which, kX3_numberOf, kX3_find, kX3_node, kX3_wrong, kJ12_length, meK]; omega, by dsimp only [kX3_formula, kX3_row, kX3_since, kX3_one, kX3_expression, kX3_product, kX3_factor, kX3_fronted, kX3_compare, kX3_twoSided, kX3_braces, kX3_namedValue, kX3_bounds, kX3_sees, kX3_is, kX3_isName, kX3_which, kX3_numberOf, kX3_find, kX3_node, kX3_wrong, kJ12_length, meK]; omega⟩ ⟨Nat.zero_le _, Nat.zero_le _⟩ (fun _ _ _ z => z.elim) rfl (fun r_39 h_39 q_39 => ?_)
            obtain ⟨m_39, rfl, hT_39, hF_39, hz_39, ok_39, er_39⟩ := q_39
            rw [hR_39] at ok_39 er_39
            dsimp only at ok_39 er_39
            have hG_39 := Fr.trans hFc hF_39
            rcases Nat.eq_zero_or_pos e_39 with y_39 | y_39
            · skip
              subst y_39
              have x_39 := ok_39 rfl
              subst x_39
              refine AW.sts (st' := [.int 0]) (by rw [hR_39]; rfl) ?_
              replace V_39 := V_39 rfl
              replace Z_39 := Z_39 rfl
              dsimp only at V_39 Z_39
              have lt_39 : nN (m_39.1 17) < 1203 := by have := V_39.2.2.1; have := V_39.1.2.2.1.2.2.1; have := V_39.1.2.1; omega
              have g_10 := pG_o g_7
              try dsimp only at g_10
              have tk_11 := (hS.kept V_39.1.2.2.2).1 a_39 Z_39; have Ktk_11 := tk_11.2.1
              try simp only [Bool.true_and, pT, ef, cond_true, gOr, gAnd, gSum, gPro, tS_tS, seesP_eq Z_39 hN4 hS.2.1, nmP_eq Z_39 hN4 hS.2.1, nuP_eq Z_39 hN4 hS.2.1, whP_eq Z_39 hN4 hS.2.1] at g_10
              refine aw_istore_n (n := 43) (lv' := [(1, .int 0), (0, .ref b)]) dX3_product_42 rfl (by decide) rfl rfl ?_
              refine aw_goto (tgt := 5) dX3_product_43 (by decide) ?_
              exact AW.lvs (lv' := [(1, .int 0), (0, .ref b)]) (AW.eq (lv2 := _) (rfl) rfl rfl rfl rfl (ih_5 c a_39 m_39 h_39 Z_39 hT_39 hG_39 (by omega) V_39 g_10 (by omega))) (by simp)
            · skip
              refine AW.sts (st' := [.int (nI e_39)]) (by rw [hR_39]; rfl) ?_
              have gE_39 : W9 = (e_39, l_39, a_39, w_39) := pG_er g_7 (by omega)
              replace er_39 := er_39 (by omega)
              have E_39 := mE.tr hWc.1.2.2.2 er_39.1
              have P_39 := er_39.2.1
              refine aw_istore_n (n := 43) (lv' := [(1, .int (nI e_39)), (0, .ref b)]) dX3_product_42 rfl (by decide) rfl rfl ?_
              refine aw_goto (tgt := 5) dX3_product_43 (by decide) ?_
              refine aw_iload_n (n := 6) dX3_product_5 rfl 0 rfl rfl ?_
              refine aw_if_ne (n := 9) (tgt := 46) dX3_product_6 (by decide) rfl (fun c_6_2 => ?_) (fun c_6_2 => ?_)
              · skip
                have n_6_2 : ¬ (e_39 = 0) := fun z => c_6_2 (by have y := (nI_eq (a := e_39) (b := 0) (by omega) (by omega)).mpr z; rw [← ((by rfl) : (0 : Int32) = nI 0)] at y; exact y)
                refine aw_iload_n (n := 47) dX3_product_46 rfl 0 rfl rfl ?_
                exact aw_iret dX3_product_47 rfl ⟨m_39, by rw [gE_39], hT_39, hG_39, (by omega), fun z => absurd z (by rw [gE_39]; show e_39 ≠ 0; omega), fun _ => ⟨E_39, by rw [gE_39]; exact P_39, by rw [gE_39]; exact er_39.2.2⟩⟩ ⟨Nat.zero_le _, Nat.zero_le _⟩
              · skip
                have n_6_2 : e_39 = 0 := (nI_eq (a := e_39) (b := 0) (by omega) (by omega)).mp (by rw [← ((by rfl) : (0 : Int32) = nI 0)]; exact c_6_2)
                exact absurd n_6_2 (by omega)
          · skip
            have b_15 : (seesB T a9 (sw 39)) = false := (bI_0 _).mp c_15
            refine aw_aload_n (n := 19) dX3_product_18 rfl 1 rfl rfl ?_
            refine aw_ldcS (n := 21) (q := 40) dX3_product_19 115 rfl rfl ?_
            refine aw_know (fun gd_11 hi_11 => ?_)
            refine aw_callV (n := 24) (C0 := RX3) (As := [.ref (gT G 40)]) (rest := []) (K2 := kX3_sees) dX3_product_21 q2826 q2828 qs50 q113 q2829 ⟨rfl, hcX3_sees⟩ rfl hTc.1 (ct_sees G hh b m9 hb hTc T a9 hWc.1.2.2.1.1 tk_4 _ (sw 40) (str_at gd_11 hi_11 (i := 40) rfl) (lo_at (i := 40) rfl)) rfl (Nat.le_of_ble_eq_true rfl) ⟨by dsimp only [kX3_formula, kX3_row, kX3_since, kX3_one, kX3_expression, kX3_product, kX3_factor, kX3_fronted, kX3_compare, kX3_twoSided, kX3_braces, kX3_namedValue, kX3_bounds, kX3_sees, kX3_is, kX3_isName, kX3_which, kX3_numberOf, kX3_find, kX3_node, kX3_wrong, kJ12_length, meK]; omega, by dsimp only [kX3_formula, kX3_row, kX3_since, kX3_one, kX3_expression, kX3_product, kX3_factor, kX3_fronted, kX3_compare, kX3_twoSided, kX3_braces, kX3_namedValue, kX3_bounds, kX3_sees, kX3_is, kX3_isName, kX3_which, kX3_numberOf, kX3_find, kX3_node, kX3_wrong, kJ12_length, meK]; omega⟩ ⟨Nat.zero_le _, Nat.zero_le _⟩ (fun _ _ _ z => z.elim) rfl (fun r_21 h_21 q_21 => ?_)
            obtain ⟨rfl, rfl⟩ := q_21
            refine AW.sts (st' := [.int (bI (seesB T a9 (sw 40)))]) rfl ?_
            refine aw_if_ne (n := 27) (tgt := 37) dX3_product_24 (by decide) rfl (fun c_24 => ?_) (fun c_24 => ?_)
            · skip
              have b_24 : (seesB T a9 (sw 40)) = true := Bool.of_not_eq_false (fun e => c_24 ((bI_0 _).mpr e))
              have g_14 := pG_T hg1 (by first | assumption | simp [b_15, b_24])
              try dsimp only at g_14
              have ne_15 : T.1 a9 ≠ 0 := by have z9 := b_24; first | exact seesB_ne z9 | exact isNm_ne z9 | (have z8 := (beq_iff_eq.mp z9); omega) | exact whT_lt (bne_iff_ne.mp z9) | (rcases (Bool.or_eq_true _ _).mp z9 with z8 | z8 <;> first | exact seesB_ne z8 | (rcases (Bool.or_eq_true _ _).mp z8 with z7 | z7 <;> exact seesB_ne z7))
              refine aw_aload_n (n := 38) dX3_product_37 rfl 1 rfl rfl ?_
              refine aw_iconst (n := 39) (v := 0) dX3_product_38 (by decide) rfl ?_
              have gs_16 : gSum T a9 = true ∨ gPro T a9 = true := Or.inr (by simp [gPro, seesP_eq hN9 hN4 hS.2.1, b_15, b_24])
              have hne_39 : T.1 a9 ≠ 0 := gs_16.elim (fun z => (gSum_lt z).2) (fun z => (gPro_lt z).2)
              have hlt_39 : a9 < 400 := gs_16.elim (fun z => (gSum_lt z).1) (fun z => (gPro_lt z).1)
              obtain ⟨e_39, l_39, a_39, w_39, hR_39⟩ : ∃ (e8 l8 x8 : Nat) (w8 : tM), pTw T (pX T true f 7 d) a9 m9 = (e8, l8, x8, w8) := ⟨_, _, _, _, rfl⟩
              have n1_39 : (pTw T (pX T true f 7 d) a9 m9).1 ≠ 1 := pG_n g_14 h1 (by decide)
              have n9_39 : (pTw T (pX T true f 7 d) a9 m9).1 ≠ 99 := pG_n g_14 h9 (by decide)
              have V_39 := pTw_inv (nt := 7) (d := d) (by decide) hfB hB hWc gs_16
              have Z_39 := tw_N (T := T) (N := N) (f := f) (nt := 7) (d := d) (a := a9) (m := m9) hS.2.1 hN9 hne_39 hlt_39
              rw [hR_39] at g_14 V_39 Z_39
              refine aw_callV (n := 42) (C0 := RX3) (As := [.int 0]) (rest := []) (K2 := kX3_twoSided) dX3_product_39 q3014 q3016 qs85 q113 q3017 ⟨rfl, hcX3_twoSided⟩ rfl hTc.1 (cm_two7 G hh b m9 T N a9 hb hTc (hS.kept hWc.1.2.2.2) hN4 hN9 f d B hfB hB hWc.1.2.2.1 hWc.2 gs_16 n1_39 n9_39 ih) rfl (Nat.le_of_ble_eq_true rfl) ⟨by dsimp only [kX3_formula, kX3_row, kX3_since, kX3_one, kX3_expression, kX3_product, kX3_factor, kX3_fronted, kX3_compare, kX3_twoSided, kX3_braces, kX3_namedValue, kX3_bounds, kX3_sees, kX3_is, kX3_isName, kX3_which, kX3_numberOf, kX3_find, kX3_node, kX3_wrong, kJ12_length, meK]; omega, by dsimp only [kX3_formula, kX3_row, kX3_since, kX3_one, kX3_expression, kX3_product, kX3_factor, kX3_fronted, kX3_compare, kX3_twoSided, kX3_braces, kX3_namedValue, kX3_bounds, kX3_sees, kX3_is, kX3_isName, kX3_which, kX3_numberOf, kX3_find, kX3_node, kX3_wrong, kJ12_length, meK]; omega⟩ ⟨Nat.zero_le _, Nat.zero_le _⟩ (fun _ _ _ z => z.elim) rfl (fun r_39 h_39 q_39 => ?_)
              obtain ⟨m_39, rfl, hT_39, hF_39, hz_39, ok_39, er_39⟩ := q_39
              rw [hR_39] at ok_39 er_39
              dsimp only at ok_39 er_39
              have hG_39 := Fr.trans hFc hF_39
              rcases Nat.eq_zero_or_pos e_39 with y_39 | y_39
              · skip
                subst y_39
                have x_39 := ok_39 rfl
                subst x_39
                refine AW.sts (st' := [.int 0]) (by rw [hR_39]; rfl) ?_
                replace V_39 := V_39 rfl
                replace Z_39 := Z_39 rfl
                dsimp only at V_39 Z_39
                have lt_39 : nN (m_39.1 17) < 1203 := by have := V_39.2.2.1; have := V_39.1.2.2.1.2.2.1; have := V_39.1.2.1; omega
                have g_17 := pG_o g_14
                try dsimp only at g_17
                have tk_18 := (hS.kept V_39.1.2.2.2).1 a_39 Z_39; have Ktk_18 := tk_18.2.1
                try simp only [Bool.true_and, pT, ef, cond_true, gOr, gAnd, gSum, gPro, tS_tS, seesP_eq Z_39 hN4 hS.2.1, nmP_eq Z_39 hN4 hS.2.1, nuP_eq Z_39 hN4 hS.2.1, whP_eq Z_39 hN4 hS.2.1] at g_17
                refine aw_istore_n (n := 43) (lv' := [(1, .int 0), (0, .ref b)]) dX3_product_42 rfl (by decide) rfl rfl ?_
                refine aw_goto (tgt := 5) dX3_product_43 (by decide) ?_
                exact AW.lvs (lv' := [(1, .int 0), (0, .ref b)]) (AW.eq (lv2 := _) (rfl) rfl rfl rfl rfl (ih_5 c a_39 m_39 h_39 Z_39 hT_39 hG_39 (by omega) V_39 g_17 (by omega))) (by simp)
              · skip
                refine AW.sts (st' := [.int (nI e_39)]) (by rw [hR_39]; rfl) ?_
                have gE_39 : W9 = (e_39, l_39, a_39, w_39) := pG_er g_14 (by omega)
                replace er_39 := er_39 (by omega)
                have E_39 := mE.tr hWc.1.2.2.2 er_39.1
                have P_39 := er_39.2.1
                refine aw_istore_n (n := 43) (lv' := [(1, .int (nI e_39)), (0, .ref b)]) dX3_product_42 rfl (by decide) rfl rfl ?_
                refine aw_goto (tgt := 5) dX3_product_43 (by decide) ?_
                refine aw_iload_n (n := 6) dX3_product_5 rfl 0 rfl rfl ?_
                refine aw_if_ne (n := 9) (tgt := 46) dX3_product_6 (by decide) rfl (fun c_6_3 => ?_) (fun c_6_3 => ?_)
                · skip
                  have n_6_3 : ¬ (e_39 = 0) := fun z => c_6_3 (by have y := (nI_eq (a := e_39) (b := 0) (by omega) (by omega)).mpr z; rw [← ((by rfl) : (0 : Int32) = nI 0)] at y; exact y)
                  refine aw_iload_n (n := 47) dX3_product_46 rfl 0 rfl rfl ?_
                  exact aw_iret dX3_product_47 rfl ⟨m_39, by rw [gE_39], hT_39, hG_39, (by omega), fun z => absurd z (by rw [gE_39]; show e_39 ≠ 0; omega), fun _ => ⟨E_39, by rw [gE_39]; exact P_39, by rw [gE_39]; exact er_39.2.2⟩⟩ ⟨Nat.zero_le _, Nat.zero_le _⟩
                · skip
                  have n_6_3 : e_39 = 0 := (nI_eq (a := e_39) (b := 0) (by omega) (by omega)).mp (by rw [← ((by rfl) : (0 : Int32) = nI 0)]; exact c_6_3)
                  exact absurd n_6_3 (by omega)
            · skip
              have b_24 : (seesB T a9 (sw 40)) = false := (bI_0 _).mp c_24
              refine aw_aload_n (n := 28) dX3_product_27 rfl 1 rfl rfl ?_
              refine aw_ldcwS (n := 31) (q := 41) dX3_product_28 116 rfl rfl ?_
              refine aw_know (fun gd_18 hi_18 => ?_)
              refine aw_callV (n := 34) (C0 := RX3) (As := [.ref (gT G 41)]) (rest := []) (K2 := kX3_sees) dX3_product_31 q2826 q2828 qs50 q113 q2829 ⟨rfl, hcX3_sees⟩ rfl hTc.1 (ct_sees G hh b m9 hb hTc T a9 hWc.1.2.2.1.1 tk_4 _ (sw 41) (str_at gd_18 hi_18 (i := 41) rfl) (lo_at (i := 41) rfl)) rfl (Nat.le_of_ble_eq_true rfl) ⟨by dsimp only [kX3_formula, kX3_row, kX3_since, kX3_one, kX3_expression, kX3_product, kX3_factor, kX3_fronted, kX3_compare, kX3_twoSided, kX3_braces, kX3_namedValue, kX3_bounds, kX3_sees, kX3_is, kX3_isName, kX3_which, kX3_numberOf, kX3_find, kX3_node, kX3_wrong, kJ12_length, meK]; omega, by dsimp only [kX3_formula, kX3_row, kX3_since, kX3_one, kX3_expression, kX3_product, kX3_factor, kX3_fronted, kX3_compare, kX3_twoSided, kX3_braces, kX3_namedValue, kX3_bounds, kX3_sees, kX3_is, kX3_isName, kX3_which, kX3_numberOf, kX3_find, kX3_node, kX3_wrong, kJ12_length, meK]; omega⟩ ⟨Nat.zero_le _, Nat.zero_le _⟩ (fun _ _ _ z => z.elim) rfl (fun r_31 h_31 q_31 => ?_)
              obtain ⟨rfl, rfl⟩ := q_31
              refine AW.sts (st' := [.int (bI (seesB T a9 (sw 41)))]) rfl ?_
              refine aw_if_eq (n := 37) (tgt := 46) dX3_product_34 (by decide) rfl (fun c_34 => ?_) (fun c_34 => ?_)
              · skip
                have b_34 : (seesB T a9 (sw 41)) = false := (bI_0 _).mp c_34
                have g_20 := pG_F hg1 (by first | assumption | simp [b_15, b_24, b_34])
                try dsimp only at g_20
                refine aw_iload_n (n := 47) dX3_product_46 rfl 0 rfl rfl ?_
                exact aw_iret dX3_product_47 rfl ⟨m9, by rw [g_20] <;> rfl, hTc, hFc, (by omega), fun _ => by rw [g_20] <;> rfl, fun z => absurd (by rw [g_20] <;> rfl) z⟩ ⟨Nat.zero_le _, Nat.zero_le _⟩
              · skip
                have b_34 : (seesB T a9 (sw 41)) = true := Bool.of_not_eq_false (fun e => c_34 ((bI_0 _).mpr e))
                have g_22 := pG_T hg1 (by first | assumption | simp [b_15, b_24, b_34])
                try dsimp only at g_22
                have ne_23 : T.1 a9 ≠ 0 := by have z9 := b_34; first | exact seesB_ne z9 | exact isNm_ne z9 | (have z8 := (beq_iff_eq.mp z9); omega) | exact whT_lt (bne_iff_ne.mp z9) | (rcases (Bool.or_eq_true _ _).mp z9 with z8 | z8 <;> first | exact seesB_ne z8 | (rcases (Bool.or_eq_true _ _).mp z8 with z7 | z7 <;> exact seesB_ne z7))
                refine aw_aload_n (n := 38) dX3_product_37 rfl 1 rfl rfl ?_
                refine aw_iconst (n := 39) (v := 0) dX3_product_38 (by decide) rfl ?_
                have gs_24 : gSum T a9 = true ∨ gPro T a9 = true := Or.inr (by simp [gPro, seesP_eq hN9 hN4 hS.2.1, b_15, b_24, b_34])
                have hne_39 : T.1 a9 ≠ 0 := gs_24.elim (fun z => (gSum_lt z).2) (fun z => (gPro_lt z).2)
                have hlt_39 : a9 < 400 := gs_24.elim (fun z => (gSum_lt z).1) (fun z => (gPro_lt z).1)
                obtain ⟨e_39, l_39, a_39, w_39, hR_39⟩ : ∃ (e8 l8 x8 : Nat) (w8 : tM), pTw T (pX T true f 7 d) a9 m9 = (e8, l8, x8, w8) := ⟨_, _, _, _, rfl⟩
                have n1_39 : (pTw T (pX T true f 7 d) a9 m9).1 ≠ 1 := pG_n g_22 h1 (by decide)
                have n9_39 : (pTw T (pX T true f 7 d) a9 m9).1 ≠ 99 := pG_n g_22 h9 (by decide)
                have V_39 := pTw_inv (nt := 7) (d := d) (by decide) hfB hB hWc gs_24
                have Z_39 := tw_N (T := T) (N := N) (f := f) (nt := 7) (d := d) (a := a9) (m := m9) hS.2.1 hN9 hne_39 hlt_39
                rw [hR_39] at g_22 V_39 Z_39
                refine aw_callV (n := 42) (C0 := RX3) (As := [.int 0]) (rest := []) (K2 := kX3_twoSided) dX3_product_39 q3014 q3016 qs85 q113 q3017 ⟨rfl, hcX3_twoSided⟩ rfl hTc.1 (cm_two7 G hh b m9 T N a9 hb hTc (hS.kept hWc.1.2.2.2) hN4 hN9 f d B hfB hB hWc.1.2.2.1 hWc.2 gs_24 n1_39 n9_39 ih) rfl (Nat.le_of_ble_eq_true rfl) ⟨by dsimp only [kX3_formula, kX3_row, kX3_since, kX3_one, kX3_expression, kX3_product, kX3_factor, kX3_fronted, kX3_compare, kX3_twoSided, kX3_braces, kX3_namedValue, kX3_bounds, kX3_sees, kX3_is, kX3_isName, kX3_which, kX3_numberOf, kX3_find, kX3_node, kX3_wrong, kJ12_length, meK]; omega, by dsimp only [kX3_formula, kX3_row, kX3_since, kX3_one, kX3_expression, kX3_product, kX3_factor, kX3_fronted, kX3_compare, kX3_twoSided, kX3_braces, kX3_namedValue, kX3_bounds, kX3_sees, kX3_is, kX3_isName, kX3_which, kX3_numberOf, kX3_find, kX3_node, kX3_wrong, kJ12_length, meK]; omega⟩ ⟨Nat.zero_le _, Nat.zero_le _⟩ (fun _ _ _ z => z.elim) rfl (fun r_39 h_39 q_39 => ?_)
                obtain ⟨m_39, rfl, hT_39, hF_39, hz_39, ok_39, er_39⟩ := q_39
                rw [hR_39] at ok_39 er_39
                dsimp only at ok_39 er_39
                have hG_39 := Fr.trans hFc hF_39
                rcases Nat.eq_zero_or_pos e_39 with y_39 | y_39
                · skip
                  subst y_39
                  have x_39 := ok_39 rfl
                  subst x_39
                  refine AW.sts (st' := [.int 0]) (by rw [hR_39]; rfl) ?_
                  replace V_39 := V_39 rfl
                  replace Z_39 := Z_39 rfl
                  dsimp only at V_39 Z_39
                  have lt_39 : nN (m_39.1 17) < 1203 := by have := V_39.2.2.1; have := V_39.1.2.2.1.2.2.1; have := V_39.1.2.1; omega
                  have g_25 := pG_o g_22
                  try dsimp only at g_25
                  have tk_26 := (hS.kept V_39.1.2.2.2).1 a_39 Z_39; have Ktk_26 := tk_26.2.1
                  try simp only [Bool.true_and, pT, ef, cond_true, gOr, gAnd, gSum, gPro, tS_tS, seesP_eq Z_39 hN4 hS.2.1, nmP_eq Z_39 hN4 hS.2.1, nuP_eq Z_39 hN4 hS.2.1, whP_eq Z_39 hN4 hS.2.1] at g_25
                  refine aw_istore_n (n := 43) (lv' := [(1, .int 0), (0, .ref b)]) dX3_product_42 rfl (by decide) rfl rfl ?_
                  refine aw_goto (tgt := 5) dX3_product_43 (by decide) ?_
                  exact AW.lvs (lv' := [(1, .int 0), (0, .ref b)]) (AW.eq (lv2 := _) (rfl) rfl rfl rfl rfl (ih_5 c a_39 m_39 h_39 Z_39 hT_39 hG_39 (by omega) V_39 g_25 (by omega))) (by simp)
                · skip
                  refine AW.sts (st' := [.int (nI e_39)]) (by rw [hR_39]; rfl) ?_
                  have gE_39 : W9 = (e_39, l_39, a_39, w_39) := pG_er g_22 (by omega)
                  replace er_39 := er_39 (by omega)
                  have E_39 := mE.tr hWc.1.2.2.2 er_39.1
                  have P_39 := er_39.2.1
                  refine aw_istore_n (n := 43) (lv' := [(1, .int (nI e_39)), (0, .ref b)]) dX3_product_42 rfl (by decide) rfl rfl ?_
                  refine aw_goto (tgt := 5) dX3_product_43 (by decide) ?_
                  refine aw_iload_n (n := 6) dX3_product_5 rfl 0 rfl rfl ?_
                  refine aw_if_ne (n := 9) (tgt := 46) dX3_product_6 (by decide) rfl (fun c_6_4 => ?_) (fun c_6_4 => ?_)
                  · skip
                    have n_6_4 : ¬ (e_39 = 0) := fun z => c_6_4 (by have y := (nI_eq (a := e_39) (b := 0) (by omega) (by omega)).mpr z; rw [← ((by rfl) : (0 : Int32) = nI 0)] at y; exact y)
                    refine aw_iload_n (n := 47) dX3_product_46 rfl 0 rfl rfl ?_
                    exact aw_iret dX3_product_47 rfl ⟨m_39, by rw [gE_39], hT_39, hG_39, (by omega), fun z => absurd z (by rw [gE_39]; show e_39 ≠ 0; omega), fun _ => ⟨E_39, by rw [gE_39]; exact P_39, by rw [gE_39]; exact er_39.2.2⟩⟩ ⟨Nat.zero_le _, Nat.zero_le _⟩
                  · skip
                    have n_6_4 : e_39 = 0 := (nI_eq (a := e_39) (b := 0) (by omega) (by omega)).mp (by rw [← ((by rfl) : (0 : Int32) = nI 0)]; exact c_6_4)
                    exact absurd n_6_4 (by omega)
  · skip
    refine AW.sts (st' := [.int (nI e_1)]) (by rw [hR_1]; rfl) ?_
    have gE_1 : W9 = (e_1, l_1, a_1, w_1) := pG_er hg0 (by omega)
    replace er_1 := er_1 (by omega)
    have E_1 := mE.tr hI0.2.2.2 er_1.1
    have P_1 := er_1.2.1
    refine aw_istore_n (n := 5) (lv' := [(1, .int (nI e_1)), (0, .ref b)]) dX3_product_4 rfl (by decide) rfl rfl ?_
    refine aw_iload_n (n := 6) dX3_product_5 rfl 0 rfl rfl ?_
    refine aw_if_ne (n := 9) (tgt := 46) dX3_product_6 (by decide) rfl (fun c_6_5 => ?_) (fun c_6_5 => ?_)
    · skip
      have n_6_5 : ¬ (e_1 = 0) := fun z => c_6_5 (by have y := (nI_eq (a := e_1) (b := 0) (by omega) (by omega)).mpr z; rw [← ((by rfl) : (0 : Int32) = nI 0)] at y; exact y)
      refine aw_iload_n (n := 47) dX3_product_46 rfl 0 rfl rfl ?_
      exact aw_iret dX3_product_47 rfl ⟨m_1, by rw [gE_1], hT_1, hF_1, (by omega), fun z => absurd z (by rw [gE_1]; show e_1 ≠ 0; omega), fun _ => ⟨E_1, by rw [gE_1]; exact P_1, by rw [gE_1]; exact er_1.2.2⟩⟩ ⟨Nat.zero_le _, Nat.zero_le _⟩
    · skip
      have n_6_5 : e_1 = 0 := (nI_eq (a := e_1) (b := 0) (by omega) (by omega)).mp (by rw [← ((by rfl) : (0 : Int32) = nI 0)]; exact c_6_5)
      exact absurd n_6_5 (by omega)

theorem cm_fronted (G : aG) (h : hH)  (b : Nat) (ms : tM) (T : Tv) (N a : Nat) (hb : gB G ≤ b) (hT : TW b h ms) (hS : tkS ms T N) (hN4 : N ≤ 400) (hN : a ≤ N) (f d B : Nat) (hfB : f ≤ B) (hB : B + 1 ≤ 802) (hm : mS (B + 1) a ms) (j : Nat) (hj : j < 6) (hne0 : T.1 a ≠ 0) (h1 : (pFr T true (pX T true f) (nI j) d a ms).1 ≠ 1) (h9 : (pFr T true (pX T true f) (nI j) d a ms).1 ≠ 99) (ih : meAll G f) : Con G kX3_fronted [.ref b, .int (nI a), .int (nI j)] h ((15 + 2 * f, 540 + 100 * f, 0, 0), (fun r h1 => ∃ m9 : tM, r = some (.int (nI (pFr T true (pX T true f) (nI j) d a ms).1)) ∧ TW b h1 m9 ∧ Fr (TS b) h h1 ∧ h1.1 = h.1 ∧ ((pFr T true (pX T true f) (nI j) d a ms).1 = 0 → m9 = (pFr T true (pX T true f) (nI j) d a ms).2.2.2) ∧ ((pFr T true (pX T true f) (nI j) d a ms).1 ≠ 0 → mE ms m9 ∧ m9.1 3 = nI (pFr T true (pX T true f) (nI j) d a ms).2.1 ∧ (pFr T true (pX T true f) (nI j) d a ms).1 < 50)), nX) := by
  refine Con.of (plainFor_of_name rfl) rfl (Nat.le_of_ble_eq_true rfl) ?_
  refine AW.eq (lv2 := [(0, .ref b), (1, .int (nI a)), (2, .int (nI j))]) (s2 := []) rfl rfl rfl rfl rfl ?_
  generalize hW_ : pFr T true (pX T true f) (nI j) d a ms = W9 at h1 h9 ⊢
  have hI0 : pM (B + 1) a ms a ms := pM.rf hm (by omega)
  have hg0 : W9 = pFr T true (pX T true f) (nI j) d a ms := hW_.symm
  unfold pFr at hg0
  have ne0 : T.1 a ≠ 0 := hne0
  have tk_1 := (hS.kept hI0.2.2.2).1 a hN; have Ktk_1 := tk_1.2.1
  try simp only [Bool.true_and, pT, ef, cond_true, gOr, gAnd, gSum, gPro, tS_tS, seesP_eq hN hN4 hS.2.1, nmP_eq hN hN4 hS.2.1, nuP_eq hN hN4 hS.2.1, whP_eq hN hN4 hS.2.1] at hg0
  refine aw_aload_n (n := 1) dX3_fronted_0 rfl 0 rfl rfl ?_
  refine aw_dup (n := 2) dX3_fronted_1 rfl rfl ?_
  refine aw_getf (n := 5) (v := .int (nI a)) (C0 := RX3) (T := TX3) dX3_fronted_2 rfl 7 q2648 (Or.inl rfl) hT.1 (congrArg some (congrArg Value.int hI0.2.2.1.1)) rfl ?_
  refine aw_iconst (n := 6) (v := 1) dX3_fronted_5 (by decide) rfl ?_
  refine aw_iadd (n := 7) dX3_fronted_6 rfl ?_
  refine AW.sts (st' := [.int (nI (a + 1)), .ref b]) (by rw [show (nI a) + 1 = nI (a + 1) from (nI_1 _)]) ?_
  refine aw_tput (n := 10) (k := 7) dX3_fronted_7 q2648 (by decide) rfl rfl rfl rfl rfl hT hb rfl rfl (fun h_2 hT_2 hF_2 hz_2 => ?_)
  have N_3 : a + 1 ≤ N := lt_end hS.2.1 hN ne0
  have I_4 := hI0.at1 (by omega)
  have tk_5 := (hS.kept I_4.2.2.2).1 (a + 1) N_3; have Ktk_5 := tk_5.2.1
  try simp only [Bool.true_and, pT, ef, cond_true, gOr, gAnd, gSum, gPro, tS_tS, seesP_eq N_3 hN4 hS.2.1, nmP_eq N_3 hN4 hS.2.1, nuP_eq N_3 hN4 hS.2.1, whP_eq N_3 hN4 hS.2.1] at hg0
  refine aw_iload_n (n := 11) dX3_fronted_10 rfl 2 rfl rfl ?_
  refine aw_iconst (n := 12) (v := 4) dX3_fronted_11 (by decide) rfl ?_
  refine aw_icmp_ge (n := 15) (tgt := 19) dX3_fronted_12 (by decide) rfl (fun c_12 => ?_) (fun c_12 => ?_)
  · skip
    have n_12 : 4 ≤ j := (nI_leI (a := 4) (b := j) (by omega) (by omega)).mp (by rw [← ((by rfl) : (4 : Int32) = nI 4)]; exact c_12)
    have f_12 : decide (nI j < 4) = false := decide_eq_false (Int32.not_lt.mpr c_12)
    have g_6 := pG_bF hg0 (by first | assumption | simp [f_12])
    try dsimp only at g_6
    have f4 : ¬ (nI j < 4) := Int32.not_lt.mpr c_12
    simp only [if_neg f4] at g_6
    refine aw_aload_n (n := 20) dX3_fronted_19 rfl 0 rfl rfl ?_
    obtain ⟨e_20, l_20, a_20, w_20, hR_20⟩ : ∃ (e8 l8 x8 : Nat) (w8 : tM), pBd T true (a + 1) (tS ms 7 (nI (a + 1))) = (e8, l8, x8, w8) := ⟨_, _, _, _, rfl⟩
    have n1_20 : (pBd T true (a + 1) (tS ms 7 (nI (a + 1)))).1 ≠ 1 := pG_n g_6 h1 (by decide)
    have n9_20 : (pBd T true (a + 1) (tS ms 7 (nI (a + 1)))).1 ≠ 99 := pG_n g_6 h9 (by decide)
    have V_20 := pBd_inv (T := T) I_4
    have Z_20 := pBd_N (T := T) (N := N) (a := a + 1) (m := tS ms 7 (nI (a + 1))) hS.2.1 N_3 (by omega)
    rw [hR_20] at g_6 V_20 Z_20
    refine aw_callV (n := 23) (C0 := RX3) (As := []) (rest := []) (K2 := kX3_bounds) dX3_fronted_20 q3006 q3008 qs83 q113 q3009 ⟨rfl, hcX3_bounds⟩ rfl hT_2.1 (cm_bounds G h_2 b (tS ms 7 (nI (a + 1))) T N (a + 1) hb hT_2 (hS.kept I_4.2.2.2) hN4 N_3 B (by omega) I_4.2.2.1.up n1_20) rfl (Nat.le_of_ble_eq_true rfl) ⟨by dsimp only [kX3_formula, kX3_row, kX3_since, kX3_one, kX3_expression, kX3_product, kX3_factor, kX3_fronted, kX3_compare, kX3_twoSided, kX3_braces, kX3_namedValue, kX3_bounds, kX3_sees, kX3_is, kX3_isName, kX3_which, kX3_numberOf, kX3_find, kX3_node, kX3_wrong, kJ12_length, meK]; omega, by dsimp only [kX3_formula, kX3_row, kX3_since, kX3_one, kX3_expression, kX3_product, kX3_factor, kX3_fronted, kX3_compare, kX3_twoSided, kX3_braces, kX3_namedValue, kX3_bounds, kX3_sees, kX3_is, kX3_isName, kX3_which, kX3_numberOf, kX3_find, kX3_node, kX3_wrong, kJ12_length, meK]; omega⟩ ⟨Nat.zero_le _, Nat.zero_le _⟩ (fun _ _ _ z => z.elim) rfl (fun r_20 h_20 q_20 => ?_)
    obtain ⟨m_20, rfl, hT_20, hF_20, hz_20, ok_20, er_20⟩ := q_20
    rw [hR_20] at ok_20 er_20
    dsimp only at ok_20 er_20
    have hG_20 := Fr.trans hF_2 hF_20
    rcases Nat.eq_zero_or_pos e_20 with y_20 | y_20
    · skip
      subst y_20
      have x_20 := ok_20 rfl
      subst x_20
      refine AW.sts (st' := [.int 0]) (by rw [hR_20]; rfl) ?_
      replace V_20 := V_20 rfl
      replace Z_20 := Z_20 rfl
      dsimp only at V_20 Z_20
      have g_7 := pG_o g_6
      try dsimp only at g_7
      have tk_8 := (hS.kept V_20.2.2.2).1 a_20 Z_20; have Ktk_8 := tk_8.2.1
      try simp only [Bool.true_and, pT, ef, cond_true, gOr, gAnd, gSum, gPro, tS_tS, seesP_eq Z_20 hN4 hS.2.1, nmP_eq Z_20 hN4 hS.2.1, nuP_eq Z_20 hN4 hS.2.1, whP_eq Z_20 hN4 hS.2.1] at g_7
      refine aw_istore_n (n := 24) (lv' := [(3, .int 0), (0, .ref b), (1, .int (nI a)), (2, .int (nI j))]) dX3_fronted_23 rfl (by decide) rfl rfl ?_
      refine aw_iload_n (n := 25) dX3_fronted_24 rfl 3 rfl rfl ?_
      refine aw_iconst (n := 26) (v := 4) dX3_fronted_25 (by decide) rfl ?_
      refine aw_icmp_ge (n := 29) (tgt := 33) dX3_fronted_26 (by decide) rfl (fun c_26 => ?_) (fun c_26 => ?_)
      · skip
        have n_26 : 4 ≤ j := (nI_leI (a := 4) (b := j) (by omega) (by omega)).mp (by rw [← ((by rfl) : (4 : Int32) = nI 4)]; exact c_26)
        refine aw_aload_n (n := 34) dX3_fronted_33 rfl 1 rfl rfl ?_
        refine aw_getf (n := 37) (v := .int (m_20.1 37)) (C0 := RX3) (T := TX3) dX3_fronted_34 rfl 37 q2678 (Or.inl rfl) hT_20.1 rfl rfl ?_
        refine aw_istore (n := 39) (lv' := [(4, .int (m_20.1 37)), (3, .int 0), (0, .ref b), (1, .int (nI a)), (2, .int (nI j))]) dX3_fronted_37 (by decide) rfl rfl ?_
        refine aw_iload_n (n := 40) dX3_fronted_39 rfl 4 rfl rfl ?_
        refine aw_iconst (n := 41) (v := 4) dX3_fronted_40 (by decide) rfl ?_
        refine aw_icmp_ge (n := 44) (tgt := 48) dX3_fronted_41 (by decide) rfl (fun c_41 => ?_) (fun c_41 => ?_)
        · skip
          have n_41 : 4 ≤ j := (nI_leI (a := 4) (b := j) (by omega) (by omega)).mp (by rw [← ((by rfl) : (4 : Int32) = nI 4)]; exact c_41)
          refine aw_aload_n (n := 49) dX3_fronted_48 rfl 2 rfl rfl ?_
          refine aw_getf (n := 52) (v := .int (m_20.1 38)) (C0 := RX3) (T := TX3) dX3_fronted_49 rfl 38 q2679 (Or.inl rfl) hT_20.1 rfl rfl ?_
          refine aw_istore (n := 54) (lv' := [(5, .int (m_20.1 38)), (4, .int (m_20.1 37)), (3, .int 0), (0, .ref b), (1, .int (nI a)), (2, .int (nI j))]) dX3_fronted_52 (by decide) rfl rfl ?_
          refine aw_iload_n (n := 55) dX3_fronted_54 rfl 2 rfl rfl ?_
          refine aw_if_ne (n := 58) (tgt := 63) dX3_fronted_55 (by decide) rfl (fun c_55 => ?_) (fun c_55 => ?_)
          · skip
            exact absurd c_55 (by decide +kernel)
          · skip
            refine aw_aload_n (n := 59) dX3_fronted_58 rfl 3 rfl rfl ?_
            obtain ⟨e_59, l_59, a_59, w_59, hR_59⟩ : ∃ (e8 l8 x8 : Nat) (w8 : tM), pX T true f 4 (d + 1) a_20 m_20 = (e8, l8, x8, w8) := ⟨_, _, _, _, rfl⟩
            have n1_59 : (pX T true f 4 (d + 1) a_20 m_20).1 ≠ 1 := pG_n g_7 h1 (by decide)
            have n9_59 : (pX T true f 4 (d + 1) a_20 m_20).1 ≠ 99 := pG_n g_7 h9 (by decide)
            have V_59 := (pX_inv T f 4 (d + 1) a_20 (B) m_20 (by omega) (by omega) (by omega) V_20.2.2.1).w (fun _ _ z => V_20.trW z)
            have Z_59 := pX_N (T := T) (N := N) (f := f) (nt := 4) (d := d + 1) (a := a_20) (m := m_20) hS.2.1 Z_20 (by omega)
            have U_59 := pX_inv T f 4 (d + 1) a_20 (B) m_20 (by omega) (by omega) (by omega) V_20.2.2.1
            rw [hR_59] at U_59
            rw [hR_59] at g_7 V_59 Z_59
            refine aw_callV (n := 62) (C0 := RX3) (As := []) (rest := []) (K2 := kX3_one) dX3_fronted_59 q2998 q3000 qs81 q113 q3001 ⟨rfl, hcX3_one⟩ rfl hT_20.1 (ih 4 h_20 b m_20 T N a_20 (d + 1) (B) (by decide) hb hT_20 (hS.kept V_20.2.2.2) hN4 Z_20 (by omega) (by omega) V_20.2.2.1 n1_59 n9_59) rfl (Nat.le_of_ble_eq_true rfl) ⟨by dsimp only [kX3_formula, kX3_row, kX3_since, kX3_one, kX3_expression, kX3_product, kX3_factor, kX3_fronted, kX3_compare, kX3_twoSided, kX3_braces, kX3_namedValue, kX3_bounds, kX3_sees, kX3_is, kX3_isName, kX3_which, kX3_numberOf, kX3_find, kX3_node, kX3_wrong, kJ12_length, meK]; omega, by dsimp only [kX3_formula, kX3_row, kX3_since, kX3_one, kX3_expression, kX3_product, kX3_factor, kX3_fronted, kX3_compare, kX3_twoSided, kX3_braces, kX3_namedValue, kX3_bounds, kX3_sees, kX3_is, kX3_isName, kX3_which, kX3_numberOf, kX3_find, kX3_node, kX3_wrong, kJ12_length, meK]; omega⟩ ⟨Nat.zero_le _, Nat.zero_le _⟩ (fun _ _ _ z => z.elim) rfl (fun r_59 h_59 q_59 => ?_)
            obtain ⟨m_59, rfl, hT_59, hF_59, hz_59, ok_59, er_59⟩ := q_59
            rw [hR_59] at ok_59 er_59
            dsimp only at ok_59 er_59
            have hG_59 := Fr.trans hG_20 hF_59
            rcases Nat.eq_zero_or_pos e_59 with y_59 | y_59
            · skip
              subst y_59
              have x_59 := ok_59 rfl
              subst x_59
              refine AW.sts (st' := [.int 0]) (by rw [hR_59]; rfl) ?_
              replace V_59 := V_59 rfl
              replace Z_59 := Z_59 rfl
              dsimp only at V_59 Z_59
              replace U_59 := U_59 rfl
              dsimp only at U_59
              have lt_59 : nN (m_59.1 17) < 1203 := by have := V_59.2.2.1; have := V_59.1.2.2.1.2.2.1; have := V_59.1.2.1; omega
              have g_9 := pG_o g_7
              try dsimp only at g_9
              have tk_10 := (hS.kept V_59.1.2.2.2).1 a_59 Z_59; have Ktk_10 := tk_10.2.1
              try simp only [Bool.true_and, pT, ef, cond_true, gOr, gAnd, gSum, gPro, tS_tS, seesP_eq Z_59 hN4 hS.2.1, nmP_eq Z_59 hN4 hS.2.1, nuP_eq Z_59 hN4 hS.2.1, whP_eq Z_59 hN4 hS.2.1] at g_9
              refine aw_istore_n (n := 63) (lv' := [(3, .int 0), (5, .int (m_20.1 38)), (4, .int (m_20.1 37)), (0, .ref b), (1, .int (nI a)), (2, .int (nI j))]) dX3_fronted_62 rfl (by decide) rfl rfl ?_
              refine aw_iload_n (n := 64) dX3_fronted_63 rfl 0 rfl rfl ?_
              refine aw_if_eq (n := 67) (tgt := 69) dX3_fronted_64 (by decide) rfl (fun c_64 => ?_) (fun c_64 => ?_)
              · skip
                refine aw_aload_n (n := 70) dX3_fronted_69 rfl 3 rfl rfl ?_
                refine aw_iload_n (n := 71) dX3_fronted_70 rfl 5 rfl rfl ?_
                refine aw_aload_n (n := 72) dX3_fronted_71 rfl 3 rfl rfl ?_
                refine aw_getf (n := 75) (v := .int (m_59.1 17)) (C0 := RX3) (T := TX3) dX3_fronted_72 rfl 17 q2658 (Or.inl rfl) hT_59.1 rfl rfl ?_
                refine aw_iconst (n := 76) (v := (-1)) dX3_fronted_75 (by decide) rfl ?_
                refine aw_iconst (n := 77) (v := (-1)) dX3_fronted_76 (by decide) rfl ?_
                refine aw_aload_n (n := 78) dX3_fronted_77 rfl 3 rfl rfl ?_
                refine aw_getf (n := 81) (v := .ref (b + 3)) (C0 := RX3) (T := TX3) dX3_fronted_78 rfl 5 q2646 (Or.inl rfl) hT_59.1 rfl rfl ?_
                refine aw_iload_n (n := 82) dX3_fronted_81 rfl 4 rfl rfl ?_
                refine aw_iald (n := 83) (v := .int (m_59.2.1 5 a)) dX3_fronted_82 rfl a rfl hT_59.a5 (by omega) (by decide) rfl rfl ?_
                have nlt_83 : nn m_59 < 1203 := Nat.lt_of_le_of_lt V_59.1.2.2.1.2.2.1 (by have := V_59.1.2.1; omega)
                refine AW.sts (st' := [.int (frmI T a), .int (-1), .int (-1), .int (m_59.1 17), .int (nI j), .ref b]) (by rw [show m_59.2.1 5 a = frmI T a from ((hS.kept V_59.1.2.2.2).1 a hN).2.2.2.1]) ?_
                refine aw_callV (n := 86) (C0 := RX3) (As := [.int (nI j), .int (m_59.1 17), .int (-1), .int (-1), .int (frmI T a)]) (rest := []) (K2 := kX3_node) dX3_fronted_83 q2974 q2976 qs75 q113 q2977 ⟨rfl, hcX3_node⟩ rfl hT_59.1 (ct_node G h_59 b m_59 hb hT_59 (nI j) (m_59.1 17) ((-1) : Int32) ((-1) : Int32) (frmI T a) V_59.1.2.2.1.2.1 (by have := V_59.1.2.2.1.2.2.1; have := V_59.1.2.1; omega)) rfl (Nat.le_of_ble_eq_true rfl) ⟨by dsimp only [kX3_formula, kX3_row, kX3_since, kX3_one, kX3_expression, kX3_product, kX3_factor, kX3_fronted, kX3_compare, kX3_twoSided, kX3_braces, kX3_namedValue, kX3_bounds, kX3_sees, kX3_is, kX3_isName, kX3_which, kX3_numberOf, kX3_find, kX3_node, kX3_wrong, kJ12_length, meK]; omega, by dsimp only [kX3_formula, kX3_row, kX3_since, kX3_one, kX3_expression, kX3_product, kX3_factor, kX3_fronted, kX3_compare, kX3_twoSided, kX3_braces, kX3_namedValue, kX3_bounds, kX3_sees, kX3_is, kX3_isName, kX3_which, kX3_numberOf, kX3_find, kX3_node, kX3_wrong, kJ12_length, meK]; omega⟩ ⟨Nat.zero_le _, Nat.zero_le _⟩ (fun _ _ _ z => z.elim) rfl (fun r_83 h_83 q_83 => ?_)
                obtain ⟨rfl, hT_83, hF_83, hz_83⟩ := q_83
                have hG_83 := Fr.trans hG_59 hF_83
                refine AW.sts (st' := [.int 0]) rfl ?_
                refine aw_pop (n := 87) dX3_fronted_86 rfl rfl ?_
                refine aw_aload_n (n := 88) dX3_fronted_87 rfl 3 rfl rfl ?_
                refine aw_getf (n := 91) (v := .ref (b + 9)) (C0 := RX3) (T := TX3) dX3_fronted_88 rfl 13 q2654 (Or.inl rfl) hT_83.1 rfl rfl ?_
                refine aw_aload_n (n := 92) dX3_fronted_91 rfl 3 rfl rfl ?_
                refine aw_getf (n := 95) (v := .int ((nodT m_59 (nI j) (m_59.1 17) ((-1) : Int32) ((-1) : Int32) (frmI T a)).1 17)) (C0 := RX3) (T := TX3) dX3_fronted_92 rfl 17 q2658 (Or.inl rfl) hT_83.1 rfl rfl ?_
                refine aw_iload (n := 97) dX3_fronted_95 2 rfl rfl ?_
                refine aw_tiast (n := 98) dX3_fronted_97 TW.m13 hT_83 hb (nn m_59) V_59.1.2.2.1.2.1 (by omega) (by decide) rfl (fun h_11 hT_11 hF_11 hz_11 => ?_)
                have hG_11 := Fr.trans hG_83 hF_11
                refine aw_aload_n (n := 99) dX3_fronted_98 rfl 3 rfl rfl ?_
                refine aw_getf (n := 102) (v := .ref (b + 10)) (C0 := RX3) (T := TX3) dX3_fronted_99 rfl 14 q2655 (Or.inl rfl) hT_11.1 rfl rfl ?_
                refine aw_aload_n (n := 103) dX3_fronted_102 rfl 3 rfl rfl ?_
                refine aw_getf (n := 106) (v := .int ((nodT m_59 (nI j) (m_59.1 17) ((-1) : Int32) ((-1) : Int32) (frmI T a)).1 17)) (C0 := RX3) (T := TX3) dX3_fronted_103 rfl 17 q2658 (Or.inl rfl) hT_11.1 rfl rfl ?_
                refine aw_iload (n := 108) dX3_fronted_106 1 rfl rfl ?_
                refine aw_tiast (n := 109) dX3_fronted_108 TW.m14 hT_11 hb (nn m_59) V_59.1.2.2.1.2.1 (by omega) (by decide) rfl (fun h_12 hT_12 hF_12 hz_12 => ?_)
                have hG_12 := Fr.trans hG_11 hF_12
                refine aw_iconst (n := 110) (v := 0) dX3_fronted_109 (by decide) rfl ?_
                exact aw_iret dX3_fronted_110 rfl ⟨tI (tI (nodT m_59 (nI j) (m_59.1 17) ((-1) : Int32) ((-1) : Int32) (frmI T a)) 13 (nn m_59) (m_20.1 37)) 14 (nn m_59) (m_20.1 38), by rw [g_9] <;> rfl, hT_12, hG_12, (by omega), fun _ => by rw [g_9] <;> rfl, fun z => absurd (by rw [g_9] <;> rfl) z⟩ ⟨Nat.zero_le _, Nat.zero_le _⟩
              · skip
                exact absurd c_64 (by decide +kernel)
            · skip
              refine AW.sts (st' := [.int (nI e_59)]) (by rw [hR_59]; rfl) ?_
              have gE_59 : W9 = (e_59, l_59, a_59, w_59) := pG_er g_7 (by omega)
              replace er_59 := er_59 (by omega)
              have E_59 := mE.tr V_20.2.2.2 er_59.1
              have P_59 := er_59.2.1
              refine aw_istore_n (n := 63) (lv' := [(3, .int (nI e_59)), (5, .int (m_20.1 38)), (4, .int (m_20.1 37)), (0, .ref b), (1, .int (nI a)), (2, .int (nI j))]) dX3_fronted_62 rfl (by decide) rfl rfl ?_
              refine aw_iload_n (n := 64) dX3_fronted_63 rfl 0 rfl rfl ?_
              refine aw_if_eq (n := 67) (tgt := 69) dX3_fronted_64 (by decide) rfl (fun c_64_2 => ?_) (fun c_64_2 => ?_)
              · skip
                have n_64_2 : e_59 = 0 := (nI_eq (a := e_59) (b := 0) (by omega) (by omega)).mp (by rw [← ((by rfl) : (0 : Int32) = nI 0)]; exact c_64_2)
                exact absurd n_64_2 (by omega)
              · skip
                have n_64_2 : ¬ (e_59 = 0) := fun z => c_64_2 (by have y := (nI_eq (a := e_59) (b := 0) (by omega) (by omega)).mpr z; rw [← ((by rfl) : (0 : Int32) = nI 0)] at y; exact y)
                refine aw_iload_n (n := 68) dX3_fronted_67 rfl 0 rfl rfl ?_
                exact aw_iret dX3_fronted_68 rfl ⟨m_59, by rw [gE_59], hT_59, hG_59, (by omega), fun z => absurd z (by rw [gE_59]; show e_59 ≠ 0; omega), fun _ => ⟨E_59, by rw [gE_59]; exact P_59, by rw [gE_59]; exact er_59.2.2⟩⟩ ⟨Nat.zero_le _, Nat.zero_le _⟩
        · skip
          have n_41 : ¬ (4 ≤ j) := fun z => c_41 (by have y := (nI_leI (a := 4) (b := j) (by omega) (by omega)).mpr z; rw [← ((by rfl) : (4 : Int32) = nI 4)] at y; exact y)
          exfalso; omega
      · skip
        have n_26 : ¬ (4 ≤ j) := fun z => c_26 (by have y := (nI_leI (a := 4) (b := j) (by omega) (by omega)).mpr z; rw [← ((by rfl) : (4 : Int32) = nI 4)] at y; exact y)
        exfalso; omega
    · skip
      refine AW.sts (st' := [.int (nI e_20)]) (by rw [hR_20]; rfl) ?_
      have gE_20 : W9 = (e_20, l_20, a_20, w_20) := pG_er g_6 (by omega)
      replace er_20 := er_20 (by omega)
      have E_20 := mE.tr I_4.2.2.2 er_20.1
      have P_20 := er_20.2.1
      refine aw_istore_n (n := 24) (lv' := [(3, .int (nI e_20)), (0, .ref b), (1, .int (nI a)), (2, .int (nI j))]) dX3_fronted_23 rfl (by decide) rfl rfl ?_
      refine aw_iload_n (n := 25) dX3_fronted_24 rfl 3 rfl rfl ?_
      refine aw_iconst (n := 26) (v := 4) dX3_fronted_25 (by decide) rfl ?_
      refine aw_icmp_ge (n := 29) (tgt := 33) dX3_fronted_26 (by decide) rfl (fun c_26_2 => ?_) (fun c_26_2 => ?_)
      · skip
        have n_26_2 : 4 ≤ j := (nI_leI (a := 4) (b := j) (by omega) (by omega)).mp (by rw [← ((by rfl) : (4 : Int32) = nI 4)]; exact c_26_2)
        refine aw_aload_n (n := 34) dX3_fronted_33 rfl 1 rfl rfl ?_
        refine aw_getf (n := 37) (v := .int (m_20.1 37)) (C0 := RX3) (T := TX3) dX3_fronted_34 rfl 37 q2678 (Or.inl rfl) hT_20.1 rfl rfl ?_
        refine aw_istore (n := 39) (lv' := [(4, .int (m_20.1 37)), (3, .int (nI e_20)), (0, .ref b), (1, .int (nI a)), (2, .int (nI j))]) dX3_fronted_37 (by decide) rfl rfl ?_
        refine aw_iload_n (n := 40) dX3_fronted_39 rfl 4 rfl rfl ?_
        refine aw_iconst (n := 41) (v := 4) dX3_fronted_40 (by decide) rfl ?_
        refine aw_icmp_ge (n := 44) (tgt := 48) dX3_fronted_41 (by decide) rfl (fun c_41_2 => ?_) (fun c_41_2 => ?_)
        · skip
          have n_41_2 : 4 ≤ j := (nI_leI (a := 4) (b := j) (by omega) (by omega)).mp (by rw [← ((by rfl) : (4 : Int32) = nI 4)]; exact c_41_2)
          refine aw_aload_n (n := 49) dX3_fronted_48 rfl 2 rfl rfl ?_
          refine aw_getf (n := 52) (v := .int (m_20.1 38)) (C0 := RX3) (T := TX3) dX3_fronted_49 rfl 38 q2679 (Or.inl rfl) hT_20.1 rfl rfl ?_
          refine aw_istore (n := 54) (lv' := [(5, .int (m_20.1 38)), (4, .int (m_20.1 37)), (3, .int (nI e_20)), (0, .ref b), (1, .int (nI a)), (2, .int (nI j))]) dX3_fronted_52 (by decide) rfl rfl ?_
          refine aw_iload_n (n := 55) dX3_fronted_54 rfl 2 rfl rfl ?_
          refine aw_if_ne (n := 58) (tgt := 63) dX3_fronted_55 (by decide) rfl (fun c_55_2 => ?_) (fun c_55_2 => ?_)
          · skip
            have n_55_2 : ¬ (e_20 = 0) := fun z => c_55_2 (by have y := (nI_eq (a := e_20) (b := 0) (by omega) (by omega)).mpr z; rw [← ((by rfl) : (0 : Int32) = nI 0)] at y; exact y)
            refine aw_iload_n (n := 64) dX3_fronted_63 rfl 2 rfl rfl ?_
            refine aw_if_eq (n := 67) (tgt := 69) dX3_fronted_64 (by decide) rfl (fun c_64_3 => ?_) (fun c_64_3 => ?_)
            · skip
              have n_64_3 : e_20 = 0 := (nI_eq (a := e_20) (b := 0) (by omega) (by omega)).mp (by rw [← ((by rfl) : (0 : Int32) = nI 0)]; exact c_64_3)
              exact absurd n_64_3 (by omega)
            · skip
              have n_64_3 : ¬ (e_20 = 0) := fun z => c_64_3 (by have y := (nI_eq (a := e_20) (b := 0) (by omega) (by omega)).mpr z; rw [← ((by rfl) : (0 : Int32) = nI 0)] at y; exact y)
              refine aw_iload_n (n := 68) dX3_fronted_67 rfl 2 rfl rfl ?_
              exact aw_iret dX3_fronted_68 rfl ⟨m_20, by rw [gE_20], hT_20, hG_20, (by omega), fun z => absurd z (by rw [gE_20]; show e_20 ≠ 0; omega), fun _ => ⟨E_20, by rw [gE_20]; exact P_20, by rw [gE_20]; exact er_20.2.2⟩⟩ ⟨Nat.zero_le _, Nat.zero_le _⟩
          · skip
            have n_55_2 : e_20 = 0 := (nI_eq (a := e_20) (b := 0) (by omega) (by omega)).mp (by rw [← ((by rfl) : (0 : Int32) = nI 0)]; exact c_55_2)
            exact absurd n_55_2 (by omega)
        · skip
          have n_41_2 : ¬ (4 ≤ j) := fun z => c_41_2 (by have y := (nI_leI (a := 4) (b := j) (by omega) (by omega)).mpr z; rw [← ((by rfl) : (4 : Int32) = nI 4)] at y; exact y)
          refine aw_iconst (n := 45) (v := (-1)) dX3_fronted_44 (by decide) rfl ?_
          refine aw_goto (tgt := 52) dX3_fronted_45 (by decide) ?_
          refine aw_istore (n := 54) (lv' := [(5, .int (-1)), (4, .int (m_20.1 37)), (3, .int (nI e_20)), (0, .ref b), (1, .int (nI a)), (2, .int (nI j))]) dX3_fronted_52 (by decide) rfl rfl ?_
          refine aw_iload_n (n := 55) dX3_fronted_54 rfl 2 rfl rfl ?_
          refine aw_if_ne (n := 58) (tgt := 63) dX3_fronted_55 (by decide) rfl (fun c_55_3 => ?_) (fun c_55_3 => ?_)
          · skip
            have n_55_3 : ¬ (e_20 = 0) := fun z => c_55_3 (by have y := (nI_eq (a := e_20) (b := 0) (by omega) (by omega)).mpr z; rw [← ((by rfl) : (0 : Int32) = nI 0)] at y; exact y)
            refine aw_iload_n (n := 64) dX3_fronted_63 rfl 2 rfl rfl ?_
            refine aw_if_eq (n := 67) (tgt := 69) dX3_fronted_64 (by decide) rfl (fun c_64_4 => ?_) (fun c_64_4 => ?_)
            · skip
              have n_64_4 : e_20 = 0 := (nI_eq (a := e_20) (b := 0) (by omega) (by omega)).mp (by rw [← ((by rfl) : (0 : Int32) = nI 0)]; exact c_64_4)
              exact absurd n_64_4 (by omega)
            · skip
              have n_64_4 : ¬ (e_20 = 0) := fun z => c_64_4 (by have y := (nI_eq (a := e_20) (b := 0) (by omega) (by omega)).mpr z; rw [← ((by rfl) : (0 : Int32) = nI 0)] at y; exact y)
              refine aw_iload_n (n := 68) dX3_fronted_67 rfl 2 rfl rfl ?_
              exact aw_iret dX3_fronted_68 rfl ⟨m_20, by rw [gE_20], hT_20, hG_20, (by omega), fun z => absurd z (by rw [gE_20]; show e_20 ≠ 0; omega), fun _ => ⟨E_20, by rw [gE_20]; exact P_20, by rw [gE_20]; exact er_20.2.2⟩⟩ ⟨Nat.zero_le _, Nat.zero_le _⟩
          · skip
            have n_55_3 : e_20 = 0 := (nI_eq (a := e_20) (b := 0) (by omega) (by omega)).mp (by rw [← ((by rfl) : (0 : Int32) = nI 0)]; exact c_55_3)
            exact absurd n_55_3 (by omega)
      · skip
        have n_26_2 : ¬ (4 ≤ j) := fun z => c_26_2 (by have y := (nI_leI (a := 4) (b := j) (by omega) (by omega)).mpr z; rw [← ((by rfl) : (4 : Int32) = nI 4)] at y; exact y)
        refine aw_iconst (n := 30) (v := 0) dX3_fronted_29 (by decide) rfl ?_
        refine aw_goto (tgt := 37) dX3_fronted_30 (by decide) ?_
        refine aw_istore (n := 39) (lv' := [(4, .int 0), (3, .int (nI e_20)), (0, .ref b), (1, .int (nI a)), (2, .int (nI j))]) dX3_fronted_37 (by decide) rfl rfl ?_
        refine aw_iload_n (n := 40) dX3_fronted_39 rfl 4 rfl rfl ?_
        refine aw_iconst (n := 41) (v := 4) dX3_fronted_40 (by decide) rfl ?_
        refine aw_icmp_ge (n := 44) (tgt := 48) dX3_fronted_41 (by decide) rfl (fun c_41_3 => ?_) (fun c_41_3 => ?_)
        · skip
          have n_41_3 : 4 ≤ j := (nI_leI (a := 4) (b := j) (by omega) (by omega)).mp (by rw [← ((by rfl) : (4 : Int32) = nI 4)]; exact c_41_3)
          refine aw_aload_n (n := 49) dX3_fronted_48 rfl 2 rfl rfl ?_
          refine aw_getf (n := 52) (v := .int (m_20.1 38)) (C0 := RX3) (T := TX3) dX3_fronted_49 rfl 38 q2679 (Or.inl rfl) hT_20.1 rfl rfl ?_
          refine aw_istore (n := 54) (lv' := [(5, .int (m_20.1 38)), (4, .int 0), (3, .int (nI e_20)), (0, .ref b), (1, .int (nI a)), (2, .int (nI j))]) dX3_fronted_52 (by decide) rfl rfl ?_
          refine aw_iload_n (n := 55) dX3_fronted_54 rfl 2 rfl rfl ?_
          refine aw_if_ne (n := 58) (tgt := 63) dX3_fronted_55 (by decide) rfl (fun c_55_4 => ?_) (fun c_55_4 => ?_)
          · skip
            have n_55_4 : ¬ (e_20 = 0) := fun z => c_55_4 (by have y := (nI_eq (a := e_20) (b := 0) (by omega) (by omega)).mpr z; rw [← ((by rfl) : (0 : Int32) = nI 0)] at y; exact y)
            refine aw_iload_n (n := 64) dX3_fronted_63 rfl 2 rfl rfl ?_
            refine aw_if_eq (n := 67) (tgt := 69) dX3_fronted_64 (by decide) rfl (fun c_64_5 => ?_) (fun c_64_5 => ?_)
            · skip
              have n_64_5 : e_20 = 0 := (nI_eq (a := e_20) (b := 0) (by omega) (by omega)).mp (by rw [← ((by rfl) : (0 : Int32) = nI 0)]; exact c_64_5)
              exact absurd n_64_5 (by omega)
            · skip
              have n_64_5 : ¬ (e_20 = 0) := fun z => c_64_5 (by have y := (nI_eq (a := e_20) (b := 0) (by omega) (by omega)).mpr z; rw [← ((by rfl) : (0 : Int32) = nI 0)] at y; exact y)
              refine aw_iload_n (n := 68) dX3_fronted_67 rfl 2 rfl rfl ?_
              exact aw_iret dX3_fronted_68 rfl ⟨m_20, by rw [gE_20], hT_20, hG_20, (by omega), fun z => absurd z (by rw [gE_20]; show e_20 ≠ 0; omega), fun _ => ⟨E_20, by rw [gE_20]; exact P_20, by rw [gE_20]; exact er_20.2.2⟩⟩ ⟨Nat.zero_le _, Nat.zero_le _⟩
          · skip
            have n_55_4 : e_20 = 0 := (nI_eq (a := e_20) (b := 0) (by omega) (by omega)).mp (by rw [← ((by rfl) : (0 : Int32) = nI 0)]; exact c_55_4)
            exact absurd n_55_4 (by omega)
        · skip
          have n_41_3 : ¬ (4 ≤ j) := fun z => c_41_3 (by have y := (nI_leI (a := 4) (b := j) (by omega) (by omega)).mpr z; rw [← ((by rfl) : (4 : Int32) = nI 4)] at y; exact y)
          refine aw_iconst (n := 45) (v := (-1)) dX3_fronted_44 (by decide) rfl ?_
          refine aw_goto (tgt := 52) dX3_fronted_45 (by decide) ?_
          refine aw_istore (n := 54) (lv' := [(5, .int (-1)), (4, .int 0), (3, .int (nI e_20)), (0, .ref b), (1, .int (nI a)), (2, .int (nI j))]) dX3_fronted_52 (by decide) rfl rfl ?_
          refine aw_iload_n (n := 55) dX3_fronted_54 rfl 2 rfl rfl ?_
          refine aw_if_ne (n := 58) (tgt := 63) dX3_fronted_55 (by decide) rfl (fun c_55_5 => ?_) (fun c_55_5 => ?_)
          · skip
            have n_55_5 : ¬ (e_20 = 0) := fun z => c_55_5 (by have y := (nI_eq (a := e_20) (b := 0) (by omega) (by omega)).mpr z; rw [← ((by rfl) : (0 : Int32) = nI 0)] at y; exact y)
            refine aw_iload_n (n := 64) dX3_fronted_63 rfl 2 rfl rfl ?_
            refine aw_if_eq (n := 67) (tgt := 69) dX3_fronted_64 (by decide) rfl (fun c_64_6 => ?_) (fun c_64_6 => ?_)
            · skip
              have n_64_6 : e_20 = 0 := (nI_eq (a := e_20) (b := 0) (by omega) (by omega)).mp (by rw [← ((by rfl) : (0 : Int32) = nI 0)]; exact c_64_6)
              exact absurd n_64_6 (by omega)
            · skip
              have n_64_6 : ¬ (e_20 = 0) := fun z => c_64_6 (by have y := (nI_eq (a := e_20) (b := 0) (by omega) (by omega)).mpr z; rw [← ((by rfl) : (0 : Int32) = nI 0)] at y; exact y)
              refine aw_iload_n (n := 68) dX3_fronted_67 rfl 2 rfl rfl ?_
              exact aw_iret dX3_fronted_68 rfl ⟨m_20, by rw [gE_20], hT_20, hG_20, (by omega), fun z => absurd z (by rw [gE_20]; show e_20 ≠ 0; omega), fun _ => ⟨E_20, by rw [gE_20]; exact P_20, by rw [gE_20]; exact er_20.2.2⟩⟩ ⟨Nat.zero_le _, Nat.zero_le _⟩
          · skip
            have n_55_5 : e_20 = 0 := (nI_eq (a := e_20) (b := 0) (by omega) (by omega)).mp (by rw [← ((by rfl) : (0 : Int32) = nI 0)]; exact c_55_5)
            exact absurd n_55_5 (by omega)
  · skip
    have n_12 : ¬ (4 ≤ j) := fun z => c_12 (by have y := (nI_leI (a := 4) (b := j) (by omega) (by omega)).mpr z; rw [← ((by rfl) : (4 : Int32) = nI 4)] at y; exact y)
    have f_12 : decide (nI j < 4) = true := decide_eq_true (Int32.not_le.mp c_12)
    have g_13 := pG_bT hg0 (by first | assumption | simp [f_12])
    try dsimp only at g_13
    have g_14 := pG_o g_13
    try dsimp only at g_14
    have f4 : (nI j < 4) := Int32.not_le.mp c_12
    simp only [if_pos f4] at g_14
    refine aw_iconst (n := 16) (v := 0) dX3_fronted_15 (by decide) rfl ?_
    refine aw_goto (tgt := 23) dX3_fronted_16 (by decide) ?_
    refine aw_istore_n (n := 24) (lv' := [(3, .int 0), (0, .ref b), (1, .int (nI a)), (2, .int (nI j))]) dX3_fronted_23 rfl (by decide) rfl rfl ?_
    refine aw_iload_n (n := 25) dX3_fronted_24 rfl 3 rfl rfl ?_
    refine aw_iconst (n := 26) (v := 4) dX3_fronted_25 (by decide) rfl ?_
    refine aw_icmp_ge (n := 29) (tgt := 33) dX3_fronted_26 (by decide) rfl (fun c_26_3 => ?_) (fun c_26_3 => ?_)
    · skip
      have n_26_3 : 4 ≤ j := (nI_leI (a := 4) (b := j) (by omega) (by omega)).mp (by rw [← ((by rfl) : (4 : Int32) = nI 4)]; exact c_26_3)
      exfalso; omega
    · skip
      have n_26_3 : ¬ (4 ≤ j) := fun z => c_26_3 (by have y := (nI_leI (a := 4) (b := j) (by omega) (by omega)).mpr z; rw [← ((by rfl) : (4 : Int32) = nI 4)] at y; exact y)
      refine aw_iconst (n := 30) (v := 0) dX3_fronted_29 (by decide) rfl ?_
      refine aw_goto (tgt := 37) dX3_fronted_30 (by decide) ?_
      refine aw_istore (n := 39) (lv' := [(4, .int 0), (3, .int 0), (0, .ref b), (1, .int (nI a)), (2, .int (nI j))]) dX3_fronted_37 (by decide) rfl rfl ?_
      refine aw_iload_n (n := 40) dX3_fronted_39 rfl 4 rfl rfl ?_
      refine aw_iconst (n := 41) (v := 4) dX3_fronted_40 (by decide) rfl ?_
      refine aw_icmp_ge (n := 44) (tgt := 48) dX3_fronted_41 (by decide) rfl (fun c_41_4 => ?_) (fun c_41_4 => ?_)
      · skip
        have n_41_4 : 4 ≤ j := (nI_leI (a := 4) (b := j) (by omega) (by omega)).mp (by rw [← ((by rfl) : (4 : Int32) = nI 4)]; exact c_41_4)
        exfalso; omega
      · skip
        have n_41_4 : ¬ (4 ≤ j) := fun z => c_41_4 (by have y := (nI_leI (a := 4) (b := j) (by omega) (by omega)).mpr z; rw [← ((by rfl) : (4 : Int32) = nI 4)] at y; exact y)
        refine aw_iconst (n := 45) (v := (-1)) dX3_fronted_44 (by decide) rfl ?_
        refine aw_goto (tgt := 52) dX3_fronted_45 (by decide) ?_
        refine aw_istore (n := 54) (lv' := [(5, .int (-1)), (4, .int 0), (3, .int 0), (0, .ref b), (1, .int (nI a)), (2, .int (nI j))]) dX3_fronted_52 (by decide) rfl rfl ?_
        refine aw_iload_n (n := 55) dX3_fronted_54 rfl 2 rfl rfl ?_
        refine aw_if_ne (n := 58) (tgt := 63) dX3_fronted_55 (by decide) rfl (fun c_55_6 => ?_) (fun c_55_6 => ?_)
        · skip
          exact absurd c_55_6 (by decide +kernel)
        · skip
          refine aw_aload_n (n := 59) dX3_fronted_58 rfl 3 rfl rfl ?_
          obtain ⟨e_59, l_59, a_59, w_59, hR_59⟩ : ∃ (e8 l8 x8 : Nat) (w8 : tM), pX T true f 4 (d + 1) (a + 1) (tS ms 7 (nI (a + 1))) = (e8, l8, x8, w8) := ⟨_, _, _, _, rfl⟩
          have n1_59 : (pX T true f 4 (d + 1) (a + 1) (tS ms 7 (nI (a + 1)))).1 ≠ 1 := pG_n g_14 h1 (by decide)
          have n9_59 : (pX T true f 4 (d + 1) (a + 1) (tS ms 7 (nI (a + 1)))).1 ≠ 99 := pG_n g_14 h9 (by decide)
          have V_59 := (pX_inv T f 4 (d + 1) (a + 1) (B) (tS ms 7 (nI (a + 1))) (by omega) (by omega) (by omega) I_4.2.2.1).w (fun _ _ z => I_4.trW z)
          have Z_59 := pX_N (T := T) (N := N) (f := f) (nt := 4) (d := d + 1) (a := a + 1) (m := tS ms 7 (nI (a + 1))) hS.2.1 N_3 (by omega)
          have U_59 := pX_inv T f 4 (d + 1) (a + 1) (B) (tS ms 7 (nI (a + 1))) (by omega) (by omega) (by omega) I_4.2.2.1
          rw [hR_59] at U_59
          rw [hR_59] at g_14 V_59 Z_59
          refine aw_callV (n := 62) (C0 := RX3) (As := []) (rest := []) (K2 := kX3_one) dX3_fronted_59 q2998 q3000 qs81 q113 q3001 ⟨rfl, hcX3_one⟩ rfl hT_2.1 (ih 4 h_2 b (tS ms 7 (nI (a + 1))) T N (a + 1) (d + 1) (B) (by decide) hb hT_2 (hS.kept I_4.2.2.2) hN4 N_3 (by omega) (by omega) I_4.2.2.1 n1_59 n9_59) rfl (Nat.le_of_ble_eq_true rfl) ⟨by dsimp only [kX3_formula, kX3_row, kX3_since, kX3_one, kX3_expression, kX3_product, kX3_factor, kX3_fronted, kX3_compare, kX3_twoSided, kX3_braces, kX3_namedValue, kX3_bounds, kX3_sees, kX3_is, kX3_isName, kX3_which, kX3_numberOf, kX3_find, kX3_node, kX3_wrong, kJ12_length, meK]; omega, by dsimp only [kX3_formula, kX3_row, kX3_since, kX3_one, kX3_expression, kX3_product, kX3_factor, kX3_fronted, kX3_compare, kX3_twoSided, kX3_braces, kX3_namedValue, kX3_bounds, kX3_sees, kX3_is, kX3_isName, kX3_which, kX3_numberOf, kX3_find, kX3_node, kX3_wrong, kJ12_length, meK]; omega⟩ ⟨Nat.zero_le _, Nat.zero_le _⟩ (fun _ _ _ z => z.elim) rfl (fun r_59 h_59 q_59 => ?_)
          obtain ⟨m_59, rfl, hT_59, hF_59, hz_59, ok_59, er_59⟩ := q_59
          rw [hR_59] at ok_59 er_59
          dsimp only at ok_59 er_59
          have hG_59 := Fr.trans hF_2 hF_59
          rcases Nat.eq_zero_or_pos e_59 with y_59 | y_59
          · skip
            subst y_59
            have x_59 := ok_59 rfl
            subst x_59
            refine AW.sts (st' := [.int 0]) (by rw [hR_59]; rfl) ?_
            replace V_59 := V_59 rfl
            replace Z_59 := Z_59 rfl
            dsimp only at V_59 Z_59
            replace U_59 := U_59 rfl
            dsimp only at U_59
            have lt_59 : nN (m_59.1 17) < 1203 := by have := V_59.2.2.1; have := V_59.1.2.2.1.2.2.1; have := V_59.1.2.1; omega
            have g_15 := pG_o g_14
            try dsimp only at g_15
            have tk_16 := (hS.kept V_59.1.2.2.2).1 a_59 Z_59; have Ktk_16 := tk_16.2.1
            try simp only [Bool.true_and, pT, ef, cond_true, gOr, gAnd, gSum, gPro, tS_tS, seesP_eq Z_59 hN4 hS.2.1, nmP_eq Z_59 hN4 hS.2.1, nuP_eq Z_59 hN4 hS.2.1, whP_eq Z_59 hN4 hS.2.1] at g_15
            refine aw_istore_n (n := 63) (lv' := [(3, .int 0), (5, .int (-1)), (4, .int 0), (0, .ref b), (1, .int (nI a)), (2, .int (nI j))]) dX3_fronted_62 rfl (by decide) rfl rfl ?_
            refine aw_iload_n (n := 64) dX3_fronted_63 rfl 0 rfl rfl ?_
            refine aw_if_eq (n := 67) (tgt := 69) dX3_fronted_64 (by decide) rfl (fun c_64_7 => ?_) (fun c_64_7 => ?_)
            · skip
              refine aw_aload_n (n := 70) dX3_fronted_69 rfl 3 rfl rfl ?_
              refine aw_iload_n (n := 71) dX3_fronted_70 rfl 5 rfl rfl ?_
              refine aw_aload_n (n := 72) dX3_fronted_71 rfl 3 rfl rfl ?_
              refine aw_getf (n := 75) (v := .int (m_59.1 17)) (C0 := RX3) (T := TX3) dX3_fronted_72 rfl 17 q2658 (Or.inl rfl) hT_59.1 rfl rfl ?_
              refine aw_iconst (n := 76) (v := (-1)) dX3_fronted_75 (by decide) rfl ?_
              refine aw_iconst (n := 77) (v := (-1)) dX3_fronted_76 (by decide) rfl ?_
              refine aw_aload_n (n := 78) dX3_fronted_77 rfl 3 rfl rfl ?_
              refine aw_getf (n := 81) (v := .ref (b + 3)) (C0 := RX3) (T := TX3) dX3_fronted_78 rfl 5 q2646 (Or.inl rfl) hT_59.1 rfl rfl ?_
              refine aw_iload_n (n := 82) dX3_fronted_81 rfl 4 rfl rfl ?_
              refine aw_iald (n := 83) (v := .int (m_59.2.1 5 a)) dX3_fronted_82 rfl a rfl hT_59.a5 (by omega) (by decide) rfl rfl ?_
              have nlt_83 : nn m_59 < 1203 := Nat.lt_of_le_of_lt V_59.1.2.2.1.2.2.1 (by have := V_59.1.2.1; omega)
              refine AW.sts (st' := [.int (frmI T a), .int (-1), .int (-1), .int (m_59.1 17), .int (nI j), .ref b]) (by rw [show m_59.2.1 5 a = frmI T a from ((hS.kept V_59.1.2.2.2).1 a hN).2.2.2.1]) ?_
              refine aw_callV (n := 86) (C0 := RX3) (As := [.int (nI j), .int (m_59.1 17), .int (-1), .int (-1), .int (frmI T a)]) (rest := []) (K2 := kX3_node) dX3_fronted_83 q2974 q2976 qs75 q113 q2977 ⟨rfl, hcX3_node⟩ rfl hT_59.1 (ct_node G h_59 b m_59 hb hT_59 (nI j) (m_59.1 17) ((-1) : Int32) ((-1) : Int32) (frmI T a) V_59.1.2.2.1.2.1 (by have := V_59.1.2.2.1.2.2.1; have := V_59.1.2.1; omega)) rfl (Nat.le_of_ble_eq_true rfl) ⟨by dsimp only [kX3_formula, kX3_row, kX3_since, kX3_one, kX3_expression, kX3_product, kX3_factor, kX3_fronted, kX3_compare, kX3_twoSided, kX3_braces, kX3_namedValue, kX3_bounds, kX3_sees, kX3_is, kX3_isName, kX3_which, kX3_numberOf, kX3_find, kX3_node, kX3_wrong, kJ12_length, meK]; omega, by dsimp only [kX3_formula, kX3_row, kX3_since, kX3_one, kX3_expression, kX3_product, kX3_factor, kX3_fronted, kX3_compare, kX3_twoSided, kX3_braces, kX3_namedValue, kX3_bounds, kX3_sees, kX3_is, kX3_isName, kX3_which, kX3_numberOf, kX3_find, kX3_node, kX3_wrong, kJ12_length, meK]; omega⟩ ⟨Nat.zero_le _, Nat.zero_le _⟩ (fun _ _ _ z => z.elim) rfl (fun r_83 h_83 q_83 => ?_)
              obtain ⟨rfl, hT_83, hF_83, hz_83⟩ := q_83
              have hG_83 := Fr.trans hG_59 hF_83
              refine AW.sts (st' := [.int 0]) rfl ?_
              refine aw_pop (n := 87) dX3_fronted_86 rfl rfl ?_
              refine aw_aload_n (n := 88) dX3_fronted_87 rfl 3 rfl rfl ?_
              refine aw_getf (n := 91) (v := .ref (b + 9)) (C0 := RX3) (T := TX3) dX3_fronted_88 rfl 13 q2654 (Or.inl rfl) hT_83.1 rfl rfl ?_
              refine aw_aload_n (n := 92) dX3_fronted_91 rfl 3 rfl rfl ?_
              refine aw_getf (n := 95) (v := .int ((nodT m_59 (nI j) (m_59.1 17) ((-1) : Int32) ((-1) : Int32) (frmI T a)).1 17)) (C0 := RX3) (T := TX3) dX3_fronted_92 rfl 17 q2658 (Or.inl rfl) hT_83.1 rfl rfl ?_
              refine aw_iload (n := 97) dX3_fronted_95 2 rfl rfl ?_
              refine aw_tiast (n := 98) dX3_fronted_97 TW.m13 hT_83 hb (nn m_59) V_59.1.2.2.1.2.1 (by omega) (by decide) rfl (fun h_17 hT_17 hF_17 hz_17 => ?_)
              have hG_17 := Fr.trans hG_83 hF_17
              refine aw_aload_n (n := 99) dX3_fronted_98 rfl 3 rfl rfl ?_
              refine aw_getf (n := 102) (v := .ref (b + 10)) (C0 := RX3) (T := TX3) dX3_fronted_99 rfl 14 q2655 (Or.inl rfl) hT_17.1 rfl rfl ?_
              refine aw_aload_n (n := 103) dX3_fronted_102 rfl 3 rfl rfl ?_
              refine aw_getf (n := 106) (v := .int ((nodT m_59 (nI j) (m_59.1 17) ((-1) : Int32) ((-1) : Int32) (frmI T a)).1 17)) (C0 := RX3) (T := TX3) dX3_fronted_103 rfl 17 q2658 (Or.inl rfl) hT_17.1 rfl rfl ?_
              refine aw_iload (n := 108) dX3_fronted_106 1 rfl rfl ?_
              refine aw_tiast (n := 109) dX3_fronted_108 TW.m14 hT_17 hb (nn m_59) V_59.1.2.2.1.2.1 (by omega) (by decide) rfl (fun h_18 hT_18 hF_18 hz_18 => ?_)
              have hG_18 := Fr.trans hG_17 hF_18
              refine aw_iconst (n := 110) (v := 0) dX3_fronted_109 (by decide) rfl ?_
              exact aw_iret dX3_fronted_110 rfl ⟨tI (tI (nodT m_59 (nI j) (m_59.1 17) ((-1) : Int32) ((-1) : Int32) (frmI T a)) 13 (nn m_59) (0 : Int32)) 14 (nn m_59) ((-1) : Int32), by rw [g_15] <;> rfl, hT_18, hG_18, (by omega), fun _ => by rw [g_15] <;> rfl, fun z => absurd (by rw [g_15] <;> rfl) z⟩ ⟨Nat.zero_le _, Nat.zero_le _⟩
            · skip
              exact absurd c_64_7 (by decide +kernel)
          · skip
            refine AW.sts (st' := [.int (nI e_59)]) (by rw [hR_59]; rfl) ?_
            have gE_59 : W9 = (e_59, l_59, a_59, w_59) := pG_er g_14 (by omega)
            replace er_59 := er_59 (by omega)
            have E_59 := mE.tr I_4.2.2.2 er_59.1
            have P_59 := er_59.2.1
            refine aw_istore_n (n := 63) (lv' := [(3, .int (nI e_59)), (5, .int (-1)), (4, .int 0), (0, .ref b), (1, .int (nI a)), (2, .int (nI j))]) dX3_fronted_62 rfl (by decide) rfl rfl ?_
            refine aw_iload_n (n := 64) dX3_fronted_63 rfl 0 rfl rfl ?_
            refine aw_if_eq (n := 67) (tgt := 69) dX3_fronted_64 (by decide) rfl (fun c_64_8 => ?_) (fun c_64_8 => ?_)
            · skip
              have n_64_8 : e_59 = 0 := (nI_eq (a := e_59) (b := 0) (by omega) (by omega)).mp (by rw [← ((by rfl) : (0 : Int32) = nI 0)]; exact c_64_8)
              exact absurd n_64_8 (by omega)
            · skip
              have n_64_8 : ¬ (e_59 = 0) := fun z => c_64_8 (by have y := (nI_eq (a := e_59) (b := 0) (by omega) (by omega)).mpr z; rw [← ((by rfl) : (0 : Int32) = nI 0)] at y; exact y)
              refine aw_iload_n (n := 68) dX3_fronted_67 rfl 0 rfl rfl ?_
              exact aw_iret dX3_fronted_68 rfl ⟨m_59, by rw [gE_59], hT_59, hG_59, (by omega), fun z => absurd z (by rw [gE_59]; show e_59 ≠ 0; omega), fun _ => ⟨E_59, by rw [gE_59]; exact P_59, by rw [gE_59]; exact er_59.2.2⟩⟩ ⟨Nat.zero_le _, Nat.zero_le _⟩

theorem cm_braces (G : aG) (h : hH)  (b : Nat) (ms : tM) (T : Tv) (N a : Nat) (hb : gB G ≤ b) (hT : TW b h ms) (hS : tkS ms T N) (hN4 : N ≤ 400) (hN : a ≤ N) (f d B : Nat) (hfB : f ≤ B) (hB : B + 1 ≤ 802) (hm : mS (B + 1) a ms) (h1 : (pBrC T (pX T true f) d a ms).1 ≠ 1) (h9 : (pBrC T (pX T true f) d a ms).1 ≠ 99) (ih : meAll G f) : Con G kX3_braces [.ref b] h ((15 + 2 * f, 540 + 100 * f, 0, 0), (fun r h1 => ∃ m9 : tM, r = some (.int (nI (pBrC T (pX T true f) d a ms).1)) ∧ TW b h1 m9 ∧ Fr (TS b) h h1 ∧ h1.1 = h.1 ∧ ((pBrC T (pX T true f) d a ms).1 = 0 → m9 = (pBrC T (pX T true f) d a ms).2.2.2) ∧ ((pBrC T (pX T true f) d a ms).1 ≠ 0 → mE ms m9 ∧ m9.1 3 = nI (pBrC T (pX T true f) d a ms).2.1 ∧ (pBrC T (pX T true f) d a ms).1 < 50)), nX) := by
  refine Con.of (plainFor_of_name rfl) rfl (Nat.le_of_ble_eq_true rfl) ?_
  refine AW.eq (lv2 := [(0, .ref b)]) (s2 := []) rfl rfl rfl rfl rfl ?_
  generalize hW_ : pBrC T (pX T true f) d a ms = W9 at h1 h9 ⊢
  have hI0 : pM (B + 1) a ms a ms := pM.rf hm (by omega)
  have hg0 : W9 = pBrC T (pX T true f) d a ms := hW_.symm
  unfold pBrC at hg0
  unfold pBr at hg0
  unfold pBo at hg0
  have tk_1 := (hS.kept hI0.2.2.2).1 a hN; have Ktk_1 := tk_1.2.1
  try simp only [Bool.true_and, pT, ef, cond_true, gOr, gAnd, gSum, gPro, tS_tS, seesP_eq hN hN4 hS.2.1, nmP_eq hN hN4 hS.2.1, nuP_eq hN hN4 hS.2.1, whP_eq hN hN4 hS.2.1] at hg0
  have g_2 := pG_bc hg0 h1
  have g_3 := g_2.2
  try dsimp only at g_3
  have ne_4 : T.1 a ≠ 0 := by have z9 := g_2.1; first | exact seesB_ne z9 | exact isNm_ne z9 | (have z8 := (beq_iff_eq.mp z9); omega) | exact whT_lt (bne_iff_ne.mp z9) | (rcases (Bool.or_eq_true _ _).mp z9 with z8 | z8 <;> first | exact seesB_ne z8 | (rcases (Bool.or_eq_true _ _).mp z8 with z7 | z7 <;> exact seesB_ne z7))
  have g_5 := pG_bc g_3 h1
  have g_6 := g_5.2
  try dsimp only at g_6
  have hd9 : d < 10 := of_decide_eq_true g_5.1
  refine aw_aload_n (n := 1) dX3_braces_0 rfl 0 rfl rfl ?_
  refine aw_dup (n := 2) dX3_braces_1 rfl rfl ?_
  refine aw_getf (n := 5) (v := .int (nI a)) (C0 := RX3) (T := TX3) dX3_braces_2 rfl 7 q2648 (Or.inl rfl) hT.1 (congrArg some (congrArg Value.int hI0.2.2.1.1)) rfl ?_
  refine aw_iconst (n := 6) (v := 1) dX3_braces_5 (by decide) rfl ?_
  refine aw_iadd (n := 7) dX3_braces_6 rfl ?_
  refine AW.sts (st' := [.int (nI (a + 1)), .ref b]) (by rw [show (nI a) + 1 = nI (a + 1) from (nI_1 _)]) ?_
  refine aw_tput (n := 10) (k := 7) dX3_braces_7 q2648 (by decide) rfl rfl rfl rfl rfl hT hb rfl rfl (fun h_7 hT_7 hF_7 hz_7 => ?_)
  have N_8 : a + 1 ≤ N := lt_end hS.2.1 hN ne_4
  have I_9 := hI0.at1 (by omega)
  have tk_10 := (hS.kept I_9.2.2.2).1 (a + 1) N_8; have Ktk_10 := tk_10.2.1
  try simp only [Bool.true_and, pT, ef, cond_true, gOr, gAnd, gSum, gPro, tS_tS, seesP_eq N_8 hN4 hS.2.1, nmP_eq N_8 hN4 hS.2.1, nuP_eq N_8 hN4 hS.2.1, whP_eq N_8 hN4 hS.2.1] at g_6
  refine aw_aload_n (n := 11) dX3_braces_10 rfl 0 rfl rfl ?_
  obtain ⟨e_11, l_11, a_11, w_11, hR_11⟩ : ∃ (e8 l8 x8 : Nat) (w8 : tM), pX T true f 0 (d + 1) (a + 1) (tS ms 7 (nI (a + 1))) = (e8, l8, x8, w8) := ⟨_, _, _, _, rfl⟩
  have n1_11 : (pX T true f 0 (d + 1) (a + 1) (tS ms 7 (nI (a + 1)))).1 ≠ 1 := pG_n g_6 h1 (by decide)
  have n9_11 : (pX T true f 0 (d + 1) (a + 1) (tS ms 7 (nI (a + 1)))).1 ≠ 99 := pG_n g_6 h9 (by decide)
  have V_11 := (pX_inv T f 0 (d + 1) (a + 1) (B) (tS ms 7 (nI (a + 1))) (by omega) (by omega) (by omega) I_9.2.2.1).w (fun _ _ z => I_9.trW z)
  have Z_11 := pX_N (T := T) (N := N) (f := f) (nt := 0) (d := d + 1) (a := a + 1) (m := tS ms 7 (nI (a + 1))) hS.2.1 N_8 (by omega)
  have U_11 := pX_inv T f 0 (d + 1) (a + 1) (B) (tS ms 7 (nI (a + 1))) (by omega) (by omega) (by omega) I_9.2.2.1
  rw [hR_11] at U_11
  rw [hR_11] at g_6 V_11 Z_11
  refine aw_callV (n := 14) (C0 := RX3) (As := []) (rest := []) (K2 := kX3_formula) dX3_braces_11 q2986 q2988 qs78 q113 q2989 ⟨rfl, hcX3_formula⟩ rfl hT_7.1 (ih 0 h_7 b (tS ms 7 (nI (a + 1))) T N (a + 1) (d + 1) (B) (by decide) hb hT_7 (hS.kept I_9.2.2.2) hN4 N_8 (by omega) (by omega) I_9.2.2.1 n1_11 n9_11) rfl (Nat.le_of_ble_eq_true rfl) ⟨by dsimp only [kX3_formula, kX3_row, kX3_since, kX3_one, kX3_expression, kX3_product, kX3_factor, kX3_fronted, kX3_compare, kX3_twoSided, kX3_braces, kX3_namedValue, kX3_bounds, kX3_sees, kX3_is, kX3_isName, kX3_which, kX3_numberOf, kX3_find, kX3_node, kX3_wrong, kJ12_length, meK]; omega, by dsimp only [kX3_formula, kX3_row, kX3_since, kX3_one, kX3_expression, kX3_product, kX3_factor, kX3_fronted, kX3_compare, kX3_twoSided, kX3_braces, kX3_namedValue, kX3_bounds, kX3_sees, kX3_is, kX3_isName, kX3_which, kX3_numberOf, kX3_find, kX3_node, kX3_wrong, kJ12_length, meK]; omega⟩ ⟨Nat.zero_le _, Nat.zero_le _⟩ (fun _ _ _ z => z.elim) rfl (fun r_11 h_11 q_11 => ?_)
  obtain ⟨m_11, rfl, hT_11, hF_11, hz_11, ok_11, er_11⟩ := q_11
  rw [hR_11] at ok_11 er_11
  dsimp only at ok_11 er_11
  have hG_11 := Fr.trans hF_7 hF_11
  rcases Nat.eq_zero_or_pos e_11 with y_11 | y_11
  · skip
    subst y_11
    have x_11 := ok_11 rfl
    subst x_11
    refine AW.sts (st' := [.int 0]) (by rw [hR_11]; rfl) ?_
    replace V_11 := V_11 rfl
    replace Z_11 := Z_11 rfl
    dsimp only at V_11 Z_11
    replace U_11 := U_11 rfl
    dsimp only at U_11
    have lt_11 : nN (m_11.1 17) < 1203 := by have := V_11.2.2.1; have := V_11.1.2.2.1.2.2.1; have := V_11.1.2.1; omega
    have g_11 := pG_o g_6
    try dsimp only at g_11
    have tk_12 := (hS.kept V_11.1.2.2.2).1 a_11 Z_11; have Ktk_12 := tk_12.2.1
    try simp only [Bool.true_and, pT, ef, cond_true, gOr, gAnd, gSum, gPro, tS_tS, seesP_eq Z_11 hN4 hS.2.1, nmP_eq Z_11 hN4 hS.2.1, nuP_eq Z_11 hN4 hS.2.1, whP_eq Z_11 hN4 hS.2.1] at g_11
    refine aw_istore_n (n := 15) (lv' := [(1, .int 0), (0, .ref b)]) dX3_braces_14 rfl (by decide) rfl rfl ?_
    refine aw_aload_n (n := 16) dX3_braces_15 rfl 1 rfl rfl ?_
    refine aw_dup (n := 17) dX3_braces_16 rfl rfl ?_
    refine aw_getf (n := 20) (v := .int (nI a_11)) (C0 := RX3) (T := TX3) dX3_braces_17 rfl 7 q2648 (Or.inl rfl) hT_11.1 (congrArg some (congrArg Value.int V_11.1.2.2.1.1)) rfl ?_
    refine aw_iconst (n := 21) (v := 1) dX3_braces_20 (by decide) rfl ?_
    refine aw_iadd (n := 22) dX3_braces_21 rfl ?_
    refine AW.sts (st' := [.int (nI (a_11 + 1)), .ref b]) (by rw [show (nI a_11) + 1 = nI (a_11 + 1) from (nI_1 _)]) ?_
    refine aw_tput (n := 25) (k := 7) dX3_braces_22 q2648 (by decide) rfl rfl rfl rfl rfl hT_11 hb rfl rfl (fun h_13 hT_13 hF_13 hz_13 => ?_)
    have hG_13 := Fr.trans hG_11 hF_13
    have g_14 := pG_l g_11 h1
    have ne_15 : T.1 a_11 ≠ 0 := by have z9 := g_14.1; first | exact seesB_ne z9 | exact isNm_ne z9 | (have z8 := (beq_iff_eq.mp z9); omega) | exact whT_lt (bne_iff_ne.mp z9) | (rcases (Bool.or_eq_true _ _).mp z9 with z8 | z8 <;> first | exact seesB_ne z8 | (rcases (Bool.or_eq_true _ _).mp z8 with z7 | z7 <;> exact seesB_ne z7))
    have g_16 := g_14.2
    try dsimp only at g_16
    have N_17 : a_11 + 1 ≤ N := lt_end hS.2.1 Z_11 ne_15
    have I_18 := V_11.1.at (a' := a_11 + 1) (by omega) (by omega)
    have tk_19 := (hS.kept I_18.2.2.2).1 (a_11 + 1) N_17; have Ktk_19 := tk_19.2.1
    try simp only [Bool.true_and, pT, ef, cond_true, gOr, gAnd, gSum, gPro, tS_tS, seesP_eq N_17 hN4 hS.2.1, nmP_eq N_17 hN4 hS.2.1, nuP_eq N_17 hN4 hS.2.1, whP_eq N_17 hN4 hS.2.1] at g_16
    refine aw_iload_n (n := 26) dX3_braces_25 rfl 0 rfl rfl ?_
    exact aw_iret dX3_braces_26 rfl ⟨tS m_11 7 (nI (a_11 + 1)), by rw [g_16] <;> rfl, hT_13, hG_13, (by omega), fun _ => by rw [g_16] <;> rfl, fun z => absurd (by rw [g_16] <;> rfl) z⟩ ⟨Nat.zero_le _, Nat.zero_le _⟩
  · skip
    refine AW.sts (st' := [.int (nI e_11)]) (by rw [hR_11]; rfl) ?_
    have gE_11 : W9 = (e_11, l_11, a_11, w_11) := pG_er g_6 (by omega)
    replace er_11 := er_11 (by omega)
    have E_11 := mE.tr I_9.2.2.2 er_11.1
    have P_11 := er_11.2.1
    refine aw_istore_n (n := 15) (lv' := [(1, .int (nI e_11)), (0, .ref b)]) dX3_braces_14 rfl (by decide) rfl rfl ?_
    refine aw_aload_n (n := 16) dX3_braces_15 rfl 1 rfl rfl ?_
    refine aw_dup (n := 17) dX3_braces_16 rfl rfl ?_
    refine aw_getf (n := 20) (v := .int (m_11.1 7)) (C0 := RX3) (T := TX3) dX3_braces_17 rfl 7 q2648 (Or.inl rfl) hT_11.1 rfl rfl ?_
    refine aw_iconst (n := 21) (v := 1) dX3_braces_20 (by decide) rfl ?_
    refine aw_iadd (n := 22) dX3_braces_21 rfl ?_
    refine aw_tput (n := 25) (k := 7) dX3_braces_22 q2648 (by decide) rfl rfl rfl rfl rfl hT_11 hb rfl rfl (fun h_20 hT_20 hF_20 hz_20 => ?_)
    have hG_20 := Fr.trans hG_11 hF_20
    refine aw_iload_n (n := 26) dX3_braces_25 rfl 0 rfl rfl ?_
    exact aw_iret dX3_braces_26 rfl ⟨tS m_11 7 ((m_11.1 7) + 1), by rw [gE_11], hT_20, hG_20, (by omega), fun z => absurd z (by rw [gE_11]; show e_11 ≠ 0; omega), fun _ => ⟨(E_11.S (by decide)), by rw [gE_11]; exact P_11, by rw [gE_11]; exact er_11.2.2⟩⟩ ⟨Nat.zero_le _, Nat.zero_le _⟩

end
