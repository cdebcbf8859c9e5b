/-! The twin: itemMeant of watches. -/
section
set_option maxRecDepth 100000
theorem ci_3 (G : aG) (h : hH)  (b : Nat) (ms : tM) (T : Tv) (N a : Nat) (hb : gB G ≤ b) (hT : TW b h ms) (hS : tkS ms T N) (hN4 : N ≤ 400) (hN : a ≤ N) (f B : Nat) (hfB : f ≤ B) (hB : B + 1 ≤ 802) (hm : mS (B + 1) a ms) (hp : pgI ms) (hk : seesB T a (sw 3) = true) (hlt : b + 25 ≤ h.1) (h1 : (pItem T true (pX T true f) a ms).1 ≠ 1) (h9 : (pItem T true (pX T true f) a ms).1 ≠ 99) (ih : meAll G f) : Con G kX3_itemMeant [.ref b] h ((15 + 2 * f, 600 + 100 * f, 1, 4), (fun r h1 => ∃ (m9 : tM) (a9 : Nat), r = some (.int (nI (pItem T true (pX T true f) a ms).1)) ∧ TW b h1 m9 ∧ Fr (TS b) h h1 ∧ h1.1 ≤ h.1 + 1 ∧ ((pItem T true (pX T true f) a ms).1 = 0 → (pItem T true (pX T true f) a ms).2.2 = (a9 + 1, ats m9 (a9 + 1)) ∧ m9.1 7 = nI a9) ∧ ((pItem T true (pX T true f) a ms).1 ≠ 0 → gF ms m9 ∧ m9.1 3 = nI (pItem T true (pX T true f) a ms).2.1 ∧ (pItem T true (pX T true f) a ms).1 < 50)), nX) := by
  refine Con.of (plainFor_of_name rfl) rfl (Nat.le_of_ble_eq_true rfl) ?_
  refine AW.eq (lv2 := [(0, .ref b)]) (s2 := []) rfl rfl rfl rfl rfl ?_
  generalize hW_ : pItem T true (pX T true f) a ms = W9 at h1 h9 ⊢
  have hI0 : pM (B + 1) a ms a ms := pM.rf hm (by omega)
  have hg0 : W9 = pItem T true (pX T true f) a ms := hW_.symm
  unfold pItem at hg0
  have hS0 := hS
  have hpm := hp.1; have hp19 := hp.2.2.2.1; have hp0 := hp.2.1; have hp1 := hp.2.2.1 1 (by decide) (by decide); have hp2 := hp.2.2.1 2 (by decide) (by decide); have hp3 := hp.2.2.1 3 (by decide) (by decide); have hp44 := hm.2.2.2.2.2.1
  have u0 := sees_un (j := 0) hk (by decide)
  have u1 := sees_un (j := 1) hk (by decide)
  have u2 := sees_un (j := 2) hk (by decide)
  have tk_s := hS.1 a hN; have Ktk_s := tk_s.2.1
  try simp only [Bool.true_and, pT, ef, cond_true, gOr, gAnd, gSum, gPro, tS_tS, seesP_eq hN hN4 hS.2.1, nmP_eq hN hN4 hS.2.1, nuP_eq hN hN4 hS.2.1, whP_eq hN hN4 hS.2.1] at hg0
  have g_2 := pG_F hg0 (by first | assumption | simp [hk, u0, u1, u2])
  try dsimp only at g_2
  have g_3 := pG_F g_2 (by first | assumption | simp [hk, u0, u1, u2])
  try dsimp only at g_3
  have g_4 := pG_F g_3 (by first | assumption | simp [hk, u0, u1, u2])
  try dsimp only at g_4
  have g_6 := pG_T g_4 (by first | assumption | simp [hk, u0, u1, u2])
  try dsimp only at g_6
  have ne_7 : T.1 a ≠ 0 := by have z9 := hk; first | exact seesB_ne z9 | exact isNm_ne z9 | (have z8 := (beq_iff_eq.mp z9); omega) | exact whT_lt (bne_iff_ne.mp z9) | (rcases (Bool.or_eq_true _ _).mp z9 with z8 | z8 <;> first | exact seesB_ne z8 | (rcases (Bool.or_eq_true _ _).mp z8 with z7 | z7 <;> exact seesB_ne z7))
  unfold pName at g_6
  try simp only [Bool.true_and, pT, ef, cond_true, gOr, gAnd, gSum, gPro, tS_tS, seesP_eq hN hN4 hS.2.1, nmP_eq hN hN4 hS.2.1, nuP_eq hN hN4 hS.2.1, whP_eq hN hN4 hS.2.1] at g_6
  suffices key : ∀ (h5 : hH) (f5 : Nat → Value), h5.2 h.1 = some (har 6 4 f5) → (∀ j : Nat, j < 4 → f5 j = .ref (gT G j)) → TW b h5 ms → Fr (TS b) h h5 → h5.1 = h.1 + 1 → AW G kX3_itemMeant ((15 + 2 * f, 600 + 100 * f, 1, 4), (fun r h1 => ∃ (m9 : tM) (a9 : Nat), r = some (.int (nI W9.1)) ∧ TW b h1 m9 ∧ Fr (TS b) h h1 ∧ h1.1 ≤ h.1 + 1 ∧ (W9.1 = 0 → W9.2.2 = (a9 + 1, ats m9 (a9 + 1)) ∧ m9.1 7 = nI a9) ∧ (W9.1 ≠ 0 → gF ms m9 ∧ m9.1 3 = nI W9.2.1 ∧ W9.1 < 50)), nX) 24 [(0, .ref b)] [.ref h.1] h5 (0 + 1) (0 + 4) from by
    refine aw_iconst (n := 1) (v := 4) dX3_itemMeant_0 (by decide) rfl ?_
    refine aw_anew (n := 4) (ti := 6) (N := 4) (C0 := "java/lang/String") dX3_itemMeant_1 rfl q2947 q2948 (by rfl) (by decide) (by decide) (Nat.le_refl _) (Nat.le_refl _) rfl ?_
    refine aw_dup (n := 5) dX3_itemMeant_4 rfl rfl ?_
    refine aw_iconst (n := 6) (v := 0) dX3_itemMeant_5 (by decide) rfl ?_
    refine aw_ldcS (n := 8) (q := 0) dX3_itemMeant_6 91 rfl rfl ?_
    refine aw_know (fun gd9 hi9 => ?_)
    obtain ⟨v_0, w_0, z_0, f_0, hA_0, hV_0, hf_0⟩ := str_at gd9 hi9 (i := 0) (bs := sw 0) rfl
    refine aw_aast (n := 9) (ti := 6) (N := 4) (ci := 29) (C0 := RJ12) (E := "java/lang/String") dX3_itemMeant_8 rfl 0 (by rfl) hnew_at (by omega) (by decide) (by decide) rfl hA_0 (Or.inl rfl) rfl rfl ?_
    refine aw_dup (n := 10) dX3_itemMeant_9 rfl rfl ?_
    refine aw_iconst (n := 11) (v := 1) dX3_itemMeant_10 (by decide) rfl ?_
    refine aw_ldcS (n := 13) (q := 1) dX3_itemMeant_11 95 rfl rfl ?_
    refine aw_know (fun gd9 hi9 => ?_)
    obtain ⟨v_1, w_1, z_1, f_1, hA_1, hV_1, hf_1⟩ := str_at gd9 hi9 (i := 1) (bs := sw 1) rfl
    refine aw_aast (n := 14) (ti := 6) (N := 4) (ci := 29) (C0 := RJ12) (E := "java/lang/String") dX3_itemMeant_13 rfl 1 (by rfl) hset_at (by omega) (by decide) (by decide) rfl hA_1 (Or.inl rfl) rfl rfl ?_
    refine aw_dup (n := 15) dX3_itemMeant_14 rfl rfl ?_
    refine aw_iconst (n := 16) (v := 2) dX3_itemMeant_15 (by decide) rfl ?_
    refine aw_ldcS (n := 18) (q := 2) dX3_itemMeant_16 97 rfl rfl ?_
    refine aw_know (fun gd9 hi9 => ?_)
    obtain ⟨v_2, w_2, z_2, f_2, hA_2, hV_2, hf_2⟩ := str_at gd9 hi9 (i := 2) (bs := sw 2) rfl
    refine aw_aast (n := 19) (ti := 6) (N := 4) (ci := 29) (C0 := RJ12) (E := "java/lang/String") dX3_itemMeant_18 rfl 2 (by rfl) hset_at (by omega) (by decide) (by decide) rfl hA_2 (Or.inl rfl) rfl rfl ?_
    refine aw_dup (n := 20) dX3_itemMeant_19 rfl rfl ?_
    refine aw_iconst (n := 21) (v := 3) dX3_itemMeant_20 (by decide) rfl ?_
    refine aw_ldcS (n := 23) (q := 3) dX3_itemMeant_21 98 rfl rfl ?_
    refine aw_know (fun gd9 hi9 => ?_)
    obtain ⟨v_3, w_3, z_3, f_3, hA_3, hV_3, hf_3⟩ := str_at gd9 hi9 (i := 3) (bs := sw 3) rfl
    refine aw_aast (n := 24) (ti := 6) (N := 4) (ci := 29) (C0 := RJ12) (E := "java/lang/String") dX3_itemMeant_23 rfl 3 (by rfl) hset_at (by omega) (by decide) (by decide) rfl hA_3 (Or.inl rfl) rfl rfl ?_
    have fr : ∀ e0 e1 e2 e3 e4 : hE, Fr (fun q => q = h.1) h (hset (hset (hset (hset (hnew h e0) h.1 e1) h.1 e2) h.1 e3) h.1 e4) := fun e0 e1 e2 e3 e4 => (Fr.trans (Fr.trans (Fr.trans (Fr.trans Fr.new (Fr.set rfl)) (Fr.set rfl)) (Fr.set rfl)) (Fr.set rfl))
    refine key _ _ hset_at (fun j hj => by match j, hj with | 0, _ => rfl | 1, _ => rfl | 2, _ => rfl | 3, _ => rfl) (TW.kept hT (fr _ _ _ _ _) (by omega) (fun q hq z => by have hq : q = h.1 := hq; have := z.2; omega)) ⟨(fr _ _ _ _ _).1, fun q hq _ => (fr _ _ _ _ _).2 q hq (fun z => by have z : q = h.1 := z; omega)⟩ ?_
    rfl
  intro h5 f5 hA5 hE5 hT5 hF5 hz5
  refine aw_astore_n (n := 25) (lv' := [(1, .ref h.1), (0, .ref b)]) dX3_itemMeant_24 rfl (by decide) rfl rfl ?_
  refine aw_aload_n (n := 26) dX3_itemMeant_25 rfl 1 rfl rfl ?_
  refine aw_getf (n := 29) (v := .int (nI a)) (C0 := RX3) (T := TX3) dX3_itemMeant_26 rfl 7 q2648 (Or.inl rfl) hT5.1 (congrArg some (congrArg Value.int hI0.2.2.1.1)) rfl ?_
  refine aw_istore_n (n := 30) (lv' := [(2, .int (nI a)), (1, .ref h.1), (0, .ref b)]) dX3_itemMeant_29 rfl (by decide) rfl rfl ?_
  refine aw_aload_n (n := 31) dX3_itemMeant_30 rfl 2 rfl rfl ?_
  refine aw_aload_n (n := 32) dX3_itemMeant_31 rfl 2 rfl rfl ?_
  refine aw_getf (n := 35) (v := .int (nI a)) (C0 := RX3) (T := TX3) dX3_itemMeant_32 rfl 7 q2648 (Or.inl rfl) hT5.1 (congrArg some (congrArg Value.int hI0.2.2.1.1)) rfl ?_
  refine aw_aload_n (n := 36) dX3_itemMeant_35 rfl 1 rfl rfl ?_
  refine aw_know (fun gd_7 hi_7 => ?_)
  refine aw_callV (n := 39) (C0 := RX3) (As := [.int (nI a), .ref h.1]) (rest := []) (K2 := kX3_which) dX3_itemMeant_36 q2850 q2852 qs55 q113 q2853 ⟨rfl, hcX3_which⟩ rfl hT5.1 (ct_which G h5 b ms hb hT5 T a (hS.1 a hN) h.1 W4 ⟨f5, fun j => gT G j, hA5, fun j hj => by match j, hj with | 0, _ => exact ⟨hE5 0 (by decide), str_at gd_7 hi_7 (i := 0) rfl, lo_at (i := 0) (bs := sw 0) rfl⟩ | 1, _ => exact ⟨hE5 1 (by decide), str_at gd_7 hi_7 (i := 1) rfl, lo_at (i := 1) (bs := sw 1) rfl⟩ | 2, _ => exact ⟨hE5 2 (by decide), str_at gd_7 hi_7 (i := 2) rfl, lo_at (i := 2) (bs := sw 2) rfl⟩ | 3, _ => exact ⟨hE5 3 (by decide), str_at gd_7 hi_7 (i := 3) rfl, lo_at (i := 3) (bs := sw 3) rfl⟩⟩ (by decide)) rfl (Nat.le_of_ble_eq_true rfl) ⟨by dsimp only [kX3_formula, kX3_row, kX3_since, kX3_one, kX3_expression, kX3_product, kX3_factor, kX3_fronted, kX3_compare, kX3_twoSided, kX3_braces, kX3_namedValue, kX3_bounds, kX3_nameOf, kX3_sees, kX3_is, kX3_isName, kX3_which, kX3_numberOf, kX3_find, kX3_node, kX3_wrong, kJ12_length, meK]; omega, by dsimp only [kX3_formula, kX3_row, kX3_since, kX3_one, kX3_expression, kX3_product, kX3_factor, kX3_fronted, kX3_compare, kX3_twoSided, kX3_braces, kX3_namedValue, kX3_bounds, kX3_nameOf, kX3_sees, kX3_is, kX3_isName, kX3_which, kX3_numberOf, kX3_find, kX3_node, kX3_wrong, kJ12_length, meK]; omega⟩ ⟨by first | omega | (dsimp only; omega) | decide, by first | omega | (dsimp only; omega) | decide⟩ (fun _ _ _ z => z.elim) rfl (fun r_36 h_36 q_36 => ?_)
  obtain ⟨rfl, rfl⟩ := q_36
  refine AW.sts (st' := [.int 3]) (by rw [wh4 3 (by decide) hk]; rfl) ?_
  refine aw_istore_n (n := 40) (lv' := [(3, .int 3), (2, .int (nI a)), (1, .ref h.1), (0, .ref b)]) dX3_itemMeant_39 rfl (by decide) rfl rfl ?_
  refine aw_aload_n (n := 41) dX3_itemMeant_40 rfl 3 rfl rfl ?_
  refine aw_getf (n := 44) (v := .ref (b + 16)) (C0 := RX3) (T := TX3) dX3_itemMeant_41 rfl 23 q2664 (Or.inl rfl) hT5.1 rfl rfl ?_
  refine aw_iload_n (n := 45) dX3_itemMeant_44 rfl 0 rfl rfl ?_
  refine aw_iald (n := 46) (v := .int (ms.2.1 23 3)) dX3_itemMeant_45 rfl 3 (by rfl) hT5.a23 (by omega) (by decide) rfl rfl ?_
  refine aw_iload_n (n := 47) dX3_itemMeant_46 rfl 0 rfl rfl ?_
  refine aw_if_ne (n := 50) (tgt := 55) dX3_itemMeant_47 (by decide) rfl (fun c_47 => ?_) (fun c_47 => ?_)
  · skip
    refine aw_bipush (n := 57) (v := 12) dX3_itemMeant_55 (by decide) rfl ?_
    refine aw_icmp_ne (n := 60) (tgt := 67) dX3_itemMeant_57 (by decide) rfl (fun c_57 => ?_) (fun c_57 => ?_)
    · skip
      have n_57 : ¬ ((mnN ms 3) = 12) := fun z => c_57 (by have y := (nI_eq (a := (mnN ms 3)) (b := 12) (by omega) (by omega)).mpr z; rw [← ((hpm 3 (by decide)) : (ms.2.1 23 3) = nI (mnN ms 3)), ← ((by rfl) : (12 : Int32) = nI 12)] at y; exact y)
      have f_57 : decide (mnN ms 3 = if 3 = 0 then 8 else 12) = false := decide_eq_false n_57
      have g_9 := pG_F g_6 (by first | assumption | simp [hk, u0, u1, u2, f_57])
      try dsimp only at g_9
      refine aw_aload_n (n := 68) dX3_itemMeant_67 rfl 3 rfl rfl ?_
      refine aw_dup (n := 69) dX3_itemMeant_68 rfl rfl ?_
      refine aw_getf (n := 72) (v := .int (nI a)) (C0 := RX3) (T := TX3) dX3_itemMeant_69 rfl 7 q2648 (Or.inl rfl) hT5.1 (congrArg some (congrArg Value.int hI0.2.2.1.1)) rfl ?_
      refine aw_iconst (n := 73) (v := 1) dX3_itemMeant_72 (by decide) rfl ?_
      refine aw_iadd (n := 74) dX3_itemMeant_73 rfl ?_
      refine AW.sts (st' := [.int (nI (a + 1)), .ref b]) (by rw [show (nI a) + 1 = nI (a + 1) from (nI_1 _)]) ?_
      refine aw_tput (n := 77) (k := 7) dX3_itemMeant_74 q2648 (by decide) rfl rfl rfl rfl rfl hT5 hb rfl rfl (fun h_10 hT_10 hF_10 hz_10 => ?_)
      have hG_10 := Fr.trans hF5 hF_10
      have N_11 : a + 1 ≤ N := lt_end hS.2.1 hN ne_7
      have I_12 := hI0.at1 (by omega)
      have tk_13 := (hS.kept I_12.2.2.2).1 (a + 1) N_11; have Ktk_13 := tk_13.2.1
      try simp only [Bool.true_and, pT, ef, cond_true, gOr, gAnd, gSum, gPro, tS_tS, seesP_eq N_11 hN4 hS.2.1, nmP_eq N_11 hN4 hS.2.1, nuP_eq N_11 hN4 hS.2.1, whP_eq N_11 hN4 hS.2.1] at g_9
      have g_14 := pG_c g_9 h1
      have g_15 := g_14.2
      try dsimp only at g_15
      have ne_16 : T.1 (a + 1) ≠ 0 := by have z9 := g_14.1; first | exact seesB_ne z9 | exact isNm_ne z9 | (have z8 := (beq_iff_eq.mp z9); omega) | exact whT_lt (bne_iff_ne.mp z9) | (rcases (Bool.or_eq_true _ _).mp z9 with z8 | z8 <;> first | exact seesB_ne z8 | (rcases (Bool.or_eq_true _ _).mp z8 with z7 | z7 <;> exact seesB_ne z7))
      refine aw_aload_n (n := 78) dX3_itemMeant_77 rfl 3 rfl rfl ?_
      refine aw_getf (n := 81) (v := .int (nI (a + 1))) (C0 := RX3) (T := TX3) dX3_itemMeant_78 rfl 7 q2648 (Or.inl rfl) hT_10.1 rfl rfl ?_
      refine aw_istore (n := 83) (lv' := [(4, .int (nI (a + 1))), (3, .int 3), (2, .int (nI a)), (1, .ref h.1), (0, .ref b)]) dX3_itemMeant_81 (by decide) rfl rfl ?_
      have hN1 := N_11
      refine aw_aload_n (n := 84) dX3_itemMeant_83 rfl 4 rfl rfl ?_
      refine aw_iload (n := 86) dX3_itemMeant_84 0 rfl rfl ?_
      refine aw_callV (n := 89) (C0 := RX3) (As := [.int (nI (a + 1))]) (rest := []) (K2 := kX3_find) dX3_itemMeant_86 q2949 q2951 qs69 q113 q2952 ⟨rfl, hcX3_find⟩ rfl hT_10.1 (ct_find G h_10 b (tS ms 7 (nI (a + 1))) hb hT_10 T (a + 1) ((hS.kept I_12.2.2.2).1 (a + 1) N_11) I_12.2.2.1.2.2.2.2.1 I_12.2.2.1.2.2.2.2.2.1) rfl (Nat.le_of_ble_eq_true rfl) ⟨by dsimp only [kX3_formula, kX3_row, kX3_since, kX3_one, kX3_expression, kX3_product, kX3_factor, kX3_fronted, kX3_compare, kX3_twoSided, kX3_braces, kX3_namedValue, kX3_bounds, kX3_nameOf, kX3_sees, kX3_is, kX3_isName, kX3_which, kX3_numberOf, kX3_find, kX3_node, kX3_wrong, kJ12_length, meK]; omega, by dsimp only [kX3_formula, kX3_row, kX3_since, kX3_one, kX3_expression, kX3_product, kX3_factor, kX3_fronted, kX3_compare, kX3_twoSided, kX3_braces, kX3_namedValue, kX3_bounds, kX3_nameOf, kX3_sees, kX3_is, kX3_isName, kX3_which, kX3_numberOf, kX3_find, kX3_node, kX3_wrong, kJ12_length, meK]; omega⟩ ⟨by first | omega | (dsimp only; omega) | decide, by first | omega | (dsimp only; omega) | decide⟩ (fun _ _ _ z => z.elim) rfl (fun r_86 h_86 q_86 => ?_)
      obtain ⟨rfl, rfl⟩ := q_86
      refine AW.sts (st' := [.int (fnT T (tS ms 7 (nI (a + 1))) (a + 1))]) rfl ?_
      refine aw_iconst (n := 90) (v := (-1)) dX3_itemMeant_89 (by decide) rfl ?_
      refine aw_icmp_eq (n := 93) (tgt := 101) dX3_itemMeant_90 (by decide) rfl (fun c_90 => ?_) (fun c_90 => ?_)
      · skip
        have f_90 : (fnT T ms (a + 1) != -1) = false := (by rw [show fnT T ms (a + 1) = -1 from c_90]; rfl)
        have g_17 := pG_F g_15 (by first | assumption | simp [f_90])
        try dsimp only at g_17
        refine aw_aload_n (n := 102) dX3_itemMeant_101 rfl 4 rfl rfl ?_
        refine aw_dup (n := 103) dX3_itemMeant_102 rfl rfl ?_
        refine aw_getf (n := 106) (v := .int (nI (a + 1))) (C0 := RX3) (T := TX3) dX3_itemMeant_103 rfl 7 q2648 (Or.inl rfl) hT_10.1 rfl rfl ?_
        refine aw_iconst (n := 107) (v := 2) dX3_itemMeant_106 (by decide) rfl ?_
        refine aw_iadd (n := 108) dX3_itemMeant_107 rfl ?_
        refine AW.sts (st' := [.int (nI ((a + 1) + 2)), .ref b]) (by rw [show (nI (a + 1)) + 2 = nI ((a + 1) + 2) from (by rw [show nI (a + 1) = nI (a + 1) from rfl, show 2 = nI 2 from (by rfl)]; exact nI_add _ _)]) ?_
        refine aw_tput (n := 111) (k := 7) dX3_itemMeant_108 q2648 (by decide) rfl rfl rfl rfl rfl hT_10 hb rfl rfl (fun h_18 hT_18 hF_18 hz_18 => ?_)
        have hG_18 := Fr.trans hG_10 hF_18
        have N_19 : (a + 1) + 1 ≤ N := lt_end hS.2.1 N_11 ne_16
        try simp only [Bool.true_and, pT, ef, cond_true, gOr, gAnd, gSum, gPro, tS_tS, seesP_eq N_19 hN4 hS.2.1, nmP_eq N_19 hN4 hS.2.1, nuP_eq N_19 hN4 hS.2.1, whP_eq N_19 hN4 hS.2.1] at g_17
        have g_20 := pG_t g_17 h1
        have ne_21 : T.1 ((a + 1) + 1) ≠ 0 := by have z9 := g_20.1; first | exact seesB_ne z9 | exact isNm_ne z9 | (have z8 := (beq_iff_eq.mp z9); omega) | exact whT_lt (bne_iff_ne.mp z9) | (rcases (Bool.or_eq_true _ _).mp z9 with z8 | z8 <;> first | exact seesB_ne z8 | (rcases (Bool.or_eq_true _ _).mp z8 with z7 | z7 <;> exact seesB_ne z7))
        have g_22 := g_20.2
        try dsimp only at g_22
        have N_23 : ((a + 1) + 1) + 1 ≤ N := lt_end hS.2.1 N_19 ne_21
        have I_24 := I_12.at (a' := (a + 1) + 2) (by omega) (by omega)
        rw [tS_tS] at hT_18
        have I_25 : pM (B) a ms ((a + 1) + 2) (tS ms 7 (nI ((a + 1) + 2))) := by have z : pM (B) a ms ((a + 1) + 2) (tS (tS ms 7 (nI (a + 1))) 7 (nI ((a + 1) + 2))) := I_24; rw [tS_tS] at z; exact z
        have I_252 : (a + 1) + 2 ≤ N := by omega
        have tk_26 := (hS.kept I_25.2.2.2).1 ((a + 1) + 2) I_252; have Ktk_26 := tk_26.2.1
        try simp only [Bool.true_and, pT, ef, cond_true, gOr, gAnd, gSum, gPro, tS_tS, seesP_eq I_252 hN4 hS.2.1, nmP_eq I_252 hN4 hS.2.1, nuP_eq I_252 hN4 hS.2.1, whP_eq I_252 hN4 hS.2.1] at g_22
        refine aw_iconst (n := 112) (v := 0) dX3_itemMeant_111 (by decide) rfl ?_
        refine aw_istore (n := 114) (lv' := [(5, .int 0), (4, .int (nI (a + 1))), (3, .int 3), (2, .int (nI a)), (1, .ref h.1), (0, .ref b)]) dX3_itemMeant_112 (by decide) rfl rfl ?_
        refine aw_iload_n (n := 115) dX3_itemMeant_114 rfl 2 rfl rfl ?_
        refine aw_if_ne (n := 118) (tgt := 196) dX3_itemMeant_115 (by decide) rfl (fun c_115 => ?_) (fun c_115 => ?_)
        · skip
          refine aw_iload_n (n := 197) dX3_itemMeant_196 rfl 2 rfl rfl ?_
          refine aw_iconst (n := 198) (v := 2) dX3_itemMeant_197 (by decide) rfl ?_
          refine aw_icmp_ne (n := 201) (tgt := 208) dX3_itemMeant_198 (by decide) rfl (fun c_198 => ?_) (fun c_198 => ?_)
          · skip
            refine aw_aload_n (n := 209) dX3_itemMeant_208 rfl 5 rfl rfl ?_
            obtain ⟨e_209, l_209, a_209, w_209, hR_209⟩ : ∃ (e8 l8 x8 : Nat) (w8 : tM), pX T true f 0 0 ((a + 1) + 2) (tS ms 7 (nI ((a + 1) + 2))) = (e8, l8, x8, w8) := ⟨_, _, _, _, rfl⟩
            have n1_209 : (pX T true f 0 0 ((a + 1) + 2) (tS ms 7 (nI ((a + 1) + 2)))).1 ≠ 1 := pG_n g_22 h1 (by decide)
            have n9_209 : (pX T true f 0 0 ((a + 1) + 2) (tS ms 7 (nI ((a + 1) + 2)))).1 ≠ 99 := pG_n g_22 h9 (by decide)
            have V_209 := (pX_inv T f 0 0 ((a + 1) + 2) (B) (tS ms 7 (nI ((a + 1) + 2))) (by omega) (by omega) (by omega) I_25.2.2.1).w (fun _ _ z => I_25.trW z)
            have Z_209 := pX_N (T := T) (N := N) (f := f) (nt := 0) (d := 0) (a := (a + 1) + 2) (m := tS ms 7 (nI ((a + 1) + 2))) hS.2.1 I_252 (by omega)
            have U_209 := pX_inv T f 0 0 ((a + 1) + 2) (B) (tS ms 7 (nI ((a + 1) + 2))) (by omega) (by omega) (by omega) I_25.2.2.1
            rw [hR_209] at U_209
            rw [hR_209] at g_22 V_209 Z_209
            refine aw_callV (n := 212) (C0 := RX3) (As := []) (rest := []) (K2 := kX3_formula) dX3_itemMeant_209 q2986 q2988 qs78 q113 q2989 ⟨rfl, hcX3_formula⟩ rfl hT_18.1 (ih 0 h_18 b (tS ms 7 (nI ((a + 1) + 2))) T N ((a + 1) + 2) 0 (B) (by decide) hb hT_18 (hS.kept I_25.2.2.2) hN4 I_252 (by omega) (by omega) I_25.2.2.1 n1_209 n9_209) rfl (Nat.le_of_ble_eq_true rfl) ⟨by dsimp only [kX3_formula, kX3_row, kX3_since, kX3_one, kX3_expression, kX3_product, kX3_factor, kX3_fronted, kX3_compare, kX3_twoSided, kX3_braces, kX3_namedValue, kX3_bounds, kX3_nameOf, kX3_sees, kX3_is, kX3_isName, kX3_which, kX3_numberOf, kX3_find, kX3_node, kX3_wrong, kJ12_length, meK]; omega, by dsimp only [kX3_formula, kX3_row, kX3_since, kX3_one, kX3_expression, kX3_product, kX3_factor, kX3_fronted, kX3_compare, kX3_twoSided, kX3_braces, kX3_namedValue, kX3_bounds, kX3_nameOf, kX3_sees, kX3_is, kX3_isName, kX3_which, kX3_numberOf, kX3_find, kX3_node, kX3_wrong, kJ12_length, meK]; omega⟩ ⟨by first | omega | (dsimp only; omega) | decide, by first | omega | (dsimp only; omega) | decide⟩ (fun _ _ _ z => z.elim) rfl (fun r_209 h_209 q_209 => ?_)
            obtain ⟨m_209, rfl, hT_209, hF_209, hz_209, ok_209, er_209⟩ := q_209
            rw [hR_209] at ok_209 er_209
            dsimp only at ok_209 er_209
            have hG_209 := Fr.trans hG_18 hF_209
            rcases Nat.eq_zero_or_pos e_209 with y_209 | y_209
            · skip
              subst y_209
              have x_209 := ok_209 rfl
              subst x_209
              refine AW.sts (st' := [.int 0]) (by rw [hR_209]; rfl) ?_
              replace V_209 := V_209 rfl
              replace Z_209 := Z_209 rfl
              dsimp only at V_209 Z_209
              replace U_209 := U_209 rfl
              dsimp only at U_209
              have lt_209 : nN (m_209.1 17) < 1203 := by have := V_209.2.2.1; have := V_209.1.2.2.1.2.2.1; have := V_209.1.2.1; omega
              have g_27 := pG_o g_22
              try dsimp only at g_27
              have tk_28 := (hS.kept V_209.1.2.2.2).1 a_209 Z_209; have Ktk_28 := tk_28.2.1
              try simp only [Bool.true_and, pT, ef, cond_true, gOr, gAnd, gSum, gPro, tS_tS, seesP_eq Z_209 hN4 hS.2.1, nmP_eq Z_209 hN4 hS.2.1, nuP_eq Z_209 hN4 hS.2.1, whP_eq Z_209 hN4 hS.2.1] at g_27
              refine aw_istore (n := 214) (lv' := [(5, .int 0), (4, .int (nI (a + 1))), (3, .int 3), (2, .int (nI a)), (1, .ref h.1), (0, .ref b)]) dX3_itemMeant_212 (by decide) rfl rfl ?_
              refine aw_iload (n := 216) dX3_itemMeant_214 0 rfl rfl ?_
              refine aw_if_eq (n := 219) (tgt := 222) dX3_itemMeant_216 (by decide) rfl (fun c_216 => ?_) (fun c_216 => ?_)
              · skip
                have hp4 := hp.kept V_209.1.2.2.2; have hmn : mnN m_209 3 = mnN ms 3 := by unfold mnN; rw [V_209.1.2.2.2.2.2.1 23 (by decide)]
                refine aw_iload_n (n := 223) dX3_itemMeant_222 rfl 2 rfl rfl ?_
                refine aw_if_le (n := 226) (tgt := 246) dX3_itemMeant_223 (by decide) rfl (fun c_223 => ?_) (fun c_223 => ?_)
                · skip
                  exact absurd c_223 (by decide +kernel)
                · skip
                  refine aw_aload_n (n := 227) dX3_itemMeant_226 rfl 5 rfl rfl ?_
                  refine aw_getf (n := 230) (v := .ref (b + 18)) (C0 := RX3) (T := TX3) dX3_itemMeant_227 rfl 25 q2666 (Or.inl rfl) hT_209.1 rfl rfl ?_
                  refine aw_bipush (n := 232) (v := 12) dX3_itemMeant_230 (by decide) rfl ?_
                  refine aw_iload_n (n := 233) dX3_itemMeant_232 rfl 2 rfl rfl ?_
                  refine aw_imul (n := 234) dX3_itemMeant_233 rfl ?_
                  refine aw_aload_n (n := 235) dX3_itemMeant_234 rfl 5 rfl rfl ?_
                  refine aw_getf (n := 238) (v := .ref (b + 16)) (C0 := RX3) (T := TX3) dX3_itemMeant_235 rfl 23 q2664 (Or.inl rfl) hT_209.1 rfl rfl ?_
                  refine aw_iload_n (n := 239) dX3_itemMeant_238 rfl 2 rfl rfl ?_
                  refine aw_iald (n := 240) (v := .int (m_209.2.1 23 3)) dX3_itemMeant_239 rfl 3 (by rfl) hT_209.a23 (by omega) (by decide) rfl rfl ?_
                  refine aw_iadd (n := 241) dX3_itemMeant_240 rfl ?_
                  refine aw_aload_n (n := 242) dX3_itemMeant_241 rfl 5 rfl rfl ?_
                  refine aw_getf (n := 245) (v := .int (m_209.1 17)) (C0 := RX3) (T := TX3) dX3_itemMeant_242 rfl 17 q2658 (Or.inl rfl) hT_209.1 rfl rfl ?_
                  refine aw_tiast (n := 246) dX3_itemMeant_245 TW.m25 hT_209 hb ((12 * 3) + (mnN m_209 3)) (by rw [show 12 * 3 = nI (12 * 3) from (by rw [show 12 = nI 12 from (by rfl), show 3 = nI 3 from (by rfl)]; exact pk_mul _ _), show m_209.2.1 23 3 = nI (mnN m_209 3) from (hp4.1 3 (by decide))]; exact nI_add _ _) (by omega) (by decide) rfl (fun h_29 hT_29 hF_29 hz_29 => ?_)
                  have hG_29 := Fr.trans hG_209 hF_29
                  obtain ⟨t1, t2, t3, t4⟩ := top_ok (s := 3) (by decide) (by decide) V_209.1.2.2.1 hp4 (by omega) V_209.2
                  have SB_30 : mS (B) a_209 (topT 3 m_209) := t1
                  have PB_30 : pgI (topT 3 m_209) := t2
                  have GB_30 : gF ms (topT 3 m_209) := (gF.of (mE.of V_209.1.2.2.2)).tr t3
                  have hS := hS0.g GB_30
                  have IB_30 : pM (B) a_209 (topT 3 m_209) a_209 (topT 3 m_209) := pM.rf SB_30 (by omega)
                  have B_30_T : TW b h_29 (topT 3 m_209) := hT_29
                  have n19B_30 := SB_30.2.2.2.2.2.1; have c19B_30 := PB_30.2.2.2.1; have d0B_30 := PB_30.2.1; have d1B_30 := PB_30.2.2.1 1 (by decide) (by decide); have d2B_30 := PB_30.2.2.1 2 (by decide) (by decide); have d3B_30 := PB_30.2.2.1 3 (by decide) (by decide)
                  have q9B_30 : mnN (topT 3 m_209) 3 = mnN ms 3 := hmn
                  have tk_31 := hS.1 a_209 Z_209; have Ktk_31 := tk_31.2.1
                  have hmn2 : mnN (topT 3 m_209) 3 = mnN ms 3 := hmn
                  try simp only [Bool.true_and, pT, ef, cond_true, gOr, gAnd, gSum, gPro, tS_tS, seesP_eq Z_209 hN4 hS.2.1, nmP_eq Z_209 hN4 hS.2.1, nuP_eq Z_209 hN4 hS.2.1, whP_eq Z_209 hN4 hS.2.1] at g_27
                  refine aw_iload_n (n := 247) dX3_itemMeant_246 rfl 2 rfl rfl ?_
                  refine aw_iconst (n := 248) (v := 3) dX3_itemMeant_247 (by decide) rfl ?_
                  refine aw_icmp_ne (n := 251) (tgt := 263) dX3_itemMeant_248 (by decide) rfl (fun c_248 => ?_) (fun c_248 => ?_)
                  · skip
                    exact absurd c_248 (by decide +kernel)
                  · skip
                    refine aw_aload_n (n := 252) dX3_itemMeant_251 rfl 5 rfl rfl ?_
                    refine aw_getf (n := 255) (v := .ref (b + 19)) (C0 := RX3) (T := TX3) dX3_itemMeant_252 rfl 26 q2667 (Or.inl rfl) B_30_T.1 rfl rfl ?_
                    refine aw_aload_n (n := 256) dX3_itemMeant_255 rfl 5 rfl rfl ?_
                    refine aw_getf (n := 259) (v := .ref (b + 16)) (C0 := RX3) (T := TX3) dX3_itemMeant_256 rfl 23 q2664 (Or.inl rfl) B_30_T.1 rfl rfl ?_
                    refine aw_iconst (n := 260) (v := 3) dX3_itemMeant_259 (by decide) rfl ?_
                    refine aw_iald (n := 261) (v := .int ((topT 3 m_209).2.1 23 3)) dX3_itemMeant_260 rfl 3 (by rfl) B_30_T.a23 (by omega) (by decide) rfl rfl ?_
                    refine aw_iconst (n := 262) (v := 5) dX3_itemMeant_261 (by decide) rfl ?_
                    refine aw_tiast (n := 263) dX3_itemMeant_262 TW.m26 B_30_T hb (mnN (topT 3 m_209) 3) (PB_30.1 3 (by decide)) (by omega) (by decide) rfl (fun h_32 hT_32 hF_32 hz_32 => ?_)
                    have hG_32 := Fr.trans hG_29 hF_32
                    suffices J263 : ∀ (M X1 X2 : tM) (hh : hH), mS (B) a_209 M → pgI M → gF ms M → TW b hh M → Fr (TS b) h hh → hh.1 = h.1 + 1 → mnN M 3 = mnN ms 3 → W9 = cond (seesB T a_209 (sw 4)) (cond (nuP T (a_209 + 1)) (cond (decide (9 < numT T (a_209 + 1))) (pE T 5 (a_209 + 1) (a_209 + 1) X1) (pEnd T true 3 (a + 1) (a_209 + 2) (ats (tI M 26 (mnN M 3) (numT T (a_209 + 1))) (a_209 + 2)))) (pE T 1 (a_209 + 1) (a_209 + 1) X2)) (pEnd T true 3 (a + 1) a_209 M) → AW G kX3_itemMeant ((15 + 2 * f, 600 + 100 * f, 1, 4), (fun r h1 => ∃ (m9 : tM) (a9 : Nat), r = some (.int (nI W9.1)) ∧ TW b h1 m9 ∧ Fr (TS b) h h1 ∧ h1.1 ≤ h.1 + 1 ∧ (W9.1 = 0 → W9.2.2 = (a9 + 1, ats m9 (a9 + 1)) ∧ m9.1 7 = nI a9) ∧ (W9.1 ≠ 0 → gF ms m9 ∧ m9.1 3 = nI W9.2.1 ∧ W9.1 < 50)), nX) 263 [(5, .int 0), (4, .int (nI (a + 1))), (3, .int 3), (2, .int (nI a)), (1, .ref h.1), (0, .ref b)] [] hh ((0 + 1)) ((0 + 4)) from
                      J263 _ _ _ _ (IB_30.2.2.1.I (Or.inr rfl)) PB_30.I26 (GB_30.tr ((gF.rf _).I (by decide))) hT_32 hG_32 (by omega) hmn g_27
                    intro M X1 X2 hh SM PM GM hTM hFM hzM q9M hgM
                    have hS := hS0.g GM
                    have IM : pM (B) a_209 M a_209 M := pM.rf SM (by omega)
                    have n19M := SM.2.2.2.2.2.1; have c19M := PM.2.2.2.1; have d0M := PM.2.1; have d1M := PM.2.2.1 1 (by decide) (by decide); have d2M := PM.2.2.1 2 (by decide) (by decide); have d3M := PM.2.2.1 3 (by decide) (by decide)
                    have tk_33 := hS.1 a_209 Z_209; have Ktk_33 := tk_33.2.1
                    try simp only [Bool.true_and, pT, ef, cond_true, gOr, gAnd, gSum, gPro, tS_tS, seesP_eq Z_209 hN4 hS.2.1, nmP_eq Z_209 hN4 hS.2.1, nuP_eq Z_209 hN4 hS.2.1, whP_eq Z_209 hN4 hS.2.1] at hgM
                    refine aw_aload_n (n := 264) dX3_itemMeant_263 rfl 5 rfl rfl ?_
                    refine aw_ldcS (n := 266) (q := 4) dX3_itemMeant_264 100 rfl rfl ?_
                    refine aw_know (fun gd_33 hi_33 => ?_)
                    refine aw_callV (n := 269) (C0 := RX3) (As := [.ref (gT G 4)]) (rest := []) (K2 := kX3_sees) dX3_itemMeant_266 q2826 q2828 qs50 q113 q2829 ⟨rfl, hcX3_sees⟩ rfl hTM.1 (ct_sees G hh b M hb hTM T a_209 IM.2.2.1.1 tk_33 _ (sw 4) (str_at gd_33 hi_33 (i := 4) rfl) (lo_at (i := 4) rfl)) rfl (Nat.le_of_ble_eq_true rfl) ⟨by dsimp only [kX3_formula, kX3_row, kX3_since, kX3_one, kX3_expression, kX3_product, kX3_factor, kX3_fronted, kX3_compare, kX3_twoSided, kX3_braces, kX3_namedValue, kX3_bounds, kX3_nameOf, kX3_sees, kX3_is, kX3_isName, kX3_which, kX3_numberOf, kX3_find, kX3_node, kX3_wrong, kJ12_length, meK]; omega, by dsimp only [kX3_formula, kX3_row, kX3_since, kX3_one, kX3_expression, kX3_product, kX3_factor, kX3_fronted, kX3_compare, kX3_twoSided, kX3_braces, kX3_namedValue, kX3_bounds, kX3_nameOf, kX3_sees, kX3_is, kX3_isName, kX3_which, kX3_numberOf, kX3_find, kX3_node, kX3_wrong, kJ12_length, meK]; omega⟩ ⟨by first | omega | (dsimp only; omega) | decide, by first | omega | (dsimp only; omega) | decide⟩ (fun _ _ _ z => z.elim) rfl (fun r_266 h_266 q_266 => ?_)
                    obtain ⟨rfl, rfl⟩ := q_266
                    refine AW.sts (st' := [.int (bI (seesB T a_209 (sw 4)))]) rfl ?_
                    refine aw_if_eq (n := 272) (tgt := 334) dX3_itemMeant_269 (by decide) rfl (fun c_269 => ?_) (fun c_269 => ?_)
                    · skip
                      have b_269 : (seesB T a_209 (sw 4)) = false := (bI_0 _).mp c_269
                      have g_35 := pG_F hgM (by first | assumption | simp [b_269])
                      try dsimp only at g_35
                      unfold pEnd at g_35
                      try simp only [Bool.true_and, pT, ef, cond_true, gOr, gAnd, gSum, gPro, tS_tS, seesP_eq Z_209 hN4 hS.2.1, nmP_eq Z_209 hN4 hS.2.1, nuP_eq Z_209 hN4 hS.2.1, whP_eq Z_209 hN4 hS.2.1] at g_35
                      try simp only [Bool.true_and, pT, ef, cond_true, gOr, gAnd, gSum, gPro, tS_tS, seesP_eq Z_209 hN4 hS.2.1, nmP_eq Z_209 hN4 hS.2.1, nuP_eq Z_209 hN4 hS.2.1, whP_eq Z_209 hN4 hS.2.1] at g_35
                      have g_36 := pG_l g_35 h1
                      have g_37 := g_36.2
                      try dsimp only at g_37
                      refine aw_aload_n (n := 335) dX3_itemMeant_334 rfl 5 rfl rfl ?_
                      refine aw_getf (n := 338) (v := .ref (b + 13)) (C0 := RX3) (T := TX3) dX3_itemMeant_335 rfl 20 q2661 (Or.inl rfl) hTM.1 rfl rfl ?_
                      refine aw_aload_n (n := 339) dX3_itemMeant_338 rfl 5 rfl rfl ?_
                      refine aw_getf (n := 342) (v := .int (M.1 19)) (C0 := RX3) (T := TX3) dX3_itemMeant_339 rfl 19 q2660 (Or.inl rfl) hTM.1 rfl rfl ?_
                      refine aw_aload_n (n := 343) dX3_itemMeant_342 rfl 5 rfl rfl ?_
                      refine aw_iload (n := 345) dX3_itemMeant_343 1 rfl rfl ?_
                      refine aw_callV (n := 348) (C0 := RX3) (As := [.int (nI (a + 1))]) (rest := [.int (M.1 19), .ref (b + 13)]) (K2 := kX3_nameOf) dX3_itemMeant_345 q2953 q2955 qs70 q113 q2956 ⟨rfl, hcX3_nameOf⟩ rfl hTM.1 (ct_nameOf G hh b M hb hTM T (a + 1) ((hS.kept IM.2.2.2).1 (a + 1) hN1)) rfl (Nat.le_of_ble_eq_true rfl) ⟨by dsimp only [kX3_formula, kX3_row, kX3_since, kX3_one, kX3_expression, kX3_product, kX3_factor, kX3_fronted, kX3_compare, kX3_twoSided, kX3_braces, kX3_namedValue, kX3_bounds, kX3_nameOf, kX3_sees, kX3_is, kX3_isName, kX3_which, kX3_numberOf, kX3_find, kX3_node, kX3_wrong, kJ12_length, meK]; omega, by dsimp only [kX3_formula, kX3_row, kX3_since, kX3_one, kX3_expression, kX3_product, kX3_factor, kX3_fronted, kX3_compare, kX3_twoSided, kX3_braces, kX3_namedValue, kX3_bounds, kX3_nameOf, kX3_sees, kX3_is, kX3_isName, kX3_which, kX3_numberOf, kX3_find, kX3_node, kX3_wrong, kJ12_length, meK]; omega⟩ ⟨by first | omega | (dsimp only; omega) | decide, by first | omega | (dsimp only; omega) | decide⟩ (fun _ _ _ z => z.elim) rfl (fun r_345 h_345 q_345 => ?_)
                      obtain ⟨rfl, rfl⟩ := q_345
                      refine AW.sts (st' := [.long (nameT T (a + 1)), .int (M.1 19), .ref (b + 13)]) rfl ?_
                      refine aw_tlast (n := 349) dX3_itemMeant_348 TW.m20 hTM hb (nN (M.1 19)) SM.2.2.2.2.1 (by omega) (by decide) rfl (fun h_38 hT_38 hF_38 hz_38 => ?_)
                      have hG_38 := Fr.trans hFM hF_38
                      refine aw_aload_n (n := 350) dX3_itemMeant_349 rfl 5 rfl rfl ?_
                      refine aw_getf (n := 353) (v := .ref (b + 14)) (C0 := RX3) (T := TX3) dX3_itemMeant_350 rfl 21 q2662 (Or.inl rfl) hT_38.1 rfl rfl ?_
                      refine aw_aload_n (n := 354) dX3_itemMeant_353 rfl 5 rfl rfl ?_
                      refine aw_getf (n := 357) (v := .int (M.1 19)) (C0 := RX3) (T := TX3) dX3_itemMeant_354 rfl 19 q2660 (Or.inl rfl) hT_38.1 rfl rfl ?_
                      refine aw_iload_n (n := 358) dX3_itemMeant_357 rfl 2 rfl rfl ?_
                      refine aw_tiast (n := 359) dX3_itemMeant_358 TW.m21 hT_38 hb (nN (M.1 19)) SM.2.2.2.2.1 (by omega) (by decide) rfl (fun h_39 hT_39 hF_39 hz_39 => ?_)
                      have hG_39 := Fr.trans hG_38 hF_39
                      refine aw_aload_n (n := 360) dX3_itemMeant_359 rfl 5 rfl rfl ?_
                      refine aw_getf (n := 363) (v := .ref (b + 15)) (C0 := RX3) (T := TX3) dX3_itemMeant_360 rfl 22 q2663 (Or.inl rfl) hT_39.1 rfl rfl ?_
                      refine aw_aload_n (n := 364) dX3_itemMeant_363 rfl 5 rfl rfl ?_
                      refine aw_getf (n := 367) (v := .int (M.1 19)) (C0 := RX3) (T := TX3) dX3_itemMeant_364 rfl 19 q2660 (Or.inl rfl) hT_39.1 rfl rfl ?_
                      refine aw_aload_n (n := 368) dX3_itemMeant_367 rfl 5 rfl rfl ?_
                      refine aw_getf (n := 371) (v := .ref (b + 16)) (C0 := RX3) (T := TX3) dX3_itemMeant_368 rfl 23 q2664 (Or.inl rfl) hT_39.1 rfl rfl ?_
                      refine aw_iload_n (n := 372) dX3_itemMeant_371 rfl 2 rfl rfl ?_
                      refine aw_iald (n := 373) (v := .int (M.2.1 23 3)) dX3_itemMeant_372 rfl 3 (by rfl) hT_39.a23 (by omega) (by decide) rfl rfl ?_
                      refine aw_tiast (n := 374) dX3_itemMeant_373 TW.m22 hT_39 hb (nN (M.1 19)) SM.2.2.2.2.1 (by omega) (by decide) rfl (fun h_40 hT_40 hF_40 hz_40 => ?_)
                      have hG_40 := Fr.trans hG_39 hF_40
                      refine aw_aload_n (n := 375) dX3_itemMeant_374 rfl 5 rfl rfl ?_
                      refine aw_dup (n := 376) dX3_itemMeant_375 rfl rfl ?_
                      refine aw_getf (n := 379) (v := .int (M.1 19)) (C0 := RX3) (T := TX3) dX3_itemMeant_376 rfl 19 q2660 (Or.inl rfl) hT_40.1 rfl rfl ?_
                      refine aw_iconst (n := 380) (v := 1) dX3_itemMeant_379 (by decide) rfl ?_
                      refine aw_iadd (n := 381) dX3_itemMeant_380 rfl ?_
                      refine AW.sts (st' := [.int (nI ((nN (M.1 19)) + 1)), .ref b]) (by rw [show (M.1 19) + 1 = nI ((nN (M.1 19)) + 1) from ((congrArg (fun z9 : Int32 => z9 + 1) (SM.2.2.2.2.1 : (M.1 19) = nI (nN (M.1 19)))).trans (nI_1 _))]) ?_
                      refine aw_tput (n := 384) (k := 19) dX3_itemMeant_381 q2660 (by decide) rfl rfl rfl rfl rfl hT_40 hb rfl rfl (fun h_41 hT_41 hF_41 hz_41 => ?_)
                      have hG_41 := Fr.trans hG_40 hF_41
                      refine aw_aload_n (n := 385) dX3_itemMeant_384 rfl 5 rfl rfl ?_
                      refine aw_getf (n := 388) (v := .ref (b + 16)) (C0 := RX3) (T := TX3) dX3_itemMeant_385 rfl 23 q2664 (Or.inl rfl) hT_41.1 rfl rfl ?_
                      refine aw_iload_n (n := 389) dX3_itemMeant_388 rfl 2 rfl rfl ?_
                      refine aw_dup2 (n := 390) dX3_itemMeant_389 rfl rfl rfl ?_
                      refine aw_iald (n := 391) (v := .int (M.2.1 23 3)) dX3_itemMeant_390 rfl 3 (by rfl) hT_41.a23 (by omega) (by decide) rfl rfl ?_
                      refine aw_iconst (n := 392) (v := 1) dX3_itemMeant_391 (by decide) rfl ?_
                      refine aw_iadd (n := 393) dX3_itemMeant_392 rfl ?_
                      refine aw_tiast (n := 394) dX3_itemMeant_393 TW.m23 hT_41 hb 3 (by rfl) (by omega) (by decide) rfl (fun h_42 hT_42 hF_42 hz_42 => ?_)
                      have hG_42 := Fr.trans hG_41 hF_42
                      refine aw_iconst (n := 395) (v := 0) dX3_itemMeant_394 (by decide) rfl ?_
                      exact aw_iret dX3_itemMeant_395 rfl ⟨tI (tS (tI (tI (tL M 20 (nN (M.1 19)) (nameT T (a + 1))) 21 (nN (M.1 19)) (3 : Int32)) 22 (nN (M.1 19)) (M.2.1 23 3)) 19 (nI ((nN (M.1 19)) + 1))) 23 3 ((M.2.1 23 3) + 1), a_209, by rw [g_37] <;> rfl, hT_42, hG_42, (by omega), fun _ => ⟨by rw [g_37] <;> rfl, IM.2.2.1.1⟩, fun z => absurd (by rw [g_37] <;> rfl) z⟩ ⟨(by first | exact Nat.le_refl _ | omega | (dsimp only; omega)), (by first | exact Nat.le_refl _ | omega | (dsimp only; omega))⟩
                    · skip
                      have b_269 : (seesB T a_209 (sw 4)) = true := Bool.of_not_eq_false (fun e => c_269 ((bI_0 _).mpr e))
                      have g_44 := pG_T hgM (by first | assumption | simp [b_269])
                      try dsimp only at g_44
                      have ne_45 : T.1 a_209 ≠ 0 := by have z9 := b_269; first | exact seesB_ne z9 | exact isNm_ne z9 | (have z8 := (beq_iff_eq.mp z9); omega) | exact whT_lt (bne_iff_ne.mp z9) | (rcases (Bool.or_eq_true _ _).mp z9 with z8 | z8 <;> first | exact seesB_ne z8 | (rcases (Bool.or_eq_true _ _).mp z8 with z7 | z7 <;> exact seesB_ne z7))
                      refine aw_aload_n (n := 273) dX3_itemMeant_272 rfl 5 rfl rfl ?_
                      refine aw_dup (n := 274) dX3_itemMeant_273 rfl rfl ?_
                      refine aw_getf (n := 277) (v := .int (nI a_209)) (C0 := RX3) (T := TX3) dX3_itemMeant_274 rfl 7 q2648 (Or.inl rfl) hTM.1 (congrArg some (congrArg Value.int IM.2.2.1.1)) rfl ?_
                      refine aw_iconst (n := 278) (v := 1) dX3_itemMeant_277 (by decide) rfl ?_
                      refine aw_iadd (n := 279) dX3_itemMeant_278 rfl ?_
                      refine AW.sts (st' := [.int (nI (a_209 + 1)), .ref b]) (by rw [show (nI a_209) + 1 = nI (a_209 + 1) from (nI_1 _)]) ?_
                      refine aw_tput (n := 282) (k := 7) dX3_itemMeant_279 q2648 (by decide) rfl rfl rfl rfl rfl hTM hb rfl rfl (fun h_46 hT_46 hF_46 hz_46 => ?_)
                      have hG_46 := Fr.trans hFM hF_46
                      have N_47 : a_209 + 1 ≤ N := lt_end hS.2.1 Z_209 ne_45
                      have I_48 := IM.at (a' := a_209 + 1) (by omega) (by omega)
                      have tk_49 := (hS.kept I_48.2.2.2).1 (a_209 + 1) N_47; have Ktk_49 := tk_49.2.1
                      try simp only [Bool.true_and, pT, ef, cond_true, gOr, gAnd, gSum, gPro, tS_tS, seesP_eq N_47 hN4 hS.2.1, nmP_eq N_47 hN4 hS.2.1, nuP_eq N_47 hN4 hS.2.1, whP_eq N_47 hN4 hS.2.1] at g_44
                      have g_50 := pG_c g_44 h1
                      have g_51 := g_50.2
                      try dsimp only at g_51
                      have ne_52 : T.1 (a_209 + 1) ≠ 0 := by have z9 := g_50.1; first | exact seesB_ne z9 | exact isNm_ne z9 | (have z8 := (beq_iff_eq.mp z9); omega) | exact whT_lt (bne_iff_ne.mp z9) | (rcases (Bool.or_eq_true _ _).mp z9 with z8 | z8 <;> first | exact seesB_ne z8 | (rcases (Bool.or_eq_true _ _).mp z8 with z7 | z7 <;> exact seesB_ne z7))
                      refine aw_aload_n (n := 283) dX3_itemMeant_282 rfl 5 rfl rfl ?_
                      refine aw_aload_n (n := 284) dX3_itemMeant_283 rfl 5 rfl rfl ?_
                      refine aw_getf (n := 287) (v := .int (nI (a_209 + 1))) (C0 := RX3) (T := TX3) dX3_itemMeant_284 rfl 7 q2648 (Or.inl rfl) hT_46.1 rfl rfl ?_
                      refine aw_callV (n := 290) (C0 := RX3) (As := [.int (nI (a_209 + 1))]) (rest := []) (K2 := kX3_numberOf) dX3_itemMeant_287 q2958 q2960 qs71 q113 q2961 ⟨rfl, hcX3_numberOf⟩ rfl hT_46.1 (ct_numberOf G h_46 b (tS M 7 (nI (a_209 + 1))) hb hT_46 T (a_209 + 1) ((hS.kept I_48.2.2.2).1 (a_209 + 1) N_47)) rfl (Nat.le_of_ble_eq_true rfl) ⟨by dsimp only [kX3_formula, kX3_row, kX3_since, kX3_one, kX3_expression, kX3_product, kX3_factor, kX3_fronted, kX3_compare, kX3_twoSided, kX3_braces, kX3_namedValue, kX3_bounds, kX3_nameOf, kX3_sees, kX3_is, kX3_isName, kX3_which, kX3_numberOf, kX3_find, kX3_node, kX3_wrong, kJ12_length, meK]; omega, by dsimp only [kX3_formula, kX3_row, kX3_since, kX3_one, kX3_expression, kX3_product, kX3_factor, kX3_fronted, kX3_compare, kX3_twoSided, kX3_braces, kX3_namedValue, kX3_bounds, kX3_nameOf, kX3_sees, kX3_is, kX3_isName, kX3_which, kX3_numberOf, kX3_find, kX3_node, kX3_wrong, kJ12_length, meK]; omega⟩ ⟨by first | omega | (dsimp only; omega) | decide, by first | omega | (dsimp only; omega) | decide⟩ (fun _ _ _ z => z.elim) rfl (fun r_287 h_287 q_287 => ?_)
                      obtain ⟨rfl, rfl⟩ := q_287
                      refine AW.sts (st' := [.int (numT T (a_209 + 1))]) rfl ?_
                      refine aw_bipush (n := 292) (v := 9) dX3_itemMeant_290 (by decide) rfl ?_
                      refine aw_icmp_le (n := 295) (tgt := 305) dX3_itemMeant_292 (by decide) rfl (fun c_292 => ?_) (fun c_292 => ?_)
                      · skip
                        have f_292 : decide (9 < numT T (a_209 + 1)) = false := decide_eq_false (Int32.not_lt.mpr c_292)
                        have g_53 := pG_F g_51 (by first | assumption | simp [f_292])
                        try dsimp only at g_53
                        unfold pEnd at g_53
                        try simp only [Bool.true_and, pT, ef, cond_true, gOr, gAnd, gSum, gPro, tS_tS, seesP_eq N_47 hN4 hS.2.1, nmP_eq N_47 hN4 hS.2.1, nuP_eq N_47 hN4 hS.2.1, whP_eq N_47 hN4 hS.2.1] at g_53
                        refine aw_aload_n (n := 306) dX3_itemMeant_305 rfl 5 rfl rfl ?_
                        refine aw_getf (n := 309) (v := .ref (b + 19)) (C0 := RX3) (T := TX3) dX3_itemMeant_306 rfl 26 q2667 (Or.inl rfl) hT_46.1 rfl rfl ?_
                        refine aw_aload_n (n := 310) dX3_itemMeant_309 rfl 5 rfl rfl ?_
                        refine aw_getf (n := 313) (v := .ref (b + 16)) (C0 := RX3) (T := TX3) dX3_itemMeant_310 rfl 23 q2664 (Or.inl rfl) hT_46.1 rfl rfl ?_
                        refine aw_iconst (n := 314) (v := 3) dX3_itemMeant_313 (by decide) rfl ?_
                        refine aw_iald (n := 315) (v := .int (M.2.1 23 3)) dX3_itemMeant_314 rfl 3 (by rfl) hT_46.a23 (by omega) (by decide) rfl rfl ?_
                        refine aw_aload_n (n := 316) dX3_itemMeant_315 rfl 5 rfl rfl ?_
                        refine aw_aload_n (n := 317) dX3_itemMeant_316 rfl 5 rfl rfl ?_
                        refine aw_getf (n := 320) (v := .int (nI (a_209 + 1))) (C0 := RX3) (T := TX3) dX3_itemMeant_317 rfl 7 q2648 (Or.inl rfl) hT_46.1 rfl rfl ?_
                        refine aw_callV (n := 323) (C0 := RX3) (As := [.int (nI (a_209 + 1))]) (rest := [.int (M.2.1 23 3), .ref (b + 19)]) (K2 := kX3_numberOf) dX3_itemMeant_320 q2958 q2960 qs71 q113 q2961 ⟨rfl, hcX3_numberOf⟩ rfl hT_46.1 (ct_numberOf G h_46 b (tS M 7 (nI (a_209 + 1))) hb hT_46 T (a_209 + 1) ((hS.kept I_48.2.2.2).1 (a_209 + 1) N_47)) rfl (Nat.le_of_ble_eq_true rfl) ⟨by dsimp only [kX3_formula, kX3_row, kX3_since, kX3_one, kX3_expression, kX3_product, kX3_factor, kX3_fronted, kX3_compare, kX3_twoSided, kX3_braces, kX3_namedValue, kX3_bounds, kX3_nameOf, kX3_sees, kX3_is, kX3_isName, kX3_which, kX3_numberOf, kX3_find, kX3_node, kX3_wrong, kJ12_length, meK]; omega, by dsimp only [kX3_formula, kX3_row, kX3_since, kX3_one, kX3_expression, kX3_product, kX3_factor, kX3_fronted, kX3_compare, kX3_twoSided, kX3_braces, kX3_namedValue, kX3_bounds, kX3_nameOf, kX3_sees, kX3_is, kX3_isName, kX3_which, kX3_numberOf, kX3_find, kX3_node, kX3_wrong, kJ12_length, meK]; omega⟩ ⟨by first | omega | (dsimp only; omega) | decide, by first | omega | (dsimp only; omega) | decide⟩ (fun _ _ _ z => z.elim) rfl (fun r_320 h_320 q_320 => ?_)
                        obtain ⟨rfl, rfl⟩ := q_320
                        refine AW.sts (st' := [.int (numT T (a_209 + 1)), .int (M.2.1 23 3), .ref (b + 19)]) rfl ?_
                        refine aw_tiast (n := 324) dX3_itemMeant_323 TW.m26 hT_46 hb (mnN M 3) (PM.1 3 (by decide)) (by omega) (by decide) rfl (fun h_54 hT_54 hF_54 hz_54 => ?_)
                        have hG_54 := Fr.trans hG_46 hF_54
                        refine aw_aload_n (n := 325) dX3_itemMeant_324 rfl 5 rfl rfl ?_
                        refine aw_dup (n := 326) dX3_itemMeant_325 rfl rfl ?_
                        refine aw_getf (n := 329) (v := .int (nI (a_209 + 1))) (C0 := RX3) (T := TX3) dX3_itemMeant_326 rfl 7 q2648 (Or.inl rfl) hT_54.1 rfl rfl ?_
                        refine aw_iconst (n := 330) (v := 1) dX3_itemMeant_329 (by decide) rfl ?_
                        refine aw_iadd (n := 331) dX3_itemMeant_330 rfl ?_
                        refine AW.sts (st' := [.int (nI ((a_209 + 1) + 1)), .ref b]) (by rw [show (nI (a_209 + 1)) + 1 = nI ((a_209 + 1) + 1) from (nI_1 _)]) ?_
                        refine aw_tput (n := 334) (k := 7) dX3_itemMeant_331 q2648 (by decide) rfl rfl rfl rfl rfl hT_54 hb rfl rfl (fun h_55 hT_55 hF_55 hz_55 => ?_)
                        have hG_55 := Fr.trans hG_54 hF_55
                        have N_56 : (a_209 + 1) + 1 ≤ N := lt_end hS.2.1 N_47 ne_52
                        have I_57 := I_48.at (a' := (a_209 + 1) + 1) (by omega) (by omega)
                        have tk_58 := (hS.kept I_57.2.2.2).1 ((a_209 + 1) + 1) N_56; have Ktk_58 := tk_58.2.1
                        try simp only [Bool.true_and, pT, ef, cond_true, gOr, gAnd, gSum, gPro, tS_tS, seesP_eq N_56 hN4 hS.2.1, nmP_eq N_56 hN4 hS.2.1, nuP_eq N_56 hN4 hS.2.1, whP_eq N_56 hN4 hS.2.1] at g_53
                        have T9_ : TW b h_55 (tS (tI M 26 (mnN M 3) (numT T (a_209 + 1))) 7 (nI ((a_209 + 1) + 1))) := by have z := hT_55; rw [tS_tI] at z; exact z
                        try simp only [Bool.true_and, pT, ef, cond_true, gOr, gAnd, gSum, gPro, tS_tS, seesP_eq N_56 hN4 hS.2.1, nmP_eq N_56 hN4 hS.2.1, nuP_eq N_56 hN4 hS.2.1, whP_eq N_56 hN4 hS.2.1] at g_53
                        suffices J334 : ∀ (M2 : tM) (h2 : hH), mS (B) ((a_209 + 1) + 1) M2 → pgI M2 → gF ms M2 → TW b h2 M2 → Fr (TS b) h h2 → h2.1 = h.1 + 1 → mnN M2 3 = mnN ms 3 → W9 = pI T (seesB T ((a_209 + 1) + 1) (sw 45)) ((a_209 + 1) + 1) (newT T 3 (a + 1) M2) → AW G kX3_itemMeant ((15 + 2 * f, 600 + 100 * f, 1, 4), (fun r h1 => ∃ (m9 : tM) (a9 : Nat), r = some (.int (nI W9.1)) ∧ TW b h1 m9 ∧ Fr (TS b) h h1 ∧ h1.1 ≤ h.1 + 1 ∧ (W9.1 = 0 → W9.2.2 = (a9 + 1, ats m9 (a9 + 1)) ∧ m9.1 7 = nI a9) ∧ (W9.1 ≠ 0 → gF ms m9 ∧ m9.1 3 = nI W9.2.1 ∧ W9.1 < 50)), nX) 334 [(5, .int 0), (4, .int (nI (a + 1))), (3, .int 3), (2, .int (nI a)), (1, .ref h.1), (0, .ref b)] [] h2 ((0 + 1)) ((0 + 4)) from
                          J334 _ _ ((SM.I (Or.inr rfl)).at0 (by omega)) (PM.I26.kept (mF.S (Or.inl rfl))) (GM.tr (((gF.rf _).I (by decide)).S (by decide))) T9_ hG_55 (by omega) q9M g_53
                        intro M2 h2 S2 P2 G2 hT2 hF2 hz2 q92 hg2
                        have hS := hS0.g G2
                        have I2 : pM (B) ((a_209 + 1) + 1) M2 ((a_209 + 1) + 1) M2 := pM.rf S2 (by omega)
                        have n192 := S2.2.2.2.2.2.1; have c192 := P2.2.2.2.1; have d02 := P2.2.1; have d12 := P2.2.2.1 1 (by decide) (by decide); have d22 := P2.2.2.1 2 (by decide) (by decide); have d32 := P2.2.2.1 3 (by decide) (by decide)
                        try simp only [Bool.true_and, pT, ef, cond_true, gOr, gAnd, gSum, gPro, tS_tS, seesP_eq N_56 hN4 hS.2.1, nmP_eq N_56 hN4 hS.2.1, nuP_eq N_56 hN4 hS.2.1, whP_eq N_56 hN4 hS.2.1] at hg2
                        have g_59 := pG_l hg2 h1
                        have g_60 := g_59.2
                        try dsimp only at g_60
                        refine aw_aload_n (n := 335) dX3_itemMeant_334 rfl 5 rfl rfl ?_
                        refine aw_getf (n := 338) (v := .ref (b + 13)) (C0 := RX3) (T := TX3) dX3_itemMeant_335 rfl 20 q2661 (Or.inl rfl) hT2.1 rfl rfl ?_
                        refine aw_aload_n (n := 339) dX3_itemMeant_338 rfl 5 rfl rfl ?_
                        refine aw_getf (n := 342) (v := .int (M2.1 19)) (C0 := RX3) (T := TX3) dX3_itemMeant_339 rfl 19 q2660 (Or.inl rfl) hT2.1 rfl rfl ?_
                        refine aw_aload_n (n := 343) dX3_itemMeant_342 rfl 5 rfl rfl ?_
                        refine aw_iload (n := 345) dX3_itemMeant_343 1 rfl rfl ?_
                        refine aw_callV (n := 348) (C0 := RX3) (As := [.int (nI (a + 1))]) (rest := [.int (M2.1 19), .ref (b + 13)]) (K2 := kX3_nameOf) dX3_itemMeant_345 q2953 q2955 qs70 q113 q2956 ⟨rfl, hcX3_nameOf⟩ rfl hT2.1 (ct_nameOf G h2 b M2 hb hT2 T (a + 1) ((hS.kept I2.2.2.2).1 (a + 1) hN1)) rfl (Nat.le_of_ble_eq_true rfl) ⟨by dsimp only [kX3_formula, kX3_row, kX3_since, kX3_one, kX3_expression, kX3_product, kX3_factor, kX3_fronted, kX3_compare, kX3_twoSided, kX3_braces, kX3_namedValue, kX3_bounds, kX3_nameOf, kX3_sees, kX3_is, kX3_isName, kX3_which, kX3_numberOf, kX3_find, kX3_node, kX3_wrong, kJ12_length, meK]; omega, by dsimp only [kX3_formula, kX3_row, kX3_since, kX3_one, kX3_expression, kX3_product, kX3_factor, kX3_fronted, kX3_compare, kX3_twoSided, kX3_braces, kX3_namedValue, kX3_bounds, kX3_nameOf, kX3_sees, kX3_is, kX3_isName, kX3_which, kX3_numberOf, kX3_find, kX3_node, kX3_wrong, kJ12_length, meK]; omega⟩ ⟨by first | omega | (dsimp only; omega) | decide, by first | omega | (dsimp only; omega) | decide⟩ (fun _ _ _ z => z.elim) rfl (fun r_345 h_345 q_345 => ?_)
                        obtain ⟨rfl, rfl⟩ := q_345
                        refine AW.sts (st' := [.long (nameT T (a + 1)), .int (M2.1 19), .ref (b + 13)]) rfl ?_
                        refine aw_tlast (n := 349) dX3_itemMeant_348 TW.m20 hT2 hb (nN (M2.1 19)) S2.2.2.2.2.1 (by omega) (by decide) rfl (fun h_61 hT_61 hF_61 hz_61 => ?_)
                        have hG_61 := Fr.trans hF2 hF_61
                        refine aw_aload_n (n := 350) dX3_itemMeant_349 rfl 5 rfl rfl ?_
                        refine aw_getf (n := 353) (v := .ref (b + 14)) (C0 := RX3) (T := TX3) dX3_itemMeant_350 rfl 21 q2662 (Or.inl rfl) hT_61.1 rfl rfl ?_
                        refine aw_aload_n (n := 354) dX3_itemMeant_353 rfl 5 rfl rfl ?_
                        refine aw_getf (n := 357) (v := .int (M2.1 19)) (C0 := RX3) (T := TX3) dX3_itemMeant_354 rfl 19 q2660 (Or.inl rfl) hT_61.1 rfl rfl ?_
                        refine aw_iload_n (n := 358) dX3_itemMeant_357 rfl 2 rfl rfl ?_
                        refine aw_tiast (n := 359) dX3_itemMeant_358 TW.m21 hT_61 hb (nN (M2.1 19)) S2.2.2.2.2.1 (by omega) (by decide) rfl (fun h_62 hT_62 hF_62 hz_62 => ?_)
                        have hG_62 := Fr.trans hG_61 hF_62
                        refine aw_aload_n (n := 360) dX3_itemMeant_359 rfl 5 rfl rfl ?_
                        refine aw_getf (n := 363) (v := .ref (b + 15)) (C0 := RX3) (T := TX3) dX3_itemMeant_360 rfl 22 q2663 (Or.inl rfl) hT_62.1 rfl rfl ?_
                        refine aw_aload_n (n := 364) dX3_itemMeant_363 rfl 5 rfl rfl ?_
                        refine aw_getf (n := 367) (v := .int (M2.1 19)) (C0 := RX3) (T := TX3) dX3_itemMeant_364 rfl 19 q2660 (Or.inl rfl) hT_62.1 rfl rfl ?_
                        refine aw_aload_n (n := 368) dX3_itemMeant_367 rfl 5 rfl rfl ?_
                        refine aw_getf (n := 371) (v := .ref (b + 16)) (C0 := RX3) (T := TX3) dX3_itemMeant_368 rfl 23 q2664 (Or.inl rfl) hT_62.1 rfl rfl ?_
                        refine aw_iload_n (n := 372) dX3_itemMeant_371 rfl 2 rfl rfl ?_
                        refine aw_iald (n := 373) (v := .int (M2.2.1 23 3)) dX3_itemMeant_372 rfl 3 (by rfl) hT_62.a23 (by omega) (by decide) rfl rfl ?_
                        refine aw_tiast (n := 374) dX3_itemMeant_373 TW.m22 hT_62 hb (nN (M2.1 19)) S2.2.2.2.2.1 (by omega) (by decide) rfl (fun h_63 hT_63 hF_63 hz_63 => ?_)
                        have hG_63 := Fr.trans hG_62 hF_63
                        refine aw_aload_n (n := 375) dX3_itemMeant_374 rfl 5 rfl rfl ?_
                        refine aw_dup (n := 376) dX3_itemMeant_375 rfl rfl ?_
                        refine aw_getf (n := 379) (v := .int (M2.1 19)) (C0 := RX3) (T := TX3) dX3_itemMeant_376 rfl 19 q2660 (Or.inl rfl) hT_63.1 rfl rfl ?_
                        refine aw_iconst (n := 380) (v := 1) dX3_itemMeant_379 (by decide) rfl ?_
                        refine aw_iadd (n := 381) dX3_itemMeant_380 rfl ?_
                        refine AW.sts (st' := [.int (nI ((nN (M2.1 19)) + 1)), .ref b]) (by rw [show (M2.1 19) + 1 = nI ((nN (M2.1 19)) + 1) from ((congrArg (fun z9 : Int32 => z9 + 1) (S2.2.2.2.2.1 : (M2.1 19) = nI (nN (M2.1 19)))).trans (nI_1 _))]) ?_
                        refine aw_tput (n := 384) (k := 19) dX3_itemMeant_381 q2660 (by decide) rfl rfl rfl rfl rfl hT_63 hb rfl rfl (fun h_64 hT_64 hF_64 hz_64 => ?_)
                        have hG_64 := Fr.trans hG_63 hF_64
                        refine aw_aload_n (n := 385) dX3_itemMeant_384 rfl 5 rfl rfl ?_
                        refine aw_getf (n := 388) (v := .ref (b + 16)) (C0 := RX3) (T := TX3) dX3_itemMeant_385 rfl 23 q2664 (Or.inl rfl) hT_64.1 rfl rfl ?_
                        refine aw_iload_n (n := 389) dX3_itemMeant_388 rfl 2 rfl rfl ?_
                        refine aw_dup2 (n := 390) dX3_itemMeant_389 rfl rfl rfl ?_
                        refine aw_iald (n := 391) (v := .int (M2.2.1 23 3)) dX3_itemMeant_390 rfl 3 (by rfl) hT_64.a23 (by omega) (by decide) rfl rfl ?_
                        refine aw_iconst (n := 392) (v := 1) dX3_itemMeant_391 (by decide) rfl ?_
                        refine aw_iadd (n := 393) dX3_itemMeant_392 rfl ?_
                        refine aw_tiast (n := 394) dX3_itemMeant_393 TW.m23 hT_64 hb 3 (by rfl) (by omega) (by decide) rfl (fun h_65 hT_65 hF_65 hz_65 => ?_)
                        have hG_65 := Fr.trans hG_64 hF_65
                        refine aw_iconst (n := 395) (v := 0) dX3_itemMeant_394 (by decide) rfl ?_
                        exact aw_iret dX3_itemMeant_395 rfl ⟨tI (tS (tI (tI (tL M2 20 (nN (M2.1 19)) (nameT T (a + 1))) 21 (nN (M2.1 19)) (3 : Int32)) 22 (nN (M2.1 19)) (M2.2.1 23 3)) 19 (nI ((nN (M2.1 19)) + 1))) 23 3 ((M2.2.1 23 3) + 1), (a_209 + 1) + 1, by rw [g_60] <;> rfl, hT_65, hG_65, (by omega), fun _ => ⟨by rw [g_60] <;> rfl, I2.2.2.1.1⟩, fun z => absurd (by rw [g_60] <;> rfl) z⟩ ⟨(by first | exact Nat.le_refl _ | omega | (dsimp only; omega)), (by first | exact Nat.le_refl _ | omega | (dsimp only; omega))⟩
                      · skip
                        have f_292 : decide (9 < numT T (a_209 + 1)) = true := decide_eq_true (Int32.not_le.mp c_292)
                        have g_66 := pG_T g_51 (by first | assumption | simp [f_292])
                        try dsimp only at g_66
                        refine aw_aload_n (n := 296) dX3_itemMeant_295 rfl 5 rfl rfl ?_
                        refine aw_iconst (n := 297) (v := 5) dX3_itemMeant_296 (by decide) rfl ?_
                        refine aw_aload_n (n := 298) dX3_itemMeant_297 rfl 5 rfl rfl ?_
                        refine aw_getf (n := 301) (v := .int (nI (a_209 + 1))) (C0 := RX3) (T := TX3) dX3_itemMeant_298 rfl 7 q2648 (Or.inl rfl) hT_46.1 rfl rfl ?_
                        refine aw_callV (n := 304) (C0 := RX3) (As := [.int 5, .int (nI (a_209 + 1))]) (rest := []) (K2 := kX3_wrong) dX3_itemMeant_301 q2935 q2937 qs66 q113 q2938 ⟨rfl, hcX3_wrong⟩ rfl hT_46.1 (ct_wrong G h_46 b (tS M 7 (nI (a_209 + 1))) hb hT_46 T (a_209 + 1) ((hS.kept I_48.2.2.2).1 (a_209 + 1) N_47) (5 : Int32)) rfl (Nat.le_of_ble_eq_true rfl) ⟨by dsimp only [kX3_formula, kX3_row, kX3_since, kX3_one, kX3_expression, kX3_product, kX3_factor, kX3_fronted, kX3_compare, kX3_twoSided, kX3_braces, kX3_namedValue, kX3_bounds, kX3_nameOf, kX3_sees, kX3_is, kX3_isName, kX3_which, kX3_numberOf, kX3_find, kX3_node, kX3_wrong, kJ12_length, meK]; omega, by dsimp only [kX3_formula, kX3_row, kX3_since, kX3_one, kX3_expression, kX3_product, kX3_factor, kX3_fronted, kX3_compare, kX3_twoSided, kX3_braces, kX3_namedValue, kX3_bounds, kX3_nameOf, kX3_sees, kX3_is, kX3_isName, kX3_which, kX3_numberOf, kX3_find, kX3_node, kX3_wrong, kJ12_length, meK]; omega⟩ ⟨by first | omega | (dsimp only; omega) | decide, by first | omega | (dsimp only; omega) | decide⟩ (fun _ _ _ z => z.elim) rfl (fun r_301 h_301 q_301 => ?_)
                        obtain ⟨rfl, hT_301, hF_301, hz_301⟩ := q_301
                        have hG_301 := Fr.trans hG_46 hF_301
                        refine AW.sts (st' := [.int 5]) rfl ?_
                        exact aw_iret dX3_itemMeant_304 rfl ⟨tS (tS M 7 (nI (a_209 + 1))) 3 (nI (T.2.1 (a_209 + 1))), 0, by rw [g_66] <;> rfl, hT_301, hG_301, (by omega), fun z => absurd z (by rw [g_66]; exact (by decide : (5 : Nat) ≠ 0)), fun _ => ⟨(GM.tr (gF.of (mE.of I_48.2.2.2))).S (by decide), by rw [g_66] <;> rfl, by rw [g_66]; exact (by decide : (5 : Nat) < 50)⟩⟩ ⟨(by first | exact Nat.le_refl _ | omega | (dsimp only; omega)), (by first | exact Nat.le_refl _ | omega | (dsimp only; omega))⟩
              · skip
                exact absurd c_216 (by decide +kernel)
            · skip
              refine AW.sts (st' := [.int (nI e_209)]) (by rw [hR_209]; rfl) ?_
              have gE_209 : W9 = (e_209, l_209, a_209, w_209) := pG_er g_22 (by omega)
              replace er_209 := er_209 (by omega)
              have E_209 := mE.tr I_25.2.2.2 er_209.1
              have P_209 := er_209.2.1
              refine aw_istore (n := 214) (lv' := [(5, .int (nI e_209)), (4, .int (nI (a + 1))), (3, .int 3), (2, .int (nI a)), (1, .ref h.1), (0, .ref b)]) dX3_itemMeant_212 (by decide) rfl rfl ?_
              refine aw_iload (n := 216) dX3_itemMeant_214 0 rfl rfl ?_
              refine aw_if_eq (n := 219) (tgt := 222) dX3_itemMeant_216 (by decide) rfl (fun c_216_2 => ?_) (fun c_216_2 => ?_)
              · skip
                have n_216_2 : e_209 = 0 := (nI_eq (a := e_209) (b := 0) (by omega) (by omega)).mp (by rw [← ((by rfl) : (0 : Int32) = nI 0)]; exact c_216_2)
                exact absurd n_216_2 (by omega)
              · skip
                have n_216_2 : ¬ (e_209 = 0) := fun z => c_216_2 (by have y := (nI_eq (a := e_209) (b := 0) (by omega) (by omega)).mpr z; rw [← ((by rfl) : (0 : Int32) = nI 0)] at y; exact y)
                refine aw_iload (n := 221) dX3_itemMeant_219 0 rfl rfl ?_
                exact aw_iret dX3_itemMeant_221 rfl ⟨m_209, 0, by rw [gE_209], hT_209, hG_209, (by omega), fun z => absurd z (by rw [gE_209]; show e_209 ≠ 0; omega), fun _ => ⟨gF.of E_209, by rw [gE_209]; exact P_209, by rw [gE_209]; exact er_209.2.2⟩⟩ ⟨(by first | exact Nat.le_refl _ | omega | (dsimp only; omega)), (by first | exact Nat.le_refl _ | omega | (dsimp only; omega))⟩
          · skip
            exact absurd c_198 (by decide +kernel)
        · skip
          exact absurd c_115 (by decide +kernel)
      · skip
        have f_90 : (fnT T ms (a + 1) != -1) = true := bne_iff_ne.mpr c_90
        have g_67 := pG_T g_15 (by first | assumption | simp [f_90])
        try dsimp only at g_67
        refine aw_aload_n (n := 94) dX3_itemMeant_93 rfl 4 rfl rfl ?_
        refine aw_iconst (n := 95) (v := 3) dX3_itemMeant_94 (by decide) rfl ?_
        refine aw_iload (n := 97) dX3_itemMeant_95 0 rfl rfl ?_
        refine aw_callV (n := 100) (C0 := RX3) (As := [.int 3, .int (nI (a + 1))]) (rest := []) (K2 := kX3_wrong) dX3_itemMeant_97 q2935 q2937 qs66 q113 q2938 ⟨rfl, hcX3_wrong⟩ rfl hT_10.1 (ct_wrong G h_10 b (tS ms 7 (nI (a + 1))) hb hT_10 T (a + 1) ((hS.kept I_12.2.2.2).1 (a + 1) N_11) (3 : Int32)) rfl (Nat.le_of_ble_eq_true rfl) ⟨by dsimp only [kX3_formula, kX3_row, kX3_since, kX3_one, kX3_expression, kX3_product, kX3_factor, kX3_fronted, kX3_compare, kX3_twoSided, kX3_braces, kX3_namedValue, kX3_bounds, kX3_nameOf, kX3_sees, kX3_is, kX3_isName, kX3_which, kX3_numberOf, kX3_find, kX3_node, kX3_wrong, kJ12_length, meK]; omega, by dsimp only [kX3_formula, kX3_row, kX3_since, kX3_one, kX3_expression, kX3_product, kX3_factor, kX3_fronted, kX3_compare, kX3_twoSided, kX3_braces, kX3_namedValue, kX3_bounds, kX3_nameOf, kX3_sees, kX3_is, kX3_isName, kX3_which, kX3_numberOf, kX3_find, kX3_node, kX3_wrong, kJ12_length, meK]; omega⟩ ⟨by first | omega | (dsimp only; omega) | decide, by first | omega | (dsimp only; omega) | decide⟩ (fun _ _ _ z => z.elim) rfl (fun r_97 h_97 q_97 => ?_)
        obtain ⟨rfl, hT_97, hF_97, hz_97⟩ := q_97
        have hG_97 := Fr.trans hG_10 hF_97
        refine AW.sts (st' := [.int 3]) rfl ?_
        exact aw_iret dX3_itemMeant_100 rfl ⟨tS (tS ms 7 (nI (a + 1))) 3 (nI (T.2.1 (a + 1))), 0, by rw [g_67] <;> rfl, hT_97, hG_97, (by omega), fun z => absurd z (by rw [g_67]; exact (by decide : (3 : Nat) ≠ 0)), fun _ => ⟨(gF.of (mE.of I_12.2.2.2)).S (by decide), by rw [g_67] <;> rfl, by rw [g_67]; exact (by decide : (3 : Nat) < 50)⟩⟩ ⟨(by first | exact Nat.le_refl _ | omega | (dsimp only; omega)), (by first | exact Nat.le_refl _ | omega | (dsimp only; omega))⟩
    · skip
      have n_57 : (mnN ms 3) = 12 := (nI_eq (a := (mnN ms 3)) (b := 12) (by omega) (by omega)).mp (by rw [← ((hpm 3 (by decide)) : (ms.2.1 23 3) = nI (mnN ms 3)), ← ((by rfl) : (12 : Int32) = nI 12)]; exact c_57)
      have f_57 : decide (mnN ms 3 = if 3 = 0 then 8 else 12) = true := decide_eq_true n_57
      have g_68 := pG_T g_6 (by first | assumption | simp [hk, u0, u1, u2, f_57])
      try dsimp only at g_68
      refine aw_aload_n (n := 61) dX3_itemMeant_60 rfl 3 rfl rfl ?_
      refine aw_iconst (n := 62) (v := 4) dX3_itemMeant_61 (by decide) rfl ?_
      refine aw_iload_n (n := 63) dX3_itemMeant_62 rfl 1 rfl rfl ?_
      refine aw_callV (n := 66) (C0 := RX3) (As := [.int 4, .int (nI a)]) (rest := []) (K2 := kX3_wrong) dX3_itemMeant_63 q2935 q2937 qs66 q113 q2938 ⟨rfl, hcX3_wrong⟩ rfl hT5.1 (ct_wrong G h5 b ms hb hT5 T a ((hS.kept hI0.2.2.2).1 a hN) (4 : Int32)) rfl (Nat.le_of_ble_eq_true rfl) ⟨by dsimp only [kX3_formula, kX3_row, kX3_since, kX3_one, kX3_expression, kX3_product, kX3_factor, kX3_fronted, kX3_compare, kX3_twoSided, kX3_braces, kX3_namedValue, kX3_bounds, kX3_nameOf, kX3_sees, kX3_is, kX3_isName, kX3_which, kX3_numberOf, kX3_find, kX3_node, kX3_wrong, kJ12_length, meK]; omega, by dsimp only [kX3_formula, kX3_row, kX3_since, kX3_one, kX3_expression, kX3_product, kX3_factor, kX3_fronted, kX3_compare, kX3_twoSided, kX3_braces, kX3_namedValue, kX3_bounds, kX3_nameOf, kX3_sees, kX3_is, kX3_isName, kX3_which, kX3_numberOf, kX3_find, kX3_node, kX3_wrong, kJ12_length, meK]; omega⟩ ⟨by first | omega | (dsimp only; omega) | decide, by first | omega | (dsimp only; omega) | decide⟩ (fun _ _ _ z => z.elim) rfl (fun r_63 h_63 q_63 => ?_)
      obtain ⟨rfl, hT_63, hF_63, hz_63⟩ := q_63
      have hG_63 := Fr.trans hF5 hF_63
      refine AW.sts (st' := [.int 4]) rfl ?_
      exact aw_iret dX3_itemMeant_66 rfl ⟨tS ms 3 (nI (T.2.1 a)), 0, by rw [g_68] <;> rfl, hT_63, hG_63, (by omega), fun z => absurd z (by rw [g_68]; exact (by decide : (4 : Nat) ≠ 0)), fun _ => ⟨(gF.of (mE.of hI0.2.2.2)).S (by decide), by rw [g_68] <;> rfl, by rw [g_68]; exact (by decide : (4 : Nat) < 50)⟩⟩ ⟨(by first | exact Nat.le_refl _ | omega | (dsimp only; omega)), (by first | exact Nat.le_refl _ | omega | (dsimp only; omega))⟩
  · skip
    exact absurd c_47 (by decide +kernel)

end
