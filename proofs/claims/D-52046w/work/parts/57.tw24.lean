/-! The twin: itemMeant. -/
section
set_option maxRecDepth 100000
theorem tS_tI (ms : tM) (k j n : Nat) (x y v : Int32) : tS (tI (tS ms k x) j n v) k y = tS (tI ms j n v) k y := by
  have e := tS_tS ms k x y
  unfold tS tI at *
  simp only [Prod.mk.injEq] at e ⊢
  exact ⟨e.1, trivial⟩
theorem tS_tL (ms : tM) (k j n : Nat) (x y : Int32) (v : Int64) : tS (tL (tS ms k x) j n v) k y = tS (tL ms j n v) k y := by
  have e := tS_tS ms k x y
  unfold tS tL at *
  simp only [Prod.mk.injEq] at e ⊢
  exact ⟨e.1, trivial⟩
def W4 : List (List Nat) := [sw 0, sw 1, sw 2, sw 3]
theorem wh4 {T : Tv} {a : Nat} : ∀ k : Nat, k < 4 → seesB T a (sw k) = true → whT T a W4 = nI k
  | 0, _, h => by simp [whT, W4, fU, h, sees_un (j := 1) h (by decide), sees_un (j := 2) h (by decide), sees_un (j := 3) h (by decide)]
  | 1, _, h => by simp [whT, W4, fU, h, sees_un (j := 2) h (by decide), sees_un (j := 3) h (by decide)]
  | 2, _, h => by simp [whT, W4, fU, h, sees_un (j := 3) h (by decide)]
  | 3, _, h => by simp [whT, W4, fU, h]
abbrev kX3_itemMeant : aK := (yX3_itemMeant, cX3_itemMeant, 7, (Option.some Jvm.ClassFile.FieldType.int), [])
theorem hcX3_itemMeant : kX3_itemMeant.1.cls ≠ "java/lang/invoke/MethodHandle" ∧ kX3_itemMeant.1.cls ≠ "java/lang/invoke/VarHandle" ∧ (parseMethodDescriptor kX3_itemMeant.1.desc).map (fun d => d.parameters.length) = some 0 := ⟨by decide, by decide, by decide +kernel⟩
theorem ci_0 (G : aG) (h : hH)  (b : Nat) (ms : tM) (T : Tv) (N a : Nat) (hb : gB G ≤ b) (hT : TW b h ms) (hS : tkS ms T N) (hN4 : N ≤ 400) (hN : a ≤ N) (f B : Nat) (hfB : f ≤ B) (hB : B + 1 ≤ 802) (hm : mS (B + 1) a ms) (hp : pgI ms) (hk : seesB T a (sw 0) = true) (hlt : b + 25 ≤ h.1) (h1 : (pItem T true (pX T true f) a ms).1 ≠ 1) (h9 : (pItem T true (pX T true f) a ms).1 ≠ 99) (ih : meAll G f) : Con G kX3_itemMeant [.ref b] h ((15 + 2 * f, 600 + 100 * f, 1, 4), (fun r h1 => ∃ (m9 : tM) (a9 : Nat), r = some (.int (nI (pItem T true (pX T true f) a ms).1)) ∧ TW b h1 m9 ∧ Fr (TS b) h h1 ∧ h1.1 ≤ h.1 + 1 ∧ ((pItem T true (pX T true f) a ms).1 = 0 → (pItem T true (pX T true f) a ms).2.2 = (a9 + 1, ats m9 (a9 + 1)) ∧ m9.1 7 = nI a9) ∧ ((pItem T true (pX T true f) a ms).1 ≠ 0 → gF ms m9 ∧ m9.1 3 = nI (pItem T true (pX T true f) a ms).2.1 ∧ (pItem T true (pX T true f) a ms).1 < 50)), nX) := by
  refine Con.of (plainFor_of_name rfl) rfl (Nat.le_of_ble_eq_true rfl) ?_
  refine AW.eq (lv2 := [(0, .ref b)]) (s2 := []) rfl rfl rfl rfl rfl ?_
  generalize hW_ : pItem T true (pX T true f) a ms = W9 at h1 h9 ⊢
  have hI0 : pM (B + 1) a ms a ms := pM.rf hm (by omega)
  have hg0 : W9 = pItem T true (pX T true f) a ms := hW_.symm
  unfold pItem at hg0
  have hS0 := hS
  have hpm := hp.1; have hp19 := hp.2.2.2.1; have hp0 := hp.2.1; have hp1 := hp.2.2.1 1 (by decide) (by decide); have hp2 := hp.2.2.1 2 (by decide) (by decide); have hp3 := hp.2.2.1 3 (by decide) (by decide); have hp44 := hm.2.2.2.2.2.1
  have u1 := sees_un (j := 1) hk (by decide)
  have u2 := sees_un (j := 2) hk (by decide)
  have u3 := sees_un (j := 3) hk (by decide)
  have tk_s := hS.1 a hN; have Ktk_s := tk_s.2.1
  try simp only [Bool.true_and, pT, ef, cond_true, gOr, gAnd, gSum, gPro, tS_tS, seesP_eq hN hN4 hS.2.1, nmP_eq hN hN4 hS.2.1, nuP_eq hN hN4 hS.2.1, whP_eq hN hN4 hS.2.1] at hg0
  have g_3 := pG_T hg0 (by first | assumption | simp [hk, u1, u2, u3])
  try dsimp only at g_3
  have ne_4 : T.1 a ≠ 0 := by have z9 := hk; first | exact seesB_ne z9 | exact isNm_ne z9 | (have z8 := (beq_iff_eq.mp z9); omega) | exact whT_lt (bne_iff_ne.mp z9) | (rcases (Bool.or_eq_true _ _).mp z9 with z8 | z8 <;> first | exact seesB_ne z8 | (rcases (Bool.or_eq_true _ _).mp z8 with z7 | z7 <;> exact seesB_ne z7))
  unfold pName at g_3
  try simp only [Bool.true_and, pT, ef, cond_true, gOr, gAnd, gSum, gPro, tS_tS, seesP_eq hN hN4 hS.2.1, nmP_eq hN hN4 hS.2.1, nuP_eq hN hN4 hS.2.1, whP_eq hN hN4 hS.2.1] at g_3
  suffices key : ∀ (h5 : hH) (f5 : Nat → Value), h5.2 h.1 = some (har 6 4 f5) → (∀ j : Nat, j < 4 → f5 j = .ref (gT G j)) → TW b h5 ms → Fr (TS b) h h5 → h5.1 = h.1 + 1 → AW G kX3_itemMeant ((15 + 2 * f, 600 + 100 * f, 1, 4), (fun r h1 => ∃ (m9 : tM) (a9 : Nat), r = some (.int (nI W9.1)) ∧ TW b h1 m9 ∧ Fr (TS b) h h1 ∧ h1.1 ≤ h.1 + 1 ∧ (W9.1 = 0 → W9.2.2 = (a9 + 1, ats m9 (a9 + 1)) ∧ m9.1 7 = nI a9) ∧ (W9.1 ≠ 0 → gF ms m9 ∧ m9.1 3 = nI W9.2.1 ∧ W9.1 < 50)), nX) 24 [(0, .ref b)] [.ref h.1] h5 (0 + 1) (0 + 4) from by
    refine aw_iconst (n := 1) (v := 4) dX3_itemMeant_0 (by decide) rfl ?_
    refine aw_anew (n := 4) (ti := 6) (N := 4) (C0 := "java/lang/String") dX3_itemMeant_1 rfl q2947 q2948 (by rfl) (by decide) (by decide) (Nat.le_refl _) (Nat.le_refl _) rfl ?_
    refine aw_dup (n := 5) dX3_itemMeant_4 rfl rfl ?_
    refine aw_iconst (n := 6) (v := 0) dX3_itemMeant_5 (by decide) rfl ?_
    refine aw_ldcS (n := 8) (q := 0) dX3_itemMeant_6 91 rfl rfl ?_
    refine aw_know (fun gd9 hi9 => ?_)
    obtain ⟨v_0, w_0, z_0, f_0, hA_0, hV_0, hf_0⟩ := str_at gd9 hi9 (i := 0) (bs := sw 0) rfl
    refine aw_aast (n := 9) (ti := 6) (N := 4) (ci := 29) (C0 := RJ12) (E := "java/lang/String") dX3_itemMeant_8 rfl 0 (by rfl) hnew_at (by omega) (by decide) (by decide) rfl hA_0 (Or.inl rfl) rfl rfl ?_
    refine aw_dup (n := 10) dX3_itemMeant_9 rfl rfl ?_
    refine aw_iconst (n := 11) (v := 1) dX3_itemMeant_10 (by decide) rfl ?_
    refine aw_ldcS (n := 13) (q := 1) dX3_itemMeant_11 95 rfl rfl ?_
    refine aw_know (fun gd9 hi9 => ?_)
    obtain ⟨v_1, w_1, z_1, f_1, hA_1, hV_1, hf_1⟩ := str_at gd9 hi9 (i := 1) (bs := sw 1) rfl
    refine aw_aast (n := 14) (ti := 6) (N := 4) (ci := 29) (C0 := RJ12) (E := "java/lang/String") dX3_itemMeant_13 rfl 1 (by rfl) hset_at (by omega) (by decide) (by decide) rfl hA_1 (Or.inl rfl) rfl rfl ?_
    refine aw_dup (n := 15) dX3_itemMeant_14 rfl rfl ?_
    refine aw_iconst (n := 16) (v := 2) dX3_itemMeant_15 (by decide) rfl ?_
    refine aw_ldcS (n := 18) (q := 2) dX3_itemMeant_16 97 rfl rfl ?_
    refine aw_know (fun gd9 hi9 => ?_)
    obtain ⟨v_2, w_2, z_2, f_2, hA_2, hV_2, hf_2⟩ := str_at gd9 hi9 (i := 2) (bs := sw 2) rfl
    refine aw_aast (n := 19) (ti := 6) (N := 4) (ci := 29) (C0 := RJ12) (E := "java/lang/String") dX3_itemMeant_18 rfl 2 (by rfl) hset_at (by omega) (by decide) (by decide) rfl hA_2 (Or.inl rfl) rfl rfl ?_
    refine aw_dup (n := 20) dX3_itemMeant_19 rfl rfl ?_
    refine aw_iconst (n := 21) (v := 3) dX3_itemMeant_20 (by decide) rfl ?_
    refine aw_ldcS (n := 23) (q := 3) dX3_itemMeant_21 98 rfl rfl ?_
    refine aw_know (fun gd9 hi9 => ?_)
    obtain ⟨v_3, w_3, z_3, f_3, hA_3, hV_3, hf_3⟩ := str_at gd9 hi9 (i := 3) (bs := sw 3) rfl
    refine aw_aast (n := 24) (ti := 6) (N := 4) (ci := 29) (C0 := RJ12) (E := "java/lang/String") dX3_itemMeant_23 rfl 3 (by rfl) hset_at (by omega) (by decide) (by decide) rfl hA_3 (Or.inl rfl) rfl rfl ?_
    have fr : ∀ e0 e1 e2 e3 e4 : hE, Fr (fun q => q = h.1) h (hset (hset (hset (hset (hnew h e0) h.1 e1) h.1 e2) h.1 e3) h.1 e4) := fun e0 e1 e2 e3 e4 => (Fr.trans (Fr.trans (Fr.trans (Fr.trans Fr.new (Fr.set rfl)) (Fr.set rfl)) (Fr.set rfl)) (Fr.set rfl))
    refine key _ _ hset_at (fun j hj => by match j, hj with | 0, _ => rfl | 1, _ => rfl | 2, _ => rfl | 3, _ => rfl) (TW.kept hT (fr _ _ _ _ _) (by omega) (fun q hq z => by have hq : q = h.1 := hq; have := z.2; omega)) ⟨(fr _ _ _ _ _).1, fun q hq _ => (fr _ _ _ _ _).2 q hq (fun z => by have z : q = h.1 := z; omega)⟩ ?_
    rfl
  intro h5 f5 hA5 hE5 hT5 hF5 hz5
  refine aw_astore_n (n := 25) (lv' := [(1, .ref h.1), (0, .ref b)]) dX3_itemMeant_24 rfl (by decide) rfl rfl ?_
  refine aw_aload_n (n := 26) dX3_itemMeant_25 rfl 1 rfl rfl ?_
  refine aw_getf (n := 29) (v := .int (nI a)) (C0 := RX3) (T := TX3) dX3_itemMeant_26 rfl 7 q2648 (Or.inl rfl) hT5.1 (congrArg some (congrArg Value.int hI0.2.2.1.1)) rfl ?_
  refine aw_istore_n (n := 30) (lv' := [(2, .int (nI a)), (1, .ref h.1), (0, .ref b)]) dX3_itemMeant_29 rfl (by decide) rfl rfl ?_
  refine aw_aload_n (n := 31) dX3_itemMeant_30 rfl 2 rfl rfl ?_
  refine aw_aload_n (n := 32) dX3_itemMeant_31 rfl 2 rfl rfl ?_
  refine aw_getf (n := 35) (v := .int (nI a)) (C0 := RX3) (T := TX3) dX3_itemMeant_32 rfl 7 q2648 (Or.inl rfl) hT5.1 (congrArg some (congrArg Value.int hI0.2.2.1.1)) rfl ?_
  refine aw_aload_n (n := 36) dX3_itemMeant_35 rfl 1 rfl rfl ?_
  refine aw_know (fun gd_4 hi_4 => ?_)
  refine aw_callV (n := 39) (C0 := RX3) (As := [.int (nI a), .ref h.1]) (rest := []) (K2 := kX3_which) dX3_itemMeant_36 q2850 q2852 qs55 q113 q2853 ⟨rfl, hcX3_which⟩ rfl hT5.1 (ct_which G h5 b ms hb hT5 T a (hS.1 a hN) h.1 W4 ⟨f5, fun j => gT G j, hA5, fun j hj => by match j, hj with | 0, _ => exact ⟨hE5 0 (by decide), str_at gd_4 hi_4 (i := 0) rfl, lo_at (i := 0) (bs := sw 0) rfl⟩ | 1, _ => exact ⟨hE5 1 (by decide), str_at gd_4 hi_4 (i := 1) rfl, lo_at (i := 1) (bs := sw 1) rfl⟩ | 2, _ => exact ⟨hE5 2 (by decide), str_at gd_4 hi_4 (i := 2) rfl, lo_at (i := 2) (bs := sw 2) rfl⟩ | 3, _ => exact ⟨hE5 3 (by decide), str_at gd_4 hi_4 (i := 3) rfl, lo_at (i := 3) (bs := sw 3) rfl⟩⟩ (by decide)) rfl (Nat.le_of_ble_eq_true rfl) ⟨by dsimp only [kX3_formula, kX3_row, kX3_since, kX3_one, kX3_expression, kX3_product, kX3_factor, kX3_fronted, kX3_compare, kX3_twoSided, kX3_braces, kX3_namedValue, kX3_bounds, kX3_nameOf, kX3_sees, kX3_is, kX3_isName, kX3_which, kX3_numberOf, kX3_find, kX3_node, kX3_wrong, kJ12_length, meK]; omega, by dsimp only [kX3_formula, kX3_row, kX3_since, kX3_one, kX3_expression, kX3_product, kX3_factor, kX3_fronted, kX3_compare, kX3_twoSided, kX3_braces, kX3_namedValue, kX3_bounds, kX3_nameOf, kX3_sees, kX3_is, kX3_isName, kX3_which, kX3_numberOf, kX3_find, kX3_node, kX3_wrong, kJ12_length, meK]; omega⟩ ⟨by first | omega | (dsimp only; omega) | decide, by first | omega | (dsimp only; omega) | decide⟩ (fun _ _ _ z => z.elim) rfl (fun r_36 h_36 q_36 => ?_)
  obtain ⟨rfl, rfl⟩ := q_36
  refine AW.sts (st' := [.int 0]) (by rw [wh4 0 (by decide) hk]; rfl) ?_
  refine aw_istore_n (n := 40) (lv' := [(3, .int 0), (2, .int (nI a)), (1, .ref h.1), (0, .ref b)]) dX3_itemMeant_39 rfl (by decide) rfl rfl ?_
  refine aw_aload_n (n := 41) dX3_itemMeant_40 rfl 3 rfl rfl ?_
  refine aw_getf (n := 44) (v := .ref (b + 16)) (C0 := RX3) (T := TX3) dX3_itemMeant_41 rfl 23 q2664 (Or.inl rfl) hT5.1 rfl rfl ?_
  refine aw_iload_n (n := 45) dX3_itemMeant_44 rfl 0 rfl rfl ?_
  refine aw_iald (n := 46) (v := .int (ms.2.1 23 0)) dX3_itemMeant_45 rfl 0 (by rfl) hT5.a23 (by omega) (by decide) rfl rfl ?_
  refine aw_iload_n (n := 47) dX3_itemMeant_46 rfl 0 rfl rfl ?_
  refine aw_if_ne (n := 50) (tgt := 55) dX3_itemMeant_47 (by decide) rfl (fun c_47 => ?_) (fun c_47 => ?_)
  · skip
    exact absurd c_47 (by decide +kernel)
  · skip
    refine aw_bipush (n := 52) (v := 8) dX3_itemMeant_50 (by decide) rfl ?_
    refine aw_goto (tgt := 57) dX3_itemMeant_52 (by decide) ?_
    refine aw_icmp_ne (n := 60) (tgt := 67) dX3_itemMeant_57 (by decide) rfl (fun c_57 => ?_) (fun c_57 => ?_)
    · skip
      have n_57 : ¬ ((mnN ms 0) = 8) := fun z => c_57 (by have y := (nI_eq (a := (mnN ms 0)) (b := 8) (by omega) (by omega)).mpr z; rw [← ((hpm 0 (by decide)) : (ms.2.1 23 0) = nI (mnN ms 0)), ← ((by rfl) : (8 : Int32) = nI 8)] at y; exact y)
      have f_57 : decide (mnN ms 0 = if 0 = 0 then 8 else 12) = false := decide_eq_false n_57
      have g_6 := pG_F g_3 (by first | assumption | simp [hk, u1, u2, u3, f_57])
      try dsimp only at g_6
      refine aw_aload_n (n := 68) dX3_itemMeant_67 rfl 3 rfl rfl ?_
      refine aw_dup (n := 69) dX3_itemMeant_68 rfl rfl ?_
      refine aw_getf (n := 72) (v := .int (nI a)) (C0 := RX3) (T := TX3) dX3_itemMeant_69 rfl 7 q2648 (Or.inl rfl) hT5.1 (congrArg some (congrArg Value.int hI0.2.2.1.1)) rfl ?_
      refine aw_iconst (n := 73) (v := 1) dX3_itemMeant_72 (by decide) rfl ?_
      refine aw_iadd (n := 74) dX3_itemMeant_73 rfl ?_
      refine AW.sts (st' := [.int (nI (a + 1)), .ref b]) (by rw [show (nI a) + 1 = nI (a + 1) from (nI_1 _)]) ?_
      refine aw_tput (n := 77) (k := 7) dX3_itemMeant_74 q2648 (by decide) rfl rfl rfl rfl rfl hT5 hb rfl rfl (fun h_7 hT_7 hF_7 hz_7 => ?_)
      have hG_7 := Fr.trans hF5 hF_7
      have N_8 : a + 1 ≤ N := lt_end hS.2.1 hN ne_4
      have I_9 := hI0.at1 (by omega)
      have tk_10 := (hS.kept I_9.2.2.2).1 (a + 1) N_8; have Ktk_10 := tk_10.2.1
      try simp only [Bool.true_and, pT, ef, cond_true, gOr, gAnd, gSum, gPro, tS_tS, seesP_eq N_8 hN4 hS.2.1, nmP_eq N_8 hN4 hS.2.1, nuP_eq N_8 hN4 hS.2.1, whP_eq N_8 hN4 hS.2.1] at g_6
      have g_11 := pG_c g_6 h1
      have g_12 := g_11.2
      try dsimp only at g_12
      have ne_13 : T.1 (a + 1) ≠ 0 := by have z9 := g_11.1; first | exact seesB_ne z9 | exact isNm_ne z9 | (have z8 := (beq_iff_eq.mp z9); omega) | exact whT_lt (bne_iff_ne.mp z9) | (rcases (Bool.or_eq_true _ _).mp z9 with z8 | z8 <;> first | exact seesB_ne z8 | (rcases (Bool.or_eq_true _ _).mp z8 with z7 | z7 <;> exact seesB_ne z7))
      refine aw_aload_n (n := 78) dX3_itemMeant_77 rfl 3 rfl rfl ?_
      refine aw_getf (n := 81) (v := .int (nI (a + 1))) (C0 := RX3) (T := TX3) dX3_itemMeant_78 rfl 7 q2648 (Or.inl rfl) hT_7.1 rfl rfl ?_
      refine aw_istore (n := 83) (lv' := [(4, .int (nI (a + 1))), (3, .int 0), (2, .int (nI a)), (1, .ref h.1), (0, .ref b)]) dX3_itemMeant_81 (by decide) rfl rfl ?_
      have hN1 := N_8
      refine aw_aload_n (n := 84) dX3_itemMeant_83 rfl 4 rfl rfl ?_
      refine aw_iload (n := 86) dX3_itemMeant_84 0 rfl rfl ?_
      refine aw_callV (n := 89) (C0 := RX3) (As := [.int (nI (a + 1))]) (rest := []) (K2 := kX3_find) dX3_itemMeant_86 q2949 q2951 qs69 q113 q2952 ⟨rfl, hcX3_find⟩ rfl hT_7.1 (ct_find G h_7 b (tS ms 7 (nI (a + 1))) hb hT_7 T (a + 1) ((hS.kept I_9.2.2.2).1 (a + 1) N_8) I_9.2.2.1.2.2.2.2.1 I_9.2.2.1.2.2.2.2.2.1) rfl (Nat.le_of_ble_eq_true rfl) ⟨by dsimp only [kX3_formula, kX3_row, kX3_since, kX3_one, kX3_expression, kX3_product, kX3_factor, kX3_fronted, kX3_compare, kX3_twoSided, kX3_braces, kX3_namedValue, kX3_bounds, kX3_nameOf, kX3_sees, kX3_is, kX3_isName, kX3_which, kX3_numberOf, kX3_find, kX3_node, kX3_wrong, kJ12_length, meK]; omega, by dsimp only [kX3_formula, kX3_row, kX3_since, kX3_one, kX3_expression, kX3_product, kX3_factor, kX3_fronted, kX3_compare, kX3_twoSided, kX3_braces, kX3_namedValue, kX3_bounds, kX3_nameOf, kX3_sees, kX3_is, kX3_isName, kX3_which, kX3_numberOf, kX3_find, kX3_node, kX3_wrong, kJ12_length, meK]; omega⟩ ⟨by first | omega | (dsimp only; omega) | decide, by first | omega | (dsimp only; omega) | decide⟩ (fun _ _ _ z => z.elim) rfl (fun r_86 h_86 q_86 => ?_)
      obtain ⟨rfl, rfl⟩ := q_86
      refine AW.sts (st' := [.int (fnT T (tS ms 7 (nI (a + 1))) (a + 1))]) rfl ?_
      refine aw_iconst (n := 90) (v := (-1)) dX3_itemMeant_89 (by decide) rfl ?_
      refine aw_icmp_eq (n := 93) (tgt := 101) dX3_itemMeant_90 (by decide) rfl (fun c_90 => ?_) (fun c_90 => ?_)
      · skip
        have f_90 : (fnT T ms (a + 1) != -1) = false := (by rw [show fnT T ms (a + 1) = -1 from c_90]; rfl)
        have g_14 := pG_F g_12 (by first | assumption | simp [f_90])
        try dsimp only at g_14
        refine aw_aload_n (n := 102) dX3_itemMeant_101 rfl 4 rfl rfl ?_
        refine aw_dup (n := 103) dX3_itemMeant_102 rfl rfl ?_
        refine aw_getf (n := 106) (v := .int (nI (a + 1))) (C0 := RX3) (T := TX3) dX3_itemMeant_103 rfl 7 q2648 (Or.inl rfl) hT_7.1 rfl rfl ?_
        refine aw_iconst (n := 107) (v := 2) dX3_itemMeant_106 (by decide) rfl ?_
        refine aw_iadd (n := 108) dX3_itemMeant_107 rfl ?_
        refine AW.sts (st' := [.int (nI ((a + 1) + 2)), .ref b]) (by rw [show (nI (a + 1)) + 2 = nI ((a + 1) + 2) from (by rw [show nI (a + 1) = nI (a + 1) from rfl, show 2 = nI 2 from (by rfl)]; exact nI_add _ _)]) ?_
        refine aw_tput (n := 111) (k := 7) dX3_itemMeant_108 q2648 (by decide) rfl rfl rfl rfl rfl hT_7 hb rfl rfl (fun h_15 hT_15 hF_15 hz_15 => ?_)
        have hG_15 := Fr.trans hG_7 hF_15
        have N_16 : (a + 1) + 1 ≤ N := lt_end hS.2.1 N_8 ne_13
        try simp only [Bool.true_and, pT, ef, cond_true, gOr, gAnd, gSum, gPro, tS_tS, seesP_eq N_16 hN4 hS.2.1, nmP_eq N_16 hN4 hS.2.1, nuP_eq N_16 hN4 hS.2.1, whP_eq N_16 hN4 hS.2.1] at g_14
        have g_17 := pG_t g_14 h1
        have ne_18 : T.1 ((a + 1) + 1) ≠ 0 := by have z9 := g_17.1; first | exact seesB_ne z9 | exact isNm_ne z9 | (have z8 := (beq_iff_eq.mp z9); omega) | exact whT_lt (bne_iff_ne.mp z9) | (rcases (Bool.or_eq_true _ _).mp z9 with z8 | z8 <;> first | exact seesB_ne z8 | (rcases (Bool.or_eq_true _ _).mp z8 with z7 | z7 <;> exact seesB_ne z7))
        have g_19 := g_17.2
        try dsimp only at g_19
        have N_20 : ((a + 1) + 1) + 1 ≤ N := lt_end hS.2.1 N_16 ne_18
        have I_21 := I_9.at (a' := (a + 1) + 2) (by omega) (by omega)
        rw [tS_tS] at hT_15
        have I_22 : pM (B) a ms ((a + 1) + 2) (tS ms 7 (nI ((a + 1) + 2))) := by have z : pM (B) a ms ((a + 1) + 2) (tS (tS ms 7 (nI (a + 1))) 7 (nI ((a + 1) + 2))) := I_21; rw [tS_tS] at z; exact z
        have I_222 : (a + 1) + 2 ≤ N := by omega
        have tk_23 := (hS.kept I_22.2.2.2).1 ((a + 1) + 2) I_222; have Ktk_23 := tk_23.2.1
        try simp only [Bool.true_and, pT, ef, cond_true, gOr, gAnd, gSum, gPro, tS_tS, seesP_eq I_222 hN4 hS.2.1, nmP_eq I_222 hN4 hS.2.1, nuP_eq I_222 hN4 hS.2.1, whP_eq I_222 hN4 hS.2.1] at g_19
        refine aw_iconst (n := 112) (v := 0) dX3_itemMeant_111 (by decide) rfl ?_
        refine aw_istore (n := 114) (lv' := [(5, .int 0), (4, .int (nI (a + 1))), (3, .int 0), (2, .int (nI a)), (1, .ref h.1), (0, .ref b)]) dX3_itemMeant_112 (by decide) rfl rfl ?_
        refine aw_iload_n (n := 115) dX3_itemMeant_114 rfl 2 rfl rfl ?_
        refine aw_if_ne (n := 118) (tgt := 196) dX3_itemMeant_115 (by decide) rfl (fun c_115 => ?_) (fun c_115 => ?_)
        · skip
          exact absurd c_115 (by decide +kernel)
        · skip
          refine aw_aload_n (n := 119) dX3_itemMeant_118 rfl 5 rfl rfl ?_
          refine aw_ldcS (n := 121) (q := 38) dX3_itemMeant_119 93 rfl rfl ?_
          refine aw_know (fun gd_23 hi_23 => ?_)
          refine aw_callV (n := 124) (C0 := RX3) (As := [.ref (gT G 38)]) (rest := []) (K2 := kX3_sees) dX3_itemMeant_121 q2826 q2828 qs50 q113 q2829 ⟨rfl, hcX3_sees⟩ rfl hT_15.1 (ct_sees G h_15 b (tS ms 7 (nI ((a + 1) + 2))) hb hT_15 T ((a + 1) + 2) I_22.2.2.1.1 tk_23 _ (sw 38) (str_at gd_23 hi_23 (i := 38) rfl) (lo_at (i := 38) rfl)) rfl (Nat.le_of_ble_eq_true rfl) ⟨by dsimp only [kX3_formula, kX3_row, kX3_since, kX3_one, kX3_expression, kX3_product, kX3_factor, kX3_fronted, kX3_compare, kX3_twoSided, kX3_braces, kX3_namedValue, kX3_bounds, kX3_nameOf, kX3_sees, kX3_is, kX3_isName, kX3_which, kX3_numberOf, kX3_find, kX3_node, kX3_wrong, kJ12_length, meK]; omega, by dsimp only [kX3_formula, kX3_row, kX3_since, kX3_one, kX3_expression, kX3_product, kX3_factor, kX3_fronted, kX3_compare, kX3_twoSided, kX3_braces, kX3_namedValue, kX3_bounds, kX3_nameOf, kX3_sees, kX3_is, kX3_isName, kX3_which, kX3_numberOf, kX3_find, kX3_node, kX3_wrong, kJ12_length, meK]; omega⟩ ⟨by first | omega | (dsimp only; omega) | decide, by first | omega | (dsimp only; omega) | decide⟩ (fun _ _ _ z => z.elim) rfl (fun r_121 h_121 q_121 => ?_)
          obtain ⟨rfl, rfl⟩ := q_121
          refine AW.sts (st' := [.int (bI (seesB T ((a + 1) + 2) (sw 38)))]) rfl ?_
          refine aw_istore (n := 126) (lv' := [(6, .int (bI (seesB T ((a + 1) + 2) (sw 38)))), (5, .int 0), (4, .int (nI (a + 1))), (3, .int 0), (2, .int (nI a)), (1, .ref h.1), (0, .ref b)]) dX3_itemMeant_124 (by decide) rfl rfl ?_
          refine aw_aload_n (n := 127) dX3_itemMeant_126 rfl 6 rfl rfl ?_
          refine aw_dup (n := 128) dX3_itemMeant_127 rfl rfl ?_
          refine aw_getf (n := 131) (v := .int (nI ((a + 1) + 2))) (C0 := RX3) (T := TX3) dX3_itemMeant_128 rfl 7 q2648 (Or.inl rfl) hT_15.1 rfl rfl ?_
          refine aw_iload (n := 133) dX3_itemMeant_131 0 rfl rfl ?_
          refine aw_if_eq (n := 136) (tgt := 140) dX3_itemMeant_133 (by decide) rfl (fun c_133 => ?_) (fun c_133 => ?_)
          · skip
            have b_133 : (seesB T ((a + 1) + 2) (sw 38)) = false := (bI_0 _).mp c_133
            have g_25 := pG_F g_19 (by first | assumption | simp [b_133])
            try dsimp only at g_25
            unfold pSg at g_25
            try simp only [Bool.true_and, pT, ef, cond_true, gOr, gAnd, gSum, gPro, tS_tS, seesP_eq I_222 hN4 hS.2.1, nmP_eq I_222 hN4 hS.2.1, nuP_eq I_222 hN4 hS.2.1, whP_eq I_222 hN4 hS.2.1] at g_25
            have g_26 := pG_c g_25 h1
            have g_27 := g_26.2
            try dsimp only at g_27
            have ne_28 : T.1 ((a + 1) + 2) ≠ 0 := by have z9 := g_26.1; first | exact seesB_ne z9 | exact isNm_ne z9 | (have z8 := (beq_iff_eq.mp z9); omega) | exact whT_lt (bne_iff_ne.mp z9) | (rcases (Bool.or_eq_true _ _).mp z9 with z8 | z8 <;> first | exact seesB_ne z8 | (rcases (Bool.or_eq_true _ _).mp z8 with z7 | z7 <;> exact seesB_ne z7))
            unfold pEnd at g_27
            try simp only [Bool.true_and, pT, ef, cond_true, gOr, gAnd, gSum, gPro, tS_tS, seesP_eq I_222 hN4 hS.2.1, nmP_eq I_222 hN4 hS.2.1, nuP_eq I_222 hN4 hS.2.1, whP_eq I_222 hN4 hS.2.1] at g_27
            refine aw_iconst (n := 141) (v := 0) dX3_itemMeant_140 (by decide) rfl ?_
            refine aw_iadd (n := 142) dX3_itemMeant_141 rfl ?_
            refine AW.sts (st' := [.int (nI (((a + 1) + 2) + 0)), .ref b]) (by rw [show (nI ((a + 1) + 2)) + 0 = nI (((a + 1) + 2) + 0) from (by rw [show nI ((a + 1) + 2) = nI ((a + 1) + 2) from rfl, show 0 = nI 0 from (by rfl)]; exact nI_add _ _)]) ?_
            refine aw_tput (n := 145) (k := 7) dX3_itemMeant_142 q2648 (by decide) rfl rfl rfl rfl rfl hT_15 hb rfl rfl (fun h_29 hT_29 hF_29 hz_29 => ?_)
            have hG_29 := Fr.trans hG_15 hF_29
            rw [tS_tS] at hT_29
            refine aw_aload_n (n := 146) dX3_itemMeant_145 rfl 6 rfl rfl ?_
            refine aw_getf (n := 149) (v := .ref (b + 17)) (C0 := RX3) (T := TX3) dX3_itemMeant_146 rfl 24 q2665 (Or.inl rfl) hT_29.1 rfl rfl ?_
            refine aw_aload_n (n := 150) dX3_itemMeant_149 rfl 6 rfl rfl ?_
            refine aw_getf (n := 153) (v := .ref (b + 16)) (C0 := RX3) (T := TX3) dX3_itemMeant_150 rfl 23 q2664 (Or.inl rfl) hT_29.1 rfl rfl ?_
            refine aw_iconst (n := 154) (v := 0) dX3_itemMeant_153 (by decide) rfl ?_
            refine aw_iald (n := 155) (v := .int (ms.2.1 23 0)) dX3_itemMeant_154 rfl 0 (by rfl) hT_29.a23 (by omega) (by decide) rfl rfl ?_
            refine aw_iload (n := 157) dX3_itemMeant_155 0 rfl rfl ?_
            refine aw_if_eq (n := 160) (tgt := 173) dX3_itemMeant_157 (by decide) rfl (fun c_157 => ?_) (fun c_157 => ?_)
            · skip
              have b_157 : (seesB T ((a + 1) + 2) (sw 38)) = false := (bI_0 _).mp c_157
              refine aw_aload_n (n := 174) dX3_itemMeant_173 rfl 6 rfl rfl ?_
              refine aw_aload_n (n := 175) dX3_itemMeant_174 rfl 6 rfl rfl ?_
              refine aw_getf (n := 178) (v := .int (nI ((a + 1) + 2))) (C0 := RX3) (T := TX3) dX3_itemMeant_175 rfl 7 q2648 (Or.inl rfl) hT_29.1 rfl rfl ?_
              refine aw_callV (n := 181) (C0 := RX3) (As := [.int (nI ((a + 1) + 2))]) (rest := [.int (ms.2.1 23 0), .ref (b + 17)]) (K2 := kX3_numberOf) dX3_itemMeant_178 q2958 q2960 qs71 q113 q2961 ⟨rfl, hcX3_numberOf⟩ rfl hT_29.1 (ct_numberOf G h_29 b (tS ms 7 (nI ((a + 1) + 2))) hb hT_29 T ((a + 1) + 2) ((hS.kept I_22.2.2.2).1 ((a + 1) + 2) I_222)) rfl (Nat.le_of_ble_eq_true rfl) ⟨by dsimp only [kX3_formula, kX3_row, kX3_since, kX3_one, kX3_expression, kX3_product, kX3_factor, kX3_fronted, kX3_compare, kX3_twoSided, kX3_braces, kX3_namedValue, kX3_bounds, kX3_nameOf, kX3_sees, kX3_is, kX3_isName, kX3_which, kX3_numberOf, kX3_find, kX3_node, kX3_wrong, kJ12_length, meK]; omega, by dsimp only [kX3_formula, kX3_row, kX3_since, kX3_one, kX3_expression, kX3_product, kX3_factor, kX3_fronted, kX3_compare, kX3_twoSided, kX3_braces, kX3_namedValue, kX3_bounds, kX3_nameOf, kX3_sees, kX3_is, kX3_isName, kX3_which, kX3_numberOf, kX3_find, kX3_node, kX3_wrong, kJ12_length, meK]; omega⟩ ⟨by first | omega | (dsimp only; omega) | decide, by first | omega | (dsimp only; omega) | decide⟩ (fun _ _ _ z => z.elim) rfl (fun r_178 h_178 q_178 => ?_)
              obtain ⟨rfl, rfl⟩ := q_178
              refine AW.sts (st' := [.int (numT T ((a + 1) + 2)), .int (ms.2.1 23 0), .ref (b + 17)]) rfl ?_
              refine aw_i2l (n := 182) dX3_itemMeant_181 rfl rfl ?_
              refine aw_tlast (n := 183) dX3_itemMeant_182 TW.m24 hT_29 hb (mnN ms 0) (hpm 0 (by decide)) (by omega) (by decide) rfl (fun h_30 hT_30 hF_30 hz_30 => ?_)
              have hG_30 := Fr.trans hG_29 hF_30
              refine aw_aload_n (n := 184) dX3_itemMeant_183 rfl 6 rfl rfl ?_
              refine aw_dup (n := 185) dX3_itemMeant_184 rfl rfl ?_
              refine aw_getf (n := 188) (v := .int (nI ((a + 1) + 2))) (C0 := RX3) (T := TX3) dX3_itemMeant_185 rfl 7 q2648 (Or.inl rfl) hT_30.1 rfl rfl ?_
              refine aw_iconst (n := 189) (v := 1) dX3_itemMeant_188 (by decide) rfl ?_
              refine aw_iadd (n := 190) dX3_itemMeant_189 rfl ?_
              refine AW.sts (st' := [.int (nI (((a + 1) + 2) + 1)), .ref b]) (by rw [show (nI ((a + 1) + 2)) + 1 = nI (((a + 1) + 2) + 1) from (nI_1 _)]) ?_
              refine aw_tput (n := 193) (k := 7) dX3_itemMeant_190 q2648 (by decide) rfl rfl rfl rfl rfl hT_30 hb rfl rfl (fun h_31 hT_31 hF_31 hz_31 => ?_)
              have hG_31 := Fr.trans hG_30 hF_31
              have N_32 : ((a + 1) + 2) + 1 ≤ N := lt_end hS.2.1 I_222 ne_28
              have I_33 := I_22.at (a' := ((a + 1) + 2) + 1) (by omega) (by omega)
              have tk_34 := (hS.kept I_33.2.2.2).1 (((a + 1) + 2) + 1) N_32; have Ktk_34 := tk_34.2.1
              try simp only [Bool.true_and, pT, ef, cond_true, gOr, gAnd, gSum, gPro, tS_tS, seesP_eq N_32 hN4 hS.2.1, nmP_eq N_32 hN4 hS.2.1, nuP_eq N_32 hN4 hS.2.1, whP_eq N_32 hN4 hS.2.1] at g_27
              have T9_ : TW b h_31 (tS (tL ms 24 (mnN ms 0) ((numT T ((a + 1) + 2)).toInt64)) 7 (nI (((a + 1) + 2) + 1))) := by have z := hT_31; rw [tS_tL] at z; exact z
              have e_sg : ats (sgT T false ((a + 1) + 2) (tS ms 7 (nI ((a + 1) + 2)))) (((a + 1) + 2) + 1) = tS (tL ms 24 (mnN ms 0) ((numT T ((a + 1) + 2)).toInt64)) 7 (nI (((a + 1) + 2) + 1)) := tS_tL _ _ _ _ _ _ _
              have SB_35 : mS (B + 1) (((a + 1) + 2) + 1) (tS (tL ms 24 (mnN ms 0) ((numT T ((a + 1) + 2)).toInt64)) 7 (nI (((a + 1) + 2) + 1))) := (show mS (B + 1) a (tL ms 24 (mnN ms 0) ((numT T ((a + 1) + 2)).toInt64)) from hm).at0 (by omega)
              have PB_35 : pgI (tS (tL ms 24 (mnN ms 0) ((numT T ((a + 1) + 2)).toInt64)) 7 (nI (((a + 1) + 2) + 1))) := (show pgI (tL ms 24 (mnN ms 0) ((numT T ((a + 1) + 2)).toInt64)) from hp).kept (mF.S (Or.inl rfl))
              have GB_35 : gF ms (tS (tL ms 24 (mnN ms 0) ((numT T ((a + 1) + 2)).toInt64)) 7 (nI (((a + 1) + 2) + 1))) := ((gF.rf ms).L (by decide)).S (by decide)
              have hS := hS0.g GB_35
              have IB_35 : pM (B + 1) (((a + 1) + 2) + 1) (tS (tL ms 24 (mnN ms 0) ((numT T ((a + 1) + 2)).toInt64)) 7 (nI (((a + 1) + 2) + 1))) (((a + 1) + 2) + 1) (tS (tL ms 24 (mnN ms 0) ((numT T ((a + 1) + 2)).toInt64)) 7 (nI (((a + 1) + 2) + 1))) := pM.rf SB_35 (by omega)
              have B_35_T : TW b h_31 (tS (tL ms 24 (mnN ms 0) ((numT T ((a + 1) + 2)).toInt64)) 7 (nI (((a + 1) + 2) + 1))) := T9_
              have n19B_35 := SB_35.2.2.2.2.2.1; have c19B_35 := PB_35.2.2.2.1; have d0B_35 := PB_35.2.1; have d1B_35 := PB_35.2.2.1 1 (by decide) (by decide); have d2B_35 := PB_35.2.2.1 2 (by decide) (by decide); have d3B_35 := PB_35.2.2.1 3 (by decide) (by decide)
              have q9B_35 : mnN (tS (tL ms 24 (mnN ms 0) ((numT T ((a + 1) + 2)).toInt64)) 7 (nI (((a + 1) + 2) + 1))) 0 = mnN ms 0 := rfl
              have tk_36 := hS.1 (((a + 1) + 2) + 1) N_32; have Ktk_36 := tk_36.2.1
              refine aw_goto (tgt := 214) dX3_itemMeant_193 (by decide) ?_
              refine aw_iload (n := 216) dX3_itemMeant_214 1 rfl rfl ?_
              refine aw_if_eq (n := 219) (tgt := 222) dX3_itemMeant_216 (by decide) rfl (fun c_216 => ?_) (fun c_216 => ?_)
              · skip
                refine aw_iload_n (n := 223) dX3_itemMeant_222 rfl 3 rfl rfl ?_
                refine aw_if_le (n := 226) (tgt := 246) dX3_itemMeant_223 (by decide) rfl (fun c_223 => ?_) (fun c_223 => ?_)
                · skip
                  refine aw_iload_n (n := 247) dX3_itemMeant_246 rfl 3 rfl rfl ?_
                  refine aw_iconst (n := 248) (v := 3) dX3_itemMeant_247 (by decide) rfl ?_
                  refine aw_icmp_ne (n := 251) (tgt := 263) dX3_itemMeant_248 (by decide) rfl (fun c_248 => ?_) (fun c_248 => ?_)
                  · skip
                    try simp only [Bool.true_and, pT, ef, cond_true, gOr, gAnd, gSum, gPro, tS_tS, seesP_eq N_32 hN4 hS.2.1, nmP_eq N_32 hN4 hS.2.1, nuP_eq N_32 hN4 hS.2.1, whP_eq N_32 hN4 hS.2.1] at g_27
                    have g_37 := pG_l g_27 h1
                    have g_38 := g_37.2
                    try dsimp only at g_38
                    have u4 := sees_un (j := 4) g_37.1 (by decide)
                    refine aw_aload_n (n := 264) dX3_itemMeant_263 rfl 6 rfl rfl ?_
                    refine aw_ldcS (n := 266) (q := 4) dX3_itemMeant_264 100 rfl rfl ?_
                    refine aw_know (fun gd_38 hi_38 => ?_)
                    refine aw_callV (n := 269) (C0 := RX3) (As := [.ref (gT G 4)]) (rest := []) (K2 := kX3_sees) dX3_itemMeant_266 q2826 q2828 qs50 q113 q2829 ⟨rfl, hcX3_sees⟩ rfl B_35_T.1 (ct_sees G h_31 b (tS (tL ms 24 (mnN ms 0) ((numT T ((a + 1) + 2)).toInt64)) 7 (nI (((a + 1) + 2) + 1))) hb B_35_T T (((a + 1) + 2) + 1) IB_35.2.2.1.1 tk_36 _ (sw 4) (str_at gd_38 hi_38 (i := 4) rfl) (lo_at (i := 4) rfl)) rfl (Nat.le_of_ble_eq_true rfl) ⟨by dsimp only [kX3_formula, kX3_row, kX3_since, kX3_one, kX3_expression, kX3_product, kX3_factor, kX3_fronted, kX3_compare, kX3_twoSided, kX3_braces, kX3_namedValue, kX3_bounds, kX3_nameOf, kX3_sees, kX3_is, kX3_isName, kX3_which, kX3_numberOf, kX3_find, kX3_node, kX3_wrong, kJ12_length, meK]; omega, by dsimp only [kX3_formula, kX3_row, kX3_since, kX3_one, kX3_expression, kX3_product, kX3_factor, kX3_fronted, kX3_compare, kX3_twoSided, kX3_braces, kX3_namedValue, kX3_bounds, kX3_nameOf, kX3_sees, kX3_is, kX3_isName, kX3_which, kX3_numberOf, kX3_find, kX3_node, kX3_wrong, kJ12_length, meK]; omega⟩ ⟨by first | omega | (dsimp only; omega) | decide, by first | omega | (dsimp only; omega) | decide⟩ (fun _ _ _ z => z.elim) rfl (fun r_266 h_266 q_266 => ?_)
                    obtain ⟨rfl, rfl⟩ := q_266
                    refine AW.sts (st' := [.int (bI (seesB T (((a + 1) + 2) + 1) (sw 4)))]) rfl ?_
                    refine aw_if_eq (n := 272) (tgt := 334) dX3_itemMeant_269 (by decide) rfl (fun c_269 => ?_) (fun c_269 => ?_)
                    · skip
                      have b_269 : (seesB T (((a + 1) + 2) + 1) (sw 4)) = false := (bI_0 _).mp c_269
                      refine aw_aload_n (n := 335) dX3_itemMeant_334 rfl 6 rfl rfl ?_
                      refine aw_getf (n := 338) (v := .ref (b + 13)) (C0 := RX3) (T := TX3) dX3_itemMeant_335 rfl 20 q2661 (Or.inl rfl) B_35_T.1 rfl rfl ?_
                      refine aw_aload_n (n := 339) dX3_itemMeant_338 rfl 6 rfl rfl ?_
                      refine aw_getf (n := 342) (v := .int ((tS (tL ms 24 (mnN ms 0) ((numT T ((a + 1) + 2)).toInt64)) 7 (nI (((a + 1) + 2) + 1))).1 19)) (C0 := RX3) (T := TX3) dX3_itemMeant_339 rfl 19 q2660 (Or.inl rfl) B_35_T.1 rfl rfl ?_
                      refine aw_aload_n (n := 343) dX3_itemMeant_342 rfl 6 rfl rfl ?_
                      refine aw_iload (n := 345) dX3_itemMeant_343 2 rfl rfl ?_
                      refine aw_callV (n := 348) (C0 := RX3) (As := [.int (nI (a + 1))]) (rest := [.int ((tS (tL ms 24 (mnN ms 0) ((numT T ((a + 1) + 2)).toInt64)) 7 (nI (((a + 1) + 2) + 1))).1 19), .ref (b + 13)]) (K2 := kX3_nameOf) dX3_itemMeant_345 q2953 q2955 qs70 q113 q2956 ⟨rfl, hcX3_nameOf⟩ rfl B_35_T.1 (ct_nameOf G h_31 b (tS (tL ms 24 (mnN ms 0) ((numT T ((a + 1) + 2)).toInt64)) 7 (nI (((a + 1) + 2) + 1))) hb B_35_T T (a + 1) ((hS.kept IB_35.2.2.2).1 (a + 1) hN1)) rfl (Nat.le_of_ble_eq_true rfl) ⟨by dsimp only [kX3_formula, kX3_row, kX3_since, kX3_one, kX3_expression, kX3_product, kX3_factor, kX3_fronted, kX3_compare, kX3_twoSided, kX3_braces, kX3_namedValue, kX3_bounds, kX3_nameOf, kX3_sees, kX3_is, kX3_isName, kX3_which, kX3_numberOf, kX3_find, kX3_node, kX3_wrong, kJ12_length, meK]; omega, by dsimp only [kX3_formula, kX3_row, kX3_since, kX3_one, kX3_expression, kX3_product, kX3_factor, kX3_fronted, kX3_compare, kX3_twoSided, kX3_braces, kX3_namedValue, kX3_bounds, kX3_nameOf, kX3_sees, kX3_is, kX3_isName, kX3_which, kX3_numberOf, kX3_find, kX3_node, kX3_wrong, kJ12_length, meK]; omega⟩ ⟨by first | omega | (dsimp only; omega) | decide, by first | omega | (dsimp only; omega) | decide⟩ (fun _ _ _ z => z.elim) rfl (fun r_345 h_345 q_345 => ?_)
                      obtain ⟨rfl, rfl⟩ := q_345
                      refine AW.sts (st' := [.long (nameT T (a + 1)), .int ((tS (tL ms 24 (mnN ms 0) ((numT T ((a + 1) + 2)).toInt64)) 7 (nI (((a + 1) + 2) + 1))).1 19), .ref (b + 13)]) rfl ?_
                      refine aw_tlast (n := 349) dX3_itemMeant_348 TW.m20 B_35_T hb (nN ((tS (tL ms 24 (mnN ms 0) ((numT T ((a + 1) + 2)).toInt64)) 7 (nI (((a + 1) + 2) + 1))).1 19)) SB_35.2.2.2.2.1 (by omega) (by decide) rfl (fun h_40 hT_40 hF_40 hz_40 => ?_)
                      have hG_40 := Fr.trans hG_31 hF_40
                      refine aw_aload_n (n := 350) dX3_itemMeant_349 rfl 6 rfl rfl ?_
                      refine aw_getf (n := 353) (v := .ref (b + 14)) (C0 := RX3) (T := TX3) dX3_itemMeant_350 rfl 21 q2662 (Or.inl rfl) hT_40.1 rfl rfl ?_
                      refine aw_aload_n (n := 354) dX3_itemMeant_353 rfl 6 rfl rfl ?_
                      refine aw_getf (n := 357) (v := .int ((tS (tL ms 24 (mnN ms 0) ((numT T ((a + 1) + 2)).toInt64)) 7 (nI (((a + 1) + 2) + 1))).1 19)) (C0 := RX3) (T := TX3) dX3_itemMeant_354 rfl 19 q2660 (Or.inl rfl) hT_40.1 rfl rfl ?_
                      refine aw_iload_n (n := 358) dX3_itemMeant_357 rfl 3 rfl rfl ?_
                      refine aw_tiast (n := 359) dX3_itemMeant_358 TW.m21 hT_40 hb (nN ((tS (tL ms 24 (mnN ms 0) ((numT T ((a + 1) + 2)).toInt64)) 7 (nI (((a + 1) + 2) + 1))).1 19)) SB_35.2.2.2.2.1 (by omega) (by decide) rfl (fun h_41 hT_41 hF_41 hz_41 => ?_)
                      have hG_41 := Fr.trans hG_40 hF_41
                      refine aw_aload_n (n := 360) dX3_itemMeant_359 rfl 6 rfl rfl ?_
                      refine aw_getf (n := 363) (v := .ref (b + 15)) (C0 := RX3) (T := TX3) dX3_itemMeant_360 rfl 22 q2663 (Or.inl rfl) hT_41.1 rfl rfl ?_
                      refine aw_aload_n (n := 364) dX3_itemMeant_363 rfl 6 rfl rfl ?_
                      refine aw_getf (n := 367) (v := .int ((tS (tL ms 24 (mnN ms 0) ((numT T ((a + 1) + 2)).toInt64)) 7 (nI (((a + 1) + 2) + 1))).1 19)) (C0 := RX3) (T := TX3) dX3_itemMeant_364 rfl 19 q2660 (Or.inl rfl) hT_41.1 rfl rfl ?_
                      refine aw_aload_n (n := 368) dX3_itemMeant_367 rfl 6 rfl rfl ?_
                      refine aw_getf (n := 371) (v := .ref (b + 16)) (C0 := RX3) (T := TX3) dX3_itemMeant_368 rfl 23 q2664 (Or.inl rfl) hT_41.1 rfl rfl ?_
                      refine aw_iload_n (n := 372) dX3_itemMeant_371 rfl 3 rfl rfl ?_
                      refine aw_iald (n := 373) (v := .int ((tS (tL ms 24 (mnN ms 0) ((numT T ((a + 1) + 2)).toInt64)) 7 (nI (((a + 1) + 2) + 1))).2.1 23 0)) dX3_itemMeant_372 rfl 0 (by rfl) hT_41.a23 (by omega) (by decide) rfl rfl ?_
                      refine aw_tiast (n := 374) dX3_itemMeant_373 TW.m22 hT_41 hb (nN ((tS (tL ms 24 (mnN ms 0) ((numT T ((a + 1) + 2)).toInt64)) 7 (nI (((a + 1) + 2) + 1))).1 19)) SB_35.2.2.2.2.1 (by omega) (by decide) rfl (fun h_42 hT_42 hF_42 hz_42 => ?_)
                      have hG_42 := Fr.trans hG_41 hF_42
                      refine aw_aload_n (n := 375) dX3_itemMeant_374 rfl 6 rfl rfl ?_
                      refine aw_dup (n := 376) dX3_itemMeant_375 rfl rfl ?_
                      refine aw_getf (n := 379) (v := .int ((tS (tL ms 24 (mnN ms 0) ((numT T ((a + 1) + 2)).toInt64)) 7 (nI (((a + 1) + 2) + 1))).1 19)) (C0 := RX3) (T := TX3) dX3_itemMeant_376 rfl 19 q2660 (Or.inl rfl) hT_42.1 rfl rfl ?_
                      refine aw_iconst (n := 380) (v := 1) dX3_itemMeant_379 (by decide) rfl ?_
                      refine aw_iadd (n := 381) dX3_itemMeant_380 rfl ?_
                      refine AW.sts (st' := [.int (nI ((nN ((tS (tL ms 24 (mnN ms 0) ((numT T ((a + 1) + 2)).toInt64)) 7 (nI (((a + 1) + 2) + 1))).1 19)) + 1)), .ref b]) (by rw [show ((tS (tL ms 24 (mnN ms 0) ((numT T ((a + 1) + 2)).toInt64)) 7 (nI (((a + 1) + 2) + 1))).1 19) + 1 = nI ((nN ((tS (tL ms 24 (mnN ms 0) ((numT T ((a + 1) + 2)).toInt64)) 7 (nI (((a + 1) + 2) + 1))).1 19)) + 1) from ((congrArg (fun z9 : Int32 => z9 + 1) (SB_35.2.2.2.2.1 : ((tS (tL ms 24 (mnN ms 0) ((numT T ((a + 1) + 2)).toInt64)) 7 (nI (((a + 1) + 2) + 1))).1 19) = nI (nN ((tS (tL ms 24 (mnN ms 0) ((numT T ((a + 1) + 2)).toInt64)) 7 (nI (((a + 1) + 2) + 1))).1 19)))).trans (nI_1 _))]) ?_
                      refine aw_tput (n := 384) (k := 19) dX3_itemMeant_381 q2660 (by decide) rfl rfl rfl rfl rfl hT_42 hb rfl rfl (fun h_43 hT_43 hF_43 hz_43 => ?_)
                      have hG_43 := Fr.trans hG_42 hF_43
                      refine aw_aload_n (n := 385) dX3_itemMeant_384 rfl 6 rfl rfl ?_
                      refine aw_getf (n := 388) (v := .ref (b + 16)) (C0 := RX3) (T := TX3) dX3_itemMeant_385 rfl 23 q2664 (Or.inl rfl) hT_43.1 rfl rfl ?_
                      refine aw_iload_n (n := 389) dX3_itemMeant_388 rfl 3 rfl rfl ?_
                      refine aw_dup2 (n := 390) dX3_itemMeant_389 rfl rfl rfl ?_
                      refine aw_iald (n := 391) (v := .int ((tS (tL ms 24 (mnN ms 0) ((numT T ((a + 1) + 2)).toInt64)) 7 (nI (((a + 1) + 2) + 1))).2.1 23 0)) dX3_itemMeant_390 rfl 0 (by rfl) hT_43.a23 (by omega) (by decide) rfl rfl ?_
                      refine aw_iconst (n := 392) (v := 1) dX3_itemMeant_391 (by decide) rfl ?_
                      refine aw_iadd (n := 393) dX3_itemMeant_392 rfl ?_
                      refine aw_tiast (n := 394) dX3_itemMeant_393 TW.m23 hT_43 hb 0 (by rfl) (by omega) (by decide) rfl (fun h_44 hT_44 hF_44 hz_44 => ?_)
                      have hG_44 := Fr.trans hG_43 hF_44
                      refine aw_iconst (n := 395) (v := 0) dX3_itemMeant_394 (by decide) rfl ?_
                      exact aw_iret dX3_itemMeant_395 rfl ⟨tI (tS (tI (tI (tL (tS (tL ms 24 (mnN ms 0) ((numT T ((a + 1) + 2)).toInt64)) 7 (nI (((a + 1) + 2) + 1))) 20 (nN ((tS (tL ms 24 (mnN ms 0) ((numT T ((a + 1) + 2)).toInt64)) 7 (nI (((a + 1) + 2) + 1))).1 19)) (nameT T (a + 1))) 21 (nN ((tS (tL ms 24 (mnN ms 0) ((numT T ((a + 1) + 2)).toInt64)) 7 (nI (((a + 1) + 2) + 1))).1 19)) (0 : Int32)) 22 (nN ((tS (tL ms 24 (mnN ms 0) ((numT T ((a + 1) + 2)).toInt64)) 7 (nI (((a + 1) + 2) + 1))).1 19)) ((tS (tL ms 24 (mnN ms 0) ((numT T ((a + 1) + 2)).toInt64)) 7 (nI (((a + 1) + 2) + 1))).2.1 23 0)) 19 (nI ((nN ((tS (tL ms 24 (mnN ms 0) ((numT T ((a + 1) + 2)).toInt64)) 7 (nI (((a + 1) + 2) + 1))).1 19)) + 1))) 23 0 (((tS (tL ms 24 (mnN ms 0) ((numT T ((a + 1) + 2)).toInt64)) 7 (nI (((a + 1) + 2) + 1))).2.1 23 0) + 1), ((a + 1) + 2) + 1, by rw [g_38] <;> rfl, hT_44, hG_44, (by omega), fun _ => ⟨by rw [g_38]; exact congrArg (fun z => (((a + 1) + 2) + 1 + 1, ats (newT T 0 (a + 1) z) (((a + 1) + 2) + 1 + 1))) e_sg, IB_35.2.2.1.1⟩, fun z => absurd (by rw [g_38] <;> rfl) z⟩ ⟨(by first | exact Nat.le_refl _ | omega | (dsimp only; omega)), (by first | exact Nat.le_refl _ | omega | (dsimp only; omega))⟩
                    · skip
                      have b_269 : (seesB T (((a + 1) + 2) + 1) (sw 4)) = true := Bool.of_not_eq_false (fun e => c_269 ((bI_0 _).mpr e))
                      exact absurd (u4.symm.trans b_269) (by decide)
                  · skip
                    exact absurd c_248 (by decide +kernel)
                · skip
                  exact absurd c_223 (by decide +kernel)
              · skip
                exact absurd c_216 (by decide +kernel)
            · skip
              have b_157 : (seesB T ((a + 1) + 2) (sw 38)) = true := Bool.of_not_eq_false (fun e => c_157 ((bI_0 _).mpr e))
              exact absurd (b_133.symm.trans b_157) (by decide)
          · skip
            have b_133 : (seesB T ((a + 1) + 2) (sw 38)) = true := Bool.of_not_eq_false (fun e => c_133 ((bI_0 _).mpr e))
            have g_46 := pG_T g_19 (by first | assumption | simp [b_133])
            try dsimp only at g_46
            have ne_47 : T.1 ((a + 1) + 2) ≠ 0 := by have z9 := b_133; first | exact seesB_ne z9 | exact isNm_ne z9 | (have z8 := (beq_iff_eq.mp z9); omega) | exact whT_lt (bne_iff_ne.mp z9) | (rcases (Bool.or_eq_true _ _).mp z9 with z8 | z8 <;> first | exact seesB_ne z8 | (rcases (Bool.or_eq_true _ _).mp z8 with z7 | z7 <;> exact seesB_ne z7))
            unfold pSg at g_46
            try simp only [Bool.true_and, pT, ef, cond_true, gOr, gAnd, gSum, gPro, tS_tS, seesP_eq I_222 hN4 hS.2.1, nmP_eq I_222 hN4 hS.2.1, nuP_eq I_222 hN4 hS.2.1, whP_eq I_222 hN4 hS.2.1] at g_46
            refine aw_iconst (n := 137) (v := 1) dX3_itemMeant_136 (by decide) rfl ?_
            refine aw_goto (tgt := 141) dX3_itemMeant_137 (by decide) ?_
            refine aw_iadd (n := 142) dX3_itemMeant_141 rfl ?_
            refine AW.sts (st' := [.int (nI (((a + 1) + 2) + 1)), .ref b]) (by rw [show (nI ((a + 1) + 2)) + 1 = nI (((a + 1) + 2) + 1) from (nI_1 _)]) ?_
            refine aw_tput (n := 145) (k := 7) dX3_itemMeant_142 q2648 (by decide) rfl rfl rfl rfl rfl hT_15 hb rfl rfl (fun h_48 hT_48 hF_48 hz_48 => ?_)
            have hG_48 := Fr.trans hG_15 hF_48
            have N_49 : ((a + 1) + 2) + 1 ≤ N := lt_end hS.2.1 I_222 ne_47
            have I_50 := I_22.at (a' := ((a + 1) + 2) + 1) (by omega) (by omega)
            rw [tS_tS] at hT_48
            have I_51 : pM (B) a ms (((a + 1) + 2) + 1) (tS ms 7 (nI (((a + 1) + 2) + 1))) := by have z : pM (B) a ms (((a + 1) + 2) + 1) (tS (tS ms 7 (nI ((a + 1) + 2))) 7 (nI (((a + 1) + 2) + 1))) := I_50; rw [tS_tS] at z; exact z
            have tk_52 := (hS.kept I_51.2.2.2).1 (((a + 1) + 2) + 1) N_49; have Ktk_52 := tk_52.2.1
            try simp only [Bool.true_and, pT, ef, cond_true, gOr, gAnd, gSum, gPro, tS_tS, seesP_eq N_49 hN4 hS.2.1, nmP_eq N_49 hN4 hS.2.1, nuP_eq N_49 hN4 hS.2.1, whP_eq N_49 hN4 hS.2.1] at g_46
            have g_53 := pG_c g_46 h1
            have g_54 := g_53.2
            try dsimp only at g_54
            have ne_55 : T.1 (((a + 1) + 2) + 1) ≠ 0 := by have z9 := g_53.1; first | exact seesB_ne z9 | exact isNm_ne z9 | (have z8 := (beq_iff_eq.mp z9); omega) | exact whT_lt (bne_iff_ne.mp z9) | (rcases (Bool.or_eq_true _ _).mp z9 with z8 | z8 <;> first | exact seesB_ne z8 | (rcases (Bool.or_eq_true _ _).mp z8 with z7 | z7 <;> exact seesB_ne z7))
            unfold pEnd at g_54
            try simp only [Bool.true_and, pT, ef, cond_true, gOr, gAnd, gSum, gPro, tS_tS, seesP_eq N_49 hN4 hS.2.1, nmP_eq N_49 hN4 hS.2.1, nuP_eq N_49 hN4 hS.2.1, whP_eq N_49 hN4 hS.2.1] at g_54
            refine aw_aload_n (n := 146) dX3_itemMeant_145 rfl 6 rfl rfl ?_
            refine aw_getf (n := 149) (v := .ref (b + 17)) (C0 := RX3) (T := TX3) dX3_itemMeant_146 rfl 24 q2665 (Or.inl rfl) hT_48.1 rfl rfl ?_
            refine aw_aload_n (n := 150) dX3_itemMeant_149 rfl 6 rfl rfl ?_
            refine aw_getf (n := 153) (v := .ref (b + 16)) (C0 := RX3) (T := TX3) dX3_itemMeant_150 rfl 23 q2664 (Or.inl rfl) hT_48.1 rfl rfl ?_
            refine aw_iconst (n := 154) (v := 0) dX3_itemMeant_153 (by decide) rfl ?_
            refine aw_iald (n := 155) (v := .int (ms.2.1 23 0)) dX3_itemMeant_154 rfl 0 (by rfl) hT_48.a23 (by omega) (by decide) rfl rfl ?_
            refine aw_iload (n := 157) dX3_itemMeant_155 0 rfl rfl ?_
            refine aw_if_eq (n := 160) (tgt := 173) dX3_itemMeant_157 (by decide) rfl (fun c_157_2 => ?_) (fun c_157_2 => ?_)
            · skip
              have b_157_2 : (seesB T ((a + 1) + 2) (sw 38)) = false := (bI_0 _).mp c_157_2
              exact absurd (b_133.symm.trans b_157_2) (by decide)
            · skip
              have b_157_2 : (seesB T ((a + 1) + 2) (sw 38)) = true := Bool.of_not_eq_false (fun e => c_157_2 ((bI_0 _).mpr e))
              refine aw_aload_n (n := 161) dX3_itemMeant_160 rfl 6 rfl rfl ?_
              refine aw_aload_n (n := 162) dX3_itemMeant_161 rfl 6 rfl rfl ?_
              refine aw_getf (n := 165) (v := .int (nI (((a + 1) + 2) + 1))) (C0 := RX3) (T := TX3) dX3_itemMeant_162 rfl 7 q2648 (Or.inl rfl) hT_48.1 rfl rfl ?_
              refine aw_callV (n := 168) (C0 := RX3) (As := [.int (nI (((a + 1) + 2) + 1))]) (rest := [.int (ms.2.1 23 0), .ref (b + 17)]) (K2 := kX3_numberOf) dX3_itemMeant_165 q2958 q2960 qs71 q113 q2961 ⟨rfl, hcX3_numberOf⟩ rfl hT_48.1 (ct_numberOf G h_48 b (tS ms 7 (nI (((a + 1) + 2) + 1))) hb hT_48 T (((a + 1) + 2) + 1) ((hS.kept I_51.2.2.2).1 (((a + 1) + 2) + 1) N_49)) rfl (Nat.le_of_ble_eq_true rfl) ⟨by dsimp only [kX3_formula, kX3_row, kX3_since, kX3_one, kX3_expression, kX3_product, kX3_factor, kX3_fronted, kX3_compare, kX3_twoSided, kX3_braces, kX3_namedValue, kX3_bounds, kX3_nameOf, kX3_sees, kX3_is, kX3_isName, kX3_which, kX3_numberOf, kX3_find, kX3_node, kX3_wrong, kJ12_length, meK]; omega, by dsimp only [kX3_formula, kX3_row, kX3_since, kX3_one, kX3_expression, kX3_product, kX3_factor, kX3_fronted, kX3_compare, kX3_twoSided, kX3_braces, kX3_namedValue, kX3_bounds, kX3_nameOf, kX3_sees, kX3_is, kX3_isName, kX3_which, kX3_numberOf, kX3_find, kX3_node, kX3_wrong, kJ12_length, meK]; omega⟩ ⟨by first | omega | (dsimp only; omega) | decide, by first | omega | (dsimp only; omega) | decide⟩ (fun _ _ _ z => z.elim) rfl (fun r_165 h_165 q_165 => ?_)
              obtain ⟨rfl, rfl⟩ := q_165
              refine AW.sts (st' := [.int (numT T (((a + 1) + 2) + 1)), .int (ms.2.1 23 0), .ref (b + 17)]) rfl ?_
              refine aw_ineg (n := 169) dX3_itemMeant_168 rfl ?_
              refine aw_i2l (n := 170) dX3_itemMeant_169 rfl rfl ?_
              refine aw_goto (tgt := 182) dX3_itemMeant_170 (by decide) ?_
              refine aw_tlast (n := 183) dX3_itemMeant_182 TW.m24 hT_48 hb (mnN ms 0) (hpm 0 (by decide)) (by omega) (by decide) rfl (fun h_56 hT_56 hF_56 hz_56 => ?_)
              have hG_56 := Fr.trans hG_48 hF_56
              refine aw_aload_n (n := 184) dX3_itemMeant_183 rfl 6 rfl rfl ?_
              refine aw_dup (n := 185) dX3_itemMeant_184 rfl rfl ?_
              refine aw_getf (n := 188) (v := .int (nI (((a + 1) + 2) + 1))) (C0 := RX3) (T := TX3) dX3_itemMeant_185 rfl 7 q2648 (Or.inl rfl) hT_56.1 rfl rfl ?_
              refine aw_iconst (n := 189) (v := 1) dX3_itemMeant_188 (by decide) rfl ?_
              refine aw_iadd (n := 190) dX3_itemMeant_189 rfl ?_
              refine AW.sts (st' := [.int (nI ((((a + 1) + 2) + 1) + 1)), .ref b]) (by rw [show (nI (((a + 1) + 2) + 1)) + 1 = nI ((((a + 1) + 2) + 1) + 1) from (nI_1 _)]) ?_
              refine aw_tput (n := 193) (k := 7) dX3_itemMeant_190 q2648 (by decide) rfl rfl rfl rfl rfl hT_56 hb rfl rfl (fun h_57 hT_57 hF_57 hz_57 => ?_)
              have hG_57 := Fr.trans hG_56 hF_57
              have N_58 : (((a + 1) + 2) + 1) + 1 ≤ N := lt_end hS.2.1 N_49 ne_55
              have I_59 := I_51.at (a' := (((a + 1) + 2) + 1) + 1) (by omega) (by omega)
              have tk_60 := (hS.kept I_59.2.2.2).1 ((((a + 1) + 2) + 1) + 1) N_58; have Ktk_60 := tk_60.2.1
              try simp only [Bool.true_and, pT, ef, cond_true, gOr, gAnd, gSum, gPro, tS_tS, seesP_eq N_58 hN4 hS.2.1, nmP_eq N_58 hN4 hS.2.1, nuP_eq N_58 hN4 hS.2.1, whP_eq N_58 hN4 hS.2.1] at g_54
              have T9_ : TW b h_57 (tS (tL ms 24 (mnN ms 0) ((-(numT T (((a + 1) + 2) + 1))).toInt64)) 7 (nI ((((a + 1) + 2) + 1) + 1))) := by have z := hT_57; rw [tS_tL] at z; exact z
              have e_sg : ats (sgT T true (((a + 1) + 2) + 1) (tS ms 7 (nI (((a + 1) + 2) + 1)))) ((((a + 1) + 2) + 1) + 1) = tS (tL ms 24 (mnN ms 0) ((-(numT T (((a + 1) + 2) + 1))).toInt64)) 7 (nI ((((a + 1) + 2) + 1) + 1)) := tS_tL _ _ _ _ _ _ _
              have SB_61 : mS (B + 1) ((((a + 1) + 2) + 1) + 1) (tS (tL ms 24 (mnN ms 0) ((-(numT T (((a + 1) + 2) + 1))).toInt64)) 7 (nI ((((a + 1) + 2) + 1) + 1))) := (show mS (B + 1) a (tL ms 24 (mnN ms 0) ((-(numT T (((a + 1) + 2) + 1))).toInt64)) from hm).at0 (by omega)
              have PB_61 : pgI (tS (tL ms 24 (mnN ms 0) ((-(numT T (((a + 1) + 2) + 1))).toInt64)) 7 (nI ((((a + 1) + 2) + 1) + 1))) := (show pgI (tL ms 24 (mnN ms 0) ((-(numT T (((a + 1) + 2) + 1))).toInt64)) from hp).kept (mF.S (Or.inl rfl))
              have GB_61 : gF ms (tS (tL ms 24 (mnN ms 0) ((-(numT T (((a + 1) + 2) + 1))).toInt64)) 7 (nI ((((a + 1) + 2) + 1) + 1))) := ((gF.rf ms).L (by decide)).S (by decide)
              have hS := hS0.g GB_61
              have IB_61 : pM (B + 1) ((((a + 1) + 2) + 1) + 1) (tS (tL ms 24 (mnN ms 0) ((-(numT T (((a + 1) + 2) + 1))).toInt64)) 7 (nI ((((a + 1) + 2) + 1) + 1))) ((((a + 1) + 2) + 1) + 1) (tS (tL ms 24 (mnN ms 0) ((-(numT T (((a + 1) + 2) + 1))).toInt64)) 7 (nI ((((a + 1) + 2) + 1) + 1))) := pM.rf SB_61 (by omega)
              have B_61_T : TW b h_57 (tS (tL ms 24 (mnN ms 0) ((-(numT T (((a + 1) + 2) + 1))).toInt64)) 7 (nI ((((a + 1) + 2) + 1) + 1))) := T9_
              have n19B_61 := SB_61.2.2.2.2.2.1; have c19B_61 := PB_61.2.2.2.1; have d0B_61 := PB_61.2.1; have d1B_61 := PB_61.2.2.1 1 (by decide) (by decide); have d2B_61 := PB_61.2.2.1 2 (by decide) (by decide); have d3B_61 := PB_61.2.2.1 3 (by decide) (by decide)
              have q9B_61 : mnN (tS (tL ms 24 (mnN ms 0) ((-(numT T (((a + 1) + 2) + 1))).toInt64)) 7 (nI ((((a + 1) + 2) + 1) + 1))) 0 = mnN ms 0 := rfl
              have tk_62 := hS.1 ((((a + 1) + 2) + 1) + 1) N_58; have Ktk_62 := tk_62.2.1
              refine aw_goto (tgt := 214) dX3_itemMeant_193 (by decide) ?_
              refine aw_iload (n := 216) dX3_itemMeant_214 1 rfl rfl ?_
              refine aw_if_eq (n := 219) (tgt := 222) dX3_itemMeant_216 (by decide) rfl (fun c_216_2 => ?_) (fun c_216_2 => ?_)
              · skip
                refine aw_iload_n (n := 223) dX3_itemMeant_222 rfl 3 rfl rfl ?_
                refine aw_if_le (n := 226) (tgt := 246) dX3_itemMeant_223 (by decide) rfl (fun c_223_2 => ?_) (fun c_223_2 => ?_)
                · skip
                  refine aw_iload_n (n := 247) dX3_itemMeant_246 rfl 3 rfl rfl ?_
                  refine aw_iconst (n := 248) (v := 3) dX3_itemMeant_247 (by decide) rfl ?_
                  refine aw_icmp_ne (n := 251) (tgt := 263) dX3_itemMeant_248 (by decide) rfl (fun c_248_2 => ?_) (fun c_248_2 => ?_)
                  · skip
                    try simp only [Bool.true_and, pT, ef, cond_true, gOr, gAnd, gSum, gPro, tS_tS, seesP_eq N_58 hN4 hS.2.1, nmP_eq N_58 hN4 hS.2.1, nuP_eq N_58 hN4 hS.2.1, whP_eq N_58 hN4 hS.2.1] at g_54
                    have g_63 := pG_l g_54 h1
                    have g_64 := g_63.2
                    try dsimp only at g_64
                    have u4 := sees_un (j := 4) g_63.1 (by decide)
                    refine aw_aload_n (n := 264) dX3_itemMeant_263 rfl 6 rfl rfl ?_
                    refine aw_ldcS (n := 266) (q := 4) dX3_itemMeant_264 100 rfl rfl ?_
                    refine aw_know (fun gd_64 hi_64 => ?_)
                    refine aw_callV (n := 269) (C0 := RX3) (As := [.ref (gT G 4)]) (rest := []) (K2 := kX3_sees) dX3_itemMeant_266 q2826 q2828 qs50 q113 q2829 ⟨rfl, hcX3_sees⟩ rfl B_61_T.1 (ct_sees G h_57 b (tS (tL ms 24 (mnN ms 0) ((-(numT T (((a + 1) + 2) + 1))).toInt64)) 7 (nI ((((a + 1) + 2) + 1) + 1))) hb B_61_T T ((((a + 1) + 2) + 1) + 1) IB_61.2.2.1.1 tk_62 _ (sw 4) (str_at gd_64 hi_64 (i := 4) rfl) (lo_at (i := 4) rfl)) rfl (Nat.le_of_ble_eq_true rfl) ⟨by dsimp only [kX3_formula, kX3_row, kX3_since, kX3_one, kX3_expression, kX3_product, kX3_factor, kX3_fronted, kX3_compare, kX3_twoSided, kX3_braces, kX3_namedValue, kX3_bounds, kX3_nameOf, kX3_sees, kX3_is, kX3_isName, kX3_which, kX3_numberOf, kX3_find, kX3_node, kX3_wrong, kJ12_length, meK]; omega, by dsimp only [kX3_formula, kX3_row, kX3_since, kX3_one, kX3_expression, kX3_product, kX3_factor, kX3_fronted, kX3_compare, kX3_twoSided, kX3_braces, kX3_namedValue, kX3_bounds, kX3_nameOf, kX3_sees, kX3_is, kX3_isName, kX3_which, kX3_numberOf, kX3_find, kX3_node, kX3_wrong, kJ12_length, meK]; omega⟩ ⟨by first | omega | (dsimp only; omega) | decide, by first | omega | (dsimp only; omega) | decide⟩ (fun _ _ _ z => z.elim) rfl (fun r_266 h_266 q_266 => ?_)
                    obtain ⟨rfl, rfl⟩ := q_266
                    refine AW.sts (st' := [.int (bI (seesB T ((((a + 1) + 2) + 1) + 1) (sw 4)))]) rfl ?_
                    refine aw_if_eq (n := 272) (tgt := 334) dX3_itemMeant_269 (by decide) rfl (fun c_269_2 => ?_) (fun c_269_2 => ?_)
                    · skip
                      have b_269_2 : (seesB T ((((a + 1) + 2) + 1) + 1) (sw 4)) = false := (bI_0 _).mp c_269_2
                      refine aw_aload_n (n := 335) dX3_itemMeant_334 rfl 6 rfl rfl ?_
                      refine aw_getf (n := 338) (v := .ref (b + 13)) (C0 := RX3) (T := TX3) dX3_itemMeant_335 rfl 20 q2661 (Or.inl rfl) B_61_T.1 rfl rfl ?_
                      refine aw_aload_n (n := 339) dX3_itemMeant_338 rfl 6 rfl rfl ?_
                      refine aw_getf (n := 342) (v := .int ((tS (tL ms 24 (mnN ms 0) ((-(numT T (((a + 1) + 2) + 1))).toInt64)) 7 (nI ((((a + 1) + 2) + 1) + 1))).1 19)) (C0 := RX3) (T := TX3) dX3_itemMeant_339 rfl 19 q2660 (Or.inl rfl) B_61_T.1 rfl rfl ?_
                      refine aw_aload_n (n := 343) dX3_itemMeant_342 rfl 6 rfl rfl ?_
                      refine aw_iload (n := 345) dX3_itemMeant_343 2 rfl rfl ?_
                      refine aw_callV (n := 348) (C0 := RX3) (As := [.int (nI (a + 1))]) (rest := [.int ((tS (tL ms 24 (mnN ms 0) ((-(numT T (((a + 1) + 2) + 1))).toInt64)) 7 (nI ((((a + 1) + 2) + 1) + 1))).1 19), .ref (b + 13)]) (K2 := kX3_nameOf) dX3_itemMeant_345 q2953 q2955 qs70 q113 q2956 ⟨rfl, hcX3_nameOf⟩ rfl B_61_T.1 (ct_nameOf G h_57 b (tS (tL ms 24 (mnN ms 0) ((-(numT T (((a + 1) + 2) + 1))).toInt64)) 7 (nI ((((a + 1) + 2) + 1) + 1))) hb B_61_T T (a + 1) ((hS.kept IB_61.2.2.2).1 (a + 1) hN1)) rfl (Nat.le_of_ble_eq_true rfl) ⟨by dsimp only [kX3_formula, kX3_row, kX3_since, kX3_one, kX3_expression, kX3_product, kX3_factor, kX3_fronted, kX3_compare, kX3_twoSided, kX3_braces, kX3_namedValue, kX3_bounds, kX3_nameOf, kX3_sees, kX3_is, kX3_isName, kX3_which, kX3_numberOf, kX3_find, kX3_node, kX3_wrong, kJ12_length, meK]; omega, by dsimp only [kX3_formula, kX3_row, kX3_since, kX3_one, kX3_expression, kX3_product, kX3_factor, kX3_fronted, kX3_compare, kX3_twoSided, kX3_braces, kX3_namedValue, kX3_bounds, kX3_nameOf, kX3_sees, kX3_is, kX3_isName, kX3_which, kX3_numberOf, kX3_find, kX3_node, kX3_wrong, kJ12_length, meK]; omega⟩ ⟨by first | omega | (dsimp only; omega) | decide, by first | omega | (dsimp only; omega) | decide⟩ (fun _ _ _ z => z.elim) rfl (fun r_345 h_345 q_345 => ?_)
                      obtain ⟨rfl, rfl⟩ := q_345
                      refine AW.sts (st' := [.long (nameT T (a + 1)), .int ((tS (tL ms 24 (mnN ms 0) ((-(numT T (((a + 1) + 2) + 1))).toInt64)) 7 (nI ((((a + 1) + 2) + 1) + 1))).1 19), .ref (b + 13)]) rfl ?_
                      refine aw_tlast (n := 349) dX3_itemMeant_348 TW.m20 B_61_T hb (nN ((tS (tL ms 24 (mnN ms 0) ((-(numT T (((a + 1) + 2) + 1))).toInt64)) 7 (nI ((((a + 1) + 2) + 1) + 1))).1 19)) SB_61.2.2.2.2.1 (by omega) (by decide) rfl (fun h_66 hT_66 hF_66 hz_66 => ?_)
                      have hG_66 := Fr.trans hG_57 hF_66
                      refine aw_aload_n (n := 350) dX3_itemMeant_349 rfl 6 rfl rfl ?_
                      refine aw_getf (n := 353) (v := .ref (b + 14)) (C0 := RX3) (T := TX3) dX3_itemMeant_350 rfl 21 q2662 (Or.inl rfl) hT_66.1 rfl rfl ?_
                      refine aw_aload_n (n := 354) dX3_itemMeant_353 rfl 6 rfl rfl ?_
                      refine aw_getf (n := 357) (v := .int ((tS (tL ms 24 (mnN ms 0) ((-(numT T (((a + 1) + 2) + 1))).toInt64)) 7 (nI ((((a + 1) + 2) + 1) + 1))).1 19)) (C0 := RX3) (T := TX3) dX3_itemMeant_354 rfl 19 q2660 (Or.inl rfl) hT_66.1 rfl rfl ?_
                      refine aw_iload_n (n := 358) dX3_itemMeant_357 rfl 3 rfl rfl ?_
                      refine aw_tiast (n := 359) dX3_itemMeant_358 TW.m21 hT_66 hb (nN ((tS (tL ms 24 (mnN ms 0) ((-(numT T (((a + 1) + 2) + 1))).toInt64)) 7 (nI ((((a + 1) + 2) + 1) + 1))).1 19)) SB_61.2.2.2.2.1 (by omega) (by decide) rfl (fun h_67 hT_67 hF_67 hz_67 => ?_)
                      have hG_67 := Fr.trans hG_66 hF_67
                      refine aw_aload_n (n := 360) dX3_itemMeant_359 rfl 6 rfl rfl ?_
                      refine aw_getf (n := 363) (v := .ref (b + 15)) (C0 := RX3) (T := TX3) dX3_itemMeant_360 rfl 22 q2663 (Or.inl rfl) hT_67.1 rfl rfl ?_
                      refine aw_aload_n (n := 364) dX3_itemMeant_363 rfl 6 rfl rfl ?_
                      refine aw_getf (n := 367) (v := .int ((tS (tL ms 24 (mnN ms 0) ((-(numT T (((a + 1) + 2) + 1))).toInt64)) 7 (nI ((((a + 1) + 2) + 1) + 1))).1 19)) (C0 := RX3) (T := TX3) dX3_itemMeant_364 rfl 19 q2660 (Or.inl rfl) hT_67.1 rfl rfl ?_
                      refine aw_aload_n (n := 368) dX3_itemMeant_367 rfl 6 rfl rfl ?_
                      refine aw_getf (n := 371) (v := .ref (b + 16)) (C0 := RX3) (T := TX3) dX3_itemMeant_368 rfl 23 q2664 (Or.inl rfl) hT_67.1 rfl rfl ?_
                      refine aw_iload_n (n := 372) dX3_itemMeant_371 rfl 3 rfl rfl ?_
                      refine aw_iald (n := 373) (v := .int ((tS (tL ms 24 (mnN ms 0) ((-(numT T (((a + 1) + 2) + 1))).toInt64)) 7 (nI ((((a + 1) + 2) + 1) + 1))).2.1 23 0)) dX3_itemMeant_372 rfl 0 (by rfl) hT_67.a23 (by omega) (by decide) rfl rfl ?_
                      refine aw_tiast (n := 374) dX3_itemMeant_373 TW.m22 hT_67 hb (nN ((tS (tL ms 24 (mnN ms 0) ((-(numT T (((a + 1) + 2) + 1))).toInt64)) 7 (nI ((((a + 1) + 2) + 1) + 1))).1 19)) SB_61.2.2.2.2.1 (by omega) (by decide) rfl (fun h_68 hT_68 hF_68 hz_68 => ?_)
                      have hG_68 := Fr.trans hG_67 hF_68
                      refine aw_aload_n (n := 375) dX3_itemMeant_374 rfl 6 rfl rfl ?_
                      refine aw_dup (n := 376) dX3_itemMeant_375 rfl rfl ?_
                      refine aw_getf (n := 379) (v := .int ((tS (tL ms 24 (mnN ms 0) ((-(numT T (((a + 1) + 2) + 1))).toInt64)) 7 (nI ((((a + 1) + 2) + 1) + 1))).1 19)) (C0 := RX3) (T := TX3) dX3_itemMeant_376 rfl 19 q2660 (Or.inl rfl) hT_68.1 rfl rfl ?_
                      refine aw_iconst (n := 380) (v := 1) dX3_itemMeant_379 (by decide) rfl ?_
                      refine aw_iadd (n := 381) dX3_itemMeant_380 rfl ?_
                      refine AW.sts (st' := [.int (nI ((nN ((tS (tL ms 24 (mnN ms 0) ((-(numT T (((a + 1) + 2) + 1))).toInt64)) 7 (nI ((((a + 1) + 2) + 1) + 1))).1 19)) + 1)), .ref b]) (by rw [show ((tS (tL ms 24 (mnN ms 0) ((-(numT T (((a + 1) + 2) + 1))).toInt64)) 7 (nI ((((a + 1) + 2) + 1) + 1))).1 19) + 1 = nI ((nN ((tS (tL ms 24 (mnN ms 0) ((-(numT T (((a + 1) + 2) + 1))).toInt64)) 7 (nI ((((a + 1) + 2) + 1) + 1))).1 19)) + 1) from ((congrArg (fun z9 : Int32 => z9 + 1) (SB_61.2.2.2.2.1 : ((tS (tL ms 24 (mnN ms 0) ((-(numT T (((a + 1) + 2) + 1))).toInt64)) 7 (nI ((((a + 1) + 2) + 1) + 1))).1 19) = nI (nN ((tS (tL ms 24 (mnN ms 0) ((-(numT T (((a + 1) + 2) + 1))).toInt64)) 7 (nI ((((a + 1) + 2) + 1) + 1))).1 19)))).trans (nI_1 _))]) ?_
                      refine aw_tput (n := 384) (k := 19) dX3_itemMeant_381 q2660 (by decide) rfl rfl rfl rfl rfl hT_68 hb rfl rfl (fun h_69 hT_69 hF_69 hz_69 => ?_)
                      have hG_69 := Fr.trans hG_68 hF_69
                      refine aw_aload_n (n := 385) dX3_itemMeant_384 rfl 6 rfl rfl ?_
                      refine aw_getf (n := 388) (v := .ref (b + 16)) (C0 := RX3) (T := TX3) dX3_itemMeant_385 rfl 23 q2664 (Or.inl rfl) hT_69.1 rfl rfl ?_
                      refine aw_iload_n (n := 389) dX3_itemMeant_388 rfl 3 rfl rfl ?_
                      refine aw_dup2 (n := 390) dX3_itemMeant_389 rfl rfl rfl ?_
                      refine aw_iald (n := 391) (v := .int ((tS (tL ms 24 (mnN ms 0) ((-(numT T (((a + 1) + 2) + 1))).toInt64)) 7 (nI ((((a + 1) + 2) + 1) + 1))).2.1 23 0)) dX3_itemMeant_390 rfl 0 (by rfl) hT_69.a23 (by omega) (by decide) rfl rfl ?_
                      refine aw_iconst (n := 392) (v := 1) dX3_itemMeant_391 (by decide) rfl ?_
                      refine aw_iadd (n := 393) dX3_itemMeant_392 rfl ?_
                      refine aw_tiast (n := 394) dX3_itemMeant_393 TW.m23 hT_69 hb 0 (by rfl) (by omega) (by decide) rfl (fun h_70 hT_70 hF_70 hz_70 => ?_)
                      have hG_70 := Fr.trans hG_69 hF_70
                      refine aw_iconst (n := 395) (v := 0) dX3_itemMeant_394 (by decide) rfl ?_
                      exact aw_iret dX3_itemMeant_395 rfl ⟨tI (tS (tI (tI (tL (tS (tL ms 24 (mnN ms 0) ((-(numT T (((a + 1) + 2) + 1))).toInt64)) 7 (nI ((((a + 1) + 2) + 1) + 1))) 20 (nN ((tS (tL ms 24 (mnN ms 0) ((-(numT T (((a + 1) + 2) + 1))).toInt64)) 7 (nI ((((a + 1) + 2) + 1) + 1))).1 19)) (nameT T (a + 1))) 21 (nN ((tS (tL ms 24 (mnN ms 0) ((-(numT T (((a + 1) + 2) + 1))).toInt64)) 7 (nI ((((a + 1) + 2) + 1) + 1))).1 19)) (0 : Int32)) 22 (nN ((tS (tL ms 24 (mnN ms 0) ((-(numT T (((a + 1) + 2) + 1))).toInt64)) 7 (nI ((((a + 1) + 2) + 1) + 1))).1 19)) ((tS (tL ms 24 (mnN ms 0) ((-(numT T (((a + 1) + 2) + 1))).toInt64)) 7 (nI ((((a + 1) + 2) + 1) + 1))).2.1 23 0)) 19 (nI ((nN ((tS (tL ms 24 (mnN ms 0) ((-(numT T (((a + 1) + 2) + 1))).toInt64)) 7 (nI ((((a + 1) + 2) + 1) + 1))).1 19)) + 1))) 23 0 (((tS (tL ms 24 (mnN ms 0) ((-(numT T (((a + 1) + 2) + 1))).toInt64)) 7 (nI ((((a + 1) + 2) + 1) + 1))).2.1 23 0) + 1), (((a + 1) + 2) + 1) + 1, by rw [g_64] <;> rfl, hT_70, hG_70, (by omega), fun _ => ⟨by rw [g_64]; exact congrArg (fun z => ((((a + 1) + 2) + 1) + 1 + 1, ats (newT T 0 (a + 1) z) ((((a + 1) + 2) + 1) + 1 + 1))) e_sg, IB_61.2.2.1.1⟩, fun z => absurd (by rw [g_64] <;> rfl) z⟩ ⟨(by first | exact Nat.le_refl _ | omega | (dsimp only; omega)), (by first | exact Nat.le_refl _ | omega | (dsimp only; omega))⟩
                    · skip
                      have b_269_2 : (seesB T ((((a + 1) + 2) + 1) + 1) (sw 4)) = true := Bool.of_not_eq_false (fun e => c_269_2 ((bI_0 _).mpr e))
                      exact absurd (u4.symm.trans b_269_2) (by decide)
                  · skip
                    exact absurd c_248_2 (by decide +kernel)
                · skip
                  exact absurd c_223_2 (by decide +kernel)
              · skip
                exact absurd c_216_2 (by decide +kernel)
      · skip
        have f_90 : (fnT T ms (a + 1) != -1) = true := bne_iff_ne.mpr c_90
        have g_71 := pG_T g_12 (by first | assumption | simp [f_90])
        try dsimp only at g_71
        refine aw_aload_n (n := 94) dX3_itemMeant_93 rfl 4 rfl rfl ?_
        refine aw_iconst (n := 95) (v := 3) dX3_itemMeant_94 (by decide) rfl ?_
        refine aw_iload (n := 97) dX3_itemMeant_95 0 rfl rfl ?_
        refine aw_callV (n := 100) (C0 := RX3) (As := [.int 3, .int (nI (a + 1))]) (rest := []) (K2 := kX3_wrong) dX3_itemMeant_97 q2935 q2937 qs66 q113 q2938 ⟨rfl, hcX3_wrong⟩ rfl hT_7.1 (ct_wrong G h_7 b (tS ms 7 (nI (a + 1))) hb hT_7 T (a + 1) ((hS.kept I_9.2.2.2).1 (a + 1) N_8) (3 : Int32)) rfl (Nat.le_of_ble_eq_true rfl) ⟨by dsimp only [kX3_formula, kX3_row, kX3_since, kX3_one, kX3_expression, kX3_product, kX3_factor, kX3_fronted, kX3_compare, kX3_twoSided, kX3_braces, kX3_namedValue, kX3_bounds, kX3_nameOf, kX3_sees, kX3_is, kX3_isName, kX3_which, kX3_numberOf, kX3_find, kX3_node, kX3_wrong, kJ12_length, meK]; omega, by dsimp only [kX3_formula, kX3_row, kX3_since, kX3_one, kX3_expression, kX3_product, kX3_factor, kX3_fronted, kX3_compare, kX3_twoSided, kX3_braces, kX3_namedValue, kX3_bounds, kX3_nameOf, kX3_sees, kX3_is, kX3_isName, kX3_which, kX3_numberOf, kX3_find, kX3_node, kX3_wrong, kJ12_length, meK]; omega⟩ ⟨by first | omega | (dsimp only; omega) | decide, by first | omega | (dsimp only; omega) | decide⟩ (fun _ _ _ z => z.elim) rfl (fun r_97 h_97 q_97 => ?_)
        obtain ⟨rfl, hT_97, hF_97, hz_97⟩ := q_97
        have hG_97 := Fr.trans hG_7 hF_97
        refine AW.sts (st' := [.int 3]) rfl ?_
        exact aw_iret dX3_itemMeant_100 rfl ⟨tS (tS ms 7 (nI (a + 1))) 3 (nI (T.2.1 (a + 1))), 0, by rw [g_71] <;> rfl, hT_97, hG_97, (by omega), fun z => absurd z (by rw [g_71]; exact (by decide : (3 : Nat) ≠ 0)), fun _ => ⟨(gF.of (mE.of I_9.2.2.2)).S (by decide), by rw [g_71] <;> rfl, by rw [g_71]; exact (by decide : (3 : Nat) < 50)⟩⟩ ⟨(by first | exact Nat.le_refl _ | omega | (dsimp only; omega)), (by first | exact Nat.le_refl _ | omega | (dsimp only; omega))⟩
    · skip
      have n_57 : (mnN ms 0) = 8 := (nI_eq (a := (mnN ms 0)) (b := 8) (by omega) (by omega)).mp (by rw [← ((hpm 0 (by decide)) : (ms.2.1 23 0) = nI (mnN ms 0)), ← ((by rfl) : (8 : Int32) = nI 8)]; exact c_57)
      have f_57 : decide (mnN ms 0 = if 0 = 0 then 8 else 12) = true := decide_eq_true n_57
      have g_72 := pG_T g_3 (by first | assumption | simp [hk, u1, u2, u3, f_57])
      try dsimp only at g_72
      refine aw_aload_n (n := 61) dX3_itemMeant_60 rfl 3 rfl rfl ?_
      refine aw_iconst (n := 62) (v := 4) dX3_itemMeant_61 (by decide) rfl ?_
      refine aw_iload_n (n := 63) dX3_itemMeant_62 rfl 1 rfl rfl ?_
      refine aw_callV (n := 66) (C0 := RX3) (As := [.int 4, .int (nI a)]) (rest := []) (K2 := kX3_wrong) dX3_itemMeant_63 q2935 q2937 qs66 q113 q2938 ⟨rfl, hcX3_wrong⟩ rfl hT5.1 (ct_wrong G h5 b ms hb hT5 T a ((hS.kept hI0.2.2.2).1 a hN) (4 : Int32)) rfl (Nat.le_of_ble_eq_true rfl) ⟨by dsimp only [kX3_formula, kX3_row, kX3_since, kX3_one, kX3_expression, kX3_product, kX3_factor, kX3_fronted, kX3_compare, kX3_twoSided, kX3_braces, kX3_namedValue, kX3_bounds, kX3_nameOf, kX3_sees, kX3_is, kX3_isName, kX3_which, kX3_numberOf, kX3_find, kX3_node, kX3_wrong, kJ12_length, meK]; omega, by dsimp only [kX3_formula, kX3_row, kX3_since, kX3_one, kX3_expression, kX3_product, kX3_factor, kX3_fronted, kX3_compare, kX3_twoSided, kX3_braces, kX3_namedValue, kX3_bounds, kX3_nameOf, kX3_sees, kX3_is, kX3_isName, kX3_which, kX3_numberOf, kX3_find, kX3_node, kX3_wrong, kJ12_length, meK]; omega⟩ ⟨by first | omega | (dsimp only; omega) | decide, by first | omega | (dsimp only; omega) | decide⟩ (fun _ _ _ z => z.elim) rfl (fun r_63 h_63 q_63 => ?_)
      obtain ⟨rfl, hT_63, hF_63, hz_63⟩ := q_63
      have hG_63 := Fr.trans hF5 hF_63
      refine AW.sts (st' := [.int 4]) rfl ?_
      exact aw_iret dX3_itemMeant_66 rfl ⟨tS ms 3 (nI (T.2.1 a)), 0, by rw [g_72] <;> rfl, hT_63, hG_63, (by omega), fun z => absurd z (by rw [g_72]; exact (by decide : (4 : Nat) ≠ 0)), fun _ => ⟨(gF.of (mE.of hI0.2.2.2)).S (by decide), by rw [g_72] <;> rfl, by rw [g_72]; exact (by decide : (4 : Nat) < 50)⟩⟩ ⟨(by first | exact Nat.le_refl _ | omega | (dsimp only; omega)), (by first | exact Nat.le_refl _ | omega | (dsimp only; omega))⟩

theorem ci_1 (G : aG) (h : hH)  (b : Nat) (ms : tM) (T : Tv) (N a : Nat) (hb : gB G ≤ b) (hT : TW b h ms) (hS : tkS ms T N) (hN4 : N ≤ 400) (hN : a ≤ N) (f B : Nat) (hfB : f ≤ B) (hB : B + 1 ≤ 802) (hm : mS (B + 1) a ms) (hp : pgI ms) (hk : seesB T a (sw 1) = true) (hlt : b + 25 ≤ h.1) (h1 : (pItem T true (pX T true f) a ms).1 ≠ 1) (h9 : (pItem T true (pX T true f) a ms).1 ≠ 99) (ih : meAll G f) : Con G kX3_itemMeant [.ref b] h ((15 + 2 * f, 600 + 100 * f, 1, 4), (fun r h1 => ∃ (m9 : tM) (a9 : Nat), r = some (.int (nI (pItem T true (pX T true f) a ms).1)) ∧ TW b h1 m9 ∧ Fr (TS b) h h1 ∧ h1.1 ≤ h.1 + 1 ∧ ((pItem T true (pX T true f) a ms).1 = 0 → (pItem T true (pX T true f) a ms).2.2 = (a9 + 1, ats m9 (a9 + 1)) ∧ m9.1 7 = nI a9) ∧ ((pItem T true (pX T true f) a ms).1 ≠ 0 → gF ms m9 ∧ m9.1 3 = nI (pItem T true (pX T true f) a ms).2.1 ∧ (pItem T true (pX T true f) a ms).1 < 50)), nX) := by
  refine Con.of (plainFor_of_name rfl) rfl (Nat.le_of_ble_eq_true rfl) ?_
  refine AW.eq (lv2 := [(0, .ref b)]) (s2 := []) rfl rfl rfl rfl rfl ?_
  generalize hW_ : pItem T true (pX T true f) a ms = W9 at h1 h9 ⊢
  have hI0 : pM (B + 1) a ms a ms := pM.rf hm (by omega)
  have hg0 : W9 = pItem T true (pX T true f) a ms := hW_.symm
  unfold pItem at hg0
  have hS0 := hS
  have hpm := hp.1; have hp19 := hp.2.2.2.1; have hp0 := hp.2.1; have hp1 := hp.2.2.1 1 (by decide) (by decide); have hp2 := hp.2.2.1 2 (by decide) (by decide); have hp3 := hp.2.2.1 3 (by decide) (by decide); have hp44 := hm.2.2.2.2.2.1
  have u0 := sees_un (j := 0) hk (by decide)
  have u2 := sees_un (j := 2) hk (by decide)
  have u3 := sees_un (j := 3) hk (by decide)
  have tk_s := hS.1 a hN; have Ktk_s := tk_s.2.1
  try simp only [Bool.true_and, pT, ef, cond_true, gOr, gAnd, gSum, gPro, tS_tS, seesP_eq hN hN4 hS.2.1, nmP_eq hN hN4 hS.2.1, nuP_eq hN hN4 hS.2.1, whP_eq hN hN4 hS.2.1] at hg0
  have g_2 := pG_F hg0 (by first | assumption | simp [hk, u0, u2, u3])
  try dsimp only at g_2
  have g_4 := pG_T g_2 (by first | assumption | simp [hk, u0, u2, u3])
  try dsimp only at g_4
  have ne_5 : T.1 a ≠ 0 := by have z9 := hk; first | exact seesB_ne z9 | exact isNm_ne z9 | (have z8 := (beq_iff_eq.mp z9); omega) | exact whT_lt (bne_iff_ne.mp z9) | (rcases (Bool.or_eq_true _ _).mp z9 with z8 | z8 <;> first | exact seesB_ne z8 | (rcases (Bool.or_eq_true _ _).mp z8 with z7 | z7 <;> exact seesB_ne z7))
  unfold pName at g_4
  try simp only [Bool.true_and, pT, ef, cond_true, gOr, gAnd, gSum, gPro, tS_tS, seesP_eq hN hN4 hS.2.1, nmP_eq hN hN4 hS.2.1, nuP_eq hN hN4 hS.2.1, whP_eq hN hN4 hS.2.1] at g_4
  suffices key : ∀ (h5 : hH) (f5 : Nat → Value), h5.2 h.1 = some (har 6 4 f5) → (∀ j : Nat, j < 4 → f5 j = .ref (gT G j)) → TW b h5 ms → Fr (TS b) h h5 → h5.1 = h.1 + 1 → AW G kX3_itemMeant ((15 + 2 * f, 600 + 100 * f, 1, 4), (fun r h1 => ∃ (m9 : tM) (a9 : Nat), r = some (.int (nI W9.1)) ∧ TW b h1 m9 ∧ Fr (TS b) h h1 ∧ h1.1 ≤ h.1 + 1 ∧ (W9.1 = 0 → W9.2.2 = (a9 + 1, ats m9 (a9 + 1)) ∧ m9.1 7 = nI a9) ∧ (W9.1 ≠ 0 → gF ms m9 ∧ m9.1 3 = nI W9.2.1 ∧ W9.1 < 50)), nX) 24 [(0, .ref b)] [.ref h.1] h5 (0 + 1) (0 + 4) from by
    refine aw_iconst (n := 1) (v := 4) dX3_itemMeant_0 (by decide) rfl ?_
    refine aw_anew (n := 4) (ti := 6) (N := 4) (C0 := "java/lang/String") dX3_itemMeant_1 rfl q2947 q2948 (by rfl) (by decide) (by decide) (Nat.le_refl _) (Nat.le_refl _) rfl ?_
    refine aw_dup (n := 5) dX3_itemMeant_4 rfl rfl ?_
    refine aw_iconst (n := 6) (v := 0) dX3_itemMeant_5 (by decide) rfl ?_
    refine aw_ldcS (n := 8) (q := 0) dX3_itemMeant_6 91 rfl rfl ?_
    refine aw_know (fun gd9 hi9 => ?_)
    obtain ⟨v_0, w_0, z_0, f_0, hA_0, hV_0, hf_0⟩ := str_at gd9 hi9 (i := 0) (bs := sw 0) rfl
    refine aw_aast (n := 9) (ti := 6) (N := 4) (ci := 29) (C0 := RJ12) (E := "java/lang/String") dX3_itemMeant_8 rfl 0 (by rfl) hnew_at (by omega) (by decide) (by decide) rfl hA_0 (Or.inl rfl) rfl rfl ?_
    refine aw_dup (n := 10) dX3_itemMeant_9 rfl rfl ?_
    refine aw_iconst (n := 11) (v := 1) dX3_itemMeant_10 (by decide) rfl ?_
    refine aw_ldcS (n := 13) (q := 1) dX3_itemMeant_11 95 rfl rfl ?_
    refine aw_know (fun gd9 hi9 => ?_)
    obtain ⟨v_1, w_1, z_1, f_1, hA_1, hV_1, hf_1⟩ := str_at gd9 hi9 (i := 1) (bs := sw 1) rfl
    refine aw_aast (n := 14) (ti := 6) (N := 4) (ci := 29) (C0 := RJ12) (E := "java/lang/String") dX3_itemMeant_13 rfl 1 (by rfl) hset_at (by omega) (by decide) (by decide) rfl hA_1 (Or.inl rfl) rfl rfl ?_
    refine aw_dup (n := 15) dX3_itemMeant_14 rfl rfl ?_
    refine aw_iconst (n := 16) (v := 2) dX3_itemMeant_15 (by decide) rfl ?_
    refine aw_ldcS (n := 18) (q := 2) dX3_itemMeant_16 97 rfl rfl ?_
    refine aw_know (fun gd9 hi9 => ?_)
    obtain ⟨v_2, w_2, z_2, f_2, hA_2, hV_2, hf_2⟩ := str_at gd9 hi9 (i := 2) (bs := sw 2) rfl
    refine aw_aast (n := 19) (ti := 6) (N := 4) (ci := 29) (C0 := RJ12) (E := "java/lang/String") dX3_itemMeant_18 rfl 2 (by rfl) hset_at (by omega) (by decide) (by decide) rfl hA_2 (Or.inl rfl) rfl rfl ?_
    refine aw_dup (n := 20) dX3_itemMeant_19 rfl rfl ?_
    refine aw_iconst (n := 21) (v := 3) dX3_itemMeant_20 (by decide) rfl ?_
    refine aw_ldcS (n := 23) (q := 3) dX3_itemMeant_21 98 rfl rfl ?_
    refine aw_know (fun gd9 hi9 => ?_)
    obtain ⟨v_3, w_3, z_3, f_3, hA_3, hV_3, hf_3⟩ := str_at gd9 hi9 (i := 3) (bs := sw 3) rfl
    refine aw_aast (n := 24) (ti := 6) (N := 4) (ci := 29) (C0 := RJ12) (E := "java/lang/String") dX3_itemMeant_23 rfl 3 (by rfl) hset_at (by omega) (by decide) (by decide) rfl hA_3 (Or.inl rfl) rfl rfl ?_
    have fr : ∀ e0 e1 e2 e3 e4 : hE, Fr (fun q => q = h.1) h (hset (hset (hset (hset (hnew h e0) h.1 e1) h.1 e2) h.1 e3) h.1 e4) := fun e0 e1 e2 e3 e4 => (Fr.trans (Fr.trans (Fr.trans (Fr.trans Fr.new (Fr.set rfl)) (Fr.set rfl)) (Fr.set rfl)) (Fr.set rfl))
    refine key _ _ hset_at (fun j hj => by match j, hj with | 0, _ => rfl | 1, _ => rfl | 2, _ => rfl | 3, _ => rfl) (TW.kept hT (fr _ _ _ _ _) (by omega) (fun q hq z => by have hq : q = h.1 := hq; have := z.2; omega)) ⟨(fr _ _ _ _ _).1, fun q hq _ => (fr _ _ _ _ _).2 q hq (fun z => by have z : q = h.1 := z; omega)⟩ ?_
    rfl
  intro h5 f5 hA5 hE5 hT5 hF5 hz5
  refine aw_astore_n (n := 25) (lv' := [(1, .ref h.1), (0, .ref b)]) dX3_itemMeant_24 rfl (by decide) rfl rfl ?_
  refine aw_aload_n (n := 26) dX3_itemMeant_25 rfl 1 rfl rfl ?_
  refine aw_getf (n := 29) (v := .int (nI a)) (C0 := RX3) (T := TX3) dX3_itemMeant_26 rfl 7 q2648 (Or.inl rfl) hT5.1 (congrArg some (congrArg Value.int hI0.2.2.1.1)) rfl ?_
  refine aw_istore_n (n := 30) (lv' := [(2, .int (nI a)), (1, .ref h.1), (0, .ref b)]) dX3_itemMeant_29 rfl (by decide) rfl rfl ?_
  refine aw_aload_n (n := 31) dX3_itemMeant_30 rfl 2 rfl rfl ?_
  refine aw_aload_n (n := 32) dX3_itemMeant_31 rfl 2 rfl rfl ?_
  refine aw_getf (n := 35) (v := .int (nI a)) (C0 := RX3) (T := TX3) dX3_itemMeant_32 rfl 7 q2648 (Or.inl rfl) hT5.1 (congrArg some (congrArg Value.int hI0.2.2.1.1)) rfl ?_
  refine aw_aload_n (n := 36) dX3_itemMeant_35 rfl 1 rfl rfl ?_
  refine aw_know (fun gd_5 hi_5 => ?_)
  refine aw_callV (n := 39) (C0 := RX3) (As := [.int (nI a), .ref h.1]) (rest := []) (K2 := kX3_which) dX3_itemMeant_36 q2850 q2852 qs55 q113 q2853 ⟨rfl, hcX3_which⟩ rfl hT5.1 (ct_which G h5 b ms hb hT5 T a (hS.1 a hN) h.1 W4 ⟨f5, fun j => gT G j, hA5, fun j hj => by match j, hj with | 0, _ => exact ⟨hE5 0 (by decide), str_at gd_5 hi_5 (i := 0) rfl, lo_at (i := 0) (bs := sw 0) rfl⟩ | 1, _ => exact ⟨hE5 1 (by decide), str_at gd_5 hi_5 (i := 1) rfl, lo_at (i := 1) (bs := sw 1) rfl⟩ | 2, _ => exact ⟨hE5 2 (by decide), str_at gd_5 hi_5 (i := 2) rfl, lo_at (i := 2) (bs := sw 2) rfl⟩ | 3, _ => exact ⟨hE5 3 (by decide), str_at gd_5 hi_5 (i := 3) rfl, lo_at (i := 3) (bs := sw 3) rfl⟩⟩ (by decide)) rfl (Nat.le_of_ble_eq_true rfl) ⟨by dsimp only [kX3_formula, kX3_row, kX3_since, kX3_one, kX3_expression, kX3_product, kX3_factor, kX3_fronted, kX3_compare, kX3_twoSided, kX3_braces, kX3_namedValue, kX3_bounds, kX3_nameOf, kX3_sees, kX3_is, kX3_isName, kX3_which, kX3_numberOf, kX3_find, kX3_node, kX3_wrong, kJ12_length, meK]; omega, by dsimp only [kX3_formula, kX3_row, kX3_since, kX3_one, kX3_expression, kX3_product, kX3_factor, kX3_fronted, kX3_compare, kX3_twoSided, kX3_braces, kX3_namedValue, kX3_bounds, kX3_nameOf, kX3_sees, kX3_is, kX3_isName, kX3_which, kX3_numberOf, kX3_find, kX3_node, kX3_wrong, kJ12_length, meK]; omega⟩ ⟨by first | omega | (dsimp only; omega) | decide, by first | omega | (dsimp only; omega) | decide⟩ (fun _ _ _ z => z.elim) rfl (fun r_36 h_36 q_36 => ?_)
  obtain ⟨rfl, rfl⟩ := q_36
  refine AW.sts (st' := [.int 1]) (by rw [wh4 1 (by decide) hk]; rfl) ?_
  refine aw_istore_n (n := 40) (lv' := [(3, .int 1), (2, .int (nI a)), (1, .ref h.1), (0, .ref b)]) dX3_itemMeant_39 rfl (by decide) rfl rfl ?_
  refine aw_aload_n (n := 41) dX3_itemMeant_40 rfl 3 rfl rfl ?_
  refine aw_getf (n := 44) (v := .ref (b + 16)) (C0 := RX3) (T := TX3) dX3_itemMeant_41 rfl 23 q2664 (Or.inl rfl) hT5.1 rfl rfl ?_
  refine aw_iload_n (n := 45) dX3_itemMeant_44 rfl 0 rfl rfl ?_
  refine aw_iald (n := 46) (v := .int (ms.2.1 23 1)) dX3_itemMeant_45 rfl 1 (by rfl) hT5.a23 (by omega) (by decide) rfl rfl ?_
  refine aw_iload_n (n := 47) dX3_itemMeant_46 rfl 0 rfl rfl ?_
  refine aw_if_ne (n := 50) (tgt := 55) dX3_itemMeant_47 (by decide) rfl (fun c_47 => ?_) (fun c_47 => ?_)
  · skip
    refine aw_bipush (n := 57) (v := 12) dX3_itemMeant_55 (by decide) rfl ?_
    refine aw_icmp_ne (n := 60) (tgt := 67) dX3_itemMeant_57 (by decide) rfl (fun c_57 => ?_) (fun c_57 => ?_)
    · skip
      have n_57 : ¬ ((mnN ms 1) = 12) := fun z => c_57 (by have y := (nI_eq (a := (mnN ms 1)) (b := 12) (by omega) (by omega)).mpr z; rw [← ((hpm 1 (by decide)) : (ms.2.1 23 1) = nI (mnN ms 1)), ← ((by rfl) : (12 : Int32) = nI 12)] at y; exact y)
      have f_57 : decide (mnN ms 1 = if 1 = 0 then 8 else 12) = false := decide_eq_false n_57
      have g_7 := pG_F g_4 (by first | assumption | simp [hk, u0, u2, u3, f_57])
      try dsimp only at g_7
      refine aw_aload_n (n := 68) dX3_itemMeant_67 rfl 3 rfl rfl ?_
      refine aw_dup (n := 69) dX3_itemMeant_68 rfl rfl ?_
      refine aw_getf (n := 72) (v := .int (nI a)) (C0 := RX3) (T := TX3) dX3_itemMeant_69 rfl 7 q2648 (Or.inl rfl) hT5.1 (congrArg some (congrArg Value.int hI0.2.2.1.1)) rfl ?_
      refine aw_iconst (n := 73) (v := 1) dX3_itemMeant_72 (by decide) rfl ?_
      refine aw_iadd (n := 74) dX3_itemMeant_73 rfl ?_
      refine AW.sts (st' := [.int (nI (a + 1)), .ref b]) (by rw [show (nI a) + 1 = nI (a + 1) from (nI_1 _)]) ?_
      refine aw_tput (n := 77) (k := 7) dX3_itemMeant_74 q2648 (by decide) rfl rfl rfl rfl rfl hT5 hb rfl rfl (fun h_8 hT_8 hF_8 hz_8 => ?_)
      have hG_8 := Fr.trans hF5 hF_8
      have N_9 : a + 1 ≤ N := lt_end hS.2.1 hN ne_5
      have I_10 := hI0.at1 (by omega)
      have tk_11 := (hS.kept I_10.2.2.2).1 (a + 1) N_9; have Ktk_11 := tk_11.2.1
      try simp only [Bool.true_and, pT, ef, cond_true, gOr, gAnd, gSum, gPro, tS_tS, seesP_eq N_9 hN4 hS.2.1, nmP_eq N_9 hN4 hS.2.1, nuP_eq N_9 hN4 hS.2.1, whP_eq N_9 hN4 hS.2.1] at g_7
      have g_12 := pG_c g_7 h1
      have g_13 := g_12.2
      try dsimp only at g_13
      have ne_14 : T.1 (a + 1) ≠ 0 := by have z9 := g_12.1; first | exact seesB_ne z9 | exact isNm_ne z9 | (have z8 := (beq_iff_eq.mp z9); omega) | exact whT_lt (bne_iff_ne.mp z9) | (rcases (Bool.or_eq_true _ _).mp z9 with z8 | z8 <;> first | exact seesB_ne z8 | (rcases (Bool.or_eq_true _ _).mp z8 with z7 | z7 <;> exact seesB_ne z7))
      refine aw_aload_n (n := 78) dX3_itemMeant_77 rfl 3 rfl rfl ?_
      refine aw_getf (n := 81) (v := .int (nI (a + 1))) (C0 := RX3) (T := TX3) dX3_itemMeant_78 rfl 7 q2648 (Or.inl rfl) hT_8.1 rfl rfl ?_
      refine aw_istore (n := 83) (lv' := [(4, .int (nI (a + 1))), (3, .int 1), (2, .int (nI a)), (1, .ref h.1), (0, .ref b)]) dX3_itemMeant_81 (by decide) rfl rfl ?_
      have hN1 := N_9
      refine aw_aload_n (n := 84) dX3_itemMeant_83 rfl 4 rfl rfl ?_
      refine aw_iload (n := 86) dX3_itemMeant_84 0 rfl rfl ?_
      refine aw_callV (n := 89) (C0 := RX3) (As := [.int (nI (a + 1))]) (rest := []) (K2 := kX3_find) dX3_itemMeant_86 q2949 q2951 qs69 q113 q2952 ⟨rfl, hcX3_find⟩ rfl hT_8.1 (ct_find G h_8 b (tS ms 7 (nI (a + 1))) hb hT_8 T (a + 1) ((hS.kept I_10.2.2.2).1 (a + 1) N_9) I_10.2.2.1.2.2.2.2.1 I_10.2.2.1.2.2.2.2.2.1) rfl (Nat.le_of_ble_eq_true rfl) ⟨by dsimp only [kX3_formula, kX3_row, kX3_since, kX3_one, kX3_expression, kX3_product, kX3_factor, kX3_fronted, kX3_compare, kX3_twoSided, kX3_braces, kX3_namedValue, kX3_bounds, kX3_nameOf, kX3_sees, kX3_is, kX3_isName, kX3_which, kX3_numberOf, kX3_find, kX3_node, kX3_wrong, kJ12_length, meK]; omega, by dsimp only [kX3_formula, kX3_row, kX3_since, kX3_one, kX3_expression, kX3_product, kX3_factor, kX3_fronted, kX3_compare, kX3_twoSided, kX3_braces, kX3_namedValue, kX3_bounds, kX3_nameOf, kX3_sees, kX3_is, kX3_isName, kX3_which, kX3_numberOf, kX3_find, kX3_node, kX3_wrong, kJ12_length, meK]; omega⟩ ⟨by first | omega | (dsimp only; omega) | decide, by first | omega | (dsimp only; omega) | decide⟩ (fun _ _ _ z => z.elim) rfl (fun r_86 h_86 q_86 => ?_)
      obtain ⟨rfl, rfl⟩ := q_86
      refine AW.sts (st' := [.int (fnT T (tS ms 7 (nI (a + 1))) (a + 1))]) rfl ?_
      refine aw_iconst (n := 90) (v := (-1)) dX3_itemMeant_89 (by decide) rfl ?_
      refine aw_icmp_eq (n := 93) (tgt := 101) dX3_itemMeant_90 (by decide) rfl (fun c_90 => ?_) (fun c_90 => ?_)
      · skip
        have f_90 : (fnT T ms (a + 1) != -1) = false := (by rw [show fnT T ms (a + 1) = -1 from c_90]; rfl)
        have g_15 := pG_F g_13 (by first | assumption | simp [f_90])
        try dsimp only at g_15
        refine aw_aload_n (n := 102) dX3_itemMeant_101 rfl 4 rfl rfl ?_
        refine aw_dup (n := 103) dX3_itemMeant_102 rfl rfl ?_
        refine aw_getf (n := 106) (v := .int (nI (a + 1))) (C0 := RX3) (T := TX3) dX3_itemMeant_103 rfl 7 q2648 (Or.inl rfl) hT_8.1 rfl rfl ?_
        refine aw_iconst (n := 107) (v := 2) dX3_itemMeant_106 (by decide) rfl ?_
        refine aw_iadd (n := 108) dX3_itemMeant_107 rfl ?_
        refine AW.sts (st' := [.int (nI ((a + 1) + 2)), .ref b]) (by rw [show (nI (a + 1)) + 2 = nI ((a + 1) + 2) from (by rw [show nI (a + 1) = nI (a + 1) from rfl, show 2 = nI 2 from (by rfl)]; exact nI_add _ _)]) ?_
        refine aw_tput (n := 111) (k := 7) dX3_itemMeant_108 q2648 (by decide) rfl rfl rfl rfl rfl hT_8 hb rfl rfl (fun h_16 hT_16 hF_16 hz_16 => ?_)
        have hG_16 := Fr.trans hG_8 hF_16
        have N_17 : (a + 1) + 1 ≤ N := lt_end hS.2.1 N_9 ne_14
        try simp only [Bool.true_and, pT, ef, cond_true, gOr, gAnd, gSum, gPro, tS_tS, seesP_eq N_17 hN4 hS.2.1, nmP_eq N_17 hN4 hS.2.1, nuP_eq N_17 hN4 hS.2.1, whP_eq N_17 hN4 hS.2.1] at g_15
        have g_18 := pG_t g_15 h1
        have ne_19 : T.1 ((a + 1) + 1) ≠ 0 := by have z9 := g_18.1; first | exact seesB_ne z9 | exact isNm_ne z9 | (have z8 := (beq_iff_eq.mp z9); omega) | exact whT_lt (bne_iff_ne.mp z9) | (rcases (Bool.or_eq_true _ _).mp z9 with z8 | z8 <;> first | exact seesB_ne z8 | (rcases (Bool.or_eq_true _ _).mp z8 with z7 | z7 <;> exact seesB_ne z7))
        have g_20 := g_18.2
        try dsimp only at g_20
        have N_21 : ((a + 1) + 1) + 1 ≤ N := lt_end hS.2.1 N_17 ne_19
        have I_22 := I_10.at (a' := (a + 1) + 2) (by omega) (by omega)
        rw [tS_tS] at hT_16
        have I_23 : pM (B) a ms ((a + 1) + 2) (tS ms 7 (nI ((a + 1) + 2))) := by have z : pM (B) a ms ((a + 1) + 2) (tS (tS ms 7 (nI (a + 1))) 7 (nI ((a + 1) + 2))) := I_22; rw [tS_tS] at z; exact z
        have I_232 : (a + 1) + 2 ≤ N := by omega
        have tk_24 := (hS.kept I_23.2.2.2).1 ((a + 1) + 2) I_232; have Ktk_24 := tk_24.2.1
        try simp only [Bool.true_and, pT, ef, cond_true, gOr, gAnd, gSum, gPro, tS_tS, seesP_eq I_232 hN4 hS.2.1, nmP_eq I_232 hN4 hS.2.1, nuP_eq I_232 hN4 hS.2.1, whP_eq I_232 hN4 hS.2.1] at g_20
        refine aw_iconst (n := 112) (v := 0) dX3_itemMeant_111 (by decide) rfl ?_
        refine aw_istore (n := 114) (lv' := [(5, .int 0), (4, .int (nI (a + 1))), (3, .int 1), (2, .int (nI a)), (1, .ref h.1), (0, .ref b)]) dX3_itemMeant_112 (by decide) rfl rfl ?_
        refine aw_iload_n (n := 115) dX3_itemMeant_114 rfl 2 rfl rfl ?_
        refine aw_if_ne (n := 118) (tgt := 196) dX3_itemMeant_115 (by decide) rfl (fun c_115 => ?_) (fun c_115 => ?_)
        · skip
          refine aw_iload_n (n := 197) dX3_itemMeant_196 rfl 2 rfl rfl ?_
          refine aw_iconst (n := 198) (v := 2) dX3_itemMeant_197 (by decide) rfl ?_
          refine aw_icmp_ne (n := 201) (tgt := 208) dX3_itemMeant_198 (by decide) rfl (fun c_198 => ?_) (fun c_198 => ?_)
          · skip
            refine aw_aload_n (n := 209) dX3_itemMeant_208 rfl 5 rfl rfl ?_
            obtain ⟨e_209, l_209, a_209, w_209, hR_209⟩ : ∃ (e8 l8 x8 : Nat) (w8 : tM), pX T true f 0 0 ((a + 1) + 2) (tS ms 7 (nI ((a + 1) + 2))) = (e8, l8, x8, w8) := ⟨_, _, _, _, rfl⟩
            have n1_209 : (pX T true f 0 0 ((a + 1) + 2) (tS ms 7 (nI ((a + 1) + 2)))).1 ≠ 1 := pG_n g_20 h1 (by decide)
            have n9_209 : (pX T true f 0 0 ((a + 1) + 2) (tS ms 7 (nI ((a + 1) + 2)))).1 ≠ 99 := pG_n g_20 h9 (by decide)
            have V_209 := (pX_inv T f 0 0 ((a + 1) + 2) (B) (tS ms 7 (nI ((a + 1) + 2))) (by omega) (by omega) (by omega) I_23.2.2.1).w (fun _ _ z => I_23.trW z)
            have Z_209 := pX_N (T := T) (N := N) (f := f) (nt := 0) (d := 0) (a := (a + 1) + 2) (m := tS ms 7 (nI ((a + 1) + 2))) hS.2.1 I_232 (by omega)
            have U_209 := pX_inv T f 0 0 ((a + 1) + 2) (B) (tS ms 7 (nI ((a + 1) + 2))) (by omega) (by omega) (by omega) I_23.2.2.1
            rw [hR_209] at U_209
            rw [hR_209] at g_20 V_209 Z_209
            refine aw_callV (n := 212) (C0 := RX3) (As := []) (rest := []) (K2 := kX3_formula) dX3_itemMeant_209 q2986 q2988 qs78 q113 q2989 ⟨rfl, hcX3_formula⟩ rfl hT_16.1 (ih 0 h_16 b (tS ms 7 (nI ((a + 1) + 2))) T N ((a + 1) + 2) 0 (B) (by decide) hb hT_16 (hS.kept I_23.2.2.2) hN4 I_232 (by omega) (by omega) I_23.2.2.1 n1_209 n9_209) rfl (Nat.le_of_ble_eq_true rfl) ⟨by dsimp only [kX3_formula, kX3_row, kX3_since, kX3_one, kX3_expression, kX3_product, kX3_factor, kX3_fronted, kX3_compare, kX3_twoSided, kX3_braces, kX3_namedValue, kX3_bounds, kX3_nameOf, kX3_sees, kX3_is, kX3_isName, kX3_which, kX3_numberOf, kX3_find, kX3_node, kX3_wrong, kJ12_length, meK]; omega, by dsimp only [kX3_formula, kX3_row, kX3_since, kX3_one, kX3_expression, kX3_product, kX3_factor, kX3_fronted, kX3_compare, kX3_twoSided, kX3_braces, kX3_namedValue, kX3_bounds, kX3_nameOf, kX3_sees, kX3_is, kX3_isName, kX3_which, kX3_numberOf, kX3_find, kX3_node, kX3_wrong, kJ12_length, meK]; omega⟩ ⟨by first | omega | (dsimp only; omega) | decide, by first | omega | (dsimp only; omega) | decide⟩ (fun _ _ _ z => z.elim) rfl (fun r_209 h_209 q_209 => ?_)
            obtain ⟨m_209, rfl, hT_209, hF_209, hz_209, ok_209, er_209⟩ := q_209
            rw [hR_209] at ok_209 er_209
            dsimp only at ok_209 er_209
            have hG_209 := Fr.trans hG_16 hF_209
            rcases Nat.eq_zero_or_pos e_209 with y_209 | y_209
            · skip
              subst y_209
              have x_209 := ok_209 rfl
              subst x_209
              refine AW.sts (st' := [.int 0]) (by rw [hR_209]; rfl) ?_
              replace V_209 := V_209 rfl
              replace Z_209 := Z_209 rfl
              dsimp only at V_209 Z_209
              replace U_209 := U_209 rfl
              dsimp only at U_209
              have lt_209 : nN (m_209.1 17) < 1203 := by have := V_209.2.2.1; have := V_209.1.2.2.1.2.2.1; have := V_209.1.2.1; omega
              have g_25 := pG_o g_20
              try dsimp only at g_25
              have tk_26 := (hS.kept V_209.1.2.2.2).1 a_209 Z_209; have Ktk_26 := tk_26.2.1
              try simp only [Bool.true_and, pT, ef, cond_true, gOr, gAnd, gSum, gPro, tS_tS, seesP_eq Z_209 hN4 hS.2.1, nmP_eq Z_209 hN4 hS.2.1, nuP_eq Z_209 hN4 hS.2.1, whP_eq Z_209 hN4 hS.2.1] at g_25
              unfold pEnd at g_25
              try simp only [Bool.true_and, pT, ef, cond_true, gOr, gAnd, gSum, gPro, tS_tS, seesP_eq Z_209 hN4 hS.2.1, nmP_eq Z_209 hN4 hS.2.1, nuP_eq Z_209 hN4 hS.2.1, whP_eq Z_209 hN4 hS.2.1] at g_25
              refine aw_istore (n := 214) (lv' := [(5, .int 0), (4, .int (nI (a + 1))), (3, .int 1), (2, .int (nI a)), (1, .ref h.1), (0, .ref b)]) dX3_itemMeant_212 (by decide) rfl rfl ?_
              refine aw_iload (n := 216) dX3_itemMeant_214 0 rfl rfl ?_
              refine aw_if_eq (n := 219) (tgt := 222) dX3_itemMeant_216 (by decide) rfl (fun c_216 => ?_) (fun c_216 => ?_)
              · skip
                have hp4 := hp.kept V_209.1.2.2.2; have hmn : mnN m_209 1 = mnN ms 1 := by unfold mnN; rw [V_209.1.2.2.2.2.2.1 23 (by decide)]
                refine aw_iload_n (n := 223) dX3_itemMeant_222 rfl 2 rfl rfl ?_
                refine aw_if_le (n := 226) (tgt := 246) dX3_itemMeant_223 (by decide) rfl (fun c_223 => ?_) (fun c_223 => ?_)
                · skip
                  exact absurd c_223 (by decide +kernel)
                · skip
                  refine aw_aload_n (n := 227) dX3_itemMeant_226 rfl 5 rfl rfl ?_
                  refine aw_getf (n := 230) (v := .ref (b + 18)) (C0 := RX3) (T := TX3) dX3_itemMeant_227 rfl 25 q2666 (Or.inl rfl) hT_209.1 rfl rfl ?_
                  refine aw_bipush (n := 232) (v := 12) dX3_itemMeant_230 (by decide) rfl ?_
                  refine aw_iload_n (n := 233) dX3_itemMeant_232 rfl 2 rfl rfl ?_
                  refine aw_imul (n := 234) dX3_itemMeant_233 rfl ?_
                  refine aw_aload_n (n := 235) dX3_itemMeant_234 rfl 5 rfl rfl ?_
                  refine aw_getf (n := 238) (v := .ref (b + 16)) (C0 := RX3) (T := TX3) dX3_itemMeant_235 rfl 23 q2664 (Or.inl rfl) hT_209.1 rfl rfl ?_
                  refine aw_iload_n (n := 239) dX3_itemMeant_238 rfl 2 rfl rfl ?_
                  refine aw_iald (n := 240) (v := .int (m_209.2.1 23 1)) dX3_itemMeant_239 rfl 1 (by rfl) hT_209.a23 (by omega) (by decide) rfl rfl ?_
                  refine aw_iadd (n := 241) dX3_itemMeant_240 rfl ?_
                  refine aw_aload_n (n := 242) dX3_itemMeant_241 rfl 5 rfl rfl ?_
                  refine aw_getf (n := 245) (v := .int (m_209.1 17)) (C0 := RX3) (T := TX3) dX3_itemMeant_242 rfl 17 q2658 (Or.inl rfl) hT_209.1 rfl rfl ?_
                  refine aw_tiast (n := 246) dX3_itemMeant_245 TW.m25 hT_209 hb ((12 * 1) + (mnN m_209 1)) (by rw [show 12 * 1 = nI (12 * 1) from (by rw [show 12 = nI 12 from (by rfl), show 1 = nI 1 from (by rfl)]; exact pk_mul _ _), show m_209.2.1 23 1 = nI (mnN m_209 1) from (hp4.1 1 (by decide))]; exact nI_add _ _) (by omega) (by decide) rfl (fun h_27 hT_27 hF_27 hz_27 => ?_)
                  have hG_27 := Fr.trans hG_209 hF_27
                  obtain ⟨t1, t2, t3, t4⟩ := top_ok (s := 1) (by decide) (by decide) V_209.1.2.2.1 hp4 (by omega) V_209.2
                  have SB_28 : mS (B) a_209 (topT 1 m_209) := t1
                  have PB_28 : pgI (topT 1 m_209) := t2
                  have GB_28 : gF ms (topT 1 m_209) := (gF.of (mE.of V_209.1.2.2.2)).tr t3
                  have hS := hS0.g GB_28
                  have IB_28 : pM (B) a_209 (topT 1 m_209) a_209 (topT 1 m_209) := pM.rf SB_28 (by omega)
                  have B_28_T : TW b h_27 (topT 1 m_209) := hT_27
                  have n19B_28 := SB_28.2.2.2.2.2.1; have c19B_28 := PB_28.2.2.2.1; have d0B_28 := PB_28.2.1; have d1B_28 := PB_28.2.2.1 1 (by decide) (by decide); have d2B_28 := PB_28.2.2.1 2 (by decide) (by decide); have d3B_28 := PB_28.2.2.1 3 (by decide) (by decide)
                  have q9B_28 : mnN (topT 1 m_209) 1 = mnN ms 1 := hmn
                  have tk_29 := hS.1 a_209 Z_209; have Ktk_29 := tk_29.2.1
                  have hmn2 : mnN (topT 1 m_209) 1 = mnN ms 1 := hmn
                  try simp only [Bool.true_and, pT, ef, cond_true, gOr, gAnd, gSum, gPro, tS_tS, seesP_eq Z_209 hN4 hS.2.1, nmP_eq Z_209 hN4 hS.2.1, nuP_eq Z_209 hN4 hS.2.1, whP_eq Z_209 hN4 hS.2.1] at g_25
                  refine aw_iload_n (n := 247) dX3_itemMeant_246 rfl 2 rfl rfl ?_
                  refine aw_iconst (n := 248) (v := 3) dX3_itemMeant_247 (by decide) rfl ?_
                  refine aw_icmp_ne (n := 251) (tgt := 263) dX3_itemMeant_248 (by decide) rfl (fun c_248 => ?_) (fun c_248 => ?_)
                  · skip
                    try simp only [Bool.true_and, pT, ef, cond_true, gOr, gAnd, gSum, gPro, tS_tS, seesP_eq Z_209 hN4 hS.2.1, nmP_eq Z_209 hN4 hS.2.1, nuP_eq Z_209 hN4 hS.2.1, whP_eq Z_209 hN4 hS.2.1] at g_25
                    have g_30 := pG_l g_25 h1
                    have g_31 := g_30.2
                    try dsimp only at g_31
                    have u4 := sees_un (j := 4) g_30.1 (by decide)
                    refine aw_aload_n (n := 264) dX3_itemMeant_263 rfl 5 rfl rfl ?_
                    refine aw_ldcS (n := 266) (q := 4) dX3_itemMeant_264 100 rfl rfl ?_
                    refine aw_know (fun gd_31 hi_31 => ?_)
                    refine aw_callV (n := 269) (C0 := RX3) (As := [.ref (gT G 4)]) (rest := []) (K2 := kX3_sees) dX3_itemMeant_266 q2826 q2828 qs50 q113 q2829 ⟨rfl, hcX3_sees⟩ rfl B_28_T.1 (ct_sees G h_27 b (topT 1 m_209) hb B_28_T T a_209 IB_28.2.2.1.1 tk_29 _ (sw 4) (str_at gd_31 hi_31 (i := 4) rfl) (lo_at (i := 4) rfl)) rfl (Nat.le_of_ble_eq_true rfl) ⟨by dsimp only [kX3_formula, kX3_row, kX3_since, kX3_one, kX3_expression, kX3_product, kX3_factor, kX3_fronted, kX3_compare, kX3_twoSided, kX3_braces, kX3_namedValue, kX3_bounds, kX3_nameOf, kX3_sees, kX3_is, kX3_isName, kX3_which, kX3_numberOf, kX3_find, kX3_node, kX3_wrong, kJ12_length, meK]; omega, by dsimp only [kX3_formula, kX3_row, kX3_since, kX3_one, kX3_expression, kX3_product, kX3_factor, kX3_fronted, kX3_compare, kX3_twoSided, kX3_braces, kX3_namedValue, kX3_bounds, kX3_nameOf, kX3_sees, kX3_is, kX3_isName, kX3_which, kX3_numberOf, kX3_find, kX3_node, kX3_wrong, kJ12_length, meK]; omega⟩ ⟨by first | omega | (dsimp only; omega) | decide, by first | omega | (dsimp only; omega) | decide⟩ (fun _ _ _ z => z.elim) rfl (fun r_266 h_266 q_266 => ?_)
                    obtain ⟨rfl, rfl⟩ := q_266
                    refine AW.sts (st' := [.int (bI (seesB T a_209 (sw 4)))]) rfl ?_
                    refine aw_if_eq (n := 272) (tgt := 334) dX3_itemMeant_269 (by decide) rfl (fun c_269 => ?_) (fun c_269 => ?_)
                    · skip
                      have b_269 : (seesB T a_209 (sw 4)) = false := (bI_0 _).mp c_269
                      refine aw_aload_n (n := 335) dX3_itemMeant_334 rfl 5 rfl rfl ?_
                      refine aw_getf (n := 338) (v := .ref (b + 13)) (C0 := RX3) (T := TX3) dX3_itemMeant_335 rfl 20 q2661 (Or.inl rfl) B_28_T.1 rfl rfl ?_
                      refine aw_aload_n (n := 339) dX3_itemMeant_338 rfl 5 rfl rfl ?_
                      refine aw_getf (n := 342) (v := .int ((topT 1 m_209).1 19)) (C0 := RX3) (T := TX3) dX3_itemMeant_339 rfl 19 q2660 (Or.inl rfl) B_28_T.1 rfl rfl ?_
                      refine aw_aload_n (n := 343) dX3_itemMeant_342 rfl 5 rfl rfl ?_
                      refine aw_iload (n := 345) dX3_itemMeant_343 1 rfl rfl ?_
                      refine aw_callV (n := 348) (C0 := RX3) (As := [.int (nI (a + 1))]) (rest := [.int ((topT 1 m_209).1 19), .ref (b + 13)]) (K2 := kX3_nameOf) dX3_itemMeant_345 q2953 q2955 qs70 q113 q2956 ⟨rfl, hcX3_nameOf⟩ rfl B_28_T.1 (ct_nameOf G h_27 b (topT 1 m_209) hb B_28_T T (a + 1) ((hS.kept IB_28.2.2.2).1 (a + 1) hN1)) rfl (Nat.le_of_ble_eq_true rfl) ⟨by dsimp only [kX3_formula, kX3_row, kX3_since, kX3_one, kX3_expression, kX3_product, kX3_factor, kX3_fronted, kX3_compare, kX3_twoSided, kX3_braces, kX3_namedValue, kX3_bounds, kX3_nameOf, kX3_sees, kX3_is, kX3_isName, kX3_which, kX3_numberOf, kX3_find, kX3_node, kX3_wrong, kJ12_length, meK]; omega, by dsimp only [kX3_formula, kX3_row, kX3_since, kX3_one, kX3_expression, kX3_product, kX3_factor, kX3_fronted, kX3_compare, kX3_twoSided, kX3_braces, kX3_namedValue, kX3_bounds, kX3_nameOf, kX3_sees, kX3_is, kX3_isName, kX3_which, kX3_numberOf, kX3_find, kX3_node, kX3_wrong, kJ12_length, meK]; omega⟩ ⟨by first | omega | (dsimp only; omega) | decide, by first | omega | (dsimp only; omega) | decide⟩ (fun _ _ _ z => z.elim) rfl (fun r_345 h_345 q_345 => ?_)
                      obtain ⟨rfl, rfl⟩ := q_345
                      refine AW.sts (st' := [.long (nameT T (a + 1)), .int ((topT 1 m_209).1 19), .ref (b + 13)]) rfl ?_
                      refine aw_tlast (n := 349) dX3_itemMeant_348 TW.m20 B_28_T hb (nN ((topT 1 m_209).1 19)) SB_28.2.2.2.2.1 (by omega) (by decide) rfl (fun h_33 hT_33 hF_33 hz_33 => ?_)
                      have hG_33 := Fr.trans hG_27 hF_33
                      refine aw_aload_n (n := 350) dX3_itemMeant_349 rfl 5 rfl rfl ?_
                      refine aw_getf (n := 353) (v := .ref (b + 14)) (C0 := RX3) (T := TX3) dX3_itemMeant_350 rfl 21 q2662 (Or.inl rfl) hT_33.1 rfl rfl ?_
                      refine aw_aload_n (n := 354) dX3_itemMeant_353 rfl 5 rfl rfl ?_
                      refine aw_getf (n := 357) (v := .int ((topT 1 m_209).1 19)) (C0 := RX3) (T := TX3) dX3_itemMeant_354 rfl 19 q2660 (Or.inl rfl) hT_33.1 rfl rfl ?_
                      refine aw_iload_n (n := 358) dX3_itemMeant_357 rfl 2 rfl rfl ?_
                      refine aw_tiast (n := 359) dX3_itemMeant_358 TW.m21 hT_33 hb (nN ((topT 1 m_209).1 19)) SB_28.2.2.2.2.1 (by omega) (by decide) rfl (fun h_34 hT_34 hF_34 hz_34 => ?_)
                      have hG_34 := Fr.trans hG_33 hF_34
                      refine aw_aload_n (n := 360) dX3_itemMeant_359 rfl 5 rfl rfl ?_
                      refine aw_getf (n := 363) (v := .ref (b + 15)) (C0 := RX3) (T := TX3) dX3_itemMeant_360 rfl 22 q2663 (Or.inl rfl) hT_34.1 rfl rfl ?_
                      refine aw_aload_n (n := 364) dX3_itemMeant_363 rfl 5 rfl rfl ?_
                      refine aw_getf (n := 367) (v := .int ((topT 1 m_209).1 19)) (C0 := RX3) (T := TX3) dX3_itemMeant_364 rfl 19 q2660 (Or.inl rfl) hT_34.1 rfl rfl ?_
                      refine aw_aload_n (n := 368) dX3_itemMeant_367 rfl 5 rfl rfl ?_
                      refine aw_getf (n := 371) (v := .ref (b + 16)) (C0 := RX3) (T := TX3) dX3_itemMeant_368 rfl 23 q2664 (Or.inl rfl) hT_34.1 rfl rfl ?_
                      refine aw_iload_n (n := 372) dX3_itemMeant_371 rfl 2 rfl rfl ?_
                      refine aw_iald (n := 373) (v := .int ((topT 1 m_209).2.1 23 1)) dX3_itemMeant_372 rfl 1 (by rfl) hT_34.a23 (by omega) (by decide) rfl rfl ?_
                      refine aw_tiast (n := 374) dX3_itemMeant_373 TW.m22 hT_34 hb (nN ((topT 1 m_209).1 19)) SB_28.2.2.2.2.1 (by omega) (by decide) rfl (fun h_35 hT_35 hF_35 hz_35 => ?_)
                      have hG_35 := Fr.trans hG_34 hF_35
                      refine aw_aload_n (n := 375) dX3_itemMeant_374 rfl 5 rfl rfl ?_
                      refine aw_dup (n := 376) dX3_itemMeant_375 rfl rfl ?_
                      refine aw_getf (n := 379) (v := .int ((topT 1 m_209).1 19)) (C0 := RX3) (T := TX3) dX3_itemMeant_376 rfl 19 q2660 (Or.inl rfl) hT_35.1 rfl rfl ?_
                      refine aw_iconst (n := 380) (v := 1) dX3_itemMeant_379 (by decide) rfl ?_
                      refine aw_iadd (n := 381) dX3_itemMeant_380 rfl ?_
                      refine AW.sts (st' := [.int (nI ((nN ((topT 1 m_209).1 19)) + 1)), .ref b]) (by rw [show ((topT 1 m_209).1 19) + 1 = nI ((nN ((topT 1 m_209).1 19)) + 1) from ((congrArg (fun z9 : Int32 => z9 + 1) (SB_28.2.2.2.2.1 : ((topT 1 m_209).1 19) = nI (nN ((topT 1 m_209).1 19)))).trans (nI_1 _))]) ?_
                      refine aw_tput (n := 384) (k := 19) dX3_itemMeant_381 q2660 (by decide) rfl rfl rfl rfl rfl hT_35 hb rfl rfl (fun h_36 hT_36 hF_36 hz_36 => ?_)
                      have hG_36 := Fr.trans hG_35 hF_36
                      refine aw_aload_n (n := 385) dX3_itemMeant_384 rfl 5 rfl rfl ?_
                      refine aw_getf (n := 388) (v := .ref (b + 16)) (C0 := RX3) (T := TX3) dX3_itemMeant_385 rfl 23 q2664 (Or.inl rfl) hT_36.1 rfl rfl ?_
                      refine aw_iload_n (n := 389) dX3_itemMeant_388 rfl 2 rfl rfl ?_
                      refine aw_dup2 (n := 390) dX3_itemMeant_389 rfl rfl rfl ?_
                      refine aw_iald (n := 391) (v := .int ((topT 1 m_209).2.1 23 1)) dX3_itemMeant_390 rfl 1 (by rfl) hT_36.a23 (by omega) (by decide) rfl rfl ?_
                      refine aw_iconst (n := 392) (v := 1) dX3_itemMeant_391 (by decide) rfl ?_
                      refine aw_iadd (n := 393) dX3_itemMeant_392 rfl ?_
                      refine aw_tiast (n := 394) dX3_itemMeant_393 TW.m23 hT_36 hb 1 (by rfl) (by omega) (by decide) rfl (fun h_37 hT_37 hF_37 hz_37 => ?_)
                      have hG_37 := Fr.trans hG_36 hF_37
                      refine aw_iconst (n := 395) (v := 0) dX3_itemMeant_394 (by decide) rfl ?_
                      exact aw_iret dX3_itemMeant_395 rfl ⟨tI (tS (tI (tI (tL (topT 1 m_209) 20 (nN ((topT 1 m_209).1 19)) (nameT T (a + 1))) 21 (nN ((topT 1 m_209).1 19)) (1 : Int32)) 22 (nN ((topT 1 m_209).1 19)) ((topT 1 m_209).2.1 23 1)) 19 (nI ((nN ((topT 1 m_209).1 19)) + 1))) 23 1 (((topT 1 m_209).2.1 23 1) + 1), a_209, by rw [g_31] <;> rfl, hT_37, hG_37, (by omega), fun _ => ⟨by rw [g_31] <;> rfl, IB_28.2.2.1.1⟩, fun z => absurd (by rw [g_31] <;> rfl) z⟩ ⟨(by first | exact Nat.le_refl _ | omega | (dsimp only; omega)), (by first | exact Nat.le_refl _ | omega | (dsimp only; omega))⟩
                    · skip
                      have b_269 : (seesB T a_209 (sw 4)) = true := Bool.of_not_eq_false (fun e => c_269 ((bI_0 _).mpr e))
                      exact absurd (u4.symm.trans b_269) (by decide)
                  · skip
                    exact absurd c_248 (by decide +kernel)
              · skip
                exact absurd c_216 (by decide +kernel)
            · skip
              refine AW.sts (st' := [.int (nI e_209)]) (by rw [hR_209]; rfl) ?_
              have gE_209 : W9 = (e_209, l_209, a_209, w_209) := pG_er g_20 (by omega)
              replace er_209 := er_209 (by omega)
              have E_209 := mE.tr I_23.2.2.2 er_209.1
              have P_209 := er_209.2.1
              refine aw_istore (n := 214) (lv' := [(5, .int (nI e_209)), (4, .int (nI (a + 1))), (3, .int 1), (2, .int (nI a)), (1, .ref h.1), (0, .ref b)]) dX3_itemMeant_212 (by decide) rfl rfl ?_
              refine aw_iload (n := 216) dX3_itemMeant_214 0 rfl rfl ?_
              refine aw_if_eq (n := 219) (tgt := 222) dX3_itemMeant_216 (by decide) rfl (fun c_216_2 => ?_) (fun c_216_2 => ?_)
              · skip
                have n_216_2 : e_209 = 0 := (nI_eq (a := e_209) (b := 0) (by omega) (by omega)).mp (by rw [← ((by rfl) : (0 : Int32) = nI 0)]; exact c_216_2)
                exact absurd n_216_2 (by omega)
              · skip
                have n_216_2 : ¬ (e_209 = 0) := fun z => c_216_2 (by have y := (nI_eq (a := e_209) (b := 0) (by omega) (by omega)).mpr z; rw [← ((by rfl) : (0 : Int32) = nI 0)] at y; exact y)
                refine aw_iload (n := 221) dX3_itemMeant_219 0 rfl rfl ?_
                exact aw_iret dX3_itemMeant_221 rfl ⟨m_209, 0, by rw [gE_209], hT_209, hG_209, (by omega), fun z => absurd z (by rw [gE_209]; show e_209 ≠ 0; omega), fun _ => ⟨gF.of E_209, by rw [gE_209]; exact P_209, by rw [gE_209]; exact er_209.2.2⟩⟩ ⟨(by first | exact Nat.le_refl _ | omega | (dsimp only; omega)), (by first | exact Nat.le_refl _ | omega | (dsimp only; omega))⟩
          · skip
            exact absurd c_198 (by decide +kernel)
        · skip
          exact absurd c_115 (by decide +kernel)
      · skip
        have f_90 : (fnT T ms (a + 1) != -1) = true := bne_iff_ne.mpr c_90
        have g_38 := pG_T g_13 (by first | assumption | simp [f_90])
        try dsimp only at g_38
        refine aw_aload_n (n := 94) dX3_itemMeant_93 rfl 4 rfl rfl ?_
        refine aw_iconst (n := 95) (v := 3) dX3_itemMeant_94 (by decide) rfl ?_
        refine aw_iload (n := 97) dX3_itemMeant_95 0 rfl rfl ?_
        refine aw_callV (n := 100) (C0 := RX3) (As := [.int 3, .int (nI (a + 1))]) (rest := []) (K2 := kX3_wrong) dX3_itemMeant_97 q2935 q2937 qs66 q113 q2938 ⟨rfl, hcX3_wrong⟩ rfl hT_8.1 (ct_wrong G h_8 b (tS ms 7 (nI (a + 1))) hb hT_8 T (a + 1) ((hS.kept I_10.2.2.2).1 (a + 1) N_9) (3 : Int32)) rfl (Nat.le_of_ble_eq_true rfl) ⟨by dsimp only [kX3_formula, kX3_row, kX3_since, kX3_one, kX3_expression, kX3_product, kX3_factor, kX3_fronted, kX3_compare, kX3_twoSided, kX3_braces, kX3_namedValue, kX3_bounds, kX3_nameOf, kX3_sees, kX3_is, kX3_isName, kX3_which, kX3_numberOf, kX3_find, kX3_node, kX3_wrong, kJ12_length, meK]; omega, by dsimp only [kX3_formula, kX3_row, kX3_since, kX3_one, kX3_expression, kX3_product, kX3_factor, kX3_fronted, kX3_compare, kX3_twoSided, kX3_braces, kX3_namedValue, kX3_bounds, kX3_nameOf, kX3_sees, kX3_is, kX3_isName, kX3_which, kX3_numberOf, kX3_find, kX3_node, kX3_wrong, kJ12_length, meK]; omega⟩ ⟨by first | omega | (dsimp only; omega) | decide, by first | omega | (dsimp only; omega) | decide⟩ (fun _ _ _ z => z.elim) rfl (fun r_97 h_97 q_97 => ?_)
        obtain ⟨rfl, hT_97, hF_97, hz_97⟩ := q_97
        have hG_97 := Fr.trans hG_8 hF_97
        refine AW.sts (st' := [.int 3]) rfl ?_
        exact aw_iret dX3_itemMeant_100 rfl ⟨tS (tS ms 7 (nI (a + 1))) 3 (nI (T.2.1 (a + 1))), 0, by rw [g_38] <;> rfl, hT_97, hG_97, (by omega), fun z => absurd z (by rw [g_38]; exact (by decide : (3 : Nat) ≠ 0)), fun _ => ⟨(gF.of (mE.of I_10.2.2.2)).S (by decide), by rw [g_38] <;> rfl, by rw [g_38]; exact (by decide : (3 : Nat) < 50)⟩⟩ ⟨(by first | exact Nat.le_refl _ | omega | (dsimp only; omega)), (by first | exact Nat.le_refl _ | omega | (dsimp only; omega))⟩
    · skip
      have n_57 : (mnN ms 1) = 12 := (nI_eq (a := (mnN ms 1)) (b := 12) (by omega) (by omega)).mp (by rw [← ((hpm 1 (by decide)) : (ms.2.1 23 1) = nI (mnN ms 1)), ← ((by rfl) : (12 : Int32) = nI 12)]; exact c_57)
      have f_57 : decide (mnN ms 1 = if 1 = 0 then 8 else 12) = true := decide_eq_true n_57
      have g_39 := pG_T g_4 (by first | assumption | simp [hk, u0, u2, u3, f_57])
      try dsimp only at g_39
      refine aw_aload_n (n := 61) dX3_itemMeant_60 rfl 3 rfl rfl ?_
      refine aw_iconst (n := 62) (v := 4) dX3_itemMeant_61 (by decide) rfl ?_
      refine aw_iload_n (n := 63) dX3_itemMeant_62 rfl 1 rfl rfl ?_
      refine aw_callV (n := 66) (C0 := RX3) (As := [.int 4, .int (nI a)]) (rest := []) (K2 := kX3_wrong) dX3_itemMeant_63 q2935 q2937 qs66 q113 q2938 ⟨rfl, hcX3_wrong⟩ rfl hT5.1 (ct_wrong G h5 b ms hb hT5 T a ((hS.kept hI0.2.2.2).1 a hN) (4 : Int32)) rfl (Nat.le_of_ble_eq_true rfl) ⟨by dsimp only [kX3_formula, kX3_row, kX3_since, kX3_one, kX3_expression, kX3_product, kX3_factor, kX3_fronted, kX3_compare, kX3_twoSided, kX3_braces, kX3_namedValue, kX3_bounds, kX3_nameOf, kX3_sees, kX3_is, kX3_isName, kX3_which, kX3_numberOf, kX3_find, kX3_node, kX3_wrong, kJ12_length, meK]; omega, by dsimp only [kX3_formula, kX3_row, kX3_since, kX3_one, kX3_expression, kX3_product, kX3_factor, kX3_fronted, kX3_compare, kX3_twoSided, kX3_braces, kX3_namedValue, kX3_bounds, kX3_nameOf, kX3_sees, kX3_is, kX3_isName, kX3_which, kX3_numberOf, kX3_find, kX3_node, kX3_wrong, kJ12_length, meK]; omega⟩ ⟨by first | omega | (dsimp only; omega) | decide, by first | omega | (dsimp only; omega) | decide⟩ (fun _ _ _ z => z.elim) rfl (fun r_63 h_63 q_63 => ?_)
      obtain ⟨rfl, hT_63, hF_63, hz_63⟩ := q_63
      have hG_63 := Fr.trans hF5 hF_63
      refine AW.sts (st' := [.int 4]) rfl ?_
      exact aw_iret dX3_itemMeant_66 rfl ⟨tS ms 3 (nI (T.2.1 a)), 0, by rw [g_39] <;> rfl, hT_63, hG_63, (by omega), fun z => absurd z (by rw [g_39]; exact (by decide : (4 : Nat) ≠ 0)), fun _ => ⟨(gF.of (mE.of hI0.2.2.2)).S (by decide), by rw [g_39] <;> rfl, by rw [g_39]; exact (by decide : (4 : Nat) < 50)⟩⟩ ⟨(by first | exact Nat.le_refl _ | omega | (dsimp only; omega)), (by first | exact Nat.le_refl _ | omega | (dsimp only; omega))⟩
  · skip
    exact absurd c_47 (by decide +kernel)

theorem ci_2 (G : aG) (h : hH)  (b : Nat) (ms : tM) (T : Tv) (N a : Nat) (hb : gB G ≤ b) (hT : TW b h ms) (hS : tkS ms T N) (hN4 : N ≤ 400) (hN : a ≤ N) (f B : Nat) (hfB : f ≤ B) (hB : B + 1 ≤ 802) (hm : mS (B + 1) a ms) (hp : pgI ms) (hk : seesB T a (sw 2) = true) (hlt : b + 25 ≤ h.1) (h1 : (pItem T true (pX T true f) a ms).1 ≠ 1) (h9 : (pItem T true (pX T true f) a ms).1 ≠ 99) (ih : meAll G f) : Con G kX3_itemMeant [.ref b] h ((15 + 2 * f, 600 + 100 * f, 1, 4), (fun r h1 => ∃ (m9 : tM) (a9 : Nat), r = some (.int (nI (pItem T true (pX T true f) a ms).1)) ∧ TW b h1 m9 ∧ Fr (TS b) h h1 ∧ h1.1 ≤ h.1 + 1 ∧ ((pItem T true (pX T true f) a ms).1 = 0 → (pItem T true (pX T true f) a ms).2.2 = (a9 + 1, ats m9 (a9 + 1)) ∧ m9.1 7 = nI a9) ∧ ((pItem T true (pX T true f) a ms).1 ≠ 0 → gF ms m9 ∧ m9.1 3 = nI (pItem T true (pX T true f) a ms).2.1 ∧ (pItem T true (pX T true f) a ms).1 < 50)), nX) := by
  refine Con.of (plainFor_of_name rfl) rfl (Nat.le_of_ble_eq_true rfl) ?_
  refine AW.eq (lv2 := [(0, .ref b)]) (s2 := []) rfl rfl rfl rfl rfl ?_
  generalize hW_ : pItem T true (pX T true f) a ms = W9 at h1 h9 ⊢
  have hI0 : pM (B + 1) a ms a ms := pM.rf hm (by omega)
  have hg0 : W9 = pItem T true (pX T true f) a ms := hW_.symm
  unfold pItem at hg0
  have hS0 := hS
  have hpm := hp.1; have hp19 := hp.2.2.2.1; have hp0 := hp.2.1; have hp1 := hp.2.2.1 1 (by decide) (by decide); have hp2 := hp.2.2.1 2 (by decide) (by decide); have hp3 := hp.2.2.1 3 (by decide) (by decide); have hp44 := hm.2.2.2.2.2.1
  have u0 := sees_un (j := 0) hk (by decide)
  have u1 := sees_un (j := 1) hk (by decide)
  have u3 := sees_un (j := 3) hk (by decide)
  have tk_s := hS.1 a hN; have Ktk_s := tk_s.2.1
  try simp only [Bool.true_and, pT, ef, cond_true, gOr, gAnd, gSum, gPro, tS_tS, seesP_eq hN hN4 hS.2.1, nmP_eq hN hN4 hS.2.1, nuP_eq hN hN4 hS.2.1, whP_eq hN hN4 hS.2.1] at hg0
  have g_2 := pG_F hg0 (by first | assumption | simp [hk, u0, u1, u3])
  try dsimp only at g_2
  have g_3 := pG_F g_2 (by first | assumption | simp [hk, u0, u1, u3])
  try dsimp only at g_3
  have g_5 := pG_T g_3 (by first | assumption | simp [hk, u0, u1, u3])
  try dsimp only at g_5
  have ne_6 : T.1 a ≠ 0 := by have z9 := hk; first | exact seesB_ne z9 | exact isNm_ne z9 | (have z8 := (beq_iff_eq.mp z9); omega) | exact whT_lt (bne_iff_ne.mp z9) | (rcases (Bool.or_eq_true _ _).mp z9 with z8 | z8 <;> first | exact seesB_ne z8 | (rcases (Bool.or_eq_true _ _).mp z8 with z7 | z7 <;> exact seesB_ne z7))
  unfold pName at g_5
  try simp only [Bool.true_and, pT, ef, cond_true, gOr, gAnd, gSum, gPro, tS_tS, seesP_eq hN hN4 hS.2.1, nmP_eq hN hN4 hS.2.1, nuP_eq hN hN4 hS.2.1, whP_eq hN hN4 hS.2.1] at g_5
  suffices key : ∀ (h5 : hH) (f5 : Nat → Value), h5.2 h.1 = some (har 6 4 f5) → (∀ j : Nat, j < 4 → f5 j = .ref (gT G j)) → TW b h5 ms → Fr (TS b) h h5 → h5.1 = h.1 + 1 → AW G kX3_itemMeant ((15 + 2 * f, 600 + 100 * f, 1, 4), (fun r h1 => ∃ (m9 : tM) (a9 : Nat), r = some (.int (nI W9.1)) ∧ TW b h1 m9 ∧ Fr (TS b) h h1 ∧ h1.1 ≤ h.1 + 1 ∧ (W9.1 = 0 → W9.2.2 = (a9 + 1, ats m9 (a9 + 1)) ∧ m9.1 7 = nI a9) ∧ (W9.1 ≠ 0 → gF ms m9 ∧ m9.1 3 = nI W9.2.1 ∧ W9.1 < 50)), nX) 24 [(0, .ref b)] [.ref h.1] h5 (0 + 1) (0 + 4) from by
    refine aw_iconst (n := 1) (v := 4) dX3_itemMeant_0 (by decide) rfl ?_
    refine aw_anew (n := 4) (ti := 6) (N := 4) (C0 := "java/lang/String") dX3_itemMeant_1 rfl q2947 q2948 (by rfl) (by decide) (by decide) (Nat.le_refl _) (Nat.le_refl _) rfl ?_
    refine aw_dup (n := 5) dX3_itemMeant_4 rfl rfl ?_
    refine aw_iconst (n := 6) (v := 0) dX3_itemMeant_5 (by decide) rfl ?_
    refine aw_ldcS (n := 8) (q := 0) dX3_itemMeant_6 91 rfl rfl ?_
    refine aw_know (fun gd9 hi9 => ?_)
    obtain ⟨v_0, w_0, z_0, f_0, hA_0, hV_0, hf_0⟩ := str_at gd9 hi9 (i := 0) (bs := sw 0) rfl
    refine aw_aast (n := 9) (ti := 6) (N := 4) (ci := 29) (C0 := RJ12) (E := "java/lang/String") dX3_itemMeant_8 rfl 0 (by rfl) hnew_at (by omega) (by decide) (by decide) rfl hA_0 (Or.inl rfl) rfl rfl ?_
    refine aw_dup (n := 10) dX3_itemMeant_9 rfl rfl ?_
    refine aw_iconst (n := 11) (v := 1) dX3_itemMeant_10 (by decide) rfl ?_
    refine aw_ldcS (n := 13) (q := 1) dX3_itemMeant_11 95 rfl rfl ?_
    refine aw_know (fun gd9 hi9 => ?_)
    obtain ⟨v_1, w_1, z_1, f_1, hA_1, hV_1, hf_1⟩ := str_at gd9 hi9 (i := 1) (bs := sw 1) rfl
    refine aw_aast (n := 14) (ti := 6) (N := 4) (ci := 29) (C0 := RJ12) (E := "java/lang/String") dX3_itemMeant_13 rfl 1 (by rfl) hset_at (by omega) (by decide) (by decide) rfl hA_1 (Or.inl rfl) rfl rfl ?_
    refine aw_dup (n := 15) dX3_itemMeant_14 rfl rfl ?_
    refine aw_iconst (n := 16) (v := 2) dX3_itemMeant_15 (by decide) rfl ?_
    refine aw_ldcS (n := 18) (q := 2) dX3_itemMeant_16 97 rfl rfl ?_
    refine aw_know (fun gd9 hi9 => ?_)
    obtain ⟨v_2, w_2, z_2, f_2, hA_2, hV_2, hf_2⟩ := str_at gd9 hi9 (i := 2) (bs := sw 2) rfl
    refine aw_aast (n := 19) (ti := 6) (N := 4) (ci := 29) (C0 := RJ12) (E := "java/lang/String") dX3_itemMeant_18 rfl 2 (by rfl) hset_at (by omega) (by decide) (by decide) rfl hA_2 (Or.inl rfl) rfl rfl ?_
    refine aw_dup (n := 20) dX3_itemMeant_19 rfl rfl ?_
    refine aw_iconst (n := 21) (v := 3) dX3_itemMeant_20 (by decide) rfl ?_
    refine aw_ldcS (n := 23) (q := 3) dX3_itemMeant_21 98 rfl rfl ?_
    refine aw_know (fun gd9 hi9 => ?_)
    obtain ⟨v_3, w_3, z_3, f_3, hA_3, hV_3, hf_3⟩ := str_at gd9 hi9 (i := 3) (bs := sw 3) rfl
    refine aw_aast (n := 24) (ti := 6) (N := 4) (ci := 29) (C0 := RJ12) (E := "java/lang/String") dX3_itemMeant_23 rfl 3 (by rfl) hset_at (by omega) (by decide) (by decide) rfl hA_3 (Or.inl rfl) rfl rfl ?_
    have fr : ∀ e0 e1 e2 e3 e4 : hE, Fr (fun q => q = h.1) h (hset (hset (hset (hset (hnew h e0) h.1 e1) h.1 e2) h.1 e3) h.1 e4) := fun e0 e1 e2 e3 e4 => (Fr.trans (Fr.trans (Fr.trans (Fr.trans Fr.new (Fr.set rfl)) (Fr.set rfl)) (Fr.set rfl)) (Fr.set rfl))
    refine key _ _ hset_at (fun j hj => by match j, hj with | 0, _ => rfl | 1, _ => rfl | 2, _ => rfl | 3, _ => rfl) (TW.kept hT (fr _ _ _ _ _) (by omega) (fun q hq z => by have hq : q = h.1 := hq; have := z.2; omega)) ⟨(fr _ _ _ _ _).1, fun q hq _ => (fr _ _ _ _ _).2 q hq (fun z => by have z : q = h.1 := z; omega)⟩ ?_
    rfl
  intro h5 f5 hA5 hE5 hT5 hF5 hz5
  refine aw_astore_n (n := 25) (lv' := [(1, .ref h.1), (0, .ref b)]) dX3_itemMeant_24 rfl (by decide) rfl rfl ?_
  refine aw_aload_n (n := 26) dX3_itemMeant_25 rfl 1 rfl rfl ?_
  refine aw_getf (n := 29) (v := .int (nI a)) (C0 := RX3) (T := TX3) dX3_itemMeant_26 rfl 7 q2648 (Or.inl rfl) hT5.1 (congrArg some (congrArg Value.int hI0.2.2.1.1)) rfl ?_
  refine aw_istore_n (n := 30) (lv' := [(2, .int (nI a)), (1, .ref h.1), (0, .ref b)]) dX3_itemMeant_29 rfl (by decide) rfl rfl ?_
  refine aw_aload_n (n := 31) dX3_itemMeant_30 rfl 2 rfl rfl ?_
  refine aw_aload_n (n := 32) dX3_itemMeant_31 rfl 2 rfl rfl ?_
  refine aw_getf (n := 35) (v := .int (nI a)) (C0 := RX3) (T := TX3) dX3_itemMeant_32 rfl 7 q2648 (Or.inl rfl) hT5.1 (congrArg some (congrArg Value.int hI0.2.2.1.1)) rfl ?_
  refine aw_aload_n (n := 36) dX3_itemMeant_35 rfl 1 rfl rfl ?_
  refine aw_know (fun gd_6 hi_6 => ?_)
  refine aw_callV (n := 39) (C0 := RX3) (As := [.int (nI a), .ref h.1]) (rest := []) (K2 := kX3_which) dX3_itemMeant_36 q2850 q2852 qs55 q113 q2853 ⟨rfl, hcX3_which⟩ rfl hT5.1 (ct_which G h5 b ms hb hT5 T a (hS.1 a hN) h.1 W4 ⟨f5, fun j => gT G j, hA5, fun j hj => by match j, hj with | 0, _ => exact ⟨hE5 0 (by decide), str_at gd_6 hi_6 (i := 0) rfl, lo_at (i := 0) (bs := sw 0) rfl⟩ | 1, _ => exact ⟨hE5 1 (by decide), str_at gd_6 hi_6 (i := 1) rfl, lo_at (i := 1) (bs := sw 1) rfl⟩ | 2, _ => exact ⟨hE5 2 (by decide), str_at gd_6 hi_6 (i := 2) rfl, lo_at (i := 2) (bs := sw 2) rfl⟩ | 3, _ => exact ⟨hE5 3 (by decide), str_at gd_6 hi_6 (i := 3) rfl, lo_at (i := 3) (bs := sw 3) rfl⟩⟩ (by decide)) rfl (Nat.le_of_ble_eq_true rfl) ⟨by dsimp only [kX3_formula, kX3_row, kX3_since, kX3_one, kX3_expression, kX3_product, kX3_factor, kX3_fronted, kX3_compare, kX3_twoSided, kX3_braces, kX3_namedValue, kX3_bounds, kX3_nameOf, kX3_sees, kX3_is, kX3_isName, kX3_which, kX3_numberOf, kX3_find, kX3_node, kX3_wrong, kJ12_length, meK]; omega, by dsimp only [kX3_formula, kX3_row, kX3_since, kX3_one, kX3_expression, kX3_product, kX3_factor, kX3_fronted, kX3_compare, kX3_twoSided, kX3_braces, kX3_namedValue, kX3_bounds, kX3_nameOf, kX3_sees, kX3_is, kX3_isName, kX3_which, kX3_numberOf, kX3_find, kX3_node, kX3_wrong, kJ12_length, meK]; omega⟩ ⟨by first | omega | (dsimp only; omega) | decide, by first | omega | (dsimp only; omega) | decide⟩ (fun _ _ _ z => z.elim) rfl (fun r_36 h_36 q_36 => ?_)
  obtain ⟨rfl, rfl⟩ := q_36
  refine AW.sts (st' := [.int 2]) (by rw [wh4 2 (by decide) hk]; rfl) ?_
  refine aw_istore_n (n := 40) (lv' := [(3, .int 2), (2, .int (nI a)), (1, .ref h.1), (0, .ref b)]) dX3_itemMeant_39 rfl (by decide) rfl rfl ?_
  refine aw_aload_n (n := 41) dX3_itemMeant_40 rfl 3 rfl rfl ?_
  refine aw_getf (n := 44) (v := .ref (b + 16)) (C0 := RX3) (T := TX3) dX3_itemMeant_41 rfl 23 q2664 (Or.inl rfl) hT5.1 rfl rfl ?_
  refine aw_iload_n (n := 45) dX3_itemMeant_44 rfl 0 rfl rfl ?_
  refine aw_iald (n := 46) (v := .int (ms.2.1 23 2)) dX3_itemMeant_45 rfl 2 (by rfl) hT5.a23 (by omega) (by decide) rfl rfl ?_
  refine aw_iload_n (n := 47) dX3_itemMeant_46 rfl 0 rfl rfl ?_
  refine aw_if_ne (n := 50) (tgt := 55) dX3_itemMeant_47 (by decide) rfl (fun c_47 => ?_) (fun c_47 => ?_)
  · skip
    refine aw_bipush (n := 57) (v := 12) dX3_itemMeant_55 (by decide) rfl ?_
    refine aw_icmp_ne (n := 60) (tgt := 67) dX3_itemMeant_57 (by decide) rfl (fun c_57 => ?_) (fun c_57 => ?_)
    · skip
      have n_57 : ¬ ((mnN ms 2) = 12) := fun z => c_57 (by have y := (nI_eq (a := (mnN ms 2)) (b := 12) (by omega) (by omega)).mpr z; rw [← ((hpm 2 (by decide)) : (ms.2.1 23 2) = nI (mnN ms 2)), ← ((by rfl) : (12 : Int32) = nI 12)] at y; exact y)
      have f_57 : decide (mnN ms 2 = if 2 = 0 then 8 else 12) = false := decide_eq_false n_57
      have g_8 := pG_F g_5 (by first | assumption | simp [hk, u0, u1, u3, f_57])
      try dsimp only at g_8
      refine aw_aload_n (n := 68) dX3_itemMeant_67 rfl 3 rfl rfl ?_
      refine aw_dup (n := 69) dX3_itemMeant_68 rfl rfl ?_
      refine aw_getf (n := 72) (v := .int (nI a)) (C0 := RX3) (T := TX3) dX3_itemMeant_69 rfl 7 q2648 (Or.inl rfl) hT5.1 (congrArg some (congrArg Value.int hI0.2.2.1.1)) rfl ?_
      refine aw_iconst (n := 73) (v := 1) dX3_itemMeant_72 (by decide) rfl ?_
      refine aw_iadd (n := 74) dX3_itemMeant_73 rfl ?_
      refine AW.sts (st' := [.int (nI (a + 1)), .ref b]) (by rw [show (nI a) + 1 = nI (a + 1) from (nI_1 _)]) ?_
      refine aw_tput (n := 77) (k := 7) dX3_itemMeant_74 q2648 (by decide) rfl rfl rfl rfl rfl hT5 hb rfl rfl (fun h_9 hT_9 hF_9 hz_9 => ?_)
      have hG_9 := Fr.trans hF5 hF_9
      have N_10 : a + 1 ≤ N := lt_end hS.2.1 hN ne_6
      have I_11 := hI0.at1 (by omega)
      have tk_12 := (hS.kept I_11.2.2.2).1 (a + 1) N_10; have Ktk_12 := tk_12.2.1
      try simp only [Bool.true_and, pT, ef, cond_true, gOr, gAnd, gSum, gPro, tS_tS, seesP_eq N_10 hN4 hS.2.1, nmP_eq N_10 hN4 hS.2.1, nuP_eq N_10 hN4 hS.2.1, whP_eq N_10 hN4 hS.2.1] at g_8
      have g_13 := pG_c g_8 h1
      have g_14 := g_13.2
      try dsimp only at g_14
      have ne_15 : T.1 (a + 1) ≠ 0 := by have z9 := g_13.1; first | exact seesB_ne z9 | exact isNm_ne z9 | (have z8 := (beq_iff_eq.mp z9); omega) | exact whT_lt (bne_iff_ne.mp z9) | (rcases (Bool.or_eq_true _ _).mp z9 with z8 | z8 <;> first | exact seesB_ne z8 | (rcases (Bool.or_eq_true _ _).mp z8 with z7 | z7 <;> exact seesB_ne z7))
      refine aw_aload_n (n := 78) dX3_itemMeant_77 rfl 3 rfl rfl ?_
      refine aw_getf (n := 81) (v := .int (nI (a + 1))) (C0 := RX3) (T := TX3) dX3_itemMeant_78 rfl 7 q2648 (Or.inl rfl) hT_9.1 rfl rfl ?_
      refine aw_istore (n := 83) (lv' := [(4, .int (nI (a + 1))), (3, .int 2), (2, .int (nI a)), (1, .ref h.1), (0, .ref b)]) dX3_itemMeant_81 (by decide) rfl rfl ?_
      have hN1 := N_10
      refine aw_aload_n (n := 84) dX3_itemMeant_83 rfl 4 rfl rfl ?_
      refine aw_iload (n := 86) dX3_itemMeant_84 0 rfl rfl ?_
      refine aw_callV (n := 89) (C0 := RX3) (As := [.int (nI (a + 1))]) (rest := []) (K2 := kX3_find) dX3_itemMeant_86 q2949 q2951 qs69 q113 q2952 ⟨rfl, hcX3_find⟩ rfl hT_9.1 (ct_find G h_9 b (tS ms 7 (nI (a + 1))) hb hT_9 T (a + 1) ((hS.kept I_11.2.2.2).1 (a + 1) N_10) I_11.2.2.1.2.2.2.2.1 I_11.2.2.1.2.2.2.2.2.1) rfl (Nat.le_of_ble_eq_true rfl) ⟨by dsimp only [kX3_formula, kX3_row, kX3_since, kX3_one, kX3_expression, kX3_product, kX3_factor, kX3_fronted, kX3_compare, kX3_twoSided, kX3_braces, kX3_namedValue, kX3_bounds, kX3_nameOf, kX3_sees, kX3_is, kX3_isName, kX3_which, kX3_numberOf, kX3_find, kX3_node, kX3_wrong, kJ12_length, meK]; omega, by dsimp only [kX3_formula, kX3_row, kX3_since, kX3_one, kX3_expression, kX3_product, kX3_factor, kX3_fronted, kX3_compare, kX3_twoSided, kX3_braces, kX3_namedValue, kX3_bounds, kX3_nameOf, kX3_sees, kX3_is, kX3_isName, kX3_which, kX3_numberOf, kX3_find, kX3_node, kX3_wrong, kJ12_length, meK]; omega⟩ ⟨by first | omega | (dsimp only; omega) | decide, by first | omega | (dsimp only; omega) | decide⟩ (fun _ _ _ z => z.elim) rfl (fun r_86 h_86 q_86 => ?_)
      obtain ⟨rfl, rfl⟩ := q_86
      refine AW.sts (st' := [.int (fnT T (tS ms 7 (nI (a + 1))) (a + 1))]) rfl ?_
      refine aw_iconst (n := 90) (v := (-1)) dX3_itemMeant_89 (by decide) rfl ?_
      refine aw_icmp_eq (n := 93) (tgt := 101) dX3_itemMeant_90 (by decide) rfl (fun c_90 => ?_) (fun c_90 => ?_)
      · skip
        have f_90 : (fnT T ms (a + 1) != -1) = false := (by rw [show fnT T ms (a + 1) = -1 from c_90]; rfl)
        have g_16 := pG_F g_14 (by first | assumption | simp [f_90])
        try dsimp only at g_16
        refine aw_aload_n (n := 102) dX3_itemMeant_101 rfl 4 rfl rfl ?_
        refine aw_dup (n := 103) dX3_itemMeant_102 rfl rfl ?_
        refine aw_getf (n := 106) (v := .int (nI (a + 1))) (C0 := RX3) (T := TX3) dX3_itemMeant_103 rfl 7 q2648 (Or.inl rfl) hT_9.1 rfl rfl ?_
        refine aw_iconst (n := 107) (v := 2) dX3_itemMeant_106 (by decide) rfl ?_
        refine aw_iadd (n := 108) dX3_itemMeant_107 rfl ?_
        refine AW.sts (st' := [.int (nI ((a + 1) + 2)), .ref b]) (by rw [show (nI (a + 1)) + 2 = nI ((a + 1) + 2) from (by rw [show nI (a + 1) = nI (a + 1) from rfl, show 2 = nI 2 from (by rfl)]; exact nI_add _ _)]) ?_
        refine aw_tput (n := 111) (k := 7) dX3_itemMeant_108 q2648 (by decide) rfl rfl rfl rfl rfl hT_9 hb rfl rfl (fun h_17 hT_17 hF_17 hz_17 => ?_)
        have hG_17 := Fr.trans hG_9 hF_17
        have N_18 : (a + 1) + 1 ≤ N := lt_end hS.2.1 N_10 ne_15
        try simp only [Bool.true_and, pT, ef, cond_true, gOr, gAnd, gSum, gPro, tS_tS, seesP_eq N_18 hN4 hS.2.1, nmP_eq N_18 hN4 hS.2.1, nuP_eq N_18 hN4 hS.2.1, whP_eq N_18 hN4 hS.2.1] at g_16
        have g_19 := pG_t g_16 h1
        have ne_20 : T.1 ((a + 1) + 1) ≠ 0 := by have z9 := g_19.1; first | exact seesB_ne z9 | exact isNm_ne z9 | (have z8 := (beq_iff_eq.mp z9); omega) | exact whT_lt (bne_iff_ne.mp z9) | (rcases (Bool.or_eq_true _ _).mp z9 with z8 | z8 <;> first | exact seesB_ne z8 | (rcases (Bool.or_eq_true _ _).mp z8 with z7 | z7 <;> exact seesB_ne z7))
        have g_21 := g_19.2
        try dsimp only at g_21
        have N_22 : ((a + 1) + 1) + 1 ≤ N := lt_end hS.2.1 N_18 ne_20
        have I_23 := I_11.at (a' := (a + 1) + 2) (by omega) (by omega)
        rw [tS_tS] at hT_17
        have I_24 : pM (B) a ms ((a + 1) + 2) (tS ms 7 (nI ((a + 1) + 2))) := by have z : pM (B) a ms ((a + 1) + 2) (tS (tS ms 7 (nI (a + 1))) 7 (nI ((a + 1) + 2))) := I_23; rw [tS_tS] at z; exact z
        have I_242 : (a + 1) + 2 ≤ N := by omega
        have tk_25 := (hS.kept I_24.2.2.2).1 ((a + 1) + 2) I_242; have Ktk_25 := tk_25.2.1
        try simp only [Bool.true_and, pT, ef, cond_true, gOr, gAnd, gSum, gPro, tS_tS, seesP_eq I_242 hN4 hS.2.1, nmP_eq I_242 hN4 hS.2.1, nuP_eq I_242 hN4 hS.2.1, whP_eq I_242 hN4 hS.2.1] at g_21
        refine aw_iconst (n := 112) (v := 0) dX3_itemMeant_111 (by decide) rfl ?_
        refine aw_istore (n := 114) (lv' := [(5, .int 0), (4, .int (nI (a + 1))), (3, .int 2), (2, .int (nI a)), (1, .ref h.1), (0, .ref b)]) dX3_itemMeant_112 (by decide) rfl rfl ?_
        refine aw_iload_n (n := 115) dX3_itemMeant_114 rfl 2 rfl rfl ?_
        refine aw_if_ne (n := 118) (tgt := 196) dX3_itemMeant_115 (by decide) rfl (fun c_115 => ?_) (fun c_115 => ?_)
        · skip
          refine aw_iload_n (n := 197) dX3_itemMeant_196 rfl 2 rfl rfl ?_
          refine aw_iconst (n := 198) (v := 2) dX3_itemMeant_197 (by decide) rfl ?_
          refine aw_icmp_ne (n := 201) (tgt := 208) dX3_itemMeant_198 (by decide) rfl (fun c_198 => ?_) (fun c_198 => ?_)
          · skip
            exact absurd c_198 (by decide +kernel)
          · skip
            refine aw_aload_n (n := 202) dX3_itemMeant_201 rfl 5 rfl rfl ?_
            obtain ⟨e_202, l_202, a_202, w_202, hR_202⟩ : ∃ (e8 l8 x8 : Nat) (w8 : tM), pX T true f 5 0 ((a + 1) + 2) (tS ms 7 (nI ((a + 1) + 2))) = (e8, l8, x8, w8) := ⟨_, _, _, _, rfl⟩
            have n1_202 : (pX T true f 5 0 ((a + 1) + 2) (tS ms 7 (nI ((a + 1) + 2)))).1 ≠ 1 := pG_n g_21 h1 (by decide)
            have n9_202 : (pX T true f 5 0 ((a + 1) + 2) (tS ms 7 (nI ((a + 1) + 2)))).1 ≠ 99 := pG_n g_21 h9 (by decide)
            have V_202 := (pX_inv T f 5 0 ((a + 1) + 2) (B) (tS ms 7 (nI ((a + 1) + 2))) (by omega) (by omega) (by omega) I_24.2.2.1).w (fun _ _ z => I_24.trW z)
            have Z_202 := pX_N (T := T) (N := N) (f := f) (nt := 5) (d := 0) (a := (a + 1) + 2) (m := tS ms 7 (nI ((a + 1) + 2))) hS.2.1 I_242 (by omega)
            have U_202 := pX_inv T f 5 0 ((a + 1) + 2) (B) (tS ms 7 (nI ((a + 1) + 2))) (by omega) (by omega) (by omega) I_24.2.2.1
            rw [hR_202] at U_202
            rw [hR_202] at g_21 V_202 Z_202
            refine aw_callV (n := 205) (C0 := RX3) (As := []) (rest := []) (K2 := kX3_expression) dX3_itemMeant_202 q2962 q2964 qs72 q113 q2965 ⟨rfl, hcX3_expression⟩ rfl hT_17.1 (ih 5 h_17 b (tS ms 7 (nI ((a + 1) + 2))) T N ((a + 1) + 2) 0 (B) (by decide) hb hT_17 (hS.kept I_24.2.2.2) hN4 I_242 (by omega) (by omega) I_24.2.2.1 n1_202 n9_202) rfl (Nat.le_of_ble_eq_true rfl) ⟨by dsimp only [kX3_formula, kX3_row, kX3_since, kX3_one, kX3_expression, kX3_product, kX3_factor, kX3_fronted, kX3_compare, kX3_twoSided, kX3_braces, kX3_namedValue, kX3_bounds, kX3_nameOf, kX3_sees, kX3_is, kX3_isName, kX3_which, kX3_numberOf, kX3_find, kX3_node, kX3_wrong, kJ12_length, meK]; omega, by dsimp only [kX3_formula, kX3_row, kX3_since, kX3_one, kX3_expression, kX3_product, kX3_factor, kX3_fronted, kX3_compare, kX3_twoSided, kX3_braces, kX3_namedValue, kX3_bounds, kX3_nameOf, kX3_sees, kX3_is, kX3_isName, kX3_which, kX3_numberOf, kX3_find, kX3_node, kX3_wrong, kJ12_length, meK]; omega⟩ ⟨by first | omega | (dsimp only; omega) | decide, by first | omega | (dsimp only; omega) | decide⟩ (fun _ _ _ z => z.elim) rfl (fun r_202 h_202 q_202 => ?_)
            obtain ⟨m_202, rfl, hT_202, hF_202, hz_202, ok_202, er_202⟩ := q_202
            rw [hR_202] at ok_202 er_202
            dsimp only at ok_202 er_202
            have hG_202 := Fr.trans hG_17 hF_202
            rcases Nat.eq_zero_or_pos e_202 with y_202 | y_202
            · skip
              subst y_202
              have x_202 := ok_202 rfl
              subst x_202
              refine AW.sts (st' := [.int 0]) (by rw [hR_202]; rfl) ?_
              replace V_202 := V_202 rfl
              replace Z_202 := Z_202 rfl
              dsimp only at V_202 Z_202
              replace U_202 := U_202 rfl
              dsimp only at U_202
              have lt_202 : nN (m_202.1 17) < 1203 := by have := V_202.2.2.1; have := V_202.1.2.2.1.2.2.1; have := V_202.1.2.1; omega
              have g_26 := pG_o g_21
              try dsimp only at g_26
              have tk_27 := (hS.kept V_202.1.2.2.2).1 a_202 Z_202; have Ktk_27 := tk_27.2.1
              try simp only [Bool.true_and, pT, ef, cond_true, gOr, gAnd, gSum, gPro, tS_tS, seesP_eq Z_202 hN4 hS.2.1, nmP_eq Z_202 hN4 hS.2.1, nuP_eq Z_202 hN4 hS.2.1, whP_eq Z_202 hN4 hS.2.1] at g_26
              unfold pEnd at g_26
              try simp only [Bool.true_and, pT, ef, cond_true, gOr, gAnd, gSum, gPro, tS_tS, seesP_eq Z_202 hN4 hS.2.1, nmP_eq Z_202 hN4 hS.2.1, nuP_eq Z_202 hN4 hS.2.1, whP_eq Z_202 hN4 hS.2.1] at g_26
              refine aw_goto (tgt := 212) dX3_itemMeant_205 (by decide) ?_
              refine aw_istore (n := 214) (lv' := [(5, .int 0), (4, .int (nI (a + 1))), (3, .int 2), (2, .int (nI a)), (1, .ref h.1), (0, .ref b)]) dX3_itemMeant_212 (by decide) rfl rfl ?_
              refine aw_iload (n := 216) dX3_itemMeant_214 0 rfl rfl ?_
              refine aw_if_eq (n := 219) (tgt := 222) dX3_itemMeant_216 (by decide) rfl (fun c_216 => ?_) (fun c_216 => ?_)
              · skip
                have hp4 := hp.kept V_202.1.2.2.2; have hmn : mnN m_202 2 = mnN ms 2 := by unfold mnN; rw [V_202.1.2.2.2.2.2.1 23 (by decide)]
                refine aw_iload_n (n := 223) dX3_itemMeant_222 rfl 2 rfl rfl ?_
                refine aw_if_le (n := 226) (tgt := 246) dX3_itemMeant_223 (by decide) rfl (fun c_223 => ?_) (fun c_223 => ?_)
                · skip
                  exact absurd c_223 (by decide +kernel)
                · skip
                  refine aw_aload_n (n := 227) dX3_itemMeant_226 rfl 5 rfl rfl ?_
                  refine aw_getf (n := 230) (v := .ref (b + 18)) (C0 := RX3) (T := TX3) dX3_itemMeant_227 rfl 25 q2666 (Or.inl rfl) hT_202.1 rfl rfl ?_
                  refine aw_bipush (n := 232) (v := 12) dX3_itemMeant_230 (by decide) rfl ?_
                  refine aw_iload_n (n := 233) dX3_itemMeant_232 rfl 2 rfl rfl ?_
                  refine aw_imul (n := 234) dX3_itemMeant_233 rfl ?_
                  refine aw_aload_n (n := 235) dX3_itemMeant_234 rfl 5 rfl rfl ?_
                  refine aw_getf (n := 238) (v := .ref (b + 16)) (C0 := RX3) (T := TX3) dX3_itemMeant_235 rfl 23 q2664 (Or.inl rfl) hT_202.1 rfl rfl ?_
                  refine aw_iload_n (n := 239) dX3_itemMeant_238 rfl 2 rfl rfl ?_
                  refine aw_iald (n := 240) (v := .int (m_202.2.1 23 2)) dX3_itemMeant_239 rfl 2 (by rfl) hT_202.a23 (by omega) (by decide) rfl rfl ?_
                  refine aw_iadd (n := 241) dX3_itemMeant_240 rfl ?_
                  refine aw_aload_n (n := 242) dX3_itemMeant_241 rfl 5 rfl rfl ?_
                  refine aw_getf (n := 245) (v := .int (m_202.1 17)) (C0 := RX3) (T := TX3) dX3_itemMeant_242 rfl 17 q2658 (Or.inl rfl) hT_202.1 rfl rfl ?_
                  refine aw_tiast (n := 246) dX3_itemMeant_245 TW.m25 hT_202 hb ((12 * 2) + (mnN m_202 2)) (by rw [show 12 * 2 = nI (12 * 2) from (by rw [show 12 = nI 12 from (by rfl), show 2 = nI 2 from (by rfl)]; exact pk_mul _ _), show m_202.2.1 23 2 = nI (mnN m_202 2) from (hp4.1 2 (by decide))]; exact nI_add _ _) (by omega) (by decide) rfl (fun h_28 hT_28 hF_28 hz_28 => ?_)
                  have hG_28 := Fr.trans hG_202 hF_28
                  obtain ⟨t1, t2, t3, t4⟩ := top_ok (s := 2) (by decide) (by decide) V_202.1.2.2.1 hp4 (by omega) V_202.2
                  have SB_29 : mS (B) a_202 (topT 2 m_202) := t1
                  have PB_29 : pgI (topT 2 m_202) := t2
                  have GB_29 : gF ms (topT 2 m_202) := (gF.of (mE.of V_202.1.2.2.2)).tr t3
                  have hS := hS0.g GB_29
                  have IB_29 : pM (B) a_202 (topT 2 m_202) a_202 (topT 2 m_202) := pM.rf SB_29 (by omega)
                  have B_29_T : TW b h_28 (topT 2 m_202) := hT_28
                  have n19B_29 := SB_29.2.2.2.2.2.1; have c19B_29 := PB_29.2.2.2.1; have d0B_29 := PB_29.2.1; have d1B_29 := PB_29.2.2.1 1 (by decide) (by decide); have d2B_29 := PB_29.2.2.1 2 (by decide) (by decide); have d3B_29 := PB_29.2.2.1 3 (by decide) (by decide)
                  have q9B_29 : mnN (topT 2 m_202) 2 = mnN ms 2 := hmn
                  have tk_30 := hS.1 a_202 Z_202; have Ktk_30 := tk_30.2.1
                  have hmn2 : mnN (topT 2 m_202) 2 = mnN ms 2 := hmn
                  try simp only [Bool.true_and, pT, ef, cond_true, gOr, gAnd, gSum, gPro, tS_tS, seesP_eq Z_202 hN4 hS.2.1, nmP_eq Z_202 hN4 hS.2.1, nuP_eq Z_202 hN4 hS.2.1, whP_eq Z_202 hN4 hS.2.1] at g_26
                  refine aw_iload_n (n := 247) dX3_itemMeant_246 rfl 2 rfl rfl ?_
                  refine aw_iconst (n := 248) (v := 3) dX3_itemMeant_247 (by decide) rfl ?_
                  refine aw_icmp_ne (n := 251) (tgt := 263) dX3_itemMeant_248 (by decide) rfl (fun c_248 => ?_) (fun c_248 => ?_)
                  · skip
                    try simp only [Bool.true_and, pT, ef, cond_true, gOr, gAnd, gSum, gPro, tS_tS, seesP_eq Z_202 hN4 hS.2.1, nmP_eq Z_202 hN4 hS.2.1, nuP_eq Z_202 hN4 hS.2.1, whP_eq Z_202 hN4 hS.2.1] at g_26
                    have g_31 := pG_l g_26 h1
                    have g_32 := g_31.2
                    try dsimp only at g_32
                    have u4 := sees_un (j := 4) g_31.1 (by decide)
                    refine aw_aload_n (n := 264) dX3_itemMeant_263 rfl 5 rfl rfl ?_
                    refine aw_ldcS (n := 266) (q := 4) dX3_itemMeant_264 100 rfl rfl ?_
                    refine aw_know (fun gd_32 hi_32 => ?_)
                    refine aw_callV (n := 269) (C0 := RX3) (As := [.ref (gT G 4)]) (rest := []) (K2 := kX3_sees) dX3_itemMeant_266 q2826 q2828 qs50 q113 q2829 ⟨rfl, hcX3_sees⟩ rfl B_29_T.1 (ct_sees G h_28 b (topT 2 m_202) hb B_29_T T a_202 IB_29.2.2.1.1 tk_30 _ (sw 4) (str_at gd_32 hi_32 (i := 4) rfl) (lo_at (i := 4) rfl)) rfl (Nat.le_of_ble_eq_true rfl) ⟨by dsimp only [kX3_formula, kX3_row, kX3_since, kX3_one, kX3_expression, kX3_product, kX3_factor, kX3_fronted, kX3_compare, kX3_twoSided, kX3_braces, kX3_namedValue, kX3_bounds, kX3_nameOf, kX3_sees, kX3_is, kX3_isName, kX3_which, kX3_numberOf, kX3_find, kX3_node, kX3_wrong, kJ12_length, meK]; omega, by dsimp only [kX3_formula, kX3_row, kX3_since, kX3_one, kX3_expression, kX3_product, kX3_factor, kX3_fronted, kX3_compare, kX3_twoSided, kX3_braces, kX3_namedValue, kX3_bounds, kX3_nameOf, kX3_sees, kX3_is, kX3_isName, kX3_which, kX3_numberOf, kX3_find, kX3_node, kX3_wrong, kJ12_length, meK]; omega⟩ ⟨by first | omega | (dsimp only; omega) | decide, by first | omega | (dsimp only; omega) | decide⟩ (fun _ _ _ z => z.elim) rfl (fun r_266 h_266 q_266 => ?_)
                    obtain ⟨rfl, rfl⟩ := q_266
                    refine AW.sts (st' := [.int (bI (seesB T a_202 (sw 4)))]) rfl ?_
                    refine aw_if_eq (n := 272) (tgt := 334) dX3_itemMeant_269 (by decide) rfl (fun c_269 => ?_) (fun c_269 => ?_)
                    · skip
                      have b_269 : (seesB T a_202 (sw 4)) = false := (bI_0 _).mp c_269
                      refine aw_aload_n (n := 335) dX3_itemMeant_334 rfl 5 rfl rfl ?_
                      refine aw_getf (n := 338) (v := .ref (b + 13)) (C0 := RX3) (T := TX3) dX3_itemMeant_335 rfl 20 q2661 (Or.inl rfl) B_29_T.1 rfl rfl ?_
                      refine aw_aload_n (n := 339) dX3_itemMeant_338 rfl 5 rfl rfl ?_
                      refine aw_getf (n := 342) (v := .int ((topT 2 m_202).1 19)) (C0 := RX3) (T := TX3) dX3_itemMeant_339 rfl 19 q2660 (Or.inl rfl) B_29_T.1 rfl rfl ?_
                      refine aw_aload_n (n := 343) dX3_itemMeant_342 rfl 5 rfl rfl ?_
                      refine aw_iload (n := 345) dX3_itemMeant_343 1 rfl rfl ?_
                      refine aw_callV (n := 348) (C0 := RX3) (As := [.int (nI (a + 1))]) (rest := [.int ((topT 2 m_202).1 19), .ref (b + 13)]) (K2 := kX3_nameOf) dX3_itemMeant_345 q2953 q2955 qs70 q113 q2956 ⟨rfl, hcX3_nameOf⟩ rfl B_29_T.1 (ct_nameOf G h_28 b (topT 2 m_202) hb B_29_T T (a + 1) ((hS.kept IB_29.2.2.2).1 (a + 1) hN1)) rfl (Nat.le_of_ble_eq_true rfl) ⟨by dsimp only [kX3_formula, kX3_row, kX3_since, kX3_one, kX3_expression, kX3_product, kX3_factor, kX3_fronted, kX3_compare, kX3_twoSided, kX3_braces, kX3_namedValue, kX3_bounds, kX3_nameOf, kX3_sees, kX3_is, kX3_isName, kX3_which, kX3_numberOf, kX3_find, kX3_node, kX3_wrong, kJ12_length, meK]; omega, by dsimp only [kX3_formula, kX3_row, kX3_since, kX3_one, kX3_expression, kX3_product, kX3_factor, kX3_fronted, kX3_compare, kX3_twoSided, kX3_braces, kX3_namedValue, kX3_bounds, kX3_nameOf, kX3_sees, kX3_is, kX3_isName, kX3_which, kX3_numberOf, kX3_find, kX3_node, kX3_wrong, kJ12_length, meK]; omega⟩ ⟨by first | omega | (dsimp only; omega) | decide, by first | omega | (dsimp only; omega) | decide⟩ (fun _ _ _ z => z.elim) rfl (fun r_345 h_345 q_345 => ?_)
                      obtain ⟨rfl, rfl⟩ := q_345
                      refine AW.sts (st' := [.long (nameT T (a + 1)), .int ((topT 2 m_202).1 19), .ref (b + 13)]) rfl ?_
                      refine aw_tlast (n := 349) dX3_itemMeant_348 TW.m20 B_29_T hb (nN ((topT 2 m_202).1 19)) SB_29.2.2.2.2.1 (by omega) (by decide) rfl (fun h_34 hT_34 hF_34 hz_34 => ?_)
                      have hG_34 := Fr.trans hG_28 hF_34
                      refine aw_aload_n (n := 350) dX3_itemMeant_349 rfl 5 rfl rfl ?_
                      refine aw_getf (n := 353) (v := .ref (b + 14)) (C0 := RX3) (T := TX3) dX3_itemMeant_350 rfl 21 q2662 (Or.inl rfl) hT_34.1 rfl rfl ?_
                      refine aw_aload_n (n := 354) dX3_itemMeant_353 rfl 5 rfl rfl ?_
                      refine aw_getf (n := 357) (v := .int ((topT 2 m_202).1 19)) (C0 := RX3) (T := TX3) dX3_itemMeant_354 rfl 19 q2660 (Or.inl rfl) hT_34.1 rfl rfl ?_
                      refine aw_iload_n (n := 358) dX3_itemMeant_357 rfl 2 rfl rfl ?_
                      refine aw_tiast (n := 359) dX3_itemMeant_358 TW.m21 hT_34 hb (nN ((topT 2 m_202).1 19)) SB_29.2.2.2.2.1 (by omega) (by decide) rfl (fun h_35 hT_35 hF_35 hz_35 => ?_)
                      have hG_35 := Fr.trans hG_34 hF_35
                      refine aw_aload_n (n := 360) dX3_itemMeant_359 rfl 5 rfl rfl ?_
                      refine aw_getf (n := 363) (v := .ref (b + 15)) (C0 := RX3) (T := TX3) dX3_itemMeant_360 rfl 22 q2663 (Or.inl rfl) hT_35.1 rfl rfl ?_
                      refine aw_aload_n (n := 364) dX3_itemMeant_363 rfl 5 rfl rfl ?_
                      refine aw_getf (n := 367) (v := .int ((topT 2 m_202).1 19)) (C0 := RX3) (T := TX3) dX3_itemMeant_364 rfl 19 q2660 (Or.inl rfl) hT_35.1 rfl rfl ?_
                      refine aw_aload_n (n := 368) dX3_itemMeant_367 rfl 5 rfl rfl ?_
                      refine aw_getf (n := 371) (v := .ref (b + 16)) (C0 := RX3) (T := TX3) dX3_itemMeant_368 rfl 23 q2664 (Or.inl rfl) hT_35.1 rfl rfl ?_
                      refine aw_iload_n (n := 372) dX3_itemMeant_371 rfl 2 rfl rfl ?_
                      refine aw_iald (n := 373) (v := .int ((topT 2 m_202).2.1 23 2)) dX3_itemMeant_372 rfl 2 (by rfl) hT_35.a23 (by omega) (by decide) rfl rfl ?_
                      refine aw_tiast (n := 374) dX3_itemMeant_373 TW.m22 hT_35 hb (nN ((topT 2 m_202).1 19)) SB_29.2.2.2.2.1 (by omega) (by decide) rfl (fun h_36 hT_36 hF_36 hz_36 => ?_)
                      have hG_36 := Fr.trans hG_35 hF_36
                      refine aw_aload_n (n := 375) dX3_itemMeant_374 rfl 5 rfl rfl ?_
                      refine aw_dup (n := 376) dX3_itemMeant_375 rfl rfl ?_
                      refine aw_getf (n := 379) (v := .int ((topT 2 m_202).1 19)) (C0 := RX3) (T := TX3) dX3_itemMeant_376 rfl 19 q2660 (Or.inl rfl) hT_36.1 rfl rfl ?_
                      refine aw_iconst (n := 380) (v := 1) dX3_itemMeant_379 (by decide) rfl ?_
                      refine aw_iadd (n := 381) dX3_itemMeant_380 rfl ?_
                      refine AW.sts (st' := [.int (nI ((nN ((topT 2 m_202).1 19)) + 1)), .ref b]) (by rw [show ((topT 2 m_202).1 19) + 1 = nI ((nN ((topT 2 m_202).1 19)) + 1) from ((congrArg (fun z9 : Int32 => z9 + 1) (SB_29.2.2.2.2.1 : ((topT 2 m_202).1 19) = nI (nN ((topT 2 m_202).1 19)))).trans (nI_1 _))]) ?_
                      refine aw_tput (n := 384) (k := 19) dX3_itemMeant_381 q2660 (by decide) rfl rfl rfl rfl rfl hT_36 hb rfl rfl (fun h_37 hT_37 hF_37 hz_37 => ?_)
                      have hG_37 := Fr.trans hG_36 hF_37
                      refine aw_aload_n (n := 385) dX3_itemMeant_384 rfl 5 rfl rfl ?_
                      refine aw_getf (n := 388) (v := .ref (b + 16)) (C0 := RX3) (T := TX3) dX3_itemMeant_385 rfl 23 q2664 (Or.inl rfl) hT_37.1 rfl rfl ?_
                      refine aw_iload_n (n := 389) dX3_itemMeant_388 rfl 2 rfl rfl ?_
                      refine aw_dup2 (n := 390) dX3_itemMeant_389 rfl rfl rfl ?_
                      refine aw_iald (n := 391) (v := .int ((topT 2 m_202).2.1 23 2)) dX3_itemMeant_390 rfl 2 (by rfl) hT_37.a23 (by omega) (by decide) rfl rfl ?_
                      refine aw_iconst (n := 392) (v := 1) dX3_itemMeant_391 (by decide) rfl ?_
                      refine aw_iadd (n := 393) dX3_itemMeant_392 rfl ?_
                      refine aw_tiast (n := 394) dX3_itemMeant_393 TW.m23 hT_37 hb 2 (by rfl) (by omega) (by decide) rfl (fun h_38 hT_38 hF_38 hz_38 => ?_)
                      have hG_38 := Fr.trans hG_37 hF_38
                      refine aw_iconst (n := 395) (v := 0) dX3_itemMeant_394 (by decide) rfl ?_
                      exact aw_iret dX3_itemMeant_395 rfl ⟨tI (tS (tI (tI (tL (topT 2 m_202) 20 (nN ((topT 2 m_202).1 19)) (nameT T (a + 1))) 21 (nN ((topT 2 m_202).1 19)) (2 : Int32)) 22 (nN ((topT 2 m_202).1 19)) ((topT 2 m_202).2.1 23 2)) 19 (nI ((nN ((topT 2 m_202).1 19)) + 1))) 23 2 (((topT 2 m_202).2.1 23 2) + 1), a_202, by rw [g_32] <;> rfl, hT_38, hG_38, (by omega), fun _ => ⟨by rw [g_32] <;> rfl, IB_29.2.2.1.1⟩, fun z => absurd (by rw [g_32] <;> rfl) z⟩ ⟨(by first | exact Nat.le_refl _ | omega | (dsimp only; omega)), (by first | exact Nat.le_refl _ | omega | (dsimp only; omega))⟩
                    · skip
                      have b_269 : (seesB T a_202 (sw 4)) = true := Bool.of_not_eq_false (fun e => c_269 ((bI_0 _).mpr e))
                      exact absurd (u4.symm.trans b_269) (by decide)
                  · skip
                    exact absurd c_248 (by decide +kernel)
              · skip
                exact absurd c_216 (by decide +kernel)
            · skip
              refine AW.sts (st' := [.int (nI e_202)]) (by rw [hR_202]; rfl) ?_
              have gE_202 : W9 = (e_202, l_202, a_202, w_202) := pG_er g_21 (by omega)
              replace er_202 := er_202 (by omega)
              have E_202 := mE.tr I_24.2.2.2 er_202.1
              have P_202 := er_202.2.1
              refine aw_goto (tgt := 212) dX3_itemMeant_205 (by decide) ?_
              refine aw_istore (n := 214) (lv' := [(5, .int (nI e_202)), (4, .int (nI (a + 1))), (3, .int 2), (2, .int (nI a)), (1, .ref h.1), (0, .ref b)]) dX3_itemMeant_212 (by decide) rfl rfl ?_
              refine aw_iload (n := 216) dX3_itemMeant_214 0 rfl rfl ?_
              refine aw_if_eq (n := 219) (tgt := 222) dX3_itemMeant_216 (by decide) rfl (fun c_216_2 => ?_) (fun c_216_2 => ?_)
              · skip
                have n_216_2 : e_202 = 0 := (nI_eq (a := e_202) (b := 0) (by omega) (by omega)).mp (by rw [← ((by rfl) : (0 : Int32) = nI 0)]; exact c_216_2)
                exact absurd n_216_2 (by omega)
              · skip
                have n_216_2 : ¬ (e_202 = 0) := fun z => c_216_2 (by have y := (nI_eq (a := e_202) (b := 0) (by omega) (by omega)).mpr z; rw [← ((by rfl) : (0 : Int32) = nI 0)] at y; exact y)
                refine aw_iload (n := 221) dX3_itemMeant_219 0 rfl rfl ?_
                exact aw_iret dX3_itemMeant_221 rfl ⟨m_202, 0, by rw [gE_202], hT_202, hG_202, (by omega), fun z => absurd z (by rw [gE_202]; show e_202 ≠ 0; omega), fun _ => ⟨gF.of E_202, by rw [gE_202]; exact P_202, by rw [gE_202]; exact er_202.2.2⟩⟩ ⟨(by first | exact Nat.le_refl _ | omega | (dsimp only; omega)), (by first | exact Nat.le_refl _ | omega | (dsimp only; omega))⟩
        · skip
          exact absurd c_115 (by decide +kernel)
      · skip
        have f_90 : (fnT T ms (a + 1) != -1) = true := bne_iff_ne.mpr c_90
        have g_39 := pG_T g_14 (by first | assumption | simp [f_90])
        try dsimp only at g_39
        refine aw_aload_n (n := 94) dX3_itemMeant_93 rfl 4 rfl rfl ?_
        refine aw_iconst (n := 95) (v := 3) dX3_itemMeant_94 (by decide) rfl ?_
        refine aw_iload (n := 97) dX3_itemMeant_95 0 rfl rfl ?_
        refine aw_callV (n := 100) (C0 := RX3) (As := [.int 3, .int (nI (a + 1))]) (rest := []) (K2 := kX3_wrong) dX3_itemMeant_97 q2935 q2937 qs66 q113 q2938 ⟨rfl, hcX3_wrong⟩ rfl hT_9.1 (ct_wrong G h_9 b (tS ms 7 (nI (a + 1))) hb hT_9 T (a + 1) ((hS.kept I_11.2.2.2).1 (a + 1) N_10) (3 : Int32)) rfl (Nat.le_of_ble_eq_true rfl) ⟨by dsimp only [kX3_formula, kX3_row, kX3_since, kX3_one, kX3_expression, kX3_product, kX3_factor, kX3_fronted, kX3_compare, kX3_twoSided, kX3_braces, kX3_namedValue, kX3_bounds, kX3_nameOf, kX3_sees, kX3_is, kX3_isName, kX3_which, kX3_numberOf, kX3_find, kX3_node, kX3_wrong, kJ12_length, meK]; omega, by dsimp only [kX3_formula, kX3_row, kX3_since, kX3_one, kX3_expression, kX3_product, kX3_factor, kX3_fronted, kX3_compare, kX3_twoSided, kX3_braces, kX3_namedValue, kX3_bounds, kX3_nameOf, kX3_sees, kX3_is, kX3_isName, kX3_which, kX3_numberOf, kX3_find, kX3_node, kX3_wrong, kJ12_length, meK]; omega⟩ ⟨by first | omega | (dsimp only; omega) | decide, by first | omega | (dsimp only; omega) | decide⟩ (fun _ _ _ z => z.elim) rfl (fun r_97 h_97 q_97 => ?_)
        obtain ⟨rfl, hT_97, hF_97, hz_97⟩ := q_97
        have hG_97 := Fr.trans hG_9 hF_97
        refine AW.sts (st' := [.int 3]) rfl ?_
        exact aw_iret dX3_itemMeant_100 rfl ⟨tS (tS ms 7 (nI (a + 1))) 3 (nI (T.2.1 (a + 1))), 0, by rw [g_39] <;> rfl, hT_97, hG_97, (by omega), fun z => absurd z (by rw [g_39]; exact (by decide : (3 : Nat) ≠ 0)), fun _ => ⟨(gF.of (mE.of I_11.2.2.2)).S (by decide), by rw [g_39] <;> rfl, by rw [g_39]; exact (by decide : (3 : Nat) < 50)⟩⟩ ⟨(by first | exact Nat.le_refl _ | omega | (dsimp only; omega)), (by first | exact Nat.le_refl _ | omega | (dsimp only; omega))⟩
    · skip
      have n_57 : (mnN ms 2) = 12 := (nI_eq (a := (mnN ms 2)) (b := 12) (by omega) (by omega)).mp (by rw [← ((hpm 2 (by decide)) : (ms.2.1 23 2) = nI (mnN ms 2)), ← ((by rfl) : (12 : Int32) = nI 12)]; exact c_57)
      have f_57 : decide (mnN ms 2 = if 2 = 0 then 8 else 12) = true := decide_eq_true n_57
      have g_40 := pG_T g_5 (by first | assumption | simp [hk, u0, u1, u3, f_57])
      try dsimp only at g_40
      refine aw_aload_n (n := 61) dX3_itemMeant_60 rfl 3 rfl rfl ?_
      refine aw_iconst (n := 62) (v := 4) dX3_itemMeant_61 (by decide) rfl ?_
      refine aw_iload_n (n := 63) dX3_itemMeant_62 rfl 1 rfl rfl ?_
      refine aw_callV (n := 66) (C0 := RX3) (As := [.int 4, .int (nI a)]) (rest := []) (K2 := kX3_wrong) dX3_itemMeant_63 q2935 q2937 qs66 q113 q2938 ⟨rfl, hcX3_wrong⟩ rfl hT5.1 (ct_wrong G h5 b ms hb hT5 T a ((hS.kept hI0.2.2.2).1 a hN) (4 : Int32)) rfl (Nat.le_of_ble_eq_true rfl) ⟨by dsimp only [kX3_formula, kX3_row, kX3_since, kX3_one, kX3_expression, kX3_product, kX3_factor, kX3_fronted, kX3_compare, kX3_twoSided, kX3_braces, kX3_namedValue, kX3_bounds, kX3_nameOf, kX3_sees, kX3_is, kX3_isName, kX3_which, kX3_numberOf, kX3_find, kX3_node, kX3_wrong, kJ12_length, meK]; omega, by dsimp only [kX3_formula, kX3_row, kX3_since, kX3_one, kX3_expression, kX3_product, kX3_factor, kX3_fronted, kX3_compare, kX3_twoSided, kX3_braces, kX3_namedValue, kX3_bounds, kX3_nameOf, kX3_sees, kX3_is, kX3_isName, kX3_which, kX3_numberOf, kX3_find, kX3_node, kX3_wrong, kJ12_length, meK]; omega⟩ ⟨by first | omega | (dsimp only; omega) | decide, by first | omega | (dsimp only; omega) | decide⟩ (fun _ _ _ z => z.elim) rfl (fun r_63 h_63 q_63 => ?_)
      obtain ⟨rfl, hT_63, hF_63, hz_63⟩ := q_63
      have hG_63 := Fr.trans hF5 hF_63
      refine AW.sts (st' := [.int 4]) rfl ?_
      exact aw_iret dX3_itemMeant_66 rfl ⟨tS ms 3 (nI (T.2.1 a)), 0, by rw [g_40] <;> rfl, hT_63, hG_63, (by omega), fun z => absurd z (by rw [g_40]; exact (by decide : (4 : Nat) ≠ 0)), fun _ => ⟨(gF.of (mE.of hI0.2.2.2)).S (by decide), by rw [g_40] <;> rfl, by rw [g_40]; exact (by decide : (4 : Nat) < 50)⟩⟩ ⟨(by first | exact Nat.le_refl _ | omega | (dsimp only; omega)), (by first | exact Nat.le_refl _ | omega | (dsimp only; omega))⟩
  · skip
    exact absurd c_47 (by decide +kernel)

end
