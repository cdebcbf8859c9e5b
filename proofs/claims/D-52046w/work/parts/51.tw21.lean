/-! The twin: meanings, the group. -/
section
set_option maxRecDepth 100000
theorem seesP_0 {T : Tv} {a : Nat} (h : T.1 a = 0) (w : List Nat) : seesP T a w = false := by
  cases e : seesP T a w with
  | false => rfl
  | true => exact absurd h (seesP_lt e).2
theorem nmP_0 {T : Tv} {a : Nat} (h : T.1 a = 0) : nmP T a = false := by
  cases e : nmP T a with
  | false => rfl
  | true => exact absurd h (nmP_lt e).2
theorem nuP_0 {T : Tv} {a : Nat} (h : T.1 a = 0) : nuP T a = false := by
  cases e : nuP T a with
  | false => rfl
  | true => exact absurd h (nuP_lt e).2
theorem whP_0 {T : Tv} {a k : Nat} (h : T.1 a = 0) : (whP T a k != -1) = false := by
  cases e : whP T a k != -1 with
  | false => rfl
  | true => exact absurd h (whb_lt e).2
theorem pB7_ne {T : Tv} {im : Bool} {r : pF} {d a : Nat} {ms : tM} (h : (pB7 T im r d a ms).1 ≠ 1) : T.1 a ≠ 0 := fun z => h (by
  unfold pB7 pT
  rw [nuP_0 z, nmP_0 z, seesP_0 z, seesP_0 z, seesP_0 z, whP_0 z, seesP_0 z, seesP_0 z, seesP_0 z, seesP_0 z]
  rfl)
theorem pBrC_inv {T : Tv} {B a0 a : Nat} {f d : Nat} {ms0 ms : tM} (hf : f ≤ B) (hB : B ≤ 802) (h : pM B a0 ms0 a ms) : pP (pW true B a0 ms0) (pBrC T (pX T true f) d a ms) :=
  pP.b (Φ := pW true B a0 ms0) (pP.c (fun e => pP.c (fun _ => ((pX_inv T f 0 (d + 1) (a + 1) B _ hf hB (by have := (seesP_lt e).1; omega) (h.2.2.1.at0 (Nat.le_succ _))).w fun _ _ z => (h.at (Nat.le_succ _) (by have := (seesP_lt e).1; omega)).trW z)) (fun _ => pP.e)) (fun _ => pP.e)) fun a1 m1 h1 => pP.t fun e2 => h1.at (seesP_lt e2).1
theorem pTw_inv {T : Tv} {B a0 a f d nt : Nat} {ms0 ms : tM} (hnt : 5 ≤ nt) (hf : f ≤ B) (hB : B + 1 ≤ 802) (h : pW false (B + 1) a0 ms0 a ms) (hg : gSum T a = true ∨ gPro T a = true) : pP (pW false (B + 1) a0 ms0) (pTw T (pX T true f nt d) a ms) := by
  have ha : a < 400 := by
    rcases hg with e | e
    · exact (gSum_lt e).1
    · exact (gPro_lt e).1
  refine pP.b (Φ := fun a1 m1 => pW false B a0 ms0 a1 m1 ∧ mF ms m1) ?_ fun a1 m1 h1 => pP.o ?_
  · refine pP.w (pX_inv T f nt d (a + 1) B _ hf (by omega) (by omega) h.1.2.2.1.at1) fun a1 m1 z => ?_
    rw [decide_eq_false (by omega)] at z
    exact ⟨(h.1.at1 ha).trW z, (mF.S (Or.inl rfl)).trans z.1.2.2.2⟩
  · obtain ⟨j, hj, ej⟩ := bin_wh hg
    exact h1.1.1.nod (k := 34) (by omega) (Or.inr (by decide)) false (by decide) (fun _ _ => h.2.kept h1.2) (fun z => absurd z (by decide)) (fun _ => h1.1.2) (fun z => absurd z (by decide)) (fun z => absurd z (by decide)) (fun _ => nN_in ej hj (by decide))
theorem brC_N {T : Tv} {N f d a : Nat} {m : tM} (he : T.1 N = 0) (h : a ≤ N) (h4 : a ≤ 400) (z : (pBrC T (pX T true f) d a m).1 = 0) : (pBrC T (pX T true f) d a m).2.2.1 ≤ N := by
  have y : pQ (pBrC T (pX T true f) d a m) (qb (qBr T (qX T f) d a) fun a1 => qT T (sw 50) a1) := pQ.b (pQ.c (fun _ => pQ.c (fun _ => pQ_X T true f _ _ _ _) (fun _ => pQ.e)) (fun _ => pQ.e)) (fun _ _ => pQ.i)
  have x : qW T N a (qb (qBr T (qX T f) d a) fun a1 => qT T (sw 50) a1) := qW.b (qBr_W he f d a h h4) fun a1 _ h1 h2 => qT_W he h1 h2
  rw [← (y.2 z).2]
  exact x.2.1
theorem pX_N {T : Tv} {N f nt d a : Nat} {m : tM} (he : T.1 N = 0) (h : a ≤ N) (h4 : a ≤ 400) (z : (pX T true f nt d a m).1 = 0) : (pX T true f nt d a m).2.2.1 ≤ N := by
  rw [← ((pQ_X T true f nt d a m).2 z).2]
  exact (qX_W he f nt d a h h4).2.1
theorem pBd_N {T : Tv} {N a : Nat} {m : tM} (he : T.1 N = 0) (h : a ≤ N) (h4 : a ≤ 400) (z : (pBd T true a m).1 = 0) : (pBd T true a m).2.2.1 ≤ N := by
  rw [← ((pQ.bd T true a m).2 z).2]
  exact (qBd_W he h h4).2.1
theorem tw_N {T : Tv} {N f nt d a : Nat} {m : tM} (he : T.1 N = 0) (h : a ≤ N) (hne : T.1 a ≠ 0) (h4 : a < 400) (z : (pTw T (pX T true f nt d) a m).1 = 0) : (pTw T (pX T true f nt d) a m).2.2.1 ≤ N := by
  unfold pTw pb at z ⊢
  by_cases e : (pX T true f nt d (a + 1) (ats m (a + 1))).1 = 0
  · rw [if_pos e] at z ⊢
    exact pX_N he (lt_end he h hne) h4 e
  · rw [if_neg e] at z
    exact absurd z e
theorem whT_n {T : Tv} {a k n : Nat} (h : whT T a (wlW k) ≠ -1) (hn : (wlW k).length = n) : ∃ j : Nat, j < n ∧ whT T a (wlW k) = nI j := by
  rcases fU_lt (fun j => seesB T a ((wlW k).getD j [])) (wlW k).length with e | ⟨j, h1, h2, -⟩
  · exact absurd e h
  · exact ⟨j, by omega, h2⟩
abbrev kX3_bounds : aK := (yX3_bounds, cX3_bounds, 1, (Option.some Jvm.ClassFile.FieldType.int), [])
theorem hcX3_bounds : kX3_bounds.1.cls ≠ "java/lang/invoke/MethodHandle" ∧ kX3_bounds.1.cls ≠ "java/lang/invoke/VarHandle" ∧ (parseMethodDescriptor kX3_bounds.1.desc).map (fun d => d.parameters.length) = some 0 := ⟨by decide, by decide, by decide +kernel⟩
theorem cm_bounds (G : aG) (h : hH)  (b : Nat) (ms : tM) (T : Tv) (N a : Nat) (hb : gB G ≤ b) (hT : TW b h ms) (hS : tkS ms T N) (hN4 : N ≤ 400) (hN : a ≤ N) (B : Nat) (hB : B + 1 ≤ 802) (hm : mS (B + 1) a ms) (h1 : (pBd T true a ms).1 ≠ 1) : Con G kX3_bounds [.ref b] h ((7, 130, 0, 0), (fun r h1 => ∃ m9 : tM, r = some (.int (nI (pBd T true a ms).1)) ∧ TW b h1 m9 ∧ Fr (TS b) h h1 ∧ h1.1 = h.1 ∧ ((pBd T true a ms).1 = 0 → m9 = (pBd T true a ms).2.2.2) ∧ ((pBd T true a ms).1 ≠ 0 → mE ms m9 ∧ m9.1 3 = nI (pBd T true a ms).2.1 ∧ (pBd T true a ms).1 < 50)), nX) := by
  refine Con.of (plainFor_of_name rfl) rfl (Nat.le_of_ble_eq_true rfl) ?_
  refine AW.eq (lv2 := [(0, .ref b)]) (s2 := []) rfl rfl rfl rfl rfl ?_
  generalize hW_ : pBd T true a ms = W9 at h1 ⊢
  have hI0 : pM (B + 1) a ms a ms := pM.rf hm (by omega)
  have hg0 : W9 = pBd T true a ms := hW_.symm
  unfold pBd at hg0
  unfold bdT at hg0
  have tk_1 := (hS.kept hI0.2.2.2).1 a hN; have Ktk_1 := tk_1.2.1
  try simp only [Bool.true_and, pT, ef, cond_true, gOr, gAnd, gSum, gPro, tS_tS, seesP_eq hN hN4 hS.2.1, nmP_eq hN hN4 hS.2.1, nuP_eq hN hN4 hS.2.1, whP_eq hN hN4 hS.2.1] at hg0
  refine aw_aload_n (n := 1) dX3_bounds_0 rfl 0 rfl rfl ?_
  refine aw_iconst (n := 2) (v := 0) dX3_bounds_1 (by decide) rfl ?_
  refine aw_tput (n := 5) (k := 37) dX3_bounds_2 q2678 (by decide) rfl rfl rfl rfl rfl hT hb rfl rfl (fun h_2 hT_2 hF_2 hz_2 => ?_)
  have I_3 := hI0.S (k := 37) (v := (0 : Int32)) (by decide)
  refine aw_aload_n (n := 6) dX3_bounds_5 rfl 0 rfl rfl ?_
  refine aw_iconst (n := 7) (v := (-1)) dX3_bounds_6 (by decide) rfl ?_
  refine aw_tput (n := 10) (k := 38) dX3_bounds_7 q2679 (by decide) rfl rfl rfl rfl rfl hT_2 hb rfl rfl (fun h_4 hT_4 hF_4 hz_4 => ?_)
  have hG_4 := Fr.trans hF_2 hF_4
  have I_5 := I_3.S (k := 38) (v := ((-1) : Int32)) (by decide)
  refine aw_aload_n (n := 11) dX3_bounds_10 rfl 0 rfl rfl ?_
  refine aw_ldcS (n := 13) (q := 47) dX3_bounds_11 105 rfl rfl ?_
  refine aw_know (fun gd_5 hi_5 => ?_)
  refine aw_callV (n := 16) (C0 := RX3) (As := [.ref (gT G 47)]) (rest := []) (K2 := kX3_sees) dX3_bounds_13 q2826 q2828 qs50 q113 q2829 ⟨rfl, hcX3_sees⟩ rfl hT_4.1 (ct_sees G h_4 b (tS (tS ms 37 (0 : Int32)) 38 ((-1) : Int32)) hb hT_4 T a I_5.2.2.1.1 tk_1 _ (sw 47) (str_at gd_5 hi_5 (i := 47) rfl) (lo_at (i := 47) rfl)) rfl (Nat.le_of_ble_eq_true rfl) ⟨Nat.le_of_ble_eq_true rfl, Nat.le_of_ble_eq_true rfl⟩ ⟨Nat.zero_le _, Nat.zero_le _⟩ (fun _ _ _ z => z.elim) rfl (fun r_13 h_13 q_13 => ?_)
  obtain ⟨rfl, rfl⟩ := q_13
  refine AW.sts (st' := [.int (bI (seesB T a (sw 47)))]) rfl ?_
  refine aw_if_ne (n := 19) (tgt := 21) dX3_bounds_16 (by decide) rfl (fun c_16 => ?_) (fun c_16 => ?_)
  · skip
    have b_16 : (seesB T a (sw 47)) = true := Bool.of_not_eq_false (fun e => c_16 ((bI_0 _).mpr e))
    have g_8 := pG_T hg0 (by first | assumption | simp [b_16])
    try dsimp only at g_8
    have ne_9 : T.1 a ≠ 0 := by have z9 := b_16; first | exact seesB_ne z9 | exact isNm_ne z9 | (have z8 := (beq_iff_eq.mp z9); omega) | exact whT_lt (bne_iff_ne.mp z9) | (rcases (Bool.or_eq_true _ _).mp z9 with z8 | z8 <;> first | exact seesB_ne z8 | (rcases (Bool.or_eq_true _ _).mp z8 with z7 | z7 <;> exact seesB_ne z7))
    refine aw_aload_n (n := 22) dX3_bounds_21 rfl 0 rfl rfl ?_
    refine aw_dup (n := 23) dX3_bounds_22 rfl rfl ?_
    refine aw_getf (n := 26) (v := .int (nI a)) (C0 := RX3) (T := TX3) dX3_bounds_23 rfl 7 q2648 (Or.inl rfl) hT_4.1 (congrArg some (congrArg Value.int I_5.2.2.1.1)) rfl ?_
    refine aw_iconst (n := 27) (v := 1) dX3_bounds_26 (by decide) rfl ?_
    refine aw_iadd (n := 28) dX3_bounds_27 rfl ?_
    refine AW.sts (st' := [.int (nI (a + 1)), .ref b]) (by rw [show (nI a) + 1 = nI (a + 1) from (nI_1 _)]) ?_
    refine aw_tput (n := 31) (k := 7) dX3_bounds_28 q2648 (by decide) rfl rfl rfl rfl rfl hT_4 hb rfl rfl (fun h_10 hT_10 hF_10 hz_10 => ?_)
    have hG_10 := Fr.trans hG_4 hF_10
    have N_11 : a + 1 ≤ N := lt_end hS.2.1 hN ne_9
    have I_12 := I_5.at1 (by omega)
    have tk_13 := (hS.kept I_12.2.2.2).1 (a + 1) N_11; have Ktk_13 := tk_13.2.1
    try simp only [Bool.true_and, pT, ef, cond_true, gOr, gAnd, gSum, gPro, tS_tS, seesP_eq N_11 hN4 hS.2.1, nmP_eq N_11 hN4 hS.2.1, nuP_eq N_11 hN4 hS.2.1, whP_eq N_11 hN4 hS.2.1] at g_8
    have g_14 := pG_c g_8 h1
    have g_15 := g_14.2
    try dsimp only at g_15
    have ne_16 : T.1 (a + 1) ≠ 0 := by have z9 := g_14.1; first | exact seesB_ne z9 | exact isNm_ne z9 | (have z8 := (beq_iff_eq.mp z9); omega) | exact whT_lt (bne_iff_ne.mp z9) | (rcases (Bool.or_eq_true _ _).mp z9 with z8 | z8 <;> first | exact seesB_ne z8 | (rcases (Bool.or_eq_true _ _).mp z8 with z7 | z7 <;> exact seesB_ne z7))
    refine aw_aload_n (n := 32) dX3_bounds_31 rfl 0 rfl rfl ?_
    refine aw_aload_n (n := 33) dX3_bounds_32 rfl 0 rfl rfl ?_
    refine aw_getf (n := 36) (v := .int (nI (a + 1))) (C0 := RX3) (T := TX3) dX3_bounds_33 rfl 7 q2648 (Or.inl rfl) hT_10.1 rfl rfl ?_
    refine aw_callV (n := 39) (C0 := RX3) (As := [.int (nI (a + 1))]) (rest := []) (K2 := kX3_numberOf) dX3_bounds_36 q2958 q2960 qs71 q113 q2961 ⟨rfl, hcX3_numberOf⟩ rfl hT_10.1 (ct_numberOf G h_10 b (tS (tS (tS ms 37 (0 : Int32)) 38 ((-1) : Int32)) 7 (nI (a + 1))) hb hT_10 T (a + 1) ((hS.kept I_12.2.2.2).1 (a + 1) N_11)) rfl (Nat.le_of_ble_eq_true rfl) ⟨Nat.le_of_ble_eq_true rfl, Nat.le_of_ble_eq_true rfl⟩ ⟨Nat.zero_le _, Nat.zero_le _⟩ (fun _ _ _ z => z.elim) rfl (fun r_36 h_36 q_36 => ?_)
    obtain ⟨rfl, rfl⟩ := q_36
    refine AW.sts (st' := [.int (numT T (a + 1))]) rfl ?_
    refine aw_sipush (n := 42) (v := 1000) dX3_bounds_39 (by decide) rfl ?_
    refine aw_icmp_le (n := 45) (tgt := 55) dX3_bounds_42 (by decide) rfl (fun c_42 => ?_) (fun c_42 => ?_)
    · skip
      have f_42 : decide (1000 < numT T (a + 1)) = false := decide_eq_false (Int32.not_lt.mpr c_42)
      have g_17 := pG_F g_15 (by first | assumption | simp [f_42])
      try dsimp only at g_17
      refine aw_aload_n (n := 56) dX3_bounds_55 rfl 0 rfl rfl ?_
      refine aw_aload_n (n := 57) dX3_bounds_56 rfl 0 rfl rfl ?_
      refine aw_aload_n (n := 58) dX3_bounds_57 rfl 0 rfl rfl ?_
      refine aw_getf (n := 61) (v := .int (nI (a + 1))) (C0 := RX3) (T := TX3) dX3_bounds_58 rfl 7 q2648 (Or.inl rfl) hT_10.1 rfl rfl ?_
      refine aw_callV (n := 64) (C0 := RX3) (As := [.int (nI (a + 1))]) (rest := [.ref b]) (K2 := kX3_numberOf) dX3_bounds_61 q2958 q2960 qs71 q113 q2961 ⟨rfl, hcX3_numberOf⟩ rfl hT_10.1 (ct_numberOf G h_10 b (tS (tS (tS ms 37 (0 : Int32)) 38 ((-1) : Int32)) 7 (nI (a + 1))) hb hT_10 T (a + 1) ((hS.kept I_12.2.2.2).1 (a + 1) N_11)) rfl (Nat.le_of_ble_eq_true rfl) ⟨Nat.le_of_ble_eq_true rfl, Nat.le_of_ble_eq_true rfl⟩ ⟨Nat.zero_le _, Nat.zero_le _⟩ (fun _ _ _ z => z.elim) rfl (fun r_61 h_61 q_61 => ?_)
      obtain ⟨rfl, rfl⟩ := q_61
      refine AW.sts (st' := [.int (numT T (a + 1)), .ref b]) rfl ?_
      refine aw_tput (n := 67) (k := 37) dX3_bounds_64 q2678 (by decide) rfl rfl rfl rfl rfl hT_10 hb rfl rfl (fun h_18 hT_18 hF_18 hz_18 => ?_)
      have hG_18 := Fr.trans hG_10 hF_18
      have I_19 := I_12.S (k := 37) (v := (numT T (a + 1))) (by decide)
      refine aw_aload_n (n := 68) dX3_bounds_67 rfl 0 rfl rfl ?_
      refine aw_dup (n := 69) dX3_bounds_68 rfl rfl ?_
      refine aw_getf (n := 72) (v := .int (nI (a + 1))) (C0 := RX3) (T := TX3) dX3_bounds_69 rfl 7 q2648 (Or.inl rfl) hT_18.1 rfl rfl ?_
      refine aw_iconst (n := 73) (v := 2) dX3_bounds_72 (by decide) rfl ?_
      refine aw_iadd (n := 74) dX3_bounds_73 rfl ?_
      refine AW.sts (st' := [.int (nI ((a + 1) + 2)), .ref b]) (by rw [show (nI (a + 1)) + 2 = nI ((a + 1) + 2) from (by rw [show nI (a + 1) = nI (a + 1) from rfl, show 2 = nI 2 from (by rfl)]; exact nI_add _ _)]) ?_
      refine aw_tput (n := 77) (k := 7) dX3_bounds_74 q2648 (by decide) rfl rfl rfl rfl rfl hT_18 hb rfl rfl (fun h_20 hT_20 hF_20 hz_20 => ?_)
      have hG_20 := Fr.trans hG_18 hF_20
      have N_21 : (a + 1) + 1 ≤ N := lt_end hS.2.1 N_11 ne_16
      try simp only [Bool.true_and, pT, ef, cond_true, gOr, gAnd, gSum, gPro, tS_tS, seesP_eq N_21 hN4 hS.2.1, nmP_eq N_21 hN4 hS.2.1, nuP_eq N_21 hN4 hS.2.1, whP_eq N_21 hN4 hS.2.1] at g_17
      have g_22 := pG_t g_17 h1
      have ne_23 : T.1 ((a + 1) + 1) ≠ 0 := by have z9 := g_22.1; first | exact seesB_ne z9 | exact isNm_ne z9 | (have z8 := (beq_iff_eq.mp z9); omega) | exact whT_lt (bne_iff_ne.mp z9) | (rcases (Bool.or_eq_true _ _).mp z9 with z8 | z8 <;> first | exact seesB_ne z8 | (rcases (Bool.or_eq_true _ _).mp z8 with z7 | z7 <;> exact seesB_ne z7))
      have g_24 := g_22.2
      try dsimp only at g_24
      have N_25 : ((a + 1) + 1) + 1 ≤ N := lt_end hS.2.1 N_21 ne_23
      have I_26 := I_19.at (a' := (a + 1) + 2) (by omega) (by omega)
      have I_262 : (a + 1) + 2 ≤ N := by omega
      have tk_27 := (hS.kept I_26.2.2.2).1 ((a + 1) + 2) I_262; have Ktk_27 := tk_27.2.1
      try simp only [Bool.true_and, pT, ef, cond_true, gOr, gAnd, gSum, gPro, tS_tS, seesP_eq I_262 hN4 hS.2.1, nmP_eq I_262 hN4 hS.2.1, nuP_eq I_262 hN4 hS.2.1, whP_eq I_262 hN4 hS.2.1] at g_24
      have g_28 := pG_c g_24 h1
      have g_29 := g_28.2
      try dsimp only at g_29
      have ne_30 : T.1 ((a + 1) + 2) ≠ 0 := by have z9 := g_28.1; first | exact seesB_ne z9 | exact isNm_ne z9 | (have z8 := (beq_iff_eq.mp z9); omega) | exact whT_lt (bne_iff_ne.mp z9) | (rcases (Bool.or_eq_true _ _).mp z9 with z8 | z8 <;> first | exact seesB_ne z8 | (rcases (Bool.or_eq_true _ _).mp z8 with z7 | z7 <;> exact seesB_ne z7))
      refine aw_aload_n (n := 78) dX3_bounds_77 rfl 0 rfl rfl ?_
      refine aw_aload_n (n := 79) dX3_bounds_78 rfl 0 rfl rfl ?_
      refine aw_getf (n := 82) (v := .int (nI ((a + 1) + 2))) (C0 := RX3) (T := TX3) dX3_bounds_79 rfl 7 q2648 (Or.inl rfl) hT_20.1 rfl rfl ?_
      refine aw_callV (n := 85) (C0 := RX3) (As := [.int (nI ((a + 1) + 2))]) (rest := []) (K2 := kX3_numberOf) dX3_bounds_82 q2958 q2960 qs71 q113 q2961 ⟨rfl, hcX3_numberOf⟩ rfl hT_20.1 (ct_numberOf G h_20 b (tS (tS (tS (tS (tS ms 37 (0 : Int32)) 38 ((-1) : Int32)) 7 (nI (a + 1))) 37 (numT T (a + 1))) 7 (nI ((a + 1) + 2))) hb hT_20 T ((a + 1) + 2) ((hS.kept I_26.2.2.2).1 ((a + 1) + 2) I_262)) rfl (Nat.le_of_ble_eq_true rfl) ⟨Nat.le_of_ble_eq_true rfl, Nat.le_of_ble_eq_true rfl⟩ ⟨Nat.zero_le _, Nat.zero_le _⟩ (fun _ _ _ z => z.elim) rfl (fun r_82 h_82 q_82 => ?_)
      obtain ⟨rfl, rfl⟩ := q_82
      refine AW.sts (st' := [.int (numT T ((a + 1) + 2))]) rfl ?_
      refine aw_sipush (n := 88) (v := 1000) dX3_bounds_85 (by decide) rfl ?_
      refine aw_icmp_gt (n := 91) (tgt := 106) dX3_bounds_88 (by decide) rfl (fun c_88 => ?_) (fun c_88 => ?_)
      · skip
        have f_88 : decide (1000 < numT T ((a + 1) + 2)) = true := decide_eq_true c_88
        have g_31 := pG_T g_29 (by first | assumption | simp [f_88])
        try dsimp only at g_31
        refine aw_aload_n (n := 107) dX3_bounds_106 rfl 0 rfl rfl ?_
        refine aw_iconst (n := 108) (v := 5) dX3_bounds_107 (by decide) rfl ?_
        refine aw_aload_n (n := 109) dX3_bounds_108 rfl 0 rfl rfl ?_
        refine aw_getf (n := 112) (v := .int (nI ((a + 1) + 2))) (C0 := RX3) (T := TX3) dX3_bounds_109 rfl 7 q2648 (Or.inl rfl) hT_20.1 rfl rfl ?_
        refine aw_callV (n := 115) (C0 := RX3) (As := [.int 5, .int (nI ((a + 1) + 2))]) (rest := []) (K2 := kX3_wrong) dX3_bounds_112 q2935 q2937 qs66 q113 q2938 ⟨rfl, hcX3_wrong⟩ rfl hT_20.1 (ct_wrong G h_20 b (tS (tS (tS (tS (tS ms 37 (0 : Int32)) 38 ((-1) : Int32)) 7 (nI (a + 1))) 37 (numT T (a + 1))) 7 (nI ((a + 1) + 2))) hb hT_20 T ((a + 1) + 2) ((hS.kept I_26.2.2.2).1 ((a + 1) + 2) I_262) (5 : Int32)) rfl (Nat.le_of_ble_eq_true rfl) ⟨Nat.le_of_ble_eq_true rfl, Nat.le_of_ble_eq_true rfl⟩ ⟨Nat.zero_le _, Nat.zero_le _⟩ (fun _ _ _ z => z.elim) rfl (fun r_112 h_112 q_112 => ?_)
        obtain ⟨rfl, hT_112, hF_112, hz_112⟩ := q_112
        have hG_112 := Fr.trans hG_20 hF_112
        refine AW.sts (st' := [.int 5]) rfl ?_
        exact aw_iret dX3_bounds_115 rfl ⟨tS (tS (tS (tS (tS (tS ms 37 (0 : Int32)) 38 ((-1) : Int32)) 7 (nI (a + 1))) 37 (numT T (a + 1))) 7 (nI ((a + 1) + 2))) 3 (nI (T.2.1 ((a + 1) + 2))), by rw [g_31] <;> rfl, hT_112, hG_112, (by omega), fun z => absurd z (by rw [g_31]; exact (by decide : (5 : Nat) ≠ 0)), fun _ => ⟨(mE.of I_26.2.2.2).S (by decide), by rw [g_31] <;> rfl, by rw [g_31]; exact (by decide : (5 : Nat) < 50)⟩⟩ ⟨Nat.zero_le _, Nat.zero_le _⟩
      · skip
        have f_88 : decide (1000 < numT T ((a + 1) + 2)) = false := decide_eq_false c_88
        refine aw_aload_n (n := 92) dX3_bounds_91 rfl 0 rfl rfl ?_
        refine aw_aload_n (n := 93) dX3_bounds_92 rfl 0 rfl rfl ?_
        refine aw_getf (n := 96) (v := .int (nI ((a + 1) + 2))) (C0 := RX3) (T := TX3) dX3_bounds_93 rfl 7 q2648 (Or.inl rfl) hT_20.1 rfl rfl ?_
        refine aw_callV (n := 99) (C0 := RX3) (As := [.int (nI ((a + 1) + 2))]) (rest := []) (K2 := kX3_numberOf) dX3_bounds_96 q2958 q2960 qs71 q113 q2961 ⟨rfl, hcX3_numberOf⟩ rfl hT_20.1 (ct_numberOf G h_20 b (tS (tS (tS (tS (tS ms 37 (0 : Int32)) 38 ((-1) : Int32)) 7 (nI (a + 1))) 37 (numT T (a + 1))) 7 (nI ((a + 1) + 2))) hb hT_20 T ((a + 1) + 2) ((hS.kept I_26.2.2.2).1 ((a + 1) + 2) I_262)) rfl (Nat.le_of_ble_eq_true rfl) ⟨Nat.le_of_ble_eq_true rfl, Nat.le_of_ble_eq_true rfl⟩ ⟨Nat.zero_le _, Nat.zero_le _⟩ (fun _ _ _ z => z.elim) rfl (fun r_96 h_96 q_96 => ?_)
        obtain ⟨rfl, rfl⟩ := q_96
        refine AW.sts (st' := [.int (numT T ((a + 1) + 2))]) rfl ?_
        refine aw_aload_n (n := 100) dX3_bounds_99 rfl 0 rfl rfl ?_
        refine aw_getf (n := 103) (v := .int (numT T (a + 1))) (C0 := RX3) (T := TX3) dX3_bounds_100 rfl 37 q2678 (Or.inl rfl) hT_20.1 rfl rfl ?_
        refine aw_icmp_ge (n := 106) (tgt := 116) dX3_bounds_103 (by decide) rfl (fun c_103 => ?_) (fun c_103 => ?_)
        · skip
          have f_103 : decide (numT T ((a + 1) + 2) < numT T (a + 1)) = false := decide_eq_false (Int32.not_lt.mpr c_103)
          have g_32 := pG_F g_29 (by first | assumption | simp [f_88, f_103])
          try dsimp only at g_32
          refine aw_aload_n (n := 117) dX3_bounds_116 rfl 0 rfl rfl ?_
          refine aw_aload_n (n := 118) dX3_bounds_117 rfl 0 rfl rfl ?_
          refine aw_aload_n (n := 119) dX3_bounds_118 rfl 0 rfl rfl ?_
          refine aw_getf (n := 122) (v := .int (nI ((a + 1) + 2))) (C0 := RX3) (T := TX3) dX3_bounds_119 rfl 7 q2648 (Or.inl rfl) hT_20.1 rfl rfl ?_
          refine aw_callV (n := 125) (C0 := RX3) (As := [.int (nI ((a + 1) + 2))]) (rest := [.ref b]) (K2 := kX3_numberOf) dX3_bounds_122 q2958 q2960 qs71 q113 q2961 ⟨rfl, hcX3_numberOf⟩ rfl hT_20.1 (ct_numberOf G h_20 b (tS (tS (tS (tS (tS ms 37 (0 : Int32)) 38 ((-1) : Int32)) 7 (nI (a + 1))) 37 (numT T (a + 1))) 7 (nI ((a + 1) + 2))) hb hT_20 T ((a + 1) + 2) ((hS.kept I_26.2.2.2).1 ((a + 1) + 2) I_262)) rfl (Nat.le_of_ble_eq_true rfl) ⟨Nat.le_of_ble_eq_true rfl, Nat.le_of_ble_eq_true rfl⟩ ⟨Nat.zero_le _, Nat.zero_le _⟩ (fun _ _ _ z => z.elim) rfl (fun r_122 h_122 q_122 => ?_)
          obtain ⟨rfl, rfl⟩ := q_122
          refine AW.sts (st' := [.int (numT T ((a + 1) + 2)), .ref b]) rfl ?_
          refine aw_tput (n := 128) (k := 38) dX3_bounds_125 q2679 (by decide) rfl rfl rfl rfl rfl hT_20 hb rfl rfl (fun h_33 hT_33 hF_33 hz_33 => ?_)
          have hG_33 := Fr.trans hG_20 hF_33
          have I_34 := I_26.S (k := 38) (v := (numT T ((a + 1) + 2))) (by decide)
          refine aw_aload_n (n := 129) dX3_bounds_128 rfl 0 rfl rfl ?_
          refine aw_dup (n := 130) dX3_bounds_129 rfl rfl ?_
          refine aw_getf (n := 133) (v := .int (nI ((a + 1) + 2))) (C0 := RX3) (T := TX3) dX3_bounds_130 rfl 7 q2648 (Or.inl rfl) hT_33.1 rfl rfl ?_
          refine aw_iconst (n := 134) (v := 2) dX3_bounds_133 (by decide) rfl ?_
          refine aw_iadd (n := 135) dX3_bounds_134 rfl ?_
          refine AW.sts (st' := [.int (nI (((a + 1) + 2) + 2)), .ref b]) (by rw [show (nI ((a + 1) + 2)) + 2 = nI (((a + 1) + 2) + 2) from (by rw [show nI ((a + 1) + 2) = nI ((a + 1) + 2) from rfl, show 2 = nI 2 from (by rfl)]; exact nI_add _ _)]) ?_
          refine aw_tput (n := 138) (k := 7) dX3_bounds_135 q2648 (by decide) rfl rfl rfl rfl rfl hT_33 hb rfl rfl (fun h_35 hT_35 hF_35 hz_35 => ?_)
          have hG_35 := Fr.trans hG_33 hF_35
          have N_36 : ((a + 1) + 2) + 1 ≤ N := lt_end hS.2.1 I_262 ne_30
          try simp only [Bool.true_and, pT, ef, cond_true, gOr, gAnd, gSum, gPro, tS_tS, seesP_eq N_36 hN4 hS.2.1, nmP_eq N_36 hN4 hS.2.1, nuP_eq N_36 hN4 hS.2.1, whP_eq N_36 hN4 hS.2.1] at g_32
          have g_37 := pG_l g_32 h1
          have ne_38 : T.1 (((a + 1) + 2) + 1) ≠ 0 := by have z9 := g_37.1; first | exact seesB_ne z9 | exact isNm_ne z9 | (have z8 := (beq_iff_eq.mp z9); omega) | exact whT_lt (bne_iff_ne.mp z9) | (rcases (Bool.or_eq_true _ _).mp z9 with z8 | z8 <;> first | exact seesB_ne z8 | (rcases (Bool.or_eq_true _ _).mp z8 with z7 | z7 <;> exact seesB_ne z7))
          have g_39 := g_37.2
          try dsimp only at g_39
          have N_40 : (((a + 1) + 2) + 1) + 1 ≤ N := lt_end hS.2.1 N_36 ne_38
          have I_41 := I_34.at (a' := ((a + 1) + 2) + 2) (by omega) (by omega)
          have I_412 : ((a + 1) + 2) + 2 ≤ N := by omega
          have tk_42 := (hS.kept I_41.2.2.2).1 (((a + 1) + 2) + 2) I_412; have Ktk_42 := tk_42.2.1
          try simp only [Bool.true_and, pT, ef, cond_true, gOr, gAnd, gSum, gPro, tS_tS, seesP_eq I_412 hN4 hS.2.1, nmP_eq I_412 hN4 hS.2.1, nuP_eq I_412 hN4 hS.2.1, whP_eq I_412 hN4 hS.2.1] at g_39
          refine aw_iconst (n := 139) (v := 0) dX3_bounds_138 (by decide) rfl ?_
          exact aw_iret dX3_bounds_139 rfl ⟨tS (tS (tS (tS (tS (tS (tS ms 37 (0 : Int32)) 38 ((-1) : Int32)) 7 (nI (a + 1))) 37 (numT T (a + 1))) 7 (nI ((a + 1) + 2))) 38 (numT T ((a + 1) + 2))) 7 (nI (((a + 1) + 2) + 2)), by rw [g_39] <;> rfl, hT_35, hG_35, (by omega), fun _ => by rw [g_39] <;> rfl, fun z => absurd (by rw [g_39] <;> rfl) z⟩ ⟨Nat.zero_le _, Nat.zero_le _⟩
        · skip
          have f_103 : decide (numT T ((a + 1) + 2) < numT T (a + 1)) = true := decide_eq_true (Int32.not_le.mp c_103)
          have g_43 := pG_T g_29 (by first | assumption | simp [f_88, f_103])
          try dsimp only at g_43
          refine aw_aload_n (n := 107) dX3_bounds_106 rfl 0 rfl rfl ?_
          refine aw_iconst (n := 108) (v := 5) dX3_bounds_107 (by decide) rfl ?_
          refine aw_aload_n (n := 109) dX3_bounds_108 rfl 0 rfl rfl ?_
          refine aw_getf (n := 112) (v := .int (nI ((a + 1) + 2))) (C0 := RX3) (T := TX3) dX3_bounds_109 rfl 7 q2648 (Or.inl rfl) hT_20.1 rfl rfl ?_
          refine aw_callV (n := 115) (C0 := RX3) (As := [.int 5, .int (nI ((a + 1) + 2))]) (rest := []) (K2 := kX3_wrong) dX3_bounds_112 q2935 q2937 qs66 q113 q2938 ⟨rfl, hcX3_wrong⟩ rfl hT_20.1 (ct_wrong G h_20 b (tS (tS (tS (tS (tS ms 37 (0 : Int32)) 38 ((-1) : Int32)) 7 (nI (a + 1))) 37 (numT T (a + 1))) 7 (nI ((a + 1) + 2))) hb hT_20 T ((a + 1) + 2) ((hS.kept I_26.2.2.2).1 ((a + 1) + 2) I_262) (5 : Int32)) rfl (Nat.le_of_ble_eq_true rfl) ⟨Nat.le_of_ble_eq_true rfl, Nat.le_of_ble_eq_true rfl⟩ ⟨Nat.zero_le _, Nat.zero_le _⟩ (fun _ _ _ z => z.elim) rfl (fun r_112 h_112 q_112 => ?_)
          obtain ⟨rfl, hT_112, hF_112, hz_112⟩ := q_112
          have hG_112 := Fr.trans hG_20 hF_112
          refine AW.sts (st' := [.int 5]) rfl ?_
          exact aw_iret dX3_bounds_115 rfl ⟨tS (tS (tS (tS (tS (tS ms 37 (0 : Int32)) 38 ((-1) : Int32)) 7 (nI (a + 1))) 37 (numT T (a + 1))) 7 (nI ((a + 1) + 2))) 3 (nI (T.2.1 ((a + 1) + 2))), by rw [g_43] <;> rfl, hT_112, hG_112, (by omega), fun z => absurd z (by rw [g_43]; exact (by decide : (5 : Nat) ≠ 0)), fun _ => ⟨(mE.of I_26.2.2.2).S (by decide), by rw [g_43] <;> rfl, by rw [g_43]; exact (by decide : (5 : Nat) < 50)⟩⟩ ⟨Nat.zero_le _, Nat.zero_le _⟩
    · skip
      have f_42 : decide (1000 < numT T (a + 1)) = true := decide_eq_true (Int32.not_le.mp c_42)
      have g_44 := pG_T g_15 (by first | assumption | simp [f_42])
      try dsimp only at g_44
      refine aw_aload_n (n := 46) dX3_bounds_45 rfl 0 rfl rfl ?_
      refine aw_iconst (n := 47) (v := 5) dX3_bounds_46 (by decide) rfl ?_
      refine aw_aload_n (n := 48) dX3_bounds_47 rfl 0 rfl rfl ?_
      refine aw_getf (n := 51) (v := .int (nI (a + 1))) (C0 := RX3) (T := TX3) dX3_bounds_48 rfl 7 q2648 (Or.inl rfl) hT_10.1 rfl rfl ?_
      refine aw_callV (n := 54) (C0 := RX3) (As := [.int 5, .int (nI (a + 1))]) (rest := []) (K2 := kX3_wrong) dX3_bounds_51 q2935 q2937 qs66 q113 q2938 ⟨rfl, hcX3_wrong⟩ rfl hT_10.1 (ct_wrong G h_10 b (tS (tS (tS ms 37 (0 : Int32)) 38 ((-1) : Int32)) 7 (nI (a + 1))) hb hT_10 T (a + 1) ((hS.kept I_12.2.2.2).1 (a + 1) N_11) (5 : Int32)) rfl (Nat.le_of_ble_eq_true rfl) ⟨Nat.le_of_ble_eq_true rfl, Nat.le_of_ble_eq_true rfl⟩ ⟨Nat.zero_le _, Nat.zero_le _⟩ (fun _ _ _ z => z.elim) rfl (fun r_51 h_51 q_51 => ?_)
      obtain ⟨rfl, hT_51, hF_51, hz_51⟩ := q_51
      have hG_51 := Fr.trans hG_10 hF_51
      refine AW.sts (st' := [.int 5]) rfl ?_
      exact aw_iret dX3_bounds_54 rfl ⟨tS (tS (tS (tS ms 37 (0 : Int32)) 38 ((-1) : Int32)) 7 (nI (a + 1))) 3 (nI (T.2.1 (a + 1))), by rw [g_44] <;> rfl, hT_51, hG_51, (by omega), fun z => absurd z (by rw [g_44]; exact (by decide : (5 : Nat) ≠ 0)), fun _ => ⟨(mE.of I_12.2.2.2).S (by decide), by rw [g_44] <;> rfl, by rw [g_44]; exact (by decide : (5 : Nat) < 50)⟩⟩ ⟨Nat.zero_le _, Nat.zero_le _⟩
  · skip
    have b_16 : (seesB T a (sw 47)) = false := (bI_0 _).mp c_16
    have g_45 := pG_F hg0 (by first | assumption | simp [b_16])
    try dsimp only at g_45
    refine aw_iconst (n := 20) (v := 0) dX3_bounds_19 (by decide) rfl ?_
    exact aw_iret dX3_bounds_20 rfl ⟨tS (tS ms 37 (0 : Int32)) 38 ((-1) : Int32), by rw [g_45] <;> rfl, hT_4, hG_4, (by omega), fun _ => by rw [g_45] <;> rfl, fun z => absurd (by rw [g_45] <;> rfl) z⟩ ⟨Nat.zero_le _, Nat.zero_le _⟩

abbrev kX3_expression : aK := (yX3_expression, cX3_expression, 2, (Option.some Jvm.ClassFile.FieldType.int), [])
theorem hcX3_expression : kX3_expression.1.cls ≠ "java/lang/invoke/MethodHandle" ∧ kX3_expression.1.cls ≠ "java/lang/invoke/VarHandle" ∧ (parseMethodDescriptor kX3_expression.1.desc).map (fun d => d.parameters.length) = some 0 := ⟨by decide, by decide, by decide +kernel⟩
abbrev kX3_factor : aK := (yX3_factor, cX3_factor, 7, (Option.some Jvm.ClassFile.FieldType.int), [])
theorem hcX3_factor : kX3_factor.1.cls ≠ "java/lang/invoke/MethodHandle" ∧ kX3_factor.1.cls ≠ "java/lang/invoke/VarHandle" ∧ (parseMethodDescriptor kX3_factor.1.desc).map (fun d => d.parameters.length) = some 0 := ⟨by decide, by decide, by decide +kernel⟩
abbrev kX3_formula : aK := (yX3_formula, cX3_formula, 3, (Option.some Jvm.ClassFile.FieldType.int), [])
theorem hcX3_formula : kX3_formula.1.cls ≠ "java/lang/invoke/MethodHandle" ∧ kX3_formula.1.cls ≠ "java/lang/invoke/VarHandle" ∧ (parseMethodDescriptor kX3_formula.1.desc).map (fun d => d.parameters.length) = some 0 := ⟨by decide, by decide, by decide +kernel⟩
abbrev kX3_one : aK := (yX3_one, cX3_one, 4, (Option.some Jvm.ClassFile.FieldType.int), [])
theorem hcX3_one : kX3_one.1.cls ≠ "java/lang/invoke/MethodHandle" ∧ kX3_one.1.cls ≠ "java/lang/invoke/VarHandle" ∧ (parseMethodDescriptor kX3_one.1.desc).map (fun d => d.parameters.length) = some 0 := ⟨by decide, by decide, by decide +kernel⟩
abbrev kX3_product : aK := (yX3_product, cX3_product, 2, (Option.some Jvm.ClassFile.FieldType.int), [])
theorem hcX3_product : kX3_product.1.cls ≠ "java/lang/invoke/MethodHandle" ∧ kX3_product.1.cls ≠ "java/lang/invoke/VarHandle" ∧ (parseMethodDescriptor kX3_product.1.desc).map (fun d => d.parameters.length) = some 0 := ⟨by decide, by decide, by decide +kernel⟩
abbrev kX3_row : aK := (yX3_row, cX3_row, 5, (Option.some Jvm.ClassFile.FieldType.int), [])
theorem hcX3_row : kX3_row.1.cls ≠ "java/lang/invoke/MethodHandle" ∧ kX3_row.1.cls ≠ "java/lang/invoke/VarHandle" ∧ (parseMethodDescriptor kX3_row.1.desc).map (fun d => d.parameters.length) = some 1 := ⟨by decide, by decide, by decide +kernel⟩
abbrev kX3_since : aK := (yX3_since, cX3_since, 6, (Option.some Jvm.ClassFile.FieldType.int), [])
theorem hcX3_since : kX3_since.1.cls ≠ "java/lang/invoke/MethodHandle" ∧ kX3_since.1.cls ≠ "java/lang/invoke/VarHandle" ∧ (parseMethodDescriptor kX3_since.1.desc).map (fun d => d.parameters.length) = some 0 := ⟨by decide, by decide, by decide +kernel⟩
abbrev kX3_fronted : aK := (yX3_fronted, cX3_fronted, 6, (Option.some Jvm.ClassFile.FieldType.int), [])
theorem hcX3_fronted : kX3_fronted.1.cls ≠ "java/lang/invoke/MethodHandle" ∧ kX3_fronted.1.cls ≠ "java/lang/invoke/VarHandle" ∧ (parseMethodDescriptor kX3_fronted.1.desc).map (fun d => d.parameters.length) = some 2 := ⟨by decide, by decide, by decide +kernel⟩
abbrev kX3_compare : aK := (yX3_compare, cX3_compare, 5, (Option.some Jvm.ClassFile.FieldType.int), [])
theorem hcX3_compare : kX3_compare.1.cls ≠ "java/lang/invoke/MethodHandle" ∧ kX3_compare.1.cls ≠ "java/lang/invoke/VarHandle" ∧ (parseMethodDescriptor kX3_compare.1.desc).map (fun d => d.parameters.length) = some 1 := ⟨by decide, by decide, by decide +kernel⟩
abbrev kX3_twoSided : aK := (yX3_twoSided, cX3_twoSided, 5, (Option.some Jvm.ClassFile.FieldType.int), [])
theorem hcX3_twoSided : kX3_twoSided.1.cls ≠ "java/lang/invoke/MethodHandle" ∧ kX3_twoSided.1.cls ≠ "java/lang/invoke/VarHandle" ∧ (parseMethodDescriptor kX3_twoSided.1.desc).map (fun d => d.parameters.length) = some 1 := ⟨by decide, by decide, by decide +kernel⟩
abbrev kX3_braces : aK := (yX3_braces, cX3_braces, 2, (Option.some Jvm.ClassFile.FieldType.int), [])
theorem hcX3_braces : kX3_braces.1.cls ≠ "java/lang/invoke/MethodHandle" ∧ kX3_braces.1.cls ≠ "java/lang/invoke/VarHandle" ∧ (parseMethodDescriptor kX3_braces.1.desc).map (fun d => d.parameters.length) = some 0 := ⟨by decide, by decide, by decide +kernel⟩
abbrev kX3_namedValue : aK := (yX3_namedValue, cX3_namedValue, 3, (Option.some Jvm.ClassFile.FieldType.int), [])
theorem hcX3_namedValue : kX3_namedValue.1.cls ≠ "java/lang/invoke/MethodHandle" ∧ kX3_namedValue.1.cls ≠ "java/lang/invoke/VarHandle" ∧ (parseMethodDescriptor kX3_namedValue.1.desc).map (fun d => d.parameters.length) = some 1 := ⟨by decide, by decide, by decide +kernel⟩
def meK (nt : Nat) : aK := match nt with
  | 0 => kX3_formula
  | 1 => kX3_row
  | 2 => kX3_row
  | 3 => kX3_since
  | 4 => kX3_one
  | 5 => kX3_expression
  | 6 => kX3_product
  | _ => kX3_factor
def meA (G : aG) (b nt : Nat) : List Value := match nt with
  | 1 => [.ref b, .ref (gT G 13)]
  | 2 => [.ref b, .ref (gT G 12)]
  | _ => [.ref b]
def meAll (G : aG) (f : Nat) : Prop := ∀ (nt : Nat) (h : hH) (b : Nat) (ms : tM) (T : Tv) (N a d B : Nat), nt < 8 → gB G ≤ b → TW b h ms → tkS ms T N → N ≤ 400 → a ≤ N → f ≤ B → B ≤ 802 → mS B a ms → (pX T true f nt d a ms).1 ≠ 1 → (pX T true f nt d a ms).1 ≠ 99 → Con G (meK nt) (meA G b nt) h ((14 + 2 * f, 500 + 100 * f, 0, 0), (fun r h1 => ∃ m9 : tM, r = some (.int (nI (pX T true f nt d a ms).1)) ∧ TW b h1 m9 ∧ Fr (TS b) h h1 ∧ h1.1 = h.1 ∧ ((pX T true f nt d a ms).1 = 0 → m9 = (pX T true f nt d a ms).2.2.2) ∧ ((pX T true f nt d a ms).1 ≠ 0 → mE ms m9 ∧ m9.1 3 = nI (pX T true f nt d a ms).2.1 ∧ (pX T true f nt d a ms).1 < 50)), nX)
theorem cm_nt0 (G : aG) (h : hH)  (b : Nat) (ms : tM) (T : Tv) (N a : Nat) (hb : gB G ≤ b) (hT : TW b h ms) (hS : tkS ms T N) (hN4 : N ≤ 400) (hN : a ≤ N) (f d B : Nat) (hfB : f ≤ B) (hB : B + 1 ≤ 802) (hm : mS (B + 1) a ms) (h1 : (pX T true (f + 1) 0 d a ms).1 ≠ 1) (h9 : (pX T true (f + 1) 0 d a ms).1 ≠ 99) (ih : meAll G f) : Con G kX3_formula [.ref b] h ((14 + 2 * (f + 1), 500 + 100 * (f + 1), 0, 0), (fun r h1 => ∃ m9 : tM, r = some (.int (nI (pX T true (f + 1) 0 d a ms).1)) ∧ TW b h1 m9 ∧ Fr (TS b) h h1 ∧ h1.1 = h.1 ∧ ((pX T true (f + 1) 0 d a ms).1 = 0 → m9 = (pX T true (f + 1) 0 d a ms).2.2.2) ∧ ((pX T true (f + 1) 0 d a ms).1 ≠ 0 → mE ms m9 ∧ m9.1 3 = nI (pX T true (f + 1) 0 d a ms).2.1 ∧ (pX T true (f + 1) 0 d a ms).1 < 50)), nX) := by
  refine Con.of (plainFor_of_name rfl) rfl (Nat.le_of_ble_eq_true rfl) ?_
  refine AW.eq (lv2 := [(0, .ref b)]) (s2 := []) rfl rfl rfl rfl rfl ?_
  generalize hW_ : pX T true (f + 1) 0 d a ms = W9 at h1 h9 ⊢
  have hI0 : pM (B + 1) a ms a ms := pM.rf hm (by omega)
  have hg0 : W9 = pB0 T true (pX T true f) d a ms := hW_.symm
  unfold pB0 at hg0
  have tk_1 := (hS.kept hI0.2.2.2).1 a hN; have Ktk_1 := tk_1.2.1
  try simp only [Bool.true_and, pT, ef, cond_true, gOr, gAnd, gSum, gPro, tS_tS, seesP_eq hN hN4 hS.2.1, nmP_eq hN hN4 hS.2.1, nuP_eq hN hN4 hS.2.1, whP_eq hN hN4 hS.2.1] at hg0
  refine aw_aload_n (n := 1) dX3_formula_0 rfl 0 rfl rfl ?_
  refine aw_ldcS (n := 3) (q := 13) dX3_formula_1 101 rfl rfl ?_
  obtain ⟨e_3, l_3, a_3, w_3, hR_3⟩ : ∃ (e8 l8 x8 : Nat) (w8 : tM), pX T true f 1 d a ms = (e8, l8, x8, w8) := ⟨_, _, _, _, rfl⟩
  have n1_3 : (pX T true f 1 d a ms).1 ≠ 1 := pG_n hg0 h1 (by decide)
  have n9_3 : (pX T true f 1 d a ms).1 ≠ 99 := pG_n hg0 h9 (by decide)
  have V_3 := (pX_inv T f 1 d a (B + 1) ms (by omega) (by omega) (by omega) hI0.2.2.1).w (fun _ _ z => hI0.trW z)
  have Z_3 := pX_N (T := T) (N := N) (f := f) (nt := 1) (d := d) (a := a) (m := ms) hS.2.1 hN (by omega)
  have U_3 := pX_inv T f 1 d a (B + 1) ms (by omega) (by omega) (by omega) hI0.2.2.1
  rw [hR_3] at U_3
  rw [hR_3] at hg0 V_3 Z_3
  refine aw_callV (n := 6) (C0 := RX3) (As := [.ref (gT G 13)]) (rest := []) (K2 := kX3_row) dX3_formula_3 q2990 q2992 qs79 q113 q2993 ⟨rfl, hcX3_row⟩ rfl hT.1 (ih 1 h b ms T N a d (B + 1) (by decide) hb hT (hS.kept hI0.2.2.2) hN4 hN (by omega) (by omega) hI0.2.2.1 n1_3 n9_3) rfl (Nat.le_of_ble_eq_true rfl) ⟨by dsimp only [kX3_formula, kX3_row, kX3_since, kX3_one, kX3_expression, kX3_product, kX3_factor, kX3_fronted, kX3_compare, kX3_twoSided, kX3_braces, kX3_namedValue, kX3_bounds, kX3_sees, kX3_is, kX3_isName, kX3_which, kX3_numberOf, kX3_find, kX3_node, kX3_wrong, kJ12_length, meK]; omega, by dsimp only [kX3_formula, kX3_row, kX3_since, kX3_one, kX3_expression, kX3_product, kX3_factor, kX3_fronted, kX3_compare, kX3_twoSided, kX3_braces, kX3_namedValue, kX3_bounds, kX3_sees, kX3_is, kX3_isName, kX3_which, kX3_numberOf, kX3_find, kX3_node, kX3_wrong, kJ12_length, meK]; omega⟩ ⟨Nat.zero_le _, Nat.zero_le _⟩ (fun _ _ _ z => z.elim) rfl (fun r_3 h_3 q_3 => ?_)
  obtain ⟨m_3, rfl, hT_3, hF_3, hz_3, ok_3, er_3⟩ := q_3
  rw [hR_3] at ok_3 er_3
  dsimp only at ok_3 er_3
  rcases Nat.eq_zero_or_pos e_3 with y_3 | y_3
  · skip
    subst y_3
    have x_3 := ok_3 rfl
    subst x_3
    refine AW.sts (st' := [.int 0]) (by rw [hR_3]; rfl) ?_
    replace V_3 := V_3 rfl
    replace Z_3 := Z_3 rfl
    dsimp only at V_3 Z_3
    replace U_3 := U_3 rfl
    dsimp only at U_3
    have lt_3 : nN (m_3.1 17) < 1203 := by have := V_3.2.2.1; have := V_3.1.2.2.1.2.2.1; have := V_3.1.2.1; omega
    have g_2 := pG_o hg0
    try dsimp only at g_2
    have tk_3 := (hS.kept V_3.1.2.2.2).1 a_3 Z_3; have Ktk_3 := tk_3.2.1
    try simp only [Bool.true_and, pT, ef, cond_true, gOr, gAnd, gSum, gPro, tS_tS, seesP_eq Z_3 hN4 hS.2.1, nmP_eq Z_3 hN4 hS.2.1, nuP_eq Z_3 hN4 hS.2.1, whP_eq Z_3 hN4 hS.2.1] at g_2
    refine aw_istore_n (n := 7) (lv' := [(1, .int 0), (0, .ref b)]) dX3_formula_6 rfl (by decide) rfl rfl ?_
    refine aw_iload_n (n := 8) dX3_formula_7 rfl 0 rfl rfl ?_
    refine aw_if_ne (n := 11) (tgt := 20) dX3_formula_8 (by decide) rfl (fun c_8 => ?_) (fun c_8 => ?_)
    · skip
      exact absurd c_8 (by decide +kernel)
    · skip
      refine aw_aload_n (n := 12) dX3_formula_11 rfl 1 rfl rfl ?_
      refine aw_ldcS (n := 14) (q := 14) dX3_formula_12 102 rfl rfl ?_
      refine aw_know (fun gd_3 hi_3 => ?_)
      refine aw_callV (n := 17) (C0 := RX3) (As := [.ref (gT G 14)]) (rest := []) (K2 := kX3_sees) dX3_formula_14 q2826 q2828 qs50 q113 q2829 ⟨rfl, hcX3_sees⟩ rfl hT_3.1 (ct_sees G h_3 b m_3 hb hT_3 T a_3 V_3.1.2.2.1.1 tk_3 _ (sw 14) (str_at gd_3 hi_3 (i := 14) rfl) (lo_at (i := 14) rfl)) rfl (Nat.le_of_ble_eq_true rfl) ⟨by dsimp only [kX3_formula, kX3_row, kX3_since, kX3_one, kX3_expression, kX3_product, kX3_factor, kX3_fronted, kX3_compare, kX3_twoSided, kX3_braces, kX3_namedValue, kX3_bounds, kX3_sees, kX3_is, kX3_isName, kX3_which, kX3_numberOf, kX3_find, kX3_node, kX3_wrong, kJ12_length, meK]; omega, by dsimp only [kX3_formula, kX3_row, kX3_since, kX3_one, kX3_expression, kX3_product, kX3_factor, kX3_fronted, kX3_compare, kX3_twoSided, kX3_braces, kX3_namedValue, kX3_bounds, kX3_sees, kX3_is, kX3_isName, kX3_which, kX3_numberOf, kX3_find, kX3_node, kX3_wrong, kJ12_length, meK]; omega⟩ ⟨Nat.zero_le _, Nat.zero_le _⟩ (fun _ _ _ z => z.elim) rfl (fun r_14 h_14 q_14 => ?_)
      obtain ⟨rfl, rfl⟩ := q_14
      refine AW.sts (st' := [.int (bI (seesB T a_3 (sw 14)))]) rfl ?_
      refine aw_if_ne (n := 20) (tgt := 22) dX3_formula_17 (by decide) rfl (fun c_17 => ?_) (fun c_17 => ?_)
      · skip
        have b_17 : (seesB T a_3 (sw 14)) = true := Bool.of_not_eq_false (fun e => c_17 ((bI_0 _).mpr e))
        have g_6 := pG_T g_2 (by first | assumption | simp [b_17])
        try dsimp only at g_6
        have ne_7 : T.1 a_3 ≠ 0 := by have z9 := b_17; first | exact seesB_ne z9 | exact isNm_ne z9 | (have z8 := (beq_iff_eq.mp z9); omega) | exact whT_lt (bne_iff_ne.mp z9) | (rcases (Bool.or_eq_true _ _).mp z9 with z8 | z8 <;> first | exact seesB_ne z8 | (rcases (Bool.or_eq_true _ _).mp z8 with z7 | z7 <;> exact seesB_ne z7))
        refine aw_aload_n (n := 23) dX3_formula_22 rfl 1 rfl rfl ?_
        refine aw_getf (n := 26) (v := .int (m_3.1 17)) (C0 := RX3) (T := TX3) dX3_formula_23 rfl 17 q2658 (Or.inl rfl) hT_3.1 rfl rfl ?_
        refine aw_istore_n (n := 27) (lv' := [(2, .int (m_3.1 17)), (1, .int 0), (0, .ref b)]) dX3_formula_26 rfl (by decide) rfl rfl ?_
        refine aw_aload_n (n := 28) dX3_formula_27 rfl 2 rfl rfl ?_
        refine aw_dup (n := 29) dX3_formula_28 rfl rfl ?_
        refine aw_getf (n := 32) (v := .int (nI a_3)) (C0 := RX3) (T := TX3) dX3_formula_29 rfl 7 q2648 (Or.inl rfl) hT_3.1 (congrArg some (congrArg Value.int V_3.1.2.2.1.1)) rfl ?_
        refine aw_iconst (n := 33) (v := 1) dX3_formula_32 (by decide) rfl ?_
        refine aw_iadd (n := 34) dX3_formula_33 rfl ?_
        refine AW.sts (st' := [.int (nI (a_3 + 1)), .ref b]) (by rw [show (nI a_3) + 1 = nI (a_3 + 1) from (nI_1 _)]) ?_
        refine aw_tput (n := 37) (k := 7) dX3_formula_34 q2648 (by decide) rfl rfl rfl rfl rfl hT_3 hb rfl rfl (fun h_8 hT_8 hF_8 hz_8 => ?_)
        have hG_8 := Fr.trans hF_3 hF_8
        have N_9 : a_3 + 1 ≤ N := lt_end hS.2.1 Z_3 ne_7
        have I_10 := V_3.1.at1 (by omega)
        have tk_11 := (hS.kept I_10.2.2.2).1 (a_3 + 1) N_9; have Ktk_11 := tk_11.2.1
        try simp only [Bool.true_and, pT, ef, cond_true, gOr, gAnd, gSum, gPro, tS_tS, seesP_eq N_9 hN4 hS.2.1, nmP_eq N_9 hN4 hS.2.1, nuP_eq N_9 hN4 hS.2.1, whP_eq N_9 hN4 hS.2.1] at g_6
        refine aw_aload_n (n := 38) dX3_formula_37 rfl 2 rfl rfl ?_
        obtain ⟨e_38, l_38, a_38, w_38, hR_38⟩ : ∃ (e8 l8 x8 : Nat) (w8 : tM), pX T true f 0 d (a_3 + 1) (tS m_3 7 (nI (a_3 + 1))) = (e8, l8, x8, w8) := ⟨_, _, _, _, rfl⟩
        have n1_38 : (pX T true f 0 d (a_3 + 1) (tS m_3 7 (nI (a_3 + 1)))).1 ≠ 1 := pG_n g_6 h1 (by decide)
        have n9_38 : (pX T true f 0 d (a_3 + 1) (tS m_3 7 (nI (a_3 + 1)))).1 ≠ 99 := pG_n g_6 h9 (by decide)
        have V_38 := (pX_inv T f 0 d (a_3 + 1) (B) (tS m_3 7 (nI (a_3 + 1))) (by omega) (by omega) (by omega) I_10.2.2.1).w (fun _ _ z => I_10.trW z)
        have Z_38 := pX_N (T := T) (N := N) (f := f) (nt := 0) (d := d) (a := a_3 + 1) (m := tS m_3 7 (nI (a_3 + 1))) hS.2.1 N_9 (by omega)
        have U_38 := pX_inv T f 0 d (a_3 + 1) (B) (tS m_3 7 (nI (a_3 + 1))) (by omega) (by omega) (by omega) I_10.2.2.1
        rw [hR_38] at U_38
        rw [hR_38] at g_6 V_38 Z_38
        refine aw_callV (n := 41) (C0 := RX3) (As := []) (rest := []) (K2 := kX3_formula) dX3_formula_38 q2986 q2988 qs78 q113 q2989 ⟨rfl, hcX3_formula⟩ rfl hT_8.1 (ih 0 h_8 b (tS m_3 7 (nI (a_3 + 1))) T N (a_3 + 1) d (B) (by decide) hb hT_8 (hS.kept I_10.2.2.2) hN4 N_9 (by omega) (by omega) I_10.2.2.1 n1_38 n9_38) rfl (Nat.le_of_ble_eq_true rfl) ⟨by dsimp only [kX3_formula, kX3_row, kX3_since, kX3_one, kX3_expression, kX3_product, kX3_factor, kX3_fronted, kX3_compare, kX3_twoSided, kX3_braces, kX3_namedValue, kX3_bounds, kX3_sees, kX3_is, kX3_isName, kX3_which, kX3_numberOf, kX3_find, kX3_node, kX3_wrong, kJ12_length, meK]; omega, by dsimp only [kX3_formula, kX3_row, kX3_since, kX3_one, kX3_expression, kX3_product, kX3_factor, kX3_fronted, kX3_compare, kX3_twoSided, kX3_braces, kX3_namedValue, kX3_bounds, kX3_sees, kX3_is, kX3_isName, kX3_which, kX3_numberOf, kX3_find, kX3_node, kX3_wrong, kJ12_length, meK]; omega⟩ ⟨Nat.zero_le _, Nat.zero_le _⟩ (fun _ _ _ z => z.elim) rfl (fun r_38 h_38 q_38 => ?_)
        obtain ⟨m_38, rfl, hT_38, hF_38, hz_38, ok_38, er_38⟩ := q_38
        rw [hR_38] at ok_38 er_38
        dsimp only at ok_38 er_38
        have hG_38 := Fr.trans hG_8 hF_38
        rcases Nat.eq_zero_or_pos e_38 with y_38 | y_38
        · skip
          subst y_38
          have x_38 := ok_38 rfl
          subst x_38
          refine AW.sts (st' := [.int 0]) (by rw [hR_38]; rfl) ?_
          replace V_38 := V_38 rfl
          replace Z_38 := Z_38 rfl
          dsimp only at V_38 Z_38
          replace U_38 := U_38 rfl
          dsimp only at U_38
          have lt_38 : nN (m_38.1 17) < 1203 := by have := V_38.2.2.1; have := V_38.1.2.2.1.2.2.1; have := V_38.1.2.1; omega
          have g_12 := pG_o g_6
          try dsimp only at g_12
          have tk_13 := (hS.kept V_38.1.2.2.2).1 a_38 Z_38; have Ktk_13 := tk_13.2.1
          try simp only [Bool.true_and, pT, ef, cond_true, gOr, gAnd, gSum, gPro, tS_tS, seesP_eq Z_38 hN4 hS.2.1, nmP_eq Z_38 hN4 hS.2.1, nuP_eq Z_38 hN4 hS.2.1, whP_eq Z_38 hN4 hS.2.1] at g_12
          refine aw_istore_n (n := 42) (lv' := [(1, .int 0), (2, .int (m_3.1 17)), (0, .ref b)]) dX3_formula_41 rfl (by decide) rfl rfl ?_
          refine aw_iload_n (n := 43) dX3_formula_42 rfl 0 rfl rfl ?_
          refine aw_if_eq (n := 46) (tgt := 50) dX3_formula_43 (by decide) rfl (fun c_43 => ?_) (fun c_43 => ?_)
          · skip
            refine aw_aload_n (n := 51) dX3_formula_50 rfl 2 rfl rfl ?_
            refine aw_bipush (n := 53) (v := 13) dX3_formula_51 (by decide) rfl ?_
            refine aw_iload_n (n := 54) dX3_formula_53 rfl 1 rfl rfl ?_
            refine aw_aload_n (n := 55) dX3_formula_54 rfl 2 rfl rfl ?_
            refine aw_getf (n := 58) (v := .int (m_38.1 17)) (C0 := RX3) (T := TX3) dX3_formula_55 rfl 17 q2658 (Or.inl rfl) hT_38.1 rfl rfl ?_
            refine aw_iconst (n := 59) (v := (-1)) dX3_formula_58 (by decide) rfl ?_
            refine aw_aload_n (n := 60) dX3_formula_59 rfl 2 rfl rfl ?_
            refine aw_getf (n := 63) (v := .ref (b + 11)) (C0 := RX3) (T := TX3) dX3_formula_60 rfl 15 q2656 (Or.inl rfl) hT_38.1 rfl rfl ?_
            refine aw_iload_n (n := 64) dX3_formula_63 rfl 1 rfl rfl ?_
            refine aw_iald (n := 65) (v := .int (m_38.2.1 15 (nN (m_3.1 17)))) dX3_formula_64 rfl (nN (m_3.1 17)) V_3.2.1 hT_38.a15 (by omega) (by decide) rfl rfl ?_
            have nlt_65 : nn m_38 < 1203 := Nat.lt_of_le_of_lt V_38.1.2.2.1.2.2.1 (by have := V_38.1.2.1; omega)
            refine aw_callV (n := 68) (C0 := RX3) (As := [.int 13, .int (m_3.1 17), .int (m_38.1 17), .int (-1), .int (m_38.2.1 15 (nN (m_3.1 17)))]) (rest := []) (K2 := kX3_node) dX3_formula_65 q2974 q2976 qs75 q113 q2977 ⟨rfl, hcX3_node⟩ rfl hT_38.1 (ct_node G h_38 b m_38 hb hT_38 (13 : Int32) (m_3.1 17) (m_38.1 17) ((-1) : Int32) (m_38.2.1 15 (nN (m_3.1 17))) V_38.1.2.2.1.2.1 (by have := V_38.1.2.2.1.2.2.1; have := V_38.1.2.1; omega)) rfl (Nat.le_of_ble_eq_true rfl) ⟨by dsimp only [kX3_formula, kX3_row, kX3_since, kX3_one, kX3_expression, kX3_product, kX3_factor, kX3_fronted, kX3_compare, kX3_twoSided, kX3_braces, kX3_namedValue, kX3_bounds, kX3_sees, kX3_is, kX3_isName, kX3_which, kX3_numberOf, kX3_find, kX3_node, kX3_wrong, kJ12_length, meK]; omega, by dsimp only [kX3_formula, kX3_row, kX3_since, kX3_one, kX3_expression, kX3_product, kX3_factor, kX3_fronted, kX3_compare, kX3_twoSided, kX3_braces, kX3_namedValue, kX3_bounds, kX3_sees, kX3_is, kX3_isName, kX3_which, kX3_numberOf, kX3_find, kX3_node, kX3_wrong, kJ12_length, meK]; omega⟩ ⟨Nat.zero_le _, Nat.zero_le _⟩ (fun _ _ _ z => z.elim) rfl (fun r_65 h_65 q_65 => ?_)
            obtain ⟨rfl, hT_65, hF_65, hz_65⟩ := q_65
            have hG_65 := Fr.trans hG_38 hF_65
            refine AW.sts (st' := [.int 0]) rfl ?_
            exact aw_iret dX3_formula_68 rfl ⟨nodT m_38 (13 : Int32) (m_3.1 17) (m_38.1 17) ((-1) : Int32) (m_38.2.1 15 (nN (m_3.1 17))), by rw [g_12] <;> rfl, hT_65, hG_65, (by omega), fun _ => by rw [g_12] <;> rfl, fun z => absurd (by rw [g_12] <;> rfl) z⟩ ⟨Nat.zero_le _, Nat.zero_le _⟩
          · skip
            exact absurd c_43 (by decide +kernel)
        · skip
          refine AW.sts (st' := [.int (nI e_38)]) (by rw [hR_38]; rfl) ?_
          have gE_38 : W9 = (e_38, l_38, a_38, w_38) := pG_er g_6 (by omega)
          replace er_38 := er_38 (by omega)
          have E_38 := mE.tr I_10.2.2.2 er_38.1
          have P_38 := er_38.2.1
          refine aw_istore_n (n := 42) (lv' := [(1, .int (nI e_38)), (2, .int (m_3.1 17)), (0, .ref b)]) dX3_formula_41 rfl (by decide) rfl rfl ?_
          refine aw_iload_n (n := 43) dX3_formula_42 rfl 0 rfl rfl ?_
          refine aw_if_eq (n := 46) (tgt := 50) dX3_formula_43 (by decide) rfl (fun c_43_2 => ?_) (fun c_43_2 => ?_)
          · skip
            have n_43_2 : e_38 = 0 := (nI_eq (a := e_38) (b := 0) (by omega) (by omega)).mp (by rw [← ((by rfl) : (0 : Int32) = nI 0)]; exact c_43_2)
            exact absurd n_43_2 (by omega)
          · skip
            have n_43_2 : ¬ (e_38 = 0) := fun z => c_43_2 (by have y := (nI_eq (a := e_38) (b := 0) (by omega) (by omega)).mpr z; rw [← ((by rfl) : (0 : Int32) = nI 0)] at y; exact y)
            refine aw_iload_n (n := 47) dX3_formula_46 rfl 0 rfl rfl ?_
            refine aw_goto (tgt := 68) dX3_formula_47 (by decide) ?_
            exact aw_iret dX3_formula_68 rfl ⟨m_38, by rw [gE_38], hT_38, hG_38, (by omega), fun z => absurd z (by rw [gE_38]; show e_38 ≠ 0; omega), fun _ => ⟨E_38, by rw [gE_38]; exact P_38, by rw [gE_38]; exact er_38.2.2⟩⟩ ⟨Nat.zero_le _, Nat.zero_le _⟩
      · skip
        have b_17 : (seesB T a_3 (sw 14)) = false := (bI_0 _).mp c_17
        have g_14 := pG_F g_2 (by first | assumption | simp [b_17])
        try dsimp only at g_14
        refine aw_iload_n (n := 21) dX3_formula_20 rfl 0 rfl rfl ?_
        exact aw_iret dX3_formula_21 rfl ⟨m_3, by rw [g_14] <;> rfl, hT_3, hF_3, (by omega), fun _ => by rw [g_14] <;> rfl, fun z => absurd (by rw [g_14] <;> rfl) z⟩ ⟨Nat.zero_le _, Nat.zero_le _⟩
  · skip
    refine AW.sts (st' := [.int (nI e_3)]) (by rw [hR_3]; rfl) ?_
    have gE_3 : W9 = (e_3, l_3, a_3, w_3) := pG_er hg0 (by omega)
    replace er_3 := er_3 (by omega)
    have E_3 := mE.tr hI0.2.2.2 er_3.1
    have P_3 := er_3.2.1
    refine aw_istore_n (n := 7) (lv' := [(1, .int (nI e_3)), (0, .ref b)]) dX3_formula_6 rfl (by decide) rfl rfl ?_
    refine aw_iload_n (n := 8) dX3_formula_7 rfl 0 rfl rfl ?_
    refine aw_if_ne (n := 11) (tgt := 20) dX3_formula_8 (by decide) rfl (fun c_8_2 => ?_) (fun c_8_2 => ?_)
    · skip
      have n_8_2 : ¬ (e_3 = 0) := fun z => c_8_2 (by have y := (nI_eq (a := e_3) (b := 0) (by omega) (by omega)).mpr z; rw [← ((by rfl) : (0 : Int32) = nI 0)] at y; exact y)
      refine aw_iload_n (n := 21) dX3_formula_20 rfl 0 rfl rfl ?_
      exact aw_iret dX3_formula_21 rfl ⟨m_3, by rw [gE_3], hT_3, hF_3, (by omega), fun z => absurd z (by rw [gE_3]; show e_3 ≠ 0; omega), fun _ => ⟨E_3, by rw [gE_3]; exact P_3, by rw [gE_3]; exact er_3.2.2⟩⟩ ⟨Nat.zero_le _, Nat.zero_le _⟩
    · skip
      have n_8_2 : e_3 = 0 := (nI_eq (a := e_3) (b := 0) (by omega) (by omega)).mp (by rw [← ((by rfl) : (0 : Int32) = nI 0)]; exact c_8_2)
      exact absurd n_8_2 (by omega)

theorem cm_nt3 (G : aG) (h : hH)  (b : Nat) (ms : tM) (T : Tv) (N a : Nat) (hb : gB G ≤ b) (hT : TW b h ms) (hS : tkS ms T N) (hN4 : N ≤ 400) (hN : a ≤ N) (f d B : Nat) (hfB : f ≤ B) (hB : B + 1 ≤ 802) (hm : mS (B + 1) a ms) (h1 : (pX T true (f + 1) 3 d a ms).1 ≠ 1) (h9 : (pX T true (f + 1) 3 d a ms).1 ≠ 99) (ih : meAll G f) : Con G kX3_since [.ref b] h ((14 + 2 * (f + 1), 500 + 100 * (f + 1), 0, 0), (fun r h1 => ∃ m9 : tM, r = some (.int (nI (pX T true (f + 1) 3 d a ms).1)) ∧ TW b h1 m9 ∧ Fr (TS b) h h1 ∧ h1.1 = h.1 ∧ ((pX T true (f + 1) 3 d a ms).1 = 0 → m9 = (pX T true (f + 1) 3 d a ms).2.2.2) ∧ ((pX T true (f + 1) 3 d a ms).1 ≠ 0 → mE ms m9 ∧ m9.1 3 = nI (pX T true (f + 1) 3 d a ms).2.1 ∧ (pX T true (f + 1) 3 d a ms).1 < 50)), nX) := by
  refine Con.of (plainFor_of_name rfl) rfl (Nat.le_of_ble_eq_true rfl) ?_
  refine AW.eq (lv2 := [(0, .ref b)]) (s2 := []) rfl rfl rfl rfl rfl ?_
  generalize hW_ : pX T true (f + 1) 3 d a ms = W9 at h1 h9 ⊢
  have hI0 : pM (B + 1) a ms a ms := pM.rf hm (by omega)
  have hg0 : W9 = pB3 T true (pX T true f) d a ms := hW_.symm
  unfold pB3 at hg0
  have tk_1 := (hS.kept hI0.2.2.2).1 a hN; have Ktk_1 := tk_1.2.1
  try simp only [Bool.true_and, pT, ef, cond_true, gOr, gAnd, gSum, gPro, tS_tS, seesP_eq hN hN4 hS.2.1, nmP_eq hN hN4 hS.2.1, nuP_eq hN hN4 hS.2.1, whP_eq hN hN4 hS.2.1] at hg0
  refine aw_aload_n (n := 1) dX3_since_0 rfl 0 rfl rfl ?_
  refine aw_getf (n := 4) (v := .int (nI a)) (C0 := RX3) (T := TX3) dX3_since_1 rfl 7 q2648 (Or.inl rfl) hT.1 (congrArg some (congrArg Value.int hI0.2.2.1.1)) rfl ?_
  refine aw_istore_n (n := 5) (lv' := [(1, .int (nI a)), (0, .ref b)]) dX3_since_4 rfl (by decide) rfl rfl ?_
  refine aw_aload_n (n := 6) dX3_since_5 rfl 1 rfl rfl ?_
  obtain ⟨e_6, l_6, a_6, w_6, hR_6⟩ : ∃ (e8 l8 x8 : Nat) (w8 : tM), pX T true f 4 d a ms = (e8, l8, x8, w8) := ⟨_, _, _, _, rfl⟩
  have n1_6 : (pX T true f 4 d a ms).1 ≠ 1 := pG_n hg0 h1 (by decide)
  have n9_6 : (pX T true f 4 d a ms).1 ≠ 99 := pG_n hg0 h9 (by decide)
  have V_6 := (pX_inv T f 4 d a (B + 1) ms (by omega) (by omega) (by omega) hI0.2.2.1).w (fun _ _ z => hI0.trW z)
  have Z_6 := pX_N (T := T) (N := N) (f := f) (nt := 4) (d := d) (a := a) (m := ms) hS.2.1 hN (by omega)
  have U_6 := pX_inv T f 4 d a (B + 1) ms (by omega) (by omega) (by omega) hI0.2.2.1
  rw [hR_6] at U_6
  rw [hR_6] at hg0 V_6 Z_6
  refine aw_callV (n := 9) (C0 := RX3) (As := []) (rest := []) (K2 := kX3_one) dX3_since_6 q2998 q3000 qs81 q113 q3001 ⟨rfl, hcX3_one⟩ rfl hT.1 (ih 4 h b ms T N a d (B + 1) (by decide) hb hT (hS.kept hI0.2.2.2) hN4 hN (by omega) (by omega) hI0.2.2.1 n1_6 n9_6) rfl (Nat.le_of_ble_eq_true rfl) ⟨by dsimp only [kX3_formula, kX3_row, kX3_since, kX3_one, kX3_expression, kX3_product, kX3_factor, kX3_fronted, kX3_compare, kX3_twoSided, kX3_braces, kX3_namedValue, kX3_bounds, kX3_sees, kX3_is, kX3_isName, kX3_which, kX3_numberOf, kX3_find, kX3_node, kX3_wrong, kJ12_length, meK]; omega, by dsimp only [kX3_formula, kX3_row, kX3_since, kX3_one, kX3_expression, kX3_product, kX3_factor, kX3_fronted, kX3_compare, kX3_twoSided, kX3_braces, kX3_namedValue, kX3_bounds, kX3_sees, kX3_is, kX3_isName, kX3_which, kX3_numberOf, kX3_find, kX3_node, kX3_wrong, kJ12_length, meK]; omega⟩ ⟨Nat.zero_le _, Nat.zero_le _⟩ (fun _ _ _ z => z.elim) rfl (fun r_6 h_6 q_6 => ?_)
  obtain ⟨m_6, rfl, hT_6, hF_6, hz_6, ok_6, er_6⟩ := q_6
  rw [hR_6] at ok_6 er_6
  dsimp only at ok_6 er_6
  rcases Nat.eq_zero_or_pos e_6 with y_6 | y_6
  · skip
    subst y_6
    have x_6 := ok_6 rfl
    subst x_6
    refine AW.sts (st' := [.int 0]) (by rw [hR_6]; rfl) ?_
    replace V_6 := V_6 rfl
    replace Z_6 := Z_6 rfl
    dsimp only at V_6 Z_6
    replace U_6 := U_6 rfl
    dsimp only at U_6
    have lt_6 : nN (m_6.1 17) < 1203 := by have := V_6.2.2.1; have := V_6.1.2.2.1.2.2.1; have := V_6.1.2.1; omega
    have g_2 := pG_o hg0
    try dsimp only at g_2
    have tk_3 := (hS.kept V_6.1.2.2.2).1 a_6 Z_6; have Ktk_3 := tk_3.2.1
    try simp only [Bool.true_and, pT, ef, cond_true, gOr, gAnd, gSum, gPro, tS_tS, seesP_eq Z_6 hN4 hS.2.1, nmP_eq Z_6 hN4 hS.2.1, nuP_eq Z_6 hN4 hS.2.1, whP_eq Z_6 hN4 hS.2.1] at g_2
    refine aw_istore_n (n := 10) (lv' := [(2, .int 0), (1, .int (nI a)), (0, .ref b)]) dX3_since_9 rfl (by decide) rfl rfl ?_
    refine aw_iload_n (n := 11) dX3_since_10 rfl 0 rfl rfl ?_
    refine aw_if_ne (n := 14) (tgt := 23) dX3_since_11 (by decide) rfl (fun c_11 => ?_) (fun c_11 => ?_)
    · skip
      exact absurd c_11 (by decide +kernel)
    · skip
      refine aw_aload_n (n := 15) dX3_since_14 rfl 2 rfl rfl ?_
      refine aw_ldcS (n := 17) (q := 11) dX3_since_15 104 rfl rfl ?_
      refine aw_know (fun gd_3 hi_3 => ?_)
      refine aw_callV (n := 20) (C0 := RX3) (As := [.ref (gT G 11)]) (rest := []) (K2 := kX3_sees) dX3_since_17 q2826 q2828 qs50 q113 q2829 ⟨rfl, hcX3_sees⟩ rfl hT_6.1 (ct_sees G h_6 b m_6 hb hT_6 T a_6 V_6.1.2.2.1.1 tk_3 _ (sw 11) (str_at gd_3 hi_3 (i := 11) rfl) (lo_at (i := 11) rfl)) rfl (Nat.le_of_ble_eq_true rfl) ⟨by dsimp only [kX3_formula, kX3_row, kX3_since, kX3_one, kX3_expression, kX3_product, kX3_factor, kX3_fronted, kX3_compare, kX3_twoSided, kX3_braces, kX3_namedValue, kX3_bounds, kX3_sees, kX3_is, kX3_isName, kX3_which, kX3_numberOf, kX3_find, kX3_node, kX3_wrong, kJ12_length, meK]; omega, by dsimp only [kX3_formula, kX3_row, kX3_since, kX3_one, kX3_expression, kX3_product, kX3_factor, kX3_fronted, kX3_compare, kX3_twoSided, kX3_braces, kX3_namedValue, kX3_bounds, kX3_sees, kX3_is, kX3_isName, kX3_which, kX3_numberOf, kX3_find, kX3_node, kX3_wrong, kJ12_length, meK]; omega⟩ ⟨Nat.zero_le _, Nat.zero_le _⟩ (fun _ _ _ z => z.elim) rfl (fun r_17 h_17 q_17 => ?_)
      obtain ⟨rfl, rfl⟩ := q_17
      refine AW.sts (st' := [.int (bI (seesB T a_6 (sw 11)))]) rfl ?_
      refine aw_if_ne (n := 23) (tgt := 25) dX3_since_20 (by decide) rfl (fun c_20 => ?_) (fun c_20 => ?_)
      · skip
        have b_20 : (seesB T a_6 (sw 11)) = true := Bool.of_not_eq_false (fun e => c_20 ((bI_0 _).mpr e))
        have g_6 := pG_T g_2 (by first | assumption | simp [b_20])
        try dsimp only at g_6
        have ne_7 : T.1 a_6 ≠ 0 := by have z9 := b_20; first | exact seesB_ne z9 | exact isNm_ne z9 | (have z8 := (beq_iff_eq.mp z9); omega) | exact whT_lt (bne_iff_ne.mp z9) | (rcases (Bool.or_eq_true _ _).mp z9 with z8 | z8 <;> first | exact seesB_ne z8 | (rcases (Bool.or_eq_true _ _).mp z8 with z7 | z7 <;> exact seesB_ne z7))
        refine aw_aload_n (n := 26) dX3_since_25 rfl 2 rfl rfl ?_
        refine aw_getf (n := 29) (v := .int (m_6.1 17)) (C0 := RX3) (T := TX3) dX3_since_26 rfl 17 q2658 (Or.inl rfl) hT_6.1 rfl rfl ?_
        refine aw_istore_n (n := 30) (lv' := [(3, .int (m_6.1 17)), (2, .int 0), (1, .int (nI a)), (0, .ref b)]) dX3_since_29 rfl (by decide) rfl rfl ?_
        refine aw_aload_n (n := 31) dX3_since_30 rfl 3 rfl rfl ?_
        refine aw_dup (n := 32) dX3_since_31 rfl rfl ?_
        refine aw_getf (n := 35) (v := .int (nI a_6)) (C0 := RX3) (T := TX3) dX3_since_32 rfl 7 q2648 (Or.inl rfl) hT_6.1 (congrArg some (congrArg Value.int V_6.1.2.2.1.1)) rfl ?_
        refine aw_iconst (n := 36) (v := 1) dX3_since_35 (by decide) rfl ?_
        refine aw_iadd (n := 37) dX3_since_36 rfl ?_
        refine AW.sts (st' := [.int (nI (a_6 + 1)), .ref b]) (by rw [show (nI a_6) + 1 = nI (a_6 + 1) from (nI_1 _)]) ?_
        refine aw_tput (n := 40) (k := 7) dX3_since_37 q2648 (by decide) rfl rfl rfl rfl rfl hT_6 hb rfl rfl (fun h_8 hT_8 hF_8 hz_8 => ?_)
        have hG_8 := Fr.trans hF_6 hF_8
        have N_9 : a_6 + 1 ≤ N := lt_end hS.2.1 Z_6 ne_7
        have I_10 := V_6.1.at1 (by omega)
        have tk_11 := (hS.kept I_10.2.2.2).1 (a_6 + 1) N_9; have Ktk_11 := tk_11.2.1
        try simp only [Bool.true_and, pT, ef, cond_true, gOr, gAnd, gSum, gPro, tS_tS, seesP_eq N_9 hN4 hS.2.1, nmP_eq N_9 hN4 hS.2.1, nuP_eq N_9 hN4 hS.2.1, whP_eq N_9 hN4 hS.2.1] at g_6
        refine aw_aload_n (n := 41) dX3_since_40 rfl 3 rfl rfl ?_
        obtain ⟨e_41, l_41, a_41, w_41, hR_41⟩ : ∃ (e8 l8 x8 : Nat) (w8 : tM), pBd T true (a_6 + 1) (tS m_6 7 (nI (a_6 + 1))) = (e8, l8, x8, w8) := ⟨_, _, _, _, rfl⟩
        have n1_41 : (pBd T true (a_6 + 1) (tS m_6 7 (nI (a_6 + 1)))).1 ≠ 1 := pG_n g_6 h1 (by decide)
        have n9_41 : (pBd T true (a_6 + 1) (tS m_6 7 (nI (a_6 + 1)))).1 ≠ 99 := pG_n g_6 h9 (by decide)
        have V_41 := pBd_inv (T := T) I_10
        have Z_41 := pBd_N (T := T) (N := N) (a := a_6 + 1) (m := tS m_6 7 (nI (a_6 + 1))) hS.2.1 N_9 (by omega)
        rw [hR_41] at g_6 V_41 Z_41
        refine aw_callV (n := 44) (C0 := RX3) (As := []) (rest := []) (K2 := kX3_bounds) dX3_since_41 q3006 q3008 qs83 q113 q3009 ⟨rfl, hcX3_bounds⟩ rfl hT_8.1 (cm_bounds G h_8 b (tS m_6 7 (nI (a_6 + 1))) T N (a_6 + 1) hb hT_8 (hS.kept I_10.2.2.2) hN4 N_9 B (by omega) I_10.2.2.1.up n1_41) rfl (Nat.le_of_ble_eq_true rfl) ⟨by dsimp only [kX3_formula, kX3_row, kX3_since, kX3_one, kX3_expression, kX3_product, kX3_factor, kX3_fronted, kX3_compare, kX3_twoSided, kX3_braces, kX3_namedValue, kX3_bounds, kX3_sees, kX3_is, kX3_isName, kX3_which, kX3_numberOf, kX3_find, kX3_node, kX3_wrong, kJ12_length, meK]; omega, by dsimp only [kX3_formula, kX3_row, kX3_since, kX3_one, kX3_expression, kX3_product, kX3_factor, kX3_fronted, kX3_compare, kX3_twoSided, kX3_braces, kX3_namedValue, kX3_bounds, kX3_sees, kX3_is, kX3_isName, kX3_which, kX3_numberOf, kX3_find, kX3_node, kX3_wrong, kJ12_length, meK]; omega⟩ ⟨Nat.zero_le _, Nat.zero_le _⟩ (fun _ _ _ z => z.elim) rfl (fun r_41 h_41 q_41 => ?_)
        obtain ⟨m_41, rfl, hT_41, hF_41, hz_41, ok_41, er_41⟩ := q_41
        rw [hR_41] at ok_41 er_41
        dsimp only at ok_41 er_41
        have hG_41 := Fr.trans hG_8 hF_41
        rcases Nat.eq_zero_or_pos e_41 with y_41 | y_41
        · skip
          subst y_41
          have x_41 := ok_41 rfl
          subst x_41
          refine AW.sts (st' := [.int 0]) (by rw [hR_41]; rfl) ?_
          replace V_41 := V_41 rfl
          replace Z_41 := Z_41 rfl
          dsimp only at V_41 Z_41
          have g_12 := pG_o g_6
          try dsimp only at g_12
          have tk_13 := (hS.kept V_41.2.2.2).1 a_41 Z_41; have Ktk_13 := tk_13.2.1
          try simp only [Bool.true_and, pT, ef, cond_true, gOr, gAnd, gSum, gPro, tS_tS, seesP_eq Z_41 hN4 hS.2.1, nmP_eq Z_41 hN4 hS.2.1, nuP_eq Z_41 hN4 hS.2.1, whP_eq Z_41 hN4 hS.2.1] at g_12
          refine aw_istore_n (n := 45) (lv' := [(2, .int 0), (3, .int (m_6.1 17)), (1, .int (nI a)), (0, .ref b)]) dX3_since_44 rfl (by decide) rfl rfl ?_
          refine aw_aload_n (n := 46) dX3_since_45 rfl 3 rfl rfl ?_
          refine aw_getf (n := 49) (v := .int (m_41.1 37)) (C0 := RX3) (T := TX3) dX3_since_46 rfl 37 q2678 (Or.inl rfl) hT_41.1 rfl rfl ?_
          refine aw_istore (n := 51) (lv' := [(4, .int (m_41.1 37)), (2, .int 0), (3, .int (m_6.1 17)), (1, .int (nI a)), (0, .ref b)]) dX3_since_49 (by decide) rfl rfl ?_
          refine aw_aload_n (n := 52) dX3_since_51 rfl 4 rfl rfl ?_
          refine aw_getf (n := 55) (v := .int (m_41.1 38)) (C0 := RX3) (T := TX3) dX3_since_52 rfl 38 q2679 (Or.inl rfl) hT_41.1 rfl rfl ?_
          refine aw_istore (n := 57) (lv' := [(5, .int (m_41.1 38)), (4, .int (m_41.1 37)), (2, .int 0), (3, .int (m_6.1 17)), (1, .int (nI a)), (0, .ref b)]) dX3_since_55 (by decide) rfl rfl ?_
          refine aw_iload_n (n := 58) dX3_since_57 rfl 2 rfl rfl ?_
          refine aw_if_ne (n := 61) (tgt := 66) dX3_since_58 (by decide) rfl (fun c_58 => ?_) (fun c_58 => ?_)
          · skip
            exact absurd c_58 (by decide +kernel)
          · skip
            refine aw_aload_n (n := 62) dX3_since_61 rfl 5 rfl rfl ?_
            obtain ⟨e_62, l_62, a_62, w_62, hR_62⟩ : ∃ (e8 l8 x8 : Nat) (w8 : tM), pX T true f 4 d a_41 m_41 = (e8, l8, x8, w8) := ⟨_, _, _, _, rfl⟩
            have n1_62 : (pX T true f 4 d a_41 m_41).1 ≠ 1 := pG_n g_12 h1 (by decide)
            have n9_62 : (pX T true f 4 d a_41 m_41).1 ≠ 99 := pG_n g_12 h9 (by decide)
            have V_62 := (pX_inv T f 4 d a_41 (B) m_41 (by omega) (by omega) (by omega) V_41.2.2.1).w (fun _ _ z => V_41.trW z)
            have Z_62 := pX_N (T := T) (N := N) (f := f) (nt := 4) (d := d) (a := a_41) (m := m_41) hS.2.1 Z_41 (by omega)
            have U_62 := pX_inv T f 4 d a_41 (B) m_41 (by omega) (by omega) (by omega) V_41.2.2.1
            rw [hR_62] at U_62
            rw [hR_62] at g_12 V_62 Z_62
            refine aw_callV (n := 65) (C0 := RX3) (As := []) (rest := []) (K2 := kX3_one) dX3_since_62 q2998 q3000 qs81 q113 q3001 ⟨rfl, hcX3_one⟩ rfl hT_41.1 (ih 4 h_41 b m_41 T N a_41 d (B) (by decide) hb hT_41 (hS.kept V_41.2.2.2) hN4 Z_41 (by omega) (by omega) V_41.2.2.1 n1_62 n9_62) rfl (Nat.le_of_ble_eq_true rfl) ⟨by dsimp only [kX3_formula, kX3_row, kX3_since, kX3_one, kX3_expression, kX3_product, kX3_factor, kX3_fronted, kX3_compare, kX3_twoSided, kX3_braces, kX3_namedValue, kX3_bounds, kX3_sees, kX3_is, kX3_isName, kX3_which, kX3_numberOf, kX3_find, kX3_node, kX3_wrong, kJ12_length, meK]; omega, by dsimp only [kX3_formula, kX3_row, kX3_since, kX3_one, kX3_expression, kX3_product, kX3_factor, kX3_fronted, kX3_compare, kX3_twoSided, kX3_braces, kX3_namedValue, kX3_bounds, kX3_sees, kX3_is, kX3_isName, kX3_which, kX3_numberOf, kX3_find, kX3_node, kX3_wrong, kJ12_length, meK]; omega⟩ ⟨Nat.zero_le _, Nat.zero_le _⟩ (fun _ _ _ z => z.elim) rfl (fun r_62 h_62 q_62 => ?_)
            obtain ⟨m_62, rfl, hT_62, hF_62, hz_62, ok_62, er_62⟩ := q_62
            rw [hR_62] at ok_62 er_62
            dsimp only at ok_62 er_62
            have hG_62 := Fr.trans hG_41 hF_62
            rcases Nat.eq_zero_or_pos e_62 with y_62 | y_62
            · skip
              subst y_62
              have x_62 := ok_62 rfl
              subst x_62
              refine AW.sts (st' := [.int 0]) (by rw [hR_62]; rfl) ?_
              replace V_62 := V_62 rfl
              replace Z_62 := Z_62 rfl
              dsimp only at V_62 Z_62
              replace U_62 := U_62 rfl
              dsimp only at U_62
              have lt_62 : nN (m_62.1 17) < 1203 := by have := V_62.2.2.1; have := V_62.1.2.2.1.2.2.1; have := V_62.1.2.1; omega
              have g_14 := pG_o g_12
              try dsimp only at g_14
              have tk_15 := (hS.kept V_62.1.2.2.2).1 a_62 Z_62; have Ktk_15 := tk_15.2.1
              try simp only [Bool.true_and, pT, ef, cond_true, gOr, gAnd, gSum, gPro, tS_tS, seesP_eq Z_62 hN4 hS.2.1, nmP_eq Z_62 hN4 hS.2.1, nuP_eq Z_62 hN4 hS.2.1, whP_eq Z_62 hN4 hS.2.1] at g_14
              refine aw_istore_n (n := 66) (lv' := [(2, .int 0), (5, .int (m_41.1 38)), (4, .int (m_41.1 37)), (3, .int (m_6.1 17)), (1, .int (nI a)), (0, .ref b)]) dX3_since_65 rfl (by decide) rfl rfl ?_
              refine aw_iload_n (n := 67) dX3_since_66 rfl 0 rfl rfl ?_
              refine aw_if_eq (n := 70) (tgt := 72) dX3_since_67 (by decide) rfl (fun c_67 => ?_) (fun c_67 => ?_)
              · skip
                refine aw_aload_n (n := 73) dX3_since_72 rfl 5 rfl rfl ?_
                refine aw_bipush (n := 75) (v := 10) dX3_since_73 (by decide) rfl ?_
                refine aw_iload_n (n := 76) dX3_since_75 rfl 3 rfl rfl ?_
                refine aw_aload_n (n := 77) dX3_since_76 rfl 5 rfl rfl ?_
                refine aw_getf (n := 80) (v := .int (m_62.1 17)) (C0 := RX3) (T := TX3) dX3_since_77 rfl 17 q2658 (Or.inl rfl) hT_62.1 rfl rfl ?_
                refine aw_iconst (n := 81) (v := (-1)) dX3_since_80 (by decide) rfl ?_
                refine aw_aload_n (n := 82) dX3_since_81 rfl 5 rfl rfl ?_
                refine aw_getf (n := 85) (v := .ref (b + 3)) (C0 := RX3) (T := TX3) dX3_since_82 rfl 5 q2646 (Or.inl rfl) hT_62.1 rfl rfl ?_
                refine aw_iload_n (n := 86) dX3_since_85 rfl 4 rfl rfl ?_
                refine aw_iald (n := 87) (v := .int (m_62.2.1 5 a)) dX3_since_86 rfl a rfl hT_62.a5 (by omega) (by decide) rfl rfl ?_
                have nlt_87 : nn m_62 < 1203 := Nat.lt_of_le_of_lt V_62.1.2.2.1.2.2.1 (by have := V_62.1.2.1; omega)
                refine AW.sts (st' := [.int (frmI T a), .int (-1), .int (m_62.1 17), .int (m_6.1 17), .int 10, .ref b]) (by rw [show m_62.2.1 5 a = frmI T a from ((hS.kept V_62.1.2.2.2).1 a hN).2.2.2.1]) ?_
                refine aw_callV (n := 90) (C0 := RX3) (As := [.int 10, .int (m_6.1 17), .int (m_62.1 17), .int (-1), .int (frmI T a)]) (rest := []) (K2 := kX3_node) dX3_since_87 q2974 q2976 qs75 q113 q2977 ⟨rfl, hcX3_node⟩ rfl hT_62.1 (ct_node G h_62 b m_62 hb hT_62 (10 : Int32) (m_6.1 17) (m_62.1 17) ((-1) : Int32) (frmI T a) V_62.1.2.2.1.2.1 (by have := V_62.1.2.2.1.2.2.1; have := V_62.1.2.1; omega)) rfl (Nat.le_of_ble_eq_true rfl) ⟨by dsimp only [kX3_formula, kX3_row, kX3_since, kX3_one, kX3_expression, kX3_product, kX3_factor, kX3_fronted, kX3_compare, kX3_twoSided, kX3_braces, kX3_namedValue, kX3_bounds, kX3_sees, kX3_is, kX3_isName, kX3_which, kX3_numberOf, kX3_find, kX3_node, kX3_wrong, kJ12_length, meK]; omega, by dsimp only [kX3_formula, kX3_row, kX3_since, kX3_one, kX3_expression, kX3_product, kX3_factor, kX3_fronted, kX3_compare, kX3_twoSided, kX3_braces, kX3_namedValue, kX3_bounds, kX3_sees, kX3_is, kX3_isName, kX3_which, kX3_numberOf, kX3_find, kX3_node, kX3_wrong, kJ12_length, meK]; omega⟩ ⟨Nat.zero_le _, Nat.zero_le _⟩ (fun _ _ _ z => z.elim) rfl (fun r_87 h_87 q_87 => ?_)
                obtain ⟨rfl, hT_87, hF_87, hz_87⟩ := q_87
                have hG_87 := Fr.trans hG_62 hF_87
                refine AW.sts (st' := [.int 0]) rfl ?_
                refine aw_pop (n := 91) dX3_since_90 rfl rfl ?_
                refine aw_aload_n (n := 92) dX3_since_91 rfl 5 rfl rfl ?_
                refine aw_getf (n := 95) (v := .ref (b + 9)) (C0 := RX3) (T := TX3) dX3_since_92 rfl 13 q2654 (Or.inl rfl) hT_87.1 rfl rfl ?_
                refine aw_aload_n (n := 96) dX3_since_95 rfl 5 rfl rfl ?_
                refine aw_getf (n := 99) (v := .int ((nodT m_62 (10 : Int32) (m_6.1 17) (m_62.1 17) ((-1) : Int32) (frmI T a)).1 17)) (C0 := RX3) (T := TX3) dX3_since_96 rfl 17 q2658 (Or.inl rfl) hT_87.1 rfl rfl ?_
                refine aw_iload (n := 101) dX3_since_99 2 rfl rfl ?_
                refine aw_tiast (n := 102) dX3_since_101 TW.m13 hT_87 hb (nn m_62) V_62.1.2.2.1.2.1 (by omega) (by decide) rfl (fun h_16 hT_16 hF_16 hz_16 => ?_)
                have hG_16 := Fr.trans hG_87 hF_16
                refine aw_aload_n (n := 103) dX3_since_102 rfl 5 rfl rfl ?_
                refine aw_getf (n := 106) (v := .ref (b + 10)) (C0 := RX3) (T := TX3) dX3_since_103 rfl 14 q2655 (Or.inl rfl) hT_16.1 rfl rfl ?_
                refine aw_aload_n (n := 107) dX3_since_106 rfl 5 rfl rfl ?_
                refine aw_getf (n := 110) (v := .int ((nodT m_62 (10 : Int32) (m_6.1 17) (m_62.1 17) ((-1) : Int32) (frmI T a)).1 17)) (C0 := RX3) (T := TX3) dX3_since_107 rfl 17 q2658 (Or.inl rfl) hT_16.1 rfl rfl ?_
                refine aw_iload (n := 112) dX3_since_110 1 rfl rfl ?_
                refine aw_tiast (n := 113) dX3_since_112 TW.m14 hT_16 hb (nn m_62) V_62.1.2.2.1.2.1 (by omega) (by decide) rfl (fun h_17 hT_17 hF_17 hz_17 => ?_)
                have hG_17 := Fr.trans hG_16 hF_17
                refine aw_iconst (n := 114) (v := 0) dX3_since_113 (by decide) rfl ?_
                exact aw_iret dX3_since_114 rfl ⟨tI (tI (nodT m_62 (10 : Int32) (m_6.1 17) (m_62.1 17) ((-1) : Int32) (frmI T a)) 13 (nn m_62) (m_41.1 37)) 14 (nn m_62) (m_41.1 38), by rw [g_14] <;> rfl, hT_17, hG_17, (by omega), fun _ => by rw [g_14] <;> rfl, fun z => absurd (by rw [g_14] <;> rfl) z⟩ ⟨Nat.zero_le _, Nat.zero_le _⟩
              · skip
                exact absurd c_67 (by decide +kernel)
            · skip
              refine AW.sts (st' := [.int (nI e_62)]) (by rw [hR_62]; rfl) ?_
              have gE_62 : W9 = (e_62, l_62, a_62, w_62) := pG_er g_12 (by omega)
              replace er_62 := er_62 (by omega)
              have E_62 := mE.tr V_41.2.2.2 er_62.1
              have P_62 := er_62.2.1
              refine aw_istore_n (n := 66) (lv' := [(2, .int (nI e_62)), (5, .int (m_41.1 38)), (4, .int (m_41.1 37)), (3, .int (m_6.1 17)), (1, .int (nI a)), (0, .ref b)]) dX3_since_65 rfl (by decide) rfl rfl ?_
              refine aw_iload_n (n := 67) dX3_since_66 rfl 0 rfl rfl ?_
              refine aw_if_eq (n := 70) (tgt := 72) dX3_since_67 (by decide) rfl (fun c_67_2 => ?_) (fun c_67_2 => ?_)
              · skip
                have n_67_2 : e_62 = 0 := (nI_eq (a := e_62) (b := 0) (by omega) (by omega)).mp (by rw [← ((by rfl) : (0 : Int32) = nI 0)]; exact c_67_2)
                exact absurd n_67_2 (by omega)
              · skip
                have n_67_2 : ¬ (e_62 = 0) := fun z => c_67_2 (by have y := (nI_eq (a := e_62) (b := 0) (by omega) (by omega)).mpr z; rw [← ((by rfl) : (0 : Int32) = nI 0)] at y; exact y)
                refine aw_iload_n (n := 71) dX3_since_70 rfl 0 rfl rfl ?_
                exact aw_iret dX3_since_71 rfl ⟨m_62, by rw [gE_62], hT_62, hG_62, (by omega), fun z => absurd z (by rw [gE_62]; show e_62 ≠ 0; omega), fun _ => ⟨E_62, by rw [gE_62]; exact P_62, by rw [gE_62]; exact er_62.2.2⟩⟩ ⟨Nat.zero_le _, Nat.zero_le _⟩
        · skip
          refine AW.sts (st' := [.int (nI e_41)]) (by rw [hR_41]; rfl) ?_
          have gE_41 : W9 = (e_41, l_41, a_41, w_41) := pG_er g_6 (by omega)
          replace er_41 := er_41 (by omega)
          have E_41 := mE.tr I_10.2.2.2 er_41.1
          have P_41 := er_41.2.1
          refine aw_istore_n (n := 45) (lv' := [(2, .int (nI e_41)), (3, .int (m_6.1 17)), (1, .int (nI a)), (0, .ref b)]) dX3_since_44 rfl (by decide) rfl rfl ?_
          refine aw_aload_n (n := 46) dX3_since_45 rfl 3 rfl rfl ?_
          refine aw_getf (n := 49) (v := .int (m_41.1 37)) (C0 := RX3) (T := TX3) dX3_since_46 rfl 37 q2678 (Or.inl rfl) hT_41.1 rfl rfl ?_
          refine aw_istore (n := 51) (lv' := [(4, .int (m_41.1 37)), (2, .int (nI e_41)), (3, .int (m_6.1 17)), (1, .int (nI a)), (0, .ref b)]) dX3_since_49 (by decide) rfl rfl ?_
          refine aw_aload_n (n := 52) dX3_since_51 rfl 4 rfl rfl ?_
          refine aw_getf (n := 55) (v := .int (m_41.1 38)) (C0 := RX3) (T := TX3) dX3_since_52 rfl 38 q2679 (Or.inl rfl) hT_41.1 rfl rfl ?_
          refine aw_istore (n := 57) (lv' := [(5, .int (m_41.1 38)), (4, .int (m_41.1 37)), (2, .int (nI e_41)), (3, .int (m_6.1 17)), (1, .int (nI a)), (0, .ref b)]) dX3_since_55 (by decide) rfl rfl ?_
          refine aw_iload_n (n := 58) dX3_since_57 rfl 2 rfl rfl ?_
          refine aw_if_ne (n := 61) (tgt := 66) dX3_since_58 (by decide) rfl (fun c_58_2 => ?_) (fun c_58_2 => ?_)
          · skip
            have n_58_2 : ¬ (e_41 = 0) := fun z => c_58_2 (by have y := (nI_eq (a := e_41) (b := 0) (by omega) (by omega)).mpr z; rw [← ((by rfl) : (0 : Int32) = nI 0)] at y; exact y)
            refine aw_iload_n (n := 67) dX3_since_66 rfl 2 rfl rfl ?_
            refine aw_if_eq (n := 70) (tgt := 72) dX3_since_67 (by decide) rfl (fun c_67_3 => ?_) (fun c_67_3 => ?_)
            · skip
              have n_67_3 : e_41 = 0 := (nI_eq (a := e_41) (b := 0) (by omega) (by omega)).mp (by rw [← ((by rfl) : (0 : Int32) = nI 0)]; exact c_67_3)
              exact absurd n_67_3 (by omega)
            · skip
              have n_67_3 : ¬ (e_41 = 0) := fun z => c_67_3 (by have y := (nI_eq (a := e_41) (b := 0) (by omega) (by omega)).mpr z; rw [← ((by rfl) : (0 : Int32) = nI 0)] at y; exact y)
              refine aw_iload_n (n := 71) dX3_since_70 rfl 2 rfl rfl ?_
              exact aw_iret dX3_since_71 rfl ⟨m_41, by rw [gE_41], hT_41, hG_41, (by omega), fun z => absurd z (by rw [gE_41]; show e_41 ≠ 0; omega), fun _ => ⟨E_41, by rw [gE_41]; exact P_41, by rw [gE_41]; exact er_41.2.2⟩⟩ ⟨Nat.zero_le _, Nat.zero_le _⟩
          · skip
            have n_58_2 : e_41 = 0 := (nI_eq (a := e_41) (b := 0) (by omega) (by omega)).mp (by rw [← ((by rfl) : (0 : Int32) = nI 0)]; exact c_58_2)
            exact absurd n_58_2 (by omega)
      · skip
        have b_20 : (seesB T a_6 (sw 11)) = false := (bI_0 _).mp c_20
        have g_18 := pG_F g_2 (by first | assumption | simp [b_20])
        try dsimp only at g_18
        refine aw_iload_n (n := 24) dX3_since_23 rfl 0 rfl rfl ?_
        exact aw_iret dX3_since_24 rfl ⟨m_6, by rw [g_18] <;> rfl, hT_6, hF_6, (by omega), fun _ => by rw [g_18] <;> rfl, fun z => absurd (by rw [g_18] <;> rfl) z⟩ ⟨Nat.zero_le _, Nat.zero_le _⟩
  · skip
    refine AW.sts (st' := [.int (nI e_6)]) (by rw [hR_6]; rfl) ?_
    have gE_6 : W9 = (e_6, l_6, a_6, w_6) := pG_er hg0 (by omega)
    replace er_6 := er_6 (by omega)
    have E_6 := mE.tr hI0.2.2.2 er_6.1
    have P_6 := er_6.2.1
    refine aw_istore_n (n := 10) (lv' := [(2, .int (nI e_6)), (1, .int (nI a)), (0, .ref b)]) dX3_since_9 rfl (by decide) rfl rfl ?_
    refine aw_iload_n (n := 11) dX3_since_10 rfl 0 rfl rfl ?_
    refine aw_if_ne (n := 14) (tgt := 23) dX3_since_11 (by decide) rfl (fun c_11_2 => ?_) (fun c_11_2 => ?_)
    · skip
      have n_11_2 : ¬ (e_6 = 0) := fun z => c_11_2 (by have y := (nI_eq (a := e_6) (b := 0) (by omega) (by omega)).mpr z; rw [← ((by rfl) : (0 : Int32) = nI 0)] at y; exact y)
      refine aw_iload_n (n := 24) dX3_since_23 rfl 0 rfl rfl ?_
      exact aw_iret dX3_since_24 rfl ⟨m_6, by rw [gE_6], hT_6, hF_6, (by omega), fun z => absurd z (by rw [gE_6]; show e_6 ≠ 0; omega), fun _ => ⟨E_6, by rw [gE_6]; exact P_6, by rw [gE_6]; exact er_6.2.2⟩⟩ ⟨Nat.zero_le _, Nat.zero_le _⟩
    · skip
      have n_11_2 : e_6 = 0 := (nI_eq (a := e_6) (b := 0) (by omega) (by omega)).mp (by rw [← ((by rfl) : (0 : Int32) = nI 0)]; exact c_11_2)
      exact absurd n_11_2 (by omega)

theorem cm_compare (G : aG) (h : hH)  (b : Nat) (ms : tM) (T : Tv) (N a : Nat) (hb : gB G ≤ b) (hT : TW b h ms) (hS : tkS ms T N) (hN4 : N ≤ 400) (hN : a ≤ N) (f d B : Nat) (hfB : f ≤ B) (hB : B + 1 ≤ 802) (hm : mS (B + 1) a ms) (h1 : (pCm T true (pX T true f) d a ms).1 ≠ 1) (h9 : (pCm T true (pX T true f) d a ms).1 ≠ 99) (ih : meAll G f) : Con G kX3_compare [.ref b, .int (nI a)] h ((15 + 2 * f, 540 + 100 * f, 0, 0), (fun r h1 => ∃ m9 : tM, r = some (.int (nI (pCm T true (pX T true f) d a ms).1)) ∧ TW b h1 m9 ∧ Fr (TS b) h h1 ∧ h1.1 = h.1 ∧ ((pCm T true (pX T true f) d a ms).1 = 0 → m9 = (pCm T true (pX T true f) d a ms).2.2.2) ∧ ((pCm T true (pX T true f) d a ms).1 ≠ 0 → mE ms m9 ∧ m9.1 3 = nI (pCm T true (pX T true f) d a ms).2.1 ∧ (pCm T true (pX T true f) d a ms).1 < 50)), nX) := by
  refine Con.of (plainFor_of_name rfl) rfl (Nat.le_of_ble_eq_true rfl) ?_
  refine AW.eq (lv2 := [(0, .ref b), (1, .int (nI a))]) (s2 := []) rfl rfl rfl rfl rfl ?_
  generalize hW_ : pCm T true (pX T true f) d a ms = W9 at h1 h9 ⊢
  have hI0 : pM (B + 1) a ms a ms := pM.rf hm (by omega)
  have hg0 : W9 = pCm T true (pX T true f) d a ms := hW_.symm
  unfold pCm at hg0
  have tk_1 := (hS.kept hI0.2.2.2).1 a hN; have Ktk_1 := tk_1.2.1
  try simp only [Bool.true_and, pT, ef, cond_true, gOr, gAnd, gSum, gPro, tS_tS, seesP_eq hN hN4 hS.2.1, nmP_eq hN hN4 hS.2.1, nuP_eq hN hN4 hS.2.1, whP_eq hN hN4 hS.2.1] at hg0
  refine aw_aload_n (n := 1) dX3_compare_0 rfl 0 rfl rfl ?_
  obtain ⟨e_1, l_1, a_1, w_1, hR_1⟩ : ∃ (e8 l8 x8 : Nat) (w8 : tM), pX T true f 5 d a ms = (e8, l8, x8, w8) := ⟨_, _, _, _, rfl⟩
  have n1_1 : (pX T true f 5 d a ms).1 ≠ 1 := pG_n hg0 h1 (by decide)
  have n9_1 : (pX T true f 5 d a ms).1 ≠ 99 := pG_n hg0 h9 (by decide)
  have V_1 := (pX_inv T f 5 d a (B + 1) ms (by omega) (by omega) (by omega) hI0.2.2.1).w (fun _ _ z => hI0.trW z)
  have Z_1 := pX_N (T := T) (N := N) (f := f) (nt := 5) (d := d) (a := a) (m := ms) hS.2.1 hN (by omega)
  have U_1 := pX_inv T f 5 d a (B + 1) ms (by omega) (by omega) (by omega) hI0.2.2.1
  rw [hR_1] at U_1
  rw [hR_1] at hg0 V_1 Z_1
  refine aw_callV (n := 4) (C0 := RX3) (As := []) (rest := []) (K2 := kX3_expression) dX3_compare_1 q2962 q2964 qs72 q113 q2965 ⟨rfl, hcX3_expression⟩ rfl hT.1 (ih 5 h b ms T N a d (B + 1) (by decide) hb hT (hS.kept hI0.2.2.2) hN4 hN (by omega) (by omega) hI0.2.2.1 n1_1 n9_1) rfl (Nat.le_of_ble_eq_true rfl) ⟨by dsimp only [kX3_formula, kX3_row, kX3_since, kX3_one, kX3_expression, kX3_product, kX3_factor, kX3_fronted, kX3_compare, kX3_twoSided, kX3_braces, kX3_namedValue, kX3_bounds, kX3_sees, kX3_is, kX3_isName, kX3_which, kX3_numberOf, kX3_find, kX3_node, kX3_wrong, kJ12_length, meK]; omega, by dsimp only [kX3_formula, kX3_row, kX3_since, kX3_one, kX3_expression, kX3_product, kX3_factor, kX3_fronted, kX3_compare, kX3_twoSided, kX3_braces, kX3_namedValue, kX3_bounds, kX3_sees, kX3_is, kX3_isName, kX3_which, kX3_numberOf, kX3_find, kX3_node, kX3_wrong, kJ12_length, meK]; omega⟩ ⟨Nat.zero_le _, Nat.zero_le _⟩ (fun _ _ _ z => z.elim) rfl (fun r_1 h_1 q_1 => ?_)
  obtain ⟨m_1, rfl, hT_1, hF_1, hz_1, ok_1, er_1⟩ := q_1
  rw [hR_1] at ok_1 er_1
  dsimp only at ok_1 er_1
  rcases Nat.eq_zero_or_pos e_1 with y_1 | y_1
  · skip
    subst y_1
    have x_1 := ok_1 rfl
    subst x_1
    refine AW.sts (st' := [.int 0]) (by rw [hR_1]; rfl) ?_
    replace V_1 := V_1 rfl
    replace Z_1 := Z_1 rfl
    dsimp only at V_1 Z_1
    replace U_1 := U_1 rfl
    dsimp only at U_1
    have lt_1 : nN (m_1.1 17) < 1203 := by have := V_1.2.2.1; have := V_1.1.2.2.1.2.2.1; have := V_1.1.2.1; omega
    have g_2 := pG_o hg0
    try dsimp only at g_2
    have tk_3 := (hS.kept V_1.1.2.2.2).1 a_1 Z_1; have Ktk_3 := tk_3.2.1
    try simp only [Bool.true_and, pT, ef, cond_true, gOr, gAnd, gSum, gPro, tS_tS, seesP_eq Z_1 hN4 hS.2.1, nmP_eq Z_1 hN4 hS.2.1, nuP_eq Z_1 hN4 hS.2.1, whP_eq Z_1 hN4 hS.2.1] at g_2
    have g_4 := pG_c g_2 h1
    have g_5 := g_4.2
    try dsimp only at g_5
    have ne_6 : T.1 a_1 ≠ 0 := by have z9 := g_4.1; first | exact seesB_ne z9 | exact isNm_ne z9 | (have z8 := (beq_iff_eq.mp z9); omega) | exact whT_lt (bne_iff_ne.mp z9) | (rcases (Bool.or_eq_true _ _).mp z9 with z8 | z8 <;> first | exact seesB_ne z8 | (rcases (Bool.or_eq_true _ _).mp z8 with z7 | z7 <;> exact seesB_ne z7))
    refine aw_istore_n (n := 5) (lv' := [(2, .int 0), (0, .ref b), (1, .int (nI a))]) dX3_compare_4 rfl (by decide) rfl rfl ?_
    refine aw_iload_n (n := 6) dX3_compare_5 rfl 0 rfl rfl ?_
    refine aw_if_eq (n := 9) (tgt := 11) dX3_compare_6 (by decide) rfl (fun c_6 => ?_) (fun c_6 => ?_)
    · skip
      refine aw_aload_n (n := 12) dX3_compare_11 rfl 1 rfl rfl ?_
      refine aw_getf (n := 15) (v := .int (m_1.1 17)) (C0 := RX3) (T := TX3) dX3_compare_12 rfl 17 q2658 (Or.inl rfl) hT_1.1 rfl rfl ?_
      refine aw_istore_n (n := 16) (lv' := [(3, .int (m_1.1 17)), (2, .int 0), (0, .ref b), (1, .int (nI a))]) dX3_compare_15 rfl (by decide) rfl rfl ?_
      refine aw_aload_n (n := 17) dX3_compare_16 rfl 2 rfl rfl ?_
      refine aw_aload_n (n := 18) dX3_compare_17 rfl 2 rfl rfl ?_
      refine aw_getf (n := 21) (v := .int (nI a_1)) (C0 := RX3) (T := TX3) dX3_compare_18 rfl 7 q2648 (Or.inl rfl) hT_1.1 (congrArg some (congrArg Value.int V_1.1.2.2.1.1)) rfl ?_
      refine aw_know (fun gd_6 hi_6 => ?_)
      refine aw_gets (n := 24) (v := .ref (vAd (gV G 28))) dX3_compare_21 28 rfl q2927 rfl (vAd_at gd_6 (by decide)) rfl ?_
      refine aw_know (fun gd_7 hi_7 => ?_)
      refine aw_callV (n := 27) (C0 := RX3) (As := [.int (nI a_1), .ref (vAd (gV G 28))]) (rest := []) (K2 := kX3_which) dX3_compare_24 q2850 q2852 qs55 q113 q2853 ⟨rfl, hcX3_which⟩ rfl hT_1.1 (ct_which G h_1 b m_1 hb hT_1 T a_1 ((hS.kept V_1.1.2.2.2).1 a_1 Z_1) _ (wlW 1) (wl_at gd_7 hi_7 (k := 1) rfl) (by decide)) rfl (Nat.le_of_ble_eq_true rfl) ⟨by dsimp only [kX3_formula, kX3_row, kX3_since, kX3_one, kX3_expression, kX3_product, kX3_factor, kX3_fronted, kX3_compare, kX3_twoSided, kX3_braces, kX3_namedValue, kX3_bounds, kX3_sees, kX3_is, kX3_isName, kX3_which, kX3_numberOf, kX3_find, kX3_node, kX3_wrong, kJ12_length, meK]; omega, by dsimp only [kX3_formula, kX3_row, kX3_since, kX3_one, kX3_expression, kX3_product, kX3_factor, kX3_fronted, kX3_compare, kX3_twoSided, kX3_braces, kX3_namedValue, kX3_bounds, kX3_sees, kX3_is, kX3_isName, kX3_which, kX3_numberOf, kX3_find, kX3_node, kX3_wrong, kJ12_length, meK]; omega⟩ ⟨Nat.zero_le _, Nat.zero_le _⟩ (fun _ _ _ z => z.elim) rfl (fun r_24 h_24 q_24 => ?_)
      obtain ⟨rfl, rfl⟩ := q_24
      refine AW.sts (st' := [.int (whT T a_1 (wlW 1))]) rfl ?_
      refine aw_istore (n := 29) (lv' := [(4, .int (whT T a_1 (wlW 1))), (3, .int (m_1.1 17)), (2, .int 0), (0, .ref b), (1, .int (nI a))]) dX3_compare_27 (by decide) rfl rfl ?_
      refine aw_aload_n (n := 30) dX3_compare_29 rfl 3 rfl rfl ?_
      refine aw_dup (n := 31) dX3_compare_30 rfl rfl ?_
      refine aw_getf (n := 34) (v := .int (nI a_1)) (C0 := RX3) (T := TX3) dX3_compare_31 rfl 7 q2648 (Or.inl rfl) hT_1.1 (congrArg some (congrArg Value.int V_1.1.2.2.1.1)) rfl ?_
      refine aw_iconst (n := 35) (v := 1) dX3_compare_34 (by decide) rfl ?_
      refine aw_iadd (n := 36) dX3_compare_35 rfl ?_
      refine AW.sts (st' := [.int (nI (a_1 + 1)), .ref b]) (by rw [show (nI a_1) + 1 = nI (a_1 + 1) from (nI_1 _)]) ?_
      refine aw_tput (n := 39) (k := 7) dX3_compare_36 q2648 (by decide) rfl rfl rfl rfl rfl hT_1 hb rfl rfl (fun h_9 hT_9 hF_9 hz_9 => ?_)
      have hG_9 := Fr.trans hF_1 hF_9
      have N_10 : a_1 + 1 ≤ N := lt_end hS.2.1 Z_1 ne_6
      have I_11 := V_1.1.at1 (by omega)
      have tk_12 := (hS.kept I_11.2.2.2).1 (a_1 + 1) N_10; have Ktk_12 := tk_12.2.1
      try simp only [Bool.true_and, pT, ef, cond_true, gOr, gAnd, gSum, gPro, tS_tS, seesP_eq N_10 hN4 hS.2.1, nmP_eq N_10 hN4 hS.2.1, nuP_eq N_10 hN4 hS.2.1, whP_eq N_10 hN4 hS.2.1] at g_5
      refine aw_aload_n (n := 40) dX3_compare_39 rfl 3 rfl rfl ?_
      obtain ⟨e_40, l_40, a_40, w_40, hR_40⟩ : ∃ (e8 l8 x8 : Nat) (w8 : tM), pX T true f 5 d (a_1 + 1) (tS m_1 7 (nI (a_1 + 1))) = (e8, l8, x8, w8) := ⟨_, _, _, _, rfl⟩
      have n1_40 : (pX T true f 5 d (a_1 + 1) (tS m_1 7 (nI (a_1 + 1)))).1 ≠ 1 := pG_n g_5 h1 (by decide)
      have n9_40 : (pX T true f 5 d (a_1 + 1) (tS m_1 7 (nI (a_1 + 1)))).1 ≠ 99 := pG_n g_5 h9 (by decide)
      have V_40 := (pX_inv T f 5 d (a_1 + 1) (B) (tS m_1 7 (nI (a_1 + 1))) (by omega) (by omega) (by omega) I_11.2.2.1).w (fun _ _ z => I_11.trW z)
      have Z_40 := pX_N (T := T) (N := N) (f := f) (nt := 5) (d := d) (a := a_1 + 1) (m := tS m_1 7 (nI (a_1 + 1))) hS.2.1 N_10 (by omega)
      have U_40 := pX_inv T f 5 d (a_1 + 1) (B) (tS m_1 7 (nI (a_1 + 1))) (by omega) (by omega) (by omega) I_11.2.2.1
      rw [hR_40] at U_40
      rw [hR_40] at g_5 V_40 Z_40
      refine aw_callV (n := 43) (C0 := RX3) (As := []) (rest := []) (K2 := kX3_expression) dX3_compare_40 q2962 q2964 qs72 q113 q2965 ⟨rfl, hcX3_expression⟩ rfl hT_9.1 (ih 5 h_9 b (tS m_1 7 (nI (a_1 + 1))) T N (a_1 + 1) d (B) (by decide) hb hT_9 (hS.kept I_11.2.2.2) hN4 N_10 (by omega) (by omega) I_11.2.2.1 n1_40 n9_40) rfl (Nat.le_of_ble_eq_true rfl) ⟨by dsimp only [kX3_formula, kX3_row, kX3_since, kX3_one, kX3_expression, kX3_product, kX3_factor, kX3_fronted, kX3_compare, kX3_twoSided, kX3_braces, kX3_namedValue, kX3_bounds, kX3_sees, kX3_is, kX3_isName, kX3_which, kX3_numberOf, kX3_find, kX3_node, kX3_wrong, kJ12_length, meK]; omega, by dsimp only [kX3_formula, kX3_row, kX3_since, kX3_one, kX3_expression, kX3_product, kX3_factor, kX3_fronted, kX3_compare, kX3_twoSided, kX3_braces, kX3_namedValue, kX3_bounds, kX3_sees, kX3_is, kX3_isName, kX3_which, kX3_numberOf, kX3_find, kX3_node, kX3_wrong, kJ12_length, meK]; omega⟩ ⟨Nat.zero_le _, Nat.zero_le _⟩ (fun _ _ _ z => z.elim) rfl (fun r_40 h_40 q_40 => ?_)
      obtain ⟨m_40, rfl, hT_40, hF_40, hz_40, ok_40, er_40⟩ := q_40
      rw [hR_40] at ok_40 er_40
      dsimp only at ok_40 er_40
      have hG_40 := Fr.trans hG_9 hF_40
      rcases Nat.eq_zero_or_pos e_40 with y_40 | y_40
      · skip
        subst y_40
        have x_40 := ok_40 rfl
        subst x_40
        refine AW.sts (st' := [.int 0]) (by rw [hR_40]; rfl) ?_
        replace V_40 := V_40 rfl
        replace Z_40 := Z_40 rfl
        dsimp only at V_40 Z_40
        replace U_40 := U_40 rfl
        dsimp only at U_40
        have lt_40 : nN (m_40.1 17) < 1203 := by have := V_40.2.2.1; have := V_40.1.2.2.1.2.2.1; have := V_40.1.2.1; omega
        have g_13 := pG_o g_5
        try dsimp only at g_13
        have tk_14 := (hS.kept V_40.1.2.2.2).1 a_40 Z_40; have Ktk_14 := tk_14.2.1
        try simp only [Bool.true_and, pT, ef, cond_true, gOr, gAnd, gSum, gPro, tS_tS, seesP_eq Z_40 hN4 hS.2.1, nmP_eq Z_40 hN4 hS.2.1, nuP_eq Z_40 hN4 hS.2.1, whP_eq Z_40 hN4 hS.2.1] at g_13
        refine aw_istore_n (n := 44) (lv' := [(2, .int 0), (4, .int (whT T a_1 (wlW 1))), (3, .int (m_1.1 17)), (0, .ref b), (1, .int (nI a))]) dX3_compare_43 rfl (by decide) rfl rfl ?_
        refine aw_iload_n (n := 45) dX3_compare_44 rfl 0 rfl rfl ?_
        refine aw_if_eq (n := 48) (tgt := 50) dX3_compare_45 (by decide) rfl (fun c_45 => ?_) (fun c_45 => ?_)
        · skip
          refine aw_aload_n (n := 51) dX3_compare_50 rfl 3 rfl rfl ?_
          refine aw_bipush (n := 53) (v := 9) dX3_compare_51 (by decide) rfl ?_
          refine aw_iload_n (n := 54) dX3_compare_53 rfl 2 rfl rfl ?_
          refine aw_aload_n (n := 55) dX3_compare_54 rfl 3 rfl rfl ?_
          refine aw_getf (n := 58) (v := .int (m_40.1 17)) (C0 := RX3) (T := TX3) dX3_compare_55 rfl 17 q2658 (Or.inl rfl) hT_40.1 rfl rfl ?_
          refine aw_iload (n := 60) dX3_compare_58 1 rfl rfl ?_
          refine aw_aload_n (n := 61) dX3_compare_60 rfl 3 rfl rfl ?_
          refine aw_getf (n := 64) (v := .ref (b + 3)) (C0 := RX3) (T := TX3) dX3_compare_61 rfl 5 q2646 (Or.inl rfl) hT_40.1 rfl rfl ?_
          refine aw_iload_n (n := 65) dX3_compare_64 rfl 4 rfl rfl ?_
          refine aw_iald (n := 66) (v := .int (m_40.2.1 5 a)) dX3_compare_65 rfl a rfl hT_40.a5 (by omega) (by decide) rfl rfl ?_
          have nlt_66 : nn m_40 < 1203 := Nat.lt_of_le_of_lt V_40.1.2.2.1.2.2.1 (by have := V_40.1.2.1; omega)
          refine AW.sts (st' := [.int (frmI T a), .int (whT T a_1 (wlW 1)), .int (m_40.1 17), .int (m_1.1 17), .int 9, .ref b]) (by rw [show m_40.2.1 5 a = frmI T a from ((hS.kept V_40.1.2.2.2).1 a hN).2.2.2.1]) ?_
          refine aw_callV (n := 69) (C0 := RX3) (As := [.int 9, .int (m_1.1 17), .int (m_40.1 17), .int (whT T a_1 (wlW 1)), .int (frmI T a)]) (rest := []) (K2 := kX3_node) dX3_compare_66 q2974 q2976 qs75 q113 q2977 ⟨rfl, hcX3_node⟩ rfl hT_40.1 (ct_node G h_40 b m_40 hb hT_40 (9 : Int32) (m_1.1 17) (m_40.1 17) (whT T a_1 (wlW 1)) (frmI T a) V_40.1.2.2.1.2.1 (by have := V_40.1.2.2.1.2.2.1; have := V_40.1.2.1; omega)) rfl (Nat.le_of_ble_eq_true rfl) ⟨by dsimp only [kX3_formula, kX3_row, kX3_since, kX3_one, kX3_expression, kX3_product, kX3_factor, kX3_fronted, kX3_compare, kX3_twoSided, kX3_braces, kX3_namedValue, kX3_bounds, kX3_sees, kX3_is, kX3_isName, kX3_which, kX3_numberOf, kX3_find, kX3_node, kX3_wrong, kJ12_length, meK]; omega, by dsimp only [kX3_formula, kX3_row, kX3_since, kX3_one, kX3_expression, kX3_product, kX3_factor, kX3_fronted, kX3_compare, kX3_twoSided, kX3_braces, kX3_namedValue, kX3_bounds, kX3_sees, kX3_is, kX3_isName, kX3_which, kX3_numberOf, kX3_find, kX3_node, kX3_wrong, kJ12_length, meK]; omega⟩ ⟨Nat.zero_le _, Nat.zero_le _⟩ (fun _ _ _ z => z.elim) rfl (fun r_66 h_66 q_66 => ?_)
          obtain ⟨rfl, hT_66, hF_66, hz_66⟩ := q_66
          have hG_66 := Fr.trans hG_40 hF_66
          refine AW.sts (st' := [.int 0]) rfl ?_
          exact aw_iret dX3_compare_69 rfl ⟨nodT m_40 (9 : Int32) (m_1.1 17) (m_40.1 17) (whT T a_1 (wlW 1)) (frmI T a), by rw [g_13] <;> rfl, hT_66, hG_66, (by omega), fun _ => by rw [g_13] <;> rfl, fun z => absurd (by rw [g_13] <;> rfl) z⟩ ⟨Nat.zero_le _, Nat.zero_le _⟩
        · skip
          exact absurd c_45 (by decide +kernel)
      · skip
        refine AW.sts (st' := [.int (nI e_40)]) (by rw [hR_40]; rfl) ?_
        have gE_40 : W9 = (e_40, l_40, a_40, w_40) := pG_er g_5 (by omega)
        replace er_40 := er_40 (by omega)
        have E_40 := mE.tr I_11.2.2.2 er_40.1
        have P_40 := er_40.2.1
        refine aw_istore_n (n := 44) (lv' := [(2, .int (nI e_40)), (4, .int (whT T a_1 (wlW 1))), (3, .int (m_1.1 17)), (0, .ref b), (1, .int (nI a))]) dX3_compare_43 rfl (by decide) rfl rfl ?_
        refine aw_iload_n (n := 45) dX3_compare_44 rfl 0 rfl rfl ?_
        refine aw_if_eq (n := 48) (tgt := 50) dX3_compare_45 (by decide) rfl (fun c_45_2 => ?_) (fun c_45_2 => ?_)
        · skip
          have n_45_2 : e_40 = 0 := (nI_eq (a := e_40) (b := 0) (by omega) (by omega)).mp (by rw [← ((by rfl) : (0 : Int32) = nI 0)]; exact c_45_2)
          exact absurd n_45_2 (by omega)
        · skip
          have n_45_2 : ¬ (e_40 = 0) := fun z => c_45_2 (by have y := (nI_eq (a := e_40) (b := 0) (by omega) (by omega)).mpr z; rw [← ((by rfl) : (0 : Int32) = nI 0)] at y; exact y)
          refine aw_iload_n (n := 49) dX3_compare_48 rfl 0 rfl rfl ?_
          exact aw_iret dX3_compare_49 rfl ⟨m_40, by rw [gE_40], hT_40, hG_40, (by omega), fun z => absurd z (by rw [gE_40]; show e_40 ≠ 0; omega), fun _ => ⟨E_40, by rw [gE_40]; exact P_40, by rw [gE_40]; exact er_40.2.2⟩⟩ ⟨Nat.zero_le _, Nat.zero_le _⟩
    · skip
      exact absurd c_6 (by decide +kernel)
  · skip
    refine AW.sts (st' := [.int (nI e_1)]) (by rw [hR_1]; rfl) ?_
    have gE_1 : W9 = (e_1, l_1, a_1, w_1) := pG_er hg0 (by omega)
    replace er_1 := er_1 (by omega)
    have E_1 := mE.tr hI0.2.2.2 er_1.1
    have P_1 := er_1.2.1
    refine aw_istore_n (n := 5) (lv' := [(2, .int (nI e_1)), (0, .ref b), (1, .int (nI a))]) dX3_compare_4 rfl (by decide) rfl rfl ?_
    refine aw_iload_n (n := 6) dX3_compare_5 rfl 0 rfl rfl ?_
    refine aw_if_eq (n := 9) (tgt := 11) dX3_compare_6 (by decide) rfl (fun c_6_2 => ?_) (fun c_6_2 => ?_)
    · skip
      have n_6_2 : e_1 = 0 := (nI_eq (a := e_1) (b := 0) (by omega) (by omega)).mp (by rw [← ((by rfl) : (0 : Int32) = nI 0)]; exact c_6_2)
      exact absurd n_6_2 (by omega)
    · skip
      have n_6_2 : ¬ (e_1 = 0) := fun z => c_6_2 (by have y := (nI_eq (a := e_1) (b := 0) (by omega) (by omega)).mpr z; rw [← ((by rfl) : (0 : Int32) = nI 0)] at y; exact y)
      refine aw_iload_n (n := 10) dX3_compare_9 rfl 0 rfl rfl ?_
      exact aw_iret dX3_compare_10 rfl ⟨m_1, by rw [gE_1], hT_1, hF_1, (by omega), fun z => absurd z (by rw [gE_1]; show e_1 ≠ 0; omega), fun _ => ⟨E_1, by rw [gE_1]; exact P_1, by rw [gE_1]; exact er_1.2.2⟩⟩ ⟨Nat.zero_le _, Nat.zero_le _⟩

theorem cm_nt1 (G : aG) (h : hH)  (b : Nat) (ms : tM) (T : Tv) (N a : Nat) (hb : gB G ≤ b) (hT : TW b h ms) (hS : tkS ms T N) (hN4 : N ≤ 400) (hN : a ≤ N) (f d B : Nat) (hfB : f ≤ B) (hB : B + 1 ≤ 802) (hm : mS (B + 1) a ms) (h1 : (pX T true (f + 1) 1 d a ms).1 ≠ 1) (h9 : (pX T true (f + 1) 1 d a ms).1 ≠ 99) (ih : meAll G f) : Con G kX3_row [.ref b, .ref (gT G 13)] h ((14 + 2 * (f + 1), 500 + 100 * (f + 1), 0, 0), (fun r h1 => ∃ m9 : tM, r = some (.int (nI (pX T true (f + 1) 1 d a ms).1)) ∧ TW b h1 m9 ∧ Fr (TS b) h h1 ∧ h1.1 = h.1 ∧ ((pX T true (f + 1) 1 d a ms).1 = 0 → m9 = (pX T true (f + 1) 1 d a ms).2.2.2) ∧ ((pX T true (f + 1) 1 d a ms).1 ≠ 0 → mE ms m9 ∧ m9.1 3 = nI (pX T true (f + 1) 1 d a ms).2.1 ∧ (pX T true (f + 1) 1 d a ms).1 < 50)), nX) := by
  refine Con.of (plainFor_of_name rfl) rfl (Nat.le_of_ble_eq_true rfl) ?_
  refine AW.eq (lv2 := [(0, .ref b), (1, .ref (gT G 13))]) (s2 := []) rfl rfl rfl rfl rfl ?_
  generalize hW_ : pX T true (f + 1) 1 d a ms = W9 at h1 h9 ⊢
  have hI0 : pM (B + 1) a ms a ms := pM.rf hm (by omega)
  have hg0 : W9 = pB1 T true (pX T true f) d a ms := hW_.symm
  unfold pB1 at hg0
  have tk_1 := (hS.kept hI0.2.2.2).1 a hN; have Ktk_1 := tk_1.2.1
  try simp only [Bool.true_and, pT, ef, cond_true, gOr, gAnd, gSum, gPro, tS_tS, seesP_eq hN hN4 hS.2.1, nmP_eq hN hN4 hS.2.1, nuP_eq hN hN4 hS.2.1, whP_eq hN hN4 hS.2.1] at hg0
  refine aw_aload_n (n := 1) dX3_row_0 rfl 1 rfl rfl ?_
  refine aw_know (fun gd_1 hi_1 => ?_)
  obtain ⟨v8, w8, z8, f8, hA8, hV8, hf8⟩ := str_at gd_1 hi_1 (i := 13) (bs := sw 13) rfl
  refine aw_callV (n := 4) (C0 := RJ12) (As := []) (rest := []) (K2 := kJ12_length) dX3_row_1 q2834 q583 q584 q122 q585 ⟨rfl, hcJ12_length⟩ rfl hA8 (cs_length G h _ v8 (sw 13).length w8 z8 f8 hA8 hV8 (by decide)) rfl (Nat.le_of_ble_eq_true rfl) ⟨by dsimp only [kX3_formula, kX3_row, kX3_since, kX3_one, kX3_expression, kX3_product, kX3_factor, kX3_fronted, kX3_compare, kX3_twoSided, kX3_braces, kX3_namedValue, kX3_bounds, kX3_sees, kX3_is, kX3_isName, kX3_which, kX3_numberOf, kX3_find, kX3_node, kX3_wrong, kJ12_length, meK]; omega, by dsimp only [kX3_formula, kX3_row, kX3_since, kX3_one, kX3_expression, kX3_product, kX3_factor, kX3_fronted, kX3_compare, kX3_twoSided, kX3_braces, kX3_namedValue, kX3_bounds, kX3_sees, kX3_is, kX3_isName, kX3_which, kX3_numberOf, kX3_find, kX3_node, kX3_wrong, kJ12_length, meK]; omega⟩ ⟨Nat.zero_le _, Nat.zero_le _⟩ (fun _ _ _ z => z.elim) rfl (fun r_1 h_1 q_1 => ?_)
  obtain ⟨rfl, rfl⟩ := q_1
  refine AW.sts (st' := [.int (nI 2)]) rfl ?_
  refine aw_iconst (n := 5) (v := 2) dX3_row_4 (by decide) rfl ?_
  refine aw_icmp_ne (n := 8) (tgt := 12) dX3_row_5 (by decide) rfl (fun c_5 => ?_) (fun c_5 => ?_)
  · skip
    exact absurd c_5 (by decide +kernel)
  · skip
    refine aw_iconst (n := 9) (v := 1) dX3_row_8 (by decide) rfl ?_
    refine aw_goto (tgt := 13) dX3_row_9 (by decide) ?_
    refine aw_istore_n (n := 14) (lv' := [(2, .int 1), (0, .ref b), (1, .ref (gT G 13))]) dX3_row_13 rfl (by decide) rfl rfl ?_
    refine aw_iload_n (n := 15) dX3_row_14 rfl 0 rfl rfl ?_
    refine aw_if_eq (n := 18) (tgt := 27) dX3_row_15 (by decide) rfl (fun c_15 => ?_) (fun c_15 => ?_)
    · skip
      exact absurd c_15 (by decide +kernel)
    · skip
      refine aw_aload_n (n := 19) dX3_row_18 rfl 1 rfl rfl ?_
      refine aw_ldcS (n := 21) (q := 12) dX3_row_19 103 rfl rfl ?_
      obtain ⟨e_21, l_21, a_21, w_21, hR_21⟩ : ∃ (e8 l8 x8 : Nat) (w8 : tM), pX T true f 2 d a ms = (e8, l8, x8, w8) := ⟨_, _, _, _, rfl⟩
      have n1_21 : (pX T true f 2 d a ms).1 ≠ 1 := pG_n hg0 h1 (by decide)
      have n9_21 : (pX T true f 2 d a ms).1 ≠ 99 := pG_n hg0 h9 (by decide)
      have V_21 := (pX_inv T f 2 d a (B + 1) ms (by omega) (by omega) (by omega) hI0.2.2.1).w (fun _ _ z => hI0.trW z)
      have Z_21 := pX_N (T := T) (N := N) (f := f) (nt := 2) (d := d) (a := a) (m := ms) hS.2.1 hN (by omega)
      have U_21 := pX_inv T f 2 d a (B + 1) ms (by omega) (by omega) (by omega) hI0.2.2.1
      rw [hR_21] at U_21
      rw [hR_21] at hg0 V_21 Z_21
      refine aw_callV (n := 24) (C0 := RX3) (As := [.ref (gT G 12)]) (rest := []) (K2 := kX3_row) dX3_row_21 q2990 q2992 qs79 q113 q2993 ⟨rfl, hcX3_row⟩ rfl hT.1 (ih 2 h b ms T N a d (B + 1) (by decide) hb hT (hS.kept hI0.2.2.2) hN4 hN (by omega) (by omega) hI0.2.2.1 n1_21 n9_21) rfl (Nat.le_of_ble_eq_true rfl) ⟨by dsimp only [kX3_formula, kX3_row, kX3_since, kX3_one, kX3_expression, kX3_product, kX3_factor, kX3_fronted, kX3_compare, kX3_twoSided, kX3_braces, kX3_namedValue, kX3_bounds, kX3_sees, kX3_is, kX3_isName, kX3_which, kX3_numberOf, kX3_find, kX3_node, kX3_wrong, kJ12_length, meK]; omega, by dsimp only [kX3_formula, kX3_row, kX3_since, kX3_one, kX3_expression, kX3_product, kX3_factor, kX3_fronted, kX3_compare, kX3_twoSided, kX3_braces, kX3_namedValue, kX3_bounds, kX3_sees, kX3_is, kX3_isName, kX3_which, kX3_numberOf, kX3_find, kX3_node, kX3_wrong, kJ12_length, meK]; omega⟩ ⟨Nat.zero_le _, Nat.zero_le _⟩ (fun _ _ _ z => z.elim) rfl (fun r_21 h_21 q_21 => ?_)
      obtain ⟨m_21, rfl, hT_21, hF_21, hz_21, ok_21, er_21⟩ := q_21
      rw [hR_21] at ok_21 er_21
      dsimp only at ok_21 er_21
      rcases Nat.eq_zero_or_pos e_21 with y_21 | y_21
      · skip
        subst y_21
        have x_21 := ok_21 rfl
        subst x_21
        refine AW.sts (st' := [.int 0]) (by rw [hR_21]; rfl) ?_
        replace V_21 := V_21 rfl
        replace Z_21 := Z_21 rfl
        dsimp only at V_21 Z_21
        replace U_21 := U_21 rfl
        dsimp only at U_21
        have lt_21 : nN (m_21.1 17) < 1203 := by have := V_21.2.2.1; have := V_21.1.2.2.1.2.2.1; have := V_21.1.2.1; omega
        have g_3 := pG_o hg0
        try dsimp only at g_3
        have tk_4 := (hS.kept V_21.1.2.2.2).1 a_21 Z_21; have Ktk_4 := tk_4.2.1
        try simp only [Bool.true_and, pT, ef, cond_true, gOr, gAnd, gSum, gPro, tS_tS, seesP_eq Z_21 hN4 hS.2.1, nmP_eq Z_21 hN4 hS.2.1, nuP_eq Z_21 hN4 hS.2.1, whP_eq Z_21 hN4 hS.2.1] at g_3
        refine aw_goto (tgt := 31) dX3_row_24 (by decide) ?_
        refine aw_istore_n (n := 32) (lv' := [(3, .int 0), (2, .int 1), (0, .ref b), (1, .ref (gT G 13))]) dX3_row_31 rfl (by decide) rfl rfl ?_
        suffices L_32 : ∀ (m_ : Nat) (c a9 : Nat) (m9 : tM) (hh : hH) (hN9 : a9 ≤ N) (hTc : TW b hh m9) (hFc : Fr (TS b) h hh) (hzc : hh.1 = h.1) (hWc : pW true (B + 1) a ms a9 m9) (hgc : W9 = pLp (pX T true f 2 d) (gOr T) (eRow true 12) c a9 m9), c < m_ → AW G kX3_row ((14 + 2 * (f + 1), 500 + 100 * (f + 1), 0, 0), (fun r h1 => ∃ m9 : tM, r = some (.int (nI W9.1)) ∧ TW b h1 m9 ∧ Fr (TS b) h h1 ∧ h1.1 = h.1 ∧ (W9.1 = 0 → m9 = W9.2.2.2) ∧ (W9.1 ≠ 0 → mE ms m9 ∧ m9.1 3 = nI W9.2.1 ∧ W9.1 < 50)), nX) 32 [(3, .int 0), (2, .int 1), (0, .ref b), (1, .ref (gT G 13))] [] hh 0 0 from
          AW.lvs (lv' := [(3, .int 0), (2, .int 1), (0, .ref b), (1, .ref (gT G 13))]) (AW.eq (lv2 := _) (rfl) rfl rfl rfl rfl (L_32 _ 401 a_21 m_21 h_21 Z_21 hT_21 hF_21 (by omega) V_21 g_3 (Nat.lt_succ_self _))) (by simp)
        intro m_
        induction m_ with
        | zero => intro c a9 m9 hh hN9 hTc hFc hzc hWc hgc h_m; exact absurd h_m (Nat.not_lt_zero _)
        | succ m_ ih_32 =>
          intro c a9 m9 hh hN9 hTc hFc hzc hWc hgc h_m
          cases c with
          | zero => exact absurd (by rw [hgc]; rfl) h9
          | succ c =>
            have lt9 : nN (m9.1 17) < 1203 := by have := hWc.2.2.1; have := hWc.1.2.2.1.2.2.1; have := hWc.1.2.1; omega
            have hg1 : W9 = cond (gOr T a9) (pb (pX T true f 2 d (a9 + 1) (ats m9 (a9 + 1))) fun a1 m1 => pLp (pX T true f 2 d) (gOr T) (eRow true 12) c a1 (eRow true 12 a9 m9 m1)) (pO a9 m9) := hgc
            have tk_5 := (hS.kept hWc.1.2.2.2).1 a9 hN9; have Ktk_5 := tk_5.2.1
            try simp only [Bool.true_and, pT, ef, cond_true, gOr, gAnd, gSum, gPro, tS_tS, seesP_eq hN9 hN4 hS.2.1, nmP_eq hN9 hN4 hS.2.1, nuP_eq hN9 hN4 hS.2.1, whP_eq hN9 hN4 hS.2.1] at hg1
            refine aw_iload_n (n := 33) dX3_row_32 rfl 0 rfl rfl ?_
            refine aw_if_ne (n := 36) (tgt := 115) dX3_row_33 (by decide) rfl (fun c_33 => ?_) (fun c_33 => ?_)
            · skip
              exact absurd c_33 (by decide +kernel)
            · skip
              refine aw_aload_n (n := 37) dX3_row_36 rfl 2 rfl rfl ?_
              refine aw_aload_n (n := 38) dX3_row_37 rfl 3 rfl rfl ?_
              refine aw_know (fun gd_5 hi_5 => ?_)
              refine aw_callV (n := 41) (C0 := RX3) (As := [.ref (gT G 13)]) (rest := []) (K2 := kX3_sees) dX3_row_38 q2826 q2828 qs50 q113 q2829 ⟨rfl, hcX3_sees⟩ rfl hTc.1 (ct_sees G hh b m9 hb hTc T a9 hWc.1.2.2.1.1 tk_5 _ (sw 13) (str_at gd_5 hi_5 (i := 13) rfl) (lo_at (i := 13) rfl)) rfl (Nat.le_of_ble_eq_true rfl) ⟨by dsimp only [kX3_formula, kX3_row, kX3_since, kX3_one, kX3_expression, kX3_product, kX3_factor, kX3_fronted, kX3_compare, kX3_twoSided, kX3_braces, kX3_namedValue, kX3_bounds, kX3_sees, kX3_is, kX3_isName, kX3_which, kX3_numberOf, kX3_find, kX3_node, kX3_wrong, kJ12_length, meK]; omega, by dsimp only [kX3_formula, kX3_row, kX3_since, kX3_one, kX3_expression, kX3_product, kX3_factor, kX3_fronted, kX3_compare, kX3_twoSided, kX3_braces, kX3_namedValue, kX3_bounds, kX3_sees, kX3_is, kX3_isName, kX3_which, kX3_numberOf, kX3_find, kX3_node, kX3_wrong, kJ12_length, meK]; omega⟩ ⟨Nat.zero_le _, Nat.zero_le _⟩ (fun _ _ _ z => z.elim) rfl (fun r_38 h_38 q_38 => ?_)
              obtain ⟨rfl, rfl⟩ := q_38
              refine AW.sts (st' := [.int (bI (seesB T a9 (sw 13)))]) rfl ?_
              refine aw_if_eq (n := 44) (tgt := 115) dX3_row_41 (by decide) rfl (fun c_41 => ?_) (fun c_41 => ?_)
              · skip
                have b_41 : (seesB T a9 (sw 13)) = false := (bI_0 _).mp c_41
                have g_7 := pG_F hg1 (by first | assumption | simp [b_41])
                try dsimp only at g_7
                refine aw_iload_n (n := 116) dX3_row_115 rfl 0 rfl rfl ?_
                exact aw_iret dX3_row_116 rfl ⟨m9, by rw [g_7] <;> rfl, hTc, hFc, (by omega), fun _ => by rw [g_7] <;> rfl, fun z => absurd (by rw [g_7] <;> rfl) z⟩ ⟨Nat.zero_le _, Nat.zero_le _⟩
              · skip
                have b_41 : (seesB T a9 (sw 13)) = true := Bool.of_not_eq_false (fun e => c_41 ((bI_0 _).mpr e))
                have g_9 := pG_T hg1 (by first | assumption | simp [b_41])
                try dsimp only at g_9
                have ne_10 : T.1 a9 ≠ 0 := by have z9 := b_41; first | exact seesB_ne z9 | exact isNm_ne z9 | (have z8 := (beq_iff_eq.mp z9); omega) | exact whT_lt (bne_iff_ne.mp z9) | (rcases (Bool.or_eq_true _ _).mp z9 with z8 | z8 <;> first | exact seesB_ne z8 | (rcases (Bool.or_eq_true _ _).mp z8 with z7 | z7 <;> exact seesB_ne z7))
                refine aw_aload_n (n := 45) dX3_row_44 rfl 2 rfl rfl ?_
                refine aw_getf (n := 48) (v := .int (m9.1 17)) (C0 := RX3) (T := TX3) dX3_row_45 rfl 17 q2658 (Or.inl rfl) hTc.1 rfl rfl ?_
                refine aw_istore (n := 50) (lv' := [(4, .int (m9.1 17)), (3, .int 0), (2, .int 1), (0, .ref b), (1, .ref (gT G 13))]) dX3_row_48 (by decide) rfl rfl ?_
                refine aw_aload_n (n := 51) dX3_row_50 rfl 3 rfl rfl ?_
                refine aw_dup (n := 52) dX3_row_51 rfl rfl ?_
                refine aw_getf (n := 55) (v := .int (nI a9)) (C0 := RX3) (T := TX3) dX3_row_52 rfl 7 q2648 (Or.inl rfl) hTc.1 (congrArg some (congrArg Value.int hWc.1.2.2.1.1)) rfl ?_
                refine aw_iconst (n := 56) (v := 1) dX3_row_55 (by decide) rfl ?_
                refine aw_iadd (n := 57) dX3_row_56 rfl ?_
                refine AW.sts (st' := [.int (nI (a9 + 1)), .ref b]) (by rw [show (nI a9) + 1 = nI (a9 + 1) from (nI_1 _)]) ?_
                refine aw_tput (n := 60) (k := 7) dX3_row_57 q2648 (by decide) rfl rfl rfl rfl rfl hTc hb rfl rfl (fun h_11 hT_11 hF_11 hz_11 => ?_)
                have hG_11 := Fr.trans hFc hF_11
                have N_12 : a9 + 1 ≤ N := lt_end hS.2.1 hN9 ne_10
                have I_13 := hWc.1.at1 (by omega)
                have tk_14 := (hS.kept I_13.2.2.2).1 (a9 + 1) N_12; have Ktk_14 := tk_14.2.1
                try simp only [Bool.true_and, pT, ef, cond_true, gOr, gAnd, gSum, gPro, tS_tS, seesP_eq N_12 hN4 hS.2.1, nmP_eq N_12 hN4 hS.2.1, nuP_eq N_12 hN4 hS.2.1, whP_eq N_12 hN4 hS.2.1] at g_9
                refine aw_iload_n (n := 61) dX3_row_60 rfl 2 rfl rfl ?_
                refine aw_if_eq (n := 64) (tgt := 73) dX3_row_61 (by decide) rfl (fun c_61 => ?_) (fun c_61 => ?_)
                · skip
                  exact absurd c_61 (by decide +kernel)
                · skip
                  refine aw_aload_n (n := 65) dX3_row_64 rfl 3 rfl rfl ?_
                  refine aw_ldcS (n := 67) (q := 12) dX3_row_65 103 rfl rfl ?_
                  obtain ⟨e_67, l_67, a_67, w_67, hR_67⟩ : ∃ (e8 l8 x8 : Nat) (w8 : tM), pX T true f 2 d (a9 + 1) (tS m9 7 (nI (a9 + 1))) = (e8, l8, x8, w8) := ⟨_, _, _, _, rfl⟩
                  have n1_67 : (pX T true f 2 d (a9 + 1) (tS m9 7 (nI (a9 + 1)))).1 ≠ 1 := pG_n g_9 h1 (by decide)
                  have n9_67 : (pX T true f 2 d (a9 + 1) (tS m9 7 (nI (a9 + 1)))).1 ≠ 99 := pG_n g_9 h9 (by decide)
                  have V_67 := (pX_inv T f 2 d (a9 + 1) (B) (tS m9 7 (nI (a9 + 1))) (by omega) (by omega) (by omega) I_13.2.2.1).w (fun _ _ z => I_13.trW z)
                  have Z_67 := pX_N (T := T) (N := N) (f := f) (nt := 2) (d := d) (a := a9 + 1) (m := tS m9 7 (nI (a9 + 1))) hS.2.1 N_12 (by omega)
                  have U_67 := pX_inv T f 2 d (a9 + 1) (B) (tS m9 7 (nI (a9 + 1))) (by omega) (by omega) (by omega) I_13.2.2.1
                  rw [hR_67] at U_67
                  rw [hR_67] at g_9 V_67 Z_67
                  refine aw_callV (n := 70) (C0 := RX3) (As := [.ref (gT G 12)]) (rest := []) (K2 := kX3_row) dX3_row_67 q2990 q2992 qs79 q113 q2993 ⟨rfl, hcX3_row⟩ rfl hT_11.1 (ih 2 h_11 b (tS m9 7 (nI (a9 + 1))) T N (a9 + 1) d (B) (by decide) hb hT_11 (hS.kept I_13.2.2.2) hN4 N_12 (by omega) (by omega) I_13.2.2.1 n1_67 n9_67) rfl (Nat.le_of_ble_eq_true rfl) ⟨by dsimp only [kX3_formula, kX3_row, kX3_since, kX3_one, kX3_expression, kX3_product, kX3_factor, kX3_fronted, kX3_compare, kX3_twoSided, kX3_braces, kX3_namedValue, kX3_bounds, kX3_sees, kX3_is, kX3_isName, kX3_which, kX3_numberOf, kX3_find, kX3_node, kX3_wrong, kJ12_length, meK]; omega, by dsimp only [kX3_formula, kX3_row, kX3_since, kX3_one, kX3_expression, kX3_product, kX3_factor, kX3_fronted, kX3_compare, kX3_twoSided, kX3_braces, kX3_namedValue, kX3_bounds, kX3_sees, kX3_is, kX3_isName, kX3_which, kX3_numberOf, kX3_find, kX3_node, kX3_wrong, kJ12_length, meK]; omega⟩ ⟨Nat.zero_le _, Nat.zero_le _⟩ (fun _ _ _ z => z.elim) rfl (fun r_67 h_67 q_67 => ?_)
                  obtain ⟨m_67, rfl, hT_67, hF_67, hz_67, ok_67, er_67⟩ := q_67
                  rw [hR_67] at ok_67 er_67
                  dsimp only at ok_67 er_67
                  have hG_67 := Fr.trans hG_11 hF_67
                  rcases Nat.eq_zero_or_pos e_67 with y_67 | y_67
                  · skip
                    subst y_67
                    have x_67 := ok_67 rfl
                    subst x_67
                    refine AW.sts (st' := [.int 0]) (by rw [hR_67]; rfl) ?_
                    replace V_67 := V_67 rfl
                    replace Z_67 := Z_67 rfl
                    dsimp only at V_67 Z_67
                    replace U_67 := U_67 rfl
                    dsimp only at U_67
                    have lt_67 : nN (m_67.1 17) < 1203 := by have := V_67.2.2.1; have := V_67.1.2.2.1.2.2.1; have := V_67.1.2.1; omega
                    have g_15 := pG_o g_9
                    try dsimp only at g_15
                    have tk_16 := (hS.kept V_67.1.2.2.2).1 a_67 Z_67; have Ktk_16 := tk_16.2.1
                    try simp only [Bool.true_and, pT, ef, cond_true, gOr, gAnd, gSum, gPro, tS_tS, seesP_eq Z_67 hN4 hS.2.1, nmP_eq Z_67 hN4 hS.2.1, nuP_eq Z_67 hN4 hS.2.1, whP_eq Z_67 hN4 hS.2.1] at g_15
                    refine aw_goto (tgt := 77) dX3_row_70 (by decide) ?_
                    refine aw_istore_n (n := 78) (lv' := [(3, .int 0), (4, .int (m9.1 17)), (2, .int 1), (0, .ref b), (1, .ref (gT G 13))]) dX3_row_77 rfl (by decide) rfl rfl ?_
                    refine aw_iload_n (n := 79) dX3_row_78 rfl 0 rfl rfl ?_
                    refine aw_if_ne (n := 82) (tgt := 112) dX3_row_79 (by decide) rfl (fun c_79 => ?_) (fun c_79 => ?_)
                    · skip
                      exact absurd c_79 (by decide +kernel)
                    · skip
                      refine aw_aload_n (n := 83) dX3_row_82 rfl 3 rfl rfl ?_
                      refine aw_iload_n (n := 84) dX3_row_83 rfl 2 rfl rfl ?_
                      refine aw_if_eq (n := 87) (tgt := 92) dX3_row_84 (by decide) rfl (fun c_84 => ?_) (fun c_84 => ?_)
                      · skip
                        exact absurd c_84 (by decide +kernel)
                      · skip
                        refine aw_bipush (n := 89) (v := 12) dX3_row_87 (by decide) rfl ?_
                        refine aw_goto (tgt := 94) dX3_row_89 (by decide) ?_
                        refine aw_iload (n := 96) dX3_row_94 1 rfl rfl ?_
                        refine aw_aload_n (n := 97) dX3_row_96 rfl 3 rfl rfl ?_
                        refine aw_getf (n := 100) (v := .int (m_67.1 17)) (C0 := RX3) (T := TX3) dX3_row_97 rfl 17 q2658 (Or.inl rfl) hT_67.1 rfl rfl ?_
                        refine aw_iconst (n := 101) (v := (-1)) dX3_row_100 (by decide) rfl ?_
                        refine aw_aload_n (n := 102) dX3_row_101 rfl 3 rfl rfl ?_
                        refine aw_getf (n := 105) (v := .ref (b + 11)) (C0 := RX3) (T := TX3) dX3_row_102 rfl 15 q2656 (Or.inl rfl) hT_67.1 rfl rfl ?_
                        refine aw_iload (n := 107) dX3_row_105 1 rfl rfl ?_
                        refine aw_iald (n := 108) (v := .int (m_67.2.1 15 (nN (m9.1 17)))) dX3_row_107 rfl (nN (m9.1 17)) hWc.2.1 hT_67.a15 (by omega) (by decide) rfl rfl ?_
                        have nlt_108 : nn m_67 < 1203 := Nat.lt_of_le_of_lt V_67.1.2.2.1.2.2.1 (by have := V_67.1.2.1; omega)
                        refine aw_callV (n := 111) (C0 := RX3) (As := [.int 12, .int (m9.1 17), .int (m_67.1 17), .int (-1), .int (m_67.2.1 15 (nN (m9.1 17)))]) (rest := []) (K2 := kX3_node) dX3_row_108 q2974 q2976 qs75 q113 q2977 ⟨rfl, hcX3_node⟩ rfl hT_67.1 (ct_node G h_67 b m_67 hb hT_67 (12 : Int32) (m9.1 17) (m_67.1 17) ((-1) : Int32) (m_67.2.1 15 (nN (m9.1 17))) V_67.1.2.2.1.2.1 (by have := V_67.1.2.2.1.2.2.1; have := V_67.1.2.1; omega)) rfl (Nat.le_of_ble_eq_true rfl) ⟨by dsimp only [kX3_formula, kX3_row, kX3_since, kX3_one, kX3_expression, kX3_product, kX3_factor, kX3_fronted, kX3_compare, kX3_twoSided, kX3_braces, kX3_namedValue, kX3_bounds, kX3_sees, kX3_is, kX3_isName, kX3_which, kX3_numberOf, kX3_find, kX3_node, kX3_wrong, kJ12_length, meK]; omega, by dsimp only [kX3_formula, kX3_row, kX3_since, kX3_one, kX3_expression, kX3_product, kX3_factor, kX3_fronted, kX3_compare, kX3_twoSided, kX3_braces, kX3_namedValue, kX3_bounds, kX3_sees, kX3_is, kX3_isName, kX3_which, kX3_numberOf, kX3_find, kX3_node, kX3_wrong, kJ12_length, meK]; omega⟩ ⟨Nat.zero_le _, Nat.zero_le _⟩ (fun _ _ _ z => z.elim) rfl (fun r_108 h_108 q_108 => ?_)
                        obtain ⟨rfl, hT_108, hF_108, hz_108⟩ := q_108
                        have hG_108 := Fr.trans hG_67 hF_108
                        refine AW.sts (st' := [.int 0]) rfl ?_
                        have Wc_67 : pW true (B + 1) a ms a_67 (nodT m_67 (12 : Int32) (m9.1 17) (m_67.1 17) ((-1) : Int32) (m_67.2.1 15 (nN (m9.1 17)))) := V_67.1.nod (k := 12) (by omega) (Or.inl (by decide)) true (by decide) (fun _ _ => hWc.2.kept ((mF.S (Or.inl rfl)).trans U_67.1.2.2.2)) (fun z => absurd z (by decide)) (fun _ => V_67.2) (fun z => absurd z (by decide)) (fun z => absurd z (by decide)) (fun z => absurd z (by decide))
                        refine aw_pop (n := 112) dX3_row_111 rfl rfl ?_
                        refine aw_goto (tgt := 32) dX3_row_112 (by decide) ?_
                        exact AW.lvs (lv' := [(3, .int 0), (2, .int 1), (0, .ref b), (1, .ref (gT G 13))]) (AW.eq (lv2 := _) (rfl) rfl rfl rfl rfl (ih_32 c a_67 (nodT m_67 (12 : Int32) (m9.1 17) (m_67.1 17) ((-1) : Int32) (m_67.2.1 15 (nN (m9.1 17)))) h_108 Z_67 hT_108 hG_108 (by omega) Wc_67 g_15 (by omega))) (by simp)
                  · skip
                    refine AW.sts (st' := [.int (nI e_67)]) (by rw [hR_67]; rfl) ?_
                    have gE_67 : W9 = (e_67, l_67, a_67, w_67) := pG_er g_9 (by omega)
                    replace er_67 := er_67 (by omega)
                    have E_67 := mE.tr I_13.2.2.2 er_67.1
                    have P_67 := er_67.2.1
                    refine aw_goto (tgt := 77) dX3_row_70 (by decide) ?_
                    refine aw_istore_n (n := 78) (lv' := [(3, .int (nI e_67)), (4, .int (m9.1 17)), (2, .int 1), (0, .ref b), (1, .ref (gT G 13))]) dX3_row_77 rfl (by decide) rfl rfl ?_
                    refine aw_iload_n (n := 79) dX3_row_78 rfl 0 rfl rfl ?_
                    refine aw_if_ne (n := 82) (tgt := 112) dX3_row_79 (by decide) rfl (fun c_79_2 => ?_) (fun c_79_2 => ?_)
                    · skip
                      have n_79_2 : ¬ (e_67 = 0) := fun z => c_79_2 (by have y := (nI_eq (a := e_67) (b := 0) (by omega) (by omega)).mpr z; rw [← ((by rfl) : (0 : Int32) = nI 0)] at y; exact y)
                      refine aw_goto (tgt := 32) dX3_row_112 (by decide) ?_
                      refine aw_iload_n (n := 33) dX3_row_32 rfl 0 rfl rfl ?_
                      refine aw_if_ne (n := 36) (tgt := 115) dX3_row_33 (by decide) rfl (fun c_33_2 => ?_) (fun c_33_2 => ?_)
                      · skip
                        have n_33_2 : ¬ (e_67 = 0) := fun z => c_33_2 (by have y := (nI_eq (a := e_67) (b := 0) (by omega) (by omega)).mpr z; rw [← ((by rfl) : (0 : Int32) = nI 0)] at y; exact y)
                        refine aw_iload_n (n := 116) dX3_row_115 rfl 0 rfl rfl ?_
                        exact aw_iret dX3_row_116 rfl ⟨m_67, by rw [gE_67], hT_67, hG_67, (by omega), fun z => absurd z (by rw [gE_67]; show e_67 ≠ 0; omega), fun _ => ⟨E_67, by rw [gE_67]; exact P_67, by rw [gE_67]; exact er_67.2.2⟩⟩ ⟨Nat.zero_le _, Nat.zero_le _⟩
                      · skip
                        have n_33_2 : e_67 = 0 := (nI_eq (a := e_67) (b := 0) (by omega) (by omega)).mp (by rw [← ((by rfl) : (0 : Int32) = nI 0)]; exact c_33_2)
                        exact absurd n_33_2 (by omega)
                    · skip
                      have n_79_2 : e_67 = 0 := (nI_eq (a := e_67) (b := 0) (by omega) (by omega)).mp (by rw [← ((by rfl) : (0 : Int32) = nI 0)]; exact c_79_2)
                      exact absurd n_79_2 (by omega)
      · skip
        refine AW.sts (st' := [.int (nI e_21)]) (by rw [hR_21]; rfl) ?_
        have gE_21 : W9 = (e_21, l_21, a_21, w_21) := pG_er hg0 (by omega)
        replace er_21 := er_21 (by omega)
        have E_21 := mE.tr hI0.2.2.2 er_21.1
        have P_21 := er_21.2.1
        refine aw_goto (tgt := 31) dX3_row_24 (by decide) ?_
        refine aw_istore_n (n := 32) (lv' := [(3, .int (nI e_21)), (2, .int 1), (0, .ref b), (1, .ref (gT G 13))]) dX3_row_31 rfl (by decide) rfl rfl ?_
        refine aw_iload_n (n := 33) dX3_row_32 rfl 0 rfl rfl ?_
        refine aw_if_ne (n := 36) (tgt := 115) dX3_row_33 (by decide) rfl (fun c_33_3 => ?_) (fun c_33_3 => ?_)
        · skip
          have n_33_3 : ¬ (e_21 = 0) := fun z => c_33_3 (by have y := (nI_eq (a := e_21) (b := 0) (by omega) (by omega)).mpr z; rw [← ((by rfl) : (0 : Int32) = nI 0)] at y; exact y)
          refine aw_iload_n (n := 116) dX3_row_115 rfl 0 rfl rfl ?_
          exact aw_iret dX3_row_116 rfl ⟨m_21, by rw [gE_21], hT_21, hF_21, (by omega), fun z => absurd z (by rw [gE_21]; show e_21 ≠ 0; omega), fun _ => ⟨E_21, by rw [gE_21]; exact P_21, by rw [gE_21]; exact er_21.2.2⟩⟩ ⟨Nat.zero_le _, Nat.zero_le _⟩
        · skip
          have n_33_3 : e_21 = 0 := (nI_eq (a := e_21) (b := 0) (by omega) (by omega)).mp (by rw [← ((by rfl) : (0 : Int32) = nI 0)]; exact c_33_3)
          exact absurd n_33_3 (by omega)

theorem cm_nt2 (G : aG) (h : hH)  (b : Nat) (ms : tM) (T : Tv) (N a : Nat) (hb : gB G ≤ b) (hT : TW b h ms) (hS : tkS ms T N) (hN4 : N ≤ 400) (hN : a ≤ N) (f d B : Nat) (hfB : f ≤ B) (hB : B + 1 ≤ 802) (hm : mS (B + 1) a ms) (h1 : (pX T true (f + 1) 2 d a ms).1 ≠ 1) (h9 : (pX T true (f + 1) 2 d a ms).1 ≠ 99) (ih : meAll G f) : Con G kX3_row [.ref b, .ref (gT G 12)] h ((14 + 2 * (f + 1), 500 + 100 * (f + 1), 0, 0), (fun r h1 => ∃ m9 : tM, r = some (.int (nI (pX T true (f + 1) 2 d a ms).1)) ∧ TW b h1 m9 ∧ Fr (TS b) h h1 ∧ h1.1 = h.1 ∧ ((pX T true (f + 1) 2 d a ms).1 = 0 → m9 = (pX T true (f + 1) 2 d a ms).2.2.2) ∧ ((pX T true (f + 1) 2 d a ms).1 ≠ 0 → mE ms m9 ∧ m9.1 3 = nI (pX T true (f + 1) 2 d a ms).2.1 ∧ (pX T true (f + 1) 2 d a ms).1 < 50)), nX) := by
  refine Con.of (plainFor_of_name rfl) rfl (Nat.le_of_ble_eq_true rfl) ?_
  refine AW.eq (lv2 := [(0, .ref b), (1, .ref (gT G 12))]) (s2 := []) rfl rfl rfl rfl rfl ?_
  generalize hW_ : pX T true (f + 1) 2 d a ms = W9 at h1 h9 ⊢
  have hI0 : pM (B + 1) a ms a ms := pM.rf hm (by omega)
  have hg0 : W9 = pB2 T true (pX T true f) d a ms := hW_.symm
  unfold pB2 at hg0
  have tk_1 := (hS.kept hI0.2.2.2).1 a hN; have Ktk_1 := tk_1.2.1
  try simp only [Bool.true_and, pT, ef, cond_true, gOr, gAnd, gSum, gPro, tS_tS, seesP_eq hN hN4 hS.2.1, nmP_eq hN hN4 hS.2.1, nuP_eq hN hN4 hS.2.1, whP_eq hN hN4 hS.2.1] at hg0
  refine aw_aload_n (n := 1) dX3_row_0 rfl 1 rfl rfl ?_
  refine aw_know (fun gd_1 hi_1 => ?_)
  obtain ⟨v8, w8, z8, f8, hA8, hV8, hf8⟩ := str_at gd_1 hi_1 (i := 12) (bs := sw 12) rfl
  refine aw_callV (n := 4) (C0 := RJ12) (As := []) (rest := []) (K2 := kJ12_length) dX3_row_1 q2834 q583 q584 q122 q585 ⟨rfl, hcJ12_length⟩ rfl hA8 (cs_length G h _ v8 (sw 12).length w8 z8 f8 hA8 hV8 (by decide)) rfl (Nat.le_of_ble_eq_true rfl) ⟨by dsimp only [kX3_formula, kX3_row, kX3_since, kX3_one, kX3_expression, kX3_product, kX3_factor, kX3_fronted, kX3_compare, kX3_twoSided, kX3_braces, kX3_namedValue, kX3_bounds, kX3_sees, kX3_is, kX3_isName, kX3_which, kX3_numberOf, kX3_find, kX3_node, kX3_wrong, kJ12_length, meK]; omega, by dsimp only [kX3_formula, kX3_row, kX3_since, kX3_one, kX3_expression, kX3_product, kX3_factor, kX3_fronted, kX3_compare, kX3_twoSided, kX3_braces, kX3_namedValue, kX3_bounds, kX3_sees, kX3_is, kX3_isName, kX3_which, kX3_numberOf, kX3_find, kX3_node, kX3_wrong, kJ12_length, meK]; omega⟩ ⟨Nat.zero_le _, Nat.zero_le _⟩ (fun _ _ _ z => z.elim) rfl (fun r_1 h_1 q_1 => ?_)
  obtain ⟨rfl, rfl⟩ := q_1
  refine AW.sts (st' := [.int (nI 3)]) rfl ?_
  refine aw_iconst (n := 5) (v := 2) dX3_row_4 (by decide) rfl ?_
  refine aw_icmp_ne (n := 8) (tgt := 12) dX3_row_5 (by decide) rfl (fun c_5 => ?_) (fun c_5 => ?_)
  · skip
    refine aw_iconst (n := 13) (v := 0) dX3_row_12 (by decide) rfl ?_
    refine aw_istore_n (n := 14) (lv' := [(2, .int 0), (0, .ref b), (1, .ref (gT G 12))]) dX3_row_13 rfl (by decide) rfl rfl ?_
    refine aw_iload_n (n := 15) dX3_row_14 rfl 0 rfl rfl ?_
    refine aw_if_eq (n := 18) (tgt := 27) dX3_row_15 (by decide) rfl (fun c_15 => ?_) (fun c_15 => ?_)
    · skip
      refine aw_aload_n (n := 28) dX3_row_27 rfl 1 rfl rfl ?_
      obtain ⟨e_28, l_28, a_28, w_28, hR_28⟩ : ∃ (e8 l8 x8 : Nat) (w8 : tM), pX T true f 3 d a ms = (e8, l8, x8, w8) := ⟨_, _, _, _, rfl⟩
      have n1_28 : (pX T true f 3 d a ms).1 ≠ 1 := pG_n hg0 h1 (by decide)
      have n9_28 : (pX T true f 3 d a ms).1 ≠ 99 := pG_n hg0 h9 (by decide)
      have V_28 := (pX_inv T f 3 d a (B + 1) ms (by omega) (by omega) (by omega) hI0.2.2.1).w (fun _ _ z => hI0.trW z)
      have Z_28 := pX_N (T := T) (N := N) (f := f) (nt := 3) (d := d) (a := a) (m := ms) hS.2.1 hN (by omega)
      have U_28 := pX_inv T f 3 d a (B + 1) ms (by omega) (by omega) (by omega) hI0.2.2.1
      rw [hR_28] at U_28
      rw [hR_28] at hg0 V_28 Z_28
      refine aw_callV (n := 31) (C0 := RX3) (As := []) (rest := []) (K2 := kX3_since) dX3_row_28 q2994 q2996 qs80 q113 q2997 ⟨rfl, hcX3_since⟩ rfl hT.1 (ih 3 h b ms T N a d (B + 1) (by decide) hb hT (hS.kept hI0.2.2.2) hN4 hN (by omega) (by omega) hI0.2.2.1 n1_28 n9_28) rfl (Nat.le_of_ble_eq_true rfl) ⟨by dsimp only [kX3_formula, kX3_row, kX3_since, kX3_one, kX3_expression, kX3_product, kX3_factor, kX3_fronted, kX3_compare, kX3_twoSided, kX3_braces, kX3_namedValue, kX3_bounds, kX3_sees, kX3_is, kX3_isName, kX3_which, kX3_numberOf, kX3_find, kX3_node, kX3_wrong, kJ12_length, meK]; omega, by dsimp only [kX3_formula, kX3_row, kX3_since, kX3_one, kX3_expression, kX3_product, kX3_factor, kX3_fronted, kX3_compare, kX3_twoSided, kX3_braces, kX3_namedValue, kX3_bounds, kX3_sees, kX3_is, kX3_isName, kX3_which, kX3_numberOf, kX3_find, kX3_node, kX3_wrong, kJ12_length, meK]; omega⟩ ⟨Nat.zero_le _, Nat.zero_le _⟩ (fun _ _ _ z => z.elim) rfl (fun r_28 h_28 q_28 => ?_)
      obtain ⟨m_28, rfl, hT_28, hF_28, hz_28, ok_28, er_28⟩ := q_28
      rw [hR_28] at ok_28 er_28
      dsimp only at ok_28 er_28
      rcases Nat.eq_zero_or_pos e_28 with y_28 | y_28
      · skip
        subst y_28
        have x_28 := ok_28 rfl
        subst x_28
        refine AW.sts (st' := [.int 0]) (by rw [hR_28]; rfl) ?_
        replace V_28 := V_28 rfl
        replace Z_28 := Z_28 rfl
        dsimp only at V_28 Z_28
        replace U_28 := U_28 rfl
        dsimp only at U_28
        have lt_28 : nN (m_28.1 17) < 1203 := by have := V_28.2.2.1; have := V_28.1.2.2.1.2.2.1; have := V_28.1.2.1; omega
        have g_3 := pG_o hg0
        try dsimp only at g_3
        have tk_4 := (hS.kept V_28.1.2.2.2).1 a_28 Z_28; have Ktk_4 := tk_4.2.1
        try simp only [Bool.true_and, pT, ef, cond_true, gOr, gAnd, gSum, gPro, tS_tS, seesP_eq Z_28 hN4 hS.2.1, nmP_eq Z_28 hN4 hS.2.1, nuP_eq Z_28 hN4 hS.2.1, whP_eq Z_28 hN4 hS.2.1] at g_3
        refine aw_istore_n (n := 32) (lv' := [(3, .int 0), (2, .int 0), (0, .ref b), (1, .ref (gT G 12))]) dX3_row_31 rfl (by decide) rfl rfl ?_
        suffices L_32 : ∀ (m_ : Nat) (c a9 : Nat) (m9 : tM) (hh : hH) (hN9 : a9 ≤ N) (hTc : TW b hh m9) (hFc : Fr (TS b) h hh) (hzc : hh.1 = h.1) (hWc : pW true (B + 1) a ms a9 m9) (hgc : W9 = pLp (pX T true f 3 d) (gAnd T) (eRow true 11) c a9 m9), c < m_ → AW G kX3_row ((14 + 2 * (f + 1), 500 + 100 * (f + 1), 0, 0), (fun r h1 => ∃ m9 : tM, r = some (.int (nI W9.1)) ∧ TW b h1 m9 ∧ Fr (TS b) h h1 ∧ h1.1 = h.1 ∧ (W9.1 = 0 → m9 = W9.2.2.2) ∧ (W9.1 ≠ 0 → mE ms m9 ∧ m9.1 3 = nI W9.2.1 ∧ W9.1 < 50)), nX) 32 [(3, .int 0), (2, .int 0), (0, .ref b), (1, .ref (gT G 12))] [] hh 0 0 from
          AW.lvs (lv' := [(3, .int 0), (2, .int 0), (0, .ref b), (1, .ref (gT G 12))]) (AW.eq (lv2 := _) (rfl) rfl rfl rfl rfl (L_32 _ 401 a_28 m_28 h_28 Z_28 hT_28 hF_28 (by omega) V_28 g_3 (Nat.lt_succ_self _))) (by simp)
        intro m_
        induction m_ with
        | zero => intro c a9 m9 hh hN9 hTc hFc hzc hWc hgc h_m; exact absurd h_m (Nat.not_lt_zero _)
        | succ m_ ih_32 =>
          intro c a9 m9 hh hN9 hTc hFc hzc hWc hgc h_m
          cases c with
          | zero => exact absurd (by rw [hgc]; rfl) h9
          | succ c =>
            have lt9 : nN (m9.1 17) < 1203 := by have := hWc.2.2.1; have := hWc.1.2.2.1.2.2.1; have := hWc.1.2.1; omega
            have hg1 : W9 = cond (gAnd T a9) (pb (pX T true f 3 d (a9 + 1) (ats m9 (a9 + 1))) fun a1 m1 => pLp (pX T true f 3 d) (gAnd T) (eRow true 11) c a1 (eRow true 11 a9 m9 m1)) (pO a9 m9) := hgc
            have tk_5 := (hS.kept hWc.1.2.2.2).1 a9 hN9; have Ktk_5 := tk_5.2.1
            try simp only [Bool.true_and, pT, ef, cond_true, gOr, gAnd, gSum, gPro, tS_tS, seesP_eq hN9 hN4 hS.2.1, nmP_eq hN9 hN4 hS.2.1, nuP_eq hN9 hN4 hS.2.1, whP_eq hN9 hN4 hS.2.1] at hg1
            refine aw_iload_n (n := 33) dX3_row_32 rfl 0 rfl rfl ?_
            refine aw_if_ne (n := 36) (tgt := 115) dX3_row_33 (by decide) rfl (fun c_33 => ?_) (fun c_33 => ?_)
            · skip
              exact absurd c_33 (by decide +kernel)
            · skip
              refine aw_aload_n (n := 37) dX3_row_36 rfl 2 rfl rfl ?_
              refine aw_aload_n (n := 38) dX3_row_37 rfl 3 rfl rfl ?_
              refine aw_know (fun gd_5 hi_5 => ?_)
              refine aw_callV (n := 41) (C0 := RX3) (As := [.ref (gT G 12)]) (rest := []) (K2 := kX3_sees) dX3_row_38 q2826 q2828 qs50 q113 q2829 ⟨rfl, hcX3_sees⟩ rfl hTc.1 (ct_sees G hh b m9 hb hTc T a9 hWc.1.2.2.1.1 tk_5 _ (sw 12) (str_at gd_5 hi_5 (i := 12) rfl) (lo_at (i := 12) rfl)) rfl (Nat.le_of_ble_eq_true rfl) ⟨by dsimp only [kX3_formula, kX3_row, kX3_since, kX3_one, kX3_expression, kX3_product, kX3_factor, kX3_fronted, kX3_compare, kX3_twoSided, kX3_braces, kX3_namedValue, kX3_bounds, kX3_sees, kX3_is, kX3_isName, kX3_which, kX3_numberOf, kX3_find, kX3_node, kX3_wrong, kJ12_length, meK]; omega, by dsimp only [kX3_formula, kX3_row, kX3_since, kX3_one, kX3_expression, kX3_product, kX3_factor, kX3_fronted, kX3_compare, kX3_twoSided, kX3_braces, kX3_namedValue, kX3_bounds, kX3_sees, kX3_is, kX3_isName, kX3_which, kX3_numberOf, kX3_find, kX3_node, kX3_wrong, kJ12_length, meK]; omega⟩ ⟨Nat.zero_le _, Nat.zero_le _⟩ (fun _ _ _ z => z.elim) rfl (fun r_38 h_38 q_38 => ?_)
              obtain ⟨rfl, rfl⟩ := q_38
              refine AW.sts (st' := [.int (bI (seesB T a9 (sw 12)))]) rfl ?_
              refine aw_if_eq (n := 44) (tgt := 115) dX3_row_41 (by decide) rfl (fun c_41 => ?_) (fun c_41 => ?_)
              · skip
                have b_41 : (seesB T a9 (sw 12)) = false := (bI_0 _).mp c_41
                have g_7 := pG_F hg1 (by first | assumption | simp [b_41])
                try dsimp only at g_7
                refine aw_iload_n (n := 116) dX3_row_115 rfl 0 rfl rfl ?_
                exact aw_iret dX3_row_116 rfl ⟨m9, by rw [g_7] <;> rfl, hTc, hFc, (by omega), fun _ => by rw [g_7] <;> rfl, fun z => absurd (by rw [g_7] <;> rfl) z⟩ ⟨Nat.zero_le _, Nat.zero_le _⟩
              · skip
                have b_41 : (seesB T a9 (sw 12)) = true := Bool.of_not_eq_false (fun e => c_41 ((bI_0 _).mpr e))
                have g_9 := pG_T hg1 (by first | assumption | simp [b_41])
                try dsimp only at g_9
                have ne_10 : T.1 a9 ≠ 0 := by have z9 := b_41; first | exact seesB_ne z9 | exact isNm_ne z9 | (have z8 := (beq_iff_eq.mp z9); omega) | exact whT_lt (bne_iff_ne.mp z9) | (rcases (Bool.or_eq_true _ _).mp z9 with z8 | z8 <;> first | exact seesB_ne z8 | (rcases (Bool.or_eq_true _ _).mp z8 with z7 | z7 <;> exact seesB_ne z7))
                refine aw_aload_n (n := 45) dX3_row_44 rfl 2 rfl rfl ?_
                refine aw_getf (n := 48) (v := .int (m9.1 17)) (C0 := RX3) (T := TX3) dX3_row_45 rfl 17 q2658 (Or.inl rfl) hTc.1 rfl rfl ?_
                refine aw_istore (n := 50) (lv' := [(4, .int (m9.1 17)), (3, .int 0), (2, .int 0), (0, .ref b), (1, .ref (gT G 12))]) dX3_row_48 (by decide) rfl rfl ?_
                refine aw_aload_n (n := 51) dX3_row_50 rfl 3 rfl rfl ?_
                refine aw_dup (n := 52) dX3_row_51 rfl rfl ?_
                refine aw_getf (n := 55) (v := .int (nI a9)) (C0 := RX3) (T := TX3) dX3_row_52 rfl 7 q2648 (Or.inl rfl) hTc.1 (congrArg some (congrArg Value.int hWc.1.2.2.1.1)) rfl ?_
                refine aw_iconst (n := 56) (v := 1) dX3_row_55 (by decide) rfl ?_
                refine aw_iadd (n := 57) dX3_row_56 rfl ?_
                refine AW.sts (st' := [.int (nI (a9 + 1)), .ref b]) (by rw [show (nI a9) + 1 = nI (a9 + 1) from (nI_1 _)]) ?_
                refine aw_tput (n := 60) (k := 7) dX3_row_57 q2648 (by decide) rfl rfl rfl rfl rfl hTc hb rfl rfl (fun h_11 hT_11 hF_11 hz_11 => ?_)
                have hG_11 := Fr.trans hFc hF_11
                have N_12 : a9 + 1 ≤ N := lt_end hS.2.1 hN9 ne_10
                have I_13 := hWc.1.at1 (by omega)
                have tk_14 := (hS.kept I_13.2.2.2).1 (a9 + 1) N_12; have Ktk_14 := tk_14.2.1
                try simp only [Bool.true_and, pT, ef, cond_true, gOr, gAnd, gSum, gPro, tS_tS, seesP_eq N_12 hN4 hS.2.1, nmP_eq N_12 hN4 hS.2.1, nuP_eq N_12 hN4 hS.2.1, whP_eq N_12 hN4 hS.2.1] at g_9
                refine aw_iload_n (n := 61) dX3_row_60 rfl 2 rfl rfl ?_
                refine aw_if_eq (n := 64) (tgt := 73) dX3_row_61 (by decide) rfl (fun c_61 => ?_) (fun c_61 => ?_)
                · skip
                  refine aw_aload_n (n := 74) dX3_row_73 rfl 3 rfl rfl ?_
                  obtain ⟨e_74, l_74, a_74, w_74, hR_74⟩ : ∃ (e8 l8 x8 : Nat) (w8 : tM), pX T true f 3 d (a9 + 1) (tS m9 7 (nI (a9 + 1))) = (e8, l8, x8, w8) := ⟨_, _, _, _, rfl⟩
                  have n1_74 : (pX T true f 3 d (a9 + 1) (tS m9 7 (nI (a9 + 1)))).1 ≠ 1 := pG_n g_9 h1 (by decide)
                  have n9_74 : (pX T true f 3 d (a9 + 1) (tS m9 7 (nI (a9 + 1)))).1 ≠ 99 := pG_n g_9 h9 (by decide)
                  have V_74 := (pX_inv T f 3 d (a9 + 1) (B) (tS m9 7 (nI (a9 + 1))) (by omega) (by omega) (by omega) I_13.2.2.1).w (fun _ _ z => I_13.trW z)
                  have Z_74 := pX_N (T := T) (N := N) (f := f) (nt := 3) (d := d) (a := a9 + 1) (m := tS m9 7 (nI (a9 + 1))) hS.2.1 N_12 (by omega)
                  have U_74 := pX_inv T f 3 d (a9 + 1) (B) (tS m9 7 (nI (a9 + 1))) (by omega) (by omega) (by omega) I_13.2.2.1
                  rw [hR_74] at U_74
                  rw [hR_74] at g_9 V_74 Z_74
                  refine aw_callV (n := 77) (C0 := RX3) (As := []) (rest := []) (K2 := kX3_since) dX3_row_74 q2994 q2996 qs80 q113 q2997 ⟨rfl, hcX3_since⟩ rfl hT_11.1 (ih 3 h_11 b (tS m9 7 (nI (a9 + 1))) T N (a9 + 1) d (B) (by decide) hb hT_11 (hS.kept I_13.2.2.2) hN4 N_12 (by omega) (by omega) I_13.2.2.1 n1_74 n9_74) rfl (Nat.le_of_ble_eq_true rfl) ⟨by dsimp only [kX3_formula, kX3_row, kX3_since, kX3_one, kX3_expression, kX3_product, kX3_factor, kX3_fronted, kX3_compare, kX3_twoSided, kX3_braces, kX3_namedValue, kX3_bounds, kX3_sees, kX3_is, kX3_isName, kX3_which, kX3_numberOf, kX3_find, kX3_node, kX3_wrong, kJ12_length, meK]; omega, by dsimp only [kX3_formula, kX3_row, kX3_since, kX3_one, kX3_expression, kX3_product, kX3_factor, kX3_fronted, kX3_compare, kX3_twoSided, kX3_braces, kX3_namedValue, kX3_bounds, kX3_sees, kX3_is, kX3_isName, kX3_which, kX3_numberOf, kX3_find, kX3_node, kX3_wrong, kJ12_length, meK]; omega⟩ ⟨Nat.zero_le _, Nat.zero_le _⟩ (fun _ _ _ z => z.elim) rfl (fun r_74 h_74 q_74 => ?_)
                  obtain ⟨m_74, rfl, hT_74, hF_74, hz_74, ok_74, er_74⟩ := q_74
                  rw [hR_74] at ok_74 er_74
                  dsimp only at ok_74 er_74
                  have hG_74 := Fr.trans hG_11 hF_74
                  rcases Nat.eq_zero_or_pos e_74 with y_74 | y_74
                  · skip
                    subst y_74
                    have x_74 := ok_74 rfl
                    subst x_74
                    refine AW.sts (st' := [.int 0]) (by rw [hR_74]; rfl) ?_
                    replace V_74 := V_74 rfl
                    replace Z_74 := Z_74 rfl
                    dsimp only at V_74 Z_74
                    replace U_74 := U_74 rfl
                    dsimp only at U_74
                    have lt_74 : nN (m_74.1 17) < 1203 := by have := V_74.2.2.1; have := V_74.1.2.2.1.2.2.1; have := V_74.1.2.1; omega
                    have g_15 := pG_o g_9
                    try dsimp only at g_15
                    have tk_16 := (hS.kept V_74.1.2.2.2).1 a_74 Z_74; have Ktk_16 := tk_16.2.1
                    try simp only [Bool.true_and, pT, ef, cond_true, gOr, gAnd, gSum, gPro, tS_tS, seesP_eq Z_74 hN4 hS.2.1, nmP_eq Z_74 hN4 hS.2.1, nuP_eq Z_74 hN4 hS.2.1, whP_eq Z_74 hN4 hS.2.1] at g_15
                    refine aw_istore_n (n := 78) (lv' := [(3, .int 0), (4, .int (m9.1 17)), (2, .int 0), (0, .ref b), (1, .ref (gT G 12))]) dX3_row_77 rfl (by decide) rfl rfl ?_
                    refine aw_iload_n (n := 79) dX3_row_78 rfl 0 rfl rfl ?_
                    refine aw_if_ne (n := 82) (tgt := 112) dX3_row_79 (by decide) rfl (fun c_79 => ?_) (fun c_79 => ?_)
                    · skip
                      exact absurd c_79 (by decide +kernel)
                    · skip
                      refine aw_aload_n (n := 83) dX3_row_82 rfl 3 rfl rfl ?_
                      refine aw_iload_n (n := 84) dX3_row_83 rfl 2 rfl rfl ?_
                      refine aw_if_eq (n := 87) (tgt := 92) dX3_row_84 (by decide) rfl (fun c_84 => ?_) (fun c_84 => ?_)
                      · skip
                        refine aw_bipush (n := 94) (v := 11) dX3_row_92 (by decide) rfl ?_
                        refine aw_iload (n := 96) dX3_row_94 1 rfl rfl ?_
                        refine aw_aload_n (n := 97) dX3_row_96 rfl 3 rfl rfl ?_
                        refine aw_getf (n := 100) (v := .int (m_74.1 17)) (C0 := RX3) (T := TX3) dX3_row_97 rfl 17 q2658 (Or.inl rfl) hT_74.1 rfl rfl ?_
                        refine aw_iconst (n := 101) (v := (-1)) dX3_row_100 (by decide) rfl ?_
                        refine aw_aload_n (n := 102) dX3_row_101 rfl 3 rfl rfl ?_
                        refine aw_getf (n := 105) (v := .ref (b + 11)) (C0 := RX3) (T := TX3) dX3_row_102 rfl 15 q2656 (Or.inl rfl) hT_74.1 rfl rfl ?_
                        refine aw_iload (n := 107) dX3_row_105 1 rfl rfl ?_
                        refine aw_iald (n := 108) (v := .int (m_74.2.1 15 (nN (m9.1 17)))) dX3_row_107 rfl (nN (m9.1 17)) hWc.2.1 hT_74.a15 (by omega) (by decide) rfl rfl ?_
                        have nlt_108 : nn m_74 < 1203 := Nat.lt_of_le_of_lt V_74.1.2.2.1.2.2.1 (by have := V_74.1.2.1; omega)
                        refine aw_callV (n := 111) (C0 := RX3) (As := [.int 11, .int (m9.1 17), .int (m_74.1 17), .int (-1), .int (m_74.2.1 15 (nN (m9.1 17)))]) (rest := []) (K2 := kX3_node) dX3_row_108 q2974 q2976 qs75 q113 q2977 ⟨rfl, hcX3_node⟩ rfl hT_74.1 (ct_node G h_74 b m_74 hb hT_74 (11 : Int32) (m9.1 17) (m_74.1 17) ((-1) : Int32) (m_74.2.1 15 (nN (m9.1 17))) V_74.1.2.2.1.2.1 (by have := V_74.1.2.2.1.2.2.1; have := V_74.1.2.1; omega)) rfl (Nat.le_of_ble_eq_true rfl) ⟨by dsimp only [kX3_formula, kX3_row, kX3_since, kX3_one, kX3_expression, kX3_product, kX3_factor, kX3_fronted, kX3_compare, kX3_twoSided, kX3_braces, kX3_namedValue, kX3_bounds, kX3_sees, kX3_is, kX3_isName, kX3_which, kX3_numberOf, kX3_find, kX3_node, kX3_wrong, kJ12_length, meK]; omega, by dsimp only [kX3_formula, kX3_row, kX3_since, kX3_one, kX3_expression, kX3_product, kX3_factor, kX3_fronted, kX3_compare, kX3_twoSided, kX3_braces, kX3_namedValue, kX3_bounds, kX3_sees, kX3_is, kX3_isName, kX3_which, kX3_numberOf, kX3_find, kX3_node, kX3_wrong, kJ12_length, meK]; omega⟩ ⟨Nat.zero_le _, Nat.zero_le _⟩ (fun _ _ _ z => z.elim) rfl (fun r_108 h_108 q_108 => ?_)
                        obtain ⟨rfl, hT_108, hF_108, hz_108⟩ := q_108
                        have hG_108 := Fr.trans hG_74 hF_108
                        refine AW.sts (st' := [.int 0]) rfl ?_
                        have Wc_74 : pW true (B + 1) a ms a_74 (nodT m_74 (11 : Int32) (m9.1 17) (m_74.1 17) ((-1) : Int32) (m_74.2.1 15 (nN (m9.1 17)))) := V_74.1.nod (k := 11) (by omega) (Or.inl (by decide)) true (by decide) (fun _ _ => hWc.2.kept ((mF.S (Or.inl rfl)).trans U_74.1.2.2.2)) (fun z => absurd z (by decide)) (fun _ => V_74.2) (fun z => absurd z (by decide)) (fun z => absurd z (by decide)) (fun z => absurd z (by decide))
                        refine aw_pop (n := 112) dX3_row_111 rfl rfl ?_
                        refine aw_goto (tgt := 32) dX3_row_112 (by decide) ?_
                        exact AW.lvs (lv' := [(3, .int 0), (2, .int 0), (0, .ref b), (1, .ref (gT G 12))]) (AW.eq (lv2 := _) (rfl) rfl rfl rfl rfl (ih_32 c a_74 (nodT m_74 (11 : Int32) (m9.1 17) (m_74.1 17) ((-1) : Int32) (m_74.2.1 15 (nN (m9.1 17)))) h_108 Z_74 hT_108 hG_108 (by omega) Wc_74 g_15 (by omega))) (by simp)
                      · skip
                        exact absurd c_84 (by decide +kernel)
                  · skip
                    refine AW.sts (st' := [.int (nI e_74)]) (by rw [hR_74]; rfl) ?_
                    have gE_74 : W9 = (e_74, l_74, a_74, w_74) := pG_er g_9 (by omega)
                    replace er_74 := er_74 (by omega)
                    have E_74 := mE.tr I_13.2.2.2 er_74.1
                    have P_74 := er_74.2.1
                    refine aw_istore_n (n := 78) (lv' := [(3, .int (nI e_74)), (4, .int (m9.1 17)), (2, .int 0), (0, .ref b), (1, .ref (gT G 12))]) dX3_row_77 rfl (by decide) rfl rfl ?_
                    refine aw_iload_n (n := 79) dX3_row_78 rfl 0 rfl rfl ?_
                    refine aw_if_ne (n := 82) (tgt := 112) dX3_row_79 (by decide) rfl (fun c_79_2 => ?_) (fun c_79_2 => ?_)
                    · skip
                      have n_79_2 : ¬ (e_74 = 0) := fun z => c_79_2 (by have y := (nI_eq (a := e_74) (b := 0) (by omega) (by omega)).mpr z; rw [← ((by rfl) : (0 : Int32) = nI 0)] at y; exact y)
                      refine aw_goto (tgt := 32) dX3_row_112 (by decide) ?_
                      refine aw_iload_n (n := 33) dX3_row_32 rfl 0 rfl rfl ?_
                      refine aw_if_ne (n := 36) (tgt := 115) dX3_row_33 (by decide) rfl (fun c_33_2 => ?_) (fun c_33_2 => ?_)
                      · skip
                        have n_33_2 : ¬ (e_74 = 0) := fun z => c_33_2 (by have y := (nI_eq (a := e_74) (b := 0) (by omega) (by omega)).mpr z; rw [← ((by rfl) : (0 : Int32) = nI 0)] at y; exact y)
                        refine aw_iload_n (n := 116) dX3_row_115 rfl 0 rfl rfl ?_
                        exact aw_iret dX3_row_116 rfl ⟨m_74, by rw [gE_74], hT_74, hG_74, (by omega), fun z => absurd z (by rw [gE_74]; show e_74 ≠ 0; omega), fun _ => ⟨E_74, by rw [gE_74]; exact P_74, by rw [gE_74]; exact er_74.2.2⟩⟩ ⟨Nat.zero_le _, Nat.zero_le _⟩
                      · skip
                        have n_33_2 : e_74 = 0 := (nI_eq (a := e_74) (b := 0) (by omega) (by omega)).mp (by rw [← ((by rfl) : (0 : Int32) = nI 0)]; exact c_33_2)
                        exact absurd n_33_2 (by omega)
                    · skip
                      have n_79_2 : e_74 = 0 := (nI_eq (a := e_74) (b := 0) (by omega) (by omega)).mp (by rw [← ((by rfl) : (0 : Int32) = nI 0)]; exact c_79_2)
                      exact absurd n_79_2 (by omega)
                · skip
                  exact absurd c_61 (by decide +kernel)
      · skip
        refine AW.sts (st' := [.int (nI e_28)]) (by rw [hR_28]; rfl) ?_
        have gE_28 : W9 = (e_28, l_28, a_28, w_28) := pG_er hg0 (by omega)
        replace er_28 := er_28 (by omega)
        have E_28 := mE.tr hI0.2.2.2 er_28.1
        have P_28 := er_28.2.1
        refine aw_istore_n (n := 32) (lv' := [(3, .int (nI e_28)), (2, .int 0), (0, .ref b), (1, .ref (gT G 12))]) dX3_row_31 rfl (by decide) rfl rfl ?_
        refine aw_iload_n (n := 33) dX3_row_32 rfl 0 rfl rfl ?_
        refine aw_if_ne (n := 36) (tgt := 115) dX3_row_33 (by decide) rfl (fun c_33_3 => ?_) (fun c_33_3 => ?_)
        · skip
          have n_33_3 : ¬ (e_28 = 0) := fun z => c_33_3 (by have y := (nI_eq (a := e_28) (b := 0) (by omega) (by omega)).mpr z; rw [← ((by rfl) : (0 : Int32) = nI 0)] at y; exact y)
          refine aw_iload_n (n := 116) dX3_row_115 rfl 0 rfl rfl ?_
          exact aw_iret dX3_row_116 rfl ⟨m_28, by rw [gE_28], hT_28, hF_28, (by omega), fun z => absurd z (by rw [gE_28]; show e_28 ≠ 0; omega), fun _ => ⟨E_28, by rw [gE_28]; exact P_28, by rw [gE_28]; exact er_28.2.2⟩⟩ ⟨Nat.zero_le _, Nat.zero_le _⟩
        · skip
          have n_33_3 : e_28 = 0 := (nI_eq (a := e_28) (b := 0) (by omega) (by omega)).mp (by rw [← ((by rfl) : (0 : Int32) = nI 0)]; exact c_33_3)
          exact absurd n_33_3 (by omega)
    · skip
      exact absurd c_15 (by decide +kernel)
  · skip
    exact absurd c_5 (by decide +kernel)

end
