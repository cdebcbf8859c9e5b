/-! The twin: meaning. -/
section
set_option maxRecDepth 100000
theorem item_k {T : Tv} {im : Bool} {r : pF} {a : Nat} {m : tM} (h : (pItem T im r a m).1 ≠ 1) : seesP T a (sw 0) = true ∨ seesP T a (sw 1) = true ∨ seesP T a (sw 2) = true ∨ seesP T a (sw 3) = true := by
  cases e0 : seesP T a (sw 0) with
  | true => exact Or.inl rfl
  | false =>
    cases e1 : seesP T a (sw 1) with
    | true => exact Or.inr (Or.inl rfl)
    | false =>
      cases e2 : seesP T a (sw 2) with
      | true => exact Or.inr (Or.inr (Or.inl rfl))
      | false =>
        cases e3 : seesP T a (sw 3) with
        | true => exact Or.inr (Or.inr (Or.inr rfl))
        | false =>
          unfold pItem at h
          rw [e0, e1, e2, e3] at h
          exact absurd rfl h
theorem seesP_B {T : Tv} {a : Nat} {w : List Nat} (h : seesP T a w = true) : seesB T a w = true := by
  simp only [seesP, Bool.and_eq_true] at h
  exact h.2
theorem ci_item (G : aG) (h : hH) (b : Nat) (ms : tM) (T : Tv) (N a : Nat) (hb : gB G ≤ b) (hT : TW b h ms) (hS : tkS ms T N) (hN4 : N ≤ 400) (hN : a ≤ N) (f B : Nat) (hfB : f ≤ B) (hB : B + 1 ≤ 802) (hm : mS (B + 1) a ms) (hp : pgI ms) (hlt : b + 25 ≤ h.1) (h1 : (pItem T true (pX T true f) a ms).1 ≠ 1) (h9 : (pItem T true (pX T true f) a ms).1 ≠ 99) (ih : meAll G f) : Con G kX3_itemMeant [.ref b] h ((15 + 2 * f, 600 + 100 * f, 1, 4), (fun r h1 => ∃ (m9 : tM) (a9 : Nat), r = some (.int (nI (pItem T true (pX T true f) a ms).1)) ∧ TW b h1 m9 ∧ Fr (TS b) h h1 ∧ h1.1 ≤ h.1 + 1 ∧ ((pItem T true (pX T true f) a ms).1 = 0 → (pItem T true (pX T true f) a ms).2.2 = (a9 + 1, ats m9 (a9 + 1)) ∧ m9.1 7 = nI a9) ∧ ((pItem T true (pX T true f) a ms).1 ≠ 0 → gF ms m9 ∧ m9.1 3 = nI (pItem T true (pX T true f) a ms).2.1 ∧ (pItem T true (pX T true f) a ms).1 < 50)), nX) := by
  rcases item_k h1 with e | e | e | e
  · exact ci_0 G h b ms T N a hb hT hS hN4 hN f B hfB hB hm hp (seesP_B e) hlt h1 h9 ih
  · exact ci_1 G h b ms T N a hb hT hS hN4 hN f B hfB hB hm hp (seesP_B e) hlt h1 h9 ih
  · exact ci_2 G h b ms T N a hb hT hS hN4 hN f B hfB hB hm hp (seesP_B e) hlt h1 h9 ih
  · exact ci_3 G h b ms T N a hb hT hS hN4 hN f B hfB hB hm hp (seesP_B e) hlt h1 h9 ih
abbrev kX3_meaning : aK := (yX3_meaning, cX3_meaning, 2, (Option.some Jvm.ClassFile.FieldType.int), [])
theorem hcX3_meaning : kX3_meaning.1.cls ≠ "java/lang/invoke/MethodHandle" ∧ kX3_meaning.1.cls ≠ "java/lang/invoke/VarHandle" ∧ (parseMethodDescriptor kX3_meaning.1.desc).map (fun d => d.parameters.length) = some 0 := ⟨by decide, by decide, by decide +kernel⟩
theorem cm_meaning (G : aG) (h : hH)  (b : Nat) (ms : tM) (T : Tv) (N a : Nat) (hb : gB G ≤ b) (hT : TW b h ms) (hS : tkS ms T N) (hN4 : N ≤ 400) (hN : a ≤ N) (f B : Nat) (hfB : f ≤ B) (hB : B + 1 ≤ 802) (hm : mS (B + 1) a ms) (hp : pgI ms) (hlt : b + 25 ≤ h.1) (h1 : (pPg T true (pX T true f) 401 a ms).1 ≠ 1) (h9 : (pPg T true (pX T true f) 401 a ms).1 ≠ 99) (ih : meAll G f) : Con G kX3_meaning [.ref b] h ((16 + 2 * f, 680 + 100 * f, 401, 1604), (fun r h1 => ∃ m9 : tM, r = some (.int (nI (pPg T true (pX T true f) 401 a ms).1)) ∧ TW b h1 m9 ∧ Fr (TS b) h h1 ∧ h1.1 ≤ h.1 + 401 ∧ ((pPg T true (pX T true f) 401 a ms).1 = 0 → m9 = (pPg T true (pX T true f) 401 a ms).2.2.2) ∧ ((pPg T true (pX T true f) 401 a ms).1 ≠ 0 → gF ms m9 ∧ m9.1 3 = nI (pPg T true (pX T true f) 401 a ms).2.1 ∧ (pPg T true (pX T true f) 401 a ms).1 < 50)), nX) := by
  refine Con.of (plainFor_of_name rfl) rfl (Nat.le_of_ble_eq_true rfl) ?_
  refine AW.eq (lv2 := [(0, .ref b)]) (s2 := []) rfl rfl rfl rfl rfl ?_
  generalize hW_ : pPg T true (pX T true f) 401 a ms = W9 at h1 h9 ⊢
  have ne0 : T.1 a ≠ 0 := fun z => h1 (by rw [← hW_]; show (pb (pItem T true (pX T true f) a ms) _).1 = 1; unfold pItem; rw [seesP_0 z, seesP_0 z, seesP_0 z, seesP_0 z]; rfl)
  have hg0 : W9 = cond (T.1 a == 0) (cond (decide (mnN ms 3 = 0)) (pE T 6 a a ms) (pO a ms)) (pPg T true (pX T true f) (401) a ms) := by rw [beq_false_of_ne ne0, ← hW_]; rfl
  suffices L_0 : ∀ (m_ : Nat) (c a9 k9 : Nat) (m9 : tM) (hh : hH) (hk9 : k9 + c ≤ 401) (hN9 : a9 ≤ N) (SM : mS (B + 1) a9 m9) (PM : pgI m9) (GM : gF ms m9) (hTc : TW b hh m9) (hFc : Fr (TS b) h hh) (hzc : hh.1 ≤ h.1 + k9) (hgc : W9 = cond (T.1 a9 == 0) (cond (decide (mnN m9 3 = 0)) (pE T 6 a9 a9 m9) (pO a9 m9)) (pPg T true (pX T true f) c a9 m9)), c + 1 < m_ → AW G kX3_meaning ((16 + 2 * f, 680 + 100 * f, 401, 1604), (fun r h1 => ∃ m9 : tM, r = some (.int (nI W9.1)) ∧ TW b h1 m9 ∧ Fr (TS b) h h1 ∧ h1.1 ≤ h.1 + 401 ∧ (W9.1 = 0 → m9 = W9.2.2.2) ∧ (W9.1 ≠ 0 → gF ms m9 ∧ m9.1 3 = nI W9.2.1 ∧ W9.1 < 50)), nX) 0 [(0, .ref b)] [] hh k9 (4 * k9) from
    AW.lvs (lv' := [(0, .ref b)]) (AW.eq (lv2 := _) (rfl) rfl rfl rfl rfl (L_0 _ 401 a 0 ms h (by omega) hN hm hp (gF.rf ms) hT Fr.rf (Nat.le_refl _) hg0 (Nat.lt_succ_self _))) (by simp)
  intro m_
  induction m_ with
  | zero => intro c a9 k9 m9 hh hk9 hN9 SM PM GM hTc hFc hzc hgc h_m; exact absurd h_m (Nat.not_lt_zero _)
  | succ m_ ih_0 =>
    intro c a9 k9 m9 hh hk9 hN9 SM PM GM hTc hFc hzc hgc h_m
    have hS9 := hS.g GM
    have tk9 := hS9.1 a9 hN9; have Ktk9 := tk9.2.1
    have q3 := PM.1 3 (by decide); have l3 := PM.2.2.1 3 (by decide) (by decide)
    refine aw_aload_n (n := 1) dX3_meaning_0 rfl 0 rfl rfl ?_
    refine aw_getf (n := 4) (v := .ref (b + 2)) (C0 := RX3) (T := TX3) dX3_meaning_1 rfl 4 q2645 (Or.inl rfl) hTc.1 rfl rfl ?_
    refine aw_aload_n (n := 5) dX3_meaning_4 rfl 0 rfl rfl ?_
    refine aw_getf (n := 8) (v := .int (nI a9)) (C0 := RX3) (T := TX3) dX3_meaning_5 rfl 7 q2648 (Or.inl rfl) hTc.1 (congrArg some (congrArg Value.int SM.1)) rfl ?_
    refine aw_iald (n := 9) (v := .int (m9.2.1 4 a9)) dX3_meaning_8 rfl a9 rfl hTc.a4 (by omega) (by decide) rfl rfl ?_
    refine aw_if_eq (n := 12) (tgt := 36) dX3_meaning_9 (by decide) rfl (fun c_9 => ?_) (fun c_9 => ?_)
    · skip
      have n_9 : (T.1 a9) = 0 := (nI_eq (a := (T.1 a9)) (b := 0) (by omega) (by omega)).mp (by rw [← (tk9.2.2.1 : (m9.2.1 4 a9) = nI (T.1 a9)), ← ((by rfl) : (0 : Int32) = nI 0)]; exact c_9)
      refine aw_aload_n (n := 37) dX3_meaning_36 rfl 0 rfl rfl ?_
      refine aw_getf (n := 40) (v := .ref (b + 16)) (C0 := RX3) (T := TX3) dX3_meaning_37 rfl 23 q2664 (Or.inl rfl) hTc.1 rfl rfl ?_
      refine aw_iconst (n := 41) (v := 3) dX3_meaning_40 (by decide) rfl ?_
      refine aw_iald (n := 42) (v := .int (m9.2.1 23 3)) dX3_meaning_41 rfl 3 (by rfl) hTc.a23 (by omega) (by decide) rfl rfl ?_
      refine aw_if_ne (n := 45) (tgt := 58) dX3_meaning_42 (by decide) rfl (fun c_42 => ?_) (fun c_42 => ?_)
      · skip
        have n_42 : ¬ ((mnN m9 3) = 0) := fun z => c_42 (by have y := (nI_eq (a := (mnN m9 3)) (b := 0) (by omega) (by omega)).mpr z; rw [← (q3 : (m9.2.1 23 3) = nI (mnN m9 3)), ← ((by rfl) : (0 : Int32) = nI 0)] at y; exact y)
        refine aw_iconst (n := 59) (v := 0) dX3_meaning_58 (by decide) rfl ?_
        have hg1 : W9 = pO a9 m9 := by rw [hgc, show (T.1 a9 == 0) = true from beq_iff_eq.mpr n_9, show decide (mnN m9 3 = 0) = false from decide_eq_false n_42]; rfl
        exact aw_iret dX3_meaning_59 rfl ⟨m9, by rw [hg1] <;> rfl, hTc, hFc, by omega, fun _ => by rw [hg1] <;> rfl, fun z => absurd (by rw [hg1] <;> rfl) z⟩ ⟨(by first | exact Nat.le_refl _ | omega | (dsimp only; omega)), (by first | exact Nat.le_refl _ | omega | (dsimp only; omega))⟩
      · skip
        have n_42 : (mnN m9 3) = 0 := (nI_eq (a := (mnN m9 3)) (b := 0) (by omega) (by omega)).mp (by rw [← (q3 : (m9.2.1 23 3) = nI (mnN m9 3)), ← ((by rfl) : (0 : Int32) = nI 0)]; exact c_42)
        refine aw_aload_n (n := 46) dX3_meaning_45 rfl 0 rfl rfl ?_
        refine aw_bipush (n := 48) (v := 6) dX3_meaning_46 (by decide) rfl ?_
        refine aw_aload_n (n := 49) dX3_meaning_48 rfl 0 rfl rfl ?_
        refine aw_getf (n := 52) (v := .int (nI a9)) (C0 := RX3) (T := TX3) dX3_meaning_49 rfl 7 q2648 (Or.inl rfl) hTc.1 (congrArg some (congrArg Value.int SM.1)) rfl ?_
        refine aw_callV (n := 55) (C0 := RX3) (As := [.int 6, .int (nI a9)]) (rest := []) (K2 := kX3_wrong) dX3_meaning_52 q2935 q2937 qs66 q113 q2938 ⟨rfl, hcX3_wrong⟩ rfl hTc.1 (ct_wrong G hh b m9 hb hTc T a9 tk9 6) rfl (Nat.le_of_ble_eq_true rfl) ⟨by dsimp only [kX3_formula, kX3_row, kX3_since, kX3_one, kX3_expression, kX3_product, kX3_factor, kX3_fronted, kX3_compare, kX3_twoSided, kX3_braces, kX3_namedValue, kX3_bounds, kX3_itemMeant, kX3_sees, kX3_is, kX3_isName, kX3_which, kX3_numberOf, kX3_find, kX3_node, kX3_wrong, kJ12_length, meK]; omega, by dsimp only [kX3_formula, kX3_row, kX3_since, kX3_one, kX3_expression, kX3_product, kX3_factor, kX3_fronted, kX3_compare, kX3_twoSided, kX3_braces, kX3_namedValue, kX3_bounds, kX3_itemMeant, kX3_sees, kX3_is, kX3_isName, kX3_which, kX3_numberOf, kX3_find, kX3_node, kX3_wrong, kJ12_length, meK]; omega⟩ ⟨by first | omega | (dsimp only; omega) | decide, by first | omega | (dsimp only; omega) | decide⟩ (fun _ _ _ z => z.elim) rfl (fun r_52 h_52 q_52 => ?_)
        obtain ⟨rfl, hT_52, hF_52, hz_52⟩ := q_52
        have hG_52 := Fr.trans hFc hF_52
        refine AW.sts (st' := [.int 6]) rfl ?_
        refine aw_goto (tgt := 59) dX3_meaning_55 (by decide) ?_
        have hg1 : W9 = pE T 6 a9 a9 m9 := by rw [hgc, show (T.1 a9 == 0) = true from beq_iff_eq.mpr n_9, show decide (mnN m9 3 = 0) = true from decide_eq_true n_42]; rfl
        exact aw_iret dX3_meaning_59 rfl ⟨tS m9 3 (nI (T.2.1 a9)), by rw [hg1] <;> rfl, hT_52, hG_52, by omega, fun z => absurd z (by rw [hg1]; exact (by decide : (6 : Nat) ≠ 0)), fun _ => ⟨GM.S (by decide), by rw [hg1] <;> rfl, by rw [hg1]; exact (by decide : (6 : Nat) < 50)⟩⟩ ⟨(by first | exact Nat.le_refl _ | omega | (dsimp only; omega)), (by first | exact Nat.le_refl _ | omega | (dsimp only; omega))⟩
    · skip
      have n_9 : ¬ ((T.1 a9) = 0) := fun z => c_9 (by have y := (nI_eq (a := (T.1 a9)) (b := 0) (by omega) (by omega)).mpr z; rw [← (tk9.2.2.1 : (m9.2.1 4 a9) = nI (T.1 a9)), ← ((by rfl) : (0 : Int32) = nI 0)] at y; exact y)
      refine aw_aload_n (n := 13) dX3_meaning_12 rfl 0 rfl rfl ?_
      cases c with
      | zero => exact absurd (by rw [hgc, beq_false_of_ne n_9]; rfl) h9
      | succ c =>
        have hg1 : W9 = pb (pItem T true (pX T true f) a9 m9) fun a1 m1 => cond (T.1 a1 == 0) (cond (decide (mnN m1 3 = 0)) (pE T 6 a1 a1 m1) (pO a1 m1)) (pPg T true (pX T true f) c a1 m1) := by rw [hgc, beq_false_of_ne n_9]; rfl
        have n1 : (pItem T true (pX T true f) a9 m9).1 ≠ 1 := pG_n hg1 h1 (by decide)
        have n9 : (pItem T true (pX T true f) a9 m9).1 ≠ 99 := pG_n hg1 h9 (by decide)
        obtain ⟨e8, l8, a8, w8, hR⟩ : ∃ (e l x : Nat) (w : tM), pItem T true (pX T true f) a9 m9 = (e, l, x, w) := ⟨_, _, _, _, rfl⟩
        have V := pItem_inv (T := T) (f := f) (by omega : f ≤ B + 1) hB (show pG (B + 1) a9 m9 a9 m9 from ⟨Nat.le_refl _, by omega, SM, PM, gF.rf m9⟩)
        have Z : (pItem T true (pX T true f) a9 m9).1 = 0 → (pItem T true (pX T true f) a9 m9).2.2.1 ≤ N := fun z => by rw [← ((pQ_item T true f a9 m9).2 z).2]; exact (qItem_W hS.2.1 f a9 hN9 (by omega)).2.1
        rw [hR] at hg1 V Z
        refine aw_callV (n := 16) (C0 := RX3) (As := []) (rest := []) (K2 := kX3_itemMeant) dX3_meaning_13 q2943 q2945 qs68 q113 q2946 ⟨rfl, hcX3_itemMeant⟩ rfl hTc.1 (ci_item G hh b m9 T N a9 hb hTc hS9 hN4 hN9 f B hfB hB SM PM (by have := hFc.1; omega) n1 n9 ih) rfl (Nat.le_of_ble_eq_true rfl) ⟨by dsimp only [kX3_formula, kX3_row, kX3_since, kX3_one, kX3_expression, kX3_product, kX3_factor, kX3_fronted, kX3_compare, kX3_twoSided, kX3_braces, kX3_namedValue, kX3_bounds, kX3_itemMeant, kX3_sees, kX3_is, kX3_isName, kX3_which, kX3_numberOf, kX3_find, kX3_node, kX3_wrong, kJ12_length, meK]; omega, by dsimp only [kX3_formula, kX3_row, kX3_since, kX3_one, kX3_expression, kX3_product, kX3_factor, kX3_fronted, kX3_compare, kX3_twoSided, kX3_braces, kX3_namedValue, kX3_bounds, kX3_itemMeant, kX3_sees, kX3_is, kX3_isName, kX3_which, kX3_numberOf, kX3_find, kX3_node, kX3_wrong, kJ12_length, meK]; omega⟩ ⟨by first | omega | (dsimp only; omega) | decide, by first | omega | (dsimp only; omega) | decide⟩ (fun _ _ _ z => z.elim) rfl (fun r_13 h_13 q_13 => ?_)
        obtain ⟨m8, x8, rfl, hT_13, hF_13, hz_13, ok, er⟩ := q_13
        rw [hR] at ok er
        dsimp only at ok er
        have hG_13 := Fr.trans hFc hF_13
        rcases Nat.eq_zero_or_pos e8 with y | y
        · skip
          subst y
          obtain ⟨ok1, ok2⟩ := ok rfl
          have ea := congrArg Prod.fst ok1; have ew := congrArg Prod.snd ok1
          dsimp only at ea ew
          subst ea
          subst ew
          replace V := V rfl; replace Z := Z rfl
          dsimp only at V Z
          have hg2 := pG_o hg1
          try dsimp only at hg2
          refine AW.sts (st' := [.int 0]) (by rw [hR]; rfl) ?_
          refine aw_istore_n (n := 17) (lv' := [(1, .int 0), (0, .ref b)]) dX3_meaning_16 rfl (by decide) rfl rfl ?_
          refine aw_iload_n (n := 18) dX3_meaning_17 rfl 0 rfl rfl ?_
          refine aw_if_eq (n := 21) (tgt := 23) dX3_meaning_18 (by decide) rfl (fun c_18 => ?_) (fun c_18 => ?_)
          · skip
            refine aw_aload_n (n := 24) dX3_meaning_23 rfl 1 rfl rfl ?_
            refine aw_dup (n := 25) dX3_meaning_24 rfl rfl ?_
            refine aw_getf (n := 28) (v := .int (nI x8)) (C0 := RX3) (T := TX3) dX3_meaning_25 rfl 7 q2648 (Or.inl rfl) hT_13.1 (congrArg some (congrArg Value.int ok2)) rfl ?_
            refine aw_iconst (n := 29) (v := 1) dX3_meaning_28 (by decide) rfl ?_
            refine aw_iadd (n := 30) dX3_meaning_29 rfl ?_
            refine AW.sts (st' := [.int (nI (x8 + 1)), .ref b]) (by rw [show (nI x8) + 1 = nI (x8 + 1) from (nI_1 _)]) ?_
            refine aw_tput (n := 33) (k := 7) dX3_meaning_30 q2648 (by decide) rfl rfl rfl rfl rfl hT_13 hb rfl rfl (fun h_1 hT_1 hF_1 hz_1 => ?_)
            have hG_1 := Fr.trans hG_13 hF_1
            refine aw_goto (tgt := 0) dX3_meaning_33 (by decide) ?_
            exact AW.lvs (lv' := [(0, .ref b)]) (AW.eq (lv2 := _) (rfl) rfl rfl rfl rfl (ih_0 c (x8 + 1) (k9 + 1) (tS m8 7 (nI (x8 + 1))) h_1 (by omega) Z V.2.2.1 V.2.2.2.1 (GM.tr V.2.2.2.2) hT_1 hG_1 (by omega) hg2 (by omega))) (by simp)
          · skip
            exact absurd c_18 (by decide +kernel)
        · skip
          obtain ⟨er1, er2, er3⟩ := er (by omega)
          have gE : W9 = (e8, l8, a8, w8) := pG_er hg1 (by omega)
          refine AW.sts (st' := [.int (nI e8)]) (by rw [hR]; rfl) ?_
          refine aw_istore_n (n := 17) (lv' := [(1, .int (nI e8)), (0, .ref b)]) dX3_meaning_16 rfl (by decide) rfl rfl ?_
          refine aw_iload_n (n := 18) dX3_meaning_17 rfl 0 rfl rfl ?_
          refine aw_if_eq (n := 21) (tgt := 23) dX3_meaning_18 (by decide) rfl (fun c_18_2 => ?_) (fun c_18_2 => ?_)
          · skip
            have n_18_2 : e8 = 0 := (nI_eq (a := e8) (b := 0) (by omega) (by omega)).mp (by rw [← ((by rfl) : (0 : Int32) = nI 0)]; exact c_18_2)
            exact absurd n_18_2 (by omega)
          · skip
            have n_18_2 : ¬ (e8 = 0) := fun z => c_18_2 (by have y := (nI_eq (a := e8) (b := 0) (by omega) (by omega)).mpr z; rw [← ((by rfl) : (0 : Int32) = nI 0)] at y; exact y)
            refine aw_iload_n (n := 22) dX3_meaning_21 rfl 0 rfl rfl ?_
            exact aw_iret dX3_meaning_22 rfl ⟨m8, by rw [gE], hT_13, hG_13, by omega, fun z => absurd z (by rw [gE]; show e8 ≠ 0; omega), fun _ => ⟨GM.tr er1, by rw [gE]; exact er2, by rw [gE]; exact er3⟩⟩ ⟨(by first | exact Nat.le_refl _ | omega | (dsimp only; omega)), (by first | exact Nat.le_refl _ | omega | (dsimp only; omega))⟩

end
