/-! Trees: balanceInsertion. -/
section
set_option maxRecDepth 100000
theorem BT.lr {lt : Nat → Nat → Prop} (h3 : lt3 lt) {N : Nat → Prop} {pa lf rt : oF} {root : Nat} {lo hi : oF} {ht : Nat → Nat} {B x y : Nat} (h : BT lt N pa lf rt root lo hi ht B) (hx : N x) (h1 : lf x = some y) : rt x ≠ some y := fun h2 => by
  obtain ⟨x1, x2, x3, x4, x5, x6, x7, x8, x9⟩ := h.2.2.2.2 x hx
  have a := x4 y h1; have b := x6 y h2
  obtain ⟨y1, y2, y3, y4⟩ := h.2.2.2.2 y a.1
  exact h3.1 x (h3.2 x y x (y2 x b.2.2.1) (y3 x a.2.2.2.1))
/-- a parent -/
theorem BT.up {lt : Nat → Nat → Prop} {N : Nat → Prop} {pa lf rt : oF} {root : Nat} {lo hi : oF} {ht : Nat → Nat} {B x y : Nat} (h : BT lt N pa lf rt root lo hi ht B) (hx : N x) (h1 : pa x = some y) : N y ∧ ht x < ht y ∧ x ≠ y ∧ (lf y = some x ∨ rt y = some x) := by
  obtain ⟨x1, x2, x3, x4, x5, x6, x7, x8, x9⟩ := h.2.2.2.2 x hx
  obtain ⟨k1, k2⟩ := x8 y h1
  obtain ⟨y1, y2, y3, y4, y5, y6, y7, y8, y9⟩ := h.2.2.2.2 y k1
  have hlt : ht x < ht y := by
    rcases k2 with k | k
    · exact (y4 x k).2.2.2.2
    · exact (y6 x k).2.2.2.2
  exact ⟨k1, hlt, fun e => by rw [e] at hlt; omega, k2⟩
theorem BT.top {lt : Nat → Nat → Prop} {N : Nat → Prop} {pa lf rt : oF} {root : Nat} {lo hi : oF} {ht : Nat → Nat} {B x : Nat} (h : BT lt N pa lf rt root lo hi ht B) (hx : N x) (h1 : pa x = none) : x = root := (h.2.2.2.2 x hx).2.2.2.2.2.2.2.2 h1
theorem BT.ht {lt : Nat → Nat → Prop} {N : Nat → Prop} {pa lf rt : oF} {root : Nat} {lo hi : oF} {ht : Nat → Nat} {B x : Nat} (h : BT lt N pa lf rt root lo hi ht B) (hx : N x) : ht x < B := (h.2.2.2.2 x hx).1
theorem BT.ch {lt : Nat → Nat → Prop} {N : Nat → Prop} {pa lf rt : oF} {root : Nat} {lo hi : oF} {ht : Nat → Nat} {B x y : Nat} (h : BT lt N pa lf rt root lo hi ht B) (hx : N x) (h1 : lf x = some y ∨ rt x = some y) : N y := by
  obtain ⟨x1, x2, x3, x4, x5, x6, x7, x8, x9⟩ := h.2.2.2.2 x hx
  rcases h1 with k | k
  · exact (x4 y k).1
  · exact (x6 y k).1
def bal (N : Nat → Prop) (pa : oF) (rd : Nat → Bool) (ht : Nat → Nat) (B x μ : Nat) : Prop := B - ht x < μ ∨ (0 < μ ∧ ∀ y, pa x = some y → rd y = false)
abbrev kJ27_balanceInsertion : aK := (yJ27_balanceInsertion, cJ27_balanceInsertion, 6, (Option.some (Jvm.ClassFile.FieldType.object "java/util/HashMap$TreeNode")), [])
theorem hcJ27_balanceInsertion : kJ27_balanceInsertion.1.cls ≠ "java/lang/invoke/MethodHandle" ∧ kJ27_balanceInsertion.1.cls ≠ "java/lang/invoke/VarHandle" ∧ (parseMethodDescriptor kJ27_balanceInsertion.1.desc).map (fun d => d.parameters.length) = some 2 := ⟨by decide, by decide, by decide +kernel⟩
theorem hm_bal (G : aG) (h : hH) (N : Nat → Prop) (κ : Nat → Int32 × Nat × Nat) (nx pa lf rt pv : oF) (rd : Nat → Bool) (hTP : TPic G h N κ nx pa lf rt pv rd) (lt : Nat → Nat → Prop) (root : Nat) (bl bh : oF) (ht : Nat → Nat) (B : Nat) (hB : BT lt N pa lf rt root bl bh ht B) (h3 : lt3 lt) (x : Nat) (hx : N x) : Con G kJ27_balanceInsertion [.ref root, .ref x] h ((2, 24, 0, 0), (fun z h1 => ∃ (root1 : Nat) (pa1 lf1 rt1 : oF) (rd1 : Nat → Bool) (lo1 hi1 : oF) (ht1 : Nat → Nat) (B1 : Nat), z = some (.ref root1) ∧ TPic G h1 N κ nx pa1 lf1 rt1 pv rd1 ∧ BT lt N pa1 lf1 rt1 root1 lo1 hi1 ht1 B1 ∧ Fr N h h1 ∧ h1.1 = h.1), nX) := by
  refine Con.of (plainFor_of_name rfl) rfl (Nat.le_of_ble_eq_true rfl) ?_
  refine AW.eq (lv2 := [(0, .ref root), (1, .ref x)]) (s2 := []) rfl rfl rfl rfl rfl ?_
  refine aw_know (fun gd hi => ?_)
  refine aw_aload_n (n := 1) dJ27_balanceInsertion_0 rfl 1 rfl rfl ?_
  refine aw_iconst (n := 2) (v := 1) dJ27_balanceInsertion_1 (by decide) rfl ?_
  refine aw_putK (n := 5) (fs' := [.null, .null, .int (κ x).1, .ref (κ x).2.1, .ref (κ x).2.2, va_rf (nx x), va_rf (pa x), va_rf (lf x), va_rf (rt x), va_rf (pv x), .int (bI true)]) (C0 := RJ27) (T := TJ27) (N := 11) (ci := 27) dJ27_balanceInsertion_2 rfl in_J27 tyJ27 tyJ27_ok nmJ27 q1601 10 (by decide) q1614 (Or.inl rfl) (Or.inl rfl) rfl (hTP x hx).1 (hTP x hx).2 rfl rfl (Nat.le_of_ble_eq_true rfl) rfl rfl (fun y_1 w_1 => ?_)
  have zy_1 : y_1.1 = h.1 := w_1.2.2
  have hT_1 := TPic.prd (v := true) hTP w_1
  suffices L_5 : ∀ (m_ : Nat) (hh : hH) (pa1 lf1 rt1 : oF) (rd1 : Nat → Bool) (root1 : Nat) (lo1 hi1 : oF) (ht1 : Nat → Nat) (B1 x1 μ : Nat) (hTc : TPic G hh N κ nx pa1 lf1 rt1 pv rd1) (hBc : BT lt N pa1 lf1 rt1 root1 lo1 hi1 ht1 B1) (hxc : N x1) (hFc : Fr N h hh) (hzc : hh.1 = h.1) (hμ : bal N pa1 rd1 ht1 B1 x1 μ), μ < m_ → AW G kJ27_balanceInsertion ((2, 24, 0, 0), (fun z h1 => ∃ (root1 : Nat) (pa1 lf1 rt1 : oF) (rd1 : Nat → Bool) (lo1 hi1 : oF) (ht1 : Nat → Nat) (B1 : Nat), z = some (.ref root1) ∧ TPic G h1 N κ nx pa1 lf1 rt1 pv rd1 ∧ BT lt N pa1 lf1 rt1 root1 lo1 hi1 ht1 B1 ∧ Fr N h h1 ∧ h1.1 = h.1), nX) 5 [(1, .ref x1), (0, .ref root1)] [] hh 0 0 from
    AW.lvs (lv' := [(1, .ref x), (0, .ref root)]) (AW.eq (lv2 := _) (rfl) rfl rfl rfl rfl (L_5 _ y_1 pa lf rt (ub rd x true) root bl bh ht B x (B - ht x + 1) hT_1 hB hx (Fr.w Fr.rf w_1 (Or.inl hx)) (by omega) (Or.inl (Nat.lt_succ_self _)) (Nat.lt_succ_self _))) (by simp)
  intro m_
  induction m_ with
  | zero => intro hh pa1 lf1 rt1 rd1 root1 lo1 hi1 ht1 B1 x1 μ hTc hBc hxc hFc hzc hμ h_m; exact absurd h_m (Nat.not_lt_zero _)
  | succ m_ ih_5 =>
    intro hh pa1 lf1 rt1 rd1 root1 lo1 hi1 ht1 B1 x1 μ hTc hBc hxc hFc hzc hμ h_m
    refine aw_aload_n (n := 6) dJ27_balanceInsertion_5 rfl 0 rfl rfl ?_
    rcases optc (pa1 x1) with hq_2 | ⟨p6_2, hq_2⟩
    · skip
      refine aw_getf (n := 9) (v := .null) (C0 := RJ27) (T := TJ27) dJ27_balanceInsertion_6 rfl 6 q1609 (Or.inl rfl) (hTc x1 hxc).1 (congrArg (fun z9 => some (va_rf z9)) (show pa1 x1 = none from by exact hq_2)) rfl ?_
      refine aw_dup (n := 10) dJ27_balanceInsertion_9 rfl rfl ?_
      refine aw_astore_nN (n := 11) (lv' := [(2, .null), (1, .ref x1), (0, .ref root1)]) dJ27_balanceInsertion_10 rfl (by decide) rfl rfl ?_
      refine aw_ifnonnullN (n := 14) dJ27_balanceInsertion_11 rfl ?_
      refine aw_aload_n (n := 15) dJ27_balanceInsertion_14 rfl 1 rfl rfl ?_
      refine aw_iconst (n := 16) (v := 0) dJ27_balanceInsertion_15 (by decide) rfl ?_
      refine aw_putK (n := 19) (fs' := [.null, .null, .int (κ x1).1, .ref (κ x1).2.1, .ref (κ x1).2.2, va_rf (nx x1), va_rf (pa1 x1), va_rf (lf1 x1), va_rf (rt1 x1), va_rf (pv x1), .int (bI false)]) (C0 := RJ27) (T := TJ27) (N := 11) (ci := 27) dJ27_balanceInsertion_16 rfl in_J27 tyJ27 tyJ27_ok nmJ27 q1601 10 (by decide) q1614 (Or.inl rfl) (Or.inl rfl) rfl (hTc x1 hxc).1 (hTc x1 hxc).2 rfl rfl (Nat.le_of_ble_eq_true rfl) rfl rfl (fun y_3 w_3 => ?_)
      have zy_3 : y_3.1 = hh.1 := w_3.2.2
      have hT_3 := TPic.prd (v := false) hTc w_3
      refine aw_aload_n (n := 20) dJ27_balanceInsertion_19 rfl 1 rfl rfl ?_
      exact aw_aret dJ27_balanceInsertion_20 rfl (Or.inl ⟨_, rfl⟩) (Or.inr ⟨_, rfl⟩) ⟨root1, pa1, lf1, rt1, (ub rd1 x1 false), lo1, hi1, ht1, B1, (congrArg (fun z => some (Value.ref z)) (BT.top hBc hxc hq_2)), hT_3, hBc, (Fr.w hFc w_3 (Or.inl hxc)), by omega⟩ ⟨Nat.zero_le _, Nat.zero_le _⟩
    · skip
      have k_p6_2 := BT.up hBc hxc hq_2
      refine aw_getf (n := 9) (v := .ref p6_2) (C0 := RJ27) (T := TJ27) dJ27_balanceInsertion_6 rfl 6 q1609 (Or.inl rfl) (hTc x1 hxc).1 (congrArg (fun z9 => some (va_rf z9)) (show pa1 x1 = some p6_2 from by exact hq_2)) rfl ?_
      refine aw_dup (n := 10) dJ27_balanceInsertion_9 rfl rfl ?_
      refine aw_astore_n (n := 11) (lv' := [(2, .ref p6_2), (1, .ref x1), (0, .ref root1)]) dJ27_balanceInsertion_10 rfl (by decide) rfl rfl ?_
      refine aw_ifnonnull (tgt := 21) dJ27_balanceInsertion_11 (by decide) ?_
      refine aw_aload_n (n := 22) dJ27_balanceInsertion_21 rfl 0 rfl rfl ?_
      refine aw_getf (n := 25) (v := .int (bI (rd1 p6_2))) (C0 := RJ27) (T := TJ27) dJ27_balanceInsertion_22 rfl 10 q1614 (Or.inl rfl) (hTc p6_2 k_p6_2.1).1 rfl rfl ?_
      refine aw_if_eq (n := 28) (tgt := 37) dJ27_balanceInsertion_25 (by decide) rfl (fun c_25 => ?_) (fun c_25 => ?_)
      · skip
        have b_25 : (rd1 p6_2) = false := (bI_0 _).mp c_25
        refine aw_aload_n (n := 38) dJ27_balanceInsertion_37 rfl 2 rfl rfl ?_
        exact aw_aret dJ27_balanceInsertion_38 rfl (Or.inl ⟨_, rfl⟩) (Or.inr ⟨_, rfl⟩) ⟨root1, pa1, lf1, rt1, rd1, lo1, hi1, ht1, B1, rfl, hTc, hBc, hFc, by omega⟩ ⟨Nat.zero_le _, Nat.zero_le _⟩
      · skip
        have b_25 : (rd1 p6_2) = true := Bool.of_not_eq_false (fun e => c_25 ((bI_0 _).mpr e))
        have hlt9 : B1 - ht1 x1 < μ := by rcases hμ with z9 | z9; exact z9; have := z9.2 _ hq_2; rw [b_25] at this; cases this
        have hb9 := BT.ht hBc hxc
        refine aw_aload_n (n := 29) dJ27_balanceInsertion_28 rfl 0 rfl rfl ?_
        rcases optc (pa1 p6_2) with hq_4 | ⟨p29_4, hq_4⟩
        · skip
          refine aw_getf (n := 32) (v := .null) (C0 := RJ27) (T := TJ27) dJ27_balanceInsertion_29 rfl 6 q1609 (Or.inl rfl) (hTc p6_2 k_p6_2.1).1 (congrArg (fun z9 => some (va_rf z9)) (show pa1 p6_2 = none from by exact hq_4)) rfl ?_
          refine aw_dup (n := 33) dJ27_balanceInsertion_32 rfl rfl ?_
          refine aw_astore_nN (n := 34) (lv' := [(3, .null), (2, .ref p6_2), (1, .ref x1), (0, .ref root1)]) dJ27_balanceInsertion_33 rfl (by decide) rfl rfl ?_
          refine aw_ifnonnullN (n := 37) dJ27_balanceInsertion_34 rfl ?_
          refine aw_aload_n (n := 38) dJ27_balanceInsertion_37 rfl 3 rfl rfl ?_
          exact aw_aret dJ27_balanceInsertion_38 rfl (Or.inl ⟨_, rfl⟩) (Or.inr ⟨_, rfl⟩) ⟨root1, pa1, lf1, rt1, rd1, lo1, hi1, ht1, B1, rfl, hTc, hBc, hFc, by omega⟩ ⟨Nat.zero_le _, Nat.zero_le _⟩
        · skip
          have k_p29_4 := BT.up hBc k_p6_2.1 hq_4
          have n13 : x1 ≠ p29_4 := fun e => by have a9 := k_p6_2.2.1; have b9 := k_p29_4.2.1; rw [e] at a9; omega
          refine aw_getf (n := 32) (v := .ref p29_4) (C0 := RJ27) (T := TJ27) dJ27_balanceInsertion_29 rfl 6 q1609 (Or.inl rfl) (hTc p6_2 k_p6_2.1).1 (congrArg (fun z9 => some (va_rf z9)) (show pa1 p6_2 = some p29_4 from by exact hq_4)) rfl ?_
          refine aw_dup (n := 33) dJ27_balanceInsertion_32 rfl rfl ?_
          refine aw_astore_n (n := 34) (lv' := [(3, .ref p29_4), (2, .ref p6_2), (1, .ref x1), (0, .ref root1)]) dJ27_balanceInsertion_33 rfl (by decide) rfl rfl ?_
          refine aw_ifnonnull (tgt := 39) dJ27_balanceInsertion_34 (by decide) ?_
          refine aw_aload_n (n := 40) dJ27_balanceInsertion_39 rfl 1 rfl rfl ?_
          refine aw_aload_n (n := 41) dJ27_balanceInsertion_40 rfl 0 rfl rfl ?_
          rcases k_p29_4.2.2.2 with kS | kS
          · skip
            refine aw_getf (n := 44) (v := .ref p6_2) (C0 := RJ27) (T := TJ27) dJ27_balanceInsertion_41 rfl 7 q1610 (Or.inl rfl) (hTc p29_4 k_p29_4.1).1 (congrArg (fun z9 => some (va_rf z9)) (show lf1 p29_4 = some p6_2 from by exact kS)) rfl ?_
            refine aw_dup (n := 45) dJ27_balanceInsertion_44 rfl rfl ?_
            refine aw_astore (n := 47) (lv' := [(4, .ref p6_2), (3, .ref p29_4), (2, .ref p6_2), (1, .ref x1), (0, .ref root1)]) dJ27_balanceInsertion_45 (by decide) rfl rfl ?_
            refine aw_acmp_ne (n := 50) (x := (some p6_2)) (y := (some p6_2)) (tgt := 150) dJ27_balanceInsertion_47 (by decide) rfl (fun z9 => absurd z9 (fun k9 => k9 rfl)) (fun _ => ?_)
            refine aw_aload_n (n := 51) dJ27_balanceInsertion_50 rfl 1 rfl rfl ?_
            rcases optc (rt1 p29_4) with hq_5 | ⟨r51_5, hq_5⟩
            · skip
              refine aw_getf (n := 54) (v := .null) (C0 := RJ27) (T := TJ27) dJ27_balanceInsertion_51 rfl 8 q1611 (Or.inl rfl) (hTc p29_4 k_p29_4.1).1 (congrArg (fun z9 => some (va_rf z9)) (show rt1 p29_4 = none from by exact hq_5)) rfl ?_
              refine aw_dup (n := 55) dJ27_balanceInsertion_54 rfl rfl ?_
              refine aw_astoreN (n := 57) (lv' := [(5, .null), (4, .ref p6_2), (3, .ref p29_4), (2, .ref p6_2), (1, .ref x1), (0, .ref root1)]) dJ27_balanceInsertion_55 (by decide) rfl rfl ?_
              refine aw_ifnullN (tgt := 89) dJ27_balanceInsertion_57 (by decide) ?_
              refine aw_aload_n (n := 90) dJ27_balanceInsertion_89 rfl 4 rfl rfl ?_
              refine aw_aload_n (n := 91) dJ27_balanceInsertion_90 rfl 3 rfl rfl ?_
              rcases k_p6_2.2.2.2 with kI | kI
              · skip
                have nI9 : rt1 p6_2 ≠ some x1 := BT.lr h3 hBc k_p6_2.1 kI
                rcases optc (rt1 p6_2) with hq_6 | ⟨r91_6, hq_6⟩
                · skip
                  refine aw_getf (n := 94) (v := .null) (C0 := RJ27) (T := TJ27) dJ27_balanceInsertion_91 rfl 8 q1611 (Or.inl rfl) (hTc p6_2 k_p6_2.1).1 (congrArg (fun z9 => some (va_rf z9)) (show rt1 p6_2 = none from by exact hq_6)) rfl ?_
                  refine aw_acmp_ne (n := 97) (x := (some x1)) (y := none) (tgt := 123) dJ27_balanceInsertion_94 (by decide) rfl (fun _ => ?_) (fun z9 => absurd z9 (by simp))
                  refine aw_aload_n (n := 124) dJ27_balanceInsertion_123 rfl 3 rfl rfl ?_
                  refine aw_ifnull (n := 127) dJ27_balanceInsertion_124 rfl ?_
                  refine aw_aload_n (n := 128) dJ27_balanceInsertion_127 rfl 3 rfl rfl ?_
                  refine aw_iconst (n := 129) (v := 0) dJ27_balanceInsertion_128 (by decide) rfl ?_
                  refine aw_putK (n := 132) (fs' := [.null, .null, .int (κ p6_2).1, .ref (κ p6_2).2.1, .ref (κ p6_2).2.2, va_rf (nx p6_2), va_rf (pa1 p6_2), va_rf (lf1 p6_2), va_rf (rt1 p6_2), va_rf (pv p6_2), .int (bI false)]) (C0 := RJ27) (T := TJ27) (N := 11) (ci := 27) dJ27_balanceInsertion_129 rfl in_J27 tyJ27 tyJ27_ok nmJ27 q1601 10 (by decide) q1614 (Or.inl rfl) (Or.inl rfl) rfl (hTc p6_2 k_p6_2.1).1 (hTc p6_2 k_p6_2.1).2 rfl rfl (Nat.le_of_ble_eq_true rfl) rfl rfl (fun y_7 w_7 => ?_)
                  have zy_7 : y_7.1 = hh.1 := w_7.2.2
                  have hT_7 := TPic.prd (v := false) hTc w_7
                  refine aw_aload_n (n := 133) dJ27_balanceInsertion_132 rfl 2 rfl rfl ?_
                  refine aw_ifnull (n := 136) dJ27_balanceInsertion_133 rfl ?_
                  refine aw_aload_n (n := 137) dJ27_balanceInsertion_136 rfl 2 rfl rfl ?_
                  refine aw_iconst (n := 138) (v := 1) dJ27_balanceInsertion_137 (by decide) rfl ?_
                  refine aw_putK (n := 141) (fs' := [.null, .null, .int (κ p29_4).1, .ref (κ p29_4).2.1, .ref (κ p29_4).2.2, va_rf (nx p29_4), va_rf (pa1 p29_4), va_rf (lf1 p29_4), va_rf (rt1 p29_4), va_rf (pv p29_4), .int (bI true)]) (C0 := RJ27) (T := TJ27) (N := 11) (ci := 27) dJ27_balanceInsertion_138 rfl in_J27 tyJ27 tyJ27_ok nmJ27 q1601 10 (by decide) q1614 (Or.inl rfl) (Or.inl rfl) rfl (hT_7 p29_4 k_p29_4.1).1 (hT_7 p29_4 k_p29_4.1).2 rfl rfl (Nat.le_of_ble_eq_true rfl) rfl rfl (fun y_8 w_8 => ?_)
                  have zy_8 : y_8.1 = y_7.1 := w_8.2.2
                  have hT_8 := TPic.prd (v := true) hT_7 w_8
                  refine aw_aload_n (n := 142) dJ27_balanceInsertion_141 rfl 5 rfl rfl ?_
                  refine aw_aload_n (n := 143) dJ27_balanceInsertion_142 rfl 2 rfl rfl ?_
                  have fx9 : rt1 p6_2 ≠ some x1 := BT.lr h3 hBc k_p6_2.1 kI
                  have hr_143 : lf1 p29_4 = some p6_2 := kS
                  refine aw_callS (n := 146) (As := [.ref root1, .ref p29_4]) (rest := []) (K2 := kJ27_rotateRight) dJ27_balanceInsertion_143 q1581 q1582 q145 q1583 hcJ27_rotateRight (hm_rotR G y_8 N κ nx pa1 lf1 rt1 pv (ub (ub rd1 p6_2 false) p29_4 true) hT_8 lt root1 lo1 hi1 ht1 B1 hBc p29_4 p6_2 k_p29_4.1 hr_143) rfl (Nat.le_of_ble_eq_true rfl) ⟨Nat.le_of_ble_eq_true rfl, Nat.le_of_ble_eq_true rfl⟩ ⟨by first | omega | (dsimp only; omega) | decide, by first | omega | (dsimp only; omega) | decide⟩ (fun _ _ _ z => z.elim) rfl (fun r_143 h_143 q_143 => ?_)
                  obtain ⟨rfl, hT_c143, hF_c143, hz_c143⟩ := q_143
                  have hB_9 := (BT.rot h3.flip (BT.flip hBc) k_p29_4.1 hr_143).flip
                  have ePa : ∀ q, rPa p29_4 p6_2 pa1 rt1 q = if q = p29_4 then some p6_2 else if q = p6_2 then pa1 p29_4 else if rt1 p6_2 = some q then some p29_4 else pa1 q := fun _ => rfl
                  have eLf : ∀ q, rLf p29_4 p6_2 pa1 rt1 q = if q = p6_2 then some p29_4 else if pa1 p29_4 = some q ∧ rt1 q = some p29_4 then some p6_2 else rt1 q := fun _ => rfl
                  have eRt : ∀ q, rRt p29_4 p6_2 pa1 rt1 lf1 q = if q = p29_4 then rt1 p6_2 else if pa1 p29_4 = some q ∧ rt1 q ≠ some p29_4 then some p6_2 else lf1 q := fun _ => rfl
                  generalize gPa : rPa p29_4 p6_2 pa1 rt1 = pa_9 at hT_c143 hB_9 ePa
                  generalize gLf : rLf p29_4 p6_2 pa1 rt1 = rt_9 at hT_c143 hB_9 eLf
                  generalize gRt : rRt p29_4 p6_2 pa1 rt1 lf1 = lf_9 at hT_c143 hB_9 eRt
                  have eRd : ∀ q, (fun q => if pa1 p29_4 = none ∧ q = p6_2 then false else (ub (ub rd1 p6_2 false) p29_4 true) q) q = if pa1 p29_4 = none ∧ q = p6_2 then false else (ub (ub rd1 p6_2 false) p29_4 true) q := fun _ => rfl
                  generalize gRd : (fun q => if pa1 p29_4 = none ∧ q = p6_2 then false else (ub (ub rd1 p6_2 false) p29_4 true) q) = rd_9 at hT_c143 eRd
                  generalize gRo : rRoot p29_4 p6_2 pa1 root1 = root_9 at hB_9 ⊢
                  obtain ⟨lo_9, hi_9, ht_9, B_9, hBn_9⟩ : ∃ lo hi ht B, BT lt N pa_9 lf_9 rt_9 root_9 lo hi ht B := ⟨_, _, _, _, hB_9⟩
                  have zc_143 : y_8.1 ≤ h_143.1 := hF_c143.1
                  refine AW.sts (st' := [.ref root_9]) rfl ?_
                  refine aw_astore_n (n := 147) (lv' := [(0, .ref root_9), (5, .null), (4, .ref p6_2), (3, .ref p29_4), (2, .ref p6_2), (1, .ref x1)]) dJ27_balanceInsertion_146 rfl (by decide) rfl rfl ?_
                  refine aw_goto (tgt := 5) dJ27_balanceInsertion_147 (by decide) ?_
                  have d1 : pa_9 x1 = some p6_2 := by rw [ePa, if_neg n13, if_neg k_p6_2.2.2.1, if_neg fx9]; exact hq_2
                  have d2 : rd_9 p6_2 = false := by rw [eRd]; simp [ub, k_p29_4.2.2.1]
                  exact AW.lvs (lv' := [(1, .ref x1), (0, .ref root_9)]) (AW.eq (lv2 := _) (rfl) rfl rfl rfl rfl (ih_5 h_143 pa_9 lf_9 rt_9 rd_9 root_9 lo_9 hi_9 ht_9 B_9 x1 1 hT_c143 hBn_9 hxc (Fr.c (Fr.w (Fr.w hFc w_7 (Or.inl k_p6_2.1)) w_8 (Or.inl k_p29_4.1)) hF_c143 (fun _ z => Or.inl z)) (by omega) (Or.inr ⟨Nat.zero_lt_one, fun y e => by rw [d1] at e; cases e; exact d2⟩) (by omega))) (by simp)
                · skip
                  have k_r91_6 : N r91_6 := BT.ch hBc k_p6_2.1 (Or.inr hq_6)
                  refine aw_getf (n := 94) (v := .ref r91_6) (C0 := RJ27) (T := TJ27) dJ27_balanceInsertion_91 rfl 8 q1611 (Or.inl rfl) (hTc p6_2 k_p6_2.1).1 (congrArg (fun z9 => some (va_rf z9)) (show rt1 p6_2 = some r91_6 from by exact hq_6)) rfl ?_
                  refine aw_acmp_ne (n := 97) (x := (some x1)) (y := (some r91_6)) (tgt := 123) dJ27_balanceInsertion_94 (by decide) rfl (fun _ => ?_) (fun z9 => absurd z9 (fun e9 => nI9 (hq_6.trans e9.symm)))
                  refine aw_aload_n (n := 124) dJ27_balanceInsertion_123 rfl 3 rfl rfl ?_
                  refine aw_ifnull (n := 127) dJ27_balanceInsertion_124 rfl ?_
                  refine aw_aload_n (n := 128) dJ27_balanceInsertion_127 rfl 3 rfl rfl ?_
                  refine aw_iconst (n := 129) (v := 0) dJ27_balanceInsertion_128 (by decide) rfl ?_
                  refine aw_putK (n := 132) (fs' := [.null, .null, .int (κ p6_2).1, .ref (κ p6_2).2.1, .ref (κ p6_2).2.2, va_rf (nx p6_2), va_rf (pa1 p6_2), va_rf (lf1 p6_2), va_rf (rt1 p6_2), va_rf (pv p6_2), .int (bI false)]) (C0 := RJ27) (T := TJ27) (N := 11) (ci := 27) dJ27_balanceInsertion_129 rfl in_J27 tyJ27 tyJ27_ok nmJ27 q1601 10 (by decide) q1614 (Or.inl rfl) (Or.inl rfl) rfl (hTc p6_2 k_p6_2.1).1 (hTc p6_2 k_p6_2.1).2 rfl rfl (Nat.le_of_ble_eq_true rfl) rfl rfl (fun y_10 w_10 => ?_)
                  have zy_10 : y_10.1 = hh.1 := w_10.2.2
                  have hT_10 := TPic.prd (v := false) hTc w_10
                  refine aw_aload_n (n := 133) dJ27_balanceInsertion_132 rfl 2 rfl rfl ?_
                  refine aw_ifnull (n := 136) dJ27_balanceInsertion_133 rfl ?_
                  refine aw_aload_n (n := 137) dJ27_balanceInsertion_136 rfl 2 rfl rfl ?_
                  refine aw_iconst (n := 138) (v := 1) dJ27_balanceInsertion_137 (by decide) rfl ?_
                  refine aw_putK (n := 141) (fs' := [.null, .null, .int (κ p29_4).1, .ref (κ p29_4).2.1, .ref (κ p29_4).2.2, va_rf (nx p29_4), va_rf (pa1 p29_4), va_rf (lf1 p29_4), va_rf (rt1 p29_4), va_rf (pv p29_4), .int (bI true)]) (C0 := RJ27) (T := TJ27) (N := 11) (ci := 27) dJ27_balanceInsertion_138 rfl in_J27 tyJ27 tyJ27_ok nmJ27 q1601 10 (by decide) q1614 (Or.inl rfl) (Or.inl rfl) rfl (hT_10 p29_4 k_p29_4.1).1 (hT_10 p29_4 k_p29_4.1).2 rfl rfl (Nat.le_of_ble_eq_true rfl) rfl rfl (fun y_11 w_11 => ?_)
                  have zy_11 : y_11.1 = y_10.1 := w_11.2.2
                  have hT_11 := TPic.prd (v := true) hT_10 w_11
                  refine aw_aload_n (n := 142) dJ27_balanceInsertion_141 rfl 5 rfl rfl ?_
                  refine aw_aload_n (n := 143) dJ27_balanceInsertion_142 rfl 2 rfl rfl ?_
                  have fx9 : rt1 p6_2 ≠ some x1 := BT.lr h3 hBc k_p6_2.1 kI
                  have hr_143 : lf1 p29_4 = some p6_2 := kS
                  refine aw_callS (n := 146) (As := [.ref root1, .ref p29_4]) (rest := []) (K2 := kJ27_rotateRight) dJ27_balanceInsertion_143 q1581 q1582 q145 q1583 hcJ27_rotateRight (hm_rotR G y_11 N κ nx pa1 lf1 rt1 pv (ub (ub rd1 p6_2 false) p29_4 true) hT_11 lt root1 lo1 hi1 ht1 B1 hBc p29_4 p6_2 k_p29_4.1 hr_143) rfl (Nat.le_of_ble_eq_true rfl) ⟨Nat.le_of_ble_eq_true rfl, Nat.le_of_ble_eq_true rfl⟩ ⟨by first | omega | (dsimp only; omega) | decide, by first | omega | (dsimp only; omega) | decide⟩ (fun _ _ _ z => z.elim) rfl (fun r_143 h_143 q_143 => ?_)
                  obtain ⟨rfl, hT_c143, hF_c143, hz_c143⟩ := q_143
                  have hB_12 := (BT.rot h3.flip (BT.flip hBc) k_p29_4.1 hr_143).flip
                  have ePa : ∀ q, rPa p29_4 p6_2 pa1 rt1 q = if q = p29_4 then some p6_2 else if q = p6_2 then pa1 p29_4 else if rt1 p6_2 = some q then some p29_4 else pa1 q := fun _ => rfl
                  have eLf : ∀ q, rLf p29_4 p6_2 pa1 rt1 q = if q = p6_2 then some p29_4 else if pa1 p29_4 = some q ∧ rt1 q = some p29_4 then some p6_2 else rt1 q := fun _ => rfl
                  have eRt : ∀ q, rRt p29_4 p6_2 pa1 rt1 lf1 q = if q = p29_4 then rt1 p6_2 else if pa1 p29_4 = some q ∧ rt1 q ≠ some p29_4 then some p6_2 else lf1 q := fun _ => rfl
                  generalize gPa : rPa p29_4 p6_2 pa1 rt1 = pa_12 at hT_c143 hB_12 ePa
                  generalize gLf : rLf p29_4 p6_2 pa1 rt1 = rt_12 at hT_c143 hB_12 eLf
                  generalize gRt : rRt p29_4 p6_2 pa1 rt1 lf1 = lf_12 at hT_c143 hB_12 eRt
                  have eRd : ∀ q, (fun q => if pa1 p29_4 = none ∧ q = p6_2 then false else (ub (ub rd1 p6_2 false) p29_4 true) q) q = if pa1 p29_4 = none ∧ q = p6_2 then false else (ub (ub rd1 p6_2 false) p29_4 true) q := fun _ => rfl
                  generalize gRd : (fun q => if pa1 p29_4 = none ∧ q = p6_2 then false else (ub (ub rd1 p6_2 false) p29_4 true) q) = rd_12 at hT_c143 eRd
                  generalize gRo : rRoot p29_4 p6_2 pa1 root1 = root_12 at hB_12 ⊢
                  obtain ⟨lo_12, hi_12, ht_12, B_12, hBn_12⟩ : ∃ lo hi ht B, BT lt N pa_12 lf_12 rt_12 root_12 lo hi ht B := ⟨_, _, _, _, hB_12⟩
                  have zc_143 : y_11.1 ≤ h_143.1 := hF_c143.1
                  refine AW.sts (st' := [.ref root_12]) rfl ?_
                  refine aw_astore_n (n := 147) (lv' := [(0, .ref root_12), (5, .null), (4, .ref p6_2), (3, .ref p29_4), (2, .ref p6_2), (1, .ref x1)]) dJ27_balanceInsertion_146 rfl (by decide) rfl rfl ?_
                  refine aw_goto (tgt := 5) dJ27_balanceInsertion_147 (by decide) ?_
                  have d1 : pa_12 x1 = some p6_2 := by rw [ePa, if_neg n13, if_neg k_p6_2.2.2.1, if_neg fx9]; exact hq_2
                  have d2 : rd_12 p6_2 = false := by rw [eRd]; simp [ub, k_p29_4.2.2.1]
                  exact AW.lvs (lv' := [(1, .ref x1), (0, .ref root_12)]) (AW.eq (lv2 := _) (rfl) rfl rfl rfl rfl (ih_5 h_143 pa_12 lf_12 rt_12 rd_12 root_12 lo_12 hi_12 ht_12 B_12 x1 1 hT_c143 hBn_12 hxc (Fr.c (Fr.w (Fr.w hFc w_10 (Or.inl k_p6_2.1)) w_11 (Or.inl k_p29_4.1)) hF_c143 (fun _ z => Or.inl z)) (by omega) (Or.inr ⟨Nat.zero_lt_one, fun y e => by rw [d1] at e; cases e; exact d2⟩) (by omega))) (by simp)
              · skip
                have nI9 : lf1 p6_2 ≠ some x1 := fun e => BT.lr h3 hBc k_p6_2.1 e kI
                refine aw_getf (n := 94) (v := .ref x1) (C0 := RJ27) (T := TJ27) dJ27_balanceInsertion_91 rfl 8 q1611 (Or.inl rfl) (hTc p6_2 k_p6_2.1).1 (congrArg (fun z9 => some (va_rf z9)) (show rt1 p6_2 = some x1 from by exact kI)) rfl ?_
                refine aw_acmp_ne (n := 97) (x := (some x1)) (y := (some x1)) (tgt := 123) dJ27_balanceInsertion_94 (by decide) rfl (fun z9 => absurd z9 (fun k9 => k9 rfl)) (fun _ => ?_)
                refine aw_aload_n (n := 98) dJ27_balanceInsertion_97 rfl 5 rfl rfl ?_
                refine aw_aload_n (n := 99) dJ27_balanceInsertion_98 rfl 3 rfl rfl ?_
                refine aw_dup (n := 100) dJ27_balanceInsertion_99 rfl rfl ?_
                refine aw_astore_n (n := 101) (lv' := [(1, .ref p6_2), (5, .null), (4, .ref p6_2), (3, .ref p29_4), (2, .ref p6_2), (0, .ref root1)]) dJ27_balanceInsertion_100 rfl (by decide) rfl rfl ?_
                have hr_101 : rt1 p6_2 = some x1 := kI
                refine aw_callS (n := 104) (As := [.ref root1, .ref p6_2]) (rest := []) (K2 := kJ27_rotateLeft) dJ27_balanceInsertion_101 q1578 q1579 q145 q1580 hcJ27_rotateLeft (hm_rotL G hh N κ nx pa1 lf1 rt1 pv rd1 hTc lt root1 lo1 hi1 ht1 B1 hBc p6_2 x1 k_p6_2.1 hr_101) rfl (Nat.le_of_ble_eq_true rfl) ⟨Nat.le_of_ble_eq_true rfl, Nat.le_of_ble_eq_true rfl⟩ ⟨by first | omega | (dsimp only; omega) | decide, by first | omega | (dsimp only; omega) | decide⟩ (fun _ _ _ z => z.elim) rfl (fun r_101 h_101 q_101 => ?_)
                obtain ⟨rfl, hT_c101, hF_c101, hz_c101⟩ := q_101
                have hB_13 := BT.rot h3 hBc k_p6_2.1 hr_101
                have ePa : ∀ q, rPa p6_2 x1 pa1 lf1 q = if q = p6_2 then some x1 else if q = x1 then pa1 p6_2 else if lf1 x1 = some q then some p6_2 else pa1 q := fun _ => rfl
                have eLf : ∀ q, rLf p6_2 x1 pa1 lf1 q = if q = x1 then some p6_2 else if pa1 p6_2 = some q ∧ lf1 q = some p6_2 then some x1 else lf1 q := fun _ => rfl
                have eRt : ∀ q, rRt p6_2 x1 pa1 lf1 rt1 q = if q = p6_2 then lf1 x1 else if pa1 p6_2 = some q ∧ lf1 q ≠ some p6_2 then some x1 else rt1 q := fun _ => rfl
                generalize gPa : rPa p6_2 x1 pa1 lf1 = pa_13 at hT_c101 hB_13 ePa
                generalize gLf : rLf p6_2 x1 pa1 lf1 = lf_13 at hT_c101 hB_13 eLf
                generalize gRt : rRt p6_2 x1 pa1 lf1 rt1 = rt_13 at hT_c101 hB_13 eRt
                have eRd : ∀ q, (fun q => if pa1 p6_2 = none ∧ q = x1 then false else rd1 q) q = if pa1 p6_2 = none ∧ q = x1 then false else rd1 q := fun _ => rfl
                generalize gRd : (fun q => if pa1 p6_2 = none ∧ q = x1 then false else rd1 q) = rd_13 at hT_c101 eRd
                generalize gRo : rRoot p6_2 x1 pa1 root1 = root_13 at hB_13 ⊢
                obtain ⟨lo_13, hi_13, ht_13, B_13, hBn_13⟩ : ∃ lo hi ht B, BT lt N pa_13 lf_13 rt_13 root_13 lo hi ht B := ⟨_, _, _, _, hB_13⟩
                have zc_101 : hh.1 ≤ h_101.1 := hF_c101.1
                refine AW.sts (st' := [.ref root_13]) rfl ?_
                have g1 : pa_13 p6_2 = some x1 := by rw [ePa, if_pos rfl]
                have g2 : pa_13 x1 = some p29_4 := by rw [ePa, if_neg k_p6_2.2.2.1, if_pos rfl]; exact hq_4
                have g3 : lf_13 x1 = some p6_2 := by rw [eLf, if_pos rfl]
                have g4 : lf_13 p29_4 = some x1 := by rw [eLf, if_neg (Ne.symm n13), if_pos ⟨hq_4, kS⟩]
                refine aw_astore_n (n := 105) (lv' := [(0, .ref root_13), (1, .ref p6_2), (5, .null), (4, .ref p6_2), (3, .ref p29_4), (2, .ref p6_2)]) dJ27_balanceInsertion_104 rfl (by decide) rfl rfl ?_
                refine aw_aload_n (n := 106) dJ27_balanceInsertion_105 rfl 1 rfl rfl ?_
                refine aw_getf (n := 109) (v := .ref x1) (C0 := RJ27) (T := TJ27) dJ27_balanceInsertion_106 rfl 6 q1609 (Or.inl rfl) (hT_c101 p6_2 k_p6_2.1).1 (congrArg (fun z9 => some (va_rf z9)) (show pa_13 p6_2 = some x1 from by exact g1)) rfl ?_
                refine aw_dup (n := 110) dJ27_balanceInsertion_109 rfl rfl ?_
                refine aw_astore_n (n := 111) (lv' := [(2, .ref x1), (0, .ref root_13), (1, .ref p6_2), (5, .null), (4, .ref p6_2), (3, .ref p29_4)]) dJ27_balanceInsertion_110 rfl (by decide) rfl rfl ?_
                refine aw_ifnonnull (tgt := 118) dJ27_balanceInsertion_111 (by decide) ?_
                refine aw_aload_n (n := 119) dJ27_balanceInsertion_118 rfl 0 rfl rfl ?_
                refine aw_getf (n := 122) (v := .ref p29_4) (C0 := RJ27) (T := TJ27) dJ27_balanceInsertion_119 rfl 6 q1609 (Or.inl rfl) (hT_c101 x1 hxc).1 (congrArg (fun z9 => some (va_rf z9)) (show pa_13 x1 = some p29_4 from by exact g2)) rfl ?_
                refine aw_astore_n (n := 123) (lv' := [(3, .ref p29_4), (2, .ref x1), (0, .ref root_13), (1, .ref p6_2), (5, .null), (4, .ref p6_2)]) dJ27_balanceInsertion_122 rfl (by decide) rfl rfl ?_
                refine aw_aload_n (n := 124) dJ27_balanceInsertion_123 rfl 1 rfl rfl ?_
                refine aw_ifnull (n := 127) dJ27_balanceInsertion_124 rfl ?_
                refine aw_aload_n (n := 128) dJ27_balanceInsertion_127 rfl 1 rfl rfl ?_
                refine aw_iconst (n := 129) (v := 0) dJ27_balanceInsertion_128 (by decide) rfl ?_
                refine aw_putK (n := 132) (fs' := [.null, .null, .int (κ x1).1, .ref (κ x1).2.1, .ref (κ x1).2.2, va_rf (nx x1), va_rf (pa_13 x1), va_rf (lf_13 x1), va_rf (rt_13 x1), va_rf (pv x1), .int (bI false)]) (C0 := RJ27) (T := TJ27) (N := 11) (ci := 27) dJ27_balanceInsertion_129 rfl in_J27 tyJ27 tyJ27_ok nmJ27 q1601 10 (by decide) q1614 (Or.inl rfl) (Or.inl rfl) rfl (hT_c101 x1 hxc).1 (hT_c101 x1 hxc).2 rfl rfl (Nat.le_of_ble_eq_true rfl) rfl rfl (fun y_14 w_14 => ?_)
                have zy_14 : y_14.1 = h_101.1 := w_14.2.2
                have hT_14 := TPic.prd (v := false) hT_c101 w_14
                refine aw_aload_n (n := 133) dJ27_balanceInsertion_132 rfl 0 rfl rfl ?_
                refine aw_ifnull (n := 136) dJ27_balanceInsertion_133 rfl ?_
                refine aw_aload_n (n := 137) dJ27_balanceInsertion_136 rfl 0 rfl rfl ?_
                refine aw_iconst (n := 138) (v := 1) dJ27_balanceInsertion_137 (by decide) rfl ?_
                refine aw_putK (n := 141) (fs' := [.null, .null, .int (κ p29_4).1, .ref (κ p29_4).2.1, .ref (κ p29_4).2.2, va_rf (nx p29_4), va_rf (pa_13 p29_4), va_rf (lf_13 p29_4), va_rf (rt_13 p29_4), va_rf (pv p29_4), .int (bI true)]) (C0 := RJ27) (T := TJ27) (N := 11) (ci := 27) dJ27_balanceInsertion_138 rfl in_J27 tyJ27 tyJ27_ok nmJ27 q1601 10 (by decide) q1614 (Or.inl rfl) (Or.inl rfl) rfl (hT_14 p29_4 k_p29_4.1).1 (hT_14 p29_4 k_p29_4.1).2 rfl rfl (Nat.le_of_ble_eq_true rfl) rfl rfl (fun y_15 w_15 => ?_)
                have zy_15 : y_15.1 = y_14.1 := w_15.2.2
                have hT_15 := TPic.prd (v := true) hT_14 w_15
                refine aw_aload_n (n := 142) dJ27_balanceInsertion_141 rfl 2 rfl rfl ?_
                refine aw_aload_n (n := 143) dJ27_balanceInsertion_142 rfl 0 rfl rfl ?_
                have fx9 : rt_13 x1 ≠ some p6_2 := BT.lr h3 hBn_13 hxc g3
                have hr_143 : lf_13 p29_4 = some x1 := g4
                refine aw_callS (n := 146) (As := [.ref root_13, .ref p29_4]) (rest := []) (K2 := kJ27_rotateRight) dJ27_balanceInsertion_143 q1581 q1582 q145 q1583 hcJ27_rotateRight (hm_rotR G y_15 N κ nx pa_13 lf_13 rt_13 pv (ub (ub rd_13 x1 false) p29_4 true) hT_15 lt root_13 lo_13 hi_13 ht_13 B_13 hBn_13 p29_4 x1 k_p29_4.1 hr_143) rfl (Nat.le_of_ble_eq_true rfl) ⟨Nat.le_of_ble_eq_true rfl, Nat.le_of_ble_eq_true rfl⟩ ⟨by first | omega | (dsimp only; omega) | decide, by first | omega | (dsimp only; omega) | decide⟩ (fun _ _ _ z => z.elim) rfl (fun r_143 h_143 q_143 => ?_)
                obtain ⟨rfl, hT_c143, hF_c143, hz_c143⟩ := q_143
                have hB_16 := (BT.rot h3.flip (BT.flip hBn_13) k_p29_4.1 hr_143).flip
                have ePa : ∀ q, rPa p29_4 x1 pa_13 rt_13 q = if q = p29_4 then some x1 else if q = x1 then pa_13 p29_4 else if rt_13 x1 = some q then some p29_4 else pa_13 q := fun _ => rfl
                have eLf : ∀ q, rLf p29_4 x1 pa_13 rt_13 q = if q = x1 then some p29_4 else if pa_13 p29_4 = some q ∧ rt_13 q = some p29_4 then some x1 else rt_13 q := fun _ => rfl
                have eRt : ∀ q, rRt p29_4 x1 pa_13 rt_13 lf_13 q = if q = p29_4 then rt_13 x1 else if pa_13 p29_4 = some q ∧ rt_13 q ≠ some p29_4 then some x1 else lf_13 q := fun _ => rfl
                generalize gPa : rPa p29_4 x1 pa_13 rt_13 = pa_16 at hT_c143 hB_16 ePa
                generalize gLf : rLf p29_4 x1 pa_13 rt_13 = rt_16 at hT_c143 hB_16 eLf
                generalize gRt : rRt p29_4 x1 pa_13 rt_13 lf_13 = lf_16 at hT_c143 hB_16 eRt
                have eRd : ∀ q, (fun q => if pa_13 p29_4 = none ∧ q = x1 then false else (ub (ub rd_13 x1 false) p29_4 true) q) q = if pa_13 p29_4 = none ∧ q = x1 then false else (ub (ub rd_13 x1 false) p29_4 true) q := fun _ => rfl
                generalize gRd : (fun q => if pa_13 p29_4 = none ∧ q = x1 then false else (ub (ub rd_13 x1 false) p29_4 true) q) = rd_16 at hT_c143 eRd
                generalize gRo : rRoot p29_4 x1 pa_13 root_13 = root_16 at hB_16 ⊢
                obtain ⟨lo_16, hi_16, ht_16, B_16, hBn_16⟩ : ∃ lo hi ht B, BT lt N pa_16 lf_16 rt_16 root_16 lo hi ht B := ⟨_, _, _, _, hB_16⟩
                have zc_143 : y_15.1 ≤ h_143.1 := hF_c143.1
                refine AW.sts (st' := [.ref root_16]) rfl ?_
                refine aw_astore_n (n := 147) (lv' := [(0, .ref root_16), (3, .ref p29_4), (2, .ref x1), (1, .ref p6_2), (5, .null), (4, .ref p6_2)]) dJ27_balanceInsertion_146 rfl (by decide) rfl rfl ?_
                refine aw_goto (tgt := 5) dJ27_balanceInsertion_147 (by decide) ?_
                have d1 : pa_16 p6_2 = some x1 := by rw [ePa, if_neg k_p29_4.2.2.1, if_neg (Ne.symm k_p6_2.2.2.1), if_neg fx9]; exact g1
                have d2 : rd_16 x1 = false := by rw [eRd]; simp [ub, n13]
                exact AW.lvs (lv' := [(1, .ref p6_2), (0, .ref root_16)]) (AW.eq (lv2 := _) (rfl) rfl rfl rfl rfl (ih_5 h_143 pa_16 lf_16 rt_16 rd_16 root_16 lo_16 hi_16 ht_16 B_16 p6_2 1 hT_c143 hBn_16 k_p6_2.1 (Fr.c (Fr.w (Fr.w (Fr.c hFc hF_c101 (fun _ z => Or.inl z)) w_14 (Or.inl hxc)) w_15 (Or.inl k_p29_4.1)) hF_c143 (fun _ z => Or.inl z)) (by omega) (Or.inr ⟨Nat.zero_lt_one, fun y e => by rw [d1] at e; cases e; exact d2⟩) (by omega))) (by simp)
            · skip
              have k_r51_5 : N r51_5 := BT.ch hBc k_p29_4.1 (Or.inr hq_5)
              refine aw_getf (n := 54) (v := .ref r51_5) (C0 := RJ27) (T := TJ27) dJ27_balanceInsertion_51 rfl 8 q1611 (Or.inl rfl) (hTc p29_4 k_p29_4.1).1 (congrArg (fun z9 => some (va_rf z9)) (show rt1 p29_4 = some r51_5 from by exact hq_5)) rfl ?_
              refine aw_dup (n := 55) dJ27_balanceInsertion_54 rfl rfl ?_
              refine aw_astore (n := 57) (lv' := [(5, .ref r51_5), (4, .ref p6_2), (3, .ref p29_4), (2, .ref p6_2), (1, .ref x1), (0, .ref root1)]) dJ27_balanceInsertion_55 (by decide) rfl rfl ?_
              refine aw_ifnull (n := 60) dJ27_balanceInsertion_57 rfl ?_
              refine aw_aload (n := 62) dJ27_balanceInsertion_60 0 rfl rfl ?_
              refine aw_getf (n := 65) (v := .int (bI (rd1 r51_5))) (C0 := RJ27) (T := TJ27) dJ27_balanceInsertion_62 rfl 10 q1614 (Or.inl rfl) (hTc r51_5 k_r51_5).1 rfl rfl ?_
              refine aw_if_eq (n := 68) (tgt := 89) dJ27_balanceInsertion_65 (by decide) rfl (fun c_65 => ?_) (fun c_65 => ?_)
              · skip
                have b_65 : (rd1 r51_5) = false := (bI_0 _).mp c_65
                refine aw_aload_n (n := 90) dJ27_balanceInsertion_89 rfl 4 rfl rfl ?_
                refine aw_aload_n (n := 91) dJ27_balanceInsertion_90 rfl 3 rfl rfl ?_
                rcases k_p6_2.2.2.2 with kI | kI
                · skip
                  have nI9 : rt1 p6_2 ≠ some x1 := BT.lr h3 hBc k_p6_2.1 kI
                  rcases optc (rt1 p6_2) with hq_17 | ⟨r91_17, hq_17⟩
                  · skip
                    refine aw_getf (n := 94) (v := .null) (C0 := RJ27) (T := TJ27) dJ27_balanceInsertion_91 rfl 8 q1611 (Or.inl rfl) (hTc p6_2 k_p6_2.1).1 (congrArg (fun z9 => some (va_rf z9)) (show rt1 p6_2 = none from by exact hq_17)) rfl ?_
                    refine aw_acmp_ne (n := 97) (x := (some x1)) (y := none) (tgt := 123) dJ27_balanceInsertion_94 (by decide) rfl (fun _ => ?_) (fun z9 => absurd z9 (by simp))
                    refine aw_aload_n (n := 124) dJ27_balanceInsertion_123 rfl 3 rfl rfl ?_
                    refine aw_ifnull (n := 127) dJ27_balanceInsertion_124 rfl ?_
                    refine aw_aload_n (n := 128) dJ27_balanceInsertion_127 rfl 3 rfl rfl ?_
                    refine aw_iconst (n := 129) (v := 0) dJ27_balanceInsertion_128 (by decide) rfl ?_
                    refine aw_putK (n := 132) (fs' := [.null, .null, .int (κ p6_2).1, .ref (κ p6_2).2.1, .ref (κ p6_2).2.2, va_rf (nx p6_2), va_rf (pa1 p6_2), va_rf (lf1 p6_2), va_rf (rt1 p6_2), va_rf (pv p6_2), .int (bI false)]) (C0 := RJ27) (T := TJ27) (N := 11) (ci := 27) dJ27_balanceInsertion_129 rfl in_J27 tyJ27 tyJ27_ok nmJ27 q1601 10 (by decide) q1614 (Or.inl rfl) (Or.inl rfl) rfl (hTc p6_2 k_p6_2.1).1 (hTc p6_2 k_p6_2.1).2 rfl rfl (Nat.le_of_ble_eq_true rfl) rfl rfl (fun y_18 w_18 => ?_)
                    have zy_18 : y_18.1 = hh.1 := w_18.2.2
                    have hT_18 := TPic.prd (v := false) hTc w_18
                    refine aw_aload_n (n := 133) dJ27_balanceInsertion_132 rfl 2 rfl rfl ?_
                    refine aw_ifnull (n := 136) dJ27_balanceInsertion_133 rfl ?_
                    refine aw_aload_n (n := 137) dJ27_balanceInsertion_136 rfl 2 rfl rfl ?_
                    refine aw_iconst (n := 138) (v := 1) dJ27_balanceInsertion_137 (by decide) rfl ?_
                    refine aw_putK (n := 141) (fs' := [.null, .null, .int (κ p29_4).1, .ref (κ p29_4).2.1, .ref (κ p29_4).2.2, va_rf (nx p29_4), va_rf (pa1 p29_4), va_rf (lf1 p29_4), va_rf (rt1 p29_4), va_rf (pv p29_4), .int (bI true)]) (C0 := RJ27) (T := TJ27) (N := 11) (ci := 27) dJ27_balanceInsertion_138 rfl in_J27 tyJ27 tyJ27_ok nmJ27 q1601 10 (by decide) q1614 (Or.inl rfl) (Or.inl rfl) rfl (hT_18 p29_4 k_p29_4.1).1 (hT_18 p29_4 k_p29_4.1).2 rfl rfl (Nat.le_of_ble_eq_true rfl) rfl rfl (fun y_19 w_19 => ?_)
                    have zy_19 : y_19.1 = y_18.1 := w_19.2.2
                    have hT_19 := TPic.prd (v := true) hT_18 w_19
                    refine aw_aload_n (n := 142) dJ27_balanceInsertion_141 rfl 5 rfl rfl ?_
                    refine aw_aload_n (n := 143) dJ27_balanceInsertion_142 rfl 2 rfl rfl ?_
                    have fx9 : rt1 p6_2 ≠ some x1 := BT.lr h3 hBc k_p6_2.1 kI
                    have hr_143 : lf1 p29_4 = some p6_2 := kS
                    refine aw_callS (n := 146) (As := [.ref root1, .ref p29_4]) (rest := []) (K2 := kJ27_rotateRight) dJ27_balanceInsertion_143 q1581 q1582 q145 q1583 hcJ27_rotateRight (hm_rotR G y_19 N κ nx pa1 lf1 rt1 pv (ub (ub rd1 p6_2 false) p29_4 true) hT_19 lt root1 lo1 hi1 ht1 B1 hBc p29_4 p6_2 k_p29_4.1 hr_143) rfl (Nat.le_of_ble_eq_true rfl) ⟨Nat.le_of_ble_eq_true rfl, Nat.le_of_ble_eq_true rfl⟩ ⟨by first | omega | (dsimp only; omega) | decide, by first | omega | (dsimp only; omega) | decide⟩ (fun _ _ _ z => z.elim) rfl (fun r_143 h_143 q_143 => ?_)
                    obtain ⟨rfl, hT_c143, hF_c143, hz_c143⟩ := q_143
                    have hB_20 := (BT.rot h3.flip (BT.flip hBc) k_p29_4.1 hr_143).flip
                    have ePa : ∀ q, rPa p29_4 p6_2 pa1 rt1 q = if q = p29_4 then some p6_2 else if q = p6_2 then pa1 p29_4 else if rt1 p6_2 = some q then some p29_4 else pa1 q := fun _ => rfl
                    have eLf : ∀ q, rLf p29_4 p6_2 pa1 rt1 q = if q = p6_2 then some p29_4 else if pa1 p29_4 = some q ∧ rt1 q = some p29_4 then some p6_2 else rt1 q := fun _ => rfl
                    have eRt : ∀ q, rRt p29_4 p6_2 pa1 rt1 lf1 q = if q = p29_4 then rt1 p6_2 else if pa1 p29_4 = some q ∧ rt1 q ≠ some p29_4 then some p6_2 else lf1 q := fun _ => rfl
                    generalize gPa : rPa p29_4 p6_2 pa1 rt1 = pa_20 at hT_c143 hB_20 ePa
                    generalize gLf : rLf p29_4 p6_2 pa1 rt1 = rt_20 at hT_c143 hB_20 eLf
                    generalize gRt : rRt p29_4 p6_2 pa1 rt1 lf1 = lf_20 at hT_c143 hB_20 eRt
                    have eRd : ∀ q, (fun q => if pa1 p29_4 = none ∧ q = p6_2 then false else (ub (ub rd1 p6_2 false) p29_4 true) q) q = if pa1 p29_4 = none ∧ q = p6_2 then false else (ub (ub rd1 p6_2 false) p29_4 true) q := fun _ => rfl
                    generalize gRd : (fun q => if pa1 p29_4 = none ∧ q = p6_2 then false else (ub (ub rd1 p6_2 false) p29_4 true) q) = rd_20 at hT_c143 eRd
                    generalize gRo : rRoot p29_4 p6_2 pa1 root1 = root_20 at hB_20 ⊢
                    obtain ⟨lo_20, hi_20, ht_20, B_20, hBn_20⟩ : ∃ lo hi ht B, BT lt N pa_20 lf_20 rt_20 root_20 lo hi ht B := ⟨_, _, _, _, hB_20⟩
                    have zc_143 : y_19.1 ≤ h_143.1 := hF_c143.1
                    refine AW.sts (st' := [.ref root_20]) rfl ?_
                    refine aw_astore_n (n := 147) (lv' := [(0, .ref root_20), (5, .ref r51_5), (4, .ref p6_2), (3, .ref p29_4), (2, .ref p6_2), (1, .ref x1)]) dJ27_balanceInsertion_146 rfl (by decide) rfl rfl ?_
                    refine aw_goto (tgt := 5) dJ27_balanceInsertion_147 (by decide) ?_
                    have d1 : pa_20 x1 = some p6_2 := by rw [ePa, if_neg n13, if_neg k_p6_2.2.2.1, if_neg fx9]; exact hq_2
                    have d2 : rd_20 p6_2 = false := by rw [eRd]; simp [ub, k_p29_4.2.2.1]
                    exact AW.lvs (lv' := [(1, .ref x1), (0, .ref root_20)]) (AW.eq (lv2 := _) (rfl) rfl rfl rfl rfl (ih_5 h_143 pa_20 lf_20 rt_20 rd_20 root_20 lo_20 hi_20 ht_20 B_20 x1 1 hT_c143 hBn_20 hxc (Fr.c (Fr.w (Fr.w hFc w_18 (Or.inl k_p6_2.1)) w_19 (Or.inl k_p29_4.1)) hF_c143 (fun _ z => Or.inl z)) (by omega) (Or.inr ⟨Nat.zero_lt_one, fun y e => by rw [d1] at e; cases e; exact d2⟩) (by omega))) (by simp)
                  · skip
                    have k_r91_17 : N r91_17 := BT.ch hBc k_p6_2.1 (Or.inr hq_17)
                    refine aw_getf (n := 94) (v := .ref r91_17) (C0 := RJ27) (T := TJ27) dJ27_balanceInsertion_91 rfl 8 q1611 (Or.inl rfl) (hTc p6_2 k_p6_2.1).1 (congrArg (fun z9 => some (va_rf z9)) (show rt1 p6_2 = some r91_17 from by exact hq_17)) rfl ?_
                    refine aw_acmp_ne (n := 97) (x := (some x1)) (y := (some r91_17)) (tgt := 123) dJ27_balanceInsertion_94 (by decide) rfl (fun _ => ?_) (fun z9 => absurd z9 (fun e9 => nI9 (hq_17.trans e9.symm)))
                    refine aw_aload_n (n := 124) dJ27_balanceInsertion_123 rfl 3 rfl rfl ?_
                    refine aw_ifnull (n := 127) dJ27_balanceInsertion_124 rfl ?_
                    refine aw_aload_n (n := 128) dJ27_balanceInsertion_127 rfl 3 rfl rfl ?_
                    refine aw_iconst (n := 129) (v := 0) dJ27_balanceInsertion_128 (by decide) rfl ?_
                    refine aw_putK (n := 132) (fs' := [.null, .null, .int (κ p6_2).1, .ref (κ p6_2).2.1, .ref (κ p6_2).2.2, va_rf (nx p6_2), va_rf (pa1 p6_2), va_rf (lf1 p6_2), va_rf (rt1 p6_2), va_rf (pv p6_2), .int (bI false)]) (C0 := RJ27) (T := TJ27) (N := 11) (ci := 27) dJ27_balanceInsertion_129 rfl in_J27 tyJ27 tyJ27_ok nmJ27 q1601 10 (by decide) q1614 (Or.inl rfl) (Or.inl rfl) rfl (hTc p6_2 k_p6_2.1).1 (hTc p6_2 k_p6_2.1).2 rfl rfl (Nat.le_of_ble_eq_true rfl) rfl rfl (fun y_21 w_21 => ?_)
                    have zy_21 : y_21.1 = hh.1 := w_21.2.2
                    have hT_21 := TPic.prd (v := false) hTc w_21
                    refine aw_aload_n (n := 133) dJ27_balanceInsertion_132 rfl 2 rfl rfl ?_
                    refine aw_ifnull (n := 136) dJ27_balanceInsertion_133 rfl ?_
                    refine aw_aload_n (n := 137) dJ27_balanceInsertion_136 rfl 2 rfl rfl ?_
                    refine aw_iconst (n := 138) (v := 1) dJ27_balanceInsertion_137 (by decide) rfl ?_
                    refine aw_putK (n := 141) (fs' := [.null, .null, .int (κ p29_4).1, .ref (κ p29_4).2.1, .ref (κ p29_4).2.2, va_rf (nx p29_4), va_rf (pa1 p29_4), va_rf (lf1 p29_4), va_rf (rt1 p29_4), va_rf (pv p29_4), .int (bI true)]) (C0 := RJ27) (T := TJ27) (N := 11) (ci := 27) dJ27_balanceInsertion_138 rfl in_J27 tyJ27 tyJ27_ok nmJ27 q1601 10 (by decide) q1614 (Or.inl rfl) (Or.inl rfl) rfl (hT_21 p29_4 k_p29_4.1).1 (hT_21 p29_4 k_p29_4.1).2 rfl rfl (Nat.le_of_ble_eq_true rfl) rfl rfl (fun y_22 w_22 => ?_)
                    have zy_22 : y_22.1 = y_21.1 := w_22.2.2
                    have hT_22 := TPic.prd (v := true) hT_21 w_22
                    refine aw_aload_n (n := 142) dJ27_balanceInsertion_141 rfl 5 rfl rfl ?_
                    refine aw_aload_n (n := 143) dJ27_balanceInsertion_142 rfl 2 rfl rfl ?_
                    have fx9 : rt1 p6_2 ≠ some x1 := BT.lr h3 hBc k_p6_2.1 kI
                    have hr_143 : lf1 p29_4 = some p6_2 := kS
                    refine aw_callS (n := 146) (As := [.ref root1, .ref p29_4]) (rest := []) (K2 := kJ27_rotateRight) dJ27_balanceInsertion_143 q1581 q1582 q145 q1583 hcJ27_rotateRight (hm_rotR G y_22 N κ nx pa1 lf1 rt1 pv (ub (ub rd1 p6_2 false) p29_4 true) hT_22 lt root1 lo1 hi1 ht1 B1 hBc p29_4 p6_2 k_p29_4.1 hr_143) rfl (Nat.le_of_ble_eq_true rfl) ⟨Nat.le_of_ble_eq_true rfl, Nat.le_of_ble_eq_true rfl⟩ ⟨by first | omega | (dsimp only; omega) | decide, by first | omega | (dsimp only; omega) | decide⟩ (fun _ _ _ z => z.elim) rfl (fun r_143 h_143 q_143 => ?_)
                    obtain ⟨rfl, hT_c143, hF_c143, hz_c143⟩ := q_143
                    have hB_23 := (BT.rot h3.flip (BT.flip hBc) k_p29_4.1 hr_143).flip
                    have ePa : ∀ q, rPa p29_4 p6_2 pa1 rt1 q = if q = p29_4 then some p6_2 else if q = p6_2 then pa1 p29_4 else if rt1 p6_2 = some q then some p29_4 else pa1 q := fun _ => rfl
                    have eLf : ∀ q, rLf p29_4 p6_2 pa1 rt1 q = if q = p6_2 then some p29_4 else if pa1 p29_4 = some q ∧ rt1 q = some p29_4 then some p6_2 else rt1 q := fun _ => rfl
                    have eRt : ∀ q, rRt p29_4 p6_2 pa1 rt1 lf1 q = if q = p29_4 then rt1 p6_2 else if pa1 p29_4 = some q ∧ rt1 q ≠ some p29_4 then some p6_2 else lf1 q := fun _ => rfl
                    generalize gPa : rPa p29_4 p6_2 pa1 rt1 = pa_23 at hT_c143 hB_23 ePa
                    generalize gLf : rLf p29_4 p6_2 pa1 rt1 = rt_23 at hT_c143 hB_23 eLf
                    generalize gRt : rRt p29_4 p6_2 pa1 rt1 lf1 = lf_23 at hT_c143 hB_23 eRt
                    have eRd : ∀ q, (fun q => if pa1 p29_4 = none ∧ q = p6_2 then false else (ub (ub rd1 p6_2 false) p29_4 true) q) q = if pa1 p29_4 = none ∧ q = p6_2 then false else (ub (ub rd1 p6_2 false) p29_4 true) q := fun _ => rfl
                    generalize gRd : (fun q => if pa1 p29_4 = none ∧ q = p6_2 then false else (ub (ub rd1 p6_2 false) p29_4 true) q) = rd_23 at hT_c143 eRd
                    generalize gRo : rRoot p29_4 p6_2 pa1 root1 = root_23 at hB_23 ⊢
                    obtain ⟨lo_23, hi_23, ht_23, B_23, hBn_23⟩ : ∃ lo hi ht B, BT lt N pa_23 lf_23 rt_23 root_23 lo hi ht B := ⟨_, _, _, _, hB_23⟩
                    have zc_143 : y_22.1 ≤ h_143.1 := hF_c143.1
                    refine AW.sts (st' := [.ref root_23]) rfl ?_
                    refine aw_astore_n (n := 147) (lv' := [(0, .ref root_23), (5, .ref r51_5), (4, .ref p6_2), (3, .ref p29_4), (2, .ref p6_2), (1, .ref x1)]) dJ27_balanceInsertion_146 rfl (by decide) rfl rfl ?_
                    refine aw_goto (tgt := 5) dJ27_balanceInsertion_147 (by decide) ?_
                    have d1 : pa_23 x1 = some p6_2 := by rw [ePa, if_neg n13, if_neg k_p6_2.2.2.1, if_neg fx9]; exact hq_2
                    have d2 : rd_23 p6_2 = false := by rw [eRd]; simp [ub, k_p29_4.2.2.1]
                    exact AW.lvs (lv' := [(1, .ref x1), (0, .ref root_23)]) (AW.eq (lv2 := _) (rfl) rfl rfl rfl rfl (ih_5 h_143 pa_23 lf_23 rt_23 rd_23 root_23 lo_23 hi_23 ht_23 B_23 x1 1 hT_c143 hBn_23 hxc (Fr.c (Fr.w (Fr.w hFc w_21 (Or.inl k_p6_2.1)) w_22 (Or.inl k_p29_4.1)) hF_c143 (fun _ z => Or.inl z)) (by omega) (Or.inr ⟨Nat.zero_lt_one, fun y e => by rw [d1] at e; cases e; exact d2⟩) (by omega))) (by simp)
                · skip
                  have nI9 : lf1 p6_2 ≠ some x1 := fun e => BT.lr h3 hBc k_p6_2.1 e kI
                  refine aw_getf (n := 94) (v := .ref x1) (C0 := RJ27) (T := TJ27) dJ27_balanceInsertion_91 rfl 8 q1611 (Or.inl rfl) (hTc p6_2 k_p6_2.1).1 (congrArg (fun z9 => some (va_rf z9)) (show rt1 p6_2 = some x1 from by exact kI)) rfl ?_
                  refine aw_acmp_ne (n := 97) (x := (some x1)) (y := (some x1)) (tgt := 123) dJ27_balanceInsertion_94 (by decide) rfl (fun z9 => absurd z9 (fun k9 => k9 rfl)) (fun _ => ?_)
                  refine aw_aload_n (n := 98) dJ27_balanceInsertion_97 rfl 5 rfl rfl ?_
                  refine aw_aload_n (n := 99) dJ27_balanceInsertion_98 rfl 3 rfl rfl ?_
                  refine aw_dup (n := 100) dJ27_balanceInsertion_99 rfl rfl ?_
                  refine aw_astore_n (n := 101) (lv' := [(1, .ref p6_2), (5, .ref r51_5), (4, .ref p6_2), (3, .ref p29_4), (2, .ref p6_2), (0, .ref root1)]) dJ27_balanceInsertion_100 rfl (by decide) rfl rfl ?_
                  have hr_101 : rt1 p6_2 = some x1 := kI
                  refine aw_callS (n := 104) (As := [.ref root1, .ref p6_2]) (rest := []) (K2 := kJ27_rotateLeft) dJ27_balanceInsertion_101 q1578 q1579 q145 q1580 hcJ27_rotateLeft (hm_rotL G hh N κ nx pa1 lf1 rt1 pv rd1 hTc lt root1 lo1 hi1 ht1 B1 hBc p6_2 x1 k_p6_2.1 hr_101) rfl (Nat.le_of_ble_eq_true rfl) ⟨Nat.le_of_ble_eq_true rfl, Nat.le_of_ble_eq_true rfl⟩ ⟨by first | omega | (dsimp only; omega) | decide, by first | omega | (dsimp only; omega) | decide⟩ (fun _ _ _ z => z.elim) rfl (fun r_101 h_101 q_101 => ?_)
                  obtain ⟨rfl, hT_c101, hF_c101, hz_c101⟩ := q_101
                  have hB_24 := BT.rot h3 hBc k_p6_2.1 hr_101
                  have ePa : ∀ q, rPa p6_2 x1 pa1 lf1 q = if q = p6_2 then some x1 else if q = x1 then pa1 p6_2 else if lf1 x1 = some q then some p6_2 else pa1 q := fun _ => rfl
                  have eLf : ∀ q, rLf p6_2 x1 pa1 lf1 q = if q = x1 then some p6_2 else if pa1 p6_2 = some q ∧ lf1 q = some p6_2 then some x1 else lf1 q := fun _ => rfl
                  have eRt : ∀ q, rRt p6_2 x1 pa1 lf1 rt1 q = if q = p6_2 then lf1 x1 else if pa1 p6_2 = some q ∧ lf1 q ≠ some p6_2 then some x1 else rt1 q := fun _ => rfl
                  generalize gPa : rPa p6_2 x1 pa1 lf1 = pa_24 at hT_c101 hB_24 ePa
                  generalize gLf : rLf p6_2 x1 pa1 lf1 = lf_24 at hT_c101 hB_24 eLf
                  generalize gRt : rRt p6_2 x1 pa1 lf1 rt1 = rt_24 at hT_c101 hB_24 eRt
                  have eRd : ∀ q, (fun q => if pa1 p6_2 = none ∧ q = x1 then false else rd1 q) q = if pa1 p6_2 = none ∧ q = x1 then false else rd1 q := fun _ => rfl
                  generalize gRd : (fun q => if pa1 p6_2 = none ∧ q = x1 then false else rd1 q) = rd_24 at hT_c101 eRd
                  generalize gRo : rRoot p6_2 x1 pa1 root1 = root_24 at hB_24 ⊢
                  obtain ⟨lo_24, hi_24, ht_24, B_24, hBn_24⟩ : ∃ lo hi ht B, BT lt N pa_24 lf_24 rt_24 root_24 lo hi ht B := ⟨_, _, _, _, hB_24⟩
                  have zc_101 : hh.1 ≤ h_101.1 := hF_c101.1
                  refine AW.sts (st' := [.ref root_24]) rfl ?_
                  have g1 : pa_24 p6_2 = some x1 := by rw [ePa, if_pos rfl]
                  have g2 : pa_24 x1 = some p29_4 := by rw [ePa, if_neg k_p6_2.2.2.1, if_pos rfl]; exact hq_4
                  have g3 : lf_24 x1 = some p6_2 := by rw [eLf, if_pos rfl]
                  have g4 : lf_24 p29_4 = some x1 := by rw [eLf, if_neg (Ne.symm n13), if_pos ⟨hq_4, kS⟩]
                  refine aw_astore_n (n := 105) (lv' := [(0, .ref root_24), (1, .ref p6_2), (5, .ref r51_5), (4, .ref p6_2), (3, .ref p29_4), (2, .ref p6_2)]) dJ27_balanceInsertion_104 rfl (by decide) rfl rfl ?_
                  refine aw_aload_n (n := 106) dJ27_balanceInsertion_105 rfl 1 rfl rfl ?_
                  refine aw_getf (n := 109) (v := .ref x1) (C0 := RJ27) (T := TJ27) dJ27_balanceInsertion_106 rfl 6 q1609 (Or.inl rfl) (hT_c101 p6_2 k_p6_2.1).1 (congrArg (fun z9 => some (va_rf z9)) (show pa_24 p6_2 = some x1 from by exact g1)) rfl ?_
                  refine aw_dup (n := 110) dJ27_balanceInsertion_109 rfl rfl ?_
                  refine aw_astore_n (n := 111) (lv' := [(2, .ref x1), (0, .ref root_24), (1, .ref p6_2), (5, .ref r51_5), (4, .ref p6_2), (3, .ref p29_4)]) dJ27_balanceInsertion_110 rfl (by decide) rfl rfl ?_
                  refine aw_ifnonnull (tgt := 118) dJ27_balanceInsertion_111 (by decide) ?_
                  refine aw_aload_n (n := 119) dJ27_balanceInsertion_118 rfl 0 rfl rfl ?_
                  refine aw_getf (n := 122) (v := .ref p29_4) (C0 := RJ27) (T := TJ27) dJ27_balanceInsertion_119 rfl 6 q1609 (Or.inl rfl) (hT_c101 x1 hxc).1 (congrArg (fun z9 => some (va_rf z9)) (show pa_24 x1 = some p29_4 from by exact g2)) rfl ?_
                  refine aw_astore_n (n := 123) (lv' := [(3, .ref p29_4), (2, .ref x1), (0, .ref root_24), (1, .ref p6_2), (5, .ref r51_5), (4, .ref p6_2)]) dJ27_balanceInsertion_122 rfl (by decide) rfl rfl ?_
                  refine aw_aload_n (n := 124) dJ27_balanceInsertion_123 rfl 1 rfl rfl ?_
                  refine aw_ifnull (n := 127) dJ27_balanceInsertion_124 rfl ?_
                  refine aw_aload_n (n := 128) dJ27_balanceInsertion_127 rfl 1 rfl rfl ?_
                  refine aw_iconst (n := 129) (v := 0) dJ27_balanceInsertion_128 (by decide) rfl ?_
                  refine aw_putK (n := 132) (fs' := [.null, .null, .int (κ x1).1, .ref (κ x1).2.1, .ref (κ x1).2.2, va_rf (nx x1), va_rf (pa_24 x1), va_rf (lf_24 x1), va_rf (rt_24 x1), va_rf (pv x1), .int (bI false)]) (C0 := RJ27) (T := TJ27) (N := 11) (ci := 27) dJ27_balanceInsertion_129 rfl in_J27 tyJ27 tyJ27_ok nmJ27 q1601 10 (by decide) q1614 (Or.inl rfl) (Or.inl rfl) rfl (hT_c101 x1 hxc).1 (hT_c101 x1 hxc).2 rfl rfl (Nat.le_of_ble_eq_true rfl) rfl rfl (fun y_25 w_25 => ?_)
                  have zy_25 : y_25.1 = h_101.1 := w_25.2.2
                  have hT_25 := TPic.prd (v := false) hT_c101 w_25
                  refine aw_aload_n (n := 133) dJ27_balanceInsertion_132 rfl 0 rfl rfl ?_
                  refine aw_ifnull (n := 136) dJ27_balanceInsertion_133 rfl ?_
                  refine aw_aload_n (n := 137) dJ27_balanceInsertion_136 rfl 0 rfl rfl ?_
                  refine aw_iconst (n := 138) (v := 1) dJ27_balanceInsertion_137 (by decide) rfl ?_
                  refine aw_putK (n := 141) (fs' := [.null, .null, .int (κ p29_4).1, .ref (κ p29_4).2.1, .ref (κ p29_4).2.2, va_rf (nx p29_4), va_rf (pa_24 p29_4), va_rf (lf_24 p29_4), va_rf (rt_24 p29_4), va_rf (pv p29_4), .int (bI true)]) (C0 := RJ27) (T := TJ27) (N := 11) (ci := 27) dJ27_balanceInsertion_138 rfl in_J27 tyJ27 tyJ27_ok nmJ27 q1601 10 (by decide) q1614 (Or.inl rfl) (Or.inl rfl) rfl (hT_25 p29_4 k_p29_4.1).1 (hT_25 p29_4 k_p29_4.1).2 rfl rfl (Nat.le_of_ble_eq_true rfl) rfl rfl (fun y_26 w_26 => ?_)
                  have zy_26 : y_26.1 = y_25.1 := w_26.2.2
                  have hT_26 := TPic.prd (v := true) hT_25 w_26
                  refine aw_aload_n (n := 142) dJ27_balanceInsertion_141 rfl 2 rfl rfl ?_
                  refine aw_aload_n (n := 143) dJ27_balanceInsertion_142 rfl 0 rfl rfl ?_
                  have fx9 : rt_24 x1 ≠ some p6_2 := BT.lr h3 hBn_24 hxc g3
                  have hr_143 : lf_24 p29_4 = some x1 := g4
                  refine aw_callS (n := 146) (As := [.ref root_24, .ref p29_4]) (rest := []) (K2 := kJ27_rotateRight) dJ27_balanceInsertion_143 q1581 q1582 q145 q1583 hcJ27_rotateRight (hm_rotR G y_26 N κ nx pa_24 lf_24 rt_24 pv (ub (ub rd_24 x1 false) p29_4 true) hT_26 lt root_24 lo_24 hi_24 ht_24 B_24 hBn_24 p29_4 x1 k_p29_4.1 hr_143) rfl (Nat.le_of_ble_eq_true rfl) ⟨Nat.le_of_ble_eq_true rfl, Nat.le_of_ble_eq_true rfl⟩ ⟨by first | omega | (dsimp only; omega) | decide, by first | omega | (dsimp only; omega) | decide⟩ (fun _ _ _ z => z.elim) rfl (fun r_143 h_143 q_143 => ?_)
                  obtain ⟨rfl, hT_c143, hF_c143, hz_c143⟩ := q_143
                  have hB_27 := (BT.rot h3.flip (BT.flip hBn_24) k_p29_4.1 hr_143).flip
                  have ePa : ∀ q, rPa p29_4 x1 pa_24 rt_24 q = if q = p29_4 then some x1 else if q = x1 then pa_24 p29_4 else if rt_24 x1 = some q then some p29_4 else pa_24 q := fun _ => rfl
                  have eLf : ∀ q, rLf p29_4 x1 pa_24 rt_24 q = if q = x1 then some p29_4 else if pa_24 p29_4 = some q ∧ rt_24 q = some p29_4 then some x1 else rt_24 q := fun _ => rfl
                  have eRt : ∀ q, rRt p29_4 x1 pa_24 rt_24 lf_24 q = if q = p29_4 then rt_24 x1 else if pa_24 p29_4 = some q ∧ rt_24 q ≠ some p29_4 then some x1 else lf_24 q := fun _ => rfl
                  generalize gPa : rPa p29_4 x1 pa_24 rt_24 = pa_27 at hT_c143 hB_27 ePa
                  generalize gLf : rLf p29_4 x1 pa_24 rt_24 = rt_27 at hT_c143 hB_27 eLf
                  generalize gRt : rRt p29_4 x1 pa_24 rt_24 lf_24 = lf_27 at hT_c143 hB_27 eRt
                  have eRd : ∀ q, (fun q => if pa_24 p29_4 = none ∧ q = x1 then false else (ub (ub rd_24 x1 false) p29_4 true) q) q = if pa_24 p29_4 = none ∧ q = x1 then false else (ub (ub rd_24 x1 false) p29_4 true) q := fun _ => rfl
                  generalize gRd : (fun q => if pa_24 p29_4 = none ∧ q = x1 then false else (ub (ub rd_24 x1 false) p29_4 true) q) = rd_27 at hT_c143 eRd
                  generalize gRo : rRoot p29_4 x1 pa_24 root_24 = root_27 at hB_27 ⊢
                  obtain ⟨lo_27, hi_27, ht_27, B_27, hBn_27⟩ : ∃ lo hi ht B, BT lt N pa_27 lf_27 rt_27 root_27 lo hi ht B := ⟨_, _, _, _, hB_27⟩
                  have zc_143 : y_26.1 ≤ h_143.1 := hF_c143.1
                  refine AW.sts (st' := [.ref root_27]) rfl ?_
                  refine aw_astore_n (n := 147) (lv' := [(0, .ref root_27), (3, .ref p29_4), (2, .ref x1), (1, .ref p6_2), (5, .ref r51_5), (4, .ref p6_2)]) dJ27_balanceInsertion_146 rfl (by decide) rfl rfl ?_
                  refine aw_goto (tgt := 5) dJ27_balanceInsertion_147 (by decide) ?_
                  have d1 : pa_27 p6_2 = some x1 := by rw [ePa, if_neg k_p29_4.2.2.1, if_neg (Ne.symm k_p6_2.2.2.1), if_neg fx9]; exact g1
                  have d2 : rd_27 x1 = false := by rw [eRd]; simp [ub, n13]
                  exact AW.lvs (lv' := [(1, .ref p6_2), (0, .ref root_27)]) (AW.eq (lv2 := _) (rfl) rfl rfl rfl rfl (ih_5 h_143 pa_27 lf_27 rt_27 rd_27 root_27 lo_27 hi_27 ht_27 B_27 p6_2 1 hT_c143 hBn_27 k_p6_2.1 (Fr.c (Fr.w (Fr.w (Fr.c hFc hF_c101 (fun _ z => Or.inl z)) w_25 (Or.inl hxc)) w_26 (Or.inl k_p29_4.1)) hF_c143 (fun _ z => Or.inl z)) (by omega) (Or.inr ⟨Nat.zero_lt_one, fun y e => by rw [d1] at e; cases e; exact d2⟩) (by omega))) (by simp)
              · skip
                have b_65 : (rd1 r51_5) = true := Bool.of_not_eq_false (fun e => c_65 ((bI_0 _).mpr e))
                refine aw_aload (n := 70) dJ27_balanceInsertion_68 0 rfl rfl ?_
                refine aw_iconst (n := 71) (v := 0) dJ27_balanceInsertion_70 (by decide) rfl ?_
                refine aw_putK (n := 74) (fs' := [.null, .null, .int (κ r51_5).1, .ref (κ r51_5).2.1, .ref (κ r51_5).2.2, va_rf (nx r51_5), va_rf (pa1 r51_5), va_rf (lf1 r51_5), va_rf (rt1 r51_5), va_rf (pv r51_5), .int (bI false)]) (C0 := RJ27) (T := TJ27) (N := 11) (ci := 27) dJ27_balanceInsertion_71 rfl in_J27 tyJ27 tyJ27_ok nmJ27 q1601 10 (by decide) q1614 (Or.inl rfl) (Or.inl rfl) rfl (hTc r51_5 k_r51_5).1 (hTc r51_5 k_r51_5).2 rfl rfl (Nat.le_of_ble_eq_true rfl) rfl rfl (fun y_28 w_28 => ?_)
                have zy_28 : y_28.1 = hh.1 := w_28.2.2
                have hT_28 := TPic.prd (v := false) hTc w_28
                refine aw_aload_n (n := 75) dJ27_balanceInsertion_74 rfl 3 rfl rfl ?_
                refine aw_iconst (n := 76) (v := 0) dJ27_balanceInsertion_75 (by decide) rfl ?_
                refine aw_putK (n := 79) (fs' := [.null, .null, .int (κ p6_2).1, .ref (κ p6_2).2.1, .ref (κ p6_2).2.2, va_rf (nx p6_2), va_rf (pa1 p6_2), va_rf (lf1 p6_2), va_rf (rt1 p6_2), va_rf (pv p6_2), .int (bI false)]) (C0 := RJ27) (T := TJ27) (N := 11) (ci := 27) dJ27_balanceInsertion_76 rfl in_J27 tyJ27 tyJ27_ok nmJ27 q1601 10 (by decide) q1614 (Or.inl rfl) (Or.inl rfl) rfl (hT_28 p6_2 k_p6_2.1).1 (hT_28 p6_2 k_p6_2.1).2 rfl rfl (Nat.le_of_ble_eq_true rfl) rfl rfl (fun y_29 w_29 => ?_)
                have zy_29 : y_29.1 = y_28.1 := w_29.2.2
                have hT_29 := TPic.prd (v := false) hT_28 w_29
                refine aw_aload_n (n := 80) dJ27_balanceInsertion_79 rfl 2 rfl rfl ?_
                refine aw_iconst (n := 81) (v := 1) dJ27_balanceInsertion_80 (by decide) rfl ?_
                refine aw_putK (n := 84) (fs' := [.null, .null, .int (κ p29_4).1, .ref (κ p29_4).2.1, .ref (κ p29_4).2.2, va_rf (nx p29_4), va_rf (pa1 p29_4), va_rf (lf1 p29_4), va_rf (rt1 p29_4), va_rf (pv p29_4), .int (bI true)]) (C0 := RJ27) (T := TJ27) (N := 11) (ci := 27) dJ27_balanceInsertion_81 rfl in_J27 tyJ27 tyJ27_ok nmJ27 q1601 10 (by decide) q1614 (Or.inl rfl) (Or.inl rfl) rfl (hT_29 p29_4 k_p29_4.1).1 (hT_29 p29_4 k_p29_4.1).2 rfl rfl (Nat.le_of_ble_eq_true rfl) rfl rfl (fun y_30 w_30 => ?_)
                have zy_30 : y_30.1 = y_29.1 := w_30.2.2
                have hT_30 := TPic.prd (v := true) hT_29 w_30
                refine aw_aload_n (n := 85) dJ27_balanceInsertion_84 rfl 2 rfl rfl ?_
                refine aw_astore_n (n := 86) (lv' := [(1, .ref p29_4), (5, .ref r51_5), (4, .ref p6_2), (3, .ref p29_4), (2, .ref p6_2), (0, .ref root1)]) dJ27_balanceInsertion_85 rfl (by decide) rfl rfl ?_
                refine aw_goto (tgt := 5) dJ27_balanceInsertion_86 (by decide) ?_
                exact AW.lvs (lv' := [(1, .ref p29_4), (0, .ref root1)]) (AW.eq (lv2 := _) (rfl) rfl rfl rfl rfl (ih_5 y_30 pa1 lf1 rt1 (ub (ub (ub rd1 r51_5 false) p6_2 false) p29_4 true) root1 lo1 hi1 ht1 B1 p29_4 (μ - 1) hT_30 hBc k_p29_4.1 (Fr.w (Fr.w (Fr.w hFc w_28 (Or.inl k_r51_5)) w_29 (Or.inl k_p6_2.1)) w_30 (Or.inl k_p29_4.1)) (by omega) (Or.inl (by have a1 := k_p6_2.2.1; have a2 := k_p29_4.2.1; have a3 := BT.ht hBc k_p29_4.1; omega)) (by omega))) (by simp)
          · skip
            have nS : lf1 p29_4 ≠ some p6_2 := fun e => BT.lr h3 hBc k_p29_4.1 e kS
            rcases optc (lf1 p29_4) with hq_31 | ⟨l41_31, hq_31⟩
            · skip
              refine aw_getf (n := 44) (v := .null) (C0 := RJ27) (T := TJ27) dJ27_balanceInsertion_41 rfl 7 q1610 (Or.inl rfl) (hTc p29_4 k_p29_4.1).1 (congrArg (fun z9 => some (va_rf z9)) (show lf1 p29_4 = none from by exact hq_31)) rfl ?_
              refine aw_dup (n := 45) dJ27_balanceInsertion_44 rfl rfl ?_
              refine aw_astoreN (n := 47) (lv' := [(4, .null), (3, .ref p29_4), (2, .ref p6_2), (1, .ref x1), (0, .ref root1)]) dJ27_balanceInsertion_45 (by decide) rfl rfl ?_
              refine aw_acmp_ne (n := 50) (x := (some p6_2)) (y := none) (tgt := 150) dJ27_balanceInsertion_47 (by decide) rfl (fun _ => ?_) (fun z9 => absurd z9 (by simp))
              refine aw_aloadN (n := 152) dJ27_balanceInsertion_150 0 rfl rfl ?_
              refine aw_ifnullN (tgt := 184) dJ27_balanceInsertion_152 (by decide) ?_
              refine aw_aload_n (n := 185) dJ27_balanceInsertion_184 rfl 3 rfl rfl ?_
              refine aw_aload_n (n := 186) dJ27_balanceInsertion_185 rfl 2 rfl rfl ?_
              rcases k_p6_2.2.2.2 with kI | kI
              · skip
                have nI9 : rt1 p6_2 ≠ some x1 := BT.lr h3 hBc k_p6_2.1 kI
                refine aw_getf (n := 189) (v := .ref x1) (C0 := RJ27) (T := TJ27) dJ27_balanceInsertion_186 rfl 7 q1610 (Or.inl rfl) (hTc p6_2 k_p6_2.1).1 (congrArg (fun z9 => some (va_rf z9)) (show lf1 p6_2 = some x1 from by exact kI)) rfl ?_
                refine aw_acmp_ne (n := 192) (x := (some x1)) (y := (some x1)) (tgt := 218) dJ27_balanceInsertion_189 (by decide) rfl (fun z9 => absurd z9 (fun k9 => k9 rfl)) (fun _ => ?_)
                refine aw_aload_n (n := 193) dJ27_balanceInsertion_192 rfl 4 rfl rfl ?_
                refine aw_aload_n (n := 194) dJ27_balanceInsertion_193 rfl 2 rfl rfl ?_
                refine aw_dup (n := 195) dJ27_balanceInsertion_194 rfl rfl ?_
                refine aw_astore_n (n := 196) (lv' := [(1, .ref p6_2), (4, .null), (3, .ref p29_4), (2, .ref p6_2), (0, .ref root1)]) dJ27_balanceInsertion_195 rfl (by decide) rfl rfl ?_
                have hr_196 : lf1 p6_2 = some x1 := kI
                refine aw_callS (n := 199) (As := [.ref root1, .ref p6_2]) (rest := []) (K2 := kJ27_rotateRight) dJ27_balanceInsertion_196 q1581 q1582 q145 q1583 hcJ27_rotateRight (hm_rotR G hh N κ nx pa1 lf1 rt1 pv rd1 hTc lt root1 lo1 hi1 ht1 B1 hBc p6_2 x1 k_p6_2.1 hr_196) rfl (Nat.le_of_ble_eq_true rfl) ⟨Nat.le_of_ble_eq_true rfl, Nat.le_of_ble_eq_true rfl⟩ ⟨by first | omega | (dsimp only; omega) | decide, by first | omega | (dsimp only; omega) | decide⟩ (fun _ _ _ z => z.elim) rfl (fun r_196 h_196 q_196 => ?_)
                obtain ⟨rfl, hT_c196, hF_c196, hz_c196⟩ := q_196
                have hB_32 := (BT.rot h3.flip (BT.flip hBc) k_p6_2.1 hr_196).flip
                have ePa : ∀ q, rPa p6_2 x1 pa1 rt1 q = if q = p6_2 then some x1 else if q = x1 then pa1 p6_2 else if rt1 x1 = some q then some p6_2 else pa1 q := fun _ => rfl
                have eLf : ∀ q, rLf p6_2 x1 pa1 rt1 q = if q = x1 then some p6_2 else if pa1 p6_2 = some q ∧ rt1 q = some p6_2 then some x1 else rt1 q := fun _ => rfl
                have eRt : ∀ q, rRt p6_2 x1 pa1 rt1 lf1 q = if q = p6_2 then rt1 x1 else if pa1 p6_2 = some q ∧ rt1 q ≠ some p6_2 then some x1 else lf1 q := fun _ => rfl
                generalize gPa : rPa p6_2 x1 pa1 rt1 = pa_32 at hT_c196 hB_32 ePa
                generalize gLf : rLf p6_2 x1 pa1 rt1 = rt_32 at hT_c196 hB_32 eLf
                generalize gRt : rRt p6_2 x1 pa1 rt1 lf1 = lf_32 at hT_c196 hB_32 eRt
                have eRd : ∀ q, (fun q => if pa1 p6_2 = none ∧ q = x1 then false else rd1 q) q = if pa1 p6_2 = none ∧ q = x1 then false else rd1 q := fun _ => rfl
                generalize gRd : (fun q => if pa1 p6_2 = none ∧ q = x1 then false else rd1 q) = rd_32 at hT_c196 eRd
                generalize gRo : rRoot p6_2 x1 pa1 root1 = root_32 at hB_32 ⊢
                obtain ⟨lo_32, hi_32, ht_32, B_32, hBn_32⟩ : ∃ lo hi ht B, BT lt N pa_32 lf_32 rt_32 root_32 lo hi ht B := ⟨_, _, _, _, hB_32⟩
                have zc_196 : hh.1 ≤ h_196.1 := hF_c196.1
                refine AW.sts (st' := [.ref root_32]) rfl ?_
                have g1 : pa_32 p6_2 = some x1 := by rw [ePa, if_pos rfl]
                have g2 : pa_32 x1 = some p29_4 := by rw [ePa, if_neg k_p6_2.2.2.1, if_pos rfl]; exact hq_4
                have g3 : rt_32 x1 = some p6_2 := by rw [eLf, if_pos rfl]
                have g4 : rt_32 p29_4 = some x1 := by rw [eLf, if_neg (Ne.symm n13), if_pos ⟨hq_4, kS⟩]
                refine aw_astore_n (n := 200) (lv' := [(0, .ref root_32), (1, .ref p6_2), (4, .null), (3, .ref p29_4), (2, .ref p6_2)]) dJ27_balanceInsertion_199 rfl (by decide) rfl rfl ?_
                refine aw_aload_n (n := 201) dJ27_balanceInsertion_200 rfl 1 rfl rfl ?_
                refine aw_getf (n := 204) (v := .ref x1) (C0 := RJ27) (T := TJ27) dJ27_balanceInsertion_201 rfl 6 q1609 (Or.inl rfl) (hT_c196 p6_2 k_p6_2.1).1 (congrArg (fun z9 => some (va_rf z9)) (show pa_32 p6_2 = some x1 from by exact g1)) rfl ?_
                refine aw_dup (n := 205) dJ27_balanceInsertion_204 rfl rfl ?_
                refine aw_astore_n (n := 206) (lv' := [(2, .ref x1), (0, .ref root_32), (1, .ref p6_2), (4, .null), (3, .ref p29_4)]) dJ27_balanceInsertion_205 rfl (by decide) rfl rfl ?_
                refine aw_ifnonnull (tgt := 213) dJ27_balanceInsertion_206 (by decide) ?_
                refine aw_aload_n (n := 214) dJ27_balanceInsertion_213 rfl 0 rfl rfl ?_
                refine aw_getf (n := 217) (v := .ref p29_4) (C0 := RJ27) (T := TJ27) dJ27_balanceInsertion_214 rfl 6 q1609 (Or.inl rfl) (hT_c196 x1 hxc).1 (congrArg (fun z9 => some (va_rf z9)) (show pa_32 x1 = some p29_4 from by exact g2)) rfl ?_
                refine aw_astore_n (n := 218) (lv' := [(3, .ref p29_4), (2, .ref x1), (0, .ref root_32), (1, .ref p6_2), (4, .null)]) dJ27_balanceInsertion_217 rfl (by decide) rfl rfl ?_
                refine aw_aload_n (n := 219) dJ27_balanceInsertion_218 rfl 1 rfl rfl ?_
                refine aw_ifnull (n := 222) dJ27_balanceInsertion_219 rfl ?_
                refine aw_aload_n (n := 223) dJ27_balanceInsertion_222 rfl 1 rfl rfl ?_
                refine aw_iconst (n := 224) (v := 0) dJ27_balanceInsertion_223 (by decide) rfl ?_
                refine aw_putK (n := 227) (fs' := [.null, .null, .int (κ x1).1, .ref (κ x1).2.1, .ref (κ x1).2.2, va_rf (nx x1), va_rf (pa_32 x1), va_rf (lf_32 x1), va_rf (rt_32 x1), va_rf (pv x1), .int (bI false)]) (C0 := RJ27) (T := TJ27) (N := 11) (ci := 27) dJ27_balanceInsertion_224 rfl in_J27 tyJ27 tyJ27_ok nmJ27 q1601 10 (by decide) q1614 (Or.inl rfl) (Or.inl rfl) rfl (hT_c196 x1 hxc).1 (hT_c196 x1 hxc).2 rfl rfl (Nat.le_of_ble_eq_true rfl) rfl rfl (fun y_33 w_33 => ?_)
                have zy_33 : y_33.1 = h_196.1 := w_33.2.2
                have hT_33 := TPic.prd (v := false) hT_c196 w_33
                refine aw_aload_n (n := 228) dJ27_balanceInsertion_227 rfl 0 rfl rfl ?_
                refine aw_ifnull (n := 231) dJ27_balanceInsertion_228 rfl ?_
                refine aw_aload_n (n := 232) dJ27_balanceInsertion_231 rfl 0 rfl rfl ?_
                refine aw_iconst (n := 233) (v := 1) dJ27_balanceInsertion_232 (by decide) rfl ?_
                refine aw_putK (n := 236) (fs' := [.null, .null, .int (κ p29_4).1, .ref (κ p29_4).2.1, .ref (κ p29_4).2.2, va_rf (nx p29_4), va_rf (pa_32 p29_4), va_rf (lf_32 p29_4), va_rf (rt_32 p29_4), va_rf (pv p29_4), .int (bI true)]) (C0 := RJ27) (T := TJ27) (N := 11) (ci := 27) dJ27_balanceInsertion_233 rfl in_J27 tyJ27 tyJ27_ok nmJ27 q1601 10 (by decide) q1614 (Or.inl rfl) (Or.inl rfl) rfl (hT_33 p29_4 k_p29_4.1).1 (hT_33 p29_4 k_p29_4.1).2 rfl rfl (Nat.le_of_ble_eq_true rfl) rfl rfl (fun y_34 w_34 => ?_)
                have zy_34 : y_34.1 = y_33.1 := w_34.2.2
                have hT_34 := TPic.prd (v := true) hT_33 w_34
                refine aw_aload_n (n := 237) dJ27_balanceInsertion_236 rfl 2 rfl rfl ?_
                refine aw_aload_n (n := 238) dJ27_balanceInsertion_237 rfl 0 rfl rfl ?_
                have fx9 : lf_32 x1 ≠ some p6_2 := fun e9 => BT.lr h3 hBn_32 hxc e9 g3
                have hr_238 : rt_32 p29_4 = some x1 := g4
                refine aw_callS (n := 241) (As := [.ref root_32, .ref p29_4]) (rest := []) (K2 := kJ27_rotateLeft) dJ27_balanceInsertion_238 q1578 q1579 q145 q1580 hcJ27_rotateLeft (hm_rotL G y_34 N κ nx pa_32 lf_32 rt_32 pv (ub (ub rd_32 x1 false) p29_4 true) hT_34 lt root_32 lo_32 hi_32 ht_32 B_32 hBn_32 p29_4 x1 k_p29_4.1 hr_238) rfl (Nat.le_of_ble_eq_true rfl) ⟨Nat.le_of_ble_eq_true rfl, Nat.le_of_ble_eq_true rfl⟩ ⟨by first | omega | (dsimp only; omega) | decide, by first | omega | (dsimp only; omega) | decide⟩ (fun _ _ _ z => z.elim) rfl (fun r_238 h_238 q_238 => ?_)
                obtain ⟨rfl, hT_c238, hF_c238, hz_c238⟩ := q_238
                have hB_35 := BT.rot h3 hBn_32 k_p29_4.1 hr_238
                have ePa : ∀ q, rPa p29_4 x1 pa_32 lf_32 q = if q = p29_4 then some x1 else if q = x1 then pa_32 p29_4 else if lf_32 x1 = some q then some p29_4 else pa_32 q := fun _ => rfl
                have eLf : ∀ q, rLf p29_4 x1 pa_32 lf_32 q = if q = x1 then some p29_4 else if pa_32 p29_4 = some q ∧ lf_32 q = some p29_4 then some x1 else lf_32 q := fun _ => rfl
                have eRt : ∀ q, rRt p29_4 x1 pa_32 lf_32 rt_32 q = if q = p29_4 then lf_32 x1 else if pa_32 p29_4 = some q ∧ lf_32 q ≠ some p29_4 then some x1 else rt_32 q := fun _ => rfl
                generalize gPa : rPa p29_4 x1 pa_32 lf_32 = pa_35 at hT_c238 hB_35 ePa
                generalize gLf : rLf p29_4 x1 pa_32 lf_32 = lf_35 at hT_c238 hB_35 eLf
                generalize gRt : rRt p29_4 x1 pa_32 lf_32 rt_32 = rt_35 at hT_c238 hB_35 eRt
                have eRd : ∀ q, (fun q => if pa_32 p29_4 = none ∧ q = x1 then false else (ub (ub rd_32 x1 false) p29_4 true) q) q = if pa_32 p29_4 = none ∧ q = x1 then false else (ub (ub rd_32 x1 false) p29_4 true) q := fun _ => rfl
                generalize gRd : (fun q => if pa_32 p29_4 = none ∧ q = x1 then false else (ub (ub rd_32 x1 false) p29_4 true) q) = rd_35 at hT_c238 eRd
                generalize gRo : rRoot p29_4 x1 pa_32 root_32 = root_35 at hB_35 ⊢
                obtain ⟨lo_35, hi_35, ht_35, B_35, hBn_35⟩ : ∃ lo hi ht B, BT lt N pa_35 lf_35 rt_35 root_35 lo hi ht B := ⟨_, _, _, _, hB_35⟩
                have zc_238 : y_34.1 ≤ h_238.1 := hF_c238.1
                refine AW.sts (st' := [.ref root_35]) rfl ?_
                refine aw_astore_n (n := 242) (lv' := [(0, .ref root_35), (3, .ref p29_4), (2, .ref x1), (1, .ref p6_2), (4, .null)]) dJ27_balanceInsertion_241 rfl (by decide) rfl rfl ?_
                refine aw_goto (tgt := 5) dJ27_balanceInsertion_242 (by decide) ?_
                have d1 : pa_35 p6_2 = some x1 := by rw [ePa, if_neg k_p29_4.2.2.1, if_neg (Ne.symm k_p6_2.2.2.1), if_neg fx9]; exact g1
                have d2 : rd_35 x1 = false := by rw [eRd]; simp [ub, n13]
                exact AW.lvs (lv' := [(1, .ref p6_2), (0, .ref root_35)]) (AW.eq (lv2 := _) (rfl) rfl rfl rfl rfl (ih_5 h_238 pa_35 lf_35 rt_35 rd_35 root_35 lo_35 hi_35 ht_35 B_35 p6_2 1 hT_c238 hBn_35 k_p6_2.1 (Fr.c (Fr.w (Fr.w (Fr.c hFc hF_c196 (fun _ z => Or.inl z)) w_33 (Or.inl hxc)) w_34 (Or.inl k_p29_4.1)) hF_c238 (fun _ z => Or.inl z)) (by omega) (Or.inr ⟨Nat.zero_lt_one, fun y e => by rw [d1] at e; cases e; exact d2⟩) (by omega))) (by simp)
              · skip
                have nI9 : lf1 p6_2 ≠ some x1 := fun e => BT.lr h3 hBc k_p6_2.1 e kI
                rcases optc (lf1 p6_2) with hq_36 | ⟨l186_36, hq_36⟩
                · skip
                  refine aw_getf (n := 189) (v := .null) (C0 := RJ27) (T := TJ27) dJ27_balanceInsertion_186 rfl 7 q1610 (Or.inl rfl) (hTc p6_2 k_p6_2.1).1 (congrArg (fun z9 => some (va_rf z9)) (show lf1 p6_2 = none from by exact hq_36)) rfl ?_
                  refine aw_acmp_ne (n := 192) (x := (some x1)) (y := none) (tgt := 218) dJ27_balanceInsertion_189 (by decide) rfl (fun _ => ?_) (fun z9 => absurd z9 (by simp))
                  refine aw_aload_n (n := 219) dJ27_balanceInsertion_218 rfl 2 rfl rfl ?_
                  refine aw_ifnull (n := 222) dJ27_balanceInsertion_219 rfl ?_
                  refine aw_aload_n (n := 223) dJ27_balanceInsertion_222 rfl 2 rfl rfl ?_
                  refine aw_iconst (n := 224) (v := 0) dJ27_balanceInsertion_223 (by decide) rfl ?_
                  refine aw_putK (n := 227) (fs' := [.null, .null, .int (κ p6_2).1, .ref (κ p6_2).2.1, .ref (κ p6_2).2.2, va_rf (nx p6_2), va_rf (pa1 p6_2), va_rf (lf1 p6_2), va_rf (rt1 p6_2), va_rf (pv p6_2), .int (bI false)]) (C0 := RJ27) (T := TJ27) (N := 11) (ci := 27) dJ27_balanceInsertion_224 rfl in_J27 tyJ27 tyJ27_ok nmJ27 q1601 10 (by decide) q1614 (Or.inl rfl) (Or.inl rfl) rfl (hTc p6_2 k_p6_2.1).1 (hTc p6_2 k_p6_2.1).2 rfl rfl (Nat.le_of_ble_eq_true rfl) rfl rfl (fun y_37 w_37 => ?_)
                  have zy_37 : y_37.1 = hh.1 := w_37.2.2
                  have hT_37 := TPic.prd (v := false) hTc w_37
                  refine aw_aload_n (n := 228) dJ27_balanceInsertion_227 rfl 1 rfl rfl ?_
                  refine aw_ifnull (n := 231) dJ27_balanceInsertion_228 rfl ?_
                  refine aw_aload_n (n := 232) dJ27_balanceInsertion_231 rfl 1 rfl rfl ?_
                  refine aw_iconst (n := 233) (v := 1) dJ27_balanceInsertion_232 (by decide) rfl ?_
                  refine aw_putK (n := 236) (fs' := [.null, .null, .int (κ p29_4).1, .ref (κ p29_4).2.1, .ref (κ p29_4).2.2, va_rf (nx p29_4), va_rf (pa1 p29_4), va_rf (lf1 p29_4), va_rf (rt1 p29_4), va_rf (pv p29_4), .int (bI true)]) (C0 := RJ27) (T := TJ27) (N := 11) (ci := 27) dJ27_balanceInsertion_233 rfl in_J27 tyJ27 tyJ27_ok nmJ27 q1601 10 (by decide) q1614 (Or.inl rfl) (Or.inl rfl) rfl (hT_37 p29_4 k_p29_4.1).1 (hT_37 p29_4 k_p29_4.1).2 rfl rfl (Nat.le_of_ble_eq_true rfl) rfl rfl (fun y_38 w_38 => ?_)
                  have zy_38 : y_38.1 = y_37.1 := w_38.2.2
                  have hT_38 := TPic.prd (v := true) hT_37 w_38
                  refine aw_aload_n (n := 237) dJ27_balanceInsertion_236 rfl 4 rfl rfl ?_
                  refine aw_aload_n (n := 238) dJ27_balanceInsertion_237 rfl 1 rfl rfl ?_
                  have fx9 : lf1 p6_2 ≠ some x1 := fun e9 => BT.lr h3 hBc k_p6_2.1 e9 kI
                  have hr_238 : rt1 p29_4 = some p6_2 := kS
                  refine aw_callS (n := 241) (As := [.ref root1, .ref p29_4]) (rest := []) (K2 := kJ27_rotateLeft) dJ27_balanceInsertion_238 q1578 q1579 q145 q1580 hcJ27_rotateLeft (hm_rotL G y_38 N κ nx pa1 lf1 rt1 pv (ub (ub rd1 p6_2 false) p29_4 true) hT_38 lt root1 lo1 hi1 ht1 B1 hBc p29_4 p6_2 k_p29_4.1 hr_238) rfl (Nat.le_of_ble_eq_true rfl) ⟨Nat.le_of_ble_eq_true rfl, Nat.le_of_ble_eq_true rfl⟩ ⟨by first | omega | (dsimp only; omega) | decide, by first | omega | (dsimp only; omega) | decide⟩ (fun _ _ _ z => z.elim) rfl (fun r_238 h_238 q_238 => ?_)
                  obtain ⟨rfl, hT_c238, hF_c238, hz_c238⟩ := q_238
                  have hB_39 := BT.rot h3 hBc k_p29_4.1 hr_238
                  have ePa : ∀ q, rPa p29_4 p6_2 pa1 lf1 q = if q = p29_4 then some p6_2 else if q = p6_2 then pa1 p29_4 else if lf1 p6_2 = some q then some p29_4 else pa1 q := fun _ => rfl
                  have eLf : ∀ q, rLf p29_4 p6_2 pa1 lf1 q = if q = p6_2 then some p29_4 else if pa1 p29_4 = some q ∧ lf1 q = some p29_4 then some p6_2 else lf1 q := fun _ => rfl
                  have eRt : ∀ q, rRt p29_4 p6_2 pa1 lf1 rt1 q = if q = p29_4 then lf1 p6_2 else if pa1 p29_4 = some q ∧ lf1 q ≠ some p29_4 then some p6_2 else rt1 q := fun _ => rfl
                  generalize gPa : rPa p29_4 p6_2 pa1 lf1 = pa_39 at hT_c238 hB_39 ePa
                  generalize gLf : rLf p29_4 p6_2 pa1 lf1 = lf_39 at hT_c238 hB_39 eLf
                  generalize gRt : rRt p29_4 p6_2 pa1 lf1 rt1 = rt_39 at hT_c238 hB_39 eRt
                  have eRd : ∀ q, (fun q => if pa1 p29_4 = none ∧ q = p6_2 then false else (ub (ub rd1 p6_2 false) p29_4 true) q) q = if pa1 p29_4 = none ∧ q = p6_2 then false else (ub (ub rd1 p6_2 false) p29_4 true) q := fun _ => rfl
                  generalize gRd : (fun q => if pa1 p29_4 = none ∧ q = p6_2 then false else (ub (ub rd1 p6_2 false) p29_4 true) q) = rd_39 at hT_c238 eRd
                  generalize gRo : rRoot p29_4 p6_2 pa1 root1 = root_39 at hB_39 ⊢
                  obtain ⟨lo_39, hi_39, ht_39, B_39, hBn_39⟩ : ∃ lo hi ht B, BT lt N pa_39 lf_39 rt_39 root_39 lo hi ht B := ⟨_, _, _, _, hB_39⟩
                  have zc_238 : y_38.1 ≤ h_238.1 := hF_c238.1
                  refine AW.sts (st' := [.ref root_39]) rfl ?_
                  refine aw_astore_n (n := 242) (lv' := [(0, .ref root_39), (4, .null), (3, .ref p29_4), (2, .ref p6_2), (1, .ref x1)]) dJ27_balanceInsertion_241 rfl (by decide) rfl rfl ?_
                  refine aw_goto (tgt := 5) dJ27_balanceInsertion_242 (by decide) ?_
                  have d1 : pa_39 x1 = some p6_2 := by rw [ePa, if_neg n13, if_neg k_p6_2.2.2.1, if_neg fx9]; exact hq_2
                  have d2 : rd_39 p6_2 = false := by rw [eRd]; simp [ub, k_p29_4.2.2.1]
                  exact AW.lvs (lv' := [(1, .ref x1), (0, .ref root_39)]) (AW.eq (lv2 := _) (rfl) rfl rfl rfl rfl (ih_5 h_238 pa_39 lf_39 rt_39 rd_39 root_39 lo_39 hi_39 ht_39 B_39 x1 1 hT_c238 hBn_39 hxc (Fr.c (Fr.w (Fr.w hFc w_37 (Or.inl k_p6_2.1)) w_38 (Or.inl k_p29_4.1)) hF_c238 (fun _ z => Or.inl z)) (by omega) (Or.inr ⟨Nat.zero_lt_one, fun y e => by rw [d1] at e; cases e; exact d2⟩) (by omega))) (by simp)
                · skip
                  have k_l186_36 : N l186_36 := BT.ch hBc k_p6_2.1 (Or.inl hq_36)
                  refine aw_getf (n := 189) (v := .ref l186_36) (C0 := RJ27) (T := TJ27) dJ27_balanceInsertion_186 rfl 7 q1610 (Or.inl rfl) (hTc p6_2 k_p6_2.1).1 (congrArg (fun z9 => some (va_rf z9)) (show lf1 p6_2 = some l186_36 from by exact hq_36)) rfl ?_
                  refine aw_acmp_ne (n := 192) (x := (some x1)) (y := (some l186_36)) (tgt := 218) dJ27_balanceInsertion_189 (by decide) rfl (fun _ => ?_) (fun z9 => absurd z9 (fun e9 => nI9 (hq_36.trans e9.symm)))
                  refine aw_aload_n (n := 219) dJ27_balanceInsertion_218 rfl 2 rfl rfl ?_
                  refine aw_ifnull (n := 222) dJ27_balanceInsertion_219 rfl ?_
                  refine aw_aload_n (n := 223) dJ27_balanceInsertion_222 rfl 2 rfl rfl ?_
                  refine aw_iconst (n := 224) (v := 0) dJ27_balanceInsertion_223 (by decide) rfl ?_
                  refine aw_putK (n := 227) (fs' := [.null, .null, .int (κ p6_2).1, .ref (κ p6_2).2.1, .ref (κ p6_2).2.2, va_rf (nx p6_2), va_rf (pa1 p6_2), va_rf (lf1 p6_2), va_rf (rt1 p6_2), va_rf (pv p6_2), .int (bI false)]) (C0 := RJ27) (T := TJ27) (N := 11) (ci := 27) dJ27_balanceInsertion_224 rfl in_J27 tyJ27 tyJ27_ok nmJ27 q1601 10 (by decide) q1614 (Or.inl rfl) (Or.inl rfl) rfl (hTc p6_2 k_p6_2.1).1 (hTc p6_2 k_p6_2.1).2 rfl rfl (Nat.le_of_ble_eq_true rfl) rfl rfl (fun y_40 w_40 => ?_)
                  have zy_40 : y_40.1 = hh.1 := w_40.2.2
                  have hT_40 := TPic.prd (v := false) hTc w_40
                  refine aw_aload_n (n := 228) dJ27_balanceInsertion_227 rfl 1 rfl rfl ?_
                  refine aw_ifnull (n := 231) dJ27_balanceInsertion_228 rfl ?_
                  refine aw_aload_n (n := 232) dJ27_balanceInsertion_231 rfl 1 rfl rfl ?_
                  refine aw_iconst (n := 233) (v := 1) dJ27_balanceInsertion_232 (by decide) rfl ?_
                  refine aw_putK (n := 236) (fs' := [.null, .null, .int (κ p29_4).1, .ref (κ p29_4).2.1, .ref (κ p29_4).2.2, va_rf (nx p29_4), va_rf (pa1 p29_4), va_rf (lf1 p29_4), va_rf (rt1 p29_4), va_rf (pv p29_4), .int (bI true)]) (C0 := RJ27) (T := TJ27) (N := 11) (ci := 27) dJ27_balanceInsertion_233 rfl in_J27 tyJ27 tyJ27_ok nmJ27 q1601 10 (by decide) q1614 (Or.inl rfl) (Or.inl rfl) rfl (hT_40 p29_4 k_p29_4.1).1 (hT_40 p29_4 k_p29_4.1).2 rfl rfl (Nat.le_of_ble_eq_true rfl) rfl rfl (fun y_41 w_41 => ?_)
                  have zy_41 : y_41.1 = y_40.1 := w_41.2.2
                  have hT_41 := TPic.prd (v := true) hT_40 w_41
                  refine aw_aload_n (n := 237) dJ27_balanceInsertion_236 rfl 4 rfl rfl ?_
                  refine aw_aload_n (n := 238) dJ27_balanceInsertion_237 rfl 1 rfl rfl ?_
                  have fx9 : lf1 p6_2 ≠ some x1 := fun e9 => BT.lr h3 hBc k_p6_2.1 e9 kI
                  have hr_238 : rt1 p29_4 = some p6_2 := kS
                  refine aw_callS (n := 241) (As := [.ref root1, .ref p29_4]) (rest := []) (K2 := kJ27_rotateLeft) dJ27_balanceInsertion_238 q1578 q1579 q145 q1580 hcJ27_rotateLeft (hm_rotL G y_41 N κ nx pa1 lf1 rt1 pv (ub (ub rd1 p6_2 false) p29_4 true) hT_41 lt root1 lo1 hi1 ht1 B1 hBc p29_4 p6_2 k_p29_4.1 hr_238) rfl (Nat.le_of_ble_eq_true rfl) ⟨Nat.le_of_ble_eq_true rfl, Nat.le_of_ble_eq_true rfl⟩ ⟨by first | omega | (dsimp only; omega) | decide, by first | omega | (dsimp only; omega) | decide⟩ (fun _ _ _ z => z.elim) rfl (fun r_238 h_238 q_238 => ?_)
                  obtain ⟨rfl, hT_c238, hF_c238, hz_c238⟩ := q_238
                  have hB_42 := BT.rot h3 hBc k_p29_4.1 hr_238
                  have ePa : ∀ q, rPa p29_4 p6_2 pa1 lf1 q = if q = p29_4 then some p6_2 else if q = p6_2 then pa1 p29_4 else if lf1 p6_2 = some q then some p29_4 else pa1 q := fun _ => rfl
                  have eLf : ∀ q, rLf p29_4 p6_2 pa1 lf1 q = if q = p6_2 then some p29_4 else if pa1 p29_4 = some q ∧ lf1 q = some p29_4 then some p6_2 else lf1 q := fun _ => rfl
                  have eRt : ∀ q, rRt p29_4 p6_2 pa1 lf1 rt1 q = if q = p29_4 then lf1 p6_2 else if pa1 p29_4 = some q ∧ lf1 q ≠ some p29_4 then some p6_2 else rt1 q := fun _ => rfl
                  generalize gPa : rPa p29_4 p6_2 pa1 lf1 = pa_42 at hT_c238 hB_42 ePa
                  generalize gLf : rLf p29_4 p6_2 pa1 lf1 = lf_42 at hT_c238 hB_42 eLf
                  generalize gRt : rRt p29_4 p6_2 pa1 lf1 rt1 = rt_42 at hT_c238 hB_42 eRt
                  have eRd : ∀ q, (fun q => if pa1 p29_4 = none ∧ q = p6_2 then false else (ub (ub rd1 p6_2 false) p29_4 true) q) q = if pa1 p29_4 = none ∧ q = p6_2 then false else (ub (ub rd1 p6_2 false) p29_4 true) q := fun _ => rfl
                  generalize gRd : (fun q => if pa1 p29_4 = none ∧ q = p6_2 then false else (ub (ub rd1 p6_2 false) p29_4 true) q) = rd_42 at hT_c238 eRd
                  generalize gRo : rRoot p29_4 p6_2 pa1 root1 = root_42 at hB_42 ⊢
                  obtain ⟨lo_42, hi_42, ht_42, B_42, hBn_42⟩ : ∃ lo hi ht B, BT lt N pa_42 lf_42 rt_42 root_42 lo hi ht B := ⟨_, _, _, _, hB_42⟩
                  have zc_238 : y_41.1 ≤ h_238.1 := hF_c238.1
                  refine AW.sts (st' := [.ref root_42]) rfl ?_
                  refine aw_astore_n (n := 242) (lv' := [(0, .ref root_42), (4, .null), (3, .ref p29_4), (2, .ref p6_2), (1, .ref x1)]) dJ27_balanceInsertion_241 rfl (by decide) rfl rfl ?_
                  refine aw_goto (tgt := 5) dJ27_balanceInsertion_242 (by decide) ?_
                  have d1 : pa_42 x1 = some p6_2 := by rw [ePa, if_neg n13, if_neg k_p6_2.2.2.1, if_neg fx9]; exact hq_2
                  have d2 : rd_42 p6_2 = false := by rw [eRd]; simp [ub, k_p29_4.2.2.1]
                  exact AW.lvs (lv' := [(1, .ref x1), (0, .ref root_42)]) (AW.eq (lv2 := _) (rfl) rfl rfl rfl rfl (ih_5 h_238 pa_42 lf_42 rt_42 rd_42 root_42 lo_42 hi_42 ht_42 B_42 x1 1 hT_c238 hBn_42 hxc (Fr.c (Fr.w (Fr.w hFc w_40 (Or.inl k_p6_2.1)) w_41 (Or.inl k_p29_4.1)) hF_c238 (fun _ z => Or.inl z)) (by omega) (Or.inr ⟨Nat.zero_lt_one, fun y e => by rw [d1] at e; cases e; exact d2⟩) (by omega))) (by simp)
            · skip
              have k_l41_31 : N l41_31 := BT.ch hBc k_p29_4.1 (Or.inl hq_31)
              refine aw_getf (n := 44) (v := .ref l41_31) (C0 := RJ27) (T := TJ27) dJ27_balanceInsertion_41 rfl 7 q1610 (Or.inl rfl) (hTc p29_4 k_p29_4.1).1 (congrArg (fun z9 => some (va_rf z9)) (show lf1 p29_4 = some l41_31 from by exact hq_31)) rfl ?_
              refine aw_dup (n := 45) dJ27_balanceInsertion_44 rfl rfl ?_
              refine aw_astore (n := 47) (lv' := [(4, .ref l41_31), (3, .ref p29_4), (2, .ref p6_2), (1, .ref x1), (0, .ref root1)]) dJ27_balanceInsertion_45 (by decide) rfl rfl ?_
              refine aw_acmp_ne (n := 50) (x := (some p6_2)) (y := (some l41_31)) (tgt := 150) dJ27_balanceInsertion_47 (by decide) rfl (fun _ => ?_) (fun z9 => absurd z9 (fun e9 => nS (hq_31.trans e9.symm)))
              refine aw_aload (n := 152) dJ27_balanceInsertion_150 0 rfl rfl ?_
              refine aw_ifnull (n := 155) dJ27_balanceInsertion_152 rfl ?_
              refine aw_aload (n := 157) dJ27_balanceInsertion_155 0 rfl rfl ?_
              refine aw_getf (n := 160) (v := .int (bI (rd1 l41_31))) (C0 := RJ27) (T := TJ27) dJ27_balanceInsertion_157 rfl 10 q1614 (Or.inl rfl) (hTc l41_31 k_l41_31).1 rfl rfl ?_
              refine aw_if_eq (n := 163) (tgt := 184) dJ27_balanceInsertion_160 (by decide) rfl (fun c_160 => ?_) (fun c_160 => ?_)
              · skip
                have b_160 : (rd1 l41_31) = false := (bI_0 _).mp c_160
                refine aw_aload_n (n := 185) dJ27_balanceInsertion_184 rfl 3 rfl rfl ?_
                refine aw_aload_n (n := 186) dJ27_balanceInsertion_185 rfl 2 rfl rfl ?_
                rcases k_p6_2.2.2.2 with kI | kI
                · skip
                  have nI9 : rt1 p6_2 ≠ some x1 := BT.lr h3 hBc k_p6_2.1 kI
                  refine aw_getf (n := 189) (v := .ref x1) (C0 := RJ27) (T := TJ27) dJ27_balanceInsertion_186 rfl 7 q1610 (Or.inl rfl) (hTc p6_2 k_p6_2.1).1 (congrArg (fun z9 => some (va_rf z9)) (show lf1 p6_2 = some x1 from by exact kI)) rfl ?_
                  refine aw_acmp_ne (n := 192) (x := (some x1)) (y := (some x1)) (tgt := 218) dJ27_balanceInsertion_189 (by decide) rfl (fun z9 => absurd z9 (fun k9 => k9 rfl)) (fun _ => ?_)
                  refine aw_aload_n (n := 193) dJ27_balanceInsertion_192 rfl 4 rfl rfl ?_
                  refine aw_aload_n (n := 194) dJ27_balanceInsertion_193 rfl 2 rfl rfl ?_
                  refine aw_dup (n := 195) dJ27_balanceInsertion_194 rfl rfl ?_
                  refine aw_astore_n (n := 196) (lv' := [(1, .ref p6_2), (4, .ref l41_31), (3, .ref p29_4), (2, .ref p6_2), (0, .ref root1)]) dJ27_balanceInsertion_195 rfl (by decide) rfl rfl ?_
                  have hr_196 : lf1 p6_2 = some x1 := kI
                  refine aw_callS (n := 199) (As := [.ref root1, .ref p6_2]) (rest := []) (K2 := kJ27_rotateRight) dJ27_balanceInsertion_196 q1581 q1582 q145 q1583 hcJ27_rotateRight (hm_rotR G hh N κ nx pa1 lf1 rt1 pv rd1 hTc lt root1 lo1 hi1 ht1 B1 hBc p6_2 x1 k_p6_2.1 hr_196) rfl (Nat.le_of_ble_eq_true rfl) ⟨Nat.le_of_ble_eq_true rfl, Nat.le_of_ble_eq_true rfl⟩ ⟨by first | omega | (dsimp only; omega) | decide, by first | omega | (dsimp only; omega) | decide⟩ (fun _ _ _ z => z.elim) rfl (fun r_196 h_196 q_196 => ?_)
                  obtain ⟨rfl, hT_c196, hF_c196, hz_c196⟩ := q_196
                  have hB_43 := (BT.rot h3.flip (BT.flip hBc) k_p6_2.1 hr_196).flip
                  have ePa : ∀ q, rPa p6_2 x1 pa1 rt1 q = if q = p6_2 then some x1 else if q = x1 then pa1 p6_2 else if rt1 x1 = some q then some p6_2 else pa1 q := fun _ => rfl
                  have eLf : ∀ q, rLf p6_2 x1 pa1 rt1 q = if q = x1 then some p6_2 else if pa1 p6_2 = some q ∧ rt1 q = some p6_2 then some x1 else rt1 q := fun _ => rfl
                  have eRt : ∀ q, rRt p6_2 x1 pa1 rt1 lf1 q = if q = p6_2 then rt1 x1 else if pa1 p6_2 = some q ∧ rt1 q ≠ some p6_2 then some x1 else lf1 q := fun _ => rfl
                  generalize gPa : rPa p6_2 x1 pa1 rt1 = pa_43 at hT_c196 hB_43 ePa
                  generalize gLf : rLf p6_2 x1 pa1 rt1 = rt_43 at hT_c196 hB_43 eLf
                  generalize gRt : rRt p6_2 x1 pa1 rt1 lf1 = lf_43 at hT_c196 hB_43 eRt
                  have eRd : ∀ q, (fun q => if pa1 p6_2 = none ∧ q = x1 then false else rd1 q) q = if pa1 p6_2 = none ∧ q = x1 then false else rd1 q := fun _ => rfl
                  generalize gRd : (fun q => if pa1 p6_2 = none ∧ q = x1 then false else rd1 q) = rd_43 at hT_c196 eRd
                  generalize gRo : rRoot p6_2 x1 pa1 root1 = root_43 at hB_43 ⊢
                  obtain ⟨lo_43, hi_43, ht_43, B_43, hBn_43⟩ : ∃ lo hi ht B, BT lt N pa_43 lf_43 rt_43 root_43 lo hi ht B := ⟨_, _, _, _, hB_43⟩
                  have zc_196 : hh.1 ≤ h_196.1 := hF_c196.1
                  refine AW.sts (st' := [.ref root_43]) rfl ?_
                  have g1 : pa_43 p6_2 = some x1 := by rw [ePa, if_pos rfl]
                  have g2 : pa_43 x1 = some p29_4 := by rw [ePa, if_neg k_p6_2.2.2.1, if_pos rfl]; exact hq_4
                  have g3 : rt_43 x1 = some p6_2 := by rw [eLf, if_pos rfl]
                  have g4 : rt_43 p29_4 = some x1 := by rw [eLf, if_neg (Ne.symm n13), if_pos ⟨hq_4, kS⟩]
                  refine aw_astore_n (n := 200) (lv' := [(0, .ref root_43), (1, .ref p6_2), (4, .ref l41_31), (3, .ref p29_4), (2, .ref p6_2)]) dJ27_balanceInsertion_199 rfl (by decide) rfl rfl ?_
                  refine aw_aload_n (n := 201) dJ27_balanceInsertion_200 rfl 1 rfl rfl ?_
                  refine aw_getf (n := 204) (v := .ref x1) (C0 := RJ27) (T := TJ27) dJ27_balanceInsertion_201 rfl 6 q1609 (Or.inl rfl) (hT_c196 p6_2 k_p6_2.1).1 (congrArg (fun z9 => some (va_rf z9)) (show pa_43 p6_2 = some x1 from by exact g1)) rfl ?_
                  refine aw_dup (n := 205) dJ27_balanceInsertion_204 rfl rfl ?_
                  refine aw_astore_n (n := 206) (lv' := [(2, .ref x1), (0, .ref root_43), (1, .ref p6_2), (4, .ref l41_31), (3, .ref p29_4)]) dJ27_balanceInsertion_205 rfl (by decide) rfl rfl ?_
                  refine aw_ifnonnull (tgt := 213) dJ27_balanceInsertion_206 (by decide) ?_
                  refine aw_aload_n (n := 214) dJ27_balanceInsertion_213 rfl 0 rfl rfl ?_
                  refine aw_getf (n := 217) (v := .ref p29_4) (C0 := RJ27) (T := TJ27) dJ27_balanceInsertion_214 rfl 6 q1609 (Or.inl rfl) (hT_c196 x1 hxc).1 (congrArg (fun z9 => some (va_rf z9)) (show pa_43 x1 = some p29_4 from by exact g2)) rfl ?_
                  refine aw_astore_n (n := 218) (lv' := [(3, .ref p29_4), (2, .ref x1), (0, .ref root_43), (1, .ref p6_2), (4, .ref l41_31)]) dJ27_balanceInsertion_217 rfl (by decide) rfl rfl ?_
                  refine aw_aload_n (n := 219) dJ27_balanceInsertion_218 rfl 1 rfl rfl ?_
                  refine aw_ifnull (n := 222) dJ27_balanceInsertion_219 rfl ?_
                  refine aw_aload_n (n := 223) dJ27_balanceInsertion_222 rfl 1 rfl rfl ?_
                  refine aw_iconst (n := 224) (v := 0) dJ27_balanceInsertion_223 (by decide) rfl ?_
                  refine aw_putK (n := 227) (fs' := [.null, .null, .int (κ x1).1, .ref (κ x1).2.1, .ref (κ x1).2.2, va_rf (nx x1), va_rf (pa_43 x1), va_rf (lf_43 x1), va_rf (rt_43 x1), va_rf (pv x1), .int (bI false)]) (C0 := RJ27) (T := TJ27) (N := 11) (ci := 27) dJ27_balanceInsertion_224 rfl in_J27 tyJ27 tyJ27_ok nmJ27 q1601 10 (by decide) q1614 (Or.inl rfl) (Or.inl rfl) rfl (hT_c196 x1 hxc).1 (hT_c196 x1 hxc).2 rfl rfl (Nat.le_of_ble_eq_true rfl) rfl rfl (fun y_44 w_44 => ?_)
                  have zy_44 : y_44.1 = h_196.1 := w_44.2.2
                  have hT_44 := TPic.prd (v := false) hT_c196 w_44
                  refine aw_aload_n (n := 228) dJ27_balanceInsertion_227 rfl 0 rfl rfl ?_
                  refine aw_ifnull (n := 231) dJ27_balanceInsertion_228 rfl ?_
                  refine aw_aload_n (n := 232) dJ27_balanceInsertion_231 rfl 0 rfl rfl ?_
                  refine aw_iconst (n := 233) (v := 1) dJ27_balanceInsertion_232 (by decide) rfl ?_
                  refine aw_putK (n := 236) (fs' := [.null, .null, .int (κ p29_4).1, .ref (κ p29_4).2.1, .ref (κ p29_4).2.2, va_rf (nx p29_4), va_rf (pa_43 p29_4), va_rf (lf_43 p29_4), va_rf (rt_43 p29_4), va_rf (pv p29_4), .int (bI true)]) (C0 := RJ27) (T := TJ27) (N := 11) (ci := 27) dJ27_balanceInsertion_233 rfl in_J27 tyJ27 tyJ27_ok nmJ27 q1601 10 (by decide) q1614 (Or.inl rfl) (Or.inl rfl) rfl (hT_44 p29_4 k_p29_4.1).1 (hT_44 p29_4 k_p29_4.1).2 rfl rfl (Nat.le_of_ble_eq_true rfl) rfl rfl (fun y_45 w_45 => ?_)
                  have zy_45 : y_45.1 = y_44.1 := w_45.2.2
                  have hT_45 := TPic.prd (v := true) hT_44 w_45
                  refine aw_aload_n (n := 237) dJ27_balanceInsertion_236 rfl 2 rfl rfl ?_
                  refine aw_aload_n (n := 238) dJ27_balanceInsertion_237 rfl 0 rfl rfl ?_
                  have fx9 : lf_43 x1 ≠ some p6_2 := fun e9 => BT.lr h3 hBn_43 hxc e9 g3
                  have hr_238 : rt_43 p29_4 = some x1 := g4
                  refine aw_callS (n := 241) (As := [.ref root_43, .ref p29_4]) (rest := []) (K2 := kJ27_rotateLeft) dJ27_balanceInsertion_238 q1578 q1579 q145 q1580 hcJ27_rotateLeft (hm_rotL G y_45 N κ nx pa_43 lf_43 rt_43 pv (ub (ub rd_43 x1 false) p29_4 true) hT_45 lt root_43 lo_43 hi_43 ht_43 B_43 hBn_43 p29_4 x1 k_p29_4.1 hr_238) rfl (Nat.le_of_ble_eq_true rfl) ⟨Nat.le_of_ble_eq_true rfl, Nat.le_of_ble_eq_true rfl⟩ ⟨by first | omega | (dsimp only; omega) | decide, by first | omega | (dsimp only; omega) | decide⟩ (fun _ _ _ z => z.elim) rfl (fun r_238 h_238 q_238 => ?_)
                  obtain ⟨rfl, hT_c238, hF_c238, hz_c238⟩ := q_238
                  have hB_46 := BT.rot h3 hBn_43 k_p29_4.1 hr_238
                  have ePa : ∀ q, rPa p29_4 x1 pa_43 lf_43 q = if q = p29_4 then some x1 else if q = x1 then pa_43 p29_4 else if lf_43 x1 = some q then some p29_4 else pa_43 q := fun _ => rfl
                  have eLf : ∀ q, rLf p29_4 x1 pa_43 lf_43 q = if q = x1 then some p29_4 else if pa_43 p29_4 = some q ∧ lf_43 q = some p29_4 then some x1 else lf_43 q := fun _ => rfl
                  have eRt : ∀ q, rRt p29_4 x1 pa_43 lf_43 rt_43 q = if q = p29_4 then lf_43 x1 else if pa_43 p29_4 = some q ∧ lf_43 q ≠ some p29_4 then some x1 else rt_43 q := fun _ => rfl
                  generalize gPa : rPa p29_4 x1 pa_43 lf_43 = pa_46 at hT_c238 hB_46 ePa
                  generalize gLf : rLf p29_4 x1 pa_43 lf_43 = lf_46 at hT_c238 hB_46 eLf
                  generalize gRt : rRt p29_4 x1 pa_43 lf_43 rt_43 = rt_46 at hT_c238 hB_46 eRt
                  have eRd : ∀ q, (fun q => if pa_43 p29_4 = none ∧ q = x1 then false else (ub (ub rd_43 x1 false) p29_4 true) q) q = if pa_43 p29_4 = none ∧ q = x1 then false else (ub (ub rd_43 x1 false) p29_4 true) q := fun _ => rfl
                  generalize gRd : (fun q => if pa_43 p29_4 = none ∧ q = x1 then false else (ub (ub rd_43 x1 false) p29_4 true) q) = rd_46 at hT_c238 eRd
                  generalize gRo : rRoot p29_4 x1 pa_43 root_43 = root_46 at hB_46 ⊢
                  obtain ⟨lo_46, hi_46, ht_46, B_46, hBn_46⟩ : ∃ lo hi ht B, BT lt N pa_46 lf_46 rt_46 root_46 lo hi ht B := ⟨_, _, _, _, hB_46⟩
                  have zc_238 : y_45.1 ≤ h_238.1 := hF_c238.1
                  refine AW.sts (st' := [.ref root_46]) rfl ?_
                  refine aw_astore_n (n := 242) (lv' := [(0, .ref root_46), (3, .ref p29_4), (2, .ref x1), (1, .ref p6_2), (4, .ref l41_31)]) dJ27_balanceInsertion_241 rfl (by decide) rfl rfl ?_
                  refine aw_goto (tgt := 5) dJ27_balanceInsertion_242 (by decide) ?_
                  have d1 : pa_46 p6_2 = some x1 := by rw [ePa, if_neg k_p29_4.2.2.1, if_neg (Ne.symm k_p6_2.2.2.1), if_neg fx9]; exact g1
                  have d2 : rd_46 x1 = false := by rw [eRd]; simp [ub, n13]
                  exact AW.lvs (lv' := [(1, .ref p6_2), (0, .ref root_46)]) (AW.eq (lv2 := _) (rfl) rfl rfl rfl rfl (ih_5 h_238 pa_46 lf_46 rt_46 rd_46 root_46 lo_46 hi_46 ht_46 B_46 p6_2 1 hT_c238 hBn_46 k_p6_2.1 (Fr.c (Fr.w (Fr.w (Fr.c hFc hF_c196 (fun _ z => Or.inl z)) w_44 (Or.inl hxc)) w_45 (Or.inl k_p29_4.1)) hF_c238 (fun _ z => Or.inl z)) (by omega) (Or.inr ⟨Nat.zero_lt_one, fun y e => by rw [d1] at e; cases e; exact d2⟩) (by omega))) (by simp)
                · skip
                  have nI9 : lf1 p6_2 ≠ some x1 := fun e => BT.lr h3 hBc k_p6_2.1 e kI
                  rcases optc (lf1 p6_2) with hq_47 | ⟨l186_47, hq_47⟩
                  · skip
                    refine aw_getf (n := 189) (v := .null) (C0 := RJ27) (T := TJ27) dJ27_balanceInsertion_186 rfl 7 q1610 (Or.inl rfl) (hTc p6_2 k_p6_2.1).1 (congrArg (fun z9 => some (va_rf z9)) (show lf1 p6_2 = none from by exact hq_47)) rfl ?_
                    refine aw_acmp_ne (n := 192) (x := (some x1)) (y := none) (tgt := 218) dJ27_balanceInsertion_189 (by decide) rfl (fun _ => ?_) (fun z9 => absurd z9 (by simp))
                    refine aw_aload_n (n := 219) dJ27_balanceInsertion_218 rfl 2 rfl rfl ?_
                    refine aw_ifnull (n := 222) dJ27_balanceInsertion_219 rfl ?_
                    refine aw_aload_n (n := 223) dJ27_balanceInsertion_222 rfl 2 rfl rfl ?_
                    refine aw_iconst (n := 224) (v := 0) dJ27_balanceInsertion_223 (by decide) rfl ?_
                    refine aw_putK (n := 227) (fs' := [.null, .null, .int (κ p6_2).1, .ref (κ p6_2).2.1, .ref (κ p6_2).2.2, va_rf (nx p6_2), va_rf (pa1 p6_2), va_rf (lf1 p6_2), va_rf (rt1 p6_2), va_rf (pv p6_2), .int (bI false)]) (C0 := RJ27) (T := TJ27) (N := 11) (ci := 27) dJ27_balanceInsertion_224 rfl in_J27 tyJ27 tyJ27_ok nmJ27 q1601 10 (by decide) q1614 (Or.inl rfl) (Or.inl rfl) rfl (hTc p6_2 k_p6_2.1).1 (hTc p6_2 k_p6_2.1).2 rfl rfl (Nat.le_of_ble_eq_true rfl) rfl rfl (fun y_48 w_48 => ?_)
                    have zy_48 : y_48.1 = hh.1 := w_48.2.2
                    have hT_48 := TPic.prd (v := false) hTc w_48
                    refine aw_aload_n (n := 228) dJ27_balanceInsertion_227 rfl 1 rfl rfl ?_
                    refine aw_ifnull (n := 231) dJ27_balanceInsertion_228 rfl ?_
                    refine aw_aload_n (n := 232) dJ27_balanceInsertion_231 rfl 1 rfl rfl ?_
                    refine aw_iconst (n := 233) (v := 1) dJ27_balanceInsertion_232 (by decide) rfl ?_
                    refine aw_putK (n := 236) (fs' := [.null, .null, .int (κ p29_4).1, .ref (κ p29_4).2.1, .ref (κ p29_4).2.2, va_rf (nx p29_4), va_rf (pa1 p29_4), va_rf (lf1 p29_4), va_rf (rt1 p29_4), va_rf (pv p29_4), .int (bI true)]) (C0 := RJ27) (T := TJ27) (N := 11) (ci := 27) dJ27_balanceInsertion_233 rfl in_J27 tyJ27 tyJ27_ok nmJ27 q1601 10 (by decide) q1614 (Or.inl rfl) (Or.inl rfl) rfl (hT_48 p29_4 k_p29_4.1).1 (hT_48 p29_4 k_p29_4.1).2 rfl rfl (Nat.le_of_ble_eq_true rfl) rfl rfl (fun y_49 w_49 => ?_)
                    have zy_49 : y_49.1 = y_48.1 := w_49.2.2
                    have hT_49 := TPic.prd (v := true) hT_48 w_49
                    refine aw_aload_n (n := 237) dJ27_balanceInsertion_236 rfl 4 rfl rfl ?_
                    refine aw_aload_n (n := 238) dJ27_balanceInsertion_237 rfl 1 rfl rfl ?_
                    have fx9 : lf1 p6_2 ≠ some x1 := fun e9 => BT.lr h3 hBc k_p6_2.1 e9 kI
                    have hr_238 : rt1 p29_4 = some p6_2 := kS
                    refine aw_callS (n := 241) (As := [.ref root1, .ref p29_4]) (rest := []) (K2 := kJ27_rotateLeft) dJ27_balanceInsertion_238 q1578 q1579 q145 q1580 hcJ27_rotateLeft (hm_rotL G y_49 N κ nx pa1 lf1 rt1 pv (ub (ub rd1 p6_2 false) p29_4 true) hT_49 lt root1 lo1 hi1 ht1 B1 hBc p29_4 p6_2 k_p29_4.1 hr_238) rfl (Nat.le_of_ble_eq_true rfl) ⟨Nat.le_of_ble_eq_true rfl, Nat.le_of_ble_eq_true rfl⟩ ⟨by first | omega | (dsimp only; omega) | decide, by first | omega | (dsimp only; omega) | decide⟩ (fun _ _ _ z => z.elim) rfl (fun r_238 h_238 q_238 => ?_)
                    obtain ⟨rfl, hT_c238, hF_c238, hz_c238⟩ := q_238
                    have hB_50 := BT.rot h3 hBc k_p29_4.1 hr_238
                    have ePa : ∀ q, rPa p29_4 p6_2 pa1 lf1 q = if q = p29_4 then some p6_2 else if q = p6_2 then pa1 p29_4 else if lf1 p6_2 = some q then some p29_4 else pa1 q := fun _ => rfl
                    have eLf : ∀ q, rLf p29_4 p6_2 pa1 lf1 q = if q = p6_2 then some p29_4 else if pa1 p29_4 = some q ∧ lf1 q = some p29_4 then some p6_2 else lf1 q := fun _ => rfl
                    have eRt : ∀ q, rRt p29_4 p6_2 pa1 lf1 rt1 q = if q = p29_4 then lf1 p6_2 else if pa1 p29_4 = some q ∧ lf1 q ≠ some p29_4 then some p6_2 else rt1 q := fun _ => rfl
                    generalize gPa : rPa p29_4 p6_2 pa1 lf1 = pa_50 at hT_c238 hB_50 ePa
                    generalize gLf : rLf p29_4 p6_2 pa1 lf1 = lf_50 at hT_c238 hB_50 eLf
                    generalize gRt : rRt p29_4 p6_2 pa1 lf1 rt1 = rt_50 at hT_c238 hB_50 eRt
                    have eRd : ∀ q, (fun q => if pa1 p29_4 = none ∧ q = p6_2 then false else (ub (ub rd1 p6_2 false) p29_4 true) q) q = if pa1 p29_4 = none ∧ q = p6_2 then false else (ub (ub rd1 p6_2 false) p29_4 true) q := fun _ => rfl
                    generalize gRd : (fun q => if pa1 p29_4 = none ∧ q = p6_2 then false else (ub (ub rd1 p6_2 false) p29_4 true) q) = rd_50 at hT_c238 eRd
                    generalize gRo : rRoot p29_4 p6_2 pa1 root1 = root_50 at hB_50 ⊢
                    obtain ⟨lo_50, hi_50, ht_50, B_50, hBn_50⟩ : ∃ lo hi ht B, BT lt N pa_50 lf_50 rt_50 root_50 lo hi ht B := ⟨_, _, _, _, hB_50⟩
                    have zc_238 : y_49.1 ≤ h_238.1 := hF_c238.1
                    refine AW.sts (st' := [.ref root_50]) rfl ?_
                    refine aw_astore_n (n := 242) (lv' := [(0, .ref root_50), (4, .ref l41_31), (3, .ref p29_4), (2, .ref p6_2), (1, .ref x1)]) dJ27_balanceInsertion_241 rfl (by decide) rfl rfl ?_
                    refine aw_goto (tgt := 5) dJ27_balanceInsertion_242 (by decide) ?_
                    have d1 : pa_50 x1 = some p6_2 := by rw [ePa, if_neg n13, if_neg k_p6_2.2.2.1, if_neg fx9]; exact hq_2
                    have d2 : rd_50 p6_2 = false := by rw [eRd]; simp [ub, k_p29_4.2.2.1]
                    exact AW.lvs (lv' := [(1, .ref x1), (0, .ref root_50)]) (AW.eq (lv2 := _) (rfl) rfl rfl rfl rfl (ih_5 h_238 pa_50 lf_50 rt_50 rd_50 root_50 lo_50 hi_50 ht_50 B_50 x1 1 hT_c238 hBn_50 hxc (Fr.c (Fr.w (Fr.w hFc w_48 (Or.inl k_p6_2.1)) w_49 (Or.inl k_p29_4.1)) hF_c238 (fun _ z => Or.inl z)) (by omega) (Or.inr ⟨Nat.zero_lt_one, fun y e => by rw [d1] at e; cases e; exact d2⟩) (by omega))) (by simp)
                  · skip
                    have k_l186_47 : N l186_47 := BT.ch hBc k_p6_2.1 (Or.inl hq_47)
                    refine aw_getf (n := 189) (v := .ref l186_47) (C0 := RJ27) (T := TJ27) dJ27_balanceInsertion_186 rfl 7 q1610 (Or.inl rfl) (hTc p6_2 k_p6_2.1).1 (congrArg (fun z9 => some (va_rf z9)) (show lf1 p6_2 = some l186_47 from by exact hq_47)) rfl ?_
                    refine aw_acmp_ne (n := 192) (x := (some x1)) (y := (some l186_47)) (tgt := 218) dJ27_balanceInsertion_189 (by decide) rfl (fun _ => ?_) (fun z9 => absurd z9 (fun e9 => nI9 (hq_47.trans e9.symm)))
                    refine aw_aload_n (n := 219) dJ27_balanceInsertion_218 rfl 2 rfl rfl ?_
                    refine aw_ifnull (n := 222) dJ27_balanceInsertion_219 rfl ?_
                    refine aw_aload_n (n := 223) dJ27_balanceInsertion_222 rfl 2 rfl rfl ?_
                    refine aw_iconst (n := 224) (v := 0) dJ27_balanceInsertion_223 (by decide) rfl ?_
                    refine aw_putK (n := 227) (fs' := [.null, .null, .int (κ p6_2).1, .ref (κ p6_2).2.1, .ref (κ p6_2).2.2, va_rf (nx p6_2), va_rf (pa1 p6_2), va_rf (lf1 p6_2), va_rf (rt1 p6_2), va_rf (pv p6_2), .int (bI false)]) (C0 := RJ27) (T := TJ27) (N := 11) (ci := 27) dJ27_balanceInsertion_224 rfl in_J27 tyJ27 tyJ27_ok nmJ27 q1601 10 (by decide) q1614 (Or.inl rfl) (Or.inl rfl) rfl (hTc p6_2 k_p6_2.1).1 (hTc p6_2 k_p6_2.1).2 rfl rfl (Nat.le_of_ble_eq_true rfl) rfl rfl (fun y_51 w_51 => ?_)
                    have zy_51 : y_51.1 = hh.1 := w_51.2.2
                    have hT_51 := TPic.prd (v := false) hTc w_51
                    refine aw_aload_n (n := 228) dJ27_balanceInsertion_227 rfl 1 rfl rfl ?_
                    refine aw_ifnull (n := 231) dJ27_balanceInsertion_228 rfl ?_
                    refine aw_aload_n (n := 232) dJ27_balanceInsertion_231 rfl 1 rfl rfl ?_
                    refine aw_iconst (n := 233) (v := 1) dJ27_balanceInsertion_232 (by decide) rfl ?_
                    refine aw_putK (n := 236) (fs' := [.null, .null, .int (κ p29_4).1, .ref (κ p29_4).2.1, .ref (κ p29_4).2.2, va_rf (nx p29_4), va_rf (pa1 p29_4), va_rf (lf1 p29_4), va_rf (rt1 p29_4), va_rf (pv p29_4), .int (bI true)]) (C0 := RJ27) (T := TJ27) (N := 11) (ci := 27) dJ27_balanceInsertion_233 rfl in_J27 tyJ27 tyJ27_ok nmJ27 q1601 10 (by decide) q1614 (Or.inl rfl) (Or.inl rfl) rfl (hT_51 p29_4 k_p29_4.1).1 (hT_51 p29_4 k_p29_4.1).2 rfl rfl (Nat.le_of_ble_eq_true rfl) rfl rfl (fun y_52 w_52 => ?_)
                    have zy_52 : y_52.1 = y_51.1 := w_52.2.2
                    have hT_52 := TPic.prd (v := true) hT_51 w_52
                    refine aw_aload_n (n := 237) dJ27_balanceInsertion_236 rfl 4 rfl rfl ?_
                    refine aw_aload_n (n := 238) dJ27_balanceInsertion_237 rfl 1 rfl rfl ?_
                    have fx9 : lf1 p6_2 ≠ some x1 := fun e9 => BT.lr h3 hBc k_p6_2.1 e9 kI
                    have hr_238 : rt1 p29_4 = some p6_2 := kS
                    refine aw_callS (n := 241) (As := [.ref root1, .ref p29_4]) (rest := []) (K2 := kJ27_rotateLeft) dJ27_balanceInsertion_238 q1578 q1579 q145 q1580 hcJ27_rotateLeft (hm_rotL G y_52 N κ nx pa1 lf1 rt1 pv (ub (ub rd1 p6_2 false) p29_4 true) hT_52 lt root1 lo1 hi1 ht1 B1 hBc p29_4 p6_2 k_p29_4.1 hr_238) rfl (Nat.le_of_ble_eq_true rfl) ⟨Nat.le_of_ble_eq_true rfl, Nat.le_of_ble_eq_true rfl⟩ ⟨by first | omega | (dsimp only; omega) | decide, by first | omega | (dsimp only; omega) | decide⟩ (fun _ _ _ z => z.elim) rfl (fun r_238 h_238 q_238 => ?_)
                    obtain ⟨rfl, hT_c238, hF_c238, hz_c238⟩ := q_238
                    have hB_53 := BT.rot h3 hBc k_p29_4.1 hr_238
                    have ePa : ∀ q, rPa p29_4 p6_2 pa1 lf1 q = if q = p29_4 then some p6_2 else if q = p6_2 then pa1 p29_4 else if lf1 p6_2 = some q then some p29_4 else pa1 q := fun _ => rfl
                    have eLf : ∀ q, rLf p29_4 p6_2 pa1 lf1 q = if q = p6_2 then some p29_4 else if pa1 p29_4 = some q ∧ lf1 q = some p29_4 then some p6_2 else lf1 q := fun _ => rfl
                    have eRt : ∀ q, rRt p29_4 p6_2 pa1 lf1 rt1 q = if q = p29_4 then lf1 p6_2 else if pa1 p29_4 = some q ∧ lf1 q ≠ some p29_4 then some p6_2 else rt1 q := fun _ => rfl
                    generalize gPa : rPa p29_4 p6_2 pa1 lf1 = pa_53 at hT_c238 hB_53 ePa
                    generalize gLf : rLf p29_4 p6_2 pa1 lf1 = lf_53 at hT_c238 hB_53 eLf
                    generalize gRt : rRt p29_4 p6_2 pa1 lf1 rt1 = rt_53 at hT_c238 hB_53 eRt
                    have eRd : ∀ q, (fun q => if pa1 p29_4 = none ∧ q = p6_2 then false else (ub (ub rd1 p6_2 false) p29_4 true) q) q = if pa1 p29_4 = none ∧ q = p6_2 then false else (ub (ub rd1 p6_2 false) p29_4 true) q := fun _ => rfl
                    generalize gRd : (fun q => if pa1 p29_4 = none ∧ q = p6_2 then false else (ub (ub rd1 p6_2 false) p29_4 true) q) = rd_53 at hT_c238 eRd
                    generalize gRo : rRoot p29_4 p6_2 pa1 root1 = root_53 at hB_53 ⊢
                    obtain ⟨lo_53, hi_53, ht_53, B_53, hBn_53⟩ : ∃ lo hi ht B, BT lt N pa_53 lf_53 rt_53 root_53 lo hi ht B := ⟨_, _, _, _, hB_53⟩
                    have zc_238 : y_52.1 ≤ h_238.1 := hF_c238.1
                    refine AW.sts (st' := [.ref root_53]) rfl ?_
                    refine aw_astore_n (n := 242) (lv' := [(0, .ref root_53), (4, .ref l41_31), (3, .ref p29_4), (2, .ref p6_2), (1, .ref x1)]) dJ27_balanceInsertion_241 rfl (by decide) rfl rfl ?_
                    refine aw_goto (tgt := 5) dJ27_balanceInsertion_242 (by decide) ?_
                    have d1 : pa_53 x1 = some p6_2 := by rw [ePa, if_neg n13, if_neg k_p6_2.2.2.1, if_neg fx9]; exact hq_2
                    have d2 : rd_53 p6_2 = false := by rw [eRd]; simp [ub, k_p29_4.2.2.1]
                    exact AW.lvs (lv' := [(1, .ref x1), (0, .ref root_53)]) (AW.eq (lv2 := _) (rfl) rfl rfl rfl rfl (ih_5 h_238 pa_53 lf_53 rt_53 rd_53 root_53 lo_53 hi_53 ht_53 B_53 x1 1 hT_c238 hBn_53 hxc (Fr.c (Fr.w (Fr.w hFc w_51 (Or.inl k_p6_2.1)) w_52 (Or.inl k_p29_4.1)) hF_c238 (fun _ z => Or.inl z)) (by omega) (Or.inr ⟨Nat.zero_lt_one, fun y e => by rw [d1] at e; cases e; exact d2⟩) (by omega))) (by simp)
              · skip
                have b_160 : (rd1 l41_31) = true := Bool.of_not_eq_false (fun e => c_160 ((bI_0 _).mpr e))
                refine aw_aload (n := 165) dJ27_balanceInsertion_163 0 rfl rfl ?_
                refine aw_iconst (n := 166) (v := 0) dJ27_balanceInsertion_165 (by decide) rfl ?_
                refine aw_putK (n := 169) (fs' := [.null, .null, .int (κ l41_31).1, .ref (κ l41_31).2.1, .ref (κ l41_31).2.2, va_rf (nx l41_31), va_rf (pa1 l41_31), va_rf (lf1 l41_31), va_rf (rt1 l41_31), va_rf (pv l41_31), .int (bI false)]) (C0 := RJ27) (T := TJ27) (N := 11) (ci := 27) dJ27_balanceInsertion_166 rfl in_J27 tyJ27 tyJ27_ok nmJ27 q1601 10 (by decide) q1614 (Or.inl rfl) (Or.inl rfl) rfl (hTc l41_31 k_l41_31).1 (hTc l41_31 k_l41_31).2 rfl rfl (Nat.le_of_ble_eq_true rfl) rfl rfl (fun y_54 w_54 => ?_)
                have zy_54 : y_54.1 = hh.1 := w_54.2.2
                have hT_54 := TPic.prd (v := false) hTc w_54
                refine aw_aload_n (n := 170) dJ27_balanceInsertion_169 rfl 2 rfl rfl ?_
                refine aw_iconst (n := 171) (v := 0) dJ27_balanceInsertion_170 (by decide) rfl ?_
                refine aw_putK (n := 174) (fs' := [.null, .null, .int (κ p6_2).1, .ref (κ p6_2).2.1, .ref (κ p6_2).2.2, va_rf (nx p6_2), va_rf (pa1 p6_2), va_rf (lf1 p6_2), va_rf (rt1 p6_2), va_rf (pv p6_2), .int (bI false)]) (C0 := RJ27) (T := TJ27) (N := 11) (ci := 27) dJ27_balanceInsertion_171 rfl in_J27 tyJ27 tyJ27_ok nmJ27 q1601 10 (by decide) q1614 (Or.inl rfl) (Or.inl rfl) rfl (hT_54 p6_2 k_p6_2.1).1 (hT_54 p6_2 k_p6_2.1).2 rfl rfl (Nat.le_of_ble_eq_true rfl) rfl rfl (fun y_55 w_55 => ?_)
                have zy_55 : y_55.1 = y_54.1 := w_55.2.2
                have hT_55 := TPic.prd (v := false) hT_54 w_55
                refine aw_aload_n (n := 175) dJ27_balanceInsertion_174 rfl 1 rfl rfl ?_
                refine aw_iconst (n := 176) (v := 1) dJ27_balanceInsertion_175 (by decide) rfl ?_
                refine aw_putK (n := 179) (fs' := [.null, .null, .int (κ p29_4).1, .ref (κ p29_4).2.1, .ref (κ p29_4).2.2, va_rf (nx p29_4), va_rf (pa1 p29_4), va_rf (lf1 p29_4), va_rf (rt1 p29_4), va_rf (pv p29_4), .int (bI true)]) (C0 := RJ27) (T := TJ27) (N := 11) (ci := 27) dJ27_balanceInsertion_176 rfl in_J27 tyJ27 tyJ27_ok nmJ27 q1601 10 (by decide) q1614 (Or.inl rfl) (Or.inl rfl) rfl (hT_55 p29_4 k_p29_4.1).1 (hT_55 p29_4 k_p29_4.1).2 rfl rfl (Nat.le_of_ble_eq_true rfl) rfl rfl (fun y_56 w_56 => ?_)
                have zy_56 : y_56.1 = y_55.1 := w_56.2.2
                have hT_56 := TPic.prd (v := true) hT_55 w_56
                refine aw_aload_n (n := 180) dJ27_balanceInsertion_179 rfl 1 rfl rfl ?_
                refine aw_astore_n (n := 181) (lv' := [(1, .ref p29_4), (4, .ref l41_31), (3, .ref p29_4), (2, .ref p6_2), (0, .ref root1)]) dJ27_balanceInsertion_180 rfl (by decide) rfl rfl ?_
                refine aw_goto (tgt := 5) dJ27_balanceInsertion_181 (by decide) ?_
                exact AW.lvs (lv' := [(1, .ref p29_4), (0, .ref root1)]) (AW.eq (lv2 := _) (rfl) rfl rfl rfl rfl (ih_5 y_56 pa1 lf1 rt1 (ub (ub (ub rd1 l41_31 false) p6_2 false) p29_4 true) root1 lo1 hi1 ht1 B1 p29_4 (μ - 1) hT_56 hBc k_p29_4.1 (Fr.w (Fr.w (Fr.w hFc w_54 (Or.inl k_l41_31)) w_55 (Or.inl k_p6_2.1)) w_56 (Or.inl k_p29_4.1)) (by omega) (Or.inl (by have a1 := k_p6_2.2.1; have a2 := k_p29_4.2.1; have a3 := BT.ht hBc k_p29_4.1; omega)) (by omega))) (by simp)

end
