/-! treeify. -/
section
set_option maxRecDepth 100000
abbrev kJ27_treeify : aK := (yJ27_treeify, cJ27_treeify, 13, (Option.none : Option Jvm.ClassFile.FieldType), [])
theorem hcJ27_treeify : kJ27_treeify.1.cls ≠ "java/lang/invoke/MethodHandle" ∧ kJ27_treeify.1.cls ≠ "java/lang/invoke/VarHandle" ∧ (parseMethodDescriptor kJ27_treeify.1.desc).map (fun d => d.parameters.length) = some 1 := ⟨by decide, by decide, by decide +kernel⟩
theorem hm_tfy (G : aG) (h : hH) (L : List Nat) (hd : Nat) (N : Nat → Prop) (κ : Nat → Int32 × Nat × Nat) (nx pv : oF) (tx : Nat → List Nat) (hTP : TPic G h N κ nx nF nF nF pv fF) (hN : ∀ q, N q ↔ q = hd ∨ q ∈ L) (hch : chn nx (nx hd) L) (hnd : hd ∉ L ∧ L.Nodup) (hK : KP h N κ tx) (htr : ∀ y z, N y → N z → y ≠ z → tx y ≠ tx z) (t n i : Nat) (f : Nat → Value) (hA : h.2 t = some (har 5 n f)) (hbt : gB G ≤ t) (hn : nOK n) (hi0 : i < n) (hf : f i = .ref hd) (hW : LW N nx pv) (hn0 : nx hd ≠ none) (hIx : ∀ y, N y → (nI n - 1) &&& (κ y).1 = nI i) : Con G kJ27_treeify [.ref hd, .ref t] h ((13, 376, 0, 0), (fun z h1 => z = none ∧ ∃ (root1 : Nat) (nx1 pa1 lf1 rt1 pv1 : oF) (rd1 : Nat → Bool) (lo1 hi1 : oF) (ht1 : Nat → Nat) (B1 : Nat), TPic G h1 N κ nx1 pa1 lf1 rt1 pv1 rd1 ∧ BT (ltM tx) N pa1 lf1 rt1 root1 lo1 hi1 ht1 B1 ∧ LW N nx1 pv1 ∧ nx1 root1 ≠ none ∧ (∃ f1 : Nat → Value, h1.2 t = some (har 5 n f1) ∧ f1 i = .ref root1 ∧ ∀ j, j ≠ i → f1 j = f j) ∧ Fr (fun q => N q ∨ q = t) h h1 ∧ h1.1 = h.1), nX) := by
  refine Con.of (plainFor_of_name rfl) rfl (Nat.le_of_ble_eq_true rfl) ?_
  refine AW.eq (lv2 := [(0, .ref hd), (1, .ref t)]) (s2 := []) rfl rfl rfl rfl rfl ?_
  refine aw_know (fun gd hi => ?_)
  have lt_t : t < h.1 := hi.2.1 _ _ hA
  refine aw_null (n := 1) dJ27_treeify_0 rfl ?_
  refine aw_astore_nN (n := 2) (lv' := [(2, .null), (0, .ref hd), (1, .ref t)]) dJ27_treeify_1 rfl (by decide) rfl rfl ?_
  refine aw_aload_n (n := 3) dJ27_treeify_2 rfl 1 rfl rfl ?_
  refine aw_astore_n (n := 4) (lv' := [(3, .ref hd), (2, .null), (0, .ref hd), (1, .ref t)]) dJ27_treeify_3 rfl (by decide) rfl rfl ?_
  refine aw_aload_n (n := 5) dJ27_treeify_4 rfl 0 rfl rfl ?_
  refine aw_ifnull (n := 8) dJ27_treeify_5 rfl ?_
  refine aw_aload_n (n := 9) dJ27_treeify_8 rfl 0 rfl rfl ?_
  rcases optc (nx hd) with hq_1 | ⟨n9_1, hq_1⟩
  · skip
    refine aw_getf (n := 12) (v := .null) (C0 := RJ27) (T := TJ27) dJ27_treeify_9 rfl 5 q1557 (Or.inr q1558) (hTP hd ((hN hd).mpr (Or.inl rfl))).1 (congrArg (fun z9 => some (va_rf z9)) (show nx hd = none from by exact hq_1)) rfl ?_
    refine aw_castN (n := 15) dJ27_treeify_12 rfl ?_
    refine aw_astoreN (n := 17) (lv' := [(4, .null), (3, .ref hd), (2, .null), (0, .ref hd), (1, .ref t)]) dJ27_treeify_15 (by decide) rfl rfl ?_
    refine aw_aload_n (n := 18) dJ27_treeify_17 rfl 1 rfl rfl ?_
    refine aw_aload_n (n := 19) dJ27_treeify_18 rfl 1 rfl rfl ?_
    refine aw_null (n := 20) dJ27_treeify_19 rfl ?_
    refine aw_dup_x1 (n := 21) dJ27_treeify_20 rfl rfl rfl ?_
    refine aw_putK (n := 24) (fs' := [.null, .null, .int (κ hd).1, .ref (κ hd).2.1, .ref (κ hd).2.2, va_rf (nx hd), va_rf (nF hd), va_rf (nF hd), va_rf none, va_rf (pv hd), .int (bI (fF hd))]) (C0 := RJ27) (T := TJ27) (N := 11) (ci := 27) dJ27_treeify_21 rfl in_J27 tyJ27 tyJ27_ok nmJ27 q1601 8 (by decide) q1611 (Or.inl rfl) (Or.inl rfl) rfl (hTP hd ((hN hd).mpr (Or.inl rfl))).1 (hTP hd ((hN hd).mpr (Or.inl rfl))).2 rfl rfl (Nat.le_of_ble_eq_true rfl) rfl rfl (fun y_2 w_2 => ?_)
    have zy_2 : y_2.1 = h.1 := w_2.2.2
    have hT_2 := TPic.prt (v := none) hTP w_2
    refine aw_putK (n := 27) (fs' := [.null, .null, .int (κ hd).1, .ref (κ hd).2.1, .ref (κ hd).2.2, va_rf (nx hd), va_rf (nF hd), va_rf none, va_rf ((up nF hd none) hd), va_rf (pv hd), .int (bI (fF hd))]) (C0 := RJ27) (T := TJ27) (N := 11) (ci := 27) dJ27_treeify_24 rfl in_J27 tyJ27 tyJ27_ok nmJ27 q1601 7 (by decide) q1610 (Or.inl rfl) (Or.inl rfl) rfl (hT_2 hd ((hN hd).mpr (Or.inl rfl))).1 (hT_2 hd ((hN hd).mpr (Or.inl rfl))).2 rfl rfl (Nat.le_of_ble_eq_true rfl) rfl rfl (fun y_3 w_3 => ?_)
    have zy_3 : y_3.1 = y_2.1 := w_3.2.2
    have hT_3 := TPic.plf (v := none) hT_2 w_3
    refine aw_aload_nN (n := 28) dJ27_treeify_27 rfl 2 rfl rfl ?_
    refine aw_ifnonnullN (n := 31) dJ27_treeify_28 rfl ?_
    refine aw_aload_n (n := 32) dJ27_treeify_31 rfl 1 rfl rfl ?_
    refine aw_null (n := 33) dJ27_treeify_32 rfl ?_
    refine aw_putK (n := 36) (fs' := [.null, .null, .int (κ hd).1, .ref (κ hd).2.1, .ref (κ hd).2.2, va_rf (nx hd), va_rf none, va_rf ((up nF hd none) hd), va_rf ((up nF hd none) hd), va_rf (pv hd), .int (bI (fF hd))]) (C0 := RJ27) (T := TJ27) (N := 11) (ci := 27) dJ27_treeify_33 rfl in_J27 tyJ27 tyJ27_ok nmJ27 q1601 6 (by decide) q1609 (Or.inl rfl) (Or.inl rfl) rfl (hT_3 hd ((hN hd).mpr (Or.inl rfl))).1 (hT_3 hd ((hN hd).mpr (Or.inl rfl))).2 rfl rfl (Nat.le_of_ble_eq_true rfl) rfl rfl (fun y_4 w_4 => ?_)
    have zy_4 : y_4.1 = y_3.1 := w_4.2.2
    have hT_4 := TPic.ppa (v := none) hT_3 w_4
    refine aw_aload_n (n := 37) dJ27_treeify_36 rfl 1 rfl rfl ?_
    refine aw_iconst (n := 38) (v := 0) dJ27_treeify_37 (by decide) rfl ?_
    refine aw_putK (n := 41) (fs' := [.null, .null, .int (κ hd).1, .ref (κ hd).2.1, .ref (κ hd).2.2, va_rf (nx hd), va_rf ((up nF hd none) hd), va_rf ((up nF hd none) hd), va_rf ((up nF hd none) hd), va_rf (pv hd), .int (bI false)]) (C0 := RJ27) (T := TJ27) (N := 11) (ci := 27) dJ27_treeify_38 rfl in_J27 tyJ27 tyJ27_ok nmJ27 q1601 10 (by decide) q1614 (Or.inl rfl) (Or.inl rfl) rfl (hT_4 hd ((hN hd).mpr (Or.inl rfl))).1 (hT_4 hd ((hN hd).mpr (Or.inl rfl))).2 rfl rfl (Nat.le_of_ble_eq_true rfl) rfl rfl (fun y_5 w_5 => ?_)
    have zy_5 : y_5.1 = y_4.1 := w_5.2.2
    have hT_5 := TPic.prd (v := false) hT_4 w_5
    refine aw_aload_n (n := 42) dJ27_treeify_41 rfl 1 rfl rfl ?_
    refine aw_astore_n (n := 43) (lv' := [(2, .ref hd), (4, .null), (3, .ref hd), (0, .ref hd), (1, .ref t)]) dJ27_treeify_42 rfl (by decide) rfl rfl ?_
    refine aw_goto (tgt := 209) dJ27_treeify_43 (by decide) ?_
    refine aw_aloadN (n := 211) dJ27_treeify_209 1 rfl rfl ?_
    refine aw_astore_nN (n := 212) (lv' := [(3, .null), (2, .ref hd), (4, .null), (0, .ref hd), (1, .ref t)]) dJ27_treeify_211 rfl (by decide) rfl rfl ?_
    refine aw_goto (tgt := 4) dJ27_treeify_212 (by decide) ?_
    suffices L_4 : ∀ (m_ : Nat) (hh : hH) (D : Nat → Prop) (L1 : List Nat) (xo : Option Nat) (root1 : Nat) (pa1 lf1 rt1 : oF) (rd1 : Nat → Bool) (lo1 hi1 : oF) (ht1 : Nat → Nat) (B1 : Nat) (hTc : TPic G hh D κ nx pa1 lf1 rt1 pv rd1) (hBc : BT (ltM tx) D pa1 lf1 rt1 root1 lo1 hi1 ht1 B1) (hcc : chn nx xo L1) (hND : ∀ q, N q ↔ D q ∨ q ∈ L1) (hdj : ∀ q, q ∈ L1 → ¬ D q) (hnl : L1.Nodup) (hFc : Fr D h hh) (hzc : hh.1 = h.1), L1.length < m_ → AW G kJ27_treeify ((13, 376, 0, 0), (fun z h1 => z = none ∧ ∃ (root1 : Nat) (nx1 pa1 lf1 rt1 pv1 : oF) (rd1 : Nat → Bool) (lo1 hi1 : oF) (ht1 : Nat → Nat) (B1 : Nat), TPic G h1 N κ nx1 pa1 lf1 rt1 pv1 rd1 ∧ BT (ltM tx) N pa1 lf1 rt1 root1 lo1 hi1 ht1 B1 ∧ LW N nx1 pv1 ∧ nx1 root1 ≠ none ∧ (∃ f1 : Nat → Value, h1.2 t = some (har 5 n f1) ∧ f1 i = .ref root1 ∧ ∀ j, j ≠ i → f1 j = f j) ∧ Fr (fun q => N q ∨ q = t) h h1 ∧ h1.1 = h.1), nX) 4 [(3, va_rf xo), (2, .ref root1), (1, .ref t), (0, .ref hd)] [] hh 0 0 from
      AW.lvs (lv' := [(3, .null), (2, .ref hd), (1, .ref t), (0, .ref hd)]) (AW.eq (lv2 := _) (rfl) rfl rfl rfl rfl (L_4 _ y_5 (fun q => q = hd) L none hd (up nF hd none) (up nF hd none) (up nF hd none) (ub fF hd false) (fun _ => none) (fun _ => none) (fun _ => 0) 1 (TPic.cg hT_5 (fun q e => (hN q).mpr (Or.inl e)) (fun _ _ => rfl) (fun _ _ => rfl) (fun _ _ => rfl) (fun _ _ => rfl) (fun _ _ => rfl) (fun _ _ => rfl) (fun _ _ => rfl)) (BT.one (ltN3 _) (by simp [up]) (by simp [up]) (by simp [up])) (by rw [← hq_1]; exact hch) hN (fun q m9 e9 => hnd.1 (e9 ▸ m9)) hnd.2 (Fr.w (Fr.w (Fr.w (Fr.w Fr.rf w_2 (Or.inl rfl)) w_3 (Or.inl rfl)) w_4 (Or.inl rfl)) w_5 (Or.inl rfl)) (by omega) (Nat.lt_succ_self _))) (by simp)
    intro m_
    induction m_ with
    | zero => intro hh D L1 xo root1 pa1 lf1 rt1 rd1 lo1 hi1 ht1 B1 hTc hBc hcc hND hdj hnl hFc hzc h_m; exact absurd h_m (Nat.not_lt_zero _)
    | succ m_ ih_4 =>
      intro hh D L1 xo root1 pa1 lf1 rt1 rd1 lo1 hi1 ht1 B1 hTc hBc hcc hND hdj hnl hFc hzc h_m
      cases L1 with
      | nil =>
        have e9 : xo = none := hcc
        subst e9
        refine AW.eq (lv2 := [(3, .null), (2, .ref root1), (1, .ref t), (0, .ref hd)]) (s2 := []) rfl rfl rfl rfl rfl ?_
        have hDN : ∀ q, N q ↔ D q := fun q => (hND q).trans (by simp)
        have hTN := TPic.cg hTc (N' := N) (fun q e => (hDN q).mp e) (fun _ _ => rfl) (fun _ _ => rfl) (fun _ _ => rfl) (fun _ _ => rfl) (fun _ _ => rfl) (fun _ _ => rfl) (fun _ _ => rfl)
        have hA1 := hFc.k (hi.2.1 _ _ hA) (fun z9 => ne_kind hA (hTP t ((hDN t).mpr z9)).1 ar_ob rfl) hA
        refine aw_aload_nN (n := 5) dJ27_treeify_4 rfl 0 rfl rfl ?_
        refine aw_ifnullN (tgt := 215) dJ27_treeify_5 (by decide) ?_
        refine aw_aload_n (n := 216) dJ27_treeify_215 rfl 2 rfl rfl ?_
        refine aw_aload_n (n := 217) dJ27_treeify_216 rfl 1 rfl rfl ?_
        refine aw_callS (n := 220) (As := [.ref t, .ref root1]) (rest := []) (K2 := kJ27_moveRootToFront) dJ27_treeify_217 q1584 q1585 q145 q1586 hcJ27_moveRootToFront (hm_mrf G hh N κ nx pa1 lf1 rt1 pv rd1 hTN t n i hd root1 f hA1 hbt hn hi0 (hIx root1 ((hDN root1).mpr hBc.1)) hf ((hN hd).mpr (Or.inl rfl)) ((hDN root1).mpr hBc.1) hW hn0) rfl (Nat.le_of_ble_eq_true rfl) ⟨Nat.le_of_ble_eq_true rfl, Nat.le_of_ble_eq_true rfl⟩ ⟨by first | omega | (dsimp only; omega) | decide, by first | omega | (dsimp only; omega) | decide⟩ (fun _ _ _ z => z.elim) rfl (fun r_217 h_217 q_217 => ?_)
        obtain ⟨rfl, nx2, pv2, hT2, hW2, hn2, ⟨f2, hA2, hf2, hfj2⟩, hFm, hzm⟩ := q_217
        have zc_217 : hh.1 ≤ h_217.1 := hFm.1
        refine AW.sts (st' := []) rfl ?_
        exact aw_vret dJ27_treeify_220 rfl ⟨rfl, root1, nx2, pa1, lf1, rt1, pv2, rd1, lo1, hi1, ht1, B1, hT2, BT.cg hBc hDN (fun _ _ => rfl) (fun _ _ => rfl) (fun _ _ => rfl), hW2, hn2, ⟨f2, hA2, hf2, hfj2⟩, (Fr.c (Fr.c Fr.rf hFc (fun a9 z9 => Or.inl (Or.inl ((hDN a9).mpr z9)))) hFm (fun a9 z9 => Or.inl z9)), by omega⟩ ⟨Nat.zero_le _, Nat.zero_le _⟩
      | cons y L2 =>
        obtain ⟨e9, hc2⟩ := hcc
        subst e9
        refine AW.eq (lv2 := [(3, .ref y), (2, .ref root1), (1, .ref t), (0, .ref hd)]) (s2 := []) rfl rfl rfl rfl rfl ?_
        have nDy : ¬ D y := hdj y List.mem_cons_self
        have hNy : N y := (hND y).mpr (Or.inr List.mem_cons_self)
        have hTm := TPic.more hTc nDy (hFc.k (hi.2.1 _ _ (hTP y hNy).1) nDy (hTP y hNy).1) (hTP y hNy).2
        have hSD : ∀ a, D a → (∃ fs, h.2 a = some (hob 27 fs)) ∨ ∃ n f, h.2 a = some (har 5 n f) := fun a z9 => Or.inl ⟨_, (hTP a ((hND a).mpr (Or.inl z9))).1⟩
        have hKc := KP.fr hi hK hFc hSD
        obtain ⟨⟨uy9, hKy⟩, hKhy, hKy8⟩ := hKc y hNy
        refine aw_aload_n (n := 5) dJ27_treeify_4 rfl 0 rfl rfl ?_
        refine aw_ifnull (n := 8) dJ27_treeify_5 rfl ?_
        refine aw_aload_n (n := 9) dJ27_treeify_8 rfl 0 rfl rfl ?_
        rcases optc (nx y) with hq_6 | ⟨n9_6, hq_6⟩
        · skip
          refine aw_getf (n := 12) (v := .null) (C0 := RJ27) (T := TJ27) dJ27_treeify_9 rfl 5 q1557 (Or.inr q1558) (hTm y (Or.inr rfl)).1 (congrArg (fun z9 => some (va_rf z9)) (show nx y = none from by exact hq_6)) rfl ?_
          refine aw_castN (n := 15) dJ27_treeify_12 rfl ?_
          refine aw_astoreN (n := 17) (lv' := [(4, .null), (3, .ref y), (2, .ref root1), (1, .ref t), (0, .ref hd)]) dJ27_treeify_15 (by decide) rfl rfl ?_
          refine aw_aload_n (n := 18) dJ27_treeify_17 rfl 1 rfl rfl ?_
          refine aw_aload_n (n := 19) dJ27_treeify_18 rfl 1 rfl rfl ?_
          refine aw_null (n := 20) dJ27_treeify_19 rfl ?_
          refine aw_dup_x1 (n := 21) dJ27_treeify_20 rfl rfl rfl ?_
          refine aw_putK (n := 24) (fs' := [.null, .null, .int (κ y).1, .ref (κ y).2.1, .ref (κ y).2.2, va_rf (nx y), va_rf ((up pa1 y none) y), va_rf ((up lf1 y none) y), va_rf none, va_rf (pv y), .int (bI ((ub rd1 y false) y))]) (C0 := RJ27) (T := TJ27) (N := 11) (ci := 27) dJ27_treeify_21 rfl in_J27 tyJ27 tyJ27_ok nmJ27 q1601 8 (by decide) q1611 (Or.inl rfl) (Or.inl rfl) rfl (hTm y (Or.inr rfl)).1 (hTm y (Or.inr rfl)).2 rfl rfl (Nat.le_of_ble_eq_true rfl) rfl rfl (fun y_7 w_7 => ?_)
          have zy_7 : y_7.1 = hh.1 := w_7.2.2
          have hT_7 := TPic.prt (v := none) hTm w_7
          refine aw_putK (n := 27) (fs' := [.null, .null, .int (κ y).1, .ref (κ y).2.1, .ref (κ y).2.2, va_rf (nx y), va_rf ((up pa1 y none) y), va_rf none, va_rf ((up (up rt1 y none) y none) y), va_rf (pv y), .int (bI ((ub rd1 y false) y))]) (C0 := RJ27) (T := TJ27) (N := 11) (ci := 27) dJ27_treeify_24 rfl in_J27 tyJ27 tyJ27_ok nmJ27 q1601 7 (by decide) q1610 (Or.inl rfl) (Or.inl rfl) rfl (hT_7 y (Or.inr rfl)).1 (hT_7 y (Or.inr rfl)).2 rfl rfl (Nat.le_of_ble_eq_true rfl) rfl rfl (fun y_8 w_8 => ?_)
          have zy_8 : y_8.1 = y_7.1 := w_8.2.2
          have hT_8 := TPic.plf (v := none) hT_7 w_8
          refine aw_aload_n (n := 28) dJ27_treeify_27 rfl 2 rfl rfl ?_
          refine aw_ifnonnull (tgt := 46) dJ27_treeify_28 (by decide) ?_
          refine aw_aload_n (n := 47) dJ27_treeify_46 rfl 1 rfl rfl ?_
          refine aw_getf (n := 50) (v := .ref ((κ y).2.1)) (C0 := RJ27) (T := TJ27) dJ27_treeify_47 rfl 3 q1551 (Or.inr q1552) (hT_8 y (Or.inr rfl)).1 rfl rfl ?_
          refine aw_astore (n := 52) (lv' := [(5, .ref ((κ y).2.1)), (4, .null), (3, .ref y), (2, .ref root1), (1, .ref t), (0, .ref hd)]) dJ27_treeify_50 (by decide) rfl rfl ?_
          refine aw_aload_n (n := 53) dJ27_treeify_52 rfl 2 rfl rfl ?_
          refine aw_getf (n := 56) (v := .int ((κ y).1)) (C0 := RJ27) (T := TJ27) dJ27_treeify_53 rfl 2 q1547 (Or.inr q1548) (hT_8 y (Or.inr rfl)).1 rfl rfl ?_
          refine aw_istore (n := 58) (lv' := [(6, .int ((κ y).1)), (5, .ref ((κ y).2.1)), (4, .null), (3, .ref y), (2, .ref root1), (1, .ref t), (0, .ref hd)]) dJ27_treeify_56 (by decide) rfl rfl ?_
          refine aw_null (n := 59) dJ27_treeify_58 rfl ?_
          refine aw_astoreN (n := 61) (lv' := [(7, .null), (6, .int ((κ y).1)), (5, .ref ((κ y).2.1)), (4, .null), (3, .ref y), (2, .ref root1), (1, .ref t), (0, .ref hd)]) dJ27_treeify_59 (by decide) rfl rfl ?_
          refine aw_aload_n (n := 62) dJ27_treeify_61 rfl 5 rfl rfl ?_
          refine aw_astore (n := 64) (lv' := [(8, .ref root1), (7, .null), (6, .int ((κ y).1)), (5, .ref ((κ y).2.1)), (4, .null), (3, .ref y), (2, .ref root1), (1, .ref t), (0, .ref hd)]) dJ27_treeify_62 (by decide) rfl rfl ?_
          have hFd : Fr (fun q => D q ∨ q = y) h y_8 := (Fr.w (Fr.w (Fr.c Fr.rf hFc (fun _ z9 => Or.inl (Or.inl z9))) w_7 (Or.inl (Or.inr rfl))) w_8 (Or.inl (Or.inr rfl)))
          have hKd := KP.fr hi hK hFd (fun a z9 => Or.inl ⟨_, (hTP a ((hND a).mpr (z9.elim Or.inl (fun e9 => Or.inr (by rw [e9]; exact List.mem_cons_self))))).1⟩)
          obtain ⟨⟨uy8, hKy⟩, hKhy, hKy8⟩ := hKd y hNy
          suffices L_64 : ∀ (m_ : Nat) (p : Nat)  (hp : D p) (g1 : kL tx (tx y) lo1 p) (g2 : kH tx (tx y) hi1 p) (kc : Option Nat) (hkc : kc = none ∨ kc = some (gM G 0)), ht1 p < m_ → AW G kJ27_treeify ((13, 376, 0, 0), (fun z h1 => z = none ∧ ∃ (root1 : Nat) (nx1 pa1 lf1 rt1 pv1 : oF) (rd1 : Nat → Bool) (lo1 hi1 : oF) (ht1 : Nat → Nat) (B1 : Nat), TPic G h1 N κ nx1 pa1 lf1 rt1 pv1 rd1 ∧ BT (ltM tx) N pa1 lf1 rt1 root1 lo1 hi1 ht1 B1 ∧ LW N nx1 pv1 ∧ nx1 root1 ≠ none ∧ (∃ f1 : Nat → Value, h1.2 t = some (har 5 n f1) ∧ f1 i = .ref root1 ∧ ∀ j, j ≠ i → f1 j = f j) ∧ Fr (fun q => N q ∨ q = t) h h1 ∧ h1.1 = h.1), nX) 64 [(8, .ref p), (7, va_rf kc), (4, .null), (6, .int ((κ y).1)), (5, .ref ((κ y).2.1)), (3, .ref y), (2, .ref root1), (1, .ref t), (0, .ref hd)] [] y_8 0 0 from
            AW.lvs (lv' := [(8, .ref root1), (7, .null), (4, .null), (6, .int ((κ y).1)), (5, .ref ((κ y).2.1)), (3, .ref y), (2, .ref root1), (1, .ref t), (0, .ref hd)]) (AW.eq (lv2 := _) (rfl) rfl rfl rfl rfl (L_64 _ root1 hBc.1 (fun y e => by rw [hBc.2.2.1] at e; cases e) (fun y e => by rw [hBc.2.2.2.1] at e; cases e) none (Or.inl rfl) (Nat.lt_succ_self _))) (by simp)
          intro m_
          induction m_ with
          | zero => intro p hp g1 g2 kc hkc h_m; exact absurd h_m (Nat.not_lt_zero _)
          | succ m_ ih_64 =>
            intro p hp g1 g2 kc hkc h_m
            have npy : p ≠ y := fun e9 => nDy (e9 ▸ hp)
            obtain ⟨⟨up9, hKp⟩, hKh, hK8⟩ := hKd p ((hND p).mpr (Or.inl hp))
            have okb := hKy.ok; have okp := hKp.ok
            have T9 : ∀ (d9 : Int32), ((d9 ≤ 0 ∧ ltK (spT (tx y), tx y) (spT (tx p), tx p) ∧ lf1 p = none) ∨ (0 < d9 ∧ ltK (spT (tx p), tx p) (spT (tx y), tx y) ∧ rt1 p = none)) → AW G kJ27_treeify ((13, 376, 0, 0), (fun z h1 => z = none ∧ ∃ (root1 : Nat) (nx1 pa1 lf1 rt1 pv1 : oF) (rd1 : Nat → Bool) (lo1 hi1 : oF) (ht1 : Nat → Nat) (B1 : Nat), TPic G h1 N κ nx1 pa1 lf1 rt1 pv1 rd1 ∧ BT (ltM tx) N pa1 lf1 rt1 root1 lo1 hi1 ht1 B1 ∧ LW N nx1 pv1 ∧ nx1 root1 ≠ none ∧ (∃ f1 : Nat → Value, h1.2 t = some (har 5 n f1) ∧ f1 i = .ref root1 ∧ ∀ j, j ≠ i → f1 j = f j) ∧ Fr (fun q => N q ∨ q = t) h h1 ∧ h1.1 = h.1), nX) 171 [(12, .ref p), (9, .int d9), (4, .null), (3, .ref y), (2, .ref root1), (1, .ref t), (0, .ref hd)] [] y_8 0 0 := by
              intro d9 hd9
              rcases hd9 with ⟨hd1, hd2, hd3⟩ | ⟨hd1, hd2, hd3⟩
              · skip
                refine aw_aload_n (n := 172) dJ27_treeify_171 rfl 3 rfl rfl ?_
                refine aw_aload (n := 174) dJ27_treeify_172 0 rfl rfl ?_
                refine aw_putK (n := 177) (fs' := [.null, .null, .int (κ y).1, .ref (κ y).2.1, .ref (κ y).2.2, va_rf (nx y), va_rf (some p), va_rf ((up (up lf1 y none) y none) y), va_rf ((up (up rt1 y none) y none) y), va_rf (pv y), .int (bI ((ub rd1 y false) y))]) (C0 := RJ27) (T := TJ27) (N := 11) (ci := 27) dJ27_treeify_174 rfl in_J27 tyJ27 tyJ27_ok nmJ27 q1601 6 (by decide) q1609 (Or.inl rfl) (Or.inl rfl) rfl (hT_8 y (Or.inr rfl)).1 (hT_8 y (Or.inr rfl)).2 rfl rfl (Nat.le_of_ble_eq_true rfl) rfl rfl (fun y_9 w_9 => ?_)
                have zy_9 : y_9.1 = y_8.1 := w_9.2.2
                have hT_9 := TPic.ppa (v := some p) hT_8 w_9
                refine aw_iload (n := 179) dJ27_treeify_177 1 rfl rfl ?_
                refine aw_if_gt (n := 182) (tgt := 191) dJ27_treeify_179 (by decide) rfl (fun c_179 => ?_) (fun c_179 => ?_)
                · skip
                  exact absurd c_179 (Int32.not_lt.mpr hd1)
                · skip
                  refine aw_aload (n := 184) dJ27_treeify_182 0 rfl rfl ?_
                  refine aw_aload_n (n := 185) dJ27_treeify_184 rfl 3 rfl rfl ?_
                  refine aw_putK (n := 188) (fs' := [.null, .null, .int (κ p).1, .ref (κ p).2.1, .ref (κ p).2.2, va_rf (nx p), va_rf ((up (up pa1 y none) y (some p)) p), va_rf (some y), va_rf ((up (up rt1 y none) y none) p), va_rf (pv p), .int (bI ((ub rd1 y false) p))]) (C0 := RJ27) (T := TJ27) (N := 11) (ci := 27) dJ27_treeify_185 rfl in_J27 tyJ27 tyJ27_ok nmJ27 q1601 7 (by decide) q1610 (Or.inl rfl) (Or.inl rfl) rfl (hT_9 p (Or.inl hp)).1 (hT_9 p (Or.inl hp)).2 rfl rfl (Nat.le_of_ble_eq_true rfl) rfl rfl (fun y_10 w_10 => ?_)
                  have zy_10 : y_10.1 = y_9.1 := w_10.2.2
                  have hT_10 := TPic.plf (v := some y) hT_9 w_10
                  refine aw_goto (tgt := 197) dJ27_treeify_188 (by decide) ?_
                  refine aw_aload_n (n := 198) dJ27_treeify_197 rfl 4 rfl rfl ?_
                  refine aw_aload_n (n := 199) dJ27_treeify_198 rfl 3 rfl rfl ?_
                  obtain ⟨lo0, hi0_, ht0, hB0⟩ := leafL2 hBc (fun a b ha hb => htr a b ((hND a).mpr (Or.inl ha)) ((hND b).mpr (Or.inl hb))) (fun a ha => (hKc a ((hND a).mpr (Or.inl ha))).1.choose_spec.ok) nDy hp g1 hd2 hd3
                  refine aw_callS (n := 202) (As := [.ref root1, .ref y]) (rest := []) (K2 := kJ27_balanceInsertion) dJ27_treeify_199 q1575 q1576 q145 q1577 hcJ27_balanceInsertion (hm_bal G y_10 (fun q => D q ∨ q = y) κ nx (up (up pa1 y none) y (some p)) (up (up (up lf1 y none) y none) p (some y)) (up (up rt1 y none) y none) pv (ub rd1 y false) hT_10 (ltM tx) root1 lo0 hi0_ ht0 (B1 + 1) hB0 (ltN3 _) y (Or.inr rfl)) rfl (Nat.le_of_ble_eq_true rfl) ⟨Nat.le_of_ble_eq_true rfl, Nat.le_of_ble_eq_true rfl⟩ ⟨by first | omega | (dsimp only; omega) | decide, by first | omega | (dsimp only; omega) | decide⟩ (fun _ _ _ z => z.elim) rfl (fun r_199 h_199 q_199 => ?_)
                  obtain ⟨root2, pa2, lf2, rt2, rd2, lo2, hi2, ht2, B2, rfl, hT2, hB2, hFb, hzb⟩ := q_199
                  have zc_199 : y_10.1 ≤ h_199.1 := hFb.1
                  refine AW.sts (st' := [.ref root2]) rfl ?_
                  refine aw_astore_n (n := 203) (lv' := [(2, .ref root2), (12, .ref p), (9, .int d9), (4, .null), (3, .ref y), (1, .ref t), (0, .ref hd)]) dJ27_treeify_202 rfl (by decide) rfl rfl ?_
                  refine aw_goto (tgt := 209) dJ27_treeify_203 (by decide) ?_
                  refine aw_aloadN (n := 211) dJ27_treeify_209 3 rfl rfl ?_
                  refine aw_astore_nN (n := 212) (lv' := [(3, .null), (2, .ref root2), (12, .ref p), (9, .int d9), (4, .null), (1, .ref t), (0, .ref hd)]) dJ27_treeify_211 rfl (by decide) rfl rfl ?_
                  refine aw_goto (tgt := 4) dJ27_treeify_212 (by decide) ?_
                  have g9 : (y :: L2).length = L2.length + 1 := rfl
                  exact AW.lvs (lv' := [(3, .null), (2, .ref root2), (1, .ref t), (0, .ref hd)]) (AW.eq (lv2 := _) (rfl) rfl rfl rfl rfl (ih_4 h_199 (fun q => D q ∨ q = y) L2 none root2 pa2 lf2 rt2 rd2 lo2 hi2 ht2 B2 hT2 hB2 (by rw [← hq_6]; exact hc2) (fun q => (hND q).trans (by rw [List.mem_cons, or_assoc])) (fun q m9 e9 => e9.elim (hdj q (List.mem_cons_of_mem _ m9)) (fun e8 => (List.nodup_cons.mp hnl).1 (e8 ▸ m9))) (List.nodup_cons.mp hnl).2 (Fr.c (Fr.w (Fr.w (Fr.w (Fr.w (Fr.c Fr.rf hFc (fun _ z9 => Or.inl (Or.inl z9))) w_7 (Or.inl (Or.inr rfl))) w_8 (Or.inl (Or.inr rfl))) w_9 (Or.inl (Or.inr rfl))) w_10 (Or.inl (Or.inl hp))) hFb (fun a9 z9 => Or.inl z9)) (by omega) (by omega))) (by simp)
              · skip
                refine aw_aload_n (n := 172) dJ27_treeify_171 rfl 3 rfl rfl ?_
                refine aw_aload (n := 174) dJ27_treeify_172 0 rfl rfl ?_
                refine aw_putK (n := 177) (fs' := [.null, .null, .int (κ y).1, .ref (κ y).2.1, .ref (κ y).2.2, va_rf (nx y), va_rf (some p), va_rf ((up (up lf1 y none) y none) y), va_rf ((up (up rt1 y none) y none) y), va_rf (pv y), .int (bI ((ub rd1 y false) y))]) (C0 := RJ27) (T := TJ27) (N := 11) (ci := 27) dJ27_treeify_174 rfl in_J27 tyJ27 tyJ27_ok nmJ27 q1601 6 (by decide) q1609 (Or.inl rfl) (Or.inl rfl) rfl (hT_8 y (Or.inr rfl)).1 (hT_8 y (Or.inr rfl)).2 rfl rfl (Nat.le_of_ble_eq_true rfl) rfl rfl (fun y_11 w_11 => ?_)
                have zy_11 : y_11.1 = y_8.1 := w_11.2.2
                have hT_11 := TPic.ppa (v := some p) hT_8 w_11
                refine aw_iload (n := 179) dJ27_treeify_177 1 rfl rfl ?_
                refine aw_if_gt (n := 182) (tgt := 191) dJ27_treeify_179 (by decide) rfl (fun c_179 => ?_) (fun c_179 => ?_)
                · skip
                  refine aw_aload (n := 193) dJ27_treeify_191 0 rfl rfl ?_
                  refine aw_aload_n (n := 194) dJ27_treeify_193 rfl 3 rfl rfl ?_
                  refine aw_putK (n := 197) (fs' := [.null, .null, .int (κ p).1, .ref (κ p).2.1, .ref (κ p).2.2, va_rf (nx p), va_rf ((up (up pa1 y none) y (some p)) p), va_rf ((up (up lf1 y none) y none) p), va_rf (some y), va_rf (pv p), .int (bI ((ub rd1 y false) p))]) (C0 := RJ27) (T := TJ27) (N := 11) (ci := 27) dJ27_treeify_194 rfl in_J27 tyJ27 tyJ27_ok nmJ27 q1601 8 (by decide) q1611 (Or.inl rfl) (Or.inl rfl) rfl (hT_11 p (Or.inl hp)).1 (hT_11 p (Or.inl hp)).2 rfl rfl (Nat.le_of_ble_eq_true rfl) rfl rfl (fun y_12 w_12 => ?_)
                  have zy_12 : y_12.1 = y_11.1 := w_12.2.2
                  have hT_12 := TPic.prt (v := some y) hT_11 w_12
                  refine aw_aload_n (n := 198) dJ27_treeify_197 rfl 4 rfl rfl ?_
                  refine aw_aload_n (n := 199) dJ27_treeify_198 rfl 3 rfl rfl ?_
                  obtain ⟨lo0, hi0_, ht0, hB0⟩ := leafR2 hBc (fun a b ha hb => htr a b ((hND a).mpr (Or.inl ha)) ((hND b).mpr (Or.inl hb))) (fun a ha => (hKc a ((hND a).mpr (Or.inl ha))).1.choose_spec.ok) nDy hp g2 hd2 hd3
                  refine aw_callS (n := 202) (As := [.ref root1, .ref y]) (rest := []) (K2 := kJ27_balanceInsertion) dJ27_treeify_199 q1575 q1576 q145 q1577 hcJ27_balanceInsertion (hm_bal G y_12 (fun q => D q ∨ q = y) κ nx (up (up pa1 y none) y (some p)) (up (up lf1 y none) y none) (up (up (up rt1 y none) y none) p (some y)) pv (ub rd1 y false) hT_12 (ltM tx) root1 lo0 hi0_ ht0 (B1 + 1) hB0 (ltN3 _) y (Or.inr rfl)) rfl (Nat.le_of_ble_eq_true rfl) ⟨Nat.le_of_ble_eq_true rfl, Nat.le_of_ble_eq_true rfl⟩ ⟨by first | omega | (dsimp only; omega) | decide, by first | omega | (dsimp only; omega) | decide⟩ (fun _ _ _ z => z.elim) rfl (fun r_199 h_199 q_199 => ?_)
                  obtain ⟨root2, pa2, lf2, rt2, rd2, lo2, hi2, ht2, B2, rfl, hT2, hB2, hFb, hzb⟩ := q_199
                  have zc_199 : y_12.1 ≤ h_199.1 := hFb.1
                  refine AW.sts (st' := [.ref root2]) rfl ?_
                  refine aw_astore_n (n := 203) (lv' := [(2, .ref root2), (12, .ref p), (9, .int d9), (4, .null), (3, .ref y), (1, .ref t), (0, .ref hd)]) dJ27_treeify_202 rfl (by decide) rfl rfl ?_
                  refine aw_goto (tgt := 209) dJ27_treeify_203 (by decide) ?_
                  refine aw_aloadN (n := 211) dJ27_treeify_209 3 rfl rfl ?_
                  refine aw_astore_nN (n := 212) (lv' := [(3, .null), (2, .ref root2), (12, .ref p), (9, .int d9), (4, .null), (1, .ref t), (0, .ref hd)]) dJ27_treeify_211 rfl (by decide) rfl rfl ?_
                  refine aw_goto (tgt := 4) dJ27_treeify_212 (by decide) ?_
                  have g9 : (y :: L2).length = L2.length + 1 := rfl
                  exact AW.lvs (lv' := [(3, .null), (2, .ref root2), (1, .ref t), (0, .ref hd)]) (AW.eq (lv2 := _) (rfl) rfl rfl rfl rfl (ih_4 h_199 (fun q => D q ∨ q = y) L2 none root2 pa2 lf2 rt2 rd2 lo2 hi2 ht2 B2 hT2 hB2 (by rw [← hq_6]; exact hc2) (fun q => (hND q).trans (by rw [List.mem_cons, or_assoc])) (fun q m9 e9 => e9.elim (hdj q (List.mem_cons_of_mem _ m9)) (fun e8 => (List.nodup_cons.mp hnl).1 (e8 ▸ m9))) (List.nodup_cons.mp hnl).2 (Fr.c (Fr.w (Fr.w (Fr.w (Fr.w (Fr.c Fr.rf hFc (fun _ z9 => Or.inl (Or.inl z9))) w_7 (Or.inl (Or.inr rfl))) w_8 (Or.inl (Or.inr rfl))) w_11 (Or.inl (Or.inr rfl))) w_12 (Or.inl (Or.inl hp))) hFb (fun a9 z9 => Or.inl z9)) (by omega) (by omega))) (by simp)
                · skip
                  exact absurd hd1 c_179
            rcases hkc with rfl | rfl
            · skip
              refine AW.eq (lv2 := [(8, .ref p), (7, .null), (4, .null), (6, .int ((κ y).1)), (5, .ref ((κ y).2.1)), (3, .ref y), (2, .ref root1), (1, .ref t), (0, .ref hd)]) (s2 := []) rfl rfl rfl rfl rfl ?_
              refine aw_aload (n := 66) dJ27_treeify_64 0 rfl rfl ?_
              refine aw_getf (n := 69) (v := .ref ((κ p).2.1)) (C0 := RJ27) (T := TJ27) dJ27_treeify_66 rfl 3 q1551 (Or.inr q1552) (hT_8 p (Or.inl hp)).1 rfl rfl ?_
              refine aw_astore (n := 71) (lv' := [(11, .ref ((κ p).2.1)), (8, .ref p), (7, .null), (4, .null), (6, .int ((κ y).1)), (5, .ref ((κ y).2.1)), (3, .ref y), (2, .ref root1), (1, .ref t), (0, .ref hd)]) dJ27_treeify_69 (by decide) rfl rfl ?_
              refine aw_aload (n := 73) dJ27_treeify_71 1 rfl rfl ?_
              refine aw_getf (n := 76) (v := .int ((κ p).1)) (C0 := RJ27) (T := TJ27) dJ27_treeify_73 rfl 2 q1547 (Or.inr q1548) (hT_8 p (Or.inl hp)).1 rfl rfl ?_
              refine aw_dup (n := 77) dJ27_treeify_76 rfl rfl ?_
              refine aw_istore (n := 79) (lv' := [(10, .int ((κ p).1)), (11, .ref ((κ p).2.1)), (8, .ref p), (7, .null), (4, .null), (6, .int ((κ y).1)), (5, .ref ((κ y).2.1)), (3, .ref y), (2, .ref root1), (1, .ref t), (0, .ref hd)]) dJ27_treeify_77 (by decide) rfl rfl ?_
              refine aw_iload (n := 81) dJ27_treeify_79 5 rfl rfl ?_
              refine aw_icmp_le (n := 84) (tgt := 90) dJ27_treeify_81 (by decide) rfl (fun c_81 => ?_) (fun c_81 => ?_)
              · skip
                refine aw_iload (n := 92) dJ27_treeify_90 0 rfl rfl ?_
                refine aw_iload (n := 94) dJ27_treeify_92 5 rfl rfl ?_
                refine aw_icmp_ge (n := 97) (tgt := 103) dJ27_treeify_94 (by decide) rfl (fun c_94 => ?_) (fun c_94 => ?_)
                · skip
                  have eh : spT (tx y) = spT (tx p) := by rw [← hKh, ← hKhy]; exact Int32.le_antisymm c_94 c_81
                  have nt : tx y ≠ tx p := htr y p hNy ((hND p).mpr (Or.inl hp)) (Ne.symm npy)
                  refine aw_aloadN (n := 105) dJ27_treeify_103 3 rfl rfl ?_
                  refine aw_ifnonnullN (n := 108) dJ27_treeify_105 rfl ?_
                  refine aw_aload (n := 110) dJ27_treeify_108 6 rfl rfl ?_
                  refine aw_callS (n := 113) (As := [.ref ((κ y).2.1)]) (rest := []) (K2 := kJ4_comparableClassFor) dJ27_treeify_110 q1225 q1226 q112 q1227 hcJ4_comparableClassFor (hm_compF G y_8 (κ y).2.1 uy8 (tx y) _ _ hKy) rfl (Nat.le_of_ble_eq_true rfl) ⟨Nat.le_of_ble_eq_true rfl, Nat.le_of_ble_eq_true rfl⟩ ⟨by first | omega | (dsimp only; omega) | decide, by first | omega | (dsimp only; omega) | decide⟩ (fun _ _ _ z => z.elim) rfl (fun r_110 h_110 q_110 => ?_)
                  obtain ⟨rfl, rfl⟩ := q_110
                  refine AW.sts (st' := [.ref (gM G 0)]) rfl ?_
                  refine aw_dup (n := 114) dJ27_treeify_113 rfl rfl ?_
                  refine aw_astore (n := 116) (lv' := [(7, .ref (gM G 0)), (10, .int ((κ p).1)), (11, .ref ((κ p).2.1)), (8, .ref p), (4, .null), (6, .int ((κ y).1)), (5, .ref ((κ y).2.1)), (3, .ref y), (2, .ref root1), (1, .ref t), (0, .ref hd)]) dJ27_treeify_114 (by decide) rfl rfl ?_
                  refine aw_ifnull (n := 119) dJ27_treeify_116 rfl ?_
                  refine aw_aload (n := 121) dJ27_treeify_119 0 rfl rfl ?_
                  refine aw_aload (n := 123) dJ27_treeify_121 6 rfl rfl ?_
                  refine aw_aload (n := 125) dJ27_treeify_123 2 rfl rfl ?_
                  refine aw_callS (n := 128) (As := [.ref (gM G 0), .ref ((κ y).2.1), .ref ((κ p).2.1)]) (rest := []) (K2 := kJ4_compareComparables) dJ27_treeify_125 q1231 q1232 q112 q1233 hcJ4_compareComparables (hm_cmpC G y_8 (κ y).2.1 uy8 (κ p).2.1 up9 (tx y) (tx p) _ _ _ _ hKy hKp (Or.inl hKy8)) rfl (Nat.le_of_ble_eq_true rfl) ⟨Nat.le_of_ble_eq_true rfl, Nat.le_of_ble_eq_true rfl⟩ ⟨by first | omega | (dsimp only; omega) | decide, by first | omega | (dsimp only; omega) | decide⟩ (fun _ _ _ z => z.elim) rfl (fun r_125 h_125 q_125 => ?_)
                  obtain ⟨rfl, rfl⟩ := q_125
                  refine AW.sts (st' := [.int (cmpT (tx y) (tx p))]) rfl ?_
                  refine aw_dup (n := 129) dJ27_treeify_128 rfl rfl ?_
                  refine aw_istore (n := 131) (lv' := [(9, .int (cmpT (tx y) (tx p))), (7, .ref (gM G 0)), (10, .int ((κ p).1)), (11, .ref ((κ p).2.1)), (8, .ref p), (4, .null), (6, .int ((κ y).1)), (5, .ref ((κ y).2.1)), (3, .ref y), (2, .ref root1), (1, .ref t), (0, .ref hd)]) dJ27_treeify_129 (by decide) rfl rfl ?_
                  refine aw_if_ne (n := 134) (tgt := 143) dJ27_treeify_131 (by decide) rfl (fun c_131 => ?_) (fun c_131 => ?_)
                  · skip
                    refine aw_aload (n := 145) dJ27_treeify_143 4 rfl rfl ?_
                    refine aw_astore (n := 147) (lv' := [(12, .ref p), (9, .int (cmpT (tx y) (tx p))), (7, .ref (gM G 0)), (10, .int ((κ p).1)), (11, .ref ((κ p).2.1)), (8, .ref p), (4, .null), (6, .int ((κ y).1)), (5, .ref ((κ y).2.1)), (3, .ref y), (2, .ref root1), (1, .ref t), (0, .ref hd)]) dJ27_treeify_145 (by decide) rfl rfl ?_
                    refine aw_iload (n := 149) dJ27_treeify_147 1 rfl rfl ?_
                    refine aw_if_gt (n := 152) (tgt := 160) dJ27_treeify_149 (by decide) rfl (fun c_149 => ?_) (fun c_149 => ?_)
                    · skip
                      have hs9 : 0 < cmpT (tx y) (tx p) := c_149
                      have hd9 : ltK (spT (tx p), tx p) (spT (tx y), tx y) := (by rcases ltX_cmp okb.1 okp.1 okb.2 okp.2 with z | z | z; exact absurd z.1 (fun e9 => absurd (Int32.lt_trans c_149 e9) Int32.lt_irrefl); exact absurd z.2 nt; exact Or.inr ⟨eh.symm, z.2⟩)
                      refine aw_aload (n := 162) dJ27_treeify_160 5 rfl rfl ?_
                      rcases optc (rt1 p) with hq_13 | ⟨r162_13, hq_13⟩
                      · skip
                        refine aw_getf (n := 165) (v := .null) (C0 := RJ27) (T := TJ27) dJ27_treeify_162 rfl 8 q1611 (Or.inl rfl) (hT_8 p (Or.inl hp)).1 (congrArg (fun z9 => some (va_rf z9)) (show (up (up rt1 y none) y none) p = none from by simp only [up]; rw [if_neg npy, if_neg npy, hq_13])) rfl ?_
                        refine aw_dup (n := 166) dJ27_treeify_165 rfl rfl ?_
                        refine aw_astoreN (n := 168) (lv' := [(8, .null), (12, .ref p), (9, .int (cmpT (tx y) (tx p))), (7, .ref (gM G 0)), (10, .int ((κ p).1)), (11, .ref ((κ p).2.1)), (4, .null), (6, .int ((κ y).1)), (5, .ref ((κ y).2.1)), (3, .ref y), (2, .ref root1), (1, .ref t), (0, .ref hd)]) dJ27_treeify_166 (by decide) rfl rfl ?_
                        refine aw_ifnonnullN (n := 171) dJ27_treeify_168 rfl ?_
                        exact AW.lvs (lv' := [(12, .ref p), (9, .int (cmpT (tx y) (tx p))), (4, .null), (3, .ref y), (2, .ref root1), (1, .ref t), (0, .ref hd)]) (AW.eq (lv2 := _) (rfl) rfl rfl rfl rfl (T9 (cmpT (tx y) (tx p)) (Or.inr ⟨hs9, hd9, hq_13⟩))) (by simp)
                      · skip
                        have k_r162_13 : D r162_13 := BT.ch hBc hp (Or.inr hq_13)
                        refine aw_getf (n := 165) (v := .ref r162_13) (C0 := RJ27) (T := TJ27) dJ27_treeify_162 rfl 8 q1611 (Or.inl rfl) (hT_8 p (Or.inl hp)).1 (congrArg (fun z9 => some (va_rf z9)) (show (up (up rt1 y none) y none) p = some r162_13 from by simp only [up]; rw [if_neg npy, if_neg npy, hq_13])) rfl ?_
                        refine aw_dup (n := 166) dJ27_treeify_165 rfl rfl ?_
                        refine aw_astore (n := 168) (lv' := [(8, .ref r162_13), (12, .ref p), (9, .int (cmpT (tx y) (tx p))), (7, .ref (gM G 0)), (10, .int ((κ p).1)), (11, .ref ((κ p).2.1)), (4, .null), (6, .int ((κ y).1)), (5, .ref ((κ y).2.1)), (3, .ref y), (2, .ref root1), (1, .ref t), (0, .ref hd)]) dJ27_treeify_166 (by decide) rfl rfl ?_
                        refine aw_ifnonnull (tgt := 206) dJ27_treeify_168 (by decide) ?_
                        refine aw_goto (tgt := 64) dJ27_treeify_206 (by decide) ?_
                        have t9 := kLH_R hBc hp g2 hd9 hq_13
                        have m9 := t9.2.1
                        exact AW.lvs (lv' := [(8, .ref r162_13), (7, .ref (gM G 0)), (4, .null), (6, .int ((κ y).1)), (5, .ref ((κ y).2.1)), (3, .ref y), (2, .ref root1), (1, .ref t), (0, .ref hd)]) (AW.eq (lv2 := _) (rfl) rfl rfl rfl rfl (ih_64 r162_13 t9.1 t9.2.2.1 t9.2.2.2 (some (gM G 0)) (Or.inr rfl) (by omega))) (by simp)
                    · skip
                      have hs9 : cmpT (tx y) (tx p) ≤ 0 := Int32.not_lt.mp c_149
                      have hd9 : ltK (spT (tx y), tx y) (spT (tx p), tx p) := (by rcases ltX_cmp okb.1 okp.1 okb.2 okp.2 with z | z | z; exact Or.inr ⟨eh, z.2⟩; exact absurd z.2 nt; exact absurd z.1 c_149)
                      refine aw_aload (n := 154) dJ27_treeify_152 5 rfl rfl ?_
                      rcases optc (lf1 p) with hq_14 | ⟨l154_14, hq_14⟩
                      · skip
                        refine aw_getf (n := 157) (v := .null) (C0 := RJ27) (T := TJ27) dJ27_treeify_154 rfl 7 q1610 (Or.inl rfl) (hT_8 p (Or.inl hp)).1 (congrArg (fun z9 => some (va_rf z9)) (show (up (up lf1 y none) y none) p = none from by simp only [up]; rw [if_neg npy, if_neg npy, hq_14])) rfl ?_
                        refine aw_goto (tgt := 165) dJ27_treeify_157 (by decide) ?_
                        refine aw_dup (n := 166) dJ27_treeify_165 rfl rfl ?_
                        refine aw_astoreN (n := 168) (lv' := [(8, .null), (12, .ref p), (9, .int (cmpT (tx y) (tx p))), (7, .ref (gM G 0)), (10, .int ((κ p).1)), (11, .ref ((κ p).2.1)), (4, .null), (6, .int ((κ y).1)), (5, .ref ((κ y).2.1)), (3, .ref y), (2, .ref root1), (1, .ref t), (0, .ref hd)]) dJ27_treeify_166 (by decide) rfl rfl ?_
                        refine aw_ifnonnullN (n := 171) dJ27_treeify_168 rfl ?_
                        exact AW.lvs (lv' := [(12, .ref p), (9, .int (cmpT (tx y) (tx p))), (4, .null), (3, .ref y), (2, .ref root1), (1, .ref t), (0, .ref hd)]) (AW.eq (lv2 := _) (rfl) rfl rfl rfl rfl (T9 (cmpT (tx y) (tx p)) (Or.inl ⟨hs9, hd9, hq_14⟩))) (by simp)
                      · skip
                        have k_l154_14 : D l154_14 := BT.ch hBc hp (Or.inl hq_14)
                        refine aw_getf (n := 157) (v := .ref l154_14) (C0 := RJ27) (T := TJ27) dJ27_treeify_154 rfl 7 q1610 (Or.inl rfl) (hT_8 p (Or.inl hp)).1 (congrArg (fun z9 => some (va_rf z9)) (show (up (up lf1 y none) y none) p = some l154_14 from by simp only [up]; rw [if_neg npy, if_neg npy, hq_14])) rfl ?_
                        refine aw_goto (tgt := 165) dJ27_treeify_157 (by decide) ?_
                        refine aw_dup (n := 166) dJ27_treeify_165 rfl rfl ?_
                        refine aw_astore (n := 168) (lv' := [(8, .ref l154_14), (12, .ref p), (9, .int (cmpT (tx y) (tx p))), (7, .ref (gM G 0)), (10, .int ((κ p).1)), (11, .ref ((κ p).2.1)), (4, .null), (6, .int ((κ y).1)), (5, .ref ((κ y).2.1)), (3, .ref y), (2, .ref root1), (1, .ref t), (0, .ref hd)]) dJ27_treeify_166 (by decide) rfl rfl ?_
                        refine aw_ifnonnull (tgt := 206) dJ27_treeify_168 (by decide) ?_
                        refine aw_goto (tgt := 64) dJ27_treeify_206 (by decide) ?_
                        have t9 := kLH_L hBc hp g1 hd9 hq_14
                        have m9 := t9.2.1
                        exact AW.lvs (lv' := [(8, .ref l154_14), (7, .ref (gM G 0)), (4, .null), (6, .int ((κ y).1)), (5, .ref ((κ y).2.1)), (3, .ref y), (2, .ref root1), (1, .ref t), (0, .ref hd)]) (AW.eq (lv2 := _) (rfl) rfl rfl rfl rfl (ih_64 l154_14 t9.1 t9.2.2.1 t9.2.2.2 (some (gM G 0)) (Or.inr rfl) (by omega))) (by simp)
                  · skip
                    exfalso; rcases ltX_cmp okb.1 okp.1 okb.2 okp.2 with z | z | z; rw [c_131] at z; exact absurd z.1 (by decide); exact nt z.2; rw [c_131] at z; exact absurd z.1 (by decide)
                · skip
                  have g9 : spT (tx p) < spT (tx y) := by rw [← hKh, ← hKhy]; exact Int32.not_le.mp c_94
                  have hd9 : ltK (spT (tx p), tx p) (spT (tx y), tx y) := Or.inl g9
                  have hs9 : (0 : Int32) < 1 := by decide
                  refine aw_iconst (n := 98) (v := 1) dJ27_treeify_97 (by decide) rfl ?_
                  refine aw_istore (n := 100) (lv' := [(9, .int 1), (10, .int ((κ p).1)), (11, .ref ((κ p).2.1)), (8, .ref p), (7, .null), (4, .null), (6, .int ((κ y).1)), (5, .ref ((κ y).2.1)), (3, .ref y), (2, .ref root1), (1, .ref t), (0, .ref hd)]) dJ27_treeify_98 (by decide) rfl rfl ?_
                  refine aw_goto (tgt := 143) dJ27_treeify_100 (by decide) ?_
                  refine aw_aload (n := 145) dJ27_treeify_143 3 rfl rfl ?_
                  refine aw_astore (n := 147) (lv' := [(12, .ref p), (9, .int 1), (10, .int ((κ p).1)), (11, .ref ((κ p).2.1)), (8, .ref p), (7, .null), (4, .null), (6, .int ((κ y).1)), (5, .ref ((κ y).2.1)), (3, .ref y), (2, .ref root1), (1, .ref t), (0, .ref hd)]) dJ27_treeify_145 (by decide) rfl rfl ?_
                  refine aw_iload (n := 149) dJ27_treeify_147 1 rfl rfl ?_
                  refine aw_if_gt (n := 152) (tgt := 160) dJ27_treeify_149 (by decide) rfl (fun c_149_2 => ?_) (fun c_149_2 => ?_)
                  · skip
                    refine aw_aload (n := 162) dJ27_treeify_160 4 rfl rfl ?_
                    rcases optc (rt1 p) with hq_15 | ⟨r162_15, hq_15⟩
                    · skip
                      refine aw_getf (n := 165) (v := .null) (C0 := RJ27) (T := TJ27) dJ27_treeify_162 rfl 8 q1611 (Or.inl rfl) (hT_8 p (Or.inl hp)).1 (congrArg (fun z9 => some (va_rf z9)) (show (up (up rt1 y none) y none) p = none from by simp only [up]; rw [if_neg npy, if_neg npy, hq_15])) rfl ?_
                      refine aw_dup (n := 166) dJ27_treeify_165 rfl rfl ?_
                      refine aw_astoreN (n := 168) (lv' := [(8, .null), (12, .ref p), (9, .int 1), (10, .int ((κ p).1)), (11, .ref ((κ p).2.1)), (7, .null), (4, .null), (6, .int ((κ y).1)), (5, .ref ((κ y).2.1)), (3, .ref y), (2, .ref root1), (1, .ref t), (0, .ref hd)]) dJ27_treeify_166 (by decide) rfl rfl ?_
                      refine aw_ifnonnullN (n := 171) dJ27_treeify_168 rfl ?_
                      exact AW.lvs (lv' := [(12, .ref p), (9, .int 1), (4, .null), (3, .ref y), (2, .ref root1), (1, .ref t), (0, .ref hd)]) (AW.eq (lv2 := _) (rfl) rfl rfl rfl rfl (T9 1 (Or.inr ⟨hs9, hd9, hq_15⟩))) (by simp)
                    · skip
                      have k_r162_15 : D r162_15 := BT.ch hBc hp (Or.inr hq_15)
                      refine aw_getf (n := 165) (v := .ref r162_15) (C0 := RJ27) (T := TJ27) dJ27_treeify_162 rfl 8 q1611 (Or.inl rfl) (hT_8 p (Or.inl hp)).1 (congrArg (fun z9 => some (va_rf z9)) (show (up (up rt1 y none) y none) p = some r162_15 from by simp only [up]; rw [if_neg npy, if_neg npy, hq_15])) rfl ?_
                      refine aw_dup (n := 166) dJ27_treeify_165 rfl rfl ?_
                      refine aw_astore (n := 168) (lv' := [(8, .ref r162_15), (12, .ref p), (9, .int 1), (10, .int ((κ p).1)), (11, .ref ((κ p).2.1)), (7, .null), (4, .null), (6, .int ((κ y).1)), (5, .ref ((κ y).2.1)), (3, .ref y), (2, .ref root1), (1, .ref t), (0, .ref hd)]) dJ27_treeify_166 (by decide) rfl rfl ?_
                      refine aw_ifnonnull (tgt := 206) dJ27_treeify_168 (by decide) ?_
                      refine aw_goto (tgt := 64) dJ27_treeify_206 (by decide) ?_
                      have t9 := kLH_R hBc hp g2 hd9 hq_15
                      have m9 := t9.2.1
                      exact AW.lvs (lv' := [(8, .ref r162_15), (7, .null), (4, .null), (6, .int ((κ y).1)), (5, .ref ((κ y).2.1)), (3, .ref y), (2, .ref root1), (1, .ref t), (0, .ref hd)]) (AW.eq (lv2 := _) (rfl) rfl rfl rfl rfl (ih_64 r162_15 t9.1 t9.2.2.1 t9.2.2.2 none (Or.inl rfl) (by omega))) (by simp)
                  · skip
                    exact absurd c_149_2 (by decide +kernel)
              · skip
                have g9 : spT (tx y) < spT (tx p) := by rw [← hKh, ← hKhy]; exact Int32.not_le.mp c_81
                have hd9 : ltK (spT (tx y), tx y) (spT (tx p), tx p) := Or.inl g9
                have hs9 : (-1 : Int32) ≤ 0 := by decide
                refine aw_iconst (n := 85) (v := (-1)) dJ27_treeify_84 (by decide) rfl ?_
                refine aw_istore (n := 87) (lv' := [(9, .int (-1)), (10, .int ((κ p).1)), (11, .ref ((κ p).2.1)), (8, .ref p), (7, .null), (4, .null), (6, .int ((κ y).1)), (5, .ref ((κ y).2.1)), (3, .ref y), (2, .ref root1), (1, .ref t), (0, .ref hd)]) dJ27_treeify_85 (by decide) rfl rfl ?_
                refine aw_goto (tgt := 143) dJ27_treeify_87 (by decide) ?_
                refine aw_aload (n := 145) dJ27_treeify_143 3 rfl rfl ?_
                refine aw_astore (n := 147) (lv' := [(12, .ref p), (9, .int (-1)), (10, .int ((κ p).1)), (11, .ref ((κ p).2.1)), (8, .ref p), (7, .null), (4, .null), (6, .int ((κ y).1)), (5, .ref ((κ y).2.1)), (3, .ref y), (2, .ref root1), (1, .ref t), (0, .ref hd)]) dJ27_treeify_145 (by decide) rfl rfl ?_
                refine aw_iload (n := 149) dJ27_treeify_147 1 rfl rfl ?_
                refine aw_if_gt (n := 152) (tgt := 160) dJ27_treeify_149 (by decide) rfl (fun c_149_3 => ?_) (fun c_149_3 => ?_)
                · skip
                  exact absurd c_149_3 (by decide +kernel)
                · skip
                  refine aw_aload (n := 154) dJ27_treeify_152 4 rfl rfl ?_
                  rcases optc (lf1 p) with hq_16 | ⟨l154_16, hq_16⟩
                  · skip
                    refine aw_getf (n := 157) (v := .null) (C0 := RJ27) (T := TJ27) dJ27_treeify_154 rfl 7 q1610 (Or.inl rfl) (hT_8 p (Or.inl hp)).1 (congrArg (fun z9 => some (va_rf z9)) (show (up (up lf1 y none) y none) p = none from by simp only [up]; rw [if_neg npy, if_neg npy, hq_16])) rfl ?_
                    refine aw_goto (tgt := 165) dJ27_treeify_157 (by decide) ?_
                    refine aw_dup (n := 166) dJ27_treeify_165 rfl rfl ?_
                    refine aw_astoreN (n := 168) (lv' := [(8, .null), (12, .ref p), (9, .int (-1)), (10, .int ((κ p).1)), (11, .ref ((κ p).2.1)), (7, .null), (4, .null), (6, .int ((κ y).1)), (5, .ref ((κ y).2.1)), (3, .ref y), (2, .ref root1), (1, .ref t), (0, .ref hd)]) dJ27_treeify_166 (by decide) rfl rfl ?_
                    refine aw_ifnonnullN (n := 171) dJ27_treeify_168 rfl ?_
                    exact AW.lvs (lv' := [(12, .ref p), (9, .int (-1)), (4, .null), (3, .ref y), (2, .ref root1), (1, .ref t), (0, .ref hd)]) (AW.eq (lv2 := _) (rfl) rfl rfl rfl rfl (T9 (-1) (Or.inl ⟨hs9, hd9, hq_16⟩))) (by simp)
                  · skip
                    have k_l154_16 : D l154_16 := BT.ch hBc hp (Or.inl hq_16)
                    refine aw_getf (n := 157) (v := .ref l154_16) (C0 := RJ27) (T := TJ27) dJ27_treeify_154 rfl 7 q1610 (Or.inl rfl) (hT_8 p (Or.inl hp)).1 (congrArg (fun z9 => some (va_rf z9)) (show (up (up lf1 y none) y none) p = some l154_16 from by simp only [up]; rw [if_neg npy, if_neg npy, hq_16])) rfl ?_
                    refine aw_goto (tgt := 165) dJ27_treeify_157 (by decide) ?_
                    refine aw_dup (n := 166) dJ27_treeify_165 rfl rfl ?_
                    refine aw_astore (n := 168) (lv' := [(8, .ref l154_16), (12, .ref p), (9, .int (-1)), (10, .int ((κ p).1)), (11, .ref ((κ p).2.1)), (7, .null), (4, .null), (6, .int ((κ y).1)), (5, .ref ((κ y).2.1)), (3, .ref y), (2, .ref root1), (1, .ref t), (0, .ref hd)]) dJ27_treeify_166 (by decide) rfl rfl ?_
                    refine aw_ifnonnull (tgt := 206) dJ27_treeify_168 (by decide) ?_
                    refine aw_goto (tgt := 64) dJ27_treeify_206 (by decide) ?_
                    have t9 := kLH_L hBc hp g1 hd9 hq_16
                    have m9 := t9.2.1
                    exact AW.lvs (lv' := [(8, .ref l154_16), (7, .null), (4, .null), (6, .int ((κ y).1)), (5, .ref ((κ y).2.1)), (3, .ref y), (2, .ref root1), (1, .ref t), (0, .ref hd)]) (AW.eq (lv2 := _) (rfl) rfl rfl rfl rfl (ih_64 l154_16 t9.1 t9.2.2.1 t9.2.2.2 none (Or.inl rfl) (by omega))) (by simp)
            · skip
              refine AW.eq (lv2 := [(8, .ref p), (7, .ref (gM G 0)), (4, .null), (6, .int ((κ y).1)), (5, .ref ((κ y).2.1)), (3, .ref y), (2, .ref root1), (1, .ref t), (0, .ref hd)]) (s2 := []) rfl rfl rfl rfl rfl ?_
              refine aw_aload (n := 66) dJ27_treeify_64 0 rfl rfl ?_
              refine aw_getf (n := 69) (v := .ref ((κ p).2.1)) (C0 := RJ27) (T := TJ27) dJ27_treeify_66 rfl 3 q1551 (Or.inr q1552) (hT_8 p (Or.inl hp)).1 rfl rfl ?_
              refine aw_astore (n := 71) (lv' := [(11, .ref ((κ p).2.1)), (8, .ref p), (7, .ref (gM G 0)), (4, .null), (6, .int ((κ y).1)), (5, .ref ((κ y).2.1)), (3, .ref y), (2, .ref root1), (1, .ref t), (0, .ref hd)]) dJ27_treeify_69 (by decide) rfl rfl ?_
              refine aw_aload (n := 73) dJ27_treeify_71 1 rfl rfl ?_
              refine aw_getf (n := 76) (v := .int ((κ p).1)) (C0 := RJ27) (T := TJ27) dJ27_treeify_73 rfl 2 q1547 (Or.inr q1548) (hT_8 p (Or.inl hp)).1 rfl rfl ?_
              refine aw_dup (n := 77) dJ27_treeify_76 rfl rfl ?_
              refine aw_istore (n := 79) (lv' := [(10, .int ((κ p).1)), (11, .ref ((κ p).2.1)), (8, .ref p), (7, .ref (gM G 0)), (4, .null), (6, .int ((κ y).1)), (5, .ref ((κ y).2.1)), (3, .ref y), (2, .ref root1), (1, .ref t), (0, .ref hd)]) dJ27_treeify_77 (by decide) rfl rfl ?_
              refine aw_iload (n := 81) dJ27_treeify_79 5 rfl rfl ?_
              refine aw_icmp_le (n := 84) (tgt := 90) dJ27_treeify_81 (by decide) rfl (fun c_81 => ?_) (fun c_81 => ?_)
              · skip
                refine aw_iload (n := 92) dJ27_treeify_90 0 rfl rfl ?_
                refine aw_iload (n := 94) dJ27_treeify_92 5 rfl rfl ?_
                refine aw_icmp_ge (n := 97) (tgt := 103) dJ27_treeify_94 (by decide) rfl (fun c_94 => ?_) (fun c_94 => ?_)
                · skip
                  have eh : spT (tx y) = spT (tx p) := by rw [← hKh, ← hKhy]; exact Int32.le_antisymm c_94 c_81
                  have nt : tx y ≠ tx p := htr y p hNy ((hND p).mpr (Or.inl hp)) (Ne.symm npy)
                  refine aw_aload (n := 105) dJ27_treeify_103 3 rfl rfl ?_
                  refine aw_ifnonnull (tgt := 119) dJ27_treeify_105 (by decide) ?_
                  refine aw_aload (n := 121) dJ27_treeify_119 3 rfl rfl ?_
                  refine aw_aload (n := 123) dJ27_treeify_121 6 rfl rfl ?_
                  refine aw_aload (n := 125) dJ27_treeify_123 1 rfl rfl ?_
                  refine aw_callS (n := 128) (As := [.ref (gM G 0), .ref ((κ y).2.1), .ref ((κ p).2.1)]) (rest := []) (K2 := kJ4_compareComparables) dJ27_treeify_125 q1231 q1232 q112 q1233 hcJ4_compareComparables (hm_cmpC G y_8 (κ y).2.1 uy8 (κ p).2.1 up9 (tx y) (tx p) _ _ _ _ hKy hKp (Or.inl hKy8)) rfl (Nat.le_of_ble_eq_true rfl) ⟨Nat.le_of_ble_eq_true rfl, Nat.le_of_ble_eq_true rfl⟩ ⟨by first | omega | (dsimp only; omega) | decide, by first | omega | (dsimp only; omega) | decide⟩ (fun _ _ _ z => z.elim) rfl (fun r_125 h_125 q_125 => ?_)
                  obtain ⟨rfl, rfl⟩ := q_125
                  refine AW.sts (st' := [.int (cmpT (tx y) (tx p))]) rfl ?_
                  refine aw_dup (n := 129) dJ27_treeify_128 rfl rfl ?_
                  refine aw_istore (n := 131) (lv' := [(9, .int (cmpT (tx y) (tx p))), (10, .int ((κ p).1)), (11, .ref ((κ p).2.1)), (8, .ref p), (7, .ref (gM G 0)), (4, .null), (6, .int ((κ y).1)), (5, .ref ((κ y).2.1)), (3, .ref y), (2, .ref root1), (1, .ref t), (0, .ref hd)]) dJ27_treeify_129 (by decide) rfl rfl ?_
                  refine aw_if_ne (n := 134) (tgt := 143) dJ27_treeify_131 (by decide) rfl (fun c_131 => ?_) (fun c_131 => ?_)
                  · skip
                    refine aw_aload (n := 145) dJ27_treeify_143 3 rfl rfl ?_
                    refine aw_astore (n := 147) (lv' := [(12, .ref p), (9, .int (cmpT (tx y) (tx p))), (10, .int ((κ p).1)), (11, .ref ((κ p).2.1)), (8, .ref p), (7, .ref (gM G 0)), (4, .null), (6, .int ((κ y).1)), (5, .ref ((κ y).2.1)), (3, .ref y), (2, .ref root1), (1, .ref t), (0, .ref hd)]) dJ27_treeify_145 (by decide) rfl rfl ?_
                    refine aw_iload (n := 149) dJ27_treeify_147 1 rfl rfl ?_
                    refine aw_if_gt (n := 152) (tgt := 160) dJ27_treeify_149 (by decide) rfl (fun c_149 => ?_) (fun c_149 => ?_)
                    · skip
                      have hs9 : 0 < cmpT (tx y) (tx p) := c_149
                      have hd9 : ltK (spT (tx p), tx p) (spT (tx y), tx y) := (by rcases ltX_cmp okb.1 okp.1 okb.2 okp.2 with z | z | z; exact absurd z.1 (fun e9 => absurd (Int32.lt_trans c_149 e9) Int32.lt_irrefl); exact absurd z.2 nt; exact Or.inr ⟨eh.symm, z.2⟩)
                      refine aw_aload (n := 162) dJ27_treeify_160 4 rfl rfl ?_
                      rcases optc (rt1 p) with hq_17 | ⟨r162_17, hq_17⟩
                      · skip
                        refine aw_getf (n := 165) (v := .null) (C0 := RJ27) (T := TJ27) dJ27_treeify_162 rfl 8 q1611 (Or.inl rfl) (hT_8 p (Or.inl hp)).1 (congrArg (fun z9 => some (va_rf z9)) (show (up (up rt1 y none) y none) p = none from by simp only [up]; rw [if_neg npy, if_neg npy, hq_17])) rfl ?_
                        refine aw_dup (n := 166) dJ27_treeify_165 rfl rfl ?_
                        refine aw_astoreN (n := 168) (lv' := [(8, .null), (12, .ref p), (9, .int (cmpT (tx y) (tx p))), (10, .int ((κ p).1)), (11, .ref ((κ p).2.1)), (7, .ref (gM G 0)), (4, .null), (6, .int ((κ y).1)), (5, .ref ((κ y).2.1)), (3, .ref y), (2, .ref root1), (1, .ref t), (0, .ref hd)]) dJ27_treeify_166 (by decide) rfl rfl ?_
                        refine aw_ifnonnullN (n := 171) dJ27_treeify_168 rfl ?_
                        exact AW.lvs (lv' := [(12, .ref p), (9, .int (cmpT (tx y) (tx p))), (4, .null), (3, .ref y), (2, .ref root1), (1, .ref t), (0, .ref hd)]) (AW.eq (lv2 := _) (rfl) rfl rfl rfl rfl (T9 (cmpT (tx y) (tx p)) (Or.inr ⟨hs9, hd9, hq_17⟩))) (by simp)
                      · skip
                        have k_r162_17 : D r162_17 := BT.ch hBc hp (Or.inr hq_17)
                        refine aw_getf (n := 165) (v := .ref r162_17) (C0 := RJ27) (T := TJ27) dJ27_treeify_162 rfl 8 q1611 (Or.inl rfl) (hT_8 p (Or.inl hp)).1 (congrArg (fun z9 => some (va_rf z9)) (show (up (up rt1 y none) y none) p = some r162_17 from by simp only [up]; rw [if_neg npy, if_neg npy, hq_17])) rfl ?_
                        refine aw_dup (n := 166) dJ27_treeify_165 rfl rfl ?_
                        refine aw_astore (n := 168) (lv' := [(8, .ref r162_17), (12, .ref p), (9, .int (cmpT (tx y) (tx p))), (10, .int ((κ p).1)), (11, .ref ((κ p).2.1)), (7, .ref (gM G 0)), (4, .null), (6, .int ((κ y).1)), (5, .ref ((κ y).2.1)), (3, .ref y), (2, .ref root1), (1, .ref t), (0, .ref hd)]) dJ27_treeify_166 (by decide) rfl rfl ?_
                        refine aw_ifnonnull (tgt := 206) dJ27_treeify_168 (by decide) ?_
                        refine aw_goto (tgt := 64) dJ27_treeify_206 (by decide) ?_
                        have t9 := kLH_R hBc hp g2 hd9 hq_17
                        have m9 := t9.2.1
                        exact AW.lvs (lv' := [(8, .ref r162_17), (7, .ref (gM G 0)), (4, .null), (6, .int ((κ y).1)), (5, .ref ((κ y).2.1)), (3, .ref y), (2, .ref root1), (1, .ref t), (0, .ref hd)]) (AW.eq (lv2 := _) (rfl) rfl rfl rfl rfl (ih_64 r162_17 t9.1 t9.2.2.1 t9.2.2.2 (some (gM G 0)) (Or.inr rfl) (by omega))) (by simp)
                    · skip
                      have hs9 : cmpT (tx y) (tx p) ≤ 0 := Int32.not_lt.mp c_149
                      have hd9 : ltK (spT (tx y), tx y) (spT (tx p), tx p) := (by rcases ltX_cmp okb.1 okp.1 okb.2 okp.2 with z | z | z; exact Or.inr ⟨eh, z.2⟩; exact absurd z.2 nt; exact absurd z.1 c_149)
                      refine aw_aload (n := 154) dJ27_treeify_152 4 rfl rfl ?_
                      rcases optc (lf1 p) with hq_18 | ⟨l154_18, hq_18⟩
                      · skip
                        refine aw_getf (n := 157) (v := .null) (C0 := RJ27) (T := TJ27) dJ27_treeify_154 rfl 7 q1610 (Or.inl rfl) (hT_8 p (Or.inl hp)).1 (congrArg (fun z9 => some (va_rf z9)) (show (up (up lf1 y none) y none) p = none from by simp only [up]; rw [if_neg npy, if_neg npy, hq_18])) rfl ?_
                        refine aw_goto (tgt := 165) dJ27_treeify_157 (by decide) ?_
                        refine aw_dup (n := 166) dJ27_treeify_165 rfl rfl ?_
                        refine aw_astoreN (n := 168) (lv' := [(8, .null), (12, .ref p), (9, .int (cmpT (tx y) (tx p))), (10, .int ((κ p).1)), (11, .ref ((κ p).2.1)), (7, .ref (gM G 0)), (4, .null), (6, .int ((κ y).1)), (5, .ref ((κ y).2.1)), (3, .ref y), (2, .ref root1), (1, .ref t), (0, .ref hd)]) dJ27_treeify_166 (by decide) rfl rfl ?_
                        refine aw_ifnonnullN (n := 171) dJ27_treeify_168 rfl ?_
                        exact AW.lvs (lv' := [(12, .ref p), (9, .int (cmpT (tx y) (tx p))), (4, .null), (3, .ref y), (2, .ref root1), (1, .ref t), (0, .ref hd)]) (AW.eq (lv2 := _) (rfl) rfl rfl rfl rfl (T9 (cmpT (tx y) (tx p)) (Or.inl ⟨hs9, hd9, hq_18⟩))) (by simp)
                      · skip
                        have k_l154_18 : D l154_18 := BT.ch hBc hp (Or.inl hq_18)
                        refine aw_getf (n := 157) (v := .ref l154_18) (C0 := RJ27) (T := TJ27) dJ27_treeify_154 rfl 7 q1610 (Or.inl rfl) (hT_8 p (Or.inl hp)).1 (congrArg (fun z9 => some (va_rf z9)) (show (up (up lf1 y none) y none) p = some l154_18 from by simp only [up]; rw [if_neg npy, if_neg npy, hq_18])) rfl ?_
                        refine aw_goto (tgt := 165) dJ27_treeify_157 (by decide) ?_
                        refine aw_dup (n := 166) dJ27_treeify_165 rfl rfl ?_
                        refine aw_astore (n := 168) (lv' := [(8, .ref l154_18), (12, .ref p), (9, .int (cmpT (tx y) (tx p))), (10, .int ((κ p).1)), (11, .ref ((κ p).2.1)), (7, .ref (gM G 0)), (4, .null), (6, .int ((κ y).1)), (5, .ref ((κ y).2.1)), (3, .ref y), (2, .ref root1), (1, .ref t), (0, .ref hd)]) dJ27_treeify_166 (by decide) rfl rfl ?_
                        refine aw_ifnonnull (tgt := 206) dJ27_treeify_168 (by decide) ?_
                        refine aw_goto (tgt := 64) dJ27_treeify_206 (by decide) ?_
                        have t9 := kLH_L hBc hp g1 hd9 hq_18
                        have m9 := t9.2.1
                        exact AW.lvs (lv' := [(8, .ref l154_18), (7, .ref (gM G 0)), (4, .null), (6, .int ((κ y).1)), (5, .ref ((κ y).2.1)), (3, .ref y), (2, .ref root1), (1, .ref t), (0, .ref hd)]) (AW.eq (lv2 := _) (rfl) rfl rfl rfl rfl (ih_64 l154_18 t9.1 t9.2.2.1 t9.2.2.2 (some (gM G 0)) (Or.inr rfl) (by omega))) (by simp)
                  · skip
                    exfalso; rcases ltX_cmp okb.1 okp.1 okb.2 okp.2 with z | z | z; rw [c_131] at z; exact absurd z.1 (by decide); exact nt z.2; rw [c_131] at z; exact absurd z.1 (by decide)
                · skip
                  have g9 : spT (tx p) < spT (tx y) := by rw [← hKh, ← hKhy]; exact Int32.not_le.mp c_94
                  have hd9 : ltK (spT (tx p), tx p) (spT (tx y), tx y) := Or.inl g9
                  have hs9 : (0 : Int32) < 1 := by decide
                  refine aw_iconst (n := 98) (v := 1) dJ27_treeify_97 (by decide) rfl ?_
                  refine aw_istore (n := 100) (lv' := [(9, .int 1), (10, .int ((κ p).1)), (11, .ref ((κ p).2.1)), (8, .ref p), (7, .ref (gM G 0)), (4, .null), (6, .int ((κ y).1)), (5, .ref ((κ y).2.1)), (3, .ref y), (2, .ref root1), (1, .ref t), (0, .ref hd)]) dJ27_treeify_98 (by decide) rfl rfl ?_
                  refine aw_goto (tgt := 143) dJ27_treeify_100 (by decide) ?_
                  refine aw_aload (n := 145) dJ27_treeify_143 3 rfl rfl ?_
                  refine aw_astore (n := 147) (lv' := [(12, .ref p), (9, .int 1), (10, .int ((κ p).1)), (11, .ref ((κ p).2.1)), (8, .ref p), (7, .ref (gM G 0)), (4, .null), (6, .int ((κ y).1)), (5, .ref ((κ y).2.1)), (3, .ref y), (2, .ref root1), (1, .ref t), (0, .ref hd)]) dJ27_treeify_145 (by decide) rfl rfl ?_
                  refine aw_iload (n := 149) dJ27_treeify_147 1 rfl rfl ?_
                  refine aw_if_gt (n := 152) (tgt := 160) dJ27_treeify_149 (by decide) rfl (fun c_149_2 => ?_) (fun c_149_2 => ?_)
                  · skip
                    refine aw_aload (n := 162) dJ27_treeify_160 4 rfl rfl ?_
                    rcases optc (rt1 p) with hq_19 | ⟨r162_19, hq_19⟩
                    · skip
                      refine aw_getf (n := 165) (v := .null) (C0 := RJ27) (T := TJ27) dJ27_treeify_162 rfl 8 q1611 (Or.inl rfl) (hT_8 p (Or.inl hp)).1 (congrArg (fun z9 => some (va_rf z9)) (show (up (up rt1 y none) y none) p = none from by simp only [up]; rw [if_neg npy, if_neg npy, hq_19])) rfl ?_
                      refine aw_dup (n := 166) dJ27_treeify_165 rfl rfl ?_
                      refine aw_astoreN (n := 168) (lv' := [(8, .null), (12, .ref p), (9, .int 1), (10, .int ((κ p).1)), (11, .ref ((κ p).2.1)), (7, .ref (gM G 0)), (4, .null), (6, .int ((κ y).1)), (5, .ref ((κ y).2.1)), (3, .ref y), (2, .ref root1), (1, .ref t), (0, .ref hd)]) dJ27_treeify_166 (by decide) rfl rfl ?_
                      refine aw_ifnonnullN (n := 171) dJ27_treeify_168 rfl ?_
                      exact AW.lvs (lv' := [(12, .ref p), (9, .int 1), (4, .null), (3, .ref y), (2, .ref root1), (1, .ref t), (0, .ref hd)]) (AW.eq (lv2 := _) (rfl) rfl rfl rfl rfl (T9 1 (Or.inr ⟨hs9, hd9, hq_19⟩))) (by simp)
                    · skip
                      have k_r162_19 : D r162_19 := BT.ch hBc hp (Or.inr hq_19)
                      refine aw_getf (n := 165) (v := .ref r162_19) (C0 := RJ27) (T := TJ27) dJ27_treeify_162 rfl 8 q1611 (Or.inl rfl) (hT_8 p (Or.inl hp)).1 (congrArg (fun z9 => some (va_rf z9)) (show (up (up rt1 y none) y none) p = some r162_19 from by simp only [up]; rw [if_neg npy, if_neg npy, hq_19])) rfl ?_
                      refine aw_dup (n := 166) dJ27_treeify_165 rfl rfl ?_
                      refine aw_astore (n := 168) (lv' := [(8, .ref r162_19), (12, .ref p), (9, .int 1), (10, .int ((κ p).1)), (11, .ref ((κ p).2.1)), (7, .ref (gM G 0)), (4, .null), (6, .int ((κ y).1)), (5, .ref ((κ y).2.1)), (3, .ref y), (2, .ref root1), (1, .ref t), (0, .ref hd)]) dJ27_treeify_166 (by decide) rfl rfl ?_
                      refine aw_ifnonnull (tgt := 206) dJ27_treeify_168 (by decide) ?_
                      refine aw_goto (tgt := 64) dJ27_treeify_206 (by decide) ?_
                      have t9 := kLH_R hBc hp g2 hd9 hq_19
                      have m9 := t9.2.1
                      exact AW.lvs (lv' := [(8, .ref r162_19), (7, .ref (gM G 0)), (4, .null), (6, .int ((κ y).1)), (5, .ref ((κ y).2.1)), (3, .ref y), (2, .ref root1), (1, .ref t), (0, .ref hd)]) (AW.eq (lv2 := _) (rfl) rfl rfl rfl rfl (ih_64 r162_19 t9.1 t9.2.2.1 t9.2.2.2 (some (gM G 0)) (Or.inr rfl) (by omega))) (by simp)
                  · skip
                    exact absurd c_149_2 (by decide +kernel)
              · skip
                have g9 : spT (tx y) < spT (tx p) := by rw [← hKh, ← hKhy]; exact Int32.not_le.mp c_81
                have hd9 : ltK (spT (tx y), tx y) (spT (tx p), tx p) := Or.inl g9
                have hs9 : (-1 : Int32) ≤ 0 := by decide
                refine aw_iconst (n := 85) (v := (-1)) dJ27_treeify_84 (by decide) rfl ?_
                refine aw_istore (n := 87) (lv' := [(9, .int (-1)), (10, .int ((κ p).1)), (11, .ref ((κ p).2.1)), (8, .ref p), (7, .ref (gM G 0)), (4, .null), (6, .int ((κ y).1)), (5, .ref ((κ y).2.1)), (3, .ref y), (2, .ref root1), (1, .ref t), (0, .ref hd)]) dJ27_treeify_85 (by decide) rfl rfl ?_
                refine aw_goto (tgt := 143) dJ27_treeify_87 (by decide) ?_
                refine aw_aload (n := 145) dJ27_treeify_143 3 rfl rfl ?_
                refine aw_astore (n := 147) (lv' := [(12, .ref p), (9, .int (-1)), (10, .int ((κ p).1)), (11, .ref ((κ p).2.1)), (8, .ref p), (7, .ref (gM G 0)), (4, .null), (6, .int ((κ y).1)), (5, .ref ((κ y).2.1)), (3, .ref y), (2, .ref root1), (1, .ref t), (0, .ref hd)]) dJ27_treeify_145 (by decide) rfl rfl ?_
                refine aw_iload (n := 149) dJ27_treeify_147 1 rfl rfl ?_
                refine aw_if_gt (n := 152) (tgt := 160) dJ27_treeify_149 (by decide) rfl (fun c_149_3 => ?_) (fun c_149_3 => ?_)
                · skip
                  exact absurd c_149_3 (by decide +kernel)
                · skip
                  refine aw_aload (n := 154) dJ27_treeify_152 4 rfl rfl ?_
                  rcases optc (lf1 p) with hq_20 | ⟨l154_20, hq_20⟩
                  · skip
                    refine aw_getf (n := 157) (v := .null) (C0 := RJ27) (T := TJ27) dJ27_treeify_154 rfl 7 q1610 (Or.inl rfl) (hT_8 p (Or.inl hp)).1 (congrArg (fun z9 => some (va_rf z9)) (show (up (up lf1 y none) y none) p = none from by simp only [up]; rw [if_neg npy, if_neg npy, hq_20])) rfl ?_
                    refine aw_goto (tgt := 165) dJ27_treeify_157 (by decide) ?_
                    refine aw_dup (n := 166) dJ27_treeify_165 rfl rfl ?_
                    refine aw_astoreN (n := 168) (lv' := [(8, .null), (12, .ref p), (9, .int (-1)), (10, .int ((κ p).1)), (11, .ref ((κ p).2.1)), (7, .ref (gM G 0)), (4, .null), (6, .int ((κ y).1)), (5, .ref ((κ y).2.1)), (3, .ref y), (2, .ref root1), (1, .ref t), (0, .ref hd)]) dJ27_treeify_166 (by decide) rfl rfl ?_
                    refine aw_ifnonnullN (n := 171) dJ27_treeify_168 rfl ?_
                    exact AW.lvs (lv' := [(12, .ref p), (9, .int (-1)), (4, .null), (3, .ref y), (2, .ref root1), (1, .ref t), (0, .ref hd)]) (AW.eq (lv2 := _) (rfl) rfl rfl rfl rfl (T9 (-1) (Or.inl ⟨hs9, hd9, hq_20⟩))) (by simp)
                  · skip
                    have k_l154_20 : D l154_20 := BT.ch hBc hp (Or.inl hq_20)
                    refine aw_getf (n := 157) (v := .ref l154_20) (C0 := RJ27) (T := TJ27) dJ27_treeify_154 rfl 7 q1610 (Or.inl rfl) (hT_8 p (Or.inl hp)).1 (congrArg (fun z9 => some (va_rf z9)) (show (up (up lf1 y none) y none) p = some l154_20 from by simp only [up]; rw [if_neg npy, if_neg npy, hq_20])) rfl ?_
                    refine aw_goto (tgt := 165) dJ27_treeify_157 (by decide) ?_
                    refine aw_dup (n := 166) dJ27_treeify_165 rfl rfl ?_
                    refine aw_astore (n := 168) (lv' := [(8, .ref l154_20), (12, .ref p), (9, .int (-1)), (10, .int ((κ p).1)), (11, .ref ((κ p).2.1)), (7, .ref (gM G 0)), (4, .null), (6, .int ((κ y).1)), (5, .ref ((κ y).2.1)), (3, .ref y), (2, .ref root1), (1, .ref t), (0, .ref hd)]) dJ27_treeify_166 (by decide) rfl rfl ?_
                    refine aw_ifnonnull (tgt := 206) dJ27_treeify_168 (by decide) ?_
                    refine aw_goto (tgt := 64) dJ27_treeify_206 (by decide) ?_
                    have t9 := kLH_L hBc hp g1 hd9 hq_20
                    have m9 := t9.2.1
                    exact AW.lvs (lv' := [(8, .ref l154_20), (7, .ref (gM G 0)), (4, .null), (6, .int ((κ y).1)), (5, .ref ((κ y).2.1)), (3, .ref y), (2, .ref root1), (1, .ref t), (0, .ref hd)]) (AW.eq (lv2 := _) (rfl) rfl rfl rfl rfl (ih_64 l154_20 t9.1 t9.2.2.1 t9.2.2.2 (some (gM G 0)) (Or.inr rfl) (by omega))) (by simp)
        · skip
          obtain ⟨L3, eL⟩ : ∃ L3, L2 = n9_6 :: L3 := by cases L2 with | nil => rw [hq_6] at hc2; cases hc2 | cons a L3 => exact ⟨L3, by have := hc2.1; rw [hq_6] at this; cases this; rfl⟩
          have m_n9_6 : n9_6 ∈ L2 := by rw [eL]; exact List.mem_cons_self
          have N_n9_6 : N n9_6 := (hND n9_6).mpr (Or.inr (List.mem_cons_of_mem _ m_n9_6))
          have F_n9_6 := hFc.k (hi.2.1 _ _ (hTP n9_6 N_n9_6).1) (hdj n9_6 (List.mem_cons_of_mem _ m_n9_6)) (hTP n9_6 N_n9_6).1
          refine aw_getf (n := 12) (v := .ref n9_6) (C0 := RJ27) (T := TJ27) dJ27_treeify_9 rfl 5 q1557 (Or.inr q1558) (hTm y (Or.inr rfl)).1 (congrArg (fun z9 => some (va_rf z9)) (show nx y = some n9_6 from by exact hq_6)) rfl ?_
          refine aw_cast (n := 15) dJ27_treeify_12 q1532 rfl F_n9_6 (Or.inl rfl) rfl ?_
          refine aw_astore (n := 17) (lv' := [(4, .ref n9_6), (3, .ref y), (2, .ref root1), (1, .ref t), (0, .ref hd)]) dJ27_treeify_15 (by decide) rfl rfl ?_
          refine aw_aload_n (n := 18) dJ27_treeify_17 rfl 1 rfl rfl ?_
          refine aw_aload_n (n := 19) dJ27_treeify_18 rfl 1 rfl rfl ?_
          refine aw_null (n := 20) dJ27_treeify_19 rfl ?_
          refine aw_dup_x1 (n := 21) dJ27_treeify_20 rfl rfl rfl ?_
          refine aw_putK (n := 24) (fs' := [.null, .null, .int (κ y).1, .ref (κ y).2.1, .ref (κ y).2.2, va_rf (nx y), va_rf ((up pa1 y none) y), va_rf ((up lf1 y none) y), va_rf none, va_rf (pv y), .int (bI ((ub rd1 y false) y))]) (C0 := RJ27) (T := TJ27) (N := 11) (ci := 27) dJ27_treeify_21 rfl in_J27 tyJ27 tyJ27_ok nmJ27 q1601 8 (by decide) q1611 (Or.inl rfl) (Or.inl rfl) rfl (hTm y (Or.inr rfl)).1 (hTm y (Or.inr rfl)).2 rfl rfl (Nat.le_of_ble_eq_true rfl) rfl rfl (fun y_21 w_21 => ?_)
          have zy_21 : y_21.1 = hh.1 := w_21.2.2
          have hT_21 := TPic.prt (v := none) hTm w_21
          refine aw_putK (n := 27) (fs' := [.null, .null, .int (κ y).1, .ref (κ y).2.1, .ref (κ y).2.2, va_rf (nx y), va_rf ((up pa1 y none) y), va_rf none, va_rf ((up (up rt1 y none) y none) y), va_rf (pv y), .int (bI ((ub rd1 y false) y))]) (C0 := RJ27) (T := TJ27) (N := 11) (ci := 27) dJ27_treeify_24 rfl in_J27 tyJ27 tyJ27_ok nmJ27 q1601 7 (by decide) q1610 (Or.inl rfl) (Or.inl rfl) rfl (hT_21 y (Or.inr rfl)).1 (hT_21 y (Or.inr rfl)).2 rfl rfl (Nat.le_of_ble_eq_true rfl) rfl rfl (fun y_22 w_22 => ?_)
          have zy_22 : y_22.1 = y_21.1 := w_22.2.2
          have hT_22 := TPic.plf (v := none) hT_21 w_22
          refine aw_aload_n (n := 28) dJ27_treeify_27 rfl 2 rfl rfl ?_
          refine aw_ifnonnull (tgt := 46) dJ27_treeify_28 (by decide) ?_
          refine aw_aload_n (n := 47) dJ27_treeify_46 rfl 1 rfl rfl ?_
          refine aw_getf (n := 50) (v := .ref ((κ y).2.1)) (C0 := RJ27) (T := TJ27) dJ27_treeify_47 rfl 3 q1551 (Or.inr q1552) (hT_22 y (Or.inr rfl)).1 rfl rfl ?_
          refine aw_astore (n := 52) (lv' := [(5, .ref ((κ y).2.1)), (4, .ref n9_6), (3, .ref y), (2, .ref root1), (1, .ref t), (0, .ref hd)]) dJ27_treeify_50 (by decide) rfl rfl ?_
          refine aw_aload_n (n := 53) dJ27_treeify_52 rfl 2 rfl rfl ?_
          refine aw_getf (n := 56) (v := .int ((κ y).1)) (C0 := RJ27) (T := TJ27) dJ27_treeify_53 rfl 2 q1547 (Or.inr q1548) (hT_22 y (Or.inr rfl)).1 rfl rfl ?_
          refine aw_istore (n := 58) (lv' := [(6, .int ((κ y).1)), (5, .ref ((κ y).2.1)), (4, .ref n9_6), (3, .ref y), (2, .ref root1), (1, .ref t), (0, .ref hd)]) dJ27_treeify_56 (by decide) rfl rfl ?_
          refine aw_null (n := 59) dJ27_treeify_58 rfl ?_
          refine aw_astoreN (n := 61) (lv' := [(7, .null), (6, .int ((κ y).1)), (5, .ref ((κ y).2.1)), (4, .ref n9_6), (3, .ref y), (2, .ref root1), (1, .ref t), (0, .ref hd)]) dJ27_treeify_59 (by decide) rfl rfl ?_
          refine aw_aload_n (n := 62) dJ27_treeify_61 rfl 5 rfl rfl ?_
          refine aw_astore (n := 64) (lv' := [(8, .ref root1), (7, .null), (6, .int ((κ y).1)), (5, .ref ((κ y).2.1)), (4, .ref n9_6), (3, .ref y), (2, .ref root1), (1, .ref t), (0, .ref hd)]) dJ27_treeify_62 (by decide) rfl rfl ?_
          have hFd : Fr (fun q => D q ∨ q = y) h y_22 := (Fr.w (Fr.w (Fr.c Fr.rf hFc (fun _ z9 => Or.inl (Or.inl z9))) w_21 (Or.inl (Or.inr rfl))) w_22 (Or.inl (Or.inr rfl)))
          have hKd := KP.fr hi hK hFd (fun a z9 => Or.inl ⟨_, (hTP a ((hND a).mpr (z9.elim Or.inl (fun e9 => Or.inr (by rw [e9]; exact List.mem_cons_self))))).1⟩)
          obtain ⟨⟨uy8, hKy⟩, hKhy, hKy8⟩ := hKd y hNy
          suffices L_64 : ∀ (m_ : Nat) (p : Nat)  (hp : D p) (g1 : kL tx (tx y) lo1 p) (g2 : kH tx (tx y) hi1 p) (kc : Option Nat) (hkc : kc = none ∨ kc = some (gM G 0)), ht1 p < m_ → AW G kJ27_treeify ((13, 376, 0, 0), (fun z h1 => z = none ∧ ∃ (root1 : Nat) (nx1 pa1 lf1 rt1 pv1 : oF) (rd1 : Nat → Bool) (lo1 hi1 : oF) (ht1 : Nat → Nat) (B1 : Nat), TPic G h1 N κ nx1 pa1 lf1 rt1 pv1 rd1 ∧ BT (ltM tx) N pa1 lf1 rt1 root1 lo1 hi1 ht1 B1 ∧ LW N nx1 pv1 ∧ nx1 root1 ≠ none ∧ (∃ f1 : Nat → Value, h1.2 t = some (har 5 n f1) ∧ f1 i = .ref root1 ∧ ∀ j, j ≠ i → f1 j = f j) ∧ Fr (fun q => N q ∨ q = t) h h1 ∧ h1.1 = h.1), nX) 64 [(8, .ref p), (7, va_rf kc), (4, .ref n9_6), (6, .int ((κ y).1)), (5, .ref ((κ y).2.1)), (3, .ref y), (2, .ref root1), (1, .ref t), (0, .ref hd)] [] y_22 0 0 from
            AW.lvs (lv' := [(8, .ref root1), (7, .null), (4, .ref n9_6), (6, .int ((κ y).1)), (5, .ref ((κ y).2.1)), (3, .ref y), (2, .ref root1), (1, .ref t), (0, .ref hd)]) (AW.eq (lv2 := _) (rfl) rfl rfl rfl rfl (L_64 _ root1 hBc.1 (fun y e => by rw [hBc.2.2.1] at e; cases e) (fun y e => by rw [hBc.2.2.2.1] at e; cases e) none (Or.inl rfl) (Nat.lt_succ_self _))) (by simp)
          intro m_
          induction m_ with
          | zero => intro p hp g1 g2 kc hkc h_m; exact absurd h_m (Nat.not_lt_zero _)
          | succ m_ ih_64 =>
            intro p hp g1 g2 kc hkc h_m
            have npy : p ≠ y := fun e9 => nDy (e9 ▸ hp)
            obtain ⟨⟨up9, hKp⟩, hKh, hK8⟩ := hKd p ((hND p).mpr (Or.inl hp))
            have okb := hKy.ok; have okp := hKp.ok
            have T9 : ∀ (d9 : Int32), ((d9 ≤ 0 ∧ ltK (spT (tx y), tx y) (spT (tx p), tx p) ∧ lf1 p = none) ∨ (0 < d9 ∧ ltK (spT (tx p), tx p) (spT (tx y), tx y) ∧ rt1 p = none)) → AW G kJ27_treeify ((13, 376, 0, 0), (fun z h1 => z = none ∧ ∃ (root1 : Nat) (nx1 pa1 lf1 rt1 pv1 : oF) (rd1 : Nat → Bool) (lo1 hi1 : oF) (ht1 : Nat → Nat) (B1 : Nat), TPic G h1 N κ nx1 pa1 lf1 rt1 pv1 rd1 ∧ BT (ltM tx) N pa1 lf1 rt1 root1 lo1 hi1 ht1 B1 ∧ LW N nx1 pv1 ∧ nx1 root1 ≠ none ∧ (∃ f1 : Nat → Value, h1.2 t = some (har 5 n f1) ∧ f1 i = .ref root1 ∧ ∀ j, j ≠ i → f1 j = f j) ∧ Fr (fun q => N q ∨ q = t) h h1 ∧ h1.1 = h.1), nX) 171 [(12, .ref p), (9, .int d9), (4, .ref n9_6), (3, .ref y), (2, .ref root1), (1, .ref t), (0, .ref hd)] [] y_22 0 0 := by
              intro d9 hd9
              rcases hd9 with ⟨hd1, hd2, hd3⟩ | ⟨hd1, hd2, hd3⟩
              · skip
                refine aw_aload_n (n := 172) dJ27_treeify_171 rfl 3 rfl rfl ?_
                refine aw_aload (n := 174) dJ27_treeify_172 0 rfl rfl ?_
                refine aw_putK (n := 177) (fs' := [.null, .null, .int (κ y).1, .ref (κ y).2.1, .ref (κ y).2.2, va_rf (nx y), va_rf (some p), va_rf ((up (up lf1 y none) y none) y), va_rf ((up (up rt1 y none) y none) y), va_rf (pv y), .int (bI ((ub rd1 y false) y))]) (C0 := RJ27) (T := TJ27) (N := 11) (ci := 27) dJ27_treeify_174 rfl in_J27 tyJ27 tyJ27_ok nmJ27 q1601 6 (by decide) q1609 (Or.inl rfl) (Or.inl rfl) rfl (hT_22 y (Or.inr rfl)).1 (hT_22 y (Or.inr rfl)).2 rfl rfl (Nat.le_of_ble_eq_true rfl) rfl rfl (fun y_23 w_23 => ?_)
                have zy_23 : y_23.1 = y_22.1 := w_23.2.2
                have hT_23 := TPic.ppa (v := some p) hT_22 w_23
                refine aw_iload (n := 179) dJ27_treeify_177 1 rfl rfl ?_
                refine aw_if_gt (n := 182) (tgt := 191) dJ27_treeify_179 (by decide) rfl (fun c_179 => ?_) (fun c_179 => ?_)
                · skip
                  exact absurd c_179 (Int32.not_lt.mpr hd1)
                · skip
                  refine aw_aload (n := 184) dJ27_treeify_182 0 rfl rfl ?_
                  refine aw_aload_n (n := 185) dJ27_treeify_184 rfl 3 rfl rfl ?_
                  refine aw_putK (n := 188) (fs' := [.null, .null, .int (κ p).1, .ref (κ p).2.1, .ref (κ p).2.2, va_rf (nx p), va_rf ((up (up pa1 y none) y (some p)) p), va_rf (some y), va_rf ((up (up rt1 y none) y none) p), va_rf (pv p), .int (bI ((ub rd1 y false) p))]) (C0 := RJ27) (T := TJ27) (N := 11) (ci := 27) dJ27_treeify_185 rfl in_J27 tyJ27 tyJ27_ok nmJ27 q1601 7 (by decide) q1610 (Or.inl rfl) (Or.inl rfl) rfl (hT_23 p (Or.inl hp)).1 (hT_23 p (Or.inl hp)).2 rfl rfl (Nat.le_of_ble_eq_true rfl) rfl rfl (fun y_24 w_24 => ?_)
                  have zy_24 : y_24.1 = y_23.1 := w_24.2.2
                  have hT_24 := TPic.plf (v := some y) hT_23 w_24
                  refine aw_goto (tgt := 197) dJ27_treeify_188 (by decide) ?_
                  refine aw_aload_n (n := 198) dJ27_treeify_197 rfl 4 rfl rfl ?_
                  refine aw_aload_n (n := 199) dJ27_treeify_198 rfl 3 rfl rfl ?_
                  obtain ⟨lo0, hi0_, ht0, hB0⟩ := leafL2 hBc (fun a b ha hb => htr a b ((hND a).mpr (Or.inl ha)) ((hND b).mpr (Or.inl hb))) (fun a ha => (hKc a ((hND a).mpr (Or.inl ha))).1.choose_spec.ok) nDy hp g1 hd2 hd3
                  refine aw_callS (n := 202) (As := [.ref root1, .ref y]) (rest := []) (K2 := kJ27_balanceInsertion) dJ27_treeify_199 q1575 q1576 q145 q1577 hcJ27_balanceInsertion (hm_bal G y_24 (fun q => D q ∨ q = y) κ nx (up (up pa1 y none) y (some p)) (up (up (up lf1 y none) y none) p (some y)) (up (up rt1 y none) y none) pv (ub rd1 y false) hT_24 (ltM tx) root1 lo0 hi0_ ht0 (B1 + 1) hB0 (ltN3 _) y (Or.inr rfl)) rfl (Nat.le_of_ble_eq_true rfl) ⟨Nat.le_of_ble_eq_true rfl, Nat.le_of_ble_eq_true rfl⟩ ⟨by first | omega | (dsimp only; omega) | decide, by first | omega | (dsimp only; omega) | decide⟩ (fun _ _ _ z => z.elim) rfl (fun r_199 h_199 q_199 => ?_)
                  obtain ⟨root2, pa2, lf2, rt2, rd2, lo2, hi2, ht2, B2, rfl, hT2, hB2, hFb, hzb⟩ := q_199
                  have zc_199 : y_24.1 ≤ h_199.1 := hFb.1
                  refine AW.sts (st' := [.ref root2]) rfl ?_
                  refine aw_astore_n (n := 203) (lv' := [(2, .ref root2), (12, .ref p), (9, .int d9), (4, .ref n9_6), (3, .ref y), (1, .ref t), (0, .ref hd)]) dJ27_treeify_202 rfl (by decide) rfl rfl ?_
                  refine aw_goto (tgt := 209) dJ27_treeify_203 (by decide) ?_
                  refine aw_aload (n := 211) dJ27_treeify_209 3 rfl rfl ?_
                  refine aw_astore_n (n := 212) (lv' := [(3, .ref n9_6), (2, .ref root2), (12, .ref p), (9, .int d9), (4, .ref n9_6), (1, .ref t), (0, .ref hd)]) dJ27_treeify_211 rfl (by decide) rfl rfl ?_
                  refine aw_goto (tgt := 4) dJ27_treeify_212 (by decide) ?_
                  have g9 : (y :: L2).length = L2.length + 1 := rfl
                  exact AW.lvs (lv' := [(3, .ref n9_6), (2, .ref root2), (1, .ref t), (0, .ref hd)]) (AW.eq (lv2 := _) (rfl) rfl rfl rfl rfl (ih_4 h_199 (fun q => D q ∨ q = y) L2 (some n9_6) root2 pa2 lf2 rt2 rd2 lo2 hi2 ht2 B2 hT2 hB2 (by rw [← hq_6]; exact hc2) (fun q => (hND q).trans (by rw [List.mem_cons, or_assoc])) (fun q m9 e9 => e9.elim (hdj q (List.mem_cons_of_mem _ m9)) (fun e8 => (List.nodup_cons.mp hnl).1 (e8 ▸ m9))) (List.nodup_cons.mp hnl).2 (Fr.c (Fr.w (Fr.w (Fr.w (Fr.w (Fr.c Fr.rf hFc (fun _ z9 => Or.inl (Or.inl z9))) w_21 (Or.inl (Or.inr rfl))) w_22 (Or.inl (Or.inr rfl))) w_23 (Or.inl (Or.inr rfl))) w_24 (Or.inl (Or.inl hp))) hFb (fun a9 z9 => Or.inl z9)) (by omega) (by omega))) (by simp)
              · skip
                refine aw_aload_n (n := 172) dJ27_treeify_171 rfl 3 rfl rfl ?_
                refine aw_aload (n := 174) dJ27_treeify_172 0 rfl rfl ?_
                refine aw_putK (n := 177) (fs' := [.null, .null, .int (κ y).1, .ref (κ y).2.1, .ref (κ y).2.2, va_rf (nx y), va_rf (some p), va_rf ((up (up lf1 y none) y none) y), va_rf ((up (up rt1 y none) y none) y), va_rf (pv y), .int (bI ((ub rd1 y false) y))]) (C0 := RJ27) (T := TJ27) (N := 11) (ci := 27) dJ27_treeify_174 rfl in_J27 tyJ27 tyJ27_ok nmJ27 q1601 6 (by decide) q1609 (Or.inl rfl) (Or.inl rfl) rfl (hT_22 y (Or.inr rfl)).1 (hT_22 y (Or.inr rfl)).2 rfl rfl (Nat.le_of_ble_eq_true rfl) rfl rfl (fun y_25 w_25 => ?_)
                have zy_25 : y_25.1 = y_22.1 := w_25.2.2
                have hT_25 := TPic.ppa (v := some p) hT_22 w_25
                refine aw_iload (n := 179) dJ27_treeify_177 1 rfl rfl ?_
                refine aw_if_gt (n := 182) (tgt := 191) dJ27_treeify_179 (by decide) rfl (fun c_179 => ?_) (fun c_179 => ?_)
                · skip
                  refine aw_aload (n := 193) dJ27_treeify_191 0 rfl rfl ?_
                  refine aw_aload_n (n := 194) dJ27_treeify_193 rfl 3 rfl rfl ?_
                  refine aw_putK (n := 197) (fs' := [.null, .null, .int (κ p).1, .ref (κ p).2.1, .ref (κ p).2.2, va_rf (nx p), va_rf ((up (up pa1 y none) y (some p)) p), va_rf ((up (up lf1 y none) y none) p), va_rf (some y), va_rf (pv p), .int (bI ((ub rd1 y false) p))]) (C0 := RJ27) (T := TJ27) (N := 11) (ci := 27) dJ27_treeify_194 rfl in_J27 tyJ27 tyJ27_ok nmJ27 q1601 8 (by decide) q1611 (Or.inl rfl) (Or.inl rfl) rfl (hT_25 p (Or.inl hp)).1 (hT_25 p (Or.inl hp)).2 rfl rfl (Nat.le_of_ble_eq_true rfl) rfl rfl (fun y_26 w_26 => ?_)
                  have zy_26 : y_26.1 = y_25.1 := w_26.2.2
                  have hT_26 := TPic.prt (v := some y) hT_25 w_26
                  refine aw_aload_n (n := 198) dJ27_treeify_197 rfl 4 rfl rfl ?_
                  refine aw_aload_n (n := 199) dJ27_treeify_198 rfl 3 rfl rfl ?_
                  obtain ⟨lo0, hi0_, ht0, hB0⟩ := leafR2 hBc (fun a b ha hb => htr a b ((hND a).mpr (Or.inl ha)) ((hND b).mpr (Or.inl hb))) (fun a ha => (hKc a ((hND a).mpr (Or.inl ha))).1.choose_spec.ok) nDy hp g2 hd2 hd3
                  refine aw_callS (n := 202) (As := [.ref root1, .ref y]) (rest := []) (K2 := kJ27_balanceInsertion) dJ27_treeify_199 q1575 q1576 q145 q1577 hcJ27_balanceInsertion (hm_bal G y_26 (fun q => D q ∨ q = y) κ nx (up (up pa1 y none) y (some p)) (up (up lf1 y none) y none) (up (up (up rt1 y none) y none) p (some y)) pv (ub rd1 y false) hT_26 (ltM tx) root1 lo0 hi0_ ht0 (B1 + 1) hB0 (ltN3 _) y (Or.inr rfl)) rfl (Nat.le_of_ble_eq_true rfl) ⟨Nat.le_of_ble_eq_true rfl, Nat.le_of_ble_eq_true rfl⟩ ⟨by first | omega | (dsimp only; omega) | decide, by first | omega | (dsimp only; omega) | decide⟩ (fun _ _ _ z => z.elim) rfl (fun r_199 h_199 q_199 => ?_)
                  obtain ⟨root2, pa2, lf2, rt2, rd2, lo2, hi2, ht2, B2, rfl, hT2, hB2, hFb, hzb⟩ := q_199
                  have zc_199 : y_26.1 ≤ h_199.1 := hFb.1
                  refine AW.sts (st' := [.ref root2]) rfl ?_
                  refine aw_astore_n (n := 203) (lv' := [(2, .ref root2), (12, .ref p), (9, .int d9), (4, .ref n9_6), (3, .ref y), (1, .ref t), (0, .ref hd)]) dJ27_treeify_202 rfl (by decide) rfl rfl ?_
                  refine aw_goto (tgt := 209) dJ27_treeify_203 (by decide) ?_
                  refine aw_aload (n := 211) dJ27_treeify_209 3 rfl rfl ?_
                  refine aw_astore_n (n := 212) (lv' := [(3, .ref n9_6), (2, .ref root2), (12, .ref p), (9, .int d9), (4, .ref n9_6), (1, .ref t), (0, .ref hd)]) dJ27_treeify_211 rfl (by decide) rfl rfl ?_
                  refine aw_goto (tgt := 4) dJ27_treeify_212 (by decide) ?_
                  have g9 : (y :: L2).length = L2.length + 1 := rfl
                  exact AW.lvs (lv' := [(3, .ref n9_6), (2, .ref root2), (1, .ref t), (0, .ref hd)]) (AW.eq (lv2 := _) (rfl) rfl rfl rfl rfl (ih_4 h_199 (fun q => D q ∨ q = y) L2 (some n9_6) root2 pa2 lf2 rt2 rd2 lo2 hi2 ht2 B2 hT2 hB2 (by rw [← hq_6]; exact hc2) (fun q => (hND q).trans (by rw [List.mem_cons, or_assoc])) (fun q m9 e9 => e9.elim (hdj q (List.mem_cons_of_mem _ m9)) (fun e8 => (List.nodup_cons.mp hnl).1 (e8 ▸ m9))) (List.nodup_cons.mp hnl).2 (Fr.c (Fr.w (Fr.w (Fr.w (Fr.w (Fr.c Fr.rf hFc (fun _ z9 => Or.inl (Or.inl z9))) w_21 (Or.inl (Or.inr rfl))) w_22 (Or.inl (Or.inr rfl))) w_25 (Or.inl (Or.inr rfl))) w_26 (Or.inl (Or.inl hp))) hFb (fun a9 z9 => Or.inl z9)) (by omega) (by omega))) (by simp)
                · skip
                  exact absurd hd1 c_179
            rcases hkc with rfl | rfl
            · skip
              refine AW.eq (lv2 := [(8, .ref p), (7, .null), (4, .ref n9_6), (6, .int ((κ y).1)), (5, .ref ((κ y).2.1)), (3, .ref y), (2, .ref root1), (1, .ref t), (0, .ref hd)]) (s2 := []) rfl rfl rfl rfl rfl ?_
              refine aw_aload (n := 66) dJ27_treeify_64 0 rfl rfl ?_
              refine aw_getf (n := 69) (v := .ref ((κ p).2.1)) (C0 := RJ27) (T := TJ27) dJ27_treeify_66 rfl 3 q1551 (Or.inr q1552) (hT_22 p (Or.inl hp)).1 rfl rfl ?_
              refine aw_astore (n := 71) (lv' := [(11, .ref ((κ p).2.1)), (8, .ref p), (7, .null), (4, .ref n9_6), (6, .int ((κ y).1)), (5, .ref ((κ y).2.1)), (3, .ref y), (2, .ref root1), (1, .ref t), (0, .ref hd)]) dJ27_treeify_69 (by decide) rfl rfl ?_
              refine aw_aload (n := 73) dJ27_treeify_71 1 rfl rfl ?_
              refine aw_getf (n := 76) (v := .int ((κ p).1)) (C0 := RJ27) (T := TJ27) dJ27_treeify_73 rfl 2 q1547 (Or.inr q1548) (hT_22 p (Or.inl hp)).1 rfl rfl ?_
              refine aw_dup (n := 77) dJ27_treeify_76 rfl rfl ?_
              refine aw_istore (n := 79) (lv' := [(10, .int ((κ p).1)), (11, .ref ((κ p).2.1)), (8, .ref p), (7, .null), (4, .ref n9_6), (6, .int ((κ y).1)), (5, .ref ((κ y).2.1)), (3, .ref y), (2, .ref root1), (1, .ref t), (0, .ref hd)]) dJ27_treeify_77 (by decide) rfl rfl ?_
              refine aw_iload (n := 81) dJ27_treeify_79 5 rfl rfl ?_
              refine aw_icmp_le (n := 84) (tgt := 90) dJ27_treeify_81 (by decide) rfl (fun c_81 => ?_) (fun c_81 => ?_)
              · skip
                refine aw_iload (n := 92) dJ27_treeify_90 0 rfl rfl ?_
                refine aw_iload (n := 94) dJ27_treeify_92 5 rfl rfl ?_
                refine aw_icmp_ge (n := 97) (tgt := 103) dJ27_treeify_94 (by decide) rfl (fun c_94 => ?_) (fun c_94 => ?_)
                · skip
                  have eh : spT (tx y) = spT (tx p) := by rw [← hKh, ← hKhy]; exact Int32.le_antisymm c_94 c_81
                  have nt : tx y ≠ tx p := htr y p hNy ((hND p).mpr (Or.inl hp)) (Ne.symm npy)
                  refine aw_aloadN (n := 105) dJ27_treeify_103 3 rfl rfl ?_
                  refine aw_ifnonnullN (n := 108) dJ27_treeify_105 rfl ?_
                  refine aw_aload (n := 110) dJ27_treeify_108 6 rfl rfl ?_
                  refine aw_callS (n := 113) (As := [.ref ((κ y).2.1)]) (rest := []) (K2 := kJ4_comparableClassFor) dJ27_treeify_110 q1225 q1226 q112 q1227 hcJ4_comparableClassFor (hm_compF G y_22 (κ y).2.1 uy8 (tx y) _ _ hKy) rfl (Nat.le_of_ble_eq_true rfl) ⟨Nat.le_of_ble_eq_true rfl, Nat.le_of_ble_eq_true rfl⟩ ⟨by first | omega | (dsimp only; omega) | decide, by first | omega | (dsimp only; omega) | decide⟩ (fun _ _ _ z => z.elim) rfl (fun r_110 h_110 q_110 => ?_)
                  obtain ⟨rfl, rfl⟩ := q_110
                  refine AW.sts (st' := [.ref (gM G 0)]) rfl ?_
                  refine aw_dup (n := 114) dJ27_treeify_113 rfl rfl ?_
                  refine aw_astore (n := 116) (lv' := [(7, .ref (gM G 0)), (10, .int ((κ p).1)), (11, .ref ((κ p).2.1)), (8, .ref p), (4, .ref n9_6), (6, .int ((κ y).1)), (5, .ref ((κ y).2.1)), (3, .ref y), (2, .ref root1), (1, .ref t), (0, .ref hd)]) dJ27_treeify_114 (by decide) rfl rfl ?_
                  refine aw_ifnull (n := 119) dJ27_treeify_116 rfl ?_
                  refine aw_aload (n := 121) dJ27_treeify_119 0 rfl rfl ?_
                  refine aw_aload (n := 123) dJ27_treeify_121 6 rfl rfl ?_
                  refine aw_aload (n := 125) dJ27_treeify_123 2 rfl rfl ?_
                  refine aw_callS (n := 128) (As := [.ref (gM G 0), .ref ((κ y).2.1), .ref ((κ p).2.1)]) (rest := []) (K2 := kJ4_compareComparables) dJ27_treeify_125 q1231 q1232 q112 q1233 hcJ4_compareComparables (hm_cmpC G y_22 (κ y).2.1 uy8 (κ p).2.1 up9 (tx y) (tx p) _ _ _ _ hKy hKp (Or.inl hKy8)) rfl (Nat.le_of_ble_eq_true rfl) ⟨Nat.le_of_ble_eq_true rfl, Nat.le_of_ble_eq_true rfl⟩ ⟨by first | omega | (dsimp only; omega) | decide, by first | omega | (dsimp only; omega) | decide⟩ (fun _ _ _ z => z.elim) rfl (fun r_125 h_125 q_125 => ?_)
                  obtain ⟨rfl, rfl⟩ := q_125
                  refine AW.sts (st' := [.int (cmpT (tx y) (tx p))]) rfl ?_
                  refine aw_dup (n := 129) dJ27_treeify_128 rfl rfl ?_
                  refine aw_istore (n := 131) (lv' := [(9, .int (cmpT (tx y) (tx p))), (7, .ref (gM G 0)), (10, .int ((κ p).1)), (11, .ref ((κ p).2.1)), (8, .ref p), (4, .ref n9_6), (6, .int ((κ y).1)), (5, .ref ((κ y).2.1)), (3, .ref y), (2, .ref root1), (1, .ref t), (0, .ref hd)]) dJ27_treeify_129 (by decide) rfl rfl ?_
                  refine aw_if_ne (n := 134) (tgt := 143) dJ27_treeify_131 (by decide) rfl (fun c_131 => ?_) (fun c_131 => ?_)
                  · skip
                    refine aw_aload (n := 145) dJ27_treeify_143 4 rfl rfl ?_
                    refine aw_astore (n := 147) (lv' := [(12, .ref p), (9, .int (cmpT (tx y) (tx p))), (7, .ref (gM G 0)), (10, .int ((κ p).1)), (11, .ref ((κ p).2.1)), (8, .ref p), (4, .ref n9_6), (6, .int ((κ y).1)), (5, .ref ((κ y).2.1)), (3, .ref y), (2, .ref root1), (1, .ref t), (0, .ref hd)]) dJ27_treeify_145 (by decide) rfl rfl ?_
                    refine aw_iload (n := 149) dJ27_treeify_147 1 rfl rfl ?_
                    refine aw_if_gt (n := 152) (tgt := 160) dJ27_treeify_149 (by decide) rfl (fun c_149 => ?_) (fun c_149 => ?_)
                    · skip
                      have hs9 : 0 < cmpT (tx y) (tx p) := c_149
                      have hd9 : ltK (spT (tx p), tx p) (spT (tx y), tx y) := (by rcases ltX_cmp okb.1 okp.1 okb.2 okp.2 with z | z | z; exact absurd z.1 (fun e9 => absurd (Int32.lt_trans c_149 e9) Int32.lt_irrefl); exact absurd z.2 nt; exact Or.inr ⟨eh.symm, z.2⟩)
                      refine aw_aload (n := 162) dJ27_treeify_160 5 rfl rfl ?_
                      rcases optc (rt1 p) with hq_27 | ⟨r162_27, hq_27⟩
                      · skip
                        refine aw_getf (n := 165) (v := .null) (C0 := RJ27) (T := TJ27) dJ27_treeify_162 rfl 8 q1611 (Or.inl rfl) (hT_22 p (Or.inl hp)).1 (congrArg (fun z9 => some (va_rf z9)) (show (up (up rt1 y none) y none) p = none from by simp only [up]; rw [if_neg npy, if_neg npy, hq_27])) rfl ?_
                        refine aw_dup (n := 166) dJ27_treeify_165 rfl rfl ?_
                        refine aw_astoreN (n := 168) (lv' := [(8, .null), (12, .ref p), (9, .int (cmpT (tx y) (tx p))), (7, .ref (gM G 0)), (10, .int ((κ p).1)), (11, .ref ((κ p).2.1)), (4, .ref n9_6), (6, .int ((κ y).1)), (5, .ref ((κ y).2.1)), (3, .ref y), (2, .ref root1), (1, .ref t), (0, .ref hd)]) dJ27_treeify_166 (by decide) rfl rfl ?_
                        refine aw_ifnonnullN (n := 171) dJ27_treeify_168 rfl ?_
                        exact AW.lvs (lv' := [(12, .ref p), (9, .int (cmpT (tx y) (tx p))), (4, .ref n9_6), (3, .ref y), (2, .ref root1), (1, .ref t), (0, .ref hd)]) (AW.eq (lv2 := _) (rfl) rfl rfl rfl rfl (T9 (cmpT (tx y) (tx p)) (Or.inr ⟨hs9, hd9, hq_27⟩))) (by simp)
                      · skip
                        have k_r162_27 : D r162_27 := BT.ch hBc hp (Or.inr hq_27)
                        refine aw_getf (n := 165) (v := .ref r162_27) (C0 := RJ27) (T := TJ27) dJ27_treeify_162 rfl 8 q1611 (Or.inl rfl) (hT_22 p (Or.inl hp)).1 (congrArg (fun z9 => some (va_rf z9)) (show (up (up rt1 y none) y none) p = some r162_27 from by simp only [up]; rw [if_neg npy, if_neg npy, hq_27])) rfl ?_
                        refine aw_dup (n := 166) dJ27_treeify_165 rfl rfl ?_
                        refine aw_astore (n := 168) (lv' := [(8, .ref r162_27), (12, .ref p), (9, .int (cmpT (tx y) (tx p))), (7, .ref (gM G 0)), (10, .int ((κ p).1)), (11, .ref ((κ p).2.1)), (4, .ref n9_6), (6, .int ((κ y).1)), (5, .ref ((κ y).2.1)), (3, .ref y), (2, .ref root1), (1, .ref t), (0, .ref hd)]) dJ27_treeify_166 (by decide) rfl rfl ?_
                        refine aw_ifnonnull (tgt := 206) dJ27_treeify_168 (by decide) ?_
                        refine aw_goto (tgt := 64) dJ27_treeify_206 (by decide) ?_
                        have t9 := kLH_R hBc hp g2 hd9 hq_27
                        have m9 := t9.2.1
                        exact AW.lvs (lv' := [(8, .ref r162_27), (7, .ref (gM G 0)), (4, .ref n9_6), (6, .int ((κ y).1)), (5, .ref ((κ y).2.1)), (3, .ref y), (2, .ref root1), (1, .ref t), (0, .ref hd)]) (AW.eq (lv2 := _) (rfl) rfl rfl rfl rfl (ih_64 r162_27 t9.1 t9.2.2.1 t9.2.2.2 (some (gM G 0)) (Or.inr rfl) (by omega))) (by simp)
                    · skip
                      have hs9 : cmpT (tx y) (tx p) ≤ 0 := Int32.not_lt.mp c_149
                      have hd9 : ltK (spT (tx y), tx y) (spT (tx p), tx p) := (by rcases ltX_cmp okb.1 okp.1 okb.2 okp.2 with z | z | z; exact Or.inr ⟨eh, z.2⟩; exact absurd z.2 nt; exact absurd z.1 c_149)
                      refine aw_aload (n := 154) dJ27_treeify_152 5 rfl rfl ?_
                      rcases optc (lf1 p) with hq_28 | ⟨l154_28, hq_28⟩
                      · skip
                        refine aw_getf (n := 157) (v := .null) (C0 := RJ27) (T := TJ27) dJ27_treeify_154 rfl 7 q1610 (Or.inl rfl) (hT_22 p (Or.inl hp)).1 (congrArg (fun z9 => some (va_rf z9)) (show (up (up lf1 y none) y none) p = none from by simp only [up]; rw [if_neg npy, if_neg npy, hq_28])) rfl ?_
                        refine aw_goto (tgt := 165) dJ27_treeify_157 (by decide) ?_
                        refine aw_dup (n := 166) dJ27_treeify_165 rfl rfl ?_
                        refine aw_astoreN (n := 168) (lv' := [(8, .null), (12, .ref p), (9, .int (cmpT (tx y) (tx p))), (7, .ref (gM G 0)), (10, .int ((κ p).1)), (11, .ref ((κ p).2.1)), (4, .ref n9_6), (6, .int ((κ y).1)), (5, .ref ((κ y).2.1)), (3, .ref y), (2, .ref root1), (1, .ref t), (0, .ref hd)]) dJ27_treeify_166 (by decide) rfl rfl ?_
                        refine aw_ifnonnullN (n := 171) dJ27_treeify_168 rfl ?_
                        exact AW.lvs (lv' := [(12, .ref p), (9, .int (cmpT (tx y) (tx p))), (4, .ref n9_6), (3, .ref y), (2, .ref root1), (1, .ref t), (0, .ref hd)]) (AW.eq (lv2 := _) (rfl) rfl rfl rfl rfl (T9 (cmpT (tx y) (tx p)) (Or.inl ⟨hs9, hd9, hq_28⟩))) (by simp)
                      · skip
                        have k_l154_28 : D l154_28 := BT.ch hBc hp (Or.inl hq_28)
                        refine aw_getf (n := 157) (v := .ref l154_28) (C0 := RJ27) (T := TJ27) dJ27_treeify_154 rfl 7 q1610 (Or.inl rfl) (hT_22 p (Or.inl hp)).1 (congrArg (fun z9 => some (va_rf z9)) (show (up (up lf1 y none) y none) p = some l154_28 from by simp only [up]; rw [if_neg npy, if_neg npy, hq_28])) rfl ?_
                        refine aw_goto (tgt := 165) dJ27_treeify_157 (by decide) ?_
                        refine aw_dup (n := 166) dJ27_treeify_165 rfl rfl ?_
                        refine aw_astore (n := 168) (lv' := [(8, .ref l154_28), (12, .ref p), (9, .int (cmpT (tx y) (tx p))), (7, .ref (gM G 0)), (10, .int ((κ p).1)), (11, .ref ((κ p).2.1)), (4, .ref n9_6), (6, .int ((κ y).1)), (5, .ref ((κ y).2.1)), (3, .ref y), (2, .ref root1), (1, .ref t), (0, .ref hd)]) dJ27_treeify_166 (by decide) rfl rfl ?_
                        refine aw_ifnonnull (tgt := 206) dJ27_treeify_168 (by decide) ?_
                        refine aw_goto (tgt := 64) dJ27_treeify_206 (by decide) ?_
                        have t9 := kLH_L hBc hp g1 hd9 hq_28
                        have m9 := t9.2.1
                        exact AW.lvs (lv' := [(8, .ref l154_28), (7, .ref (gM G 0)), (4, .ref n9_6), (6, .int ((κ y).1)), (5, .ref ((κ y).2.1)), (3, .ref y), (2, .ref root1), (1, .ref t), (0, .ref hd)]) (AW.eq (lv2 := _) (rfl) rfl rfl rfl rfl (ih_64 l154_28 t9.1 t9.2.2.1 t9.2.2.2 (some (gM G 0)) (Or.inr rfl) (by omega))) (by simp)
                  · skip
                    exfalso; rcases ltX_cmp okb.1 okp.1 okb.2 okp.2 with z | z | z; rw [c_131] at z; exact absurd z.1 (by decide); exact nt z.2; rw [c_131] at z; exact absurd z.1 (by decide)
                · skip
                  have g9 : spT (tx p) < spT (tx y) := by rw [← hKh, ← hKhy]; exact Int32.not_le.mp c_94
                  have hd9 : ltK (spT (tx p), tx p) (spT (tx y), tx y) := Or.inl g9
                  have hs9 : (0 : Int32) < 1 := by decide
                  refine aw_iconst (n := 98) (v := 1) dJ27_treeify_97 (by decide) rfl ?_
                  refine aw_istore (n := 100) (lv' := [(9, .int 1), (10, .int ((κ p).1)), (11, .ref ((κ p).2.1)), (8, .ref p), (7, .null), (4, .ref n9_6), (6, .int ((κ y).1)), (5, .ref ((κ y).2.1)), (3, .ref y), (2, .ref root1), (1, .ref t), (0, .ref hd)]) dJ27_treeify_98 (by decide) rfl rfl ?_
                  refine aw_goto (tgt := 143) dJ27_treeify_100 (by decide) ?_
                  refine aw_aload (n := 145) dJ27_treeify_143 3 rfl rfl ?_
                  refine aw_astore (n := 147) (lv' := [(12, .ref p), (9, .int 1), (10, .int ((κ p).1)), (11, .ref ((κ p).2.1)), (8, .ref p), (7, .null), (4, .ref n9_6), (6, .int ((κ y).1)), (5, .ref ((κ y).2.1)), (3, .ref y), (2, .ref root1), (1, .ref t), (0, .ref hd)]) dJ27_treeify_145 (by decide) rfl rfl ?_
                  refine aw_iload (n := 149) dJ27_treeify_147 1 rfl rfl ?_
                  refine aw_if_gt (n := 152) (tgt := 160) dJ27_treeify_149 (by decide) rfl (fun c_149_2 => ?_) (fun c_149_2 => ?_)
                  · skip
                    refine aw_aload (n := 162) dJ27_treeify_160 4 rfl rfl ?_
                    rcases optc (rt1 p) with hq_29 | ⟨r162_29, hq_29⟩
                    · skip
                      refine aw_getf (n := 165) (v := .null) (C0 := RJ27) (T := TJ27) dJ27_treeify_162 rfl 8 q1611 (Or.inl rfl) (hT_22 p (Or.inl hp)).1 (congrArg (fun z9 => some (va_rf z9)) (show (up (up rt1 y none) y none) p = none from by simp only [up]; rw [if_neg npy, if_neg npy, hq_29])) rfl ?_
                      refine aw_dup (n := 166) dJ27_treeify_165 rfl rfl ?_
                      refine aw_astoreN (n := 168) (lv' := [(8, .null), (12, .ref p), (9, .int 1), (10, .int ((κ p).1)), (11, .ref ((κ p).2.1)), (7, .null), (4, .ref n9_6), (6, .int ((κ y).1)), (5, .ref ((κ y).2.1)), (3, .ref y), (2, .ref root1), (1, .ref t), (0, .ref hd)]) dJ27_treeify_166 (by decide) rfl rfl ?_
                      refine aw_ifnonnullN (n := 171) dJ27_treeify_168 rfl ?_
                      exact AW.lvs (lv' := [(12, .ref p), (9, .int 1), (4, .ref n9_6), (3, .ref y), (2, .ref root1), (1, .ref t), (0, .ref hd)]) (AW.eq (lv2 := _) (rfl) rfl rfl rfl rfl (T9 1 (Or.inr ⟨hs9, hd9, hq_29⟩))) (by simp)
                    · skip
                      have k_r162_29 : D r162_29 := BT.ch hBc hp (Or.inr hq_29)
                      refine aw_getf (n := 165) (v := .ref r162_29) (C0 := RJ27) (T := TJ27) dJ27_treeify_162 rfl 8 q1611 (Or.inl rfl) (hT_22 p (Or.inl hp)).1 (congrArg (fun z9 => some (va_rf z9)) (show (up (up rt1 y none) y none) p = some r162_29 from by simp only [up]; rw [if_neg npy, if_neg npy, hq_29])) rfl ?_
                      refine aw_dup (n := 166) dJ27_treeify_165 rfl rfl ?_
                      refine aw_astore (n := 168) (lv' := [(8, .ref r162_29), (12, .ref p), (9, .int 1), (10, .int ((κ p).1)), (11, .ref ((κ p).2.1)), (7, .null), (4, .ref n9_6), (6, .int ((κ y).1)), (5, .ref ((κ y).2.1)), (3, .ref y), (2, .ref root1), (1, .ref t), (0, .ref hd)]) dJ27_treeify_166 (by decide) rfl rfl ?_
                      refine aw_ifnonnull (tgt := 206) dJ27_treeify_168 (by decide) ?_
                      refine aw_goto (tgt := 64) dJ27_treeify_206 (by decide) ?_
                      have t9 := kLH_R hBc hp g2 hd9 hq_29
                      have m9 := t9.2.1
                      exact AW.lvs (lv' := [(8, .ref r162_29), (7, .null), (4, .ref n9_6), (6, .int ((κ y).1)), (5, .ref ((κ y).2.1)), (3, .ref y), (2, .ref root1), (1, .ref t), (0, .ref hd)]) (AW.eq (lv2 := _) (rfl) rfl rfl rfl rfl (ih_64 r162_29 t9.1 t9.2.2.1 t9.2.2.2 none (Or.inl rfl) (by omega))) (by simp)
                  · skip
                    exact absurd c_149_2 (by decide +kernel)
              · skip
                have g9 : spT (tx y) < spT (tx p) := by rw [← hKh, ← hKhy]; exact Int32.not_le.mp c_81
                have hd9 : ltK (spT (tx y), tx y) (spT (tx p), tx p) := Or.inl g9
                have hs9 : (-1 : Int32) ≤ 0 := by decide
                refine aw_iconst (n := 85) (v := (-1)) dJ27_treeify_84 (by decide) rfl ?_
                refine aw_istore (n := 87) (lv' := [(9, .int (-1)), (10, .int ((κ p).1)), (11, .ref ((κ p).2.1)), (8, .ref p), (7, .null), (4, .ref n9_6), (6, .int ((κ y).1)), (5, .ref ((κ y).2.1)), (3, .ref y), (2, .ref root1), (1, .ref t), (0, .ref hd)]) dJ27_treeify_85 (by decide) rfl rfl ?_
                refine aw_goto (tgt := 143) dJ27_treeify_87 (by decide) ?_
                refine aw_aload (n := 145) dJ27_treeify_143 3 rfl rfl ?_
                refine aw_astore (n := 147) (lv' := [(12, .ref p), (9, .int (-1)), (10, .int ((κ p).1)), (11, .ref ((κ p).2.1)), (8, .ref p), (7, .null), (4, .ref n9_6), (6, .int ((κ y).1)), (5, .ref ((κ y).2.1)), (3, .ref y), (2, .ref root1), (1, .ref t), (0, .ref hd)]) dJ27_treeify_145 (by decide) rfl rfl ?_
                refine aw_iload (n := 149) dJ27_treeify_147 1 rfl rfl ?_
                refine aw_if_gt (n := 152) (tgt := 160) dJ27_treeify_149 (by decide) rfl (fun c_149_3 => ?_) (fun c_149_3 => ?_)
                · skip
                  exact absurd c_149_3 (by decide +kernel)
                · skip
                  refine aw_aload (n := 154) dJ27_treeify_152 4 rfl rfl ?_
                  rcases optc (lf1 p) with hq_30 | ⟨l154_30, hq_30⟩
                  · skip
                    refine aw_getf (n := 157) (v := .null) (C0 := RJ27) (T := TJ27) dJ27_treeify_154 rfl 7 q1610 (Or.inl rfl) (hT_22 p (Or.inl hp)).1 (congrArg (fun z9 => some (va_rf z9)) (show (up (up lf1 y none) y none) p = none from by simp only [up]; rw [if_neg npy, if_neg npy, hq_30])) rfl ?_
                    refine aw_goto (tgt := 165) dJ27_treeify_157 (by decide) ?_
                    refine aw_dup (n := 166) dJ27_treeify_165 rfl rfl ?_
                    refine aw_astoreN (n := 168) (lv' := [(8, .null), (12, .ref p), (9, .int (-1)), (10, .int ((κ p).1)), (11, .ref ((κ p).2.1)), (7, .null), (4, .ref n9_6), (6, .int ((κ y).1)), (5, .ref ((κ y).2.1)), (3, .ref y), (2, .ref root1), (1, .ref t), (0, .ref hd)]) dJ27_treeify_166 (by decide) rfl rfl ?_
                    refine aw_ifnonnullN (n := 171) dJ27_treeify_168 rfl ?_
                    exact AW.lvs (lv' := [(12, .ref p), (9, .int (-1)), (4, .ref n9_6), (3, .ref y), (2, .ref root1), (1, .ref t), (0, .ref hd)]) (AW.eq (lv2 := _) (rfl) rfl rfl rfl rfl (T9 (-1) (Or.inl ⟨hs9, hd9, hq_30⟩))) (by simp)
                  · skip
                    have k_l154_30 : D l154_30 := BT.ch hBc hp (Or.inl hq_30)
                    refine aw_getf (n := 157) (v := .ref l154_30) (C0 := RJ27) (T := TJ27) dJ27_treeify_154 rfl 7 q1610 (Or.inl rfl) (hT_22 p (Or.inl hp)).1 (congrArg (fun z9 => some (va_rf z9)) (show (up (up lf1 y none) y none) p = some l154_30 from by simp only [up]; rw [if_neg npy, if_neg npy, hq_30])) rfl ?_
                    refine aw_goto (tgt := 165) dJ27_treeify_157 (by decide) ?_
                    refine aw_dup (n := 166) dJ27_treeify_165 rfl rfl ?_
                    refine aw_astore (n := 168) (lv' := [(8, .ref l154_30), (12, .ref p), (9, .int (-1)), (10, .int ((κ p).1)), (11, .ref ((κ p).2.1)), (7, .null), (4, .ref n9_6), (6, .int ((κ y).1)), (5, .ref ((κ y).2.1)), (3, .ref y), (2, .ref root1), (1, .ref t), (0, .ref hd)]) dJ27_treeify_166 (by decide) rfl rfl ?_
                    refine aw_ifnonnull (tgt := 206) dJ27_treeify_168 (by decide) ?_
                    refine aw_goto (tgt := 64) dJ27_treeify_206 (by decide) ?_
                    have t9 := kLH_L hBc hp g1 hd9 hq_30
                    have m9 := t9.2.1
                    exact AW.lvs (lv' := [(8, .ref l154_30), (7, .null), (4, .ref n9_6), (6, .int ((κ y).1)), (5, .ref ((κ y).2.1)), (3, .ref y), (2, .ref root1), (1, .ref t), (0, .ref hd)]) (AW.eq (lv2 := _) (rfl) rfl rfl rfl rfl (ih_64 l154_30 t9.1 t9.2.2.1 t9.2.2.2 none (Or.inl rfl) (by omega))) (by simp)
            · skip
              refine AW.eq (lv2 := [(8, .ref p), (7, .ref (gM G 0)), (4, .ref n9_6), (6, .int ((κ y).1)), (5, .ref ((κ y).2.1)), (3, .ref y), (2, .ref root1), (1, .ref t), (0, .ref hd)]) (s2 := []) rfl rfl rfl rfl rfl ?_
              refine aw_aload (n := 66) dJ27_treeify_64 0 rfl rfl ?_
              refine aw_getf (n := 69) (v := .ref ((κ p).2.1)) (C0 := RJ27) (T := TJ27) dJ27_treeify_66 rfl 3 q1551 (Or.inr q1552) (hT_22 p (Or.inl hp)).1 rfl rfl ?_
              refine aw_astore (n := 71) (lv' := [(11, .ref ((κ p).2.1)), (8, .ref p), (7, .ref (gM G 0)), (4, .ref n9_6), (6, .int ((κ y).1)), (5, .ref ((κ y).2.1)), (3, .ref y), (2, .ref root1), (1, .ref t), (0, .ref hd)]) dJ27_treeify_69 (by decide) rfl rfl ?_
              refine aw_aload (n := 73) dJ27_treeify_71 1 rfl rfl ?_
              refine aw_getf (n := 76) (v := .int ((κ p).1)) (C0 := RJ27) (T := TJ27) dJ27_treeify_73 rfl 2 q1547 (Or.inr q1548) (hT_22 p (Or.inl hp)).1 rfl rfl ?_
              refine aw_dup (n := 77) dJ27_treeify_76 rfl rfl ?_
              refine aw_istore (n := 79) (lv' := [(10, .int ((κ p).1)), (11, .ref ((κ p).2.1)), (8, .ref p), (7, .ref (gM G 0)), (4, .ref n9_6), (6, .int ((κ y).1)), (5, .ref ((κ y).2.1)), (3, .ref y), (2, .ref root1), (1, .ref t), (0, .ref hd)]) dJ27_treeify_77 (by decide) rfl rfl ?_
              refine aw_iload (n := 81) dJ27_treeify_79 5 rfl rfl ?_
              refine aw_icmp_le (n := 84) (tgt := 90) dJ27_treeify_81 (by decide) rfl (fun c_81 => ?_) (fun c_81 => ?_)
              · skip
                refine aw_iload (n := 92) dJ27_treeify_90 0 rfl rfl ?_
                refine aw_iload (n := 94) dJ27_treeify_92 5 rfl rfl ?_
                refine aw_icmp_ge (n := 97) (tgt := 103) dJ27_treeify_94 (by decide) rfl (fun c_94 => ?_) (fun c_94 => ?_)
                · skip
                  have eh : spT (tx y) = spT (tx p) := by rw [← hKh, ← hKhy]; exact Int32.le_antisymm c_94 c_81
                  have nt : tx y ≠ tx p := htr y p hNy ((hND p).mpr (Or.inl hp)) (Ne.symm npy)
                  refine aw_aload (n := 105) dJ27_treeify_103 3 rfl rfl ?_
                  refine aw_ifnonnull (tgt := 119) dJ27_treeify_105 (by decide) ?_
                  refine aw_aload (n := 121) dJ27_treeify_119 3 rfl rfl ?_
                  refine aw_aload (n := 123) dJ27_treeify_121 6 rfl rfl ?_
                  refine aw_aload (n := 125) dJ27_treeify_123 1 rfl rfl ?_
                  refine aw_callS (n := 128) (As := [.ref (gM G 0), .ref ((κ y).2.1), .ref ((κ p).2.1)]) (rest := []) (K2 := kJ4_compareComparables) dJ27_treeify_125 q1231 q1232 q112 q1233 hcJ4_compareComparables (hm_cmpC G y_22 (κ y).2.1 uy8 (κ p).2.1 up9 (tx y) (tx p) _ _ _ _ hKy hKp (Or.inl hKy8)) rfl (Nat.le_of_ble_eq_true rfl) ⟨Nat.le_of_ble_eq_true rfl, Nat.le_of_ble_eq_true rfl⟩ ⟨by first | omega | (dsimp only; omega) | decide, by first | omega | (dsimp only; omega) | decide⟩ (fun _ _ _ z => z.elim) rfl (fun r_125 h_125 q_125 => ?_)
                  obtain ⟨rfl, rfl⟩ := q_125
                  refine AW.sts (st' := [.int (cmpT (tx y) (tx p))]) rfl ?_
                  refine aw_dup (n := 129) dJ27_treeify_128 rfl rfl ?_
                  refine aw_istore (n := 131) (lv' := [(9, .int (cmpT (tx y) (tx p))), (10, .int ((κ p).1)), (11, .ref ((κ p).2.1)), (8, .ref p), (7, .ref (gM G 0)), (4, .ref n9_6), (6, .int ((κ y).1)), (5, .ref ((κ y).2.1)), (3, .ref y), (2, .ref root1), (1, .ref t), (0, .ref hd)]) dJ27_treeify_129 (by decide) rfl rfl ?_
                  refine aw_if_ne (n := 134) (tgt := 143) dJ27_treeify_131 (by decide) rfl (fun c_131 => ?_) (fun c_131 => ?_)
                  · skip
                    refine aw_aload (n := 145) dJ27_treeify_143 3 rfl rfl ?_
                    refine aw_astore (n := 147) (lv' := [(12, .ref p), (9, .int (cmpT (tx y) (tx p))), (10, .int ((κ p).1)), (11, .ref ((κ p).2.1)), (8, .ref p), (7, .ref (gM G 0)), (4, .ref n9_6), (6, .int ((κ y).1)), (5, .ref ((κ y).2.1)), (3, .ref y), (2, .ref root1), (1, .ref t), (0, .ref hd)]) dJ27_treeify_145 (by decide) rfl rfl ?_
                    refine aw_iload (n := 149) dJ27_treeify_147 1 rfl rfl ?_
                    refine aw_if_gt (n := 152) (tgt := 160) dJ27_treeify_149 (by decide) rfl (fun c_149 => ?_) (fun c_149 => ?_)
                    · skip
                      have hs9 : 0 < cmpT (tx y) (tx p) := c_149
                      have hd9 : ltK (spT (tx p), tx p) (spT (tx y), tx y) := (by rcases ltX_cmp okb.1 okp.1 okb.2 okp.2 with z | z | z; exact absurd z.1 (fun e9 => absurd (Int32.lt_trans c_149 e9) Int32.lt_irrefl); exact absurd z.2 nt; exact Or.inr ⟨eh.symm, z.2⟩)
                      refine aw_aload (n := 162) dJ27_treeify_160 4 rfl rfl ?_
                      rcases optc (rt1 p) with hq_31 | ⟨r162_31, hq_31⟩
                      · skip
                        refine aw_getf (n := 165) (v := .null) (C0 := RJ27) (T := TJ27) dJ27_treeify_162 rfl 8 q1611 (Or.inl rfl) (hT_22 p (Or.inl hp)).1 (congrArg (fun z9 => some (va_rf z9)) (show (up (up rt1 y none) y none) p = none from by simp only [up]; rw [if_neg npy, if_neg npy, hq_31])) rfl ?_
                        refine aw_dup (n := 166) dJ27_treeify_165 rfl rfl ?_
                        refine aw_astoreN (n := 168) (lv' := [(8, .null), (12, .ref p), (9, .int (cmpT (tx y) (tx p))), (10, .int ((κ p).1)), (11, .ref ((κ p).2.1)), (7, .ref (gM G 0)), (4, .ref n9_6), (6, .int ((κ y).1)), (5, .ref ((κ y).2.1)), (3, .ref y), (2, .ref root1), (1, .ref t), (0, .ref hd)]) dJ27_treeify_166 (by decide) rfl rfl ?_
                        refine aw_ifnonnullN (n := 171) dJ27_treeify_168 rfl ?_
                        exact AW.lvs (lv' := [(12, .ref p), (9, .int (cmpT (tx y) (tx p))), (4, .ref n9_6), (3, .ref y), (2, .ref root1), (1, .ref t), (0, .ref hd)]) (AW.eq (lv2 := _) (rfl) rfl rfl rfl rfl (T9 (cmpT (tx y) (tx p)) (Or.inr ⟨hs9, hd9, hq_31⟩))) (by simp)
                      · skip
                        have k_r162_31 : D r162_31 := BT.ch hBc hp (Or.inr hq_31)
                        refine aw_getf (n := 165) (v := .ref r162_31) (C0 := RJ27) (T := TJ27) dJ27_treeify_162 rfl 8 q1611 (Or.inl rfl) (hT_22 p (Or.inl hp)).1 (congrArg (fun z9 => some (va_rf z9)) (show (up (up rt1 y none) y none) p = some r162_31 from by simp only [up]; rw [if_neg npy, if_neg npy, hq_31])) rfl ?_
                        refine aw_dup (n := 166) dJ27_treeify_165 rfl rfl ?_
                        refine aw_astore (n := 168) (lv' := [(8, .ref r162_31), (12, .ref p), (9, .int (cmpT (tx y) (tx p))), (10, .int ((κ p).1)), (11, .ref ((κ p).2.1)), (7, .ref (gM G 0)), (4, .ref n9_6), (6, .int ((κ y).1)), (5, .ref ((κ y).2.1)), (3, .ref y), (2, .ref root1), (1, .ref t), (0, .ref hd)]) dJ27_treeify_166 (by decide) rfl rfl ?_
                        refine aw_ifnonnull (tgt := 206) dJ27_treeify_168 (by decide) ?_
                        refine aw_goto (tgt := 64) dJ27_treeify_206 (by decide) ?_
                        have t9 := kLH_R hBc hp g2 hd9 hq_31
                        have m9 := t9.2.1
                        exact AW.lvs (lv' := [(8, .ref r162_31), (7, .ref (gM G 0)), (4, .ref n9_6), (6, .int ((κ y).1)), (5, .ref ((κ y).2.1)), (3, .ref y), (2, .ref root1), (1, .ref t), (0, .ref hd)]) (AW.eq (lv2 := _) (rfl) rfl rfl rfl rfl (ih_64 r162_31 t9.1 t9.2.2.1 t9.2.2.2 (some (gM G 0)) (Or.inr rfl) (by omega))) (by simp)
                    · skip
                      have hs9 : cmpT (tx y) (tx p) ≤ 0 := Int32.not_lt.mp c_149
                      have hd9 : ltK (spT (tx y), tx y) (spT (tx p), tx p) := (by rcases ltX_cmp okb.1 okp.1 okb.2 okp.2 with z | z | z; exact Or.inr ⟨eh, z.2⟩; exact absurd z.2 nt; exact absurd z.1 c_149)
                      refine aw_aload (n := 154) dJ27_treeify_152 4 rfl rfl ?_
                      rcases optc (lf1 p) with hq_32 | ⟨l154_32, hq_32⟩
                      · skip
                        refine aw_getf (n := 157) (v := .null) (C0 := RJ27) (T := TJ27) dJ27_treeify_154 rfl 7 q1610 (Or.inl rfl) (hT_22 p (Or.inl hp)).1 (congrArg (fun z9 => some (va_rf z9)) (show (up (up lf1 y none) y none) p = none from by simp only [up]; rw [if_neg npy, if_neg npy, hq_32])) rfl ?_
                        refine aw_goto (tgt := 165) dJ27_treeify_157 (by decide) ?_
                        refine aw_dup (n := 166) dJ27_treeify_165 rfl rfl ?_
                        refine aw_astoreN (n := 168) (lv' := [(8, .null), (12, .ref p), (9, .int (cmpT (tx y) (tx p))), (10, .int ((κ p).1)), (11, .ref ((κ p).2.1)), (7, .ref (gM G 0)), (4, .ref n9_6), (6, .int ((κ y).1)), (5, .ref ((κ y).2.1)), (3, .ref y), (2, .ref root1), (1, .ref t), (0, .ref hd)]) dJ27_treeify_166 (by decide) rfl rfl ?_
                        refine aw_ifnonnullN (n := 171) dJ27_treeify_168 rfl ?_
                        exact AW.lvs (lv' := [(12, .ref p), (9, .int (cmpT (tx y) (tx p))), (4, .ref n9_6), (3, .ref y), (2, .ref root1), (1, .ref t), (0, .ref hd)]) (AW.eq (lv2 := _) (rfl) rfl rfl rfl rfl (T9 (cmpT (tx y) (tx p)) (Or.inl ⟨hs9, hd9, hq_32⟩))) (by simp)
                      · skip
                        have k_l154_32 : D l154_32 := BT.ch hBc hp (Or.inl hq_32)
                        refine aw_getf (n := 157) (v := .ref l154_32) (C0 := RJ27) (T := TJ27) dJ27_treeify_154 rfl 7 q1610 (Or.inl rfl) (hT_22 p (Or.inl hp)).1 (congrArg (fun z9 => some (va_rf z9)) (show (up (up lf1 y none) y none) p = some l154_32 from by simp only [up]; rw [if_neg npy, if_neg npy, hq_32])) rfl ?_
                        refine aw_goto (tgt := 165) dJ27_treeify_157 (by decide) ?_
                        refine aw_dup (n := 166) dJ27_treeify_165 rfl rfl ?_
                        refine aw_astore (n := 168) (lv' := [(8, .ref l154_32), (12, .ref p), (9, .int (cmpT (tx y) (tx p))), (10, .int ((κ p).1)), (11, .ref ((κ p).2.1)), (7, .ref (gM G 0)), (4, .ref n9_6), (6, .int ((κ y).1)), (5, .ref ((κ y).2.1)), (3, .ref y), (2, .ref root1), (1, .ref t), (0, .ref hd)]) dJ27_treeify_166 (by decide) rfl rfl ?_
                        refine aw_ifnonnull (tgt := 206) dJ27_treeify_168 (by decide) ?_
                        refine aw_goto (tgt := 64) dJ27_treeify_206 (by decide) ?_
                        have t9 := kLH_L hBc hp g1 hd9 hq_32
                        have m9 := t9.2.1
                        exact AW.lvs (lv' := [(8, .ref l154_32), (7, .ref (gM G 0)), (4, .ref n9_6), (6, .int ((κ y).1)), (5, .ref ((κ y).2.1)), (3, .ref y), (2, .ref root1), (1, .ref t), (0, .ref hd)]) (AW.eq (lv2 := _) (rfl) rfl rfl rfl rfl (ih_64 l154_32 t9.1 t9.2.2.1 t9.2.2.2 (some (gM G 0)) (Or.inr rfl) (by omega))) (by simp)
                  · skip
                    exfalso; rcases ltX_cmp okb.1 okp.1 okb.2 okp.2 with z | z | z; rw [c_131] at z; exact absurd z.1 (by decide); exact nt z.2; rw [c_131] at z; exact absurd z.1 (by decide)
                · skip
                  have g9 : spT (tx p) < spT (tx y) := by rw [← hKh, ← hKhy]; exact Int32.not_le.mp c_94
                  have hd9 : ltK (spT (tx p), tx p) (spT (tx y), tx y) := Or.inl g9
                  have hs9 : (0 : Int32) < 1 := by decide
                  refine aw_iconst (n := 98) (v := 1) dJ27_treeify_97 (by decide) rfl ?_
                  refine aw_istore (n := 100) (lv' := [(9, .int 1), (10, .int ((κ p).1)), (11, .ref ((κ p).2.1)), (8, .ref p), (7, .ref (gM G 0)), (4, .ref n9_6), (6, .int ((κ y).1)), (5, .ref ((κ y).2.1)), (3, .ref y), (2, .ref root1), (1, .ref t), (0, .ref hd)]) dJ27_treeify_98 (by decide) rfl rfl ?_
                  refine aw_goto (tgt := 143) dJ27_treeify_100 (by decide) ?_
                  refine aw_aload (n := 145) dJ27_treeify_143 3 rfl rfl ?_
                  refine aw_astore (n := 147) (lv' := [(12, .ref p), (9, .int 1), (10, .int ((κ p).1)), (11, .ref ((κ p).2.1)), (8, .ref p), (7, .ref (gM G 0)), (4, .ref n9_6), (6, .int ((κ y).1)), (5, .ref ((κ y).2.1)), (3, .ref y), (2, .ref root1), (1, .ref t), (0, .ref hd)]) dJ27_treeify_145 (by decide) rfl rfl ?_
                  refine aw_iload (n := 149) dJ27_treeify_147 1 rfl rfl ?_
                  refine aw_if_gt (n := 152) (tgt := 160) dJ27_treeify_149 (by decide) rfl (fun c_149_2 => ?_) (fun c_149_2 => ?_)
                  · skip
                    refine aw_aload (n := 162) dJ27_treeify_160 4 rfl rfl ?_
                    rcases optc (rt1 p) with hq_33 | ⟨r162_33, hq_33⟩
                    · skip
                      refine aw_getf (n := 165) (v := .null) (C0 := RJ27) (T := TJ27) dJ27_treeify_162 rfl 8 q1611 (Or.inl rfl) (hT_22 p (Or.inl hp)).1 (congrArg (fun z9 => some (va_rf z9)) (show (up (up rt1 y none) y none) p = none from by simp only [up]; rw [if_neg npy, if_neg npy, hq_33])) rfl ?_
                      refine aw_dup (n := 166) dJ27_treeify_165 rfl rfl ?_
                      refine aw_astoreN (n := 168) (lv' := [(8, .null), (12, .ref p), (9, .int 1), (10, .int ((κ p).1)), (11, .ref ((κ p).2.1)), (7, .ref (gM G 0)), (4, .ref n9_6), (6, .int ((κ y).1)), (5, .ref ((κ y).2.1)), (3, .ref y), (2, .ref root1), (1, .ref t), (0, .ref hd)]) dJ27_treeify_166 (by decide) rfl rfl ?_
                      refine aw_ifnonnullN (n := 171) dJ27_treeify_168 rfl ?_
                      exact AW.lvs (lv' := [(12, .ref p), (9, .int 1), (4, .ref n9_6), (3, .ref y), (2, .ref root1), (1, .ref t), (0, .ref hd)]) (AW.eq (lv2 := _) (rfl) rfl rfl rfl rfl (T9 1 (Or.inr ⟨hs9, hd9, hq_33⟩))) (by simp)
                    · skip
                      have k_r162_33 : D r162_33 := BT.ch hBc hp (Or.inr hq_33)
                      refine aw_getf (n := 165) (v := .ref r162_33) (C0 := RJ27) (T := TJ27) dJ27_treeify_162 rfl 8 q1611 (Or.inl rfl) (hT_22 p (Or.inl hp)).1 (congrArg (fun z9 => some (va_rf z9)) (show (up (up rt1 y none) y none) p = some r162_33 from by simp only [up]; rw [if_neg npy, if_neg npy, hq_33])) rfl ?_
                      refine aw_dup (n := 166) dJ27_treeify_165 rfl rfl ?_
                      refine aw_astore (n := 168) (lv' := [(8, .ref r162_33), (12, .ref p), (9, .int 1), (10, .int ((κ p).1)), (11, .ref ((κ p).2.1)), (7, .ref (gM G 0)), (4, .ref n9_6), (6, .int ((κ y).1)), (5, .ref ((κ y).2.1)), (3, .ref y), (2, .ref root1), (1, .ref t), (0, .ref hd)]) dJ27_treeify_166 (by decide) rfl rfl ?_
                      refine aw_ifnonnull (tgt := 206) dJ27_treeify_168 (by decide) ?_
                      refine aw_goto (tgt := 64) dJ27_treeify_206 (by decide) ?_
                      have t9 := kLH_R hBc hp g2 hd9 hq_33
                      have m9 := t9.2.1
                      exact AW.lvs (lv' := [(8, .ref r162_33), (7, .ref (gM G 0)), (4, .ref n9_6), (6, .int ((κ y).1)), (5, .ref ((κ y).2.1)), (3, .ref y), (2, .ref root1), (1, .ref t), (0, .ref hd)]) (AW.eq (lv2 := _) (rfl) rfl rfl rfl rfl (ih_64 r162_33 t9.1 t9.2.2.1 t9.2.2.2 (some (gM G 0)) (Or.inr rfl) (by omega))) (by simp)
                  · skip
                    exact absurd c_149_2 (by decide +kernel)
              · skip
                have g9 : spT (tx y) < spT (tx p) := by rw [← hKh, ← hKhy]; exact Int32.not_le.mp c_81
                have hd9 : ltK (spT (tx y), tx y) (spT (tx p), tx p) := Or.inl g9
                have hs9 : (-1 : Int32) ≤ 0 := by decide
                refine aw_iconst (n := 85) (v := (-1)) dJ27_treeify_84 (by decide) rfl ?_
                refine aw_istore (n := 87) (lv' := [(9, .int (-1)), (10, .int ((κ p).1)), (11, .ref ((κ p).2.1)), (8, .ref p), (7, .ref (gM G 0)), (4, .ref n9_6), (6, .int ((κ y).1)), (5, .ref ((κ y).2.1)), (3, .ref y), (2, .ref root1), (1, .ref t), (0, .ref hd)]) dJ27_treeify_85 (by decide) rfl rfl ?_
                refine aw_goto (tgt := 143) dJ27_treeify_87 (by decide) ?_
                refine aw_aload (n := 145) dJ27_treeify_143 3 rfl rfl ?_
                refine aw_astore (n := 147) (lv' := [(12, .ref p), (9, .int (-1)), (10, .int ((κ p).1)), (11, .ref ((κ p).2.1)), (8, .ref p), (7, .ref (gM G 0)), (4, .ref n9_6), (6, .int ((κ y).1)), (5, .ref ((κ y).2.1)), (3, .ref y), (2, .ref root1), (1, .ref t), (0, .ref hd)]) dJ27_treeify_145 (by decide) rfl rfl ?_
                refine aw_iload (n := 149) dJ27_treeify_147 1 rfl rfl ?_
                refine aw_if_gt (n := 152) (tgt := 160) dJ27_treeify_149 (by decide) rfl (fun c_149_3 => ?_) (fun c_149_3 => ?_)
                · skip
                  exact absurd c_149_3 (by decide +kernel)
                · skip
                  refine aw_aload (n := 154) dJ27_treeify_152 4 rfl rfl ?_
                  rcases optc (lf1 p) with hq_34 | ⟨l154_34, hq_34⟩
                  · skip
                    refine aw_getf (n := 157) (v := .null) (C0 := RJ27) (T := TJ27) dJ27_treeify_154 rfl 7 q1610 (Or.inl rfl) (hT_22 p (Or.inl hp)).1 (congrArg (fun z9 => some (va_rf z9)) (show (up (up lf1 y none) y none) p = none from by simp only [up]; rw [if_neg npy, if_neg npy, hq_34])) rfl ?_
                    refine aw_goto (tgt := 165) dJ27_treeify_157 (by decide) ?_
                    refine aw_dup (n := 166) dJ27_treeify_165 rfl rfl ?_
                    refine aw_astoreN (n := 168) (lv' := [(8, .null), (12, .ref p), (9, .int (-1)), (10, .int ((κ p).1)), (11, .ref ((κ p).2.1)), (7, .ref (gM G 0)), (4, .ref n9_6), (6, .int ((κ y).1)), (5, .ref ((κ y).2.1)), (3, .ref y), (2, .ref root1), (1, .ref t), (0, .ref hd)]) dJ27_treeify_166 (by decide) rfl rfl ?_
                    refine aw_ifnonnullN (n := 171) dJ27_treeify_168 rfl ?_
                    exact AW.lvs (lv' := [(12, .ref p), (9, .int (-1)), (4, .ref n9_6), (3, .ref y), (2, .ref root1), (1, .ref t), (0, .ref hd)]) (AW.eq (lv2 := _) (rfl) rfl rfl rfl rfl (T9 (-1) (Or.inl ⟨hs9, hd9, hq_34⟩))) (by simp)
                  · skip
                    have k_l154_34 : D l154_34 := BT.ch hBc hp (Or.inl hq_34)
                    refine aw_getf (n := 157) (v := .ref l154_34) (C0 := RJ27) (T := TJ27) dJ27_treeify_154 rfl 7 q1610 (Or.inl rfl) (hT_22 p (Or.inl hp)).1 (congrArg (fun z9 => some (va_rf z9)) (show (up (up lf1 y none) y none) p = some l154_34 from by simp only [up]; rw [if_neg npy, if_neg npy, hq_34])) rfl ?_
                    refine aw_goto (tgt := 165) dJ27_treeify_157 (by decide) ?_
                    refine aw_dup (n := 166) dJ27_treeify_165 rfl rfl ?_
                    refine aw_astore (n := 168) (lv' := [(8, .ref l154_34), (12, .ref p), (9, .int (-1)), (10, .int ((κ p).1)), (11, .ref ((κ p).2.1)), (7, .ref (gM G 0)), (4, .ref n9_6), (6, .int ((κ y).1)), (5, .ref ((κ y).2.1)), (3, .ref y), (2, .ref root1), (1, .ref t), (0, .ref hd)]) dJ27_treeify_166 (by decide) rfl rfl ?_
                    refine aw_ifnonnull (tgt := 206) dJ27_treeify_168 (by decide) ?_
                    refine aw_goto (tgt := 64) dJ27_treeify_206 (by decide) ?_
                    have t9 := kLH_L hBc hp g1 hd9 hq_34
                    have m9 := t9.2.1
                    exact AW.lvs (lv' := [(8, .ref l154_34), (7, .ref (gM G 0)), (4, .ref n9_6), (6, .int ((κ y).1)), (5, .ref ((κ y).2.1)), (3, .ref y), (2, .ref root1), (1, .ref t), (0, .ref hd)]) (AW.eq (lv2 := _) (rfl) rfl rfl rfl rfl (ih_64 l154_34 t9.1 t9.2.2.1 t9.2.2.2 (some (gM G 0)) (Or.inr rfl) (by omega))) (by simp)
  · skip
    obtain ⟨L2, eL⟩ : ∃ L2, L = n9_1 :: L2 := by cases L with | nil => rw [hq_1] at hch; cases hch | cons a L2 => exact ⟨L2, by have := hch.1; rw [hq_1] at this; cases this; rfl⟩
    have k_n9_1 : N n9_1 := (hN n9_1).mpr (Or.inr (by rw [eL]; exact List.mem_cons_self))
    refine aw_getf (n := 12) (v := .ref n9_1) (C0 := RJ27) (T := TJ27) dJ27_treeify_9 rfl 5 q1557 (Or.inr q1558) (hTP hd ((hN hd).mpr (Or.inl rfl))).1 (congrArg (fun z9 => some (va_rf z9)) (show nx hd = some n9_1 from by exact hq_1)) rfl ?_
    refine aw_cast (n := 15) dJ27_treeify_12 q1532 rfl (hTP n9_1 k_n9_1).1 (Or.inl rfl) rfl ?_
    refine aw_astore (n := 17) (lv' := [(4, .ref n9_1), (3, .ref hd), (2, .null), (0, .ref hd), (1, .ref t)]) dJ27_treeify_15 (by decide) rfl rfl ?_
    refine aw_aload_n (n := 18) dJ27_treeify_17 rfl 1 rfl rfl ?_
    refine aw_aload_n (n := 19) dJ27_treeify_18 rfl 1 rfl rfl ?_
    refine aw_null (n := 20) dJ27_treeify_19 rfl ?_
    refine aw_dup_x1 (n := 21) dJ27_treeify_20 rfl rfl rfl ?_
    refine aw_putK (n := 24) (fs' := [.null, .null, .int (κ hd).1, .ref (κ hd).2.1, .ref (κ hd).2.2, va_rf (nx hd), va_rf (nF hd), va_rf (nF hd), va_rf none, va_rf (pv hd), .int (bI (fF hd))]) (C0 := RJ27) (T := TJ27) (N := 11) (ci := 27) dJ27_treeify_21 rfl in_J27 tyJ27 tyJ27_ok nmJ27 q1601 8 (by decide) q1611 (Or.inl rfl) (Or.inl rfl) rfl (hTP hd ((hN hd).mpr (Or.inl rfl))).1 (hTP hd ((hN hd).mpr (Or.inl rfl))).2 rfl rfl (Nat.le_of_ble_eq_true rfl) rfl rfl (fun y_35 w_35 => ?_)
    have zy_35 : y_35.1 = h.1 := w_35.2.2
    have hT_35 := TPic.prt (v := none) hTP w_35
    refine aw_putK (n := 27) (fs' := [.null, .null, .int (κ hd).1, .ref (κ hd).2.1, .ref (κ hd).2.2, va_rf (nx hd), va_rf (nF hd), va_rf none, va_rf ((up nF hd none) hd), va_rf (pv hd), .int (bI (fF hd))]) (C0 := RJ27) (T := TJ27) (N := 11) (ci := 27) dJ27_treeify_24 rfl in_J27 tyJ27 tyJ27_ok nmJ27 q1601 7 (by decide) q1610 (Or.inl rfl) (Or.inl rfl) rfl (hT_35 hd ((hN hd).mpr (Or.inl rfl))).1 (hT_35 hd ((hN hd).mpr (Or.inl rfl))).2 rfl rfl (Nat.le_of_ble_eq_true rfl) rfl rfl (fun y_36 w_36 => ?_)
    have zy_36 : y_36.1 = y_35.1 := w_36.2.2
    have hT_36 := TPic.plf (v := none) hT_35 w_36
    refine aw_aload_nN (n := 28) dJ27_treeify_27 rfl 2 rfl rfl ?_
    refine aw_ifnonnullN (n := 31) dJ27_treeify_28 rfl ?_
    refine aw_aload_n (n := 32) dJ27_treeify_31 rfl 1 rfl rfl ?_
    refine aw_null (n := 33) dJ27_treeify_32 rfl ?_
    refine aw_putK (n := 36) (fs' := [.null, .null, .int (κ hd).1, .ref (κ hd).2.1, .ref (κ hd).2.2, va_rf (nx hd), va_rf none, va_rf ((up nF hd none) hd), va_rf ((up nF hd none) hd), va_rf (pv hd), .int (bI (fF hd))]) (C0 := RJ27) (T := TJ27) (N := 11) (ci := 27) dJ27_treeify_33 rfl in_J27 tyJ27 tyJ27_ok nmJ27 q1601 6 (by decide) q1609 (Or.inl rfl) (Or.inl rfl) rfl (hT_36 hd ((hN hd).mpr (Or.inl rfl))).1 (hT_36 hd ((hN hd).mpr (Or.inl rfl))).2 rfl rfl (Nat.le_of_ble_eq_true rfl) rfl rfl (fun y_37 w_37 => ?_)
    have zy_37 : y_37.1 = y_36.1 := w_37.2.2
    have hT_37 := TPic.ppa (v := none) hT_36 w_37
    refine aw_aload_n (n := 37) dJ27_treeify_36 rfl 1 rfl rfl ?_
    refine aw_iconst (n := 38) (v := 0) dJ27_treeify_37 (by decide) rfl ?_
    refine aw_putK (n := 41) (fs' := [.null, .null, .int (κ hd).1, .ref (κ hd).2.1, .ref (κ hd).2.2, va_rf (nx hd), va_rf ((up nF hd none) hd), va_rf ((up nF hd none) hd), va_rf ((up nF hd none) hd), va_rf (pv hd), .int (bI false)]) (C0 := RJ27) (T := TJ27) (N := 11) (ci := 27) dJ27_treeify_38 rfl in_J27 tyJ27 tyJ27_ok nmJ27 q1601 10 (by decide) q1614 (Or.inl rfl) (Or.inl rfl) rfl (hT_37 hd ((hN hd).mpr (Or.inl rfl))).1 (hT_37 hd ((hN hd).mpr (Or.inl rfl))).2 rfl rfl (Nat.le_of_ble_eq_true rfl) rfl rfl (fun y_38 w_38 => ?_)
    have zy_38 : y_38.1 = y_37.1 := w_38.2.2
    have hT_38 := TPic.prd (v := false) hT_37 w_38
    refine aw_aload_n (n := 42) dJ27_treeify_41 rfl 1 rfl rfl ?_
    refine aw_astore_n (n := 43) (lv' := [(2, .ref hd), (4, .ref n9_1), (3, .ref hd), (0, .ref hd), (1, .ref t)]) dJ27_treeify_42 rfl (by decide) rfl rfl ?_
    refine aw_goto (tgt := 209) dJ27_treeify_43 (by decide) ?_
    refine aw_aload (n := 211) dJ27_treeify_209 1 rfl rfl ?_
    refine aw_astore_n (n := 212) (lv' := [(3, .ref n9_1), (2, .ref hd), (4, .ref n9_1), (0, .ref hd), (1, .ref t)]) dJ27_treeify_211 rfl (by decide) rfl rfl ?_
    refine aw_goto (tgt := 4) dJ27_treeify_212 (by decide) ?_
    suffices L_4 : ∀ (m_ : Nat) (hh : hH) (D : Nat → Prop) (L1 : List Nat) (xo : Option Nat) (root1 : Nat) (pa1 lf1 rt1 : oF) (rd1 : Nat → Bool) (lo1 hi1 : oF) (ht1 : Nat → Nat) (B1 : Nat) (hTc : TPic G hh D κ nx pa1 lf1 rt1 pv rd1) (hBc : BT (ltM tx) D pa1 lf1 rt1 root1 lo1 hi1 ht1 B1) (hcc : chn nx xo L1) (hND : ∀ q, N q ↔ D q ∨ q ∈ L1) (hdj : ∀ q, q ∈ L1 → ¬ D q) (hnl : L1.Nodup) (hFc : Fr D h hh) (hzc : hh.1 = h.1), L1.length < m_ → AW G kJ27_treeify ((13, 376, 0, 0), (fun z h1 => z = none ∧ ∃ (root1 : Nat) (nx1 pa1 lf1 rt1 pv1 : oF) (rd1 : Nat → Bool) (lo1 hi1 : oF) (ht1 : Nat → Nat) (B1 : Nat), TPic G h1 N κ nx1 pa1 lf1 rt1 pv1 rd1 ∧ BT (ltM tx) N pa1 lf1 rt1 root1 lo1 hi1 ht1 B1 ∧ LW N nx1 pv1 ∧ nx1 root1 ≠ none ∧ (∃ f1 : Nat → Value, h1.2 t = some (har 5 n f1) ∧ f1 i = .ref root1 ∧ ∀ j, j ≠ i → f1 j = f j) ∧ Fr (fun q => N q ∨ q = t) h h1 ∧ h1.1 = h.1), nX) 4 [(3, va_rf xo), (2, .ref root1), (1, .ref t), (0, .ref hd)] [] hh 0 0 from
      AW.lvs (lv' := [(3, .ref n9_1), (2, .ref hd), (1, .ref t), (0, .ref hd)]) (AW.eq (lv2 := _) (rfl) rfl rfl rfl rfl (L_4 _ y_38 (fun q => q = hd) L (some n9_1) hd (up nF hd none) (up nF hd none) (up nF hd none) (ub fF hd false) (fun _ => none) (fun _ => none) (fun _ => 0) 1 (TPic.cg hT_38 (fun q e => (hN q).mpr (Or.inl e)) (fun _ _ => rfl) (fun _ _ => rfl) (fun _ _ => rfl) (fun _ _ => rfl) (fun _ _ => rfl) (fun _ _ => rfl) (fun _ _ => rfl)) (BT.one (ltN3 _) (by simp [up]) (by simp [up]) (by simp [up])) (by rw [← hq_1]; exact hch) hN (fun q m9 e9 => hnd.1 (e9 ▸ m9)) hnd.2 (Fr.w (Fr.w (Fr.w (Fr.w Fr.rf w_35 (Or.inl rfl)) w_36 (Or.inl rfl)) w_37 (Or.inl rfl)) w_38 (Or.inl rfl)) (by omega) (Nat.lt_succ_self _))) (by simp)
    intro m_
    induction m_ with
    | zero => intro hh D L1 xo root1 pa1 lf1 rt1 rd1 lo1 hi1 ht1 B1 hTc hBc hcc hND hdj hnl hFc hzc h_m; exact absurd h_m (Nat.not_lt_zero _)
    | succ m_ ih_4 =>
      intro hh D L1 xo root1 pa1 lf1 rt1 rd1 lo1 hi1 ht1 B1 hTc hBc hcc hND hdj hnl hFc hzc h_m
      cases L1 with
      | nil =>
        have e9 : xo = none := hcc
        subst e9
        refine AW.eq (lv2 := [(3, .null), (2, .ref root1), (1, .ref t), (0, .ref hd)]) (s2 := []) rfl rfl rfl rfl rfl ?_
        have hDN : ∀ q, N q ↔ D q := fun q => (hND q).trans (by simp)
        have hTN := TPic.cg hTc (N' := N) (fun q e => (hDN q).mp e) (fun _ _ => rfl) (fun _ _ => rfl) (fun _ _ => rfl) (fun _ _ => rfl) (fun _ _ => rfl) (fun _ _ => rfl) (fun _ _ => rfl)
        have hA1 := hFc.k (hi.2.1 _ _ hA) (fun z9 => ne_kind hA (hTP t ((hDN t).mpr z9)).1 ar_ob rfl) hA
        refine aw_aload_nN (n := 5) dJ27_treeify_4 rfl 0 rfl rfl ?_
        refine aw_ifnullN (tgt := 215) dJ27_treeify_5 (by decide) ?_
        refine aw_aload_n (n := 216) dJ27_treeify_215 rfl 2 rfl rfl ?_
        refine aw_aload_n (n := 217) dJ27_treeify_216 rfl 1 rfl rfl ?_
        refine aw_callS (n := 220) (As := [.ref t, .ref root1]) (rest := []) (K2 := kJ27_moveRootToFront) dJ27_treeify_217 q1584 q1585 q145 q1586 hcJ27_moveRootToFront (hm_mrf G hh N κ nx pa1 lf1 rt1 pv rd1 hTN t n i hd root1 f hA1 hbt hn hi0 (hIx root1 ((hDN root1).mpr hBc.1)) hf ((hN hd).mpr (Or.inl rfl)) ((hDN root1).mpr hBc.1) hW hn0) rfl (Nat.le_of_ble_eq_true rfl) ⟨Nat.le_of_ble_eq_true rfl, Nat.le_of_ble_eq_true rfl⟩ ⟨by first | omega | (dsimp only; omega) | decide, by first | omega | (dsimp only; omega) | decide⟩ (fun _ _ _ z => z.elim) rfl (fun r_217 h_217 q_217 => ?_)
        obtain ⟨rfl, nx2, pv2, hT2, hW2, hn2, ⟨f2, hA2, hf2, hfj2⟩, hFm, hzm⟩ := q_217
        have zc_217 : hh.1 ≤ h_217.1 := hFm.1
        refine AW.sts (st' := []) rfl ?_
        exact aw_vret dJ27_treeify_220 rfl ⟨rfl, root1, nx2, pa1, lf1, rt1, pv2, rd1, lo1, hi1, ht1, B1, hT2, BT.cg hBc hDN (fun _ _ => rfl) (fun _ _ => rfl) (fun _ _ => rfl), hW2, hn2, ⟨f2, hA2, hf2, hfj2⟩, (Fr.c (Fr.c Fr.rf hFc (fun a9 z9 => Or.inl (Or.inl ((hDN a9).mpr z9)))) hFm (fun a9 z9 => Or.inl z9)), by omega⟩ ⟨Nat.zero_le _, Nat.zero_le _⟩
      | cons y L2 =>
        obtain ⟨e9, hc2⟩ := hcc
        subst e9
        refine AW.eq (lv2 := [(3, .ref y), (2, .ref root1), (1, .ref t), (0, .ref hd)]) (s2 := []) rfl rfl rfl rfl rfl ?_
        have nDy : ¬ D y := hdj y List.mem_cons_self
        have hNy : N y := (hND y).mpr (Or.inr List.mem_cons_self)
        have hTm := TPic.more hTc nDy (hFc.k (hi.2.1 _ _ (hTP y hNy).1) nDy (hTP y hNy).1) (hTP y hNy).2
        have hSD : ∀ a, D a → (∃ fs, h.2 a = some (hob 27 fs)) ∨ ∃ n f, h.2 a = some (har 5 n f) := fun a z9 => Or.inl ⟨_, (hTP a ((hND a).mpr (Or.inl z9))).1⟩
        have hKc := KP.fr hi hK hFc hSD
        obtain ⟨⟨uy9, hKy⟩, hKhy, hKy8⟩ := hKc y hNy
        refine aw_aload_n (n := 5) dJ27_treeify_4 rfl 0 rfl rfl ?_
        refine aw_ifnull (n := 8) dJ27_treeify_5 rfl ?_
        refine aw_aload_n (n := 9) dJ27_treeify_8 rfl 0 rfl rfl ?_
        rcases optc (nx y) with hq_39 | ⟨n9_39, hq_39⟩
        · skip
          refine aw_getf (n := 12) (v := .null) (C0 := RJ27) (T := TJ27) dJ27_treeify_9 rfl 5 q1557 (Or.inr q1558) (hTm y (Or.inr rfl)).1 (congrArg (fun z9 => some (va_rf z9)) (show nx y = none from by exact hq_39)) rfl ?_
          refine aw_castN (n := 15) dJ27_treeify_12 rfl ?_
          refine aw_astoreN (n := 17) (lv' := [(4, .null), (3, .ref y), (2, .ref root1), (1, .ref t), (0, .ref hd)]) dJ27_treeify_15 (by decide) rfl rfl ?_
          refine aw_aload_n (n := 18) dJ27_treeify_17 rfl 1 rfl rfl ?_
          refine aw_aload_n (n := 19) dJ27_treeify_18 rfl 1 rfl rfl ?_
          refine aw_null (n := 20) dJ27_treeify_19 rfl ?_
          refine aw_dup_x1 (n := 21) dJ27_treeify_20 rfl rfl rfl ?_
          refine aw_putK (n := 24) (fs' := [.null, .null, .int (κ y).1, .ref (κ y).2.1, .ref (κ y).2.2, va_rf (nx y), va_rf ((up pa1 y none) y), va_rf ((up lf1 y none) y), va_rf none, va_rf (pv y), .int (bI ((ub rd1 y false) y))]) (C0 := RJ27) (T := TJ27) (N := 11) (ci := 27) dJ27_treeify_21 rfl in_J27 tyJ27 tyJ27_ok nmJ27 q1601 8 (by decide) q1611 (Or.inl rfl) (Or.inl rfl) rfl (hTm y (Or.inr rfl)).1 (hTm y (Or.inr rfl)).2 rfl rfl (Nat.le_of_ble_eq_true rfl) rfl rfl (fun y_40 w_40 => ?_)
          have zy_40 : y_40.1 = hh.1 := w_40.2.2
          have hT_40 := TPic.prt (v := none) hTm w_40
          refine aw_putK (n := 27) (fs' := [.null, .null, .int (κ y).1, .ref (κ y).2.1, .ref (κ y).2.2, va_rf (nx y), va_rf ((up pa1 y none) y), va_rf none, va_rf ((up (up rt1 y none) y none) y), va_rf (pv y), .int (bI ((ub rd1 y false) y))]) (C0 := RJ27) (T := TJ27) (N := 11) (ci := 27) dJ27_treeify_24 rfl in_J27 tyJ27 tyJ27_ok nmJ27 q1601 7 (by decide) q1610 (Or.inl rfl) (Or.inl rfl) rfl (hT_40 y (Or.inr rfl)).1 (hT_40 y (Or.inr rfl)).2 rfl rfl (Nat.le_of_ble_eq_true rfl) rfl rfl (fun y_41 w_41 => ?_)
          have zy_41 : y_41.1 = y_40.1 := w_41.2.2
          have hT_41 := TPic.plf (v := none) hT_40 w_41
          refine aw_aload_n (n := 28) dJ27_treeify_27 rfl 2 rfl rfl ?_
          refine aw_ifnonnull (tgt := 46) dJ27_treeify_28 (by decide) ?_
          refine aw_aload_n (n := 47) dJ27_treeify_46 rfl 1 rfl rfl ?_
          refine aw_getf (n := 50) (v := .ref ((κ y).2.1)) (C0 := RJ27) (T := TJ27) dJ27_treeify_47 rfl 3 q1551 (Or.inr q1552) (hT_41 y (Or.inr rfl)).1 rfl rfl ?_
          refine aw_astore (n := 52) (lv' := [(5, .ref ((κ y).2.1)), (4, .null), (3, .ref y), (2, .ref root1), (1, .ref t), (0, .ref hd)]) dJ27_treeify_50 (by decide) rfl rfl ?_
          refine aw_aload_n (n := 53) dJ27_treeify_52 rfl 2 rfl rfl ?_
          refine aw_getf (n := 56) (v := .int ((κ y).1)) (C0 := RJ27) (T := TJ27) dJ27_treeify_53 rfl 2 q1547 (Or.inr q1548) (hT_41 y (Or.inr rfl)).1 rfl rfl ?_
          refine aw_istore (n := 58) (lv' := [(6, .int ((κ y).1)), (5, .ref ((κ y).2.1)), (4, .null), (3, .ref y), (2, .ref root1), (1, .ref t), (0, .ref hd)]) dJ27_treeify_56 (by decide) rfl rfl ?_
          refine aw_null (n := 59) dJ27_treeify_58 rfl ?_
          refine aw_astoreN (n := 61) (lv' := [(7, .null), (6, .int ((κ y).1)), (5, .ref ((κ y).2.1)), (4, .null), (3, .ref y), (2, .ref root1), (1, .ref t), (0, .ref hd)]) dJ27_treeify_59 (by decide) rfl rfl ?_
          refine aw_aload_n (n := 62) dJ27_treeify_61 rfl 5 rfl rfl ?_
          refine aw_astore (n := 64) (lv' := [(8, .ref root1), (7, .null), (6, .int ((κ y).1)), (5, .ref ((κ y).2.1)), (4, .null), (3, .ref y), (2, .ref root1), (1, .ref t), (0, .ref hd)]) dJ27_treeify_62 (by decide) rfl rfl ?_
          have hFd : Fr (fun q => D q ∨ q = y) h y_41 := (Fr.w (Fr.w (Fr.c Fr.rf hFc (fun _ z9 => Or.inl (Or.inl z9))) w_40 (Or.inl (Or.inr rfl))) w_41 (Or.inl (Or.inr rfl)))
          have hKd := KP.fr hi hK hFd (fun a z9 => Or.inl ⟨_, (hTP a ((hND a).mpr (z9.elim Or.inl (fun e9 => Or.inr (by rw [e9]; exact List.mem_cons_self))))).1⟩)
          obtain ⟨⟨uy8, hKy⟩, hKhy, hKy8⟩ := hKd y hNy
          suffices L_64 : ∀ (m_ : Nat) (p : Nat)  (hp : D p) (g1 : kL tx (tx y) lo1 p) (g2 : kH tx (tx y) hi1 p) (kc : Option Nat) (hkc : kc = none ∨ kc = some (gM G 0)), ht1 p < m_ → AW G kJ27_treeify ((13, 376, 0, 0), (fun z h1 => z = none ∧ ∃ (root1 : Nat) (nx1 pa1 lf1 rt1 pv1 : oF) (rd1 : Nat → Bool) (lo1 hi1 : oF) (ht1 : Nat → Nat) (B1 : Nat), TPic G h1 N κ nx1 pa1 lf1 rt1 pv1 rd1 ∧ BT (ltM tx) N pa1 lf1 rt1 root1 lo1 hi1 ht1 B1 ∧ LW N nx1 pv1 ∧ nx1 root1 ≠ none ∧ (∃ f1 : Nat → Value, h1.2 t = some (har 5 n f1) ∧ f1 i = .ref root1 ∧ ∀ j, j ≠ i → f1 j = f j) ∧ Fr (fun q => N q ∨ q = t) h h1 ∧ h1.1 = h.1), nX) 64 [(8, .ref p), (7, va_rf kc), (4, .null), (6, .int ((κ y).1)), (5, .ref ((κ y).2.1)), (3, .ref y), (2, .ref root1), (1, .ref t), (0, .ref hd)] [] y_41 0 0 from
            AW.lvs (lv' := [(8, .ref root1), (7, .null), (4, .null), (6, .int ((κ y).1)), (5, .ref ((κ y).2.1)), (3, .ref y), (2, .ref root1), (1, .ref t), (0, .ref hd)]) (AW.eq (lv2 := _) (rfl) rfl rfl rfl rfl (L_64 _ root1 hBc.1 (fun y e => by rw [hBc.2.2.1] at e; cases e) (fun y e => by rw [hBc.2.2.2.1] at e; cases e) none (Or.inl rfl) (Nat.lt_succ_self _))) (by simp)
          intro m_
          induction m_ with
          | zero => intro p hp g1 g2 kc hkc h_m; exact absurd h_m (Nat.not_lt_zero _)
          | succ m_ ih_64 =>
            intro p hp g1 g2 kc hkc h_m
            have npy : p ≠ y := fun e9 => nDy (e9 ▸ hp)
            obtain ⟨⟨up9, hKp⟩, hKh, hK8⟩ := hKd p ((hND p).mpr (Or.inl hp))
            have okb := hKy.ok; have okp := hKp.ok
            have T9 : ∀ (d9 : Int32), ((d9 ≤ 0 ∧ ltK (spT (tx y), tx y) (spT (tx p), tx p) ∧ lf1 p = none) ∨ (0 < d9 ∧ ltK (spT (tx p), tx p) (spT (tx y), tx y) ∧ rt1 p = none)) → AW G kJ27_treeify ((13, 376, 0, 0), (fun z h1 => z = none ∧ ∃ (root1 : Nat) (nx1 pa1 lf1 rt1 pv1 : oF) (rd1 : Nat → Bool) (lo1 hi1 : oF) (ht1 : Nat → Nat) (B1 : Nat), TPic G h1 N κ nx1 pa1 lf1 rt1 pv1 rd1 ∧ BT (ltM tx) N pa1 lf1 rt1 root1 lo1 hi1 ht1 B1 ∧ LW N nx1 pv1 ∧ nx1 root1 ≠ none ∧ (∃ f1 : Nat → Value, h1.2 t = some (har 5 n f1) ∧ f1 i = .ref root1 ∧ ∀ j, j ≠ i → f1 j = f j) ∧ Fr (fun q => N q ∨ q = t) h h1 ∧ h1.1 = h.1), nX) 171 [(12, .ref p), (9, .int d9), (4, .null), (3, .ref y), (2, .ref root1), (1, .ref t), (0, .ref hd)] [] y_41 0 0 := by
              intro d9 hd9
              rcases hd9 with ⟨hd1, hd2, hd3⟩ | ⟨hd1, hd2, hd3⟩
              · skip
                refine aw_aload_n (n := 172) dJ27_treeify_171 rfl 3 rfl rfl ?_
                refine aw_aload (n := 174) dJ27_treeify_172 0 rfl rfl ?_
                refine aw_putK (n := 177) (fs' := [.null, .null, .int (κ y).1, .ref (κ y).2.1, .ref (κ y).2.2, va_rf (nx y), va_rf (some p), va_rf ((up (up lf1 y none) y none) y), va_rf ((up (up rt1 y none) y none) y), va_rf (pv y), .int (bI ((ub rd1 y false) y))]) (C0 := RJ27) (T := TJ27) (N := 11) (ci := 27) dJ27_treeify_174 rfl in_J27 tyJ27 tyJ27_ok nmJ27 q1601 6 (by decide) q1609 (Or.inl rfl) (Or.inl rfl) rfl (hT_41 y (Or.inr rfl)).1 (hT_41 y (Or.inr rfl)).2 rfl rfl (Nat.le_of_ble_eq_true rfl) rfl rfl (fun y_42 w_42 => ?_)
                have zy_42 : y_42.1 = y_41.1 := w_42.2.2
                have hT_42 := TPic.ppa (v := some p) hT_41 w_42
                refine aw_iload (n := 179) dJ27_treeify_177 1 rfl rfl ?_
                refine aw_if_gt (n := 182) (tgt := 191) dJ27_treeify_179 (by decide) rfl (fun c_179 => ?_) (fun c_179 => ?_)
                · skip
                  exact absurd c_179 (Int32.not_lt.mpr hd1)
                · skip
                  refine aw_aload (n := 184) dJ27_treeify_182 0 rfl rfl ?_
                  refine aw_aload_n (n := 185) dJ27_treeify_184 rfl 3 rfl rfl ?_
                  refine aw_putK (n := 188) (fs' := [.null, .null, .int (κ p).1, .ref (κ p).2.1, .ref (κ p).2.2, va_rf (nx p), va_rf ((up (up pa1 y none) y (some p)) p), va_rf (some y), va_rf ((up (up rt1 y none) y none) p), va_rf (pv p), .int (bI ((ub rd1 y false) p))]) (C0 := RJ27) (T := TJ27) (N := 11) (ci := 27) dJ27_treeify_185 rfl in_J27 tyJ27 tyJ27_ok nmJ27 q1601 7 (by decide) q1610 (Or.inl rfl) (Or.inl rfl) rfl (hT_42 p (Or.inl hp)).1 (hT_42 p (Or.inl hp)).2 rfl rfl (Nat.le_of_ble_eq_true rfl) rfl rfl (fun y_43 w_43 => ?_)
                  have zy_43 : y_43.1 = y_42.1 := w_43.2.2
                  have hT_43 := TPic.plf (v := some y) hT_42 w_43
                  refine aw_goto (tgt := 197) dJ27_treeify_188 (by decide) ?_
                  refine aw_aload_n (n := 198) dJ27_treeify_197 rfl 4 rfl rfl ?_
                  refine aw_aload_n (n := 199) dJ27_treeify_198 rfl 3 rfl rfl ?_
                  obtain ⟨lo0, hi0_, ht0, hB0⟩ := leafL2 hBc (fun a b ha hb => htr a b ((hND a).mpr (Or.inl ha)) ((hND b).mpr (Or.inl hb))) (fun a ha => (hKc a ((hND a).mpr (Or.inl ha))).1.choose_spec.ok) nDy hp g1 hd2 hd3
                  refine aw_callS (n := 202) (As := [.ref root1, .ref y]) (rest := []) (K2 := kJ27_balanceInsertion) dJ27_treeify_199 q1575 q1576 q145 q1577 hcJ27_balanceInsertion (hm_bal G y_43 (fun q => D q ∨ q = y) κ nx (up (up pa1 y none) y (some p)) (up (up (up lf1 y none) y none) p (some y)) (up (up rt1 y none) y none) pv (ub rd1 y false) hT_43 (ltM tx) root1 lo0 hi0_ ht0 (B1 + 1) hB0 (ltN3 _) y (Or.inr rfl)) rfl (Nat.le_of_ble_eq_true rfl) ⟨Nat.le_of_ble_eq_true rfl, Nat.le_of_ble_eq_true rfl⟩ ⟨by first | omega | (dsimp only; omega) | decide, by first | omega | (dsimp only; omega) | decide⟩ (fun _ _ _ z => z.elim) rfl (fun r_199 h_199 q_199 => ?_)
                  obtain ⟨root2, pa2, lf2, rt2, rd2, lo2, hi2, ht2, B2, rfl, hT2, hB2, hFb, hzb⟩ := q_199
                  have zc_199 : y_43.1 ≤ h_199.1 := hFb.1
                  refine AW.sts (st' := [.ref root2]) rfl ?_
                  refine aw_astore_n (n := 203) (lv' := [(2, .ref root2), (12, .ref p), (9, .int d9), (4, .null), (3, .ref y), (1, .ref t), (0, .ref hd)]) dJ27_treeify_202 rfl (by decide) rfl rfl ?_
                  refine aw_goto (tgt := 209) dJ27_treeify_203 (by decide) ?_
                  refine aw_aloadN (n := 211) dJ27_treeify_209 3 rfl rfl ?_
                  refine aw_astore_nN (n := 212) (lv' := [(3, .null), (2, .ref root2), (12, .ref p), (9, .int d9), (4, .null), (1, .ref t), (0, .ref hd)]) dJ27_treeify_211 rfl (by decide) rfl rfl ?_
                  refine aw_goto (tgt := 4) dJ27_treeify_212 (by decide) ?_
                  have g9 : (y :: L2).length = L2.length + 1 := rfl
                  exact AW.lvs (lv' := [(3, .null), (2, .ref root2), (1, .ref t), (0, .ref hd)]) (AW.eq (lv2 := _) (rfl) rfl rfl rfl rfl (ih_4 h_199 (fun q => D q ∨ q = y) L2 none root2 pa2 lf2 rt2 rd2 lo2 hi2 ht2 B2 hT2 hB2 (by rw [← hq_39]; exact hc2) (fun q => (hND q).trans (by rw [List.mem_cons, or_assoc])) (fun q m9 e9 => e9.elim (hdj q (List.mem_cons_of_mem _ m9)) (fun e8 => (List.nodup_cons.mp hnl).1 (e8 ▸ m9))) (List.nodup_cons.mp hnl).2 (Fr.c (Fr.w (Fr.w (Fr.w (Fr.w (Fr.c Fr.rf hFc (fun _ z9 => Or.inl (Or.inl z9))) w_40 (Or.inl (Or.inr rfl))) w_41 (Or.inl (Or.inr rfl))) w_42 (Or.inl (Or.inr rfl))) w_43 (Or.inl (Or.inl hp))) hFb (fun a9 z9 => Or.inl z9)) (by omega) (by omega))) (by simp)
              · skip
                refine aw_aload_n (n := 172) dJ27_treeify_171 rfl 3 rfl rfl ?_
                refine aw_aload (n := 174) dJ27_treeify_172 0 rfl rfl ?_
                refine aw_putK (n := 177) (fs' := [.null, .null, .int (κ y).1, .ref (κ y).2.1, .ref (κ y).2.2, va_rf (nx y), va_rf (some p), va_rf ((up (up lf1 y none) y none) y), va_rf ((up (up rt1 y none) y none) y), va_rf (pv y), .int (bI ((ub rd1 y false) y))]) (C0 := RJ27) (T := TJ27) (N := 11) (ci := 27) dJ27_treeify_174 rfl in_J27 tyJ27 tyJ27_ok nmJ27 q1601 6 (by decide) q1609 (Or.inl rfl) (Or.inl rfl) rfl (hT_41 y (Or.inr rfl)).1 (hT_41 y (Or.inr rfl)).2 rfl rfl (Nat.le_of_ble_eq_true rfl) rfl rfl (fun y_44 w_44 => ?_)
                have zy_44 : y_44.1 = y_41.1 := w_44.2.2
                have hT_44 := TPic.ppa (v := some p) hT_41 w_44
                refine aw_iload (n := 179) dJ27_treeify_177 1 rfl rfl ?_
                refine aw_if_gt (n := 182) (tgt := 191) dJ27_treeify_179 (by decide) rfl (fun c_179 => ?_) (fun c_179 => ?_)
                · skip
                  refine aw_aload (n := 193) dJ27_treeify_191 0 rfl rfl ?_
                  refine aw_aload_n (n := 194) dJ27_treeify_193 rfl 3 rfl rfl ?_
                  refine aw_putK (n := 197) (fs' := [.null, .null, .int (κ p).1, .ref (κ p).2.1, .ref (κ p).2.2, va_rf (nx p), va_rf ((up (up pa1 y none) y (some p)) p), va_rf ((up (up lf1 y none) y none) p), va_rf (some y), va_rf (pv p), .int (bI ((ub rd1 y false) p))]) (C0 := RJ27) (T := TJ27) (N := 11) (ci := 27) dJ27_treeify_194 rfl in_J27 tyJ27 tyJ27_ok nmJ27 q1601 8 (by decide) q1611 (Or.inl rfl) (Or.inl rfl) rfl (hT_44 p (Or.inl hp)).1 (hT_44 p (Or.inl hp)).2 rfl rfl (Nat.le_of_ble_eq_true rfl) rfl rfl (fun y_45 w_45 => ?_)
                  have zy_45 : y_45.1 = y_44.1 := w_45.2.2
                  have hT_45 := TPic.prt (v := some y) hT_44 w_45
                  refine aw_aload_n (n := 198) dJ27_treeify_197 rfl 4 rfl rfl ?_
                  refine aw_aload_n (n := 199) dJ27_treeify_198 rfl 3 rfl rfl ?_
                  obtain ⟨lo0, hi0_, ht0, hB0⟩ := leafR2 hBc (fun a b ha hb => htr a b ((hND a).mpr (Or.inl ha)) ((hND b).mpr (Or.inl hb))) (fun a ha => (hKc a ((hND a).mpr (Or.inl ha))).1.choose_spec.ok) nDy hp g2 hd2 hd3
                  refine aw_callS (n := 202) (As := [.ref root1, .ref y]) (rest := []) (K2 := kJ27_balanceInsertion) dJ27_treeify_199 q1575 q1576 q145 q1577 hcJ27_balanceInsertion (hm_bal G y_45 (fun q => D q ∨ q = y) κ nx (up (up pa1 y none) y (some p)) (up (up lf1 y none) y none) (up (up (up rt1 y none) y none) p (some y)) pv (ub rd1 y false) hT_45 (ltM tx) root1 lo0 hi0_ ht0 (B1 + 1) hB0 (ltN3 _) y (Or.inr rfl)) rfl (Nat.le_of_ble_eq_true rfl) ⟨Nat.le_of_ble_eq_true rfl, Nat.le_of_ble_eq_true rfl⟩ ⟨by first | omega | (dsimp only; omega) | decide, by first | omega | (dsimp only; omega) | decide⟩ (fun _ _ _ z => z.elim) rfl (fun r_199 h_199 q_199 => ?_)
                  obtain ⟨root2, pa2, lf2, rt2, rd2, lo2, hi2, ht2, B2, rfl, hT2, hB2, hFb, hzb⟩ := q_199
                  have zc_199 : y_45.1 ≤ h_199.1 := hFb.1
                  refine AW.sts (st' := [.ref root2]) rfl ?_
                  refine aw_astore_n (n := 203) (lv' := [(2, .ref root2), (12, .ref p), (9, .int d9), (4, .null), (3, .ref y), (1, .ref t), (0, .ref hd)]) dJ27_treeify_202 rfl (by decide) rfl rfl ?_
                  refine aw_goto (tgt := 209) dJ27_treeify_203 (by decide) ?_
                  refine aw_aloadN (n := 211) dJ27_treeify_209 3 rfl rfl ?_
                  refine aw_astore_nN (n := 212) (lv' := [(3, .null), (2, .ref root2), (12, .ref p), (9, .int d9), (4, .null), (1, .ref t), (0, .ref hd)]) dJ27_treeify_211 rfl (by decide) rfl rfl ?_
                  refine aw_goto (tgt := 4) dJ27_treeify_212 (by decide) ?_
                  have g9 : (y :: L2).length = L2.length + 1 := rfl
                  exact AW.lvs (lv' := [(3, .null), (2, .ref root2), (1, .ref t), (0, .ref hd)]) (AW.eq (lv2 := _) (rfl) rfl rfl rfl rfl (ih_4 h_199 (fun q => D q ∨ q = y) L2 none root2 pa2 lf2 rt2 rd2 lo2 hi2 ht2 B2 hT2 hB2 (by rw [← hq_39]; exact hc2) (fun q => (hND q).trans (by rw [List.mem_cons, or_assoc])) (fun q m9 e9 => e9.elim (hdj q (List.mem_cons_of_mem _ m9)) (fun e8 => (List.nodup_cons.mp hnl).1 (e8 ▸ m9))) (List.nodup_cons.mp hnl).2 (Fr.c (Fr.w (Fr.w (Fr.w (Fr.w (Fr.c Fr.rf hFc (fun _ z9 => Or.inl (Or.inl z9))) w_40 (Or.inl (Or.inr rfl))) w_41 (Or.inl (Or.inr rfl))) w_44 (Or.inl (Or.inr rfl))) w_45 (Or.inl (Or.inl hp))) hFb (fun a9 z9 => Or.inl z9)) (by omega) (by omega))) (by simp)
                · skip
                  exact absurd hd1 c_179
            rcases hkc with rfl | rfl
            · skip
              refine AW.eq (lv2 := [(8, .ref p), (7, .null), (4, .null), (6, .int ((κ y).1)), (5, .ref ((κ y).2.1)), (3, .ref y), (2, .ref root1), (1, .ref t), (0, .ref hd)]) (s2 := []) rfl rfl rfl rfl rfl ?_
              refine aw_aload (n := 66) dJ27_treeify_64 0 rfl rfl ?_
              refine aw_getf (n := 69) (v := .ref ((κ p).2.1)) (C0 := RJ27) (T := TJ27) dJ27_treeify_66 rfl 3 q1551 (Or.inr q1552) (hT_41 p (Or.inl hp)).1 rfl rfl ?_
              refine aw_astore (n := 71) (lv' := [(11, .ref ((κ p).2.1)), (8, .ref p), (7, .null), (4, .null), (6, .int ((κ y).1)), (5, .ref ((κ y).2.1)), (3, .ref y), (2, .ref root1), (1, .ref t), (0, .ref hd)]) dJ27_treeify_69 (by decide) rfl rfl ?_
              refine aw_aload (n := 73) dJ27_treeify_71 1 rfl rfl ?_
              refine aw_getf (n := 76) (v := .int ((κ p).1)) (C0 := RJ27) (T := TJ27) dJ27_treeify_73 rfl 2 q1547 (Or.inr q1548) (hT_41 p (Or.inl hp)).1 rfl rfl ?_
              refine aw_dup (n := 77) dJ27_treeify_76 rfl rfl ?_
              refine aw_istore (n := 79) (lv' := [(10, .int ((κ p).1)), (11, .ref ((κ p).2.1)), (8, .ref p), (7, .null), (4, .null), (6, .int ((κ y).1)), (5, .ref ((κ y).2.1)), (3, .ref y), (2, .ref root1), (1, .ref t), (0, .ref hd)]) dJ27_treeify_77 (by decide) rfl rfl ?_
              refine aw_iload (n := 81) dJ27_treeify_79 5 rfl rfl ?_
              refine aw_icmp_le (n := 84) (tgt := 90) dJ27_treeify_81 (by decide) rfl (fun c_81 => ?_) (fun c_81 => ?_)
              · skip
                refine aw_iload (n := 92) dJ27_treeify_90 0 rfl rfl ?_
                refine aw_iload (n := 94) dJ27_treeify_92 5 rfl rfl ?_
                refine aw_icmp_ge (n := 97) (tgt := 103) dJ27_treeify_94 (by decide) rfl (fun c_94 => ?_) (fun c_94 => ?_)
                · skip
                  have eh : spT (tx y) = spT (tx p) := by rw [← hKh, ← hKhy]; exact Int32.le_antisymm c_94 c_81
                  have nt : tx y ≠ tx p := htr y p hNy ((hND p).mpr (Or.inl hp)) (Ne.symm npy)
                  refine aw_aloadN (n := 105) dJ27_treeify_103 3 rfl rfl ?_
                  refine aw_ifnonnullN (n := 108) dJ27_treeify_105 rfl ?_
                  refine aw_aload (n := 110) dJ27_treeify_108 6 rfl rfl ?_
                  refine aw_callS (n := 113) (As := [.ref ((κ y).2.1)]) (rest := []) (K2 := kJ4_comparableClassFor) dJ27_treeify_110 q1225 q1226 q112 q1227 hcJ4_comparableClassFor (hm_compF G y_41 (κ y).2.1 uy8 (tx y) _ _ hKy) rfl (Nat.le_of_ble_eq_true rfl) ⟨Nat.le_of_ble_eq_true rfl, Nat.le_of_ble_eq_true rfl⟩ ⟨by first | omega | (dsimp only; omega) | decide, by first | omega | (dsimp only; omega) | decide⟩ (fun _ _ _ z => z.elim) rfl (fun r_110 h_110 q_110 => ?_)
                  obtain ⟨rfl, rfl⟩ := q_110
                  refine AW.sts (st' := [.ref (gM G 0)]) rfl ?_
                  refine aw_dup (n := 114) dJ27_treeify_113 rfl rfl ?_
                  refine aw_astore (n := 116) (lv' := [(7, .ref (gM G 0)), (10, .int ((κ p).1)), (11, .ref ((κ p).2.1)), (8, .ref p), (4, .null), (6, .int ((κ y).1)), (5, .ref ((κ y).2.1)), (3, .ref y), (2, .ref root1), (1, .ref t), (0, .ref hd)]) dJ27_treeify_114 (by decide) rfl rfl ?_
                  refine aw_ifnull (n := 119) dJ27_treeify_116 rfl ?_
                  refine aw_aload (n := 121) dJ27_treeify_119 0 rfl rfl ?_
                  refine aw_aload (n := 123) dJ27_treeify_121 6 rfl rfl ?_
                  refine aw_aload (n := 125) dJ27_treeify_123 2 rfl rfl ?_
                  refine aw_callS (n := 128) (As := [.ref (gM G 0), .ref ((κ y).2.1), .ref ((κ p).2.1)]) (rest := []) (K2 := kJ4_compareComparables) dJ27_treeify_125 q1231 q1232 q112 q1233 hcJ4_compareComparables (hm_cmpC G y_41 (κ y).2.1 uy8 (κ p).2.1 up9 (tx y) (tx p) _ _ _ _ hKy hKp (Or.inl hKy8)) rfl (Nat.le_of_ble_eq_true rfl) ⟨Nat.le_of_ble_eq_true rfl, Nat.le_of_ble_eq_true rfl⟩ ⟨by first | omega | (dsimp only; omega) | decide, by first | omega | (dsimp only; omega) | decide⟩ (fun _ _ _ z => z.elim) rfl (fun r_125 h_125 q_125 => ?_)
                  obtain ⟨rfl, rfl⟩ := q_125
                  refine AW.sts (st' := [.int (cmpT (tx y) (tx p))]) rfl ?_
                  refine aw_dup (n := 129) dJ27_treeify_128 rfl rfl ?_
                  refine aw_istore (n := 131) (lv' := [(9, .int (cmpT (tx y) (tx p))), (7, .ref (gM G 0)), (10, .int ((κ p).1)), (11, .ref ((κ p).2.1)), (8, .ref p), (4, .null), (6, .int ((κ y).1)), (5, .ref ((κ y).2.1)), (3, .ref y), (2, .ref root1), (1, .ref t), (0, .ref hd)]) dJ27_treeify_129 (by decide) rfl rfl ?_
                  refine aw_if_ne (n := 134) (tgt := 143) dJ27_treeify_131 (by decide) rfl (fun c_131 => ?_) (fun c_131 => ?_)
                  · skip
                    refine aw_aload (n := 145) dJ27_treeify_143 4 rfl rfl ?_
                    refine aw_astore (n := 147) (lv' := [(12, .ref p), (9, .int (cmpT (tx y) (tx p))), (7, .ref (gM G 0)), (10, .int ((κ p).1)), (11, .ref ((κ p).2.1)), (8, .ref p), (4, .null), (6, .int ((κ y).1)), (5, .ref ((κ y).2.1)), (3, .ref y), (2, .ref root1), (1, .ref t), (0, .ref hd)]) dJ27_treeify_145 (by decide) rfl rfl ?_
                    refine aw_iload (n := 149) dJ27_treeify_147 1 rfl rfl ?_
                    refine aw_if_gt (n := 152) (tgt := 160) dJ27_treeify_149 (by decide) rfl (fun c_149 => ?_) (fun c_149 => ?_)
                    · skip
                      have hs9 : 0 < cmpT (tx y) (tx p) := c_149
                      have hd9 : ltK (spT (tx p), tx p) (spT (tx y), tx y) := (by rcases ltX_cmp okb.1 okp.1 okb.2 okp.2 with z | z | z; exact absurd z.1 (fun e9 => absurd (Int32.lt_trans c_149 e9) Int32.lt_irrefl); exact absurd z.2 nt; exact Or.inr ⟨eh.symm, z.2⟩)
                      refine aw_aload (n := 162) dJ27_treeify_160 5 rfl rfl ?_
                      rcases optc (rt1 p) with hq_46 | ⟨r162_46, hq_46⟩
                      · skip
                        refine aw_getf (n := 165) (v := .null) (C0 := RJ27) (T := TJ27) dJ27_treeify_162 rfl 8 q1611 (Or.inl rfl) (hT_41 p (Or.inl hp)).1 (congrArg (fun z9 => some (va_rf z9)) (show (up (up rt1 y none) y none) p = none from by simp only [up]; rw [if_neg npy, if_neg npy, hq_46])) rfl ?_
                        refine aw_dup (n := 166) dJ27_treeify_165 rfl rfl ?_
                        refine aw_astoreN (n := 168) (lv' := [(8, .null), (12, .ref p), (9, .int (cmpT (tx y) (tx p))), (7, .ref (gM G 0)), (10, .int ((κ p).1)), (11, .ref ((κ p).2.1)), (4, .null), (6, .int ((κ y).1)), (5, .ref ((κ y).2.1)), (3, .ref y), (2, .ref root1), (1, .ref t), (0, .ref hd)]) dJ27_treeify_166 (by decide) rfl rfl ?_
                        refine aw_ifnonnullN (n := 171) dJ27_treeify_168 rfl ?_
                        exact AW.lvs (lv' := [(12, .ref p), (9, .int (cmpT (tx y) (tx p))), (4, .null), (3, .ref y), (2, .ref root1), (1, .ref t), (0, .ref hd)]) (AW.eq (lv2 := _) (rfl) rfl rfl rfl rfl (T9 (cmpT (tx y) (tx p)) (Or.inr ⟨hs9, hd9, hq_46⟩))) (by simp)
                      · skip
                        have k_r162_46 : D r162_46 := BT.ch hBc hp (Or.inr hq_46)
                        refine aw_getf (n := 165) (v := .ref r162_46) (C0 := RJ27) (T := TJ27) dJ27_treeify_162 rfl 8 q1611 (Or.inl rfl) (hT_41 p (Or.inl hp)).1 (congrArg (fun z9 => some (va_rf z9)) (show (up (up rt1 y none) y none) p = some r162_46 from by simp only [up]; rw [if_neg npy, if_neg npy, hq_46])) rfl ?_
                        refine aw_dup (n := 166) dJ27_treeify_165 rfl rfl ?_
                        refine aw_astore (n := 168) (lv' := [(8, .ref r162_46), (12, .ref p), (9, .int (cmpT (tx y) (tx p))), (7, .ref (gM G 0)), (10, .int ((κ p).1)), (11, .ref ((κ p).2.1)), (4, .null), (6, .int ((κ y).1)), (5, .ref ((κ y).2.1)), (3, .ref y), (2, .ref root1), (1, .ref t), (0, .ref hd)]) dJ27_treeify_166 (by decide) rfl rfl ?_
                        refine aw_ifnonnull (tgt := 206) dJ27_treeify_168 (by decide) ?_
                        refine aw_goto (tgt := 64) dJ27_treeify_206 (by decide) ?_
                        have t9 := kLH_R hBc hp g2 hd9 hq_46
                        have m9 := t9.2.1
                        exact AW.lvs (lv' := [(8, .ref r162_46), (7, .ref (gM G 0)), (4, .null), (6, .int ((κ y).1)), (5, .ref ((κ y).2.1)), (3, .ref y), (2, .ref root1), (1, .ref t), (0, .ref hd)]) (AW.eq (lv2 := _) (rfl) rfl rfl rfl rfl (ih_64 r162_46 t9.1 t9.2.2.1 t9.2.2.2 (some (gM G 0)) (Or.inr rfl) (by omega))) (by simp)
                    · skip
                      have hs9 : cmpT (tx y) (tx p) ≤ 0 := Int32.not_lt.mp c_149
                      have hd9 : ltK (spT (tx y), tx y) (spT (tx p), tx p) := (by rcases ltX_cmp okb.1 okp.1 okb.2 okp.2 with z | z | z; exact Or.inr ⟨eh, z.2⟩; exact absurd z.2 nt; exact absurd z.1 c_149)
                      refine aw_aload (n := 154) dJ27_treeify_152 5 rfl rfl ?_
                      rcases optc (lf1 p) with hq_47 | ⟨l154_47, hq_47⟩
                      · skip
                        refine aw_getf (n := 157) (v := .null) (C0 := RJ27) (T := TJ27) dJ27_treeify_154 rfl 7 q1610 (Or.inl rfl) (hT_41 p (Or.inl hp)).1 (congrArg (fun z9 => some (va_rf z9)) (show (up (up lf1 y none) y none) p = none from by simp only [up]; rw [if_neg npy, if_neg npy, hq_47])) rfl ?_
                        refine aw_goto (tgt := 165) dJ27_treeify_157 (by decide) ?_
                        refine aw_dup (n := 166) dJ27_treeify_165 rfl rfl ?_
                        refine aw_astoreN (n := 168) (lv' := [(8, .null), (12, .ref p), (9, .int (cmpT (tx y) (tx p))), (7, .ref (gM G 0)), (10, .int ((κ p).1)), (11, .ref ((κ p).2.1)), (4, .null), (6, .int ((κ y).1)), (5, .ref ((κ y).2.1)), (3, .ref y), (2, .ref root1), (1, .ref t), (0, .ref hd)]) dJ27_treeify_166 (by decide) rfl rfl ?_
                        refine aw_ifnonnullN (n := 171) dJ27_treeify_168 rfl ?_
                        exact AW.lvs (lv' := [(12, .ref p), (9, .int (cmpT (tx y) (tx p))), (4, .null), (3, .ref y), (2, .ref root1), (1, .ref t), (0, .ref hd)]) (AW.eq (lv2 := _) (rfl) rfl rfl rfl rfl (T9 (cmpT (tx y) (tx p)) (Or.inl ⟨hs9, hd9, hq_47⟩))) (by simp)
                      · skip
                        have k_l154_47 : D l154_47 := BT.ch hBc hp (Or.inl hq_47)
                        refine aw_getf (n := 157) (v := .ref l154_47) (C0 := RJ27) (T := TJ27) dJ27_treeify_154 rfl 7 q1610 (Or.inl rfl) (hT_41 p (Or.inl hp)).1 (congrArg (fun z9 => some (va_rf z9)) (show (up (up lf1 y none) y none) p = some l154_47 from by simp only [up]; rw [if_neg npy, if_neg npy, hq_47])) rfl ?_
                        refine aw_goto (tgt := 165) dJ27_treeify_157 (by decide) ?_
                        refine aw_dup (n := 166) dJ27_treeify_165 rfl rfl ?_
                        refine aw_astore (n := 168) (lv' := [(8, .ref l154_47), (12, .ref p), (9, .int (cmpT (tx y) (tx p))), (7, .ref (gM G 0)), (10, .int ((κ p).1)), (11, .ref ((κ p).2.1)), (4, .null), (6, .int ((κ y).1)), (5, .ref ((κ y).2.1)), (3, .ref y), (2, .ref root1), (1, .ref t), (0, .ref hd)]) dJ27_treeify_166 (by decide) rfl rfl ?_
                        refine aw_ifnonnull (tgt := 206) dJ27_treeify_168 (by decide) ?_
                        refine aw_goto (tgt := 64) dJ27_treeify_206 (by decide) ?_
                        have t9 := kLH_L hBc hp g1 hd9 hq_47
                        have m9 := t9.2.1
                        exact AW.lvs (lv' := [(8, .ref l154_47), (7, .ref (gM G 0)), (4, .null), (6, .int ((κ y).1)), (5, .ref ((κ y).2.1)), (3, .ref y), (2, .ref root1), (1, .ref t), (0, .ref hd)]) (AW.eq (lv2 := _) (rfl) rfl rfl rfl rfl (ih_64 l154_47 t9.1 t9.2.2.1 t9.2.2.2 (some (gM G 0)) (Or.inr rfl) (by omega))) (by simp)
                  · skip
                    exfalso; rcases ltX_cmp okb.1 okp.1 okb.2 okp.2 with z | z | z; rw [c_131] at z; exact absurd z.1 (by decide); exact nt z.2; rw [c_131] at z; exact absurd z.1 (by decide)
                · skip
                  have g9 : spT (tx p) < spT (tx y) := by rw [← hKh, ← hKhy]; exact Int32.not_le.mp c_94
                  have hd9 : ltK (spT (tx p), tx p) (spT (tx y), tx y) := Or.inl g9
                  have hs9 : (0 : Int32) < 1 := by decide
                  refine aw_iconst (n := 98) (v := 1) dJ27_treeify_97 (by decide) rfl ?_
                  refine aw_istore (n := 100) (lv' := [(9, .int 1), (10, .int ((κ p).1)), (11, .ref ((κ p).2.1)), (8, .ref p), (7, .null), (4, .null), (6, .int ((κ y).1)), (5, .ref ((κ y).2.1)), (3, .ref y), (2, .ref root1), (1, .ref t), (0, .ref hd)]) dJ27_treeify_98 (by decide) rfl rfl ?_
                  refine aw_goto (tgt := 143) dJ27_treeify_100 (by decide) ?_
                  refine aw_aload (n := 145) dJ27_treeify_143 3 rfl rfl ?_
                  refine aw_astore (n := 147) (lv' := [(12, .ref p), (9, .int 1), (10, .int ((κ p).1)), (11, .ref ((κ p).2.1)), (8, .ref p), (7, .null), (4, .null), (6, .int ((κ y).1)), (5, .ref ((κ y).2.1)), (3, .ref y), (2, .ref root1), (1, .ref t), (0, .ref hd)]) dJ27_treeify_145 (by decide) rfl rfl ?_
                  refine aw_iload (n := 149) dJ27_treeify_147 1 rfl rfl ?_
                  refine aw_if_gt (n := 152) (tgt := 160) dJ27_treeify_149 (by decide) rfl (fun c_149_2 => ?_) (fun c_149_2 => ?_)
                  · skip
                    refine aw_aload (n := 162) dJ27_treeify_160 4 rfl rfl ?_
                    rcases optc (rt1 p) with hq_48 | ⟨r162_48, hq_48⟩
                    · skip
                      refine aw_getf (n := 165) (v := .null) (C0 := RJ27) (T := TJ27) dJ27_treeify_162 rfl 8 q1611 (Or.inl rfl) (hT_41 p (Or.inl hp)).1 (congrArg (fun z9 => some (va_rf z9)) (show (up (up rt1 y none) y none) p = none from by simp only [up]; rw [if_neg npy, if_neg npy, hq_48])) rfl ?_
                      refine aw_dup (n := 166) dJ27_treeify_165 rfl rfl ?_
                      refine aw_astoreN (n := 168) (lv' := [(8, .null), (12, .ref p), (9, .int 1), (10, .int ((κ p).1)), (11, .ref ((κ p).2.1)), (7, .null), (4, .null), (6, .int ((κ y).1)), (5, .ref ((κ y).2.1)), (3, .ref y), (2, .ref root1), (1, .ref t), (0, .ref hd)]) dJ27_treeify_166 (by decide) rfl rfl ?_
                      refine aw_ifnonnullN (n := 171) dJ27_treeify_168 rfl ?_
                      exact AW.lvs (lv' := [(12, .ref p), (9, .int 1), (4, .null), (3, .ref y), (2, .ref root1), (1, .ref t), (0, .ref hd)]) (AW.eq (lv2 := _) (rfl) rfl rfl rfl rfl (T9 1 (Or.inr ⟨hs9, hd9, hq_48⟩))) (by simp)
                    · skip
                      have k_r162_48 : D r162_48 := BT.ch hBc hp (Or.inr hq_48)
                      refine aw_getf (n := 165) (v := .ref r162_48) (C0 := RJ27) (T := TJ27) dJ27_treeify_162 rfl 8 q1611 (Or.inl rfl) (hT_41 p (Or.inl hp)).1 (congrArg (fun z9 => some (va_rf z9)) (show (up (up rt1 y none) y none) p = some r162_48 from by simp only [up]; rw [if_neg npy, if_neg npy, hq_48])) rfl ?_
                      refine aw_dup (n := 166) dJ27_treeify_165 rfl rfl ?_
                      refine aw_astore (n := 168) (lv' := [(8, .ref r162_48), (12, .ref p), (9, .int 1), (10, .int ((κ p).1)), (11, .ref ((κ p).2.1)), (7, .null), (4, .null), (6, .int ((κ y).1)), (5, .ref ((κ y).2.1)), (3, .ref y), (2, .ref root1), (1, .ref t), (0, .ref hd)]) dJ27_treeify_166 (by decide) rfl rfl ?_
                      refine aw_ifnonnull (tgt := 206) dJ27_treeify_168 (by decide) ?_
                      refine aw_goto (tgt := 64) dJ27_treeify_206 (by decide) ?_
                      have t9 := kLH_R hBc hp g2 hd9 hq_48
                      have m9 := t9.2.1
                      exact AW.lvs (lv' := [(8, .ref r162_48), (7, .null), (4, .null), (6, .int ((κ y).1)), (5, .ref ((κ y).2.1)), (3, .ref y), (2, .ref root1), (1, .ref t), (0, .ref hd)]) (AW.eq (lv2 := _) (rfl) rfl rfl rfl rfl (ih_64 r162_48 t9.1 t9.2.2.1 t9.2.2.2 none (Or.inl rfl) (by omega))) (by simp)
                  · skip
                    exact absurd c_149_2 (by decide +kernel)
              · skip
                have g9 : spT (tx y) < spT (tx p) := by rw [← hKh, ← hKhy]; exact Int32.not_le.mp c_81
                have hd9 : ltK (spT (tx y), tx y) (spT (tx p), tx p) := Or.inl g9
                have hs9 : (-1 : Int32) ≤ 0 := by decide
                refine aw_iconst (n := 85) (v := (-1)) dJ27_treeify_84 (by decide) rfl ?_
                refine aw_istore (n := 87) (lv' := [(9, .int (-1)), (10, .int ((κ p).1)), (11, .ref ((κ p).2.1)), (8, .ref p), (7, .null), (4, .null), (6, .int ((κ y).1)), (5, .ref ((κ y).2.1)), (3, .ref y), (2, .ref root1), (1, .ref t), (0, .ref hd)]) dJ27_treeify_85 (by decide) rfl rfl ?_
                refine aw_goto (tgt := 143) dJ27_treeify_87 (by decide) ?_
                refine aw_aload (n := 145) dJ27_treeify_143 3 rfl rfl ?_
                refine aw_astore (n := 147) (lv' := [(12, .ref p), (9, .int (-1)), (10, .int ((κ p).1)), (11, .ref ((κ p).2.1)), (8, .ref p), (7, .null), (4, .null), (6, .int ((κ y).1)), (5, .ref ((κ y).2.1)), (3, .ref y), (2, .ref root1), (1, .ref t), (0, .ref hd)]) dJ27_treeify_145 (by decide) rfl rfl ?_
                refine aw_iload (n := 149) dJ27_treeify_147 1 rfl rfl ?_
                refine aw_if_gt (n := 152) (tgt := 160) dJ27_treeify_149 (by decide) rfl (fun c_149_3 => ?_) (fun c_149_3 => ?_)
                · skip
                  exact absurd c_149_3 (by decide +kernel)
                · skip
                  refine aw_aload (n := 154) dJ27_treeify_152 4 rfl rfl ?_
                  rcases optc (lf1 p) with hq_49 | ⟨l154_49, hq_49⟩
                  · skip
                    refine aw_getf (n := 157) (v := .null) (C0 := RJ27) (T := TJ27) dJ27_treeify_154 rfl 7 q1610 (Or.inl rfl) (hT_41 p (Or.inl hp)).1 (congrArg (fun z9 => some (va_rf z9)) (show (up (up lf1 y none) y none) p = none from by simp only [up]; rw [if_neg npy, if_neg npy, hq_49])) rfl ?_
                    refine aw_goto (tgt := 165) dJ27_treeify_157 (by decide) ?_
                    refine aw_dup (n := 166) dJ27_treeify_165 rfl rfl ?_
                    refine aw_astoreN (n := 168) (lv' := [(8, .null), (12, .ref p), (9, .int (-1)), (10, .int ((κ p).1)), (11, .ref ((κ p).2.1)), (7, .null), (4, .null), (6, .int ((κ y).1)), (5, .ref ((κ y).2.1)), (3, .ref y), (2, .ref root1), (1, .ref t), (0, .ref hd)]) dJ27_treeify_166 (by decide) rfl rfl ?_
                    refine aw_ifnonnullN (n := 171) dJ27_treeify_168 rfl ?_
                    exact AW.lvs (lv' := [(12, .ref p), (9, .int (-1)), (4, .null), (3, .ref y), (2, .ref root1), (1, .ref t), (0, .ref hd)]) (AW.eq (lv2 := _) (rfl) rfl rfl rfl rfl (T9 (-1) (Or.inl ⟨hs9, hd9, hq_49⟩))) (by simp)
                  · skip
                    have k_l154_49 : D l154_49 := BT.ch hBc hp (Or.inl hq_49)
                    refine aw_getf (n := 157) (v := .ref l154_49) (C0 := RJ27) (T := TJ27) dJ27_treeify_154 rfl 7 q1610 (Or.inl rfl) (hT_41 p (Or.inl hp)).1 (congrArg (fun z9 => some (va_rf z9)) (show (up (up lf1 y none) y none) p = some l154_49 from by simp only [up]; rw [if_neg npy, if_neg npy, hq_49])) rfl ?_
                    refine aw_goto (tgt := 165) dJ27_treeify_157 (by decide) ?_
                    refine aw_dup (n := 166) dJ27_treeify_165 rfl rfl ?_
                    refine aw_astore (n := 168) (lv' := [(8, .ref l154_49), (12, .ref p), (9, .int (-1)), (10, .int ((κ p).1)), (11, .ref ((κ p).2.1)), (7, .null), (4, .null), (6, .int ((κ y).1)), (5, .ref ((κ y).2.1)), (3, .ref y), (2, .ref root1), (1, .ref t), (0, .ref hd)]) dJ27_treeify_166 (by decide) rfl rfl ?_
                    refine aw_ifnonnull (tgt := 206) dJ27_treeify_168 (by decide) ?_
                    refine aw_goto (tgt := 64) dJ27_treeify_206 (by decide) ?_
                    have t9 := kLH_L hBc hp g1 hd9 hq_49
                    have m9 := t9.2.1
                    exact AW.lvs (lv' := [(8, .ref l154_49), (7, .null), (4, .null), (6, .int ((κ y).1)), (5, .ref ((κ y).2.1)), (3, .ref y), (2, .ref root1), (1, .ref t), (0, .ref hd)]) (AW.eq (lv2 := _) (rfl) rfl rfl rfl rfl (ih_64 l154_49 t9.1 t9.2.2.1 t9.2.2.2 none (Or.inl rfl) (by omega))) (by simp)
            · skip
              refine AW.eq (lv2 := [(8, .ref p), (7, .ref (gM G 0)), (4, .null), (6, .int ((κ y).1)), (5, .ref ((κ y).2.1)), (3, .ref y), (2, .ref root1), (1, .ref t), (0, .ref hd)]) (s2 := []) rfl rfl rfl rfl rfl ?_
              refine aw_aload (n := 66) dJ27_treeify_64 0 rfl rfl ?_
              refine aw_getf (n := 69) (v := .ref ((κ p).2.1)) (C0 := RJ27) (T := TJ27) dJ27_treeify_66 rfl 3 q1551 (Or.inr q1552) (hT_41 p (Or.inl hp)).1 rfl rfl ?_
              refine aw_astore (n := 71) (lv' := [(11, .ref ((κ p).2.1)), (8, .ref p), (7, .ref (gM G 0)), (4, .null), (6, .int ((κ y).1)), (5, .ref ((κ y).2.1)), (3, .ref y), (2, .ref root1), (1, .ref t), (0, .ref hd)]) dJ27_treeify_69 (by decide) rfl rfl ?_
              refine aw_aload (n := 73) dJ27_treeify_71 1 rfl rfl ?_
              refine aw_getf (n := 76) (v := .int ((κ p).1)) (C0 := RJ27) (T := TJ27) dJ27_treeify_73 rfl 2 q1547 (Or.inr q1548) (hT_41 p (Or.inl hp)).1 rfl rfl ?_
              refine aw_dup (n := 77) dJ27_treeify_76 rfl rfl ?_
              refine aw_istore (n := 79) (lv' := [(10, .int ((κ p).1)), (11, .ref ((κ p).2.1)), (8, .ref p), (7, .ref (gM G 0)), (4, .null), (6, .int ((κ y).1)), (5, .ref ((κ y).2.1)), (3, .ref y), (2, .ref root1), (1, .ref t), (0, .ref hd)]) dJ27_treeify_77 (by decide) rfl rfl ?_
              refine aw_iload (n := 81) dJ27_treeify_79 5 rfl rfl ?_
              refine aw_icmp_le (n := 84) (tgt := 90) dJ27_treeify_81 (by decide) rfl (fun c_81 => ?_) (fun c_81 => ?_)
              · skip
                refine aw_iload (n := 92) dJ27_treeify_90 0 rfl rfl ?_
                refine aw_iload (n := 94) dJ27_treeify_92 5 rfl rfl ?_
                refine aw_icmp_ge (n := 97) (tgt := 103) dJ27_treeify_94 (by decide) rfl (fun c_94 => ?_) (fun c_94 => ?_)
                · skip
                  have eh : spT (tx y) = spT (tx p) := by rw [← hKh, ← hKhy]; exact Int32.le_antisymm c_94 c_81
                  have nt : tx y ≠ tx p := htr y p hNy ((hND p).mpr (Or.inl hp)) (Ne.symm npy)
                  refine aw_aload (n := 105) dJ27_treeify_103 3 rfl rfl ?_
                  refine aw_ifnonnull (tgt := 119) dJ27_treeify_105 (by decide) ?_
                  refine aw_aload (n := 121) dJ27_treeify_119 3 rfl rfl ?_
                  refine aw_aload (n := 123) dJ27_treeify_121 6 rfl rfl ?_
                  refine aw_aload (n := 125) dJ27_treeify_123 1 rfl rfl ?_
                  refine aw_callS (n := 128) (As := [.ref (gM G 0), .ref ((κ y).2.1), .ref ((κ p).2.1)]) (rest := []) (K2 := kJ4_compareComparables) dJ27_treeify_125 q1231 q1232 q112 q1233 hcJ4_compareComparables (hm_cmpC G y_41 (κ y).2.1 uy8 (κ p).2.1 up9 (tx y) (tx p) _ _ _ _ hKy hKp (Or.inl hKy8)) rfl (Nat.le_of_ble_eq_true rfl) ⟨Nat.le_of_ble_eq_true rfl, Nat.le_of_ble_eq_true rfl⟩ ⟨by first | omega | (dsimp only; omega) | decide, by first | omega | (dsimp only; omega) | decide⟩ (fun _ _ _ z => z.elim) rfl (fun r_125 h_125 q_125 => ?_)
                  obtain ⟨rfl, rfl⟩ := q_125
                  refine AW.sts (st' := [.int (cmpT (tx y) (tx p))]) rfl ?_
                  refine aw_dup (n := 129) dJ27_treeify_128 rfl rfl ?_
                  refine aw_istore (n := 131) (lv' := [(9, .int (cmpT (tx y) (tx p))), (10, .int ((κ p).1)), (11, .ref ((κ p).2.1)), (8, .ref p), (7, .ref (gM G 0)), (4, .null), (6, .int ((κ y).1)), (5, .ref ((κ y).2.1)), (3, .ref y), (2, .ref root1), (1, .ref t), (0, .ref hd)]) dJ27_treeify_129 (by decide) rfl rfl ?_
                  refine aw_if_ne (n := 134) (tgt := 143) dJ27_treeify_131 (by decide) rfl (fun c_131 => ?_) (fun c_131 => ?_)
                  · skip
                    refine aw_aload (n := 145) dJ27_treeify_143 3 rfl rfl ?_
                    refine aw_astore (n := 147) (lv' := [(12, .ref p), (9, .int (cmpT (tx y) (tx p))), (10, .int ((κ p).1)), (11, .ref ((κ p).2.1)), (8, .ref p), (7, .ref (gM G 0)), (4, .null), (6, .int ((κ y).1)), (5, .ref ((κ y).2.1)), (3, .ref y), (2, .ref root1), (1, .ref t), (0, .ref hd)]) dJ27_treeify_145 (by decide) rfl rfl ?_
                    refine aw_iload (n := 149) dJ27_treeify_147 1 rfl rfl ?_
                    refine aw_if_gt (n := 152) (tgt := 160) dJ27_treeify_149 (by decide) rfl (fun c_149 => ?_) (fun c_149 => ?_)
                    · skip
                      have hs9 : 0 < cmpT (tx y) (tx p) := c_149
                      have hd9 : ltK (spT (tx p), tx p) (spT (tx y), tx y) := (by rcases ltX_cmp okb.1 okp.1 okb.2 okp.2 with z | z | z; exact absurd z.1 (fun e9 => absurd (Int32.lt_trans c_149 e9) Int32.lt_irrefl); exact absurd z.2 nt; exact Or.inr ⟨eh.symm, z.2⟩)
                      refine aw_aload (n := 162) dJ27_treeify_160 4 rfl rfl ?_
                      rcases optc (rt1 p) with hq_50 | ⟨r162_50, hq_50⟩
                      · skip
                        refine aw_getf (n := 165) (v := .null) (C0 := RJ27) (T := TJ27) dJ27_treeify_162 rfl 8 q1611 (Or.inl rfl) (hT_41 p (Or.inl hp)).1 (congrArg (fun z9 => some (va_rf z9)) (show (up (up rt1 y none) y none) p = none from by simp only [up]; rw [if_neg npy, if_neg npy, hq_50])) rfl ?_
                        refine aw_dup (n := 166) dJ27_treeify_165 rfl rfl ?_
                        refine aw_astoreN (n := 168) (lv' := [(8, .null), (12, .ref p), (9, .int (cmpT (tx y) (tx p))), (10, .int ((κ p).1)), (11, .ref ((κ p).2.1)), (7, .ref (gM G 0)), (4, .null), (6, .int ((κ y).1)), (5, .ref ((κ y).2.1)), (3, .ref y), (2, .ref root1), (1, .ref t), (0, .ref hd)]) dJ27_treeify_166 (by decide) rfl rfl ?_
                        refine aw_ifnonnullN (n := 171) dJ27_treeify_168 rfl ?_
                        exact AW.lvs (lv' := [(12, .ref p), (9, .int (cmpT (tx y) (tx p))), (4, .null), (3, .ref y), (2, .ref root1), (1, .ref t), (0, .ref hd)]) (AW.eq (lv2 := _) (rfl) rfl rfl rfl rfl (T9 (cmpT (tx y) (tx p)) (Or.inr ⟨hs9, hd9, hq_50⟩))) (by simp)
                      · skip
                        have k_r162_50 : D r162_50 := BT.ch hBc hp (Or.inr hq_50)
                        refine aw_getf (n := 165) (v := .ref r162_50) (C0 := RJ27) (T := TJ27) dJ27_treeify_162 rfl 8 q1611 (Or.inl rfl) (hT_41 p (Or.inl hp)).1 (congrArg (fun z9 => some (va_rf z9)) (show (up (up rt1 y none) y none) p = some r162_50 from by simp only [up]; rw [if_neg npy, if_neg npy, hq_50])) rfl ?_
                        refine aw_dup (n := 166) dJ27_treeify_165 rfl rfl ?_
                        refine aw_astore (n := 168) (lv' := [(8, .ref r162_50), (12, .ref p), (9, .int (cmpT (tx y) (tx p))), (10, .int ((κ p).1)), (11, .ref ((κ p).2.1)), (7, .ref (gM G 0)), (4, .null), (6, .int ((κ y).1)), (5, .ref ((κ y).2.1)), (3, .ref y), (2, .ref root1), (1, .ref t), (0, .ref hd)]) dJ27_treeify_166 (by decide) rfl rfl ?_
                        refine aw_ifnonnull (tgt := 206) dJ27_treeify_168 (by decide) ?_
                        refine aw_goto (tgt := 64) dJ27_treeify_206 (by decide) ?_
                        have t9 := kLH_R hBc hp g2 hd9 hq_50
                        have m9 := t9.2.1
                        exact AW.lvs (lv' := [(8, .ref r162_50), (7, .ref (gM G 0)), (4, .null), (6, .int ((κ y).1)), (5, .ref ((κ y).2.1)), (3, .ref y), (2, .ref root1), (1, .ref t), (0, .ref hd)]) (AW.eq (lv2 := _) (rfl) rfl rfl rfl rfl (ih_64 r162_50 t9.1 t9.2.2.1 t9.2.2.2 (some (gM G 0)) (Or.inr rfl) (by omega))) (by simp)
                    · skip
                      have hs9 : cmpT (tx y) (tx p) ≤ 0 := Int32.not_lt.mp c_149
                      have hd9 : ltK (spT (tx y), tx y) (spT (tx p), tx p) := (by rcases ltX_cmp okb.1 okp.1 okb.2 okp.2 with z | z | z; exact Or.inr ⟨eh, z.2⟩; exact absurd z.2 nt; exact absurd z.1 c_149)
                      refine aw_aload (n := 154) dJ27_treeify_152 4 rfl rfl ?_
                      rcases optc (lf1 p) with hq_51 | ⟨l154_51, hq_51⟩
                      · skip
                        refine aw_getf (n := 157) (v := .null) (C0 := RJ27) (T := TJ27) dJ27_treeify_154 rfl 7 q1610 (Or.inl rfl) (hT_41 p (Or.inl hp)).1 (congrArg (fun z9 => some (va_rf z9)) (show (up (up lf1 y none) y none) p = none from by simp only [up]; rw [if_neg npy, if_neg npy, hq_51])) rfl ?_
                        refine aw_goto (tgt := 165) dJ27_treeify_157 (by decide) ?_
                        refine aw_dup (n := 166) dJ27_treeify_165 rfl rfl ?_
                        refine aw_astoreN (n := 168) (lv' := [(8, .null), (12, .ref p), (9, .int (cmpT (tx y) (tx p))), (10, .int ((κ p).1)), (11, .ref ((κ p).2.1)), (7, .ref (gM G 0)), (4, .null), (6, .int ((κ y).1)), (5, .ref ((κ y).2.1)), (3, .ref y), (2, .ref root1), (1, .ref t), (0, .ref hd)]) dJ27_treeify_166 (by decide) rfl rfl ?_
                        refine aw_ifnonnullN (n := 171) dJ27_treeify_168 rfl ?_
                        exact AW.lvs (lv' := [(12, .ref p), (9, .int (cmpT (tx y) (tx p))), (4, .null), (3, .ref y), (2, .ref root1), (1, .ref t), (0, .ref hd)]) (AW.eq (lv2 := _) (rfl) rfl rfl rfl rfl (T9 (cmpT (tx y) (tx p)) (Or.inl ⟨hs9, hd9, hq_51⟩))) (by simp)
                      · skip
                        have k_l154_51 : D l154_51 := BT.ch hBc hp (Or.inl hq_51)
                        refine aw_getf (n := 157) (v := .ref l154_51) (C0 := RJ27) (T := TJ27) dJ27_treeify_154 rfl 7 q1610 (Or.inl rfl) (hT_41 p (Or.inl hp)).1 (congrArg (fun z9 => some (va_rf z9)) (show (up (up lf1 y none) y none) p = some l154_51 from by simp only [up]; rw [if_neg npy, if_neg npy, hq_51])) rfl ?_
                        refine aw_goto (tgt := 165) dJ27_treeify_157 (by decide) ?_
                        refine aw_dup (n := 166) dJ27_treeify_165 rfl rfl ?_
                        refine aw_astore (n := 168) (lv' := [(8, .ref l154_51), (12, .ref p), (9, .int (cmpT (tx y) (tx p))), (10, .int ((κ p).1)), (11, .ref ((κ p).2.1)), (7, .ref (gM G 0)), (4, .null), (6, .int ((κ y).1)), (5, .ref ((κ y).2.1)), (3, .ref y), (2, .ref root1), (1, .ref t), (0, .ref hd)]) dJ27_treeify_166 (by decide) rfl rfl ?_
                        refine aw_ifnonnull (tgt := 206) dJ27_treeify_168 (by decide) ?_
                        refine aw_goto (tgt := 64) dJ27_treeify_206 (by decide) ?_
                        have t9 := kLH_L hBc hp g1 hd9 hq_51
                        have m9 := t9.2.1
                        exact AW.lvs (lv' := [(8, .ref l154_51), (7, .ref (gM G 0)), (4, .null), (6, .int ((κ y).1)), (5, .ref ((κ y).2.1)), (3, .ref y), (2, .ref root1), (1, .ref t), (0, .ref hd)]) (AW.eq (lv2 := _) (rfl) rfl rfl rfl rfl (ih_64 l154_51 t9.1 t9.2.2.1 t9.2.2.2 (some (gM G 0)) (Or.inr rfl) (by omega))) (by simp)
                  · skip
                    exfalso; rcases ltX_cmp okb.1 okp.1 okb.2 okp.2 with z | z | z; rw [c_131] at z; exact absurd z.1 (by decide); exact nt z.2; rw [c_131] at z; exact absurd z.1 (by decide)
                · skip
                  have g9 : spT (tx p) < spT (tx y) := by rw [← hKh, ← hKhy]; exact Int32.not_le.mp c_94
                  have hd9 : ltK (spT (tx p), tx p) (spT (tx y), tx y) := Or.inl g9
                  have hs9 : (0 : Int32) < 1 := by decide
                  refine aw_iconst (n := 98) (v := 1) dJ27_treeify_97 (by decide) rfl ?_
                  refine aw_istore (n := 100) (lv' := [(9, .int 1), (10, .int ((κ p).1)), (11, .ref ((κ p).2.1)), (8, .ref p), (7, .ref (gM G 0)), (4, .null), (6, .int ((κ y).1)), (5, .ref ((κ y).2.1)), (3, .ref y), (2, .ref root1), (1, .ref t), (0, .ref hd)]) dJ27_treeify_98 (by decide) rfl rfl ?_
                  refine aw_goto (tgt := 143) dJ27_treeify_100 (by decide) ?_
                  refine aw_aload (n := 145) dJ27_treeify_143 3 rfl rfl ?_
                  refine aw_astore (n := 147) (lv' := [(12, .ref p), (9, .int 1), (10, .int ((κ p).1)), (11, .ref ((κ p).2.1)), (8, .ref p), (7, .ref (gM G 0)), (4, .null), (6, .int ((κ y).1)), (5, .ref ((κ y).2.1)), (3, .ref y), (2, .ref root1), (1, .ref t), (0, .ref hd)]) dJ27_treeify_145 (by decide) rfl rfl ?_
                  refine aw_iload (n := 149) dJ27_treeify_147 1 rfl rfl ?_
                  refine aw_if_gt (n := 152) (tgt := 160) dJ27_treeify_149 (by decide) rfl (fun c_149_2 => ?_) (fun c_149_2 => ?_)
                  · skip
                    refine aw_aload (n := 162) dJ27_treeify_160 4 rfl rfl ?_
                    rcases optc (rt1 p) with hq_52 | ⟨r162_52, hq_52⟩
                    · skip
                      refine aw_getf (n := 165) (v := .null) (C0 := RJ27) (T := TJ27) dJ27_treeify_162 rfl 8 q1611 (Or.inl rfl) (hT_41 p (Or.inl hp)).1 (congrArg (fun z9 => some (va_rf z9)) (show (up (up rt1 y none) y none) p = none from by simp only [up]; rw [if_neg npy, if_neg npy, hq_52])) rfl ?_
                      refine aw_dup (n := 166) dJ27_treeify_165 rfl rfl ?_
                      refine aw_astoreN (n := 168) (lv' := [(8, .null), (12, .ref p), (9, .int 1), (10, .int ((κ p).1)), (11, .ref ((κ p).2.1)), (7, .ref (gM G 0)), (4, .null), (6, .int ((κ y).1)), (5, .ref ((κ y).2.1)), (3, .ref y), (2, .ref root1), (1, .ref t), (0, .ref hd)]) dJ27_treeify_166 (by decide) rfl rfl ?_
                      refine aw_ifnonnullN (n := 171) dJ27_treeify_168 rfl ?_
                      exact AW.lvs (lv' := [(12, .ref p), (9, .int 1), (4, .null), (3, .ref y), (2, .ref root1), (1, .ref t), (0, .ref hd)]) (AW.eq (lv2 := _) (rfl) rfl rfl rfl rfl (T9 1 (Or.inr ⟨hs9, hd9, hq_52⟩))) (by simp)
                    · skip
                      have k_r162_52 : D r162_52 := BT.ch hBc hp (Or.inr hq_52)
                      refine aw_getf (n := 165) (v := .ref r162_52) (C0 := RJ27) (T := TJ27) dJ27_treeify_162 rfl 8 q1611 (Or.inl rfl) (hT_41 p (Or.inl hp)).1 (congrArg (fun z9 => some (va_rf z9)) (show (up (up rt1 y none) y none) p = some r162_52 from by simp only [up]; rw [if_neg npy, if_neg npy, hq_52])) rfl ?_
                      refine aw_dup (n := 166) dJ27_treeify_165 rfl rfl ?_
                      refine aw_astore (n := 168) (lv' := [(8, .ref r162_52), (12, .ref p), (9, .int 1), (10, .int ((κ p).1)), (11, .ref ((κ p).2.1)), (7, .ref (gM G 0)), (4, .null), (6, .int ((κ y).1)), (5, .ref ((κ y).2.1)), (3, .ref y), (2, .ref root1), (1, .ref t), (0, .ref hd)]) dJ27_treeify_166 (by decide) rfl rfl ?_
                      refine aw_ifnonnull (tgt := 206) dJ27_treeify_168 (by decide) ?_
                      refine aw_goto (tgt := 64) dJ27_treeify_206 (by decide) ?_
                      have t9 := kLH_R hBc hp g2 hd9 hq_52
                      have m9 := t9.2.1
                      exact AW.lvs (lv' := [(8, .ref r162_52), (7, .ref (gM G 0)), (4, .null), (6, .int ((κ y).1)), (5, .ref ((κ y).2.1)), (3, .ref y), (2, .ref root1), (1, .ref t), (0, .ref hd)]) (AW.eq (lv2 := _) (rfl) rfl rfl rfl rfl (ih_64 r162_52 t9.1 t9.2.2.1 t9.2.2.2 (some (gM G 0)) (Or.inr rfl) (by omega))) (by simp)
                  · skip
                    exact absurd c_149_2 (by decide +kernel)
              · skip
                have g9 : spT (tx y) < spT (tx p) := by rw [← hKh, ← hKhy]; exact Int32.not_le.mp c_81
                have hd9 : ltK (spT (tx y), tx y) (spT (tx p), tx p) := Or.inl g9
                have hs9 : (-1 : Int32) ≤ 0 := by decide
                refine aw_iconst (n := 85) (v := (-1)) dJ27_treeify_84 (by decide) rfl ?_
                refine aw_istore (n := 87) (lv' := [(9, .int (-1)), (10, .int ((κ p).1)), (11, .ref ((κ p).2.1)), (8, .ref p), (7, .ref (gM G 0)), (4, .null), (6, .int ((κ y).1)), (5, .ref ((κ y).2.1)), (3, .ref y), (2, .ref root1), (1, .ref t), (0, .ref hd)]) dJ27_treeify_85 (by decide) rfl rfl ?_
                refine aw_goto (tgt := 143) dJ27_treeify_87 (by decide) ?_
                refine aw_aload (n := 145) dJ27_treeify_143 3 rfl rfl ?_
                refine aw_astore (n := 147) (lv' := [(12, .ref p), (9, .int (-1)), (10, .int ((κ p).1)), (11, .ref ((κ p).2.1)), (8, .ref p), (7, .ref (gM G 0)), (4, .null), (6, .int ((κ y).1)), (5, .ref ((κ y).2.1)), (3, .ref y), (2, .ref root1), (1, .ref t), (0, .ref hd)]) dJ27_treeify_145 (by decide) rfl rfl ?_
                refine aw_iload (n := 149) dJ27_treeify_147 1 rfl rfl ?_
                refine aw_if_gt (n := 152) (tgt := 160) dJ27_treeify_149 (by decide) rfl (fun c_149_3 => ?_) (fun c_149_3 => ?_)
                · skip
                  exact absurd c_149_3 (by decide +kernel)
                · skip
                  refine aw_aload (n := 154) dJ27_treeify_152 4 rfl rfl ?_
                  rcases optc (lf1 p) with hq_53 | ⟨l154_53, hq_53⟩
                  · skip
                    refine aw_getf (n := 157) (v := .null) (C0 := RJ27) (T := TJ27) dJ27_treeify_154 rfl 7 q1610 (Or.inl rfl) (hT_41 p (Or.inl hp)).1 (congrArg (fun z9 => some (va_rf z9)) (show (up (up lf1 y none) y none) p = none from by simp only [up]; rw [if_neg npy, if_neg npy, hq_53])) rfl ?_
                    refine aw_goto (tgt := 165) dJ27_treeify_157 (by decide) ?_
                    refine aw_dup (n := 166) dJ27_treeify_165 rfl rfl ?_
                    refine aw_astoreN (n := 168) (lv' := [(8, .null), (12, .ref p), (9, .int (-1)), (10, .int ((κ p).1)), (11, .ref ((κ p).2.1)), (7, .ref (gM G 0)), (4, .null), (6, .int ((κ y).1)), (5, .ref ((κ y).2.1)), (3, .ref y), (2, .ref root1), (1, .ref t), (0, .ref hd)]) dJ27_treeify_166 (by decide) rfl rfl ?_
                    refine aw_ifnonnullN (n := 171) dJ27_treeify_168 rfl ?_
                    exact AW.lvs (lv' := [(12, .ref p), (9, .int (-1)), (4, .null), (3, .ref y), (2, .ref root1), (1, .ref t), (0, .ref hd)]) (AW.eq (lv2 := _) (rfl) rfl rfl rfl rfl (T9 (-1) (Or.inl ⟨hs9, hd9, hq_53⟩))) (by simp)
                  · skip
                    have k_l154_53 : D l154_53 := BT.ch hBc hp (Or.inl hq_53)
                    refine aw_getf (n := 157) (v := .ref l154_53) (C0 := RJ27) (T := TJ27) dJ27_treeify_154 rfl 7 q1610 (Or.inl rfl) (hT_41 p (Or.inl hp)).1 (congrArg (fun z9 => some (va_rf z9)) (show (up (up lf1 y none) y none) p = some l154_53 from by simp only [up]; rw [if_neg npy, if_neg npy, hq_53])) rfl ?_
                    refine aw_goto (tgt := 165) dJ27_treeify_157 (by decide) ?_
                    refine aw_dup (n := 166) dJ27_treeify_165 rfl rfl ?_
                    refine aw_astore (n := 168) (lv' := [(8, .ref l154_53), (12, .ref p), (9, .int (-1)), (10, .int ((κ p).1)), (11, .ref ((κ p).2.1)), (7, .ref (gM G 0)), (4, .null), (6, .int ((κ y).1)), (5, .ref ((κ y).2.1)), (3, .ref y), (2, .ref root1), (1, .ref t), (0, .ref hd)]) dJ27_treeify_166 (by decide) rfl rfl ?_
                    refine aw_ifnonnull (tgt := 206) dJ27_treeify_168 (by decide) ?_
                    refine aw_goto (tgt := 64) dJ27_treeify_206 (by decide) ?_
                    have t9 := kLH_L hBc hp g1 hd9 hq_53
                    have m9 := t9.2.1
                    exact AW.lvs (lv' := [(8, .ref l154_53), (7, .ref (gM G 0)), (4, .null), (6, .int ((κ y).1)), (5, .ref ((κ y).2.1)), (3, .ref y), (2, .ref root1), (1, .ref t), (0, .ref hd)]) (AW.eq (lv2 := _) (rfl) rfl rfl rfl rfl (ih_64 l154_53 t9.1 t9.2.2.1 t9.2.2.2 (some (gM G 0)) (Or.inr rfl) (by omega))) (by simp)
        · skip
          obtain ⟨L3, eL⟩ : ∃ L3, L2 = n9_39 :: L3 := by cases L2 with | nil => rw [hq_39] at hc2; cases hc2 | cons a L3 => exact ⟨L3, by have := hc2.1; rw [hq_39] at this; cases this; rfl⟩
          have m_n9_39 : n9_39 ∈ L2 := by rw [eL]; exact List.mem_cons_self
          have N_n9_39 : N n9_39 := (hND n9_39).mpr (Or.inr (List.mem_cons_of_mem _ m_n9_39))
          have F_n9_39 := hFc.k (hi.2.1 _ _ (hTP n9_39 N_n9_39).1) (hdj n9_39 (List.mem_cons_of_mem _ m_n9_39)) (hTP n9_39 N_n9_39).1
          refine aw_getf (n := 12) (v := .ref n9_39) (C0 := RJ27) (T := TJ27) dJ27_treeify_9 rfl 5 q1557 (Or.inr q1558) (hTm y (Or.inr rfl)).1 (congrArg (fun z9 => some (va_rf z9)) (show nx y = some n9_39 from by exact hq_39)) rfl ?_
          refine aw_cast (n := 15) dJ27_treeify_12 q1532 rfl F_n9_39 (Or.inl rfl) rfl ?_
          refine aw_astore (n := 17) (lv' := [(4, .ref n9_39), (3, .ref y), (2, .ref root1), (1, .ref t), (0, .ref hd)]) dJ27_treeify_15 (by decide) rfl rfl ?_
          refine aw_aload_n (n := 18) dJ27_treeify_17 rfl 1 rfl rfl ?_
          refine aw_aload_n (n := 19) dJ27_treeify_18 rfl 1 rfl rfl ?_
          refine aw_null (n := 20) dJ27_treeify_19 rfl ?_
          refine aw_dup_x1 (n := 21) dJ27_treeify_20 rfl rfl rfl ?_
          refine aw_putK (n := 24) (fs' := [.null, .null, .int (κ y).1, .ref (κ y).2.1, .ref (κ y).2.2, va_rf (nx y), va_rf ((up pa1 y none) y), va_rf ((up lf1 y none) y), va_rf none, va_rf (pv y), .int (bI ((ub rd1 y false) y))]) (C0 := RJ27) (T := TJ27) (N := 11) (ci := 27) dJ27_treeify_21 rfl in_J27 tyJ27 tyJ27_ok nmJ27 q1601 8 (by decide) q1611 (Or.inl rfl) (Or.inl rfl) rfl (hTm y (Or.inr rfl)).1 (hTm y (Or.inr rfl)).2 rfl rfl (Nat.le_of_ble_eq_true rfl) rfl rfl (fun y_54 w_54 => ?_)
          have zy_54 : y_54.1 = hh.1 := w_54.2.2
          have hT_54 := TPic.prt (v := none) hTm w_54
          refine aw_putK (n := 27) (fs' := [.null, .null, .int (κ y).1, .ref (κ y).2.1, .ref (κ y).2.2, va_rf (nx y), va_rf ((up pa1 y none) y), va_rf none, va_rf ((up (up rt1 y none) y none) y), va_rf (pv y), .int (bI ((ub rd1 y false) y))]) (C0 := RJ27) (T := TJ27) (N := 11) (ci := 27) dJ27_treeify_24 rfl in_J27 tyJ27 tyJ27_ok nmJ27 q1601 7 (by decide) q1610 (Or.inl rfl) (Or.inl rfl) rfl (hT_54 y (Or.inr rfl)).1 (hT_54 y (Or.inr rfl)).2 rfl rfl (Nat.le_of_ble_eq_true rfl) rfl rfl (fun y_55 w_55 => ?_)
          have zy_55 : y_55.1 = y_54.1 := w_55.2.2
          have hT_55 := TPic.plf (v := none) hT_54 w_55
          refine aw_aload_n (n := 28) dJ27_treeify_27 rfl 2 rfl rfl ?_
          refine aw_ifnonnull (tgt := 46) dJ27_treeify_28 (by decide) ?_
          refine aw_aload_n (n := 47) dJ27_treeify_46 rfl 1 rfl rfl ?_
          refine aw_getf (n := 50) (v := .ref ((κ y).2.1)) (C0 := RJ27) (T := TJ27) dJ27_treeify_47 rfl 3 q1551 (Or.inr q1552) (hT_55 y (Or.inr rfl)).1 rfl rfl ?_
          refine aw_astore (n := 52) (lv' := [(5, .ref ((κ y).2.1)), (4, .ref n9_39), (3, .ref y), (2, .ref root1), (1, .ref t), (0, .ref hd)]) dJ27_treeify_50 (by decide) rfl rfl ?_
          refine aw_aload_n (n := 53) dJ27_treeify_52 rfl 2 rfl rfl ?_
          refine aw_getf (n := 56) (v := .int ((κ y).1)) (C0 := RJ27) (T := TJ27) dJ27_treeify_53 rfl 2 q1547 (Or.inr q1548) (hT_55 y (Or.inr rfl)).1 rfl rfl ?_
          refine aw_istore (n := 58) (lv' := [(6, .int ((κ y).1)), (5, .ref ((κ y).2.1)), (4, .ref n9_39), (3, .ref y), (2, .ref root1), (1, .ref t), (0, .ref hd)]) dJ27_treeify_56 (by decide) rfl rfl ?_
          refine aw_null (n := 59) dJ27_treeify_58 rfl ?_
          refine aw_astoreN (n := 61) (lv' := [(7, .null), (6, .int ((κ y).1)), (5, .ref ((κ y).2.1)), (4, .ref n9_39), (3, .ref y), (2, .ref root1), (1, .ref t), (0, .ref hd)]) dJ27_treeify_59 (by decide) rfl rfl ?_
          refine aw_aload_n (n := 62) dJ27_treeify_61 rfl 5 rfl rfl ?_
          refine aw_astore (n := 64) (lv' := [(8, .ref root1), (7, .null), (6, .int ((κ y).1)), (5, .ref ((κ y).2.1)), (4, .ref n9_39), (3, .ref y), (2, .ref root1), (1, .ref t), (0, .ref hd)]) dJ27_treeify_62 (by decide) rfl rfl ?_
          have hFd : Fr (fun q => D q ∨ q = y) h y_55 := (Fr.w (Fr.w (Fr.c Fr.rf hFc (fun _ z9 => Or.inl (Or.inl z9))) w_54 (Or.inl (Or.inr rfl))) w_55 (Or.inl (Or.inr rfl)))
          have hKd := KP.fr hi hK hFd (fun a z9 => Or.inl ⟨_, (hTP a ((hND a).mpr (z9.elim Or.inl (fun e9 => Or.inr (by rw [e9]; exact List.mem_cons_self))))).1⟩)
          obtain ⟨⟨uy8, hKy⟩, hKhy, hKy8⟩ := hKd y hNy
          suffices L_64 : ∀ (m_ : Nat) (p : Nat)  (hp : D p) (g1 : kL tx (tx y) lo1 p) (g2 : kH tx (tx y) hi1 p) (kc : Option Nat) (hkc : kc = none ∨ kc = some (gM G 0)), ht1 p < m_ → AW G kJ27_treeify ((13, 376, 0, 0), (fun z h1 => z = none ∧ ∃ (root1 : Nat) (nx1 pa1 lf1 rt1 pv1 : oF) (rd1 : Nat → Bool) (lo1 hi1 : oF) (ht1 : Nat → Nat) (B1 : Nat), TPic G h1 N κ nx1 pa1 lf1 rt1 pv1 rd1 ∧ BT (ltM tx) N pa1 lf1 rt1 root1 lo1 hi1 ht1 B1 ∧ LW N nx1 pv1 ∧ nx1 root1 ≠ none ∧ (∃ f1 : Nat → Value, h1.2 t = some (har 5 n f1) ∧ f1 i = .ref root1 ∧ ∀ j, j ≠ i → f1 j = f j) ∧ Fr (fun q => N q ∨ q = t) h h1 ∧ h1.1 = h.1), nX) 64 [(8, .ref p), (7, va_rf kc), (4, .ref n9_39), (6, .int ((κ y).1)), (5, .ref ((κ y).2.1)), (3, .ref y), (2, .ref root1), (1, .ref t), (0, .ref hd)] [] y_55 0 0 from
            AW.lvs (lv' := [(8, .ref root1), (7, .null), (4, .ref n9_39), (6, .int ((κ y).1)), (5, .ref ((κ y).2.1)), (3, .ref y), (2, .ref root1), (1, .ref t), (0, .ref hd)]) (AW.eq (lv2 := _) (rfl) rfl rfl rfl rfl (L_64 _ root1 hBc.1 (fun y e => by rw [hBc.2.2.1] at e; cases e) (fun y e => by rw [hBc.2.2.2.1] at e; cases e) none (Or.inl rfl) (Nat.lt_succ_self _))) (by simp)
          intro m_
          induction m_ with
          | zero => intro p hp g1 g2 kc hkc h_m; exact absurd h_m (Nat.not_lt_zero _)
          | succ m_ ih_64 =>
            intro p hp g1 g2 kc hkc h_m
            have npy : p ≠ y := fun e9 => nDy (e9 ▸ hp)
            obtain ⟨⟨up9, hKp⟩, hKh, hK8⟩ := hKd p ((hND p).mpr (Or.inl hp))
            have okb := hKy.ok; have okp := hKp.ok
            have T9 : ∀ (d9 : Int32), ((d9 ≤ 0 ∧ ltK (spT (tx y), tx y) (spT (tx p), tx p) ∧ lf1 p = none) ∨ (0 < d9 ∧ ltK (spT (tx p), tx p) (spT (tx y), tx y) ∧ rt1 p = none)) → AW G kJ27_treeify ((13, 376, 0, 0), (fun z h1 => z = none ∧ ∃ (root1 : Nat) (nx1 pa1 lf1 rt1 pv1 : oF) (rd1 : Nat → Bool) (lo1 hi1 : oF) (ht1 : Nat → Nat) (B1 : Nat), TPic G h1 N κ nx1 pa1 lf1 rt1 pv1 rd1 ∧ BT (ltM tx) N pa1 lf1 rt1 root1 lo1 hi1 ht1 B1 ∧ LW N nx1 pv1 ∧ nx1 root1 ≠ none ∧ (∃ f1 : Nat → Value, h1.2 t = some (har 5 n f1) ∧ f1 i = .ref root1 ∧ ∀ j, j ≠ i → f1 j = f j) ∧ Fr (fun q => N q ∨ q = t) h h1 ∧ h1.1 = h.1), nX) 171 [(12, .ref p), (9, .int d9), (4, .ref n9_39), (3, .ref y), (2, .ref root1), (1, .ref t), (0, .ref hd)] [] y_55 0 0 := by
              intro d9 hd9
              rcases hd9 with ⟨hd1, hd2, hd3⟩ | ⟨hd1, hd2, hd3⟩
              · skip
                refine aw_aload_n (n := 172) dJ27_treeify_171 rfl 3 rfl rfl ?_
                refine aw_aload (n := 174) dJ27_treeify_172 0 rfl rfl ?_
                refine aw_putK (n := 177) (fs' := [.null, .null, .int (κ y).1, .ref (κ y).2.1, .ref (κ y).2.2, va_rf (nx y), va_rf (some p), va_rf ((up (up lf1 y none) y none) y), va_rf ((up (up rt1 y none) y none) y), va_rf (pv y), .int (bI ((ub rd1 y false) y))]) (C0 := RJ27) (T := TJ27) (N := 11) (ci := 27) dJ27_treeify_174 rfl in_J27 tyJ27 tyJ27_ok nmJ27 q1601 6 (by decide) q1609 (Or.inl rfl) (Or.inl rfl) rfl (hT_55 y (Or.inr rfl)).1 (hT_55 y (Or.inr rfl)).2 rfl rfl (Nat.le_of_ble_eq_true rfl) rfl rfl (fun y_56 w_56 => ?_)
                have zy_56 : y_56.1 = y_55.1 := w_56.2.2
                have hT_56 := TPic.ppa (v := some p) hT_55 w_56
                refine aw_iload (n := 179) dJ27_treeify_177 1 rfl rfl ?_
                refine aw_if_gt (n := 182) (tgt := 191) dJ27_treeify_179 (by decide) rfl (fun c_179 => ?_) (fun c_179 => ?_)
                · skip
                  exact absurd c_179 (Int32.not_lt.mpr hd1)
                · skip
                  refine aw_aload (n := 184) dJ27_treeify_182 0 rfl rfl ?_
                  refine aw_aload_n (n := 185) dJ27_treeify_184 rfl 3 rfl rfl ?_
                  refine aw_putK (n := 188) (fs' := [.null, .null, .int (κ p).1, .ref (κ p).2.1, .ref (κ p).2.2, va_rf (nx p), va_rf ((up (up pa1 y none) y (some p)) p), va_rf (some y), va_rf ((up (up rt1 y none) y none) p), va_rf (pv p), .int (bI ((ub rd1 y false) p))]) (C0 := RJ27) (T := TJ27) (N := 11) (ci := 27) dJ27_treeify_185 rfl in_J27 tyJ27 tyJ27_ok nmJ27 q1601 7 (by decide) q1610 (Or.inl rfl) (Or.inl rfl) rfl (hT_56 p (Or.inl hp)).1 (hT_56 p (Or.inl hp)).2 rfl rfl (Nat.le_of_ble_eq_true rfl) rfl rfl (fun y_57 w_57 => ?_)
                  have zy_57 : y_57.1 = y_56.1 := w_57.2.2
                  have hT_57 := TPic.plf (v := some y) hT_56 w_57
                  refine aw_goto (tgt := 197) dJ27_treeify_188 (by decide) ?_
                  refine aw_aload_n (n := 198) dJ27_treeify_197 rfl 4 rfl rfl ?_
                  refine aw_aload_n (n := 199) dJ27_treeify_198 rfl 3 rfl rfl ?_
                  obtain ⟨lo0, hi0_, ht0, hB0⟩ := leafL2 hBc (fun a b ha hb => htr a b ((hND a).mpr (Or.inl ha)) ((hND b).mpr (Or.inl hb))) (fun a ha => (hKc a ((hND a).mpr (Or.inl ha))).1.choose_spec.ok) nDy hp g1 hd2 hd3
                  refine aw_callS (n := 202) (As := [.ref root1, .ref y]) (rest := []) (K2 := kJ27_balanceInsertion) dJ27_treeify_199 q1575 q1576 q145 q1577 hcJ27_balanceInsertion (hm_bal G y_57 (fun q => D q ∨ q = y) κ nx (up (up pa1 y none) y (some p)) (up (up (up lf1 y none) y none) p (some y)) (up (up rt1 y none) y none) pv (ub rd1 y false) hT_57 (ltM tx) root1 lo0 hi0_ ht0 (B1 + 1) hB0 (ltN3 _) y (Or.inr rfl)) rfl (Nat.le_of_ble_eq_true rfl) ⟨Nat.le_of_ble_eq_true rfl, Nat.le_of_ble_eq_true rfl⟩ ⟨by first | omega | (dsimp only; omega) | decide, by first | omega | (dsimp only; omega) | decide⟩ (fun _ _ _ z => z.elim) rfl (fun r_199 h_199 q_199 => ?_)
                  obtain ⟨root2, pa2, lf2, rt2, rd2, lo2, hi2, ht2, B2, rfl, hT2, hB2, hFb, hzb⟩ := q_199
                  have zc_199 : y_57.1 ≤ h_199.1 := hFb.1
                  refine AW.sts (st' := [.ref root2]) rfl ?_
                  refine aw_astore_n (n := 203) (lv' := [(2, .ref root2), (12, .ref p), (9, .int d9), (4, .ref n9_39), (3, .ref y), (1, .ref t), (0, .ref hd)]) dJ27_treeify_202 rfl (by decide) rfl rfl ?_
                  refine aw_goto (tgt := 209) dJ27_treeify_203 (by decide) ?_
                  refine aw_aload (n := 211) dJ27_treeify_209 3 rfl rfl ?_
                  refine aw_astore_n (n := 212) (lv' := [(3, .ref n9_39), (2, .ref root2), (12, .ref p), (9, .int d9), (4, .ref n9_39), (1, .ref t), (0, .ref hd)]) dJ27_treeify_211 rfl (by decide) rfl rfl ?_
                  refine aw_goto (tgt := 4) dJ27_treeify_212 (by decide) ?_
                  have g9 : (y :: L2).length = L2.length + 1 := rfl
                  exact AW.lvs (lv' := [(3, .ref n9_39), (2, .ref root2), (1, .ref t), (0, .ref hd)]) (AW.eq (lv2 := _) (rfl) rfl rfl rfl rfl (ih_4 h_199 (fun q => D q ∨ q = y) L2 (some n9_39) root2 pa2 lf2 rt2 rd2 lo2 hi2 ht2 B2 hT2 hB2 (by rw [← hq_39]; exact hc2) (fun q => (hND q).trans (by rw [List.mem_cons, or_assoc])) (fun q m9 e9 => e9.elim (hdj q (List.mem_cons_of_mem _ m9)) (fun e8 => (List.nodup_cons.mp hnl).1 (e8 ▸ m9))) (List.nodup_cons.mp hnl).2 (Fr.c (Fr.w (Fr.w (Fr.w (Fr.w (Fr.c Fr.rf hFc (fun _ z9 => Or.inl (Or.inl z9))) w_54 (Or.inl (Or.inr rfl))) w_55 (Or.inl (Or.inr rfl))) w_56 (Or.inl (Or.inr rfl))) w_57 (Or.inl (Or.inl hp))) hFb (fun a9 z9 => Or.inl z9)) (by omega) (by omega))) (by simp)
              · skip
                refine aw_aload_n (n := 172) dJ27_treeify_171 rfl 3 rfl rfl ?_
                refine aw_aload (n := 174) dJ27_treeify_172 0 rfl rfl ?_
                refine aw_putK (n := 177) (fs' := [.null, .null, .int (κ y).1, .ref (κ y).2.1, .ref (κ y).2.2, va_rf (nx y), va_rf (some p), va_rf ((up (up lf1 y none) y none) y), va_rf ((up (up rt1 y none) y none) y), va_rf (pv y), .int (bI ((ub rd1 y false) y))]) (C0 := RJ27) (T := TJ27) (N := 11) (ci := 27) dJ27_treeify_174 rfl in_J27 tyJ27 tyJ27_ok nmJ27 q1601 6 (by decide) q1609 (Or.inl rfl) (Or.inl rfl) rfl (hT_55 y (Or.inr rfl)).1 (hT_55 y (Or.inr rfl)).2 rfl rfl (Nat.le_of_ble_eq_true rfl) rfl rfl (fun y_58 w_58 => ?_)
                have zy_58 : y_58.1 = y_55.1 := w_58.2.2
                have hT_58 := TPic.ppa (v := some p) hT_55 w_58
                refine aw_iload (n := 179) dJ27_treeify_177 1 rfl rfl ?_
                refine aw_if_gt (n := 182) (tgt := 191) dJ27_treeify_179 (by decide) rfl (fun c_179 => ?_) (fun c_179 => ?_)
                · skip
                  refine aw_aload (n := 193) dJ27_treeify_191 0 rfl rfl ?_
                  refine aw_aload_n (n := 194) dJ27_treeify_193 rfl 3 rfl rfl ?_
                  refine aw_putK (n := 197) (fs' := [.null, .null, .int (κ p).1, .ref (κ p).2.1, .ref (κ p).2.2, va_rf (nx p), va_rf ((up (up pa1 y none) y (some p)) p), va_rf ((up (up lf1 y none) y none) p), va_rf (some y), va_rf (pv p), .int (bI ((ub rd1 y false) p))]) (C0 := RJ27) (T := TJ27) (N := 11) (ci := 27) dJ27_treeify_194 rfl in_J27 tyJ27 tyJ27_ok nmJ27 q1601 8 (by decide) q1611 (Or.inl rfl) (Or.inl rfl) rfl (hT_58 p (Or.inl hp)).1 (hT_58 p (Or.inl hp)).2 rfl rfl (Nat.le_of_ble_eq_true rfl) rfl rfl (fun y_59 w_59 => ?_)
                  have zy_59 : y_59.1 = y_58.1 := w_59.2.2
                  have hT_59 := TPic.prt (v := some y) hT_58 w_59
                  refine aw_aload_n (n := 198) dJ27_treeify_197 rfl 4 rfl rfl ?_
                  refine aw_aload_n (n := 199) dJ27_treeify_198 rfl 3 rfl rfl ?_
                  obtain ⟨lo0, hi0_, ht0, hB0⟩ := leafR2 hBc (fun a b ha hb => htr a b ((hND a).mpr (Or.inl ha)) ((hND b).mpr (Or.inl hb))) (fun a ha => (hKc a ((hND a).mpr (Or.inl ha))).1.choose_spec.ok) nDy hp g2 hd2 hd3
                  refine aw_callS (n := 202) (As := [.ref root1, .ref y]) (rest := []) (K2 := kJ27_balanceInsertion) dJ27_treeify_199 q1575 q1576 q145 q1577 hcJ27_balanceInsertion (hm_bal G y_59 (fun q => D q ∨ q = y) κ nx (up (up pa1 y none) y (some p)) (up (up lf1 y none) y none) (up (up (up rt1 y none) y none) p (some y)) pv (ub rd1 y false) hT_59 (ltM tx) root1 lo0 hi0_ ht0 (B1 + 1) hB0 (ltN3 _) y (Or.inr rfl)) rfl (Nat.le_of_ble_eq_true rfl) ⟨Nat.le_of_ble_eq_true rfl, Nat.le_of_ble_eq_true rfl⟩ ⟨by first | omega | (dsimp only; omega) | decide, by first | omega | (dsimp only; omega) | decide⟩ (fun _ _ _ z => z.elim) rfl (fun r_199 h_199 q_199 => ?_)
                  obtain ⟨root2, pa2, lf2, rt2, rd2, lo2, hi2, ht2, B2, rfl, hT2, hB2, hFb, hzb⟩ := q_199
                  have zc_199 : y_59.1 ≤ h_199.1 := hFb.1
                  refine AW.sts (st' := [.ref root2]) rfl ?_
                  refine aw_astore_n (n := 203) (lv' := [(2, .ref root2), (12, .ref p), (9, .int d9), (4, .ref n9_39), (3, .ref y), (1, .ref t), (0, .ref hd)]) dJ27_treeify_202 rfl (by decide) rfl rfl ?_
                  refine aw_goto (tgt := 209) dJ27_treeify_203 (by decide) ?_
                  refine aw_aload (n := 211) dJ27_treeify_209 3 rfl rfl ?_
                  refine aw_astore_n (n := 212) (lv' := [(3, .ref n9_39), (2, .ref root2), (12, .ref p), (9, .int d9), (4, .ref n9_39), (1, .ref t), (0, .ref hd)]) dJ27_treeify_211 rfl (by decide) rfl rfl ?_
                  refine aw_goto (tgt := 4) dJ27_treeify_212 (by decide) ?_
                  have g9 : (y :: L2).length = L2.length + 1 := rfl
                  exact AW.lvs (lv' := [(3, .ref n9_39), (2, .ref root2), (1, .ref t), (0, .ref hd)]) (AW.eq (lv2 := _) (rfl) rfl rfl rfl rfl (ih_4 h_199 (fun q => D q ∨ q = y) L2 (some n9_39) root2 pa2 lf2 rt2 rd2 lo2 hi2 ht2 B2 hT2 hB2 (by rw [← hq_39]; exact hc2) (fun q => (hND q).trans (by rw [List.mem_cons, or_assoc])) (fun q m9 e9 => e9.elim (hdj q (List.mem_cons_of_mem _ m9)) (fun e8 => (List.nodup_cons.mp hnl).1 (e8 ▸ m9))) (List.nodup_cons.mp hnl).2 (Fr.c (Fr.w (Fr.w (Fr.w (Fr.w (Fr.c Fr.rf hFc (fun _ z9 => Or.inl (Or.inl z9))) w_54 (Or.inl (Or.inr rfl))) w_55 (Or.inl (Or.inr rfl))) w_58 (Or.inl (Or.inr rfl))) w_59 (Or.inl (Or.inl hp))) hFb (fun a9 z9 => Or.inl z9)) (by omega) (by omega))) (by simp)
                · skip
                  exact absurd hd1 c_179
            rcases hkc with rfl | rfl
            · skip
              refine AW.eq (lv2 := [(8, .ref p), (7, .null), (4, .ref n9_39), (6, .int ((κ y).1)), (5, .ref ((κ y).2.1)), (3, .ref y), (2, .ref root1), (1, .ref t), (0, .ref hd)]) (s2 := []) rfl rfl rfl rfl rfl ?_
              refine aw_aload (n := 66) dJ27_treeify_64 0 rfl rfl ?_
              refine aw_getf (n := 69) (v := .ref ((κ p).2.1)) (C0 := RJ27) (T := TJ27) dJ27_treeify_66 rfl 3 q1551 (Or.inr q1552) (hT_55 p (Or.inl hp)).1 rfl rfl ?_
              refine aw_astore (n := 71) (lv' := [(11, .ref ((κ p).2.1)), (8, .ref p), (7, .null), (4, .ref n9_39), (6, .int ((κ y).1)), (5, .ref ((κ y).2.1)), (3, .ref y), (2, .ref root1), (1, .ref t), (0, .ref hd)]) dJ27_treeify_69 (by decide) rfl rfl ?_
              refine aw_aload (n := 73) dJ27_treeify_71 1 rfl rfl ?_
              refine aw_getf (n := 76) (v := .int ((κ p).1)) (C0 := RJ27) (T := TJ27) dJ27_treeify_73 rfl 2 q1547 (Or.inr q1548) (hT_55 p (Or.inl hp)).1 rfl rfl ?_
              refine aw_dup (n := 77) dJ27_treeify_76 rfl rfl ?_
              refine aw_istore (n := 79) (lv' := [(10, .int ((κ p).1)), (11, .ref ((κ p).2.1)), (8, .ref p), (7, .null), (4, .ref n9_39), (6, .int ((κ y).1)), (5, .ref ((κ y).2.1)), (3, .ref y), (2, .ref root1), (1, .ref t), (0, .ref hd)]) dJ27_treeify_77 (by decide) rfl rfl ?_
              refine aw_iload (n := 81) dJ27_treeify_79 5 rfl rfl ?_
              refine aw_icmp_le (n := 84) (tgt := 90) dJ27_treeify_81 (by decide) rfl (fun c_81 => ?_) (fun c_81 => ?_)
              · skip
                refine aw_iload (n := 92) dJ27_treeify_90 0 rfl rfl ?_
                refine aw_iload (n := 94) dJ27_treeify_92 5 rfl rfl ?_
                refine aw_icmp_ge (n := 97) (tgt := 103) dJ27_treeify_94 (by decide) rfl (fun c_94 => ?_) (fun c_94 => ?_)
                · skip
                  have eh : spT (tx y) = spT (tx p) := by rw [← hKh, ← hKhy]; exact Int32.le_antisymm c_94 c_81
                  have nt : tx y ≠ tx p := htr y p hNy ((hND p).mpr (Or.inl hp)) (Ne.symm npy)
                  refine aw_aloadN (n := 105) dJ27_treeify_103 3 rfl rfl ?_
                  refine aw_ifnonnullN (n := 108) dJ27_treeify_105 rfl ?_
                  refine aw_aload (n := 110) dJ27_treeify_108 6 rfl rfl ?_
                  refine aw_callS (n := 113) (As := [.ref ((κ y).2.1)]) (rest := []) (K2 := kJ4_comparableClassFor) dJ27_treeify_110 q1225 q1226 q112 q1227 hcJ4_comparableClassFor (hm_compF G y_55 (κ y).2.1 uy8 (tx y) _ _ hKy) rfl (Nat.le_of_ble_eq_true rfl) ⟨Nat.le_of_ble_eq_true rfl, Nat.le_of_ble_eq_true rfl⟩ ⟨by first | omega | (dsimp only; omega) | decide, by first | omega | (dsimp only; omega) | decide⟩ (fun _ _ _ z => z.elim) rfl (fun r_110 h_110 q_110 => ?_)
                  obtain ⟨rfl, rfl⟩ := q_110
                  refine AW.sts (st' := [.ref (gM G 0)]) rfl ?_
                  refine aw_dup (n := 114) dJ27_treeify_113 rfl rfl ?_
                  refine aw_astore (n := 116) (lv' := [(7, .ref (gM G 0)), (10, .int ((κ p).1)), (11, .ref ((κ p).2.1)), (8, .ref p), (4, .ref n9_39), (6, .int ((κ y).1)), (5, .ref ((κ y).2.1)), (3, .ref y), (2, .ref root1), (1, .ref t), (0, .ref hd)]) dJ27_treeify_114 (by decide) rfl rfl ?_
                  refine aw_ifnull (n := 119) dJ27_treeify_116 rfl ?_
                  refine aw_aload (n := 121) dJ27_treeify_119 0 rfl rfl ?_
                  refine aw_aload (n := 123) dJ27_treeify_121 6 rfl rfl ?_
                  refine aw_aload (n := 125) dJ27_treeify_123 2 rfl rfl ?_
                  refine aw_callS (n := 128) (As := [.ref (gM G 0), .ref ((κ y).2.1), .ref ((κ p).2.1)]) (rest := []) (K2 := kJ4_compareComparables) dJ27_treeify_125 q1231 q1232 q112 q1233 hcJ4_compareComparables (hm_cmpC G y_55 (κ y).2.1 uy8 (κ p).2.1 up9 (tx y) (tx p) _ _ _ _ hKy hKp (Or.inl hKy8)) rfl (Nat.le_of_ble_eq_true rfl) ⟨Nat.le_of_ble_eq_true rfl, Nat.le_of_ble_eq_true rfl⟩ ⟨by first | omega | (dsimp only; omega) | decide, by first | omega | (dsimp only; omega) | decide⟩ (fun _ _ _ z => z.elim) rfl (fun r_125 h_125 q_125 => ?_)
                  obtain ⟨rfl, rfl⟩ := q_125
                  refine AW.sts (st' := [.int (cmpT (tx y) (tx p))]) rfl ?_
                  refine aw_dup (n := 129) dJ27_treeify_128 rfl rfl ?_
                  refine aw_istore (n := 131) (lv' := [(9, .int (cmpT (tx y) (tx p))), (7, .ref (gM G 0)), (10, .int ((κ p).1)), (11, .ref ((κ p).2.1)), (8, .ref p), (4, .ref n9_39), (6, .int ((κ y).1)), (5, .ref ((κ y).2.1)), (3, .ref y), (2, .ref root1), (1, .ref t), (0, .ref hd)]) dJ27_treeify_129 (by decide) rfl rfl ?_
                  refine aw_if_ne (n := 134) (tgt := 143) dJ27_treeify_131 (by decide) rfl (fun c_131 => ?_) (fun c_131 => ?_)
                  · skip
                    refine aw_aload (n := 145) dJ27_treeify_143 4 rfl rfl ?_
                    refine aw_astore (n := 147) (lv' := [(12, .ref p), (9, .int (cmpT (tx y) (tx p))), (7, .ref (gM G 0)), (10, .int ((κ p).1)), (11, .ref ((κ p).2.1)), (8, .ref p), (4, .ref n9_39), (6, .int ((κ y).1)), (5, .ref ((κ y).2.1)), (3, .ref y), (2, .ref root1), (1, .ref t), (0, .ref hd)]) dJ27_treeify_145 (by decide) rfl rfl ?_
                    refine aw_iload (n := 149) dJ27_treeify_147 1 rfl rfl ?_
                    refine aw_if_gt (n := 152) (tgt := 160) dJ27_treeify_149 (by decide) rfl (fun c_149 => ?_) (fun c_149 => ?_)
                    · skip
                      have hs9 : 0 < cmpT (tx y) (tx p) := c_149
                      have hd9 : ltK (spT (tx p), tx p) (spT (tx y), tx y) := (by rcases ltX_cmp okb.1 okp.1 okb.2 okp.2 with z | z | z; exact absurd z.1 (fun e9 => absurd (Int32.lt_trans c_149 e9) Int32.lt_irrefl); exact absurd z.2 nt; exact Or.inr ⟨eh.symm, z.2⟩)
                      refine aw_aload (n := 162) dJ27_treeify_160 5 rfl rfl ?_
                      rcases optc (rt1 p) with hq_60 | ⟨r162_60, hq_60⟩
                      · skip
                        refine aw_getf (n := 165) (v := .null) (C0 := RJ27) (T := TJ27) dJ27_treeify_162 rfl 8 q1611 (Or.inl rfl) (hT_55 p (Or.inl hp)).1 (congrArg (fun z9 => some (va_rf z9)) (show (up (up rt1 y none) y none) p = none from by simp only [up]; rw [if_neg npy, if_neg npy, hq_60])) rfl ?_
                        refine aw_dup (n := 166) dJ27_treeify_165 rfl rfl ?_
                        refine aw_astoreN (n := 168) (lv' := [(8, .null), (12, .ref p), (9, .int (cmpT (tx y) (tx p))), (7, .ref (gM G 0)), (10, .int ((κ p).1)), (11, .ref ((κ p).2.1)), (4, .ref n9_39), (6, .int ((κ y).1)), (5, .ref ((κ y).2.1)), (3, .ref y), (2, .ref root1), (1, .ref t), (0, .ref hd)]) dJ27_treeify_166 (by decide) rfl rfl ?_
                        refine aw_ifnonnullN (n := 171) dJ27_treeify_168 rfl ?_
                        exact AW.lvs (lv' := [(12, .ref p), (9, .int (cmpT (tx y) (tx p))), (4, .ref n9_39), (3, .ref y), (2, .ref root1), (1, .ref t), (0, .ref hd)]) (AW.eq (lv2 := _) (rfl) rfl rfl rfl rfl (T9 (cmpT (tx y) (tx p)) (Or.inr ⟨hs9, hd9, hq_60⟩))) (by simp)
                      · skip
                        have k_r162_60 : D r162_60 := BT.ch hBc hp (Or.inr hq_60)
                        refine aw_getf (n := 165) (v := .ref r162_60) (C0 := RJ27) (T := TJ27) dJ27_treeify_162 rfl 8 q1611 (Or.inl rfl) (hT_55 p (Or.inl hp)).1 (congrArg (fun z9 => some (va_rf z9)) (show (up (up rt1 y none) y none) p = some r162_60 from by simp only [up]; rw [if_neg npy, if_neg npy, hq_60])) rfl ?_
                        refine aw_dup (n := 166) dJ27_treeify_165 rfl rfl ?_
                        refine aw_astore (n := 168) (lv' := [(8, .ref r162_60), (12, .ref p), (9, .int (cmpT (tx y) (tx p))), (7, .ref (gM G 0)), (10, .int ((κ p).1)), (11, .ref ((κ p).2.1)), (4, .ref n9_39), (6, .int ((κ y).1)), (5, .ref ((κ y).2.1)), (3, .ref y), (2, .ref root1), (1, .ref t), (0, .ref hd)]) dJ27_treeify_166 (by decide) rfl rfl ?_
                        refine aw_ifnonnull (tgt := 206) dJ27_treeify_168 (by decide) ?_
                        refine aw_goto (tgt := 64) dJ27_treeify_206 (by decide) ?_
                        have t9 := kLH_R hBc hp g2 hd9 hq_60
                        have m9 := t9.2.1
                        exact AW.lvs (lv' := [(8, .ref r162_60), (7, .ref (gM G 0)), (4, .ref n9_39), (6, .int ((κ y).1)), (5, .ref ((κ y).2.1)), (3, .ref y), (2, .ref root1), (1, .ref t), (0, .ref hd)]) (AW.eq (lv2 := _) (rfl) rfl rfl rfl rfl (ih_64 r162_60 t9.1 t9.2.2.1 t9.2.2.2 (some (gM G 0)) (Or.inr rfl) (by omega))) (by simp)
                    · skip
                      have hs9 : cmpT (tx y) (tx p) ≤ 0 := Int32.not_lt.mp c_149
                      have hd9 : ltK (spT (tx y), tx y) (spT (tx p), tx p) := (by rcases ltX_cmp okb.1 okp.1 okb.2 okp.2 with z | z | z; exact Or.inr ⟨eh, z.2⟩; exact absurd z.2 nt; exact absurd z.1 c_149)
                      refine aw_aload (n := 154) dJ27_treeify_152 5 rfl rfl ?_
                      rcases optc (lf1 p) with hq_61 | ⟨l154_61, hq_61⟩
                      · skip
                        refine aw_getf (n := 157) (v := .null) (C0 := RJ27) (T := TJ27) dJ27_treeify_154 rfl 7 q1610 (Or.inl rfl) (hT_55 p (Or.inl hp)).1 (congrArg (fun z9 => some (va_rf z9)) (show (up (up lf1 y none) y none) p = none from by simp only [up]; rw [if_neg npy, if_neg npy, hq_61])) rfl ?_
                        refine aw_goto (tgt := 165) dJ27_treeify_157 (by decide) ?_
                        refine aw_dup (n := 166) dJ27_treeify_165 rfl rfl ?_
                        refine aw_astoreN (n := 168) (lv' := [(8, .null), (12, .ref p), (9, .int (cmpT (tx y) (tx p))), (7, .ref (gM G 0)), (10, .int ((κ p).1)), (11, .ref ((κ p).2.1)), (4, .ref n9_39), (6, .int ((κ y).1)), (5, .ref ((κ y).2.1)), (3, .ref y), (2, .ref root1), (1, .ref t), (0, .ref hd)]) dJ27_treeify_166 (by decide) rfl rfl ?_
                        refine aw_ifnonnullN (n := 171) dJ27_treeify_168 rfl ?_
                        exact AW.lvs (lv' := [(12, .ref p), (9, .int (cmpT (tx y) (tx p))), (4, .ref n9_39), (3, .ref y), (2, .ref root1), (1, .ref t), (0, .ref hd)]) (AW.eq (lv2 := _) (rfl) rfl rfl rfl rfl (T9 (cmpT (tx y) (tx p)) (Or.inl ⟨hs9, hd9, hq_61⟩))) (by simp)
                      · skip
                        have k_l154_61 : D l154_61 := BT.ch hBc hp (Or.inl hq_61)
                        refine aw_getf (n := 157) (v := .ref l154_61) (C0 := RJ27) (T := TJ27) dJ27_treeify_154 rfl 7 q1610 (Or.inl rfl) (hT_55 p (Or.inl hp)).1 (congrArg (fun z9 => some (va_rf z9)) (show (up (up lf1 y none) y none) p = some l154_61 from by simp only [up]; rw [if_neg npy, if_neg npy, hq_61])) rfl ?_
                        refine aw_goto (tgt := 165) dJ27_treeify_157 (by decide) ?_
                        refine aw_dup (n := 166) dJ27_treeify_165 rfl rfl ?_
                        refine aw_astore (n := 168) (lv' := [(8, .ref l154_61), (12, .ref p), (9, .int (cmpT (tx y) (tx p))), (7, .ref (gM G 0)), (10, .int ((κ p).1)), (11, .ref ((κ p).2.1)), (4, .ref n9_39), (6, .int ((κ y).1)), (5, .ref ((κ y).2.1)), (3, .ref y), (2, .ref root1), (1, .ref t), (0, .ref hd)]) dJ27_treeify_166 (by decide) rfl rfl ?_
                        refine aw_ifnonnull (tgt := 206) dJ27_treeify_168 (by decide) ?_
                        refine aw_goto (tgt := 64) dJ27_treeify_206 (by decide) ?_
                        have t9 := kLH_L hBc hp g1 hd9 hq_61
                        have m9 := t9.2.1
                        exact AW.lvs (lv' := [(8, .ref l154_61), (7, .ref (gM G 0)), (4, .ref n9_39), (6, .int ((κ y).1)), (5, .ref ((κ y).2.1)), (3, .ref y), (2, .ref root1), (1, .ref t), (0, .ref hd)]) (AW.eq (lv2 := _) (rfl) rfl rfl rfl rfl (ih_64 l154_61 t9.1 t9.2.2.1 t9.2.2.2 (some (gM G 0)) (Or.inr rfl) (by omega))) (by simp)
                  · skip
                    exfalso; rcases ltX_cmp okb.1 okp.1 okb.2 okp.2 with z | z | z; rw [c_131] at z; exact absurd z.1 (by decide); exact nt z.2; rw [c_131] at z; exact absurd z.1 (by decide)
                · skip
                  have g9 : spT (tx p) < spT (tx y) := by rw [← hKh, ← hKhy]; exact Int32.not_le.mp c_94
                  have hd9 : ltK (spT (tx p), tx p) (spT (tx y), tx y) := Or.inl g9
                  have hs9 : (0 : Int32) < 1 := by decide
                  refine aw_iconst (n := 98) (v := 1) dJ27_treeify_97 (by decide) rfl ?_
                  refine aw_istore (n := 100) (lv' := [(9, .int 1), (10, .int ((κ p).1)), (11, .ref ((κ p).2.1)), (8, .ref p), (7, .null), (4, .ref n9_39), (6, .int ((κ y).1)), (5, .ref ((κ y).2.1)), (3, .ref y), (2, .ref root1), (1, .ref t), (0, .ref hd)]) dJ27_treeify_98 (by decide) rfl rfl ?_
                  refine aw_goto (tgt := 143) dJ27_treeify_100 (by decide) ?_
                  refine aw_aload (n := 145) dJ27_treeify_143 3 rfl rfl ?_
                  refine aw_astore (n := 147) (lv' := [(12, .ref p), (9, .int 1), (10, .int ((κ p).1)), (11, .ref ((κ p).2.1)), (8, .ref p), (7, .null), (4, .ref n9_39), (6, .int ((κ y).1)), (5, .ref ((κ y).2.1)), (3, .ref y), (2, .ref root1), (1, .ref t), (0, .ref hd)]) dJ27_treeify_145 (by decide) rfl rfl ?_
                  refine aw_iload (n := 149) dJ27_treeify_147 1 rfl rfl ?_
                  refine aw_if_gt (n := 152) (tgt := 160) dJ27_treeify_149 (by decide) rfl (fun c_149_2 => ?_) (fun c_149_2 => ?_)
                  · skip
                    refine aw_aload (n := 162) dJ27_treeify_160 4 rfl rfl ?_
                    rcases optc (rt1 p) with hq_62 | ⟨r162_62, hq_62⟩
                    · skip
                      refine aw_getf (n := 165) (v := .null) (C0 := RJ27) (T := TJ27) dJ27_treeify_162 rfl 8 q1611 (Or.inl rfl) (hT_55 p (Or.inl hp)).1 (congrArg (fun z9 => some (va_rf z9)) (show (up (up rt1 y none) y none) p = none from by simp only [up]; rw [if_neg npy, if_neg npy, hq_62])) rfl ?_
                      refine aw_dup (n := 166) dJ27_treeify_165 rfl rfl ?_
                      refine aw_astoreN (n := 168) (lv' := [(8, .null), (12, .ref p), (9, .int 1), (10, .int ((κ p).1)), (11, .ref ((κ p).2.1)), (7, .null), (4, .ref n9_39), (6, .int ((κ y).1)), (5, .ref ((κ y).2.1)), (3, .ref y), (2, .ref root1), (1, .ref t), (0, .ref hd)]) dJ27_treeify_166 (by decide) rfl rfl ?_
                      refine aw_ifnonnullN (n := 171) dJ27_treeify_168 rfl ?_
                      exact AW.lvs (lv' := [(12, .ref p), (9, .int 1), (4, .ref n9_39), (3, .ref y), (2, .ref root1), (1, .ref t), (0, .ref hd)]) (AW.eq (lv2 := _) (rfl) rfl rfl rfl rfl (T9 1 (Or.inr ⟨hs9, hd9, hq_62⟩))) (by simp)
                    · skip
                      have k_r162_62 : D r162_62 := BT.ch hBc hp (Or.inr hq_62)
                      refine aw_getf (n := 165) (v := .ref r162_62) (C0 := RJ27) (T := TJ27) dJ27_treeify_162 rfl 8 q1611 (Or.inl rfl) (hT_55 p (Or.inl hp)).1 (congrArg (fun z9 => some (va_rf z9)) (show (up (up rt1 y none) y none) p = some r162_62 from by simp only [up]; rw [if_neg npy, if_neg npy, hq_62])) rfl ?_
                      refine aw_dup (n := 166) dJ27_treeify_165 rfl rfl ?_
                      refine aw_astore (n := 168) (lv' := [(8, .ref r162_62), (12, .ref p), (9, .int 1), (10, .int ((κ p).1)), (11, .ref ((κ p).2.1)), (7, .null), (4, .ref n9_39), (6, .int ((κ y).1)), (5, .ref ((κ y).2.1)), (3, .ref y), (2, .ref root1), (1, .ref t), (0, .ref hd)]) dJ27_treeify_166 (by decide) rfl rfl ?_
                      refine aw_ifnonnull (tgt := 206) dJ27_treeify_168 (by decide) ?_
                      refine aw_goto (tgt := 64) dJ27_treeify_206 (by decide) ?_
                      have t9 := kLH_R hBc hp g2 hd9 hq_62
                      have m9 := t9.2.1
                      exact AW.lvs (lv' := [(8, .ref r162_62), (7, .null), (4, .ref n9_39), (6, .int ((κ y).1)), (5, .ref ((κ y).2.1)), (3, .ref y), (2, .ref root1), (1, .ref t), (0, .ref hd)]) (AW.eq (lv2 := _) (rfl) rfl rfl rfl rfl (ih_64 r162_62 t9.1 t9.2.2.1 t9.2.2.2 none (Or.inl rfl) (by omega))) (by simp)
                  · skip
                    exact absurd c_149_2 (by decide +kernel)
              · skip
                have g9 : spT (tx y) < spT (tx p) := by rw [← hKh, ← hKhy]; exact Int32.not_le.mp c_81
                have hd9 : ltK (spT (tx y), tx y) (spT (tx p), tx p) := Or.inl g9
                have hs9 : (-1 : Int32) ≤ 0 := by decide
                refine aw_iconst (n := 85) (v := (-1)) dJ27_treeify_84 (by decide) rfl ?_
                refine aw_istore (n := 87) (lv' := [(9, .int (-1)), (10, .int ((κ p).1)), (11, .ref ((κ p).2.1)), (8, .ref p), (7, .null), (4, .ref n9_39), (6, .int ((κ y).1)), (5, .ref ((κ y).2.1)), (3, .ref y), (2, .ref root1), (1, .ref t), (0, .ref hd)]) dJ27_treeify_85 (by decide) rfl rfl ?_
                refine aw_goto (tgt := 143) dJ27_treeify_87 (by decide) ?_
                refine aw_aload (n := 145) dJ27_treeify_143 3 rfl rfl ?_
                refine aw_astore (n := 147) (lv' := [(12, .ref p), (9, .int (-1)), (10, .int ((κ p).1)), (11, .ref ((κ p).2.1)), (8, .ref p), (7, .null), (4, .ref n9_39), (6, .int ((κ y).1)), (5, .ref ((κ y).2.1)), (3, .ref y), (2, .ref root1), (1, .ref t), (0, .ref hd)]) dJ27_treeify_145 (by decide) rfl rfl ?_
                refine aw_iload (n := 149) dJ27_treeify_147 1 rfl rfl ?_
                refine aw_if_gt (n := 152) (tgt := 160) dJ27_treeify_149 (by decide) rfl (fun c_149_3 => ?_) (fun c_149_3 => ?_)
                · skip
                  exact absurd c_149_3 (by decide +kernel)
                · skip
                  refine aw_aload (n := 154) dJ27_treeify_152 4 rfl rfl ?_
                  rcases optc (lf1 p) with hq_63 | ⟨l154_63, hq_63⟩
                  · skip
                    refine aw_getf (n := 157) (v := .null) (C0 := RJ27) (T := TJ27) dJ27_treeify_154 rfl 7 q1610 (Or.inl rfl) (hT_55 p (Or.inl hp)).1 (congrArg (fun z9 => some (va_rf z9)) (show (up (up lf1 y none) y none) p = none from by simp only [up]; rw [if_neg npy, if_neg npy, hq_63])) rfl ?_
                    refine aw_goto (tgt := 165) dJ27_treeify_157 (by decide) ?_
                    refine aw_dup (n := 166) dJ27_treeify_165 rfl rfl ?_
                    refine aw_astoreN (n := 168) (lv' := [(8, .null), (12, .ref p), (9, .int (-1)), (10, .int ((κ p).1)), (11, .ref ((κ p).2.1)), (7, .null), (4, .ref n9_39), (6, .int ((κ y).1)), (5, .ref ((κ y).2.1)), (3, .ref y), (2, .ref root1), (1, .ref t), (0, .ref hd)]) dJ27_treeify_166 (by decide) rfl rfl ?_
                    refine aw_ifnonnullN (n := 171) dJ27_treeify_168 rfl ?_
                    exact AW.lvs (lv' := [(12, .ref p), (9, .int (-1)), (4, .ref n9_39), (3, .ref y), (2, .ref root1), (1, .ref t), (0, .ref hd)]) (AW.eq (lv2 := _) (rfl) rfl rfl rfl rfl (T9 (-1) (Or.inl ⟨hs9, hd9, hq_63⟩))) (by simp)
                  · skip
                    have k_l154_63 : D l154_63 := BT.ch hBc hp (Or.inl hq_63)
                    refine aw_getf (n := 157) (v := .ref l154_63) (C0 := RJ27) (T := TJ27) dJ27_treeify_154 rfl 7 q1610 (Or.inl rfl) (hT_55 p (Or.inl hp)).1 (congrArg (fun z9 => some (va_rf z9)) (show (up (up lf1 y none) y none) p = some l154_63 from by simp only [up]; rw [if_neg npy, if_neg npy, hq_63])) rfl ?_
                    refine aw_goto (tgt := 165) dJ27_treeify_157 (by decide) ?_
                    refine aw_dup (n := 166) dJ27_treeify_165 rfl rfl ?_
                    refine aw_astore (n := 168) (lv' := [(8, .ref l154_63), (12, .ref p), (9, .int (-1)), (10, .int ((κ p).1)), (11, .ref ((κ p).2.1)), (7, .null), (4, .ref n9_39), (6, .int ((κ y).1)), (5, .ref ((κ y).2.1)), (3, .ref y), (2, .ref root1), (1, .ref t), (0, .ref hd)]) dJ27_treeify_166 (by decide) rfl rfl ?_
                    refine aw_ifnonnull (tgt := 206) dJ27_treeify_168 (by decide) ?_
                    refine aw_goto (tgt := 64) dJ27_treeify_206 (by decide) ?_
                    have t9 := kLH_L hBc hp g1 hd9 hq_63
                    have m9 := t9.2.1
                    exact AW.lvs (lv' := [(8, .ref l154_63), (7, .null), (4, .ref n9_39), (6, .int ((κ y).1)), (5, .ref ((κ y).2.1)), (3, .ref y), (2, .ref root1), (1, .ref t), (0, .ref hd)]) (AW.eq (lv2 := _) (rfl) rfl rfl rfl rfl (ih_64 l154_63 t9.1 t9.2.2.1 t9.2.2.2 none (Or.inl rfl) (by omega))) (by simp)
            · skip
              refine AW.eq (lv2 := [(8, .ref p), (7, .ref (gM G 0)), (4, .ref n9_39), (6, .int ((κ y).1)), (5, .ref ((κ y).2.1)), (3, .ref y), (2, .ref root1), (1, .ref t), (0, .ref hd)]) (s2 := []) rfl rfl rfl rfl rfl ?_
              refine aw_aload (n := 66) dJ27_treeify_64 0 rfl rfl ?_
              refine aw_getf (n := 69) (v := .ref ((κ p).2.1)) (C0 := RJ27) (T := TJ27) dJ27_treeify_66 rfl 3 q1551 (Or.inr q1552) (hT_55 p (Or.inl hp)).1 rfl rfl ?_
              refine aw_astore (n := 71) (lv' := [(11, .ref ((κ p).2.1)), (8, .ref p), (7, .ref (gM G 0)), (4, .ref n9_39), (6, .int ((κ y).1)), (5, .ref ((κ y).2.1)), (3, .ref y), (2, .ref root1), (1, .ref t), (0, .ref hd)]) dJ27_treeify_69 (by decide) rfl rfl ?_
              refine aw_aload (n := 73) dJ27_treeify_71 1 rfl rfl ?_
              refine aw_getf (n := 76) (v := .int ((κ p).1)) (C0 := RJ27) (T := TJ27) dJ27_treeify_73 rfl 2 q1547 (Or.inr q1548) (hT_55 p (Or.inl hp)).1 rfl rfl ?_
              refine aw_dup (n := 77) dJ27_treeify_76 rfl rfl ?_
              refine aw_istore (n := 79) (lv' := [(10, .int ((κ p).1)), (11, .ref ((κ p).2.1)), (8, .ref p), (7, .ref (gM G 0)), (4, .ref n9_39), (6, .int ((κ y).1)), (5, .ref ((κ y).2.1)), (3, .ref y), (2, .ref root1), (1, .ref t), (0, .ref hd)]) dJ27_treeify_77 (by decide) rfl rfl ?_
              refine aw_iload (n := 81) dJ27_treeify_79 5 rfl rfl ?_
              refine aw_icmp_le (n := 84) (tgt := 90) dJ27_treeify_81 (by decide) rfl (fun c_81 => ?_) (fun c_81 => ?_)
              · skip
                refine aw_iload (n := 92) dJ27_treeify_90 0 rfl rfl ?_
                refine aw_iload (n := 94) dJ27_treeify_92 5 rfl rfl ?_
                refine aw_icmp_ge (n := 97) (tgt := 103) dJ27_treeify_94 (by decide) rfl (fun c_94 => ?_) (fun c_94 => ?_)
                · skip
                  have eh : spT (tx y) = spT (tx p) := by rw [← hKh, ← hKhy]; exact Int32.le_antisymm c_94 c_81
                  have nt : tx y ≠ tx p := htr y p hNy ((hND p).mpr (Or.inl hp)) (Ne.symm npy)
                  refine aw_aload (n := 105) dJ27_treeify_103 3 rfl rfl ?_
                  refine aw_ifnonnull (tgt := 119) dJ27_treeify_105 (by decide) ?_
                  refine aw_aload (n := 121) dJ27_treeify_119 3 rfl rfl ?_
                  refine aw_aload (n := 123) dJ27_treeify_121 6 rfl rfl ?_
                  refine aw_aload (n := 125) dJ27_treeify_123 1 rfl rfl ?_
                  refine aw_callS (n := 128) (As := [.ref (gM G 0), .ref ((κ y).2.1), .ref ((κ p).2.1)]) (rest := []) (K2 := kJ4_compareComparables) dJ27_treeify_125 q1231 q1232 q112 q1233 hcJ4_compareComparables (hm_cmpC G y_55 (κ y).2.1 uy8 (κ p).2.1 up9 (tx y) (tx p) _ _ _ _ hKy hKp (Or.inl hKy8)) rfl (Nat.le_of_ble_eq_true rfl) ⟨Nat.le_of_ble_eq_true rfl, Nat.le_of_ble_eq_true rfl⟩ ⟨by first | omega | (dsimp only; omega) | decide, by first | omega | (dsimp only; omega) | decide⟩ (fun _ _ _ z => z.elim) rfl (fun r_125 h_125 q_125 => ?_)
                  obtain ⟨rfl, rfl⟩ := q_125
                  refine AW.sts (st' := [.int (cmpT (tx y) (tx p))]) rfl ?_
                  refine aw_dup (n := 129) dJ27_treeify_128 rfl rfl ?_
                  refine aw_istore (n := 131) (lv' := [(9, .int (cmpT (tx y) (tx p))), (10, .int ((κ p).1)), (11, .ref ((κ p).2.1)), (8, .ref p), (7, .ref (gM G 0)), (4, .ref n9_39), (6, .int ((κ y).1)), (5, .ref ((κ y).2.1)), (3, .ref y), (2, .ref root1), (1, .ref t), (0, .ref hd)]) dJ27_treeify_129 (by decide) rfl rfl ?_
                  refine aw_if_ne (n := 134) (tgt := 143) dJ27_treeify_131 (by decide) rfl (fun c_131 => ?_) (fun c_131 => ?_)
                  · skip
                    refine aw_aload (n := 145) dJ27_treeify_143 3 rfl rfl ?_
                    refine aw_astore (n := 147) (lv' := [(12, .ref p), (9, .int (cmpT (tx y) (tx p))), (10, .int ((κ p).1)), (11, .ref ((κ p).2.1)), (8, .ref p), (7, .ref (gM G 0)), (4, .ref n9_39), (6, .int ((κ y).1)), (5, .ref ((κ y).2.1)), (3, .ref y), (2, .ref root1), (1, .ref t), (0, .ref hd)]) dJ27_treeify_145 (by decide) rfl rfl ?_
                    refine aw_iload (n := 149) dJ27_treeify_147 1 rfl rfl ?_
                    refine aw_if_gt (n := 152) (tgt := 160) dJ27_treeify_149 (by decide) rfl (fun c_149 => ?_) (fun c_149 => ?_)
                    · skip
                      have hs9 : 0 < cmpT (tx y) (tx p) := c_149
                      have hd9 : ltK (spT (tx p), tx p) (spT (tx y), tx y) := (by rcases ltX_cmp okb.1 okp.1 okb.2 okp.2 with z | z | z; exact absurd z.1 (fun e9 => absurd (Int32.lt_trans c_149 e9) Int32.lt_irrefl); exact absurd z.2 nt; exact Or.inr ⟨eh.symm, z.2⟩)
                      refine aw_aload (n := 162) dJ27_treeify_160 4 rfl rfl ?_
                      rcases optc (rt1 p) with hq_64 | ⟨r162_64, hq_64⟩
                      · skip
                        refine aw_getf (n := 165) (v := .null) (C0 := RJ27) (T := TJ27) dJ27_treeify_162 rfl 8 q1611 (Or.inl rfl) (hT_55 p (Or.inl hp)).1 (congrArg (fun z9 => some (va_rf z9)) (show (up (up rt1 y none) y none) p = none from by simp only [up]; rw [if_neg npy, if_neg npy, hq_64])) rfl ?_
                        refine aw_dup (n := 166) dJ27_treeify_165 rfl rfl ?_
                        refine aw_astoreN (n := 168) (lv' := [(8, .null), (12, .ref p), (9, .int (cmpT (tx y) (tx p))), (10, .int ((κ p).1)), (11, .ref ((κ p).2.1)), (7, .ref (gM G 0)), (4, .ref n9_39), (6, .int ((κ y).1)), (5, .ref ((κ y).2.1)), (3, .ref y), (2, .ref root1), (1, .ref t), (0, .ref hd)]) dJ27_treeify_166 (by decide) rfl rfl ?_
                        refine aw_ifnonnullN (n := 171) dJ27_treeify_168 rfl ?_
                        exact AW.lvs (lv' := [(12, .ref p), (9, .int (cmpT (tx y) (tx p))), (4, .ref n9_39), (3, .ref y), (2, .ref root1), (1, .ref t), (0, .ref hd)]) (AW.eq (lv2 := _) (rfl) rfl rfl rfl rfl (T9 (cmpT (tx y) (tx p)) (Or.inr ⟨hs9, hd9, hq_64⟩))) (by simp)
                      · skip
                        have k_r162_64 : D r162_64 := BT.ch hBc hp (Or.inr hq_64)
                        refine aw_getf (n := 165) (v := .ref r162_64) (C0 := RJ27) (T := TJ27) dJ27_treeify_162 rfl 8 q1611 (Or.inl rfl) (hT_55 p (Or.inl hp)).1 (congrArg (fun z9 => some (va_rf z9)) (show (up (up rt1 y none) y none) p = some r162_64 from by simp only [up]; rw [if_neg npy, if_neg npy, hq_64])) rfl ?_
                        refine aw_dup (n := 166) dJ27_treeify_165 rfl rfl ?_
                        refine aw_astore (n := 168) (lv' := [(8, .ref r162_64), (12, .ref p), (9, .int (cmpT (tx y) (tx p))), (10, .int ((κ p).1)), (11, .ref ((κ p).2.1)), (7, .ref (gM G 0)), (4, .ref n9_39), (6, .int ((κ y).1)), (5, .ref ((κ y).2.1)), (3, .ref y), (2, .ref root1), (1, .ref t), (0, .ref hd)]) dJ27_treeify_166 (by decide) rfl rfl ?_
                        refine aw_ifnonnull (tgt := 206) dJ27_treeify_168 (by decide) ?_
                        refine aw_goto (tgt := 64) dJ27_treeify_206 (by decide) ?_
                        have t9 := kLH_R hBc hp g2 hd9 hq_64
                        have m9 := t9.2.1
                        exact AW.lvs (lv' := [(8, .ref r162_64), (7, .ref (gM G 0)), (4, .ref n9_39), (6, .int ((κ y).1)), (5, .ref ((κ y).2.1)), (3, .ref y), (2, .ref root1), (1, .ref t), (0, .ref hd)]) (AW.eq (lv2 := _) (rfl) rfl rfl rfl rfl (ih_64 r162_64 t9.1 t9.2.2.1 t9.2.2.2 (some (gM G 0)) (Or.inr rfl) (by omega))) (by simp)
                    · skip
                      have hs9 : cmpT (tx y) (tx p) ≤ 0 := Int32.not_lt.mp c_149
                      have hd9 : ltK (spT (tx y), tx y) (spT (tx p), tx p) := (by rcases ltX_cmp okb.1 okp.1 okb.2 okp.2 with z | z | z; exact Or.inr ⟨eh, z.2⟩; exact absurd z.2 nt; exact absurd z.1 c_149)
                      refine aw_aload (n := 154) dJ27_treeify_152 4 rfl rfl ?_
                      rcases optc (lf1 p) with hq_65 | ⟨l154_65, hq_65⟩
                      · skip
                        refine aw_getf (n := 157) (v := .null) (C0 := RJ27) (T := TJ27) dJ27_treeify_154 rfl 7 q1610 (Or.inl rfl) (hT_55 p (Or.inl hp)).1 (congrArg (fun z9 => some (va_rf z9)) (show (up (up lf1 y none) y none) p = none from by simp only [up]; rw [if_neg npy, if_neg npy, hq_65])) rfl ?_
                        refine aw_goto (tgt := 165) dJ27_treeify_157 (by decide) ?_
                        refine aw_dup (n := 166) dJ27_treeify_165 rfl rfl ?_
                        refine aw_astoreN (n := 168) (lv' := [(8, .null), (12, .ref p), (9, .int (cmpT (tx y) (tx p))), (10, .int ((κ p).1)), (11, .ref ((κ p).2.1)), (7, .ref (gM G 0)), (4, .ref n9_39), (6, .int ((κ y).1)), (5, .ref ((κ y).2.1)), (3, .ref y), (2, .ref root1), (1, .ref t), (0, .ref hd)]) dJ27_treeify_166 (by decide) rfl rfl ?_
                        refine aw_ifnonnullN (n := 171) dJ27_treeify_168 rfl ?_
                        exact AW.lvs (lv' := [(12, .ref p), (9, .int (cmpT (tx y) (tx p))), (4, .ref n9_39), (3, .ref y), (2, .ref root1), (1, .ref t), (0, .ref hd)]) (AW.eq (lv2 := _) (rfl) rfl rfl rfl rfl (T9 (cmpT (tx y) (tx p)) (Or.inl ⟨hs9, hd9, hq_65⟩))) (by simp)
                      · skip
                        have k_l154_65 : D l154_65 := BT.ch hBc hp (Or.inl hq_65)
                        refine aw_getf (n := 157) (v := .ref l154_65) (C0 := RJ27) (T := TJ27) dJ27_treeify_154 rfl 7 q1610 (Or.inl rfl) (hT_55 p (Or.inl hp)).1 (congrArg (fun z9 => some (va_rf z9)) (show (up (up lf1 y none) y none) p = some l154_65 from by simp only [up]; rw [if_neg npy, if_neg npy, hq_65])) rfl ?_
                        refine aw_goto (tgt := 165) dJ27_treeify_157 (by decide) ?_
                        refine aw_dup (n := 166) dJ27_treeify_165 rfl rfl ?_
                        refine aw_astore (n := 168) (lv' := [(8, .ref l154_65), (12, .ref p), (9, .int (cmpT (tx y) (tx p))), (10, .int ((κ p).1)), (11, .ref ((κ p).2.1)), (7, .ref (gM G 0)), (4, .ref n9_39), (6, .int ((κ y).1)), (5, .ref ((κ y).2.1)), (3, .ref y), (2, .ref root1), (1, .ref t), (0, .ref hd)]) dJ27_treeify_166 (by decide) rfl rfl ?_
                        refine aw_ifnonnull (tgt := 206) dJ27_treeify_168 (by decide) ?_
                        refine aw_goto (tgt := 64) dJ27_treeify_206 (by decide) ?_
                        have t9 := kLH_L hBc hp g1 hd9 hq_65
                        have m9 := t9.2.1
                        exact AW.lvs (lv' := [(8, .ref l154_65), (7, .ref (gM G 0)), (4, .ref n9_39), (6, .int ((κ y).1)), (5, .ref ((κ y).2.1)), (3, .ref y), (2, .ref root1), (1, .ref t), (0, .ref hd)]) (AW.eq (lv2 := _) (rfl) rfl rfl rfl rfl (ih_64 l154_65 t9.1 t9.2.2.1 t9.2.2.2 (some (gM G 0)) (Or.inr rfl) (by omega))) (by simp)
                  · skip
                    exfalso; rcases ltX_cmp okb.1 okp.1 okb.2 okp.2 with z | z | z; rw [c_131] at z; exact absurd z.1 (by decide); exact nt z.2; rw [c_131] at z; exact absurd z.1 (by decide)
                · skip
                  have g9 : spT (tx p) < spT (tx y) := by rw [← hKh, ← hKhy]; exact Int32.not_le.mp c_94
                  have hd9 : ltK (spT (tx p), tx p) (spT (tx y), tx y) := Or.inl g9
                  have hs9 : (0 : Int32) < 1 := by decide
                  refine aw_iconst (n := 98) (v := 1) dJ27_treeify_97 (by decide) rfl ?_
                  refine aw_istore (n := 100) (lv' := [(9, .int 1), (10, .int ((κ p).1)), (11, .ref ((κ p).2.1)), (8, .ref p), (7, .ref (gM G 0)), (4, .ref n9_39), (6, .int ((κ y).1)), (5, .ref ((κ y).2.1)), (3, .ref y), (2, .ref root1), (1, .ref t), (0, .ref hd)]) dJ27_treeify_98 (by decide) rfl rfl ?_
                  refine aw_goto (tgt := 143) dJ27_treeify_100 (by decide) ?_
                  refine aw_aload (n := 145) dJ27_treeify_143 3 rfl rfl ?_
                  refine aw_astore (n := 147) (lv' := [(12, .ref p), (9, .int 1), (10, .int ((κ p).1)), (11, .ref ((κ p).2.1)), (8, .ref p), (7, .ref (gM G 0)), (4, .ref n9_39), (6, .int ((κ y).1)), (5, .ref ((κ y).2.1)), (3, .ref y), (2, .ref root1), (1, .ref t), (0, .ref hd)]) dJ27_treeify_145 (by decide) rfl rfl ?_
                  refine aw_iload (n := 149) dJ27_treeify_147 1 rfl rfl ?_
                  refine aw_if_gt (n := 152) (tgt := 160) dJ27_treeify_149 (by decide) rfl (fun c_149_2 => ?_) (fun c_149_2 => ?_)
                  · skip
                    refine aw_aload (n := 162) dJ27_treeify_160 4 rfl rfl ?_
                    rcases optc (rt1 p) with hq_66 | ⟨r162_66, hq_66⟩
                    · skip
                      refine aw_getf (n := 165) (v := .null) (C0 := RJ27) (T := TJ27) dJ27_treeify_162 rfl 8 q1611 (Or.inl rfl) (hT_55 p (Or.inl hp)).1 (congrArg (fun z9 => some (va_rf z9)) (show (up (up rt1 y none) y none) p = none from by simp only [up]; rw [if_neg npy, if_neg npy, hq_66])) rfl ?_
                      refine aw_dup (n := 166) dJ27_treeify_165 rfl rfl ?_
                      refine aw_astoreN (n := 168) (lv' := [(8, .null), (12, .ref p), (9, .int 1), (10, .int ((κ p).1)), (11, .ref ((κ p).2.1)), (7, .ref (gM G 0)), (4, .ref n9_39), (6, .int ((κ y).1)), (5, .ref ((κ y).2.1)), (3, .ref y), (2, .ref root1), (1, .ref t), (0, .ref hd)]) dJ27_treeify_166 (by decide) rfl rfl ?_
                      refine aw_ifnonnullN (n := 171) dJ27_treeify_168 rfl ?_
                      exact AW.lvs (lv' := [(12, .ref p), (9, .int 1), (4, .ref n9_39), (3, .ref y), (2, .ref root1), (1, .ref t), (0, .ref hd)]) (AW.eq (lv2 := _) (rfl) rfl rfl rfl rfl (T9 1 (Or.inr ⟨hs9, hd9, hq_66⟩))) (by simp)
                    · skip
                      have k_r162_66 : D r162_66 := BT.ch hBc hp (Or.inr hq_66)
                      refine aw_getf (n := 165) (v := .ref r162_66) (C0 := RJ27) (T := TJ27) dJ27_treeify_162 rfl 8 q1611 (Or.inl rfl) (hT_55 p (Or.inl hp)).1 (congrArg (fun z9 => some (va_rf z9)) (show (up (up rt1 y none) y none) p = some r162_66 from by simp only [up]; rw [if_neg npy, if_neg npy, hq_66])) rfl ?_
                      refine aw_dup (n := 166) dJ27_treeify_165 rfl rfl ?_
                      refine aw_astore (n := 168) (lv' := [(8, .ref r162_66), (12, .ref p), (9, .int 1), (10, .int ((κ p).1)), (11, .ref ((κ p).2.1)), (7, .ref (gM G 0)), (4, .ref n9_39), (6, .int ((κ y).1)), (5, .ref ((κ y).2.1)), (3, .ref y), (2, .ref root1), (1, .ref t), (0, .ref hd)]) dJ27_treeify_166 (by decide) rfl rfl ?_
                      refine aw_ifnonnull (tgt := 206) dJ27_treeify_168 (by decide) ?_
                      refine aw_goto (tgt := 64) dJ27_treeify_206 (by decide) ?_
                      have t9 := kLH_R hBc hp g2 hd9 hq_66
                      have m9 := t9.2.1
                      exact AW.lvs (lv' := [(8, .ref r162_66), (7, .ref (gM G 0)), (4, .ref n9_39), (6, .int ((κ y).1)), (5, .ref ((κ y).2.1)), (3, .ref y), (2, .ref root1), (1, .ref t), (0, .ref hd)]) (AW.eq (lv2 := _) (rfl) rfl rfl rfl rfl (ih_64 r162_66 t9.1 t9.2.2.1 t9.2.2.2 (some (gM G 0)) (Or.inr rfl) (by omega))) (by simp)
                  · skip
                    exact absurd c_149_2 (by decide +kernel)
              · skip
                have g9 : spT (tx y) < spT (tx p) := by rw [← hKh, ← hKhy]; exact Int32.not_le.mp c_81
                have hd9 : ltK (spT (tx y), tx y) (spT (tx p), tx p) := Or.inl g9
                have hs9 : (-1 : Int32) ≤ 0 := by decide
                refine aw_iconst (n := 85) (v := (-1)) dJ27_treeify_84 (by decide) rfl ?_
                refine aw_istore (n := 87) (lv' := [(9, .int (-1)), (10, .int ((κ p).1)), (11, .ref ((κ p).2.1)), (8, .ref p), (7, .ref (gM G 0)), (4, .ref n9_39), (6, .int ((κ y).1)), (5, .ref ((κ y).2.1)), (3, .ref y), (2, .ref root1), (1, .ref t), (0, .ref hd)]) dJ27_treeify_85 (by decide) rfl rfl ?_
                refine aw_goto (tgt := 143) dJ27_treeify_87 (by decide) ?_
                refine aw_aload (n := 145) dJ27_treeify_143 3 rfl rfl ?_
                refine aw_astore (n := 147) (lv' := [(12, .ref p), (9, .int (-1)), (10, .int ((κ p).1)), (11, .ref ((κ p).2.1)), (8, .ref p), (7, .ref (gM G 0)), (4, .ref n9_39), (6, .int ((κ y).1)), (5, .ref ((κ y).2.1)), (3, .ref y), (2, .ref root1), (1, .ref t), (0, .ref hd)]) dJ27_treeify_145 (by decide) rfl rfl ?_
                refine aw_iload (n := 149) dJ27_treeify_147 1 rfl rfl ?_
                refine aw_if_gt (n := 152) (tgt := 160) dJ27_treeify_149 (by decide) rfl (fun c_149_3 => ?_) (fun c_149_3 => ?_)
                · skip
                  exact absurd c_149_3 (by decide +kernel)
                · skip
                  refine aw_aload (n := 154) dJ27_treeify_152 4 rfl rfl ?_
                  rcases optc (lf1 p) with hq_67 | ⟨l154_67, hq_67⟩
                  · skip
                    refine aw_getf (n := 157) (v := .null) (C0 := RJ27) (T := TJ27) dJ27_treeify_154 rfl 7 q1610 (Or.inl rfl) (hT_55 p (Or.inl hp)).1 (congrArg (fun z9 => some (va_rf z9)) (show (up (up lf1 y none) y none) p = none from by simp only [up]; rw [if_neg npy, if_neg npy, hq_67])) rfl ?_
                    refine aw_goto (tgt := 165) dJ27_treeify_157 (by decide) ?_
                    refine aw_dup (n := 166) dJ27_treeify_165 rfl rfl ?_
                    refine aw_astoreN (n := 168) (lv' := [(8, .null), (12, .ref p), (9, .int (-1)), (10, .int ((κ p).1)), (11, .ref ((κ p).2.1)), (7, .ref (gM G 0)), (4, .ref n9_39), (6, .int ((κ y).1)), (5, .ref ((κ y).2.1)), (3, .ref y), (2, .ref root1), (1, .ref t), (0, .ref hd)]) dJ27_treeify_166 (by decide) rfl rfl ?_
                    refine aw_ifnonnullN (n := 171) dJ27_treeify_168 rfl ?_
                    exact AW.lvs (lv' := [(12, .ref p), (9, .int (-1)), (4, .ref n9_39), (3, .ref y), (2, .ref root1), (1, .ref t), (0, .ref hd)]) (AW.eq (lv2 := _) (rfl) rfl rfl rfl rfl (T9 (-1) (Or.inl ⟨hs9, hd9, hq_67⟩))) (by simp)
                  · skip
                    have k_l154_67 : D l154_67 := BT.ch hBc hp (Or.inl hq_67)
                    refine aw_getf (n := 157) (v := .ref l154_67) (C0 := RJ27) (T := TJ27) dJ27_treeify_154 rfl 7 q1610 (Or.inl rfl) (hT_55 p (Or.inl hp)).1 (congrArg (fun z9 => some (va_rf z9)) (show (up (up lf1 y none) y none) p = some l154_67 from by simp only [up]; rw [if_neg npy, if_neg npy, hq_67])) rfl ?_
                    refine aw_goto (tgt := 165) dJ27_treeify_157 (by decide) ?_
                    refine aw_dup (n := 166) dJ27_treeify_165 rfl rfl ?_
                    refine aw_astore (n := 168) (lv' := [(8, .ref l154_67), (12, .ref p), (9, .int (-1)), (10, .int ((κ p).1)), (11, .ref ((κ p).2.1)), (7, .ref (gM G 0)), (4, .ref n9_39), (6, .int ((κ y).1)), (5, .ref ((κ y).2.1)), (3, .ref y), (2, .ref root1), (1, .ref t), (0, .ref hd)]) dJ27_treeify_166 (by decide) rfl rfl ?_
                    refine aw_ifnonnull (tgt := 206) dJ27_treeify_168 (by decide) ?_
                    refine aw_goto (tgt := 64) dJ27_treeify_206 (by decide) ?_
                    have t9 := kLH_L hBc hp g1 hd9 hq_67
                    have m9 := t9.2.1
                    exact AW.lvs (lv' := [(8, .ref l154_67), (7, .ref (gM G 0)), (4, .ref n9_39), (6, .int ((κ y).1)), (5, .ref ((κ y).2.1)), (3, .ref y), (2, .ref root1), (1, .ref t), (0, .ref hd)]) (AW.eq (lv2 := _) (rfl) rfl rfl rfl rfl (ih_64 l154_67 t9.1 t9.2.2.1 t9.2.2.2 (some (gM G 0)) (Or.inr rfl) (by omega))) (by simp)

end
