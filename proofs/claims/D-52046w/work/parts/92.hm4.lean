/-! Trees: root, find. -/
section
set_option maxRecDepth 100000
abbrev kJ27_root : aK := (yJ27_root, cJ27_root, 3, (Option.some (Jvm.ClassFile.FieldType.object "java/util/HashMap$TreeNode")), [])
theorem hcJ27_root : kJ27_root.1.cls ≠ "java/lang/invoke/MethodHandle" ∧ kJ27_root.1.cls ≠ "java/lang/invoke/VarHandle" ∧ (parseMethodDescriptor kJ27_root.1.desc).map (fun d => d.parameters.length) = some 0 := ⟨by decide, by decide, by decide +kernel⟩
theorem hm_root (G : aG) (h : hH) (N : Nat → Prop) (κ : Nat → Int32 × Nat × Nat) (nx pa lf rt pv : oF) (rd : Nat → Bool) (hTP : TPic G h N κ nx pa lf rt pv rd) (tx : Nat → List Nat) (root : Nat) (bl bh : oF) (ht : Nat → Nat) (B : Nat) (hB : BT (ltM tx) N pa lf rt root bl bh ht B) (hK : KP h N κ tx) (x : Nat) (hx : N x) : Con G kJ27_root [.ref x] h ((1, 0, 0, 0), (fun z h1 => z = some (.ref root) ∧ h = h1), nX) := by
  refine Con.of (plainFor_of_name rfl) rfl (Nat.le_of_ble_eq_true rfl) ?_
  refine AW.eq (lv2 := [(0, .ref x)]) (s2 := []) rfl rfl rfl rfl rfl ?_
  refine aw_know (fun gd hi => ?_)
  refine aw_aload_n (n := 1) dJ27_root_0 rfl 0 rfl rfl ?_
  refine aw_astore_n (n := 2) (lv' := [(1, .ref x), (0, .ref x)]) dJ27_root_1 rfl (by decide) rfl rfl ?_
  suffices L_2 : ∀ (m_ : Nat) (p : Nat) (hp : N p), B - ht p < m_ → AW G kJ27_root ((1, 0, 0, 0), (fun z h1 => z = some (.ref root) ∧ h = h1), nX) 2 [(1, .ref p), (0, .ref x)] [] h 0 0 from
    AW.lvs (lv' := [(1, .ref x), (0, .ref x)]) (AW.eq (lv2 := _) (rfl) rfl rfl rfl rfl (L_2 _ x hx (Nat.lt_succ_self _))) (by simp)
  intro m_
  induction m_ with
  | zero => intro p hp h_m; exact absurd h_m (Nat.not_lt_zero _)
  | succ m_ ih_2 =>
    intro p hp h_m
    refine aw_aload_n (n := 3) dJ27_root_2 rfl 0 rfl rfl ?_
    rcases optc (pa p) with hq_1 | ⟨p3_1, hq_1⟩
    · skip
      refine aw_getf (n := 6) (v := .null) (C0 := RJ27) (T := TJ27) dJ27_root_3 rfl 6 q1609 (Or.inl rfl) (hTP p hp).1 (congrArg (fun z9 => some (va_rf z9)) (show pa p = none from by exact hq_1)) rfl ?_
      refine aw_dup (n := 7) dJ27_root_6 rfl rfl ?_
      refine aw_astore_nN (n := 8) (lv' := [(2, .null), (1, .ref p), (0, .ref x)]) dJ27_root_7 rfl (by decide) rfl rfl ?_
      refine aw_ifnonnullN (n := 11) dJ27_root_8 rfl ?_
      refine aw_aload_n (n := 12) dJ27_root_11 rfl 1 rfl rfl ?_
      exact aw_aret dJ27_root_12 rfl (Or.inl ⟨_, rfl⟩) (Or.inr ⟨_, rfl⟩) ⟨congrArg (fun z => some (Value.ref z)) (BT.top hB hp hq_1), rfl⟩ ⟨Nat.zero_le _, Nat.zero_le _⟩
    · skip
      have k_p3_1 := BT.up hB hp hq_1
      refine aw_getf (n := 6) (v := .ref p3_1) (C0 := RJ27) (T := TJ27) dJ27_root_3 rfl 6 q1609 (Or.inl rfl) (hTP p hp).1 (congrArg (fun z9 => some (va_rf z9)) (show pa p = some p3_1 from by exact hq_1)) rfl ?_
      refine aw_dup (n := 7) dJ27_root_6 rfl rfl ?_
      refine aw_astore_n (n := 8) (lv' := [(2, .ref p3_1), (1, .ref p), (0, .ref x)]) dJ27_root_7 rfl (by decide) rfl rfl ?_
      refine aw_ifnonnull (tgt := 13) dJ27_root_8 (by decide) ?_
      refine aw_aload_n (n := 14) dJ27_root_13 rfl 0 rfl rfl ?_
      refine aw_astore_n (n := 15) (lv' := [(1, .ref p3_1), (2, .ref p3_1), (0, .ref x)]) dJ27_root_14 rfl (by decide) rfl rfl ?_
      refine aw_goto (tgt := 2) dJ27_root_15 (by decide) ?_
      have a9 := BT.ht hB k_p3_1.1
      have b9 := k_p3_1.2.1
      exact AW.lvs (lv' := [(1, .ref p3_1), (0, .ref x)]) (AW.eq (lv2 := _) (rfl) rfl rfl rfl rfl (ih_2 p3_1 k_p3_1.1 (by omega))) (by simp)

abbrev kJ27_find : aK := (yJ27_find, cJ27_find, 11, (Option.some (Jvm.ClassFile.FieldType.object "java/util/HashMap$TreeNode")), [])
theorem hcJ27_find : kJ27_find.1.cls ≠ "java/lang/invoke/MethodHandle" ∧ kJ27_find.1.cls ≠ "java/lang/invoke/VarHandle" ∧ (parseMethodDescriptor kJ27_find.1.desc).map (fun d => d.parameters.length) = some 3 := ⟨by decide, by decide, by decide +kernel⟩
theorem hm_find (G : aG) (h : hH) (N : Nat → Prop) (κ : Nat → Int32 × Nat × Nat) (nx pa lf rt pv : oF) (rd : Nat → Bool) (hTP : TPic G h N κ nx pa lf rt pv rd) (tx : Nat → List Nat) (root : Nat) (bl bh : oF) (ht : Nat → Nat) (B : Nat) (hB : BT (ltM tx) N pa lf rt root bl bh ht B) (hK : KP h N κ tx) (k u : Nat) (bs : List Nat) (hS : isSt h k u bs (hashT bs) (zfT bs)) (hb8 : bs.length ≤ 8) (p0 : Nat) (hp0 : N p0) (ht0 : tgt (ltM tx) N tx bs bl bh p0) : Con G kJ27_find [.ref p0, .int (spT bs), .ref k, .null] h ((13, 376, 0, 0), (fun r h1 => ((∃ z, N z ∧ tx z = bs ∧ r = some (.ref z)) ∨ ((∀ z, N z → tx z ≠ bs) ∧ r = some .null)) ∧ h = h1), nX) := by
  have hS1 := hS
  obtain ⟨f0, hS0, _⟩ := hS1
  refine Con.of (plainFor_of_name rfl) rfl (Nat.le_of_ble_eq_true rfl) ?_
  refine AW.eq (lv2 := [(0, .ref p0), (1, .int (spT bs)), (2, .ref k), (3, .null)]) (s2 := []) rfl rfl rfl rfl rfl ?_
  refine aw_know (fun gd hi => ?_)
  have lt_k : k < h.1 := hi.2.1 _ _ hS0
  refine aw_aload_n (n := 1) dJ27_find_0 rfl 0 rfl rfl ?_
  refine aw_astore (n := 3) (lv' := [(4, .ref p0), (0, .ref p0), (1, .int (spT bs)), (2, .ref k), (3, .null)]) dJ27_find_1 (by decide) rfl rfl ?_
  suffices L_3 : ∀ (m_ : Nat) (p : Nat)  (hp : N p) (htg : tgt (ltM tx) N tx bs bl bh p) (kc : Option Nat) (hkc : kc = none ∨ kc = some (gM G 0)), ht p < m_ → AW G kJ27_find ((13, 376, 0, 0), (fun r h1 => ((∃ z, N z ∧ tx z = bs ∧ r = some (.ref z)) ∨ ((∀ z, N z → tx z ≠ bs) ∧ r = some .null)) ∧ h = h1), nX) 3 [(4, .ref p), (0, .ref p0), (1, .int (spT bs)), (2, .ref k), (3, va_rf kc)] [] h 0 0 from
    AW.lvs (lv' := [(4, .ref p0), (0, .ref p0), (1, .int (spT bs)), (2, .ref k), (3, .null)]) (AW.eq (lv2 := _) (rfl) rfl rfl rfl rfl (L_3 _ p0 hp0 ht0 none (Or.inl rfl) (Nat.lt_succ_self _))) (by simp)
  intro m_
  induction m_ with
  | zero => intro p hp htg kc hkc h_m; exact absurd h_m (Nat.not_lt_zero _)
  | succ m_ ih_3 =>
    intro p hp htg kc hkc h_m
    obtain ⟨⟨up9, hKp⟩, hKh, hK8⟩ := hK p hp
    have okb := hS.ok; have okp := hKp.ok
    rcases hkc with rfl | rfl
    · skip
      refine AW.eq (lv2 := [(4, .ref p), (0, .ref p0), (1, .int (spT bs)), (2, .ref k), (3, .null)]) (s2 := []) rfl rfl rfl rfl rfl ?_
      refine aw_aload (n := 5) dJ27_find_3 0 rfl rfl ?_
      rcases optc (lf p) with hq_1 | ⟨l5_1, hq_1⟩
      · skip
        refine aw_getf (n := 8) (v := .null) (C0 := RJ27) (T := TJ27) dJ27_find_5 rfl 7 q1610 (Or.inl rfl) (hTP p hp).1 (congrArg (fun z9 => some (va_rf z9)) (show lf p = none from by exact hq_1)) rfl ?_
        refine aw_astoreN (n := 10) (lv' := [(8, .null), (4, .ref p), (0, .ref p0), (1, .int (spT bs)), (2, .ref k), (3, .null)]) dJ27_find_8 (by decide) rfl rfl ?_
        refine aw_aload (n := 12) dJ27_find_10 1 rfl rfl ?_
        rcases optc (rt p) with hq_2 | ⟨r12_2, hq_2⟩
        · skip
          refine aw_getf (n := 15) (v := .null) (C0 := RJ27) (T := TJ27) dJ27_find_12 rfl 8 q1611 (Or.inl rfl) (hTP p hp).1 (congrArg (fun z9 => some (va_rf z9)) (show rt p = none from by exact hq_2)) rfl ?_
          refine aw_astoreN (n := 17) (lv' := [(9, .null), (8, .null), (4, .ref p), (0, .ref p0), (1, .int (spT bs)), (2, .ref k), (3, .null)]) dJ27_find_15 (by decide) rfl rfl ?_
          refine aw_aload (n := 19) dJ27_find_17 2 rfl rfl ?_
          refine aw_getf (n := 22) (v := .int ((κ p).1)) (C0 := RJ27) (T := TJ27) dJ27_find_19 rfl 2 q1547 (Or.inr q1548) (hTP p hp).1 rfl rfl ?_
          refine aw_dup (n := 23) dJ27_find_22 rfl rfl ?_
          refine aw_istore (n := 25) (lv' := [(5, .int ((κ p).1)), (9, .null), (8, .null), (4, .ref p), (0, .ref p0), (1, .int (spT bs)), (2, .ref k), (3, .null)]) dJ27_find_23 (by decide) rfl rfl ?_
          refine aw_iload_n (n := 26) dJ27_find_25 rfl 5 rfl rfl ?_
          refine aw_icmp_le (n := 29) (tgt := 36) dJ27_find_26 (by decide) rfl (fun c_26 => ?_) (fun c_26 => ?_)
          · skip
            refine aw_iload (n := 38) dJ27_find_36 0 rfl rfl ?_
            refine aw_iload_n (n := 39) dJ27_find_38 rfl 5 rfl rfl ?_
            refine aw_icmp_ge (n := 42) (tgt := 49) dJ27_find_39 (by decide) rfl (fun c_39 => ?_) (fun c_39 => ?_)
            · skip
              have eh : spT bs = spT (tx p) := by rw [← hKh]; exact Int32.le_antisymm c_39 c_26
              refine aw_aload (n := 51) dJ27_find_49 3 rfl rfl ?_
              refine aw_getf (n := 54) (v := .ref ((κ p).2.1)) (C0 := RJ27) (T := TJ27) dJ27_find_51 rfl 3 q1551 (Or.inr q1552) (hTP p hp).1 rfl rfl ?_
              refine aw_dup (n := 55) dJ27_find_54 rfl rfl ?_
              refine aw_astore (n := 57) (lv' := [(7, .ref ((κ p).2.1)), (5, .int ((κ p).1)), (9, .null), (8, .null), (4, .ref p), (0, .ref p0), (1, .int (spT bs)), (2, .ref k), (3, .null)]) dJ27_find_55 (by decide) rfl rfl ?_
              refine aw_aload_n (n := 58) dJ27_find_57 rfl 7 rfl rfl ?_
              refine aw_acmp_eq (n := 61) (x := (some ((κ p).2.1))) (y := (some k)) (tgt := 74) dJ27_find_58 (by decide) rfl (fun c_58 => ?_) (fun c_58 => ?_)
              · skip
                have ek : (κ p).2.1 = k := by simpa using c_58
                have et : bs = tx p := hS.uniq (by rw [← ek]; exact hKp)
                refine aw_aload (n := 76) dJ27_find_74 4 rfl rfl ?_
                exact aw_aret dJ27_find_76 rfl (Or.inl ⟨_, rfl⟩) (Or.inr ⟨_, rfl⟩) ⟨Or.inl ⟨p, hp, et.symm, rfl⟩, rfl⟩ ⟨Nat.zero_le _, Nat.zero_le _⟩
              · skip
                refine aw_aload_n (n := 62) dJ27_find_61 rfl 7 rfl rfl ?_
                refine aw_ifnull (n := 65) dJ27_find_62 rfl ?_
                refine aw_aload_n (n := 66) dJ27_find_65 rfl 7 rfl rfl ?_
                refine aw_aload (n := 68) dJ27_find_66 0 rfl rfl ?_
                refine aw_callU (n := 71) "java/lang/Object" (C0 := RJ12) (As := [.ref ((κ p).2.1)]) (rest := []) (K2 := kJ12_equals) (x := ⟨"java/lang/Object", "equals", "(Ljava/lang/Object;)Z"⟩) dJ27_find_68 q1224 q1168 (Or.inl q1165) q1206 q776 q122 q778 ⟨by decide, by decide, (show (parseMethodDescriptor "(Ljava/lang/Object;)Z").map (fun d => d.parameters.length) = some 1 from by decide +kernel)⟩ rfl hS0 (cs_equals G h k u bs _ _ hS (κ p).2.1 up9 (tx p) _ _ hKp) rfl (Nat.le_of_ble_eq_true rfl) ⟨Nat.le_of_ble_eq_true rfl, Nat.le_of_ble_eq_true rfl⟩ ⟨by first | omega | (dsimp only; omega) | decide, by first | omega | (dsimp only; omega) | decide⟩ (fun _ _ _ z => z.elim) rfl (fun r_68 h_68 q_68 => ?_)
                obtain ⟨rfl, rfl⟩ := q_68
                refine AW.sts (st' := [.int (bI (decide (bs = tx p)))]) rfl ?_
                refine aw_if_eq (n := 74) (tgt := 77) dJ27_find_71 (by decide) rfl (fun c_71 => ?_) (fun c_71 => ?_)
                · skip
                  have b_71 : (decide (bs = tx p)) = false := (bI_0 _).mp c_71
                  have nt : bs ≠ tx p := of_decide_eq_false b_71
                  have tr9 : ∀ z, N z → tx z = bs → ltM tx z p ∨ ltM tx p z := fun z hz e => ltM.tri (by rw [e]; exact okb) okp (by rw [e]; exact nt)
                  refine aw_aloadN (n := 79) dJ27_find_77 3 rfl rfl ?_
                  refine aw_ifnonnullN (n := 82) dJ27_find_79 rfl ?_
                  have hl9 : ∀ z, N z → tx z = bs → ltM tx p z := fun z hz e => (tr9 z hz e).resolve_left (tgt.L0 hB hp htg hq_1 z hz e)
                  refine aw_aloadN (n := 84) dJ27_find_82 2 rfl rfl ?_
                  refine aw_astoreN (n := 86) (lv' := [(4, .null), (7, .ref ((κ p).2.1)), (5, .int ((κ p).1)), (9, .null), (8, .null), (0, .ref p0), (1, .int (spT bs)), (2, .ref k), (3, .null)]) dJ27_find_84 (by decide) rfl rfl ?_
                  refine aw_goto (tgt := 165) dJ27_find_86 (by decide) ?_
                  refine aw_aloadN (n := 167) dJ27_find_165 0 rfl rfl ?_
                  refine aw_ifnonnullN (n := 170) dJ27_find_167 rfl ?_
                  refine aw_null (n := 171) dJ27_find_170 rfl ?_
                  exact aw_aret dJ27_find_171 rfl (Or.inl ⟨_, rfl⟩) (Or.inl rfl) ⟨Or.inr ⟨fun z hz e => tgt.R0 hB hp htg hq_2 z hz e (hl9 z hz e), rfl⟩, rfl⟩ ⟨Nat.zero_le _, Nat.zero_le _⟩
                · skip
                  have b_71 : (decide (bs = tx p)) = true := Bool.of_not_eq_false (fun e => c_71 ((bI_0 _).mpr e))
                  have et : bs = tx p := of_decide_eq_true b_71
                  refine aw_aload (n := 76) dJ27_find_74 4 rfl rfl ?_
                  exact aw_aret dJ27_find_76 rfl (Or.inl ⟨_, rfl⟩) (Or.inr ⟨_, rfl⟩) ⟨Or.inl ⟨p, hp, et.symm, rfl⟩, rfl⟩ ⟨Nat.zero_le _, Nat.zero_le _⟩
            · skip
              have g9 : spT (tx p) < spT bs := by rw [← hKh]; exact Int32.not_le.mp c_39
              have hl9 : ∀ z, N z → tx z = bs → ltM tx p z := fun z hz e => ltM.h1 (by rw [e]; exact g9)
              refine aw_aloadN (n := 44) dJ27_find_42 1 rfl rfl ?_
              refine aw_astoreN (n := 46) (lv' := [(4, .null), (5, .int ((κ p).1)), (9, .null), (8, .null), (0, .ref p0), (1, .int (spT bs)), (2, .ref k), (3, .null)]) dJ27_find_44 (by decide) rfl rfl ?_
              refine aw_goto (tgt := 165) dJ27_find_46 (by decide) ?_
              refine aw_aloadN (n := 167) dJ27_find_165 0 rfl rfl ?_
              refine aw_ifnonnullN (n := 170) dJ27_find_167 rfl ?_
              refine aw_null (n := 171) dJ27_find_170 rfl ?_
              exact aw_aret dJ27_find_171 rfl (Or.inl ⟨_, rfl⟩) (Or.inl rfl) ⟨Or.inr ⟨fun z hz e => tgt.R0 hB hp htg hq_2 z hz e (hl9 z hz e), rfl⟩, rfl⟩ ⟨Nat.zero_le _, Nat.zero_le _⟩
          · skip
            have g9 : spT bs < spT (tx p) := by rw [← hKh]; exact Int32.not_le.mp c_26
            have hl9 : ∀ z, N z → tx z = bs → ltM tx z p := fun z hz e => ltM.h1 (by rw [e]; exact g9)
            refine aw_aloadN (n := 31) dJ27_find_29 2 rfl rfl ?_
            refine aw_astoreN (n := 33) (lv' := [(4, .null), (5, .int ((κ p).1)), (9, .null), (8, .null), (0, .ref p0), (1, .int (spT bs)), (2, .ref k), (3, .null)]) dJ27_find_31 (by decide) rfl rfl ?_
            refine aw_goto (tgt := 165) dJ27_find_33 (by decide) ?_
            refine aw_aloadN (n := 167) dJ27_find_165 0 rfl rfl ?_
            refine aw_ifnonnullN (n := 170) dJ27_find_167 rfl ?_
            refine aw_null (n := 171) dJ27_find_170 rfl ?_
            exact aw_aret dJ27_find_171 rfl (Or.inl ⟨_, rfl⟩) (Or.inl rfl) ⟨Or.inr ⟨fun z hz e => tgt.L0 hB hp htg hq_1 z hz e (hl9 z hz e), rfl⟩, rfl⟩ ⟨Nat.zero_le _, Nat.zero_le _⟩
        · skip
          have k_r12_2 : N r12_2 := BT.ch hB hp (Or.inr hq_2)
          refine aw_getf (n := 15) (v := .ref r12_2) (C0 := RJ27) (T := TJ27) dJ27_find_12 rfl 8 q1611 (Or.inl rfl) (hTP p hp).1 (congrArg (fun z9 => some (va_rf z9)) (show rt p = some r12_2 from by exact hq_2)) rfl ?_
          refine aw_astore (n := 17) (lv' := [(9, .ref r12_2), (8, .null), (4, .ref p), (0, .ref p0), (1, .int (spT bs)), (2, .ref k), (3, .null)]) dJ27_find_15 (by decide) rfl rfl ?_
          refine aw_aload (n := 19) dJ27_find_17 2 rfl rfl ?_
          refine aw_getf (n := 22) (v := .int ((κ p).1)) (C0 := RJ27) (T := TJ27) dJ27_find_19 rfl 2 q1547 (Or.inr q1548) (hTP p hp).1 rfl rfl ?_
          refine aw_dup (n := 23) dJ27_find_22 rfl rfl ?_
          refine aw_istore (n := 25) (lv' := [(5, .int ((κ p).1)), (9, .ref r12_2), (8, .null), (4, .ref p), (0, .ref p0), (1, .int (spT bs)), (2, .ref k), (3, .null)]) dJ27_find_23 (by decide) rfl rfl ?_
          refine aw_iload_n (n := 26) dJ27_find_25 rfl 5 rfl rfl ?_
          refine aw_icmp_le (n := 29) (tgt := 36) dJ27_find_26 (by decide) rfl (fun c_26_2 => ?_) (fun c_26_2 => ?_)
          · skip
            refine aw_iload (n := 38) dJ27_find_36 0 rfl rfl ?_
            refine aw_iload_n (n := 39) dJ27_find_38 rfl 5 rfl rfl ?_
            refine aw_icmp_ge (n := 42) (tgt := 49) dJ27_find_39 (by decide) rfl (fun c_39_2 => ?_) (fun c_39_2 => ?_)
            · skip
              have eh : spT bs = spT (tx p) := by rw [← hKh]; exact Int32.le_antisymm c_39_2 c_26_2
              refine aw_aload (n := 51) dJ27_find_49 3 rfl rfl ?_
              refine aw_getf (n := 54) (v := .ref ((κ p).2.1)) (C0 := RJ27) (T := TJ27) dJ27_find_51 rfl 3 q1551 (Or.inr q1552) (hTP p hp).1 rfl rfl ?_
              refine aw_dup (n := 55) dJ27_find_54 rfl rfl ?_
              refine aw_astore (n := 57) (lv' := [(7, .ref ((κ p).2.1)), (5, .int ((κ p).1)), (9, .ref r12_2), (8, .null), (4, .ref p), (0, .ref p0), (1, .int (spT bs)), (2, .ref k), (3, .null)]) dJ27_find_55 (by decide) rfl rfl ?_
              refine aw_aload_n (n := 58) dJ27_find_57 rfl 7 rfl rfl ?_
              refine aw_acmp_eq (n := 61) (x := (some ((κ p).2.1))) (y := (some k)) (tgt := 74) dJ27_find_58 (by decide) rfl (fun c_58_2 => ?_) (fun c_58_2 => ?_)
              · skip
                have ek : (κ p).2.1 = k := by simpa using c_58_2
                have et : bs = tx p := hS.uniq (by rw [← ek]; exact hKp)
                refine aw_aload (n := 76) dJ27_find_74 4 rfl rfl ?_
                exact aw_aret dJ27_find_76 rfl (Or.inl ⟨_, rfl⟩) (Or.inr ⟨_, rfl⟩) ⟨Or.inl ⟨p, hp, et.symm, rfl⟩, rfl⟩ ⟨Nat.zero_le _, Nat.zero_le _⟩
              · skip
                refine aw_aload_n (n := 62) dJ27_find_61 rfl 7 rfl rfl ?_
                refine aw_ifnull (n := 65) dJ27_find_62 rfl ?_
                refine aw_aload_n (n := 66) dJ27_find_65 rfl 7 rfl rfl ?_
                refine aw_aload (n := 68) dJ27_find_66 0 rfl rfl ?_
                refine aw_callU (n := 71) "java/lang/Object" (C0 := RJ12) (As := [.ref ((κ p).2.1)]) (rest := []) (K2 := kJ12_equals) (x := ⟨"java/lang/Object", "equals", "(Ljava/lang/Object;)Z"⟩) dJ27_find_68 q1224 q1168 (Or.inl q1165) q1206 q776 q122 q778 ⟨by decide, by decide, (show (parseMethodDescriptor "(Ljava/lang/Object;)Z").map (fun d => d.parameters.length) = some 1 from by decide +kernel)⟩ rfl hS0 (cs_equals G h k u bs _ _ hS (κ p).2.1 up9 (tx p) _ _ hKp) rfl (Nat.le_of_ble_eq_true rfl) ⟨Nat.le_of_ble_eq_true rfl, Nat.le_of_ble_eq_true rfl⟩ ⟨by first | omega | (dsimp only; omega) | decide, by first | omega | (dsimp only; omega) | decide⟩ (fun _ _ _ z => z.elim) rfl (fun r_68 h_68 q_68 => ?_)
                obtain ⟨rfl, rfl⟩ := q_68
                refine AW.sts (st' := [.int (bI (decide (bs = tx p)))]) rfl ?_
                refine aw_if_eq (n := 74) (tgt := 77) dJ27_find_71 (by decide) rfl (fun c_71_2 => ?_) (fun c_71_2 => ?_)
                · skip
                  have b_71_2 : (decide (bs = tx p)) = false := (bI_0 _).mp c_71_2
                  have nt : bs ≠ tx p := of_decide_eq_false b_71_2
                  have tr9 : ∀ z, N z → tx z = bs → ltM tx z p ∨ ltM tx p z := fun z hz e => ltM.tri (by rw [e]; exact okb) okp (by rw [e]; exact nt)
                  refine aw_aloadN (n := 79) dJ27_find_77 3 rfl rfl ?_
                  refine aw_ifnonnullN (n := 82) dJ27_find_79 rfl ?_
                  have hl9 : ∀ z, N z → tx z = bs → ltM tx p z := fun z hz e => (tr9 z hz e).resolve_left (tgt.L0 hB hp htg hq_1 z hz e)
                  refine aw_aload (n := 84) dJ27_find_82 2 rfl rfl ?_
                  refine aw_astore (n := 86) (lv' := [(4, .ref r12_2), (7, .ref ((κ p).2.1)), (5, .int ((κ p).1)), (9, .ref r12_2), (8, .null), (0, .ref p0), (1, .int (spT bs)), (2, .ref k), (3, .null)]) dJ27_find_84 (by decide) rfl rfl ?_
                  refine aw_goto (tgt := 165) dJ27_find_86 (by decide) ?_
                  refine aw_aload (n := 167) dJ27_find_165 0 rfl rfl ?_
                  refine aw_ifnonnull (tgt := 3) dJ27_find_167 (by decide) ?_
                  have t9 := tgt.R hB hp htg hl9 hq_2
                  have m9 := t9.2.1
                  exact AW.lvs (lv' := [(4, .ref r12_2), (0, .ref p0), (1, .int (spT bs)), (2, .ref k), (3, .null)]) (AW.eq (lv2 := _) (rfl) rfl rfl rfl rfl (ih_3 r12_2 t9.1 t9.2.2 none (Or.inl rfl) (by omega))) (by simp)
                · skip
                  have b_71_2 : (decide (bs = tx p)) = true := Bool.of_not_eq_false (fun e => c_71_2 ((bI_0 _).mpr e))
                  have et : bs = tx p := of_decide_eq_true b_71_2
                  refine aw_aload (n := 76) dJ27_find_74 4 rfl rfl ?_
                  exact aw_aret dJ27_find_76 rfl (Or.inl ⟨_, rfl⟩) (Or.inr ⟨_, rfl⟩) ⟨Or.inl ⟨p, hp, et.symm, rfl⟩, rfl⟩ ⟨Nat.zero_le _, Nat.zero_le _⟩
            · skip
              have g9 : spT (tx p) < spT bs := by rw [← hKh]; exact Int32.not_le.mp c_39_2
              have hl9 : ∀ z, N z → tx z = bs → ltM tx p z := fun z hz e => ltM.h1 (by rw [e]; exact g9)
              refine aw_aload (n := 44) dJ27_find_42 1 rfl rfl ?_
              refine aw_astore (n := 46) (lv' := [(4, .ref r12_2), (5, .int ((κ p).1)), (9, .ref r12_2), (8, .null), (0, .ref p0), (1, .int (spT bs)), (2, .ref k), (3, .null)]) dJ27_find_44 (by decide) rfl rfl ?_
              refine aw_goto (tgt := 165) dJ27_find_46 (by decide) ?_
              refine aw_aload (n := 167) dJ27_find_165 0 rfl rfl ?_
              refine aw_ifnonnull (tgt := 3) dJ27_find_167 (by decide) ?_
              have t9 := tgt.R hB hp htg hl9 hq_2
              have m9 := t9.2.1
              exact AW.lvs (lv' := [(4, .ref r12_2), (0, .ref p0), (1, .int (spT bs)), (2, .ref k), (3, .null)]) (AW.eq (lv2 := _) (rfl) rfl rfl rfl rfl (ih_3 r12_2 t9.1 t9.2.2 none (Or.inl rfl) (by omega))) (by simp)
          · skip
            have g9 : spT bs < spT (tx p) := by rw [← hKh]; exact Int32.not_le.mp c_26_2
            have hl9 : ∀ z, N z → tx z = bs → ltM tx z p := fun z hz e => ltM.h1 (by rw [e]; exact g9)
            refine aw_aloadN (n := 31) dJ27_find_29 2 rfl rfl ?_
            refine aw_astoreN (n := 33) (lv' := [(4, .null), (5, .int ((κ p).1)), (9, .ref r12_2), (8, .null), (0, .ref p0), (1, .int (spT bs)), (2, .ref k), (3, .null)]) dJ27_find_31 (by decide) rfl rfl ?_
            refine aw_goto (tgt := 165) dJ27_find_33 (by decide) ?_
            refine aw_aloadN (n := 167) dJ27_find_165 0 rfl rfl ?_
            refine aw_ifnonnullN (n := 170) dJ27_find_167 rfl ?_
            refine aw_null (n := 171) dJ27_find_170 rfl ?_
            exact aw_aret dJ27_find_171 rfl (Or.inl ⟨_, rfl⟩) (Or.inl rfl) ⟨Or.inr ⟨fun z hz e => tgt.L0 hB hp htg hq_1 z hz e (hl9 z hz e), rfl⟩, rfl⟩ ⟨Nat.zero_le _, Nat.zero_le _⟩
      · skip
        have k_l5_1 : N l5_1 := BT.ch hB hp (Or.inl hq_1)
        refine aw_getf (n := 8) (v := .ref l5_1) (C0 := RJ27) (T := TJ27) dJ27_find_5 rfl 7 q1610 (Or.inl rfl) (hTP p hp).1 (congrArg (fun z9 => some (va_rf z9)) (show lf p = some l5_1 from by exact hq_1)) rfl ?_
        refine aw_astore (n := 10) (lv' := [(8, .ref l5_1), (4, .ref p), (0, .ref p0), (1, .int (spT bs)), (2, .ref k), (3, .null)]) dJ27_find_8 (by decide) rfl rfl ?_
        refine aw_aload (n := 12) dJ27_find_10 1 rfl rfl ?_
        rcases optc (rt p) with hq_3 | ⟨r12_3, hq_3⟩
        · skip
          refine aw_getf (n := 15) (v := .null) (C0 := RJ27) (T := TJ27) dJ27_find_12 rfl 8 q1611 (Or.inl rfl) (hTP p hp).1 (congrArg (fun z9 => some (va_rf z9)) (show rt p = none from by exact hq_3)) rfl ?_
          refine aw_astoreN (n := 17) (lv' := [(9, .null), (8, .ref l5_1), (4, .ref p), (0, .ref p0), (1, .int (spT bs)), (2, .ref k), (3, .null)]) dJ27_find_15 (by decide) rfl rfl ?_
          refine aw_aload (n := 19) dJ27_find_17 2 rfl rfl ?_
          refine aw_getf (n := 22) (v := .int ((κ p).1)) (C0 := RJ27) (T := TJ27) dJ27_find_19 rfl 2 q1547 (Or.inr q1548) (hTP p hp).1 rfl rfl ?_
          refine aw_dup (n := 23) dJ27_find_22 rfl rfl ?_
          refine aw_istore (n := 25) (lv' := [(5, .int ((κ p).1)), (9, .null), (8, .ref l5_1), (4, .ref p), (0, .ref p0), (1, .int (spT bs)), (2, .ref k), (3, .null)]) dJ27_find_23 (by decide) rfl rfl ?_
          refine aw_iload_n (n := 26) dJ27_find_25 rfl 5 rfl rfl ?_
          refine aw_icmp_le (n := 29) (tgt := 36) dJ27_find_26 (by decide) rfl (fun c_26_3 => ?_) (fun c_26_3 => ?_)
          · skip
            refine aw_iload (n := 38) dJ27_find_36 0 rfl rfl ?_
            refine aw_iload_n (n := 39) dJ27_find_38 rfl 5 rfl rfl ?_
            refine aw_icmp_ge (n := 42) (tgt := 49) dJ27_find_39 (by decide) rfl (fun c_39_3 => ?_) (fun c_39_3 => ?_)
            · skip
              have eh : spT bs = spT (tx p) := by rw [← hKh]; exact Int32.le_antisymm c_39_3 c_26_3
              refine aw_aload (n := 51) dJ27_find_49 3 rfl rfl ?_
              refine aw_getf (n := 54) (v := .ref ((κ p).2.1)) (C0 := RJ27) (T := TJ27) dJ27_find_51 rfl 3 q1551 (Or.inr q1552) (hTP p hp).1 rfl rfl ?_
              refine aw_dup (n := 55) dJ27_find_54 rfl rfl ?_
              refine aw_astore (n := 57) (lv' := [(7, .ref ((κ p).2.1)), (5, .int ((κ p).1)), (9, .null), (8, .ref l5_1), (4, .ref p), (0, .ref p0), (1, .int (spT bs)), (2, .ref k), (3, .null)]) dJ27_find_55 (by decide) rfl rfl ?_
              refine aw_aload_n (n := 58) dJ27_find_57 rfl 7 rfl rfl ?_
              refine aw_acmp_eq (n := 61) (x := (some ((κ p).2.1))) (y := (some k)) (tgt := 74) dJ27_find_58 (by decide) rfl (fun c_58_3 => ?_) (fun c_58_3 => ?_)
              · skip
                have ek : (κ p).2.1 = k := by simpa using c_58_3
                have et : bs = tx p := hS.uniq (by rw [← ek]; exact hKp)
                refine aw_aload (n := 76) dJ27_find_74 4 rfl rfl ?_
                exact aw_aret dJ27_find_76 rfl (Or.inl ⟨_, rfl⟩) (Or.inr ⟨_, rfl⟩) ⟨Or.inl ⟨p, hp, et.symm, rfl⟩, rfl⟩ ⟨Nat.zero_le _, Nat.zero_le _⟩
              · skip
                refine aw_aload_n (n := 62) dJ27_find_61 rfl 7 rfl rfl ?_
                refine aw_ifnull (n := 65) dJ27_find_62 rfl ?_
                refine aw_aload_n (n := 66) dJ27_find_65 rfl 7 rfl rfl ?_
                refine aw_aload (n := 68) dJ27_find_66 0 rfl rfl ?_
                refine aw_callU (n := 71) "java/lang/Object" (C0 := RJ12) (As := [.ref ((κ p).2.1)]) (rest := []) (K2 := kJ12_equals) (x := ⟨"java/lang/Object", "equals", "(Ljava/lang/Object;)Z"⟩) dJ27_find_68 q1224 q1168 (Or.inl q1165) q1206 q776 q122 q778 ⟨by decide, by decide, (show (parseMethodDescriptor "(Ljava/lang/Object;)Z").map (fun d => d.parameters.length) = some 1 from by decide +kernel)⟩ rfl hS0 (cs_equals G h k u bs _ _ hS (κ p).2.1 up9 (tx p) _ _ hKp) rfl (Nat.le_of_ble_eq_true rfl) ⟨Nat.le_of_ble_eq_true rfl, Nat.le_of_ble_eq_true rfl⟩ ⟨by first | omega | (dsimp only; omega) | decide, by first | omega | (dsimp only; omega) | decide⟩ (fun _ _ _ z => z.elim) rfl (fun r_68 h_68 q_68 => ?_)
                obtain ⟨rfl, rfl⟩ := q_68
                refine AW.sts (st' := [.int (bI (decide (bs = tx p)))]) rfl ?_
                refine aw_if_eq (n := 74) (tgt := 77) dJ27_find_71 (by decide) rfl (fun c_71_3 => ?_) (fun c_71_3 => ?_)
                · skip
                  have b_71_3 : (decide (bs = tx p)) = false := (bI_0 _).mp c_71_3
                  have nt : bs ≠ tx p := of_decide_eq_false b_71_3
                  have tr9 : ∀ z, N z → tx z = bs → ltM tx z p ∨ ltM tx p z := fun z hz e => ltM.tri (by rw [e]; exact okb) okp (by rw [e]; exact nt)
                  refine aw_aload (n := 79) dJ27_find_77 3 rfl rfl ?_
                  refine aw_ifnonnull (tgt := 89) dJ27_find_79 (by decide) ?_
                  refine aw_aloadN (n := 91) dJ27_find_89 2 rfl rfl ?_
                  refine aw_ifnonnullN (n := 94) dJ27_find_91 rfl ?_
                  have hl9 : ∀ z, N z → tx z = bs → ltM tx z p := fun z hz e => (tr9 z hz e).resolve_right (tgt.R0 hB hp htg hq_3 z hz e)
                  refine aw_aload (n := 96) dJ27_find_94 3 rfl rfl ?_
                  refine aw_astore (n := 98) (lv' := [(4, .ref l5_1), (7, .ref ((κ p).2.1)), (5, .int ((κ p).1)), (9, .null), (8, .ref l5_1), (0, .ref p0), (1, .int (spT bs)), (2, .ref k), (3, .null)]) dJ27_find_96 (by decide) rfl rfl ?_
                  refine aw_goto (tgt := 165) dJ27_find_98 (by decide) ?_
                  refine aw_aload (n := 167) dJ27_find_165 0 rfl rfl ?_
                  refine aw_ifnonnull (tgt := 3) dJ27_find_167 (by decide) ?_
                  have t9 := tgt.L hB hp htg hl9 hq_1
                  have m9 := t9.2.1
                  exact AW.lvs (lv' := [(4, .ref l5_1), (0, .ref p0), (1, .int (spT bs)), (2, .ref k), (3, .null)]) (AW.eq (lv2 := _) (rfl) rfl rfl rfl rfl (ih_3 l5_1 t9.1 t9.2.2 none (Or.inl rfl) (by omega))) (by simp)
                · skip
                  have b_71_3 : (decide (bs = tx p)) = true := Bool.of_not_eq_false (fun e => c_71_3 ((bI_0 _).mpr e))
                  have et : bs = tx p := of_decide_eq_true b_71_3
                  refine aw_aload (n := 76) dJ27_find_74 4 rfl rfl ?_
                  exact aw_aret dJ27_find_76 rfl (Or.inl ⟨_, rfl⟩) (Or.inr ⟨_, rfl⟩) ⟨Or.inl ⟨p, hp, et.symm, rfl⟩, rfl⟩ ⟨Nat.zero_le _, Nat.zero_le _⟩
            · skip
              have g9 : spT (tx p) < spT bs := by rw [← hKh]; exact Int32.not_le.mp c_39_3
              have hl9 : ∀ z, N z → tx z = bs → ltM tx p z := fun z hz e => ltM.h1 (by rw [e]; exact g9)
              refine aw_aloadN (n := 44) dJ27_find_42 1 rfl rfl ?_
              refine aw_astoreN (n := 46) (lv' := [(4, .null), (5, .int ((κ p).1)), (9, .null), (8, .ref l5_1), (0, .ref p0), (1, .int (spT bs)), (2, .ref k), (3, .null)]) dJ27_find_44 (by decide) rfl rfl ?_
              refine aw_goto (tgt := 165) dJ27_find_46 (by decide) ?_
              refine aw_aloadN (n := 167) dJ27_find_165 0 rfl rfl ?_
              refine aw_ifnonnullN (n := 170) dJ27_find_167 rfl ?_
              refine aw_null (n := 171) dJ27_find_170 rfl ?_
              exact aw_aret dJ27_find_171 rfl (Or.inl ⟨_, rfl⟩) (Or.inl rfl) ⟨Or.inr ⟨fun z hz e => tgt.R0 hB hp htg hq_3 z hz e (hl9 z hz e), rfl⟩, rfl⟩ ⟨Nat.zero_le _, Nat.zero_le _⟩
          · skip
            have g9 : spT bs < spT (tx p) := by rw [← hKh]; exact Int32.not_le.mp c_26_3
            have hl9 : ∀ z, N z → tx z = bs → ltM tx z p := fun z hz e => ltM.h1 (by rw [e]; exact g9)
            refine aw_aload (n := 31) dJ27_find_29 2 rfl rfl ?_
            refine aw_astore (n := 33) (lv' := [(4, .ref l5_1), (5, .int ((κ p).1)), (9, .null), (8, .ref l5_1), (0, .ref p0), (1, .int (spT bs)), (2, .ref k), (3, .null)]) dJ27_find_31 (by decide) rfl rfl ?_
            refine aw_goto (tgt := 165) dJ27_find_33 (by decide) ?_
            refine aw_aload (n := 167) dJ27_find_165 0 rfl rfl ?_
            refine aw_ifnonnull (tgt := 3) dJ27_find_167 (by decide) ?_
            have t9 := tgt.L hB hp htg hl9 hq_1
            have m9 := t9.2.1
            exact AW.lvs (lv' := [(4, .ref l5_1), (0, .ref p0), (1, .int (spT bs)), (2, .ref k), (3, .null)]) (AW.eq (lv2 := _) (rfl) rfl rfl rfl rfl (ih_3 l5_1 t9.1 t9.2.2 none (Or.inl rfl) (by omega))) (by simp)
        · skip
          have k_r12_3 : N r12_3 := BT.ch hB hp (Or.inr hq_3)
          refine aw_getf (n := 15) (v := .ref r12_3) (C0 := RJ27) (T := TJ27) dJ27_find_12 rfl 8 q1611 (Or.inl rfl) (hTP p hp).1 (congrArg (fun z9 => some (va_rf z9)) (show rt p = some r12_3 from by exact hq_3)) rfl ?_
          refine aw_astore (n := 17) (lv' := [(9, .ref r12_3), (8, .ref l5_1), (4, .ref p), (0, .ref p0), (1, .int (spT bs)), (2, .ref k), (3, .null)]) dJ27_find_15 (by decide) rfl rfl ?_
          refine aw_aload (n := 19) dJ27_find_17 2 rfl rfl ?_
          refine aw_getf (n := 22) (v := .int ((κ p).1)) (C0 := RJ27) (T := TJ27) dJ27_find_19 rfl 2 q1547 (Or.inr q1548) (hTP p hp).1 rfl rfl ?_
          refine aw_dup (n := 23) dJ27_find_22 rfl rfl ?_
          refine aw_istore (n := 25) (lv' := [(5, .int ((κ p).1)), (9, .ref r12_3), (8, .ref l5_1), (4, .ref p), (0, .ref p0), (1, .int (spT bs)), (2, .ref k), (3, .null)]) dJ27_find_23 (by decide) rfl rfl ?_
          refine aw_iload_n (n := 26) dJ27_find_25 rfl 5 rfl rfl ?_
          refine aw_icmp_le (n := 29) (tgt := 36) dJ27_find_26 (by decide) rfl (fun c_26_4 => ?_) (fun c_26_4 => ?_)
          · skip
            refine aw_iload (n := 38) dJ27_find_36 0 rfl rfl ?_
            refine aw_iload_n (n := 39) dJ27_find_38 rfl 5 rfl rfl ?_
            refine aw_icmp_ge (n := 42) (tgt := 49) dJ27_find_39 (by decide) rfl (fun c_39_4 => ?_) (fun c_39_4 => ?_)
            · skip
              have eh : spT bs = spT (tx p) := by rw [← hKh]; exact Int32.le_antisymm c_39_4 c_26_4
              refine aw_aload (n := 51) dJ27_find_49 3 rfl rfl ?_
              refine aw_getf (n := 54) (v := .ref ((κ p).2.1)) (C0 := RJ27) (T := TJ27) dJ27_find_51 rfl 3 q1551 (Or.inr q1552) (hTP p hp).1 rfl rfl ?_
              refine aw_dup (n := 55) dJ27_find_54 rfl rfl ?_
              refine aw_astore (n := 57) (lv' := [(7, .ref ((κ p).2.1)), (5, .int ((κ p).1)), (9, .ref r12_3), (8, .ref l5_1), (4, .ref p), (0, .ref p0), (1, .int (spT bs)), (2, .ref k), (3, .null)]) dJ27_find_55 (by decide) rfl rfl ?_
              refine aw_aload_n (n := 58) dJ27_find_57 rfl 7 rfl rfl ?_
              refine aw_acmp_eq (n := 61) (x := (some ((κ p).2.1))) (y := (some k)) (tgt := 74) dJ27_find_58 (by decide) rfl (fun c_58_4 => ?_) (fun c_58_4 => ?_)
              · skip
                have ek : (κ p).2.1 = k := by simpa using c_58_4
                have et : bs = tx p := hS.uniq (by rw [← ek]; exact hKp)
                refine aw_aload (n := 76) dJ27_find_74 4 rfl rfl ?_
                exact aw_aret dJ27_find_76 rfl (Or.inl ⟨_, rfl⟩) (Or.inr ⟨_, rfl⟩) ⟨Or.inl ⟨p, hp, et.symm, rfl⟩, rfl⟩ ⟨Nat.zero_le _, Nat.zero_le _⟩
              · skip
                refine aw_aload_n (n := 62) dJ27_find_61 rfl 7 rfl rfl ?_
                refine aw_ifnull (n := 65) dJ27_find_62 rfl ?_
                refine aw_aload_n (n := 66) dJ27_find_65 rfl 7 rfl rfl ?_
                refine aw_aload (n := 68) dJ27_find_66 0 rfl rfl ?_
                refine aw_callU (n := 71) "java/lang/Object" (C0 := RJ12) (As := [.ref ((κ p).2.1)]) (rest := []) (K2 := kJ12_equals) (x := ⟨"java/lang/Object", "equals", "(Ljava/lang/Object;)Z"⟩) dJ27_find_68 q1224 q1168 (Or.inl q1165) q1206 q776 q122 q778 ⟨by decide, by decide, (show (parseMethodDescriptor "(Ljava/lang/Object;)Z").map (fun d => d.parameters.length) = some 1 from by decide +kernel)⟩ rfl hS0 (cs_equals G h k u bs _ _ hS (κ p).2.1 up9 (tx p) _ _ hKp) rfl (Nat.le_of_ble_eq_true rfl) ⟨Nat.le_of_ble_eq_true rfl, Nat.le_of_ble_eq_true rfl⟩ ⟨by first | omega | (dsimp only; omega) | decide, by first | omega | (dsimp only; omega) | decide⟩ (fun _ _ _ z => z.elim) rfl (fun r_68 h_68 q_68 => ?_)
                obtain ⟨rfl, rfl⟩ := q_68
                refine AW.sts (st' := [.int (bI (decide (bs = tx p)))]) rfl ?_
                refine aw_if_eq (n := 74) (tgt := 77) dJ27_find_71 (by decide) rfl (fun c_71_4 => ?_) (fun c_71_4 => ?_)
                · skip
                  have b_71_4 : (decide (bs = tx p)) = false := (bI_0 _).mp c_71_4
                  have nt : bs ≠ tx p := of_decide_eq_false b_71_4
                  have tr9 : ∀ z, N z → tx z = bs → ltM tx z p ∨ ltM tx p z := fun z hz e => ltM.tri (by rw [e]; exact okb) okp (by rw [e]; exact nt)
                  refine aw_aload (n := 79) dJ27_find_77 3 rfl rfl ?_
                  refine aw_ifnonnull (tgt := 89) dJ27_find_79 (by decide) ?_
                  refine aw_aload (n := 91) dJ27_find_89 2 rfl rfl ?_
                  refine aw_ifnonnull (tgt := 101) dJ27_find_91 (by decide) ?_
                  refine aw_aload_nN (n := 102) dJ27_find_101 rfl 8 rfl rfl ?_
                  refine aw_ifnonnullN (n := 105) dJ27_find_102 rfl ?_
                  refine aw_aload_n (n := 106) dJ27_find_105 rfl 7 rfl rfl ?_
                  refine aw_callS (n := 109) (As := [.ref k]) (rest := []) (K2 := kJ4_comparableClassFor) dJ27_find_106 q1225 q1226 q112 q1227 hcJ4_comparableClassFor (hm_compF G h k u bs _ _ hS) rfl (Nat.le_of_ble_eq_true rfl) ⟨Nat.le_of_ble_eq_true rfl, Nat.le_of_ble_eq_true rfl⟩ ⟨by first | omega | (dsimp only; omega) | decide, by first | omega | (dsimp only; omega) | decide⟩ (fun _ _ _ z => z.elim) rfl (fun r_106 h_106 q_106 => ?_)
                  obtain ⟨rfl, rfl⟩ := q_106
                  refine AW.sts (st' := [.ref (gM G 0)]) rfl ?_
                  refine aw_dup (n := 110) dJ27_find_109 rfl rfl ?_
                  refine aw_astore_n (n := 111) (lv' := [(3, .ref (gM G 0)), (7, .ref ((κ p).2.1)), (5, .int ((κ p).1)), (9, .ref r12_3), (8, .ref l5_1), (4, .ref p), (0, .ref p0), (1, .int (spT bs)), (2, .ref k)]) dJ27_find_110 rfl (by decide) rfl rfl ?_
                  refine aw_ifnull (n := 114) dJ27_find_111 rfl ?_
                  refine aw_aload_n (n := 115) dJ27_find_114 rfl 0 rfl rfl ?_
                  refine aw_aload_n (n := 116) dJ27_find_115 rfl 8 rfl rfl ?_
                  refine aw_aload (n := 118) dJ27_find_116 1 rfl rfl ?_
                  refine aw_callS (n := 121) (As := [.ref (gM G 0), .ref k, .ref ((κ p).2.1)]) (rest := []) (K2 := kJ4_compareComparables) dJ27_find_118 q1231 q1232 q112 q1233 hcJ4_compareComparables (hm_cmpC G h k u (κ p).2.1 up9 bs (tx p) _ _ _ _ hS hKp (Or.inl hb8)) rfl (Nat.le_of_ble_eq_true rfl) ⟨Nat.le_of_ble_eq_true rfl, Nat.le_of_ble_eq_true rfl⟩ ⟨by first | omega | (dsimp only; omega) | decide, by first | omega | (dsimp only; omega) | decide⟩ (fun _ _ _ z => z.elim) rfl (fun r_118 h_118 q_118 => ?_)
                  obtain ⟨rfl, rfl⟩ := q_118
                  refine AW.sts (st' := [.int (cmpT bs (tx p))]) rfl ?_
                  refine aw_dup (n := 122) dJ27_find_121 rfl rfl ?_
                  refine aw_istore (n := 124) (lv' := [(6, .int (cmpT bs (tx p))), (3, .ref (gM G 0)), (7, .ref ((κ p).2.1)), (5, .int ((κ p).1)), (9, .ref r12_3), (8, .ref l5_1), (4, .ref p), (0, .ref p0), (1, .int (spT bs)), (2, .ref k)]) dJ27_find_122 (by decide) rfl rfl ?_
                  refine aw_if_eq (n := 127) (tgt := 144) dJ27_find_124 (by decide) rfl (fun c_124 => ?_) (fun c_124 => ?_)
                  · skip
                    exfalso; rcases ltX_cmp okb.1 okp.1 okb.2 okp.2 with z | z | z; rw [c_124] at z; exact absurd z.1 (by decide); exact nt z.2; rw [c_124] at z; exact absurd z.1 (by decide)
                  · skip
                    refine aw_iload (n := 129) dJ27_find_127 0 rfl rfl ?_
                    refine aw_if_ge (n := 132) (tgt := 137) dJ27_find_129 (by decide) rfl (fun c_129 => ?_) (fun c_129 => ?_)
                    · skip
                      have hl9 : ∀ z, N z → tx z = bs → ltM tx p z := fun z hz e => by rcases ltX_cmp okb.1 okp.1 okb.2 okp.2 with q | q | q; exact absurd q.1 (Int32.not_lt.mpr c_129); exact absurd q.2 nt; exact Or.inr ⟨by show spT (tx p) = spT (tx z); rw [e]; exact eh.symm, by show ltX (tx p) (tx z); rw [e]; exact q.2⟩
                      refine aw_aload (n := 139) dJ27_find_137 4 rfl rfl ?_
                      refine aw_astore (n := 141) (lv' := [(4, .ref r12_3), (6, .int (cmpT bs (tx p))), (3, .ref (gM G 0)), (7, .ref ((κ p).2.1)), (5, .int ((κ p).1)), (9, .ref r12_3), (8, .ref l5_1), (0, .ref p0), (1, .int (spT bs)), (2, .ref k)]) dJ27_find_139 (by decide) rfl rfl ?_
                      refine aw_goto (tgt := 165) dJ27_find_141 (by decide) ?_
                      refine aw_aload (n := 167) dJ27_find_165 0 rfl rfl ?_
                      refine aw_ifnonnull (tgt := 3) dJ27_find_167 (by decide) ?_
                      have t9 := tgt.R hB hp htg hl9 hq_3
                      have m9 := t9.2.1
                      exact AW.lvs (lv' := [(4, .ref r12_3), (0, .ref p0), (1, .int (spT bs)), (2, .ref k), (3, .ref (gM G 0))]) (AW.eq (lv2 := _) (rfl) rfl rfl rfl rfl (ih_3 r12_3 t9.1 t9.2.2 (some (gM G 0)) (Or.inr rfl) (by omega))) (by simp)
                    · skip
                      have hl9 : ∀ z, N z → tx z = bs → ltM tx z p := fun z hz e => by rcases ltX_cmp okb.1 okp.1 okb.2 okp.2 with q | q | q; exact Or.inr ⟨by show spT (tx z) = spT (tx p); rw [e]; exact eh, by show ltX (tx z) (tx p); rw [e]; exact q.2⟩; exact absurd q.2 nt; exact absurd q.1 (by have y := Int32.not_le.mp c_129; exact Int32.not_lt.mpr (Int32.le_of_lt y))
                      refine aw_aload (n := 134) dJ27_find_132 5 rfl rfl ?_
                      refine aw_goto (tgt := 139) dJ27_find_134 (by decide) ?_
                      refine aw_astore (n := 141) (lv' := [(4, .ref l5_1), (6, .int (cmpT bs (tx p))), (3, .ref (gM G 0)), (7, .ref ((κ p).2.1)), (5, .int ((κ p).1)), (9, .ref r12_3), (8, .ref l5_1), (0, .ref p0), (1, .int (spT bs)), (2, .ref k)]) dJ27_find_139 (by decide) rfl rfl ?_
                      refine aw_goto (tgt := 165) dJ27_find_141 (by decide) ?_
                      refine aw_aload (n := 167) dJ27_find_165 0 rfl rfl ?_
                      refine aw_ifnonnull (tgt := 3) dJ27_find_167 (by decide) ?_
                      have t9 := tgt.L hB hp htg hl9 hq_1
                      have m9 := t9.2.1
                      exact AW.lvs (lv' := [(4, .ref l5_1), (0, .ref p0), (1, .int (spT bs)), (2, .ref k), (3, .ref (gM G 0))]) (AW.eq (lv2 := _) (rfl) rfl rfl rfl rfl (ih_3 l5_1 t9.1 t9.2.2 (some (gM G 0)) (Or.inr rfl) (by omega))) (by simp)
                · skip
                  have b_71_4 : (decide (bs = tx p)) = true := Bool.of_not_eq_false (fun e => c_71_4 ((bI_0 _).mpr e))
                  have et : bs = tx p := of_decide_eq_true b_71_4
                  refine aw_aload (n := 76) dJ27_find_74 4 rfl rfl ?_
                  exact aw_aret dJ27_find_76 rfl (Or.inl ⟨_, rfl⟩) (Or.inr ⟨_, rfl⟩) ⟨Or.inl ⟨p, hp, et.symm, rfl⟩, rfl⟩ ⟨Nat.zero_le _, Nat.zero_le _⟩
            · skip
              have g9 : spT (tx p) < spT bs := by rw [← hKh]; exact Int32.not_le.mp c_39_4
              have hl9 : ∀ z, N z → tx z = bs → ltM tx p z := fun z hz e => ltM.h1 (by rw [e]; exact g9)
              refine aw_aload (n := 44) dJ27_find_42 1 rfl rfl ?_
              refine aw_astore (n := 46) (lv' := [(4, .ref r12_3), (5, .int ((κ p).1)), (9, .ref r12_3), (8, .ref l5_1), (0, .ref p0), (1, .int (spT bs)), (2, .ref k), (3, .null)]) dJ27_find_44 (by decide) rfl rfl ?_
              refine aw_goto (tgt := 165) dJ27_find_46 (by decide) ?_
              refine aw_aload (n := 167) dJ27_find_165 0 rfl rfl ?_
              refine aw_ifnonnull (tgt := 3) dJ27_find_167 (by decide) ?_
              have t9 := tgt.R hB hp htg hl9 hq_3
              have m9 := t9.2.1
              exact AW.lvs (lv' := [(4, .ref r12_3), (0, .ref p0), (1, .int (spT bs)), (2, .ref k), (3, .null)]) (AW.eq (lv2 := _) (rfl) rfl rfl rfl rfl (ih_3 r12_3 t9.1 t9.2.2 none (Or.inl rfl) (by omega))) (by simp)
          · skip
            have g9 : spT bs < spT (tx p) := by rw [← hKh]; exact Int32.not_le.mp c_26_4
            have hl9 : ∀ z, N z → tx z = bs → ltM tx z p := fun z hz e => ltM.h1 (by rw [e]; exact g9)
            refine aw_aload (n := 31) dJ27_find_29 2 rfl rfl ?_
            refine aw_astore (n := 33) (lv' := [(4, .ref l5_1), (5, .int ((κ p).1)), (9, .ref r12_3), (8, .ref l5_1), (0, .ref p0), (1, .int (spT bs)), (2, .ref k), (3, .null)]) dJ27_find_31 (by decide) rfl rfl ?_
            refine aw_goto (tgt := 165) dJ27_find_33 (by decide) ?_
            refine aw_aload (n := 167) dJ27_find_165 0 rfl rfl ?_
            refine aw_ifnonnull (tgt := 3) dJ27_find_167 (by decide) ?_
            have t9 := tgt.L hB hp htg hl9 hq_1
            have m9 := t9.2.1
            exact AW.lvs (lv' := [(4, .ref l5_1), (0, .ref p0), (1, .int (spT bs)), (2, .ref k), (3, .null)]) (AW.eq (lv2 := _) (rfl) rfl rfl rfl rfl (ih_3 l5_1 t9.1 t9.2.2 none (Or.inl rfl) (by omega))) (by simp)
    · skip
      refine AW.eq (lv2 := [(4, .ref p), (0, .ref p0), (1, .int (spT bs)), (2, .ref k), (3, .ref (gM G 0))]) (s2 := []) rfl rfl rfl rfl rfl ?_
      refine aw_aload (n := 5) dJ27_find_3 0 rfl rfl ?_
      rcases optc (lf p) with hq_4 | ⟨l5_4, hq_4⟩
      · skip
        refine aw_getf (n := 8) (v := .null) (C0 := RJ27) (T := TJ27) dJ27_find_5 rfl 7 q1610 (Or.inl rfl) (hTP p hp).1 (congrArg (fun z9 => some (va_rf z9)) (show lf p = none from by exact hq_4)) rfl ?_
        refine aw_astoreN (n := 10) (lv' := [(8, .null), (4, .ref p), (0, .ref p0), (1, .int (spT bs)), (2, .ref k), (3, .ref (gM G 0))]) dJ27_find_8 (by decide) rfl rfl ?_
        refine aw_aload (n := 12) dJ27_find_10 1 rfl rfl ?_
        rcases optc (rt p) with hq_5 | ⟨r12_5, hq_5⟩
        · skip
          refine aw_getf (n := 15) (v := .null) (C0 := RJ27) (T := TJ27) dJ27_find_12 rfl 8 q1611 (Or.inl rfl) (hTP p hp).1 (congrArg (fun z9 => some (va_rf z9)) (show rt p = none from by exact hq_5)) rfl ?_
          refine aw_astoreN (n := 17) (lv' := [(9, .null), (8, .null), (4, .ref p), (0, .ref p0), (1, .int (spT bs)), (2, .ref k), (3, .ref (gM G 0))]) dJ27_find_15 (by decide) rfl rfl ?_
          refine aw_aload (n := 19) dJ27_find_17 2 rfl rfl ?_
          refine aw_getf (n := 22) (v := .int ((κ p).1)) (C0 := RJ27) (T := TJ27) dJ27_find_19 rfl 2 q1547 (Or.inr q1548) (hTP p hp).1 rfl rfl ?_
          refine aw_dup (n := 23) dJ27_find_22 rfl rfl ?_
          refine aw_istore (n := 25) (lv' := [(5, .int ((κ p).1)), (9, .null), (8, .null), (4, .ref p), (0, .ref p0), (1, .int (spT bs)), (2, .ref k), (3, .ref (gM G 0))]) dJ27_find_23 (by decide) rfl rfl ?_
          refine aw_iload_n (n := 26) dJ27_find_25 rfl 5 rfl rfl ?_
          refine aw_icmp_le (n := 29) (tgt := 36) dJ27_find_26 (by decide) rfl (fun c_26 => ?_) (fun c_26 => ?_)
          · skip
            refine aw_iload (n := 38) dJ27_find_36 0 rfl rfl ?_
            refine aw_iload_n (n := 39) dJ27_find_38 rfl 5 rfl rfl ?_
            refine aw_icmp_ge (n := 42) (tgt := 49) dJ27_find_39 (by decide) rfl (fun c_39 => ?_) (fun c_39 => ?_)
            · skip
              have eh : spT bs = spT (tx p) := by rw [← hKh]; exact Int32.le_antisymm c_39 c_26
              refine aw_aload (n := 51) dJ27_find_49 3 rfl rfl ?_
              refine aw_getf (n := 54) (v := .ref ((κ p).2.1)) (C0 := RJ27) (T := TJ27) dJ27_find_51 rfl 3 q1551 (Or.inr q1552) (hTP p hp).1 rfl rfl ?_
              refine aw_dup (n := 55) dJ27_find_54 rfl rfl ?_
              refine aw_astore (n := 57) (lv' := [(7, .ref ((κ p).2.1)), (5, .int ((κ p).1)), (9, .null), (8, .null), (4, .ref p), (0, .ref p0), (1, .int (spT bs)), (2, .ref k), (3, .ref (gM G 0))]) dJ27_find_55 (by decide) rfl rfl ?_
              refine aw_aload_n (n := 58) dJ27_find_57 rfl 7 rfl rfl ?_
              refine aw_acmp_eq (n := 61) (x := (some ((κ p).2.1))) (y := (some k)) (tgt := 74) dJ27_find_58 (by decide) rfl (fun c_58 => ?_) (fun c_58 => ?_)
              · skip
                have ek : (κ p).2.1 = k := by simpa using c_58
                have et : bs = tx p := hS.uniq (by rw [← ek]; exact hKp)
                refine aw_aload (n := 76) dJ27_find_74 4 rfl rfl ?_
                exact aw_aret dJ27_find_76 rfl (Or.inl ⟨_, rfl⟩) (Or.inr ⟨_, rfl⟩) ⟨Or.inl ⟨p, hp, et.symm, rfl⟩, rfl⟩ ⟨Nat.zero_le _, Nat.zero_le _⟩
              · skip
                refine aw_aload_n (n := 62) dJ27_find_61 rfl 7 rfl rfl ?_
                refine aw_ifnull (n := 65) dJ27_find_62 rfl ?_
                refine aw_aload_n (n := 66) dJ27_find_65 rfl 7 rfl rfl ?_
                refine aw_aload (n := 68) dJ27_find_66 0 rfl rfl ?_
                refine aw_callU (n := 71) "java/lang/Object" (C0 := RJ12) (As := [.ref ((κ p).2.1)]) (rest := []) (K2 := kJ12_equals) (x := ⟨"java/lang/Object", "equals", "(Ljava/lang/Object;)Z"⟩) dJ27_find_68 q1224 q1168 (Or.inl q1165) q1206 q776 q122 q778 ⟨by decide, by decide, (show (parseMethodDescriptor "(Ljava/lang/Object;)Z").map (fun d => d.parameters.length) = some 1 from by decide +kernel)⟩ rfl hS0 (cs_equals G h k u bs _ _ hS (κ p).2.1 up9 (tx p) _ _ hKp) rfl (Nat.le_of_ble_eq_true rfl) ⟨Nat.le_of_ble_eq_true rfl, Nat.le_of_ble_eq_true rfl⟩ ⟨by first | omega | (dsimp only; omega) | decide, by first | omega | (dsimp only; omega) | decide⟩ (fun _ _ _ z => z.elim) rfl (fun r_68 h_68 q_68 => ?_)
                obtain ⟨rfl, rfl⟩ := q_68
                refine AW.sts (st' := [.int (bI (decide (bs = tx p)))]) rfl ?_
                refine aw_if_eq (n := 74) (tgt := 77) dJ27_find_71 (by decide) rfl (fun c_71 => ?_) (fun c_71 => ?_)
                · skip
                  have b_71 : (decide (bs = tx p)) = false := (bI_0 _).mp c_71
                  have nt : bs ≠ tx p := of_decide_eq_false b_71
                  have tr9 : ∀ z, N z → tx z = bs → ltM tx z p ∨ ltM tx p z := fun z hz e => ltM.tri (by rw [e]; exact okb) okp (by rw [e]; exact nt)
                  refine aw_aloadN (n := 79) dJ27_find_77 3 rfl rfl ?_
                  refine aw_ifnonnullN (n := 82) dJ27_find_79 rfl ?_
                  have hl9 : ∀ z, N z → tx z = bs → ltM tx p z := fun z hz e => (tr9 z hz e).resolve_left (tgt.L0 hB hp htg hq_4 z hz e)
                  refine aw_aloadN (n := 84) dJ27_find_82 2 rfl rfl ?_
                  refine aw_astoreN (n := 86) (lv' := [(4, .null), (7, .ref ((κ p).2.1)), (5, .int ((κ p).1)), (9, .null), (8, .null), (0, .ref p0), (1, .int (spT bs)), (2, .ref k), (3, .ref (gM G 0))]) dJ27_find_84 (by decide) rfl rfl ?_
                  refine aw_goto (tgt := 165) dJ27_find_86 (by decide) ?_
                  refine aw_aloadN (n := 167) dJ27_find_165 0 rfl rfl ?_
                  refine aw_ifnonnullN (n := 170) dJ27_find_167 rfl ?_
                  refine aw_null (n := 171) dJ27_find_170 rfl ?_
                  exact aw_aret dJ27_find_171 rfl (Or.inl ⟨_, rfl⟩) (Or.inl rfl) ⟨Or.inr ⟨fun z hz e => tgt.R0 hB hp htg hq_5 z hz e (hl9 z hz e), rfl⟩, rfl⟩ ⟨Nat.zero_le _, Nat.zero_le _⟩
                · skip
                  have b_71 : (decide (bs = tx p)) = true := Bool.of_not_eq_false (fun e => c_71 ((bI_0 _).mpr e))
                  have et : bs = tx p := of_decide_eq_true b_71
                  refine aw_aload (n := 76) dJ27_find_74 4 rfl rfl ?_
                  exact aw_aret dJ27_find_76 rfl (Or.inl ⟨_, rfl⟩) (Or.inr ⟨_, rfl⟩) ⟨Or.inl ⟨p, hp, et.symm, rfl⟩, rfl⟩ ⟨Nat.zero_le _, Nat.zero_le _⟩
            · skip
              have g9 : spT (tx p) < spT bs := by rw [← hKh]; exact Int32.not_le.mp c_39
              have hl9 : ∀ z, N z → tx z = bs → ltM tx p z := fun z hz e => ltM.h1 (by rw [e]; exact g9)
              refine aw_aloadN (n := 44) dJ27_find_42 1 rfl rfl ?_
              refine aw_astoreN (n := 46) (lv' := [(4, .null), (5, .int ((κ p).1)), (9, .null), (8, .null), (0, .ref p0), (1, .int (spT bs)), (2, .ref k), (3, .ref (gM G 0))]) dJ27_find_44 (by decide) rfl rfl ?_
              refine aw_goto (tgt := 165) dJ27_find_46 (by decide) ?_
              refine aw_aloadN (n := 167) dJ27_find_165 0 rfl rfl ?_
              refine aw_ifnonnullN (n := 170) dJ27_find_167 rfl ?_
              refine aw_null (n := 171) dJ27_find_170 rfl ?_
              exact aw_aret dJ27_find_171 rfl (Or.inl ⟨_, rfl⟩) (Or.inl rfl) ⟨Or.inr ⟨fun z hz e => tgt.R0 hB hp htg hq_5 z hz e (hl9 z hz e), rfl⟩, rfl⟩ ⟨Nat.zero_le _, Nat.zero_le _⟩
          · skip
            have g9 : spT bs < spT (tx p) := by rw [← hKh]; exact Int32.not_le.mp c_26
            have hl9 : ∀ z, N z → tx z = bs → ltM tx z p := fun z hz e => ltM.h1 (by rw [e]; exact g9)
            refine aw_aloadN (n := 31) dJ27_find_29 2 rfl rfl ?_
            refine aw_astoreN (n := 33) (lv' := [(4, .null), (5, .int ((κ p).1)), (9, .null), (8, .null), (0, .ref p0), (1, .int (spT bs)), (2, .ref k), (3, .ref (gM G 0))]) dJ27_find_31 (by decide) rfl rfl ?_
            refine aw_goto (tgt := 165) dJ27_find_33 (by decide) ?_
            refine aw_aloadN (n := 167) dJ27_find_165 0 rfl rfl ?_
            refine aw_ifnonnullN (n := 170) dJ27_find_167 rfl ?_
            refine aw_null (n := 171) dJ27_find_170 rfl ?_
            exact aw_aret dJ27_find_171 rfl (Or.inl ⟨_, rfl⟩) (Or.inl rfl) ⟨Or.inr ⟨fun z hz e => tgt.L0 hB hp htg hq_4 z hz e (hl9 z hz e), rfl⟩, rfl⟩ ⟨Nat.zero_le _, Nat.zero_le _⟩
        · skip
          have k_r12_5 : N r12_5 := BT.ch hB hp (Or.inr hq_5)
          refine aw_getf (n := 15) (v := .ref r12_5) (C0 := RJ27) (T := TJ27) dJ27_find_12 rfl 8 q1611 (Or.inl rfl) (hTP p hp).1 (congrArg (fun z9 => some (va_rf z9)) (show rt p = some r12_5 from by exact hq_5)) rfl ?_
          refine aw_astore (n := 17) (lv' := [(9, .ref r12_5), (8, .null), (4, .ref p), (0, .ref p0), (1, .int (spT bs)), (2, .ref k), (3, .ref (gM G 0))]) dJ27_find_15 (by decide) rfl rfl ?_
          refine aw_aload (n := 19) dJ27_find_17 2 rfl rfl ?_
          refine aw_getf (n := 22) (v := .int ((κ p).1)) (C0 := RJ27) (T := TJ27) dJ27_find_19 rfl 2 q1547 (Or.inr q1548) (hTP p hp).1 rfl rfl ?_
          refine aw_dup (n := 23) dJ27_find_22 rfl rfl ?_
          refine aw_istore (n := 25) (lv' := [(5, .int ((κ p).1)), (9, .ref r12_5), (8, .null), (4, .ref p), (0, .ref p0), (1, .int (spT bs)), (2, .ref k), (3, .ref (gM G 0))]) dJ27_find_23 (by decide) rfl rfl ?_
          refine aw_iload_n (n := 26) dJ27_find_25 rfl 5 rfl rfl ?_
          refine aw_icmp_le (n := 29) (tgt := 36) dJ27_find_26 (by decide) rfl (fun c_26_2 => ?_) (fun c_26_2 => ?_)
          · skip
            refine aw_iload (n := 38) dJ27_find_36 0 rfl rfl ?_
            refine aw_iload_n (n := 39) dJ27_find_38 rfl 5 rfl rfl ?_
            refine aw_icmp_ge (n := 42) (tgt := 49) dJ27_find_39 (by decide) rfl (fun c_39_2 => ?_) (fun c_39_2 => ?_)
            · skip
              have eh : spT bs = spT (tx p) := by rw [← hKh]; exact Int32.le_antisymm c_39_2 c_26_2
              refine aw_aload (n := 51) dJ27_find_49 3 rfl rfl ?_
              refine aw_getf (n := 54) (v := .ref ((κ p).2.1)) (C0 := RJ27) (T := TJ27) dJ27_find_51 rfl 3 q1551 (Or.inr q1552) (hTP p hp).1 rfl rfl ?_
              refine aw_dup (n := 55) dJ27_find_54 rfl rfl ?_
              refine aw_astore (n := 57) (lv' := [(7, .ref ((κ p).2.1)), (5, .int ((κ p).1)), (9, .ref r12_5), (8, .null), (4, .ref p), (0, .ref p0), (1, .int (spT bs)), (2, .ref k), (3, .ref (gM G 0))]) dJ27_find_55 (by decide) rfl rfl ?_
              refine aw_aload_n (n := 58) dJ27_find_57 rfl 7 rfl rfl ?_
              refine aw_acmp_eq (n := 61) (x := (some ((κ p).2.1))) (y := (some k)) (tgt := 74) dJ27_find_58 (by decide) rfl (fun c_58_2 => ?_) (fun c_58_2 => ?_)
              · skip
                have ek : (κ p).2.1 = k := by simpa using c_58_2
                have et : bs = tx p := hS.uniq (by rw [← ek]; exact hKp)
                refine aw_aload (n := 76) dJ27_find_74 4 rfl rfl ?_
                exact aw_aret dJ27_find_76 rfl (Or.inl ⟨_, rfl⟩) (Or.inr ⟨_, rfl⟩) ⟨Or.inl ⟨p, hp, et.symm, rfl⟩, rfl⟩ ⟨Nat.zero_le _, Nat.zero_le _⟩
              · skip
                refine aw_aload_n (n := 62) dJ27_find_61 rfl 7 rfl rfl ?_
                refine aw_ifnull (n := 65) dJ27_find_62 rfl ?_
                refine aw_aload_n (n := 66) dJ27_find_65 rfl 7 rfl rfl ?_
                refine aw_aload (n := 68) dJ27_find_66 0 rfl rfl ?_
                refine aw_callU (n := 71) "java/lang/Object" (C0 := RJ12) (As := [.ref ((κ p).2.1)]) (rest := []) (K2 := kJ12_equals) (x := ⟨"java/lang/Object", "equals", "(Ljava/lang/Object;)Z"⟩) dJ27_find_68 q1224 q1168 (Or.inl q1165) q1206 q776 q122 q778 ⟨by decide, by decide, (show (parseMethodDescriptor "(Ljava/lang/Object;)Z").map (fun d => d.parameters.length) = some 1 from by decide +kernel)⟩ rfl hS0 (cs_equals G h k u bs _ _ hS (κ p).2.1 up9 (tx p) _ _ hKp) rfl (Nat.le_of_ble_eq_true rfl) ⟨Nat.le_of_ble_eq_true rfl, Nat.le_of_ble_eq_true rfl⟩ ⟨by first | omega | (dsimp only; omega) | decide, by first | omega | (dsimp only; omega) | decide⟩ (fun _ _ _ z => z.elim) rfl (fun r_68 h_68 q_68 => ?_)
                obtain ⟨rfl, rfl⟩ := q_68
                refine AW.sts (st' := [.int (bI (decide (bs = tx p)))]) rfl ?_
                refine aw_if_eq (n := 74) (tgt := 77) dJ27_find_71 (by decide) rfl (fun c_71_2 => ?_) (fun c_71_2 => ?_)
                · skip
                  have b_71_2 : (decide (bs = tx p)) = false := (bI_0 _).mp c_71_2
                  have nt : bs ≠ tx p := of_decide_eq_false b_71_2
                  have tr9 : ∀ z, N z → tx z = bs → ltM tx z p ∨ ltM tx p z := fun z hz e => ltM.tri (by rw [e]; exact okb) okp (by rw [e]; exact nt)
                  refine aw_aloadN (n := 79) dJ27_find_77 3 rfl rfl ?_
                  refine aw_ifnonnullN (n := 82) dJ27_find_79 rfl ?_
                  have hl9 : ∀ z, N z → tx z = bs → ltM tx p z := fun z hz e => (tr9 z hz e).resolve_left (tgt.L0 hB hp htg hq_4 z hz e)
                  refine aw_aload (n := 84) dJ27_find_82 2 rfl rfl ?_
                  refine aw_astore (n := 86) (lv' := [(4, .ref r12_5), (7, .ref ((κ p).2.1)), (5, .int ((κ p).1)), (9, .ref r12_5), (8, .null), (0, .ref p0), (1, .int (spT bs)), (2, .ref k), (3, .ref (gM G 0))]) dJ27_find_84 (by decide) rfl rfl ?_
                  refine aw_goto (tgt := 165) dJ27_find_86 (by decide) ?_
                  refine aw_aload (n := 167) dJ27_find_165 0 rfl rfl ?_
                  refine aw_ifnonnull (tgt := 3) dJ27_find_167 (by decide) ?_
                  have t9 := tgt.R hB hp htg hl9 hq_5
                  have m9 := t9.2.1
                  exact AW.lvs (lv' := [(4, .ref r12_5), (0, .ref p0), (1, .int (spT bs)), (2, .ref k), (3, .ref (gM G 0))]) (AW.eq (lv2 := _) (rfl) rfl rfl rfl rfl (ih_3 r12_5 t9.1 t9.2.2 (some (gM G 0)) (Or.inr rfl) (by omega))) (by simp)
                · skip
                  have b_71_2 : (decide (bs = tx p)) = true := Bool.of_not_eq_false (fun e => c_71_2 ((bI_0 _).mpr e))
                  have et : bs = tx p := of_decide_eq_true b_71_2
                  refine aw_aload (n := 76) dJ27_find_74 4 rfl rfl ?_
                  exact aw_aret dJ27_find_76 rfl (Or.inl ⟨_, rfl⟩) (Or.inr ⟨_, rfl⟩) ⟨Or.inl ⟨p, hp, et.symm, rfl⟩, rfl⟩ ⟨Nat.zero_le _, Nat.zero_le _⟩
            · skip
              have g9 : spT (tx p) < spT bs := by rw [← hKh]; exact Int32.not_le.mp c_39_2
              have hl9 : ∀ z, N z → tx z = bs → ltM tx p z := fun z hz e => ltM.h1 (by rw [e]; exact g9)
              refine aw_aload (n := 44) dJ27_find_42 1 rfl rfl ?_
              refine aw_astore (n := 46) (lv' := [(4, .ref r12_5), (5, .int ((κ p).1)), (9, .ref r12_5), (8, .null), (0, .ref p0), (1, .int (spT bs)), (2, .ref k), (3, .ref (gM G 0))]) dJ27_find_44 (by decide) rfl rfl ?_
              refine aw_goto (tgt := 165) dJ27_find_46 (by decide) ?_
              refine aw_aload (n := 167) dJ27_find_165 0 rfl rfl ?_
              refine aw_ifnonnull (tgt := 3) dJ27_find_167 (by decide) ?_
              have t9 := tgt.R hB hp htg hl9 hq_5
              have m9 := t9.2.1
              exact AW.lvs (lv' := [(4, .ref r12_5), (0, .ref p0), (1, .int (spT bs)), (2, .ref k), (3, .ref (gM G 0))]) (AW.eq (lv2 := _) (rfl) rfl rfl rfl rfl (ih_3 r12_5 t9.1 t9.2.2 (some (gM G 0)) (Or.inr rfl) (by omega))) (by simp)
          · skip
            have g9 : spT bs < spT (tx p) := by rw [← hKh]; exact Int32.not_le.mp c_26_2
            have hl9 : ∀ z, N z → tx z = bs → ltM tx z p := fun z hz e => ltM.h1 (by rw [e]; exact g9)
            refine aw_aloadN (n := 31) dJ27_find_29 2 rfl rfl ?_
            refine aw_astoreN (n := 33) (lv' := [(4, .null), (5, .int ((κ p).1)), (9, .ref r12_5), (8, .null), (0, .ref p0), (1, .int (spT bs)), (2, .ref k), (3, .ref (gM G 0))]) dJ27_find_31 (by decide) rfl rfl ?_
            refine aw_goto (tgt := 165) dJ27_find_33 (by decide) ?_
            refine aw_aloadN (n := 167) dJ27_find_165 0 rfl rfl ?_
            refine aw_ifnonnullN (n := 170) dJ27_find_167 rfl ?_
            refine aw_null (n := 171) dJ27_find_170 rfl ?_
            exact aw_aret dJ27_find_171 rfl (Or.inl ⟨_, rfl⟩) (Or.inl rfl) ⟨Or.inr ⟨fun z hz e => tgt.L0 hB hp htg hq_4 z hz e (hl9 z hz e), rfl⟩, rfl⟩ ⟨Nat.zero_le _, Nat.zero_le _⟩
      · skip
        have k_l5_4 : N l5_4 := BT.ch hB hp (Or.inl hq_4)
        refine aw_getf (n := 8) (v := .ref l5_4) (C0 := RJ27) (T := TJ27) dJ27_find_5 rfl 7 q1610 (Or.inl rfl) (hTP p hp).1 (congrArg (fun z9 => some (va_rf z9)) (show lf p = some l5_4 from by exact hq_4)) rfl ?_
        refine aw_astore (n := 10) (lv' := [(8, .ref l5_4), (4, .ref p), (0, .ref p0), (1, .int (spT bs)), (2, .ref k), (3, .ref (gM G 0))]) dJ27_find_8 (by decide) rfl rfl ?_
        refine aw_aload (n := 12) dJ27_find_10 1 rfl rfl ?_
        rcases optc (rt p) with hq_6 | ⟨r12_6, hq_6⟩
        · skip
          refine aw_getf (n := 15) (v := .null) (C0 := RJ27) (T := TJ27) dJ27_find_12 rfl 8 q1611 (Or.inl rfl) (hTP p hp).1 (congrArg (fun z9 => some (va_rf z9)) (show rt p = none from by exact hq_6)) rfl ?_
          refine aw_astoreN (n := 17) (lv' := [(9, .null), (8, .ref l5_4), (4, .ref p), (0, .ref p0), (1, .int (spT bs)), (2, .ref k), (3, .ref (gM G 0))]) dJ27_find_15 (by decide) rfl rfl ?_
          refine aw_aload (n := 19) dJ27_find_17 2 rfl rfl ?_
          refine aw_getf (n := 22) (v := .int ((κ p).1)) (C0 := RJ27) (T := TJ27) dJ27_find_19 rfl 2 q1547 (Or.inr q1548) (hTP p hp).1 rfl rfl ?_
          refine aw_dup (n := 23) dJ27_find_22 rfl rfl ?_
          refine aw_istore (n := 25) (lv' := [(5, .int ((κ p).1)), (9, .null), (8, .ref l5_4), (4, .ref p), (0, .ref p0), (1, .int (spT bs)), (2, .ref k), (3, .ref (gM G 0))]) dJ27_find_23 (by decide) rfl rfl ?_
          refine aw_iload_n (n := 26) dJ27_find_25 rfl 5 rfl rfl ?_
          refine aw_icmp_le (n := 29) (tgt := 36) dJ27_find_26 (by decide) rfl (fun c_26_3 => ?_) (fun c_26_3 => ?_)
          · skip
            refine aw_iload (n := 38) dJ27_find_36 0 rfl rfl ?_
            refine aw_iload_n (n := 39) dJ27_find_38 rfl 5 rfl rfl ?_
            refine aw_icmp_ge (n := 42) (tgt := 49) dJ27_find_39 (by decide) rfl (fun c_39_3 => ?_) (fun c_39_3 => ?_)
            · skip
              have eh : spT bs = spT (tx p) := by rw [← hKh]; exact Int32.le_antisymm c_39_3 c_26_3
              refine aw_aload (n := 51) dJ27_find_49 3 rfl rfl ?_
              refine aw_getf (n := 54) (v := .ref ((κ p).2.1)) (C0 := RJ27) (T := TJ27) dJ27_find_51 rfl 3 q1551 (Or.inr q1552) (hTP p hp).1 rfl rfl ?_
              refine aw_dup (n := 55) dJ27_find_54 rfl rfl ?_
              refine aw_astore (n := 57) (lv' := [(7, .ref ((κ p).2.1)), (5, .int ((κ p).1)), (9, .null), (8, .ref l5_4), (4, .ref p), (0, .ref p0), (1, .int (spT bs)), (2, .ref k), (3, .ref (gM G 0))]) dJ27_find_55 (by decide) rfl rfl ?_
              refine aw_aload_n (n := 58) dJ27_find_57 rfl 7 rfl rfl ?_
              refine aw_acmp_eq (n := 61) (x := (some ((κ p).2.1))) (y := (some k)) (tgt := 74) dJ27_find_58 (by decide) rfl (fun c_58_3 => ?_) (fun c_58_3 => ?_)
              · skip
                have ek : (κ p).2.1 = k := by simpa using c_58_3
                have et : bs = tx p := hS.uniq (by rw [← ek]; exact hKp)
                refine aw_aload (n := 76) dJ27_find_74 4 rfl rfl ?_
                exact aw_aret dJ27_find_76 rfl (Or.inl ⟨_, rfl⟩) (Or.inr ⟨_, rfl⟩) ⟨Or.inl ⟨p, hp, et.symm, rfl⟩, rfl⟩ ⟨Nat.zero_le _, Nat.zero_le _⟩
              · skip
                refine aw_aload_n (n := 62) dJ27_find_61 rfl 7 rfl rfl ?_
                refine aw_ifnull (n := 65) dJ27_find_62 rfl ?_
                refine aw_aload_n (n := 66) dJ27_find_65 rfl 7 rfl rfl ?_
                refine aw_aload (n := 68) dJ27_find_66 0 rfl rfl ?_
                refine aw_callU (n := 71) "java/lang/Object" (C0 := RJ12) (As := [.ref ((κ p).2.1)]) (rest := []) (K2 := kJ12_equals) (x := ⟨"java/lang/Object", "equals", "(Ljava/lang/Object;)Z"⟩) dJ27_find_68 q1224 q1168 (Or.inl q1165) q1206 q776 q122 q778 ⟨by decide, by decide, (show (parseMethodDescriptor "(Ljava/lang/Object;)Z").map (fun d => d.parameters.length) = some 1 from by decide +kernel)⟩ rfl hS0 (cs_equals G h k u bs _ _ hS (κ p).2.1 up9 (tx p) _ _ hKp) rfl (Nat.le_of_ble_eq_true rfl) ⟨Nat.le_of_ble_eq_true rfl, Nat.le_of_ble_eq_true rfl⟩ ⟨by first | omega | (dsimp only; omega) | decide, by first | omega | (dsimp only; omega) | decide⟩ (fun _ _ _ z => z.elim) rfl (fun r_68 h_68 q_68 => ?_)
                obtain ⟨rfl, rfl⟩ := q_68
                refine AW.sts (st' := [.int (bI (decide (bs = tx p)))]) rfl ?_
                refine aw_if_eq (n := 74) (tgt := 77) dJ27_find_71 (by decide) rfl (fun c_71_3 => ?_) (fun c_71_3 => ?_)
                · skip
                  have b_71_3 : (decide (bs = tx p)) = false := (bI_0 _).mp c_71_3
                  have nt : bs ≠ tx p := of_decide_eq_false b_71_3
                  have tr9 : ∀ z, N z → tx z = bs → ltM tx z p ∨ ltM tx p z := fun z hz e => ltM.tri (by rw [e]; exact okb) okp (by rw [e]; exact nt)
                  refine aw_aload (n := 79) dJ27_find_77 3 rfl rfl ?_
                  refine aw_ifnonnull (tgt := 89) dJ27_find_79 (by decide) ?_
                  refine aw_aloadN (n := 91) dJ27_find_89 2 rfl rfl ?_
                  refine aw_ifnonnullN (n := 94) dJ27_find_91 rfl ?_
                  have hl9 : ∀ z, N z → tx z = bs → ltM tx z p := fun z hz e => (tr9 z hz e).resolve_right (tgt.R0 hB hp htg hq_6 z hz e)
                  refine aw_aload (n := 96) dJ27_find_94 3 rfl rfl ?_
                  refine aw_astore (n := 98) (lv' := [(4, .ref l5_4), (7, .ref ((κ p).2.1)), (5, .int ((κ p).1)), (9, .null), (8, .ref l5_4), (0, .ref p0), (1, .int (spT bs)), (2, .ref k), (3, .ref (gM G 0))]) dJ27_find_96 (by decide) rfl rfl ?_
                  refine aw_goto (tgt := 165) dJ27_find_98 (by decide) ?_
                  refine aw_aload (n := 167) dJ27_find_165 0 rfl rfl ?_
                  refine aw_ifnonnull (tgt := 3) dJ27_find_167 (by decide) ?_
                  have t9 := tgt.L hB hp htg hl9 hq_4
                  have m9 := t9.2.1
                  exact AW.lvs (lv' := [(4, .ref l5_4), (0, .ref p0), (1, .int (spT bs)), (2, .ref k), (3, .ref (gM G 0))]) (AW.eq (lv2 := _) (rfl) rfl rfl rfl rfl (ih_3 l5_4 t9.1 t9.2.2 (some (gM G 0)) (Or.inr rfl) (by omega))) (by simp)
                · skip
                  have b_71_3 : (decide (bs = tx p)) = true := Bool.of_not_eq_false (fun e => c_71_3 ((bI_0 _).mpr e))
                  have et : bs = tx p := of_decide_eq_true b_71_3
                  refine aw_aload (n := 76) dJ27_find_74 4 rfl rfl ?_
                  exact aw_aret dJ27_find_76 rfl (Or.inl ⟨_, rfl⟩) (Or.inr ⟨_, rfl⟩) ⟨Or.inl ⟨p, hp, et.symm, rfl⟩, rfl⟩ ⟨Nat.zero_le _, Nat.zero_le _⟩
            · skip
              have g9 : spT (tx p) < spT bs := by rw [← hKh]; exact Int32.not_le.mp c_39_3
              have hl9 : ∀ z, N z → tx z = bs → ltM tx p z := fun z hz e => ltM.h1 (by rw [e]; exact g9)
              refine aw_aloadN (n := 44) dJ27_find_42 1 rfl rfl ?_
              refine aw_astoreN (n := 46) (lv' := [(4, .null), (5, .int ((κ p).1)), (9, .null), (8, .ref l5_4), (0, .ref p0), (1, .int (spT bs)), (2, .ref k), (3, .ref (gM G 0))]) dJ27_find_44 (by decide) rfl rfl ?_
              refine aw_goto (tgt := 165) dJ27_find_46 (by decide) ?_
              refine aw_aloadN (n := 167) dJ27_find_165 0 rfl rfl ?_
              refine aw_ifnonnullN (n := 170) dJ27_find_167 rfl ?_
              refine aw_null (n := 171) dJ27_find_170 rfl ?_
              exact aw_aret dJ27_find_171 rfl (Or.inl ⟨_, rfl⟩) (Or.inl rfl) ⟨Or.inr ⟨fun z hz e => tgt.R0 hB hp htg hq_6 z hz e (hl9 z hz e), rfl⟩, rfl⟩ ⟨Nat.zero_le _, Nat.zero_le _⟩
          · skip
            have g9 : spT bs < spT (tx p) := by rw [← hKh]; exact Int32.not_le.mp c_26_3
            have hl9 : ∀ z, N z → tx z = bs → ltM tx z p := fun z hz e => ltM.h1 (by rw [e]; exact g9)
            refine aw_aload (n := 31) dJ27_find_29 2 rfl rfl ?_
            refine aw_astore (n := 33) (lv' := [(4, .ref l5_4), (5, .int ((κ p).1)), (9, .null), (8, .ref l5_4), (0, .ref p0), (1, .int (spT bs)), (2, .ref k), (3, .ref (gM G 0))]) dJ27_find_31 (by decide) rfl rfl ?_
            refine aw_goto (tgt := 165) dJ27_find_33 (by decide) ?_
            refine aw_aload (n := 167) dJ27_find_165 0 rfl rfl ?_
            refine aw_ifnonnull (tgt := 3) dJ27_find_167 (by decide) ?_
            have t9 := tgt.L hB hp htg hl9 hq_4
            have m9 := t9.2.1
            exact AW.lvs (lv' := [(4, .ref l5_4), (0, .ref p0), (1, .int (spT bs)), (2, .ref k), (3, .ref (gM G 0))]) (AW.eq (lv2 := _) (rfl) rfl rfl rfl rfl (ih_3 l5_4 t9.1 t9.2.2 (some (gM G 0)) (Or.inr rfl) (by omega))) (by simp)
        · skip
          have k_r12_6 : N r12_6 := BT.ch hB hp (Or.inr hq_6)
          refine aw_getf (n := 15) (v := .ref r12_6) (C0 := RJ27) (T := TJ27) dJ27_find_12 rfl 8 q1611 (Or.inl rfl) (hTP p hp).1 (congrArg (fun z9 => some (va_rf z9)) (show rt p = some r12_6 from by exact hq_6)) rfl ?_
          refine aw_astore (n := 17) (lv' := [(9, .ref r12_6), (8, .ref l5_4), (4, .ref p), (0, .ref p0), (1, .int (spT bs)), (2, .ref k), (3, .ref (gM G 0))]) dJ27_find_15 (by decide) rfl rfl ?_
          refine aw_aload (n := 19) dJ27_find_17 2 rfl rfl ?_
          refine aw_getf (n := 22) (v := .int ((κ p).1)) (C0 := RJ27) (T := TJ27) dJ27_find_19 rfl 2 q1547 (Or.inr q1548) (hTP p hp).1 rfl rfl ?_
          refine aw_dup (n := 23) dJ27_find_22 rfl rfl ?_
          refine aw_istore (n := 25) (lv' := [(5, .int ((κ p).1)), (9, .ref r12_6), (8, .ref l5_4), (4, .ref p), (0, .ref p0), (1, .int (spT bs)), (2, .ref k), (3, .ref (gM G 0))]) dJ27_find_23 (by decide) rfl rfl ?_
          refine aw_iload_n (n := 26) dJ27_find_25 rfl 5 rfl rfl ?_
          refine aw_icmp_le (n := 29) (tgt := 36) dJ27_find_26 (by decide) rfl (fun c_26_4 => ?_) (fun c_26_4 => ?_)
          · skip
            refine aw_iload (n := 38) dJ27_find_36 0 rfl rfl ?_
            refine aw_iload_n (n := 39) dJ27_find_38 rfl 5 rfl rfl ?_
            refine aw_icmp_ge (n := 42) (tgt := 49) dJ27_find_39 (by decide) rfl (fun c_39_4 => ?_) (fun c_39_4 => ?_)
            · skip
              have eh : spT bs = spT (tx p) := by rw [← hKh]; exact Int32.le_antisymm c_39_4 c_26_4
              refine aw_aload (n := 51) dJ27_find_49 3 rfl rfl ?_
              refine aw_getf (n := 54) (v := .ref ((κ p).2.1)) (C0 := RJ27) (T := TJ27) dJ27_find_51 rfl 3 q1551 (Or.inr q1552) (hTP p hp).1 rfl rfl ?_
              refine aw_dup (n := 55) dJ27_find_54 rfl rfl ?_
              refine aw_astore (n := 57) (lv' := [(7, .ref ((κ p).2.1)), (5, .int ((κ p).1)), (9, .ref r12_6), (8, .ref l5_4), (4, .ref p), (0, .ref p0), (1, .int (spT bs)), (2, .ref k), (3, .ref (gM G 0))]) dJ27_find_55 (by decide) rfl rfl ?_
              refine aw_aload_n (n := 58) dJ27_find_57 rfl 7 rfl rfl ?_
              refine aw_acmp_eq (n := 61) (x := (some ((κ p).2.1))) (y := (some k)) (tgt := 74) dJ27_find_58 (by decide) rfl (fun c_58_4 => ?_) (fun c_58_4 => ?_)
              · skip
                have ek : (κ p).2.1 = k := by simpa using c_58_4
                have et : bs = tx p := hS.uniq (by rw [← ek]; exact hKp)
                refine aw_aload (n := 76) dJ27_find_74 4 rfl rfl ?_
                exact aw_aret dJ27_find_76 rfl (Or.inl ⟨_, rfl⟩) (Or.inr ⟨_, rfl⟩) ⟨Or.inl ⟨p, hp, et.symm, rfl⟩, rfl⟩ ⟨Nat.zero_le _, Nat.zero_le _⟩
              · skip
                refine aw_aload_n (n := 62) dJ27_find_61 rfl 7 rfl rfl ?_
                refine aw_ifnull (n := 65) dJ27_find_62 rfl ?_
                refine aw_aload_n (n := 66) dJ27_find_65 rfl 7 rfl rfl ?_
                refine aw_aload (n := 68) dJ27_find_66 0 rfl rfl ?_
                refine aw_callU (n := 71) "java/lang/Object" (C0 := RJ12) (As := [.ref ((κ p).2.1)]) (rest := []) (K2 := kJ12_equals) (x := ⟨"java/lang/Object", "equals", "(Ljava/lang/Object;)Z"⟩) dJ27_find_68 q1224 q1168 (Or.inl q1165) q1206 q776 q122 q778 ⟨by decide, by decide, (show (parseMethodDescriptor "(Ljava/lang/Object;)Z").map (fun d => d.parameters.length) = some 1 from by decide +kernel)⟩ rfl hS0 (cs_equals G h k u bs _ _ hS (κ p).2.1 up9 (tx p) _ _ hKp) rfl (Nat.le_of_ble_eq_true rfl) ⟨Nat.le_of_ble_eq_true rfl, Nat.le_of_ble_eq_true rfl⟩ ⟨by first | omega | (dsimp only; omega) | decide, by first | omega | (dsimp only; omega) | decide⟩ (fun _ _ _ z => z.elim) rfl (fun r_68 h_68 q_68 => ?_)
                obtain ⟨rfl, rfl⟩ := q_68
                refine AW.sts (st' := [.int (bI (decide (bs = tx p)))]) rfl ?_
                refine aw_if_eq (n := 74) (tgt := 77) dJ27_find_71 (by decide) rfl (fun c_71_4 => ?_) (fun c_71_4 => ?_)
                · skip
                  have b_71_4 : (decide (bs = tx p)) = false := (bI_0 _).mp c_71_4
                  have nt : bs ≠ tx p := of_decide_eq_false b_71_4
                  have tr9 : ∀ z, N z → tx z = bs → ltM tx z p ∨ ltM tx p z := fun z hz e => ltM.tri (by rw [e]; exact okb) okp (by rw [e]; exact nt)
                  refine aw_aload (n := 79) dJ27_find_77 3 rfl rfl ?_
                  refine aw_ifnonnull (tgt := 89) dJ27_find_79 (by decide) ?_
                  refine aw_aload (n := 91) dJ27_find_89 2 rfl rfl ?_
                  refine aw_ifnonnull (tgt := 101) dJ27_find_91 (by decide) ?_
                  refine aw_aload_n (n := 102) dJ27_find_101 rfl 8 rfl rfl ?_
                  refine aw_ifnonnull (tgt := 114) dJ27_find_102 (by decide) ?_
                  refine aw_aload_n (n := 115) dJ27_find_114 rfl 8 rfl rfl ?_
                  refine aw_aload_n (n := 116) dJ27_find_115 rfl 7 rfl rfl ?_
                  refine aw_aload (n := 118) dJ27_find_116 0 rfl rfl ?_
                  refine aw_callS (n := 121) (As := [.ref (gM G 0), .ref k, .ref ((κ p).2.1)]) (rest := []) (K2 := kJ4_compareComparables) dJ27_find_118 q1231 q1232 q112 q1233 hcJ4_compareComparables (hm_cmpC G h k u (κ p).2.1 up9 bs (tx p) _ _ _ _ hS hKp (Or.inl hb8)) rfl (Nat.le_of_ble_eq_true rfl) ⟨Nat.le_of_ble_eq_true rfl, Nat.le_of_ble_eq_true rfl⟩ ⟨by first | omega | (dsimp only; omega) | decide, by first | omega | (dsimp only; omega) | decide⟩ (fun _ _ _ z => z.elim) rfl (fun r_118 h_118 q_118 => ?_)
                  obtain ⟨rfl, rfl⟩ := q_118
                  refine AW.sts (st' := [.int (cmpT bs (tx p))]) rfl ?_
                  refine aw_dup (n := 122) dJ27_find_121 rfl rfl ?_
                  refine aw_istore (n := 124) (lv' := [(6, .int (cmpT bs (tx p))), (7, .ref ((κ p).2.1)), (5, .int ((κ p).1)), (9, .ref r12_6), (8, .ref l5_4), (4, .ref p), (0, .ref p0), (1, .int (spT bs)), (2, .ref k), (3, .ref (gM G 0))]) dJ27_find_122 (by decide) rfl rfl ?_
                  refine aw_if_eq (n := 127) (tgt := 144) dJ27_find_124 (by decide) rfl (fun c_124 => ?_) (fun c_124 => ?_)
                  · skip
                    exfalso; rcases ltX_cmp okb.1 okp.1 okb.2 okp.2 with z | z | z; rw [c_124] at z; exact absurd z.1 (by decide); exact nt z.2; rw [c_124] at z; exact absurd z.1 (by decide)
                  · skip
                    refine aw_iload (n := 129) dJ27_find_127 0 rfl rfl ?_
                    refine aw_if_ge (n := 132) (tgt := 137) dJ27_find_129 (by decide) rfl (fun c_129 => ?_) (fun c_129 => ?_)
                    · skip
                      have hl9 : ∀ z, N z → tx z = bs → ltM tx p z := fun z hz e => by rcases ltX_cmp okb.1 okp.1 okb.2 okp.2 with q | q | q; exact absurd q.1 (Int32.not_lt.mpr c_129); exact absurd q.2 nt; exact Or.inr ⟨by show spT (tx p) = spT (tx z); rw [e]; exact eh.symm, by show ltX (tx p) (tx z); rw [e]; exact q.2⟩
                      refine aw_aload (n := 139) dJ27_find_137 3 rfl rfl ?_
                      refine aw_astore (n := 141) (lv' := [(4, .ref r12_6), (6, .int (cmpT bs (tx p))), (7, .ref ((κ p).2.1)), (5, .int ((κ p).1)), (9, .ref r12_6), (8, .ref l5_4), (0, .ref p0), (1, .int (spT bs)), (2, .ref k), (3, .ref (gM G 0))]) dJ27_find_139 (by decide) rfl rfl ?_
                      refine aw_goto (tgt := 165) dJ27_find_141 (by decide) ?_
                      refine aw_aload (n := 167) dJ27_find_165 0 rfl rfl ?_
                      refine aw_ifnonnull (tgt := 3) dJ27_find_167 (by decide) ?_
                      have t9 := tgt.R hB hp htg hl9 hq_6
                      have m9 := t9.2.1
                      exact AW.lvs (lv' := [(4, .ref r12_6), (0, .ref p0), (1, .int (spT bs)), (2, .ref k), (3, .ref (gM G 0))]) (AW.eq (lv2 := _) (rfl) rfl rfl rfl rfl (ih_3 r12_6 t9.1 t9.2.2 (some (gM G 0)) (Or.inr rfl) (by omega))) (by simp)
                    · skip
                      have hl9 : ∀ z, N z → tx z = bs → ltM tx z p := fun z hz e => by rcases ltX_cmp okb.1 okp.1 okb.2 okp.2 with q | q | q; exact Or.inr ⟨by show spT (tx z) = spT (tx p); rw [e]; exact eh, by show ltX (tx z) (tx p); rw [e]; exact q.2⟩; exact absurd q.2 nt; exact absurd q.1 (by have y := Int32.not_le.mp c_129; exact Int32.not_lt.mpr (Int32.le_of_lt y))
                      refine aw_aload (n := 134) dJ27_find_132 4 rfl rfl ?_
                      refine aw_goto (tgt := 139) dJ27_find_134 (by decide) ?_
                      refine aw_astore (n := 141) (lv' := [(4, .ref l5_4), (6, .int (cmpT bs (tx p))), (7, .ref ((κ p).2.1)), (5, .int ((κ p).1)), (9, .ref r12_6), (8, .ref l5_4), (0, .ref p0), (1, .int (spT bs)), (2, .ref k), (3, .ref (gM G 0))]) dJ27_find_139 (by decide) rfl rfl ?_
                      refine aw_goto (tgt := 165) dJ27_find_141 (by decide) ?_
                      refine aw_aload (n := 167) dJ27_find_165 0 rfl rfl ?_
                      refine aw_ifnonnull (tgt := 3) dJ27_find_167 (by decide) ?_
                      have t9 := tgt.L hB hp htg hl9 hq_4
                      have m9 := t9.2.1
                      exact AW.lvs (lv' := [(4, .ref l5_4), (0, .ref p0), (1, .int (spT bs)), (2, .ref k), (3, .ref (gM G 0))]) (AW.eq (lv2 := _) (rfl) rfl rfl rfl rfl (ih_3 l5_4 t9.1 t9.2.2 (some (gM G 0)) (Or.inr rfl) (by omega))) (by simp)
                · skip
                  have b_71_4 : (decide (bs = tx p)) = true := Bool.of_not_eq_false (fun e => c_71_4 ((bI_0 _).mpr e))
                  have et : bs = tx p := of_decide_eq_true b_71_4
                  refine aw_aload (n := 76) dJ27_find_74 4 rfl rfl ?_
                  exact aw_aret dJ27_find_76 rfl (Or.inl ⟨_, rfl⟩) (Or.inr ⟨_, rfl⟩) ⟨Or.inl ⟨p, hp, et.symm, rfl⟩, rfl⟩ ⟨Nat.zero_le _, Nat.zero_le _⟩
            · skip
              have g9 : spT (tx p) < spT bs := by rw [← hKh]; exact Int32.not_le.mp c_39_4
              have hl9 : ∀ z, N z → tx z = bs → ltM tx p z := fun z hz e => ltM.h1 (by rw [e]; exact g9)
              refine aw_aload (n := 44) dJ27_find_42 1 rfl rfl ?_
              refine aw_astore (n := 46) (lv' := [(4, .ref r12_6), (5, .int ((κ p).1)), (9, .ref r12_6), (8, .ref l5_4), (0, .ref p0), (1, .int (spT bs)), (2, .ref k), (3, .ref (gM G 0))]) dJ27_find_44 (by decide) rfl rfl ?_
              refine aw_goto (tgt := 165) dJ27_find_46 (by decide) ?_
              refine aw_aload (n := 167) dJ27_find_165 0 rfl rfl ?_
              refine aw_ifnonnull (tgt := 3) dJ27_find_167 (by decide) ?_
              have t9 := tgt.R hB hp htg hl9 hq_6
              have m9 := t9.2.1
              exact AW.lvs (lv' := [(4, .ref r12_6), (0, .ref p0), (1, .int (spT bs)), (2, .ref k), (3, .ref (gM G 0))]) (AW.eq (lv2 := _) (rfl) rfl rfl rfl rfl (ih_3 r12_6 t9.1 t9.2.2 (some (gM G 0)) (Or.inr rfl) (by omega))) (by simp)
          · skip
            have g9 : spT bs < spT (tx p) := by rw [← hKh]; exact Int32.not_le.mp c_26_4
            have hl9 : ∀ z, N z → tx z = bs → ltM tx z p := fun z hz e => ltM.h1 (by rw [e]; exact g9)
            refine aw_aload (n := 31) dJ27_find_29 2 rfl rfl ?_
            refine aw_astore (n := 33) (lv' := [(4, .ref l5_4), (5, .int ((κ p).1)), (9, .ref r12_6), (8, .ref l5_4), (0, .ref p0), (1, .int (spT bs)), (2, .ref k), (3, .ref (gM G 0))]) dJ27_find_31 (by decide) rfl rfl ?_
            refine aw_goto (tgt := 165) dJ27_find_33 (by decide) ?_
            refine aw_aload (n := 167) dJ27_find_165 0 rfl rfl ?_
            refine aw_ifnonnull (tgt := 3) dJ27_find_167 (by decide) ?_
            have t9 := tgt.L hB hp htg hl9 hq_4
            have m9 := t9.2.1
            exact AW.lvs (lv' := [(4, .ref l5_4), (0, .ref p0), (1, .int (spT bs)), (2, .ref k), (3, .ref (gM G 0))]) (AW.eq (lv2 := _) (rfl) rfl rfl rfl rfl (ih_3 l5_4 t9.1 t9.2.2 (some (gM G 0)) (Or.inr rfl) (by omega))) (by simp)

end
