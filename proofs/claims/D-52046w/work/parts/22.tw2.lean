/-! The twin's evaluation. -/
section
set_option maxRecDepth 100000
theorem fD_step (p : Nat → Bool) {i r : Nat} (h : r ≤ i) : fD p i (i + 1 - r) = if p r = true then nI r else fD p i (i + 1 - (r + 1)) := by
  rw [show i + 1 - r = (i - r) + 1 by omega, fD, show i - (i - r) = r by omega, show i + 1 - (r + 1) = i - r by omega]
theorem m1_ne {n : Nat} (h : n < 2 ^ 31) : nI n ≠ -1 := by
  intro e
  have := nI_toInt h
  rw [e] at this
  simp at this
  first | done | omega
theorem jv_neg (c : Nat) (h : c < 2 ^ 31) : jv c < 0 ↔ c = 0 := by
  cases c with
  | zero => exact ⟨fun _ => rfl, fun _ => by decide⟩
  | succ n => exact ⟨fun z => absurd z (nI_pos (by omega)), fun z => by omega⟩
abbrev kX3_isWithin : aK := (yX3_isWithin, cX3_isWithin, 4, (Option.some Jvm.ClassFile.FieldType.boolean), [])
theorem hcX3_isWithin : kX3_isWithin.1.cls ≠ "java/lang/invoke/MethodHandle" ∧ kX3_isWithin.1.cls ≠ "java/lang/invoke/VarHandle" ∧ (parseMethodDescriptor kX3_isWithin.1.desc).map (fun d => d.parameters.length) = some 3 := ⟨by decide, by decide, by decide +kernel⟩
theorem ct_isWithin (G : aG) (h : hH) (b : Nat) (ms : tM) (hb : gB G ≤ b) (hT : TW b h ms) (n j i : Nat) (hn : n < 1203) (hj : j < 120) (hi : i < 120) : Con G kX3_isWithin [.ref b, .int (nI n), .int (nI j), .int (nI i)] h ((2, 22, 0, 0), (fun r h1 => r = some (.int (bI (wiT ms n j i))) ∧ h = h1), nX) := by
  refine Con.of (plainFor_of_name rfl) rfl (Nat.le_of_ble_eq_true rfl) ?_
  refine AW.eq (lv2 := [(0, .ref b), (1, .int (nI n)), (2, .int (nI j)), (3, .int (nI i))]) (s2 := []) rfl rfl rfl rfl rfl ?_
  refine aw_aload_n (n := 1) dX3_isWithin_0 rfl 0 rfl rfl ?_
  refine aw_getf (n := 4) (v := .ref (b + 10)) (C0 := RX3) (T := TX3) dX3_isWithin_1 rfl 14 q2655 (Or.inl rfl) hT.1 rfl rfl ?_
  refine aw_iload_n (n := 5) dX3_isWithin_4 rfl 1 rfl rfl ?_
  refine aw_iald (n := 6) (v := .int (ms.2.1 14 n)) dX3_isWithin_5 rfl n rfl hT.a14 (by omega) (by decide) rfl rfl ?_
  refine aw_iconst (n := 7) (v := (-1)) dX3_isWithin_6 (by decide) rfl ?_
  refine aw_icmp_eq (n := 10) (tgt := 41) dX3_isWithin_7 (by decide) rfl (fun c_7 => ?_) (fun c_7 => ?_)
  · skip
    refine aw_iconst (n := 42) (v := 1) dX3_isWithin_41 (by decide) rfl ?_
    refine aw_goto (tgt := 46) dX3_isWithin_42 (by decide) ?_
    exact aw_zret dX3_isWithin_46 rfl (by decide) ⟨congrArg some (congrArg Value.int (by simp_all [bI, wiT])), rfl⟩ ⟨Nat.zero_le _, Nat.zero_le _⟩
  · skip
    refine aw_aload_n (n := 11) dX3_isWithin_10 rfl 0 rfl rfl ?_
    refine aw_getf (n := 14) (v := .ref (b + 20)) (C0 := RX3) (T := TX3) dX3_isWithin_11 rfl 30 q2671 (Or.inl rfl) hT.1 rfl rfl ?_
    refine aw_iload_n (n := 15) dX3_isWithin_14 rfl 3 rfl rfl ?_
    refine aw_iald (n := 16) (v := .int (ms.2.1 30 i)) dX3_isWithin_15 rfl i rfl hT.a30 (by omega) (by decide) rfl rfl ?_
    refine aw_aload_n (n := 17) dX3_isWithin_16 rfl 0 rfl rfl ?_
    refine aw_getf (n := 20) (v := .ref (b + 20)) (C0 := RX3) (T := TX3) dX3_isWithin_17 rfl 30 q2671 (Or.inl rfl) hT.1 rfl rfl ?_
    refine aw_iload_n (n := 21) dX3_isWithin_20 rfl 2 rfl rfl ?_
    refine aw_iald (n := 22) (v := .int (ms.2.1 30 j)) dX3_isWithin_21 rfl j rfl hT.a30 (by omega) (by decide) rfl rfl ?_
    refine aw_isub (n := 23) dX3_isWithin_22 rfl ?_
    refine aw_aload_n (n := 24) dX3_isWithin_23 rfl 0 rfl rfl ?_
    refine aw_getf (n := 27) (v := .ref (b + 9)) (C0 := RX3) (T := TX3) dX3_isWithin_24 rfl 13 q2654 (Or.inl rfl) hT.1 rfl rfl ?_
    refine aw_iload_n (n := 28) dX3_isWithin_27 rfl 1 rfl rfl ?_
    refine aw_iald (n := 29) (v := .int (ms.2.1 13 n)) dX3_isWithin_28 rfl n rfl hT.a13 (by omega) (by decide) rfl rfl ?_
    refine aw_aload_n (n := 30) dX3_isWithin_29 rfl 0 rfl rfl ?_
    refine aw_getf (n := 33) (v := .ref (b + 10)) (C0 := RX3) (T := TX3) dX3_isWithin_30 rfl 14 q2655 (Or.inl rfl) hT.1 rfl rfl ?_
    refine aw_iload_n (n := 34) dX3_isWithin_33 rfl 1 rfl rfl ?_
    refine aw_iald (n := 35) (v := .int (ms.2.1 14 n)) dX3_isWithin_34 rfl n rfl hT.a14 (by omega) (by decide) rfl rfl ?_
    refine aw_callS (n := 38) (As := [.int ((ms.2.1 30 i) - (ms.2.1 30 j)), .int (ms.2.1 13 n), .int (ms.2.1 14 n)]) (rest := []) (K2 := kX3_isIn) dX3_isWithin_35 q2781 q2782 q113 q2783 hcX3_isIn (ct_isIn G h ((ms.2.1 30 i) - (ms.2.1 30 j)) (ms.2.1 13 n) (ms.2.1 14 n)) rfl (Nat.le_of_ble_eq_true rfl) ⟨Nat.le_of_ble_eq_true rfl, Nat.le_of_ble_eq_true rfl⟩ ⟨Nat.zero_le _, Nat.zero_le _⟩ (fun _ _ _ z => z.elim) rfl (fun r_35 h_35 q_35 => ?_)
    obtain ⟨rfl, rfl⟩ := q_35
    refine AW.sts (st' := [.int (bI (decide ((ms.2.1 13 n) ≤ ((ms.2.1 30 i) - (ms.2.1 30 j))) && decide (((ms.2.1 30 i) - (ms.2.1 30 j)) ≤ (ms.2.1 14 n))))]) rfl ?_
    refine aw_if_eq (n := 41) (tgt := 45) dX3_isWithin_38 (by decide) rfl (fun c_38 => ?_) (fun c_38 => ?_)
    · skip
      have b_38 : (decide ((ms.2.1 13 n) ≤ ((ms.2.1 30 i) - (ms.2.1 30 j))) && decide (((ms.2.1 30 i) - (ms.2.1 30 j)) ≤ (ms.2.1 14 n))) = false := (bI_0 _).mp c_38
      refine aw_iconst (n := 46) (v := 0) dX3_isWithin_45 (by decide) rfl ?_
      exact aw_zret dX3_isWithin_46 rfl (by decide) ⟨congrArg some (congrArg Value.int (by simp_all [bI, wiT])), rfl⟩ ⟨Nat.zero_le _, Nat.zero_le _⟩
    · skip
      have b_38 : (decide ((ms.2.1 13 n) ≤ ((ms.2.1 30 i) - (ms.2.1 30 j))) && decide (((ms.2.1 30 i) - (ms.2.1 30 j)) ≤ (ms.2.1 14 n))) = true := Bool.of_not_eq_false (fun e => c_38 ((bI_0 _).mpr e))
      refine aw_iconst (n := 42) (v := 1) dX3_isWithin_41 (by decide) rfl ?_
      refine aw_goto (tgt := 46) dX3_isWithin_42 (by decide) ?_
      exact aw_zret dX3_isWithin_46 rfl (by decide) ⟨congrArg some (congrArg Value.int (by simp_all [bI, wiT])), rfl⟩ ⟨Nat.zero_le _, Nat.zero_le _⟩

abbrev kX3_firstMiss : aK := (yX3_firstMiss, cX3_firstMiss, 5, (Option.some Jvm.ClassFile.FieldType.int), [])
theorem hcX3_firstMiss : kX3_firstMiss.1.cls ≠ "java/lang/invoke/MethodHandle" ∧ kX3_firstMiss.1.cls ≠ "java/lang/invoke/VarHandle" ∧ (parseMethodDescriptor kX3_firstMiss.1.desc).map (fun d => d.parameters.length) = some 2 := ⟨by decide, by decide, by decide +kernel⟩
theorem ct_firstMiss (G : aG) (h : hH) (b : Nat) (ms : tM) (hb : gB G ≤ b) (hT : TW b h ms) (n i a : Nat) (hn : n < 1203) (hi : i < 120) (ha : ms.2.1 10 n = nI a) (ha2 : a < 1203) : Con G kX3_firstMiss [.ref b, .int (nI n), .int (nI i)] h ((3, 45, 0, 0), (fun r h1 => r = some (.int (fmT ms n a i)) ∧ h = h1), nX) := by
  refine Con.of (plainFor_of_name rfl) rfl (Nat.le_of_ble_eq_true rfl) ?_
  refine AW.eq (lv2 := [(0, .ref b), (1, .int (nI n)), (2, .int (nI i))]) (s2 := []) rfl rfl rfl rfl rfl ?_
  refine aw_iconst (n := 1) (v := (-1)) dX3_firstMiss_0 (by decide) rfl ?_
  refine aw_istore_n (n := 2) (lv' := [(3, .int (-1)), (0, .ref b), (1, .int (nI n)), (2, .int (nI i))]) dX3_firstMiss_1 rfl (by decide) rfl rfl ?_
  refine aw_iload_n (n := 3) dX3_firstMiss_2 rfl 3 rfl rfl ?_
  refine aw_istore (n := 5) (lv' := [(4, .int (nI i)), (3, .int (-1)), (0, .ref b), (1, .int (nI n)), (2, .int (nI i))]) dX3_firstMiss_3 (by decide) rfl rfl ?_
  suffices L_5 : ∀ (m_ : Nat) (r : Nat) (hr : r ≤ i + 1), r < m_ → AW G kX3_firstMiss ((3, 45, 0, 0), (fun r h1 => r = some (.int (fmT ms n a i)) ∧ h = h1), nX) 5 [(4, .int (jv r)), (3, .int (fD (fun j => !hd ms a j && wiT ms n j i) i (i + 1 - r))), (0, .ref b), (1, .int (nI n)), (2, .int (nI i))] [] h 0 0 from
    AW.lvs (lv' := [(4, .int (nI i)), (3, .int (-1)), (0, .ref b), (1, .int (nI n)), (2, .int (nI i))]) (AW.eq (lv2 := _) (by rw [Nat.sub_self]; rfl) rfl rfl rfl rfl (L_5 _ (i + 1) (Nat.le_refl _) (Nat.lt_succ_self _))) (by simp)
  intro m_
  induction m_ with
  | zero => intro r hr h_m; exact absurd h_m (Nat.not_lt_zero _)
  | succ m_ ih_5 =>
    intro r hr h_m
    cases r with
    | zero =>
      refine AW.eq (lv2 := [(4, .int (-1)), (3, .int (fD (fun j => !hd ms a j && wiT ms n j i) i (i + 1 - 0))), (0, .ref b), (1, .int (nI n)), (2, .int (nI i))]) rfl rfl rfl rfl rfl ?_
      refine aw_iload (n := 7) dX3_firstMiss_5 0 rfl rfl ?_
      refine aw_if_lt (n := 10) (tgt := 45) dX3_firstMiss_7 (by decide) rfl (fun c_7 => ?_) (fun c_7 => ?_)
      · skip
        refine aw_iload_n (n := 46) dX3_firstMiss_45 rfl 1 rfl rfl ?_
        exact aw_iret dX3_firstMiss_46 rfl ⟨congrArg some (congrArg Value.int (by rfl)), rfl⟩ ⟨Nat.zero_le _, Nat.zero_le _⟩
      · skip
        exact absurd c_7 (by decide +kernel)
    | succ r =>
      refine AW.eq (lv2 := [(4, .int (nI r)), (3, .int (fD (fun j => !hd ms a j && wiT ms n j i) i (i + 1 - (r + 1)))), (0, .ref b), (1, .int (nI n)), (2, .int (nI i))]) rfl rfl rfl rfl rfl ?_
      refine aw_iload (n := 7) dX3_firstMiss_5 0 rfl rfl ?_
      refine aw_if_lt (n := 10) (tgt := 45) dX3_firstMiss_7 (by decide) rfl (fun c_7_2 => ?_) (fun c_7_2 => ?_)
      · skip
        have n_7_2 : r < 0 := (nI_ltI (a := r) (b := 0) (by omega) (by omega)).mp (by rw [← ((by rfl) : (0 : Int32) = nI 0)]; exact c_7_2)
        exact absurd c_7_2 (nI_pos (by omega))
      · skip
        have n_7_2 : ¬ (r < 0) := fun z => c_7_2 (by have y := (nI_ltI (a := r) (b := 0) (by omega) (by omega)).mpr z; rw [← ((by rfl) : (0 : Int32) = nI 0)] at y; exact y)
        refine aw_aload_n (n := 11) dX3_firstMiss_10 rfl 2 rfl rfl ?_
        refine aw_aload_n (n := 12) dX3_firstMiss_11 rfl 2 rfl rfl ?_
        refine aw_getf (n := 15) (v := .ref (b + 6)) (C0 := RX3) (T := TX3) dX3_firstMiss_12 rfl 10 q2651 (Or.inl rfl) hT.1 rfl rfl ?_
        refine aw_iload_n (n := 16) dX3_firstMiss_15 rfl 3 rfl rfl ?_
        refine aw_iald (n := 17) (v := .int (ms.2.1 10 n)) dX3_firstMiss_16 rfl n rfl hT.a10 (by omega) (by decide) rfl rfl ?_
        refine aw_iload (n := 19) dX3_firstMiss_17 0 rfl rfl ?_
        refine AW.sts (st' := [.int (nI r), .int (nI a), .ref b]) (by rw [show ms.2.1 10 n = nI a from ha]) ?_
        refine aw_callV (n := 22) (C0 := RX3) (As := [.int (nI a), .int (nI r)]) (rest := []) (K2 := kX3_holds) dX3_firstMiss_19 q3056 q3058 qs91 q113 q3059 ⟨rfl, hcX3_holds⟩ rfl hT.1 (ct_holds G h b ms hb hT a r (by omega) (by omega)) rfl (Nat.le_of_ble_eq_true rfl) ⟨Nat.le_of_ble_eq_true rfl, Nat.le_of_ble_eq_true rfl⟩ ⟨Nat.zero_le _, Nat.zero_le _⟩ (fun _ _ _ z => z.elim) rfl (fun r_19 h_19 q_19 => ?_)
        obtain ⟨rfl, rfl⟩ := q_19
        refine AW.sts (st' := [.int (bI (hd ms a r))]) rfl ?_
        refine aw_if_ne (n := 25) (tgt := 39) dX3_firstMiss_22 (by decide) rfl (fun c_22 => ?_) (fun c_22 => ?_)
        · skip
          have b_22 : (hd ms a r) = true := Bool.of_not_eq_false (fun e => c_22 ((bI_0 _).mpr e))
          refine aw_iinc (n := 42) (v := (nI r) + (-1)) (lv' := [(4, .int ((nI r) + (-1))), (3, .int (fD (fun j => !hd ms a j && wiT ms n j i) i (i + 1 - (r + 1)))), (0, .ref b), (1, .int (nI n)), (2, .int (nI i))]) dX3_firstMiss_39 0 rfl rfl (by decide) rfl rfl ?_
          refine aw_goto (tgt := 5) dX3_firstMiss_42 (by decide) ?_
          exact AW.lvs (lv' := [(4, .int ((nI r) + (-1))), (3, .int (fD (fun j => !hd ms a j && wiT ms n j i) i (i + 1 - (r + 1)))), (0, .ref b), (1, .int (nI n)), (2, .int (nI i))]) (AW.eq (lv2 := _) (by rw [jv_dec, fD_step _ (i := i) (r := r) (by omega)]; simp [*]) rfl rfl rfl rfl (ih_5 r (by omega) (by omega))) (by simp)
        · skip
          have b_22 : (hd ms a r) = false := (bI_0 _).mp c_22
          refine aw_aload_n (n := 26) dX3_firstMiss_25 rfl 2 rfl rfl ?_
          refine aw_iload_n (n := 27) dX3_firstMiss_26 rfl 3 rfl rfl ?_
          refine aw_iload (n := 29) dX3_firstMiss_27 0 rfl rfl ?_
          refine aw_iload_n (n := 30) dX3_firstMiss_29 rfl 4 rfl rfl ?_
          refine aw_callV (n := 33) (C0 := RX3) (As := [.int (nI n), .int (nI r), .int (nI i)]) (rest := []) (K2 := kX3_isWithin) dX3_firstMiss_30 q3064 q3066 qs93 q113 q3067 ⟨rfl, hcX3_isWithin⟩ rfl hT.1 (ct_isWithin G h b ms hb hT n r i (by omega) (by omega) (by omega)) rfl (Nat.le_of_ble_eq_true rfl) ⟨Nat.le_of_ble_eq_true rfl, Nat.le_of_ble_eq_true rfl⟩ ⟨Nat.zero_le _, Nat.zero_le _⟩ (fun _ _ _ z => z.elim) rfl (fun r_30 h_30 q_30 => ?_)
          obtain ⟨rfl, rfl⟩ := q_30
          refine AW.sts (st' := [.int (bI (wiT ms n r i))]) rfl ?_
          refine aw_if_eq (n := 36) (tgt := 39) dX3_firstMiss_33 (by decide) rfl (fun c_33 => ?_) (fun c_33 => ?_)
          · skip
            have b_33 : (wiT ms n r i) = false := (bI_0 _).mp c_33
            refine aw_iinc (n := 42) (v := (nI r) + (-1)) (lv' := [(4, .int ((nI r) + (-1))), (3, .int (fD (fun j => !hd ms a j && wiT ms n j i) i (i + 1 - (r + 1)))), (0, .ref b), (1, .int (nI n)), (2, .int (nI i))]) dX3_firstMiss_39 0 rfl rfl (by decide) rfl rfl ?_
            refine aw_goto (tgt := 5) dX3_firstMiss_42 (by decide) ?_
            exact AW.lvs (lv' := [(4, .int ((nI r) + (-1))), (3, .int (fD (fun j => !hd ms a j && wiT ms n j i) i (i + 1 - (r + 1)))), (0, .ref b), (1, .int (nI n)), (2, .int (nI i))]) (AW.eq (lv2 := _) (by rw [jv_dec, fD_step _ (i := i) (r := r) (by omega)]; simp [*]) rfl rfl rfl rfl (ih_5 r (by omega) (by omega))) (by simp)
          · skip
            have b_33 : (wiT ms n r i) = true := Bool.of_not_eq_false (fun e => c_33 ((bI_0 _).mpr e))
            refine aw_iload (n := 38) dX3_firstMiss_36 0 rfl rfl ?_
            refine aw_istore_n (n := 39) (lv' := [(3, .int (nI r)), (4, .int (nI r)), (0, .ref b), (1, .int (nI n)), (2, .int (nI i))]) dX3_firstMiss_38 rfl (by decide) rfl rfl ?_
            refine aw_iinc (n := 42) (v := (nI r) + (-1)) (lv' := [(4, .int ((nI r) + (-1))), (3, .int (nI r)), (0, .ref b), (1, .int (nI n)), (2, .int (nI i))]) dX3_firstMiss_39 1 rfl rfl (by decide) rfl rfl ?_
            refine aw_goto (tgt := 5) dX3_firstMiss_42 (by decide) ?_
            exact AW.lvs (lv' := [(4, .int ((nI r) + (-1))), (3, .int (nI r)), (0, .ref b), (1, .int (nI n)), (2, .int (nI i))]) (AW.eq (lv2 := _) (by rw [jv_dec, fD_step _ (i := i) (r := r) (by omega)]; simp [*]) rfl rfl rfl rfl (ih_5 r (by omega) (by omega))) (by simp)

abbrev kX3_isSince : aK := (yX3_isSince, cX3_isSince, 6, (Option.some Jvm.ClassFile.FieldType.boolean), [])
theorem hcX3_isSince : kX3_isSince.1.cls ≠ "java/lang/invoke/MethodHandle" ∧ kX3_isSince.1.cls ≠ "java/lang/invoke/VarHandle" ∧ (parseMethodDescriptor kX3_isSince.1.desc).map (fun d => d.parameters.length) = some 2 := ⟨by decide, by decide, by decide +kernel⟩
theorem ct_isSince (G : aG) (h : hH) (b : Nat) (ms : tM) (hb : gB G ≤ b) (hT : TW b h ms) (n i a c : Nat) (hn : n < 1203) (hi : i < 120) (ha : ms.2.1 10 n = nI a) (ha2 : a < 1203) (hc : ms.2.1 11 n = nI c) (hc2 : c < 1203) : Con G kX3_isSince [.ref b, .int (nI n), .int (nI i)] h ((3, 45, 0, 0), (fun r h1 => r = some (.int (bI (snD (fun j => hd ms c j && wiT ms n j i) (hd ms a) (i + 1)))) ∧ h = h1), nX) := by
  refine Con.of (plainFor_of_name rfl) rfl (Nat.le_of_ble_eq_true rfl) ?_
  refine AW.eq (lv2 := [(0, .ref b), (1, .int (nI n)), (2, .int (nI i))]) (s2 := []) rfl rfl rfl rfl rfl ?_
  refine aw_iconst (n := 1) (v := 0) dX3_isSince_0 (by decide) rfl ?_
  refine aw_istore_n (n := 2) (lv' := [(3, .int 0), (0, .ref b), (1, .int (nI n)), (2, .int (nI i))]) dX3_isSince_1 rfl (by decide) rfl rfl ?_
  refine aw_iconst (n := 3) (v := 1) dX3_isSince_2 (by decide) rfl ?_
  refine aw_istore (n := 5) (lv' := [(4, .int 1), (3, .int 0), (0, .ref b), (1, .int (nI n)), (2, .int (nI i))]) dX3_isSince_3 (by decide) rfl rfl ?_
  refine aw_iload_n (n := 6) dX3_isSince_5 rfl 4 rfl rfl ?_
  refine aw_istore (n := 8) (lv' := [(5, .int (nI i)), (4, .int 1), (3, .int 0), (0, .ref b), (1, .int (nI n)), (2, .int (nI i))]) dX3_isSince_6 (by decide) rfl rfl ?_
  suffices L_8 : ∀ (m_ : Nat) (r : Nat) (fo kp : Bool) (hr : r ≤ i + 1) (hv : (fo || (kp && snD (fun j => hd ms c j && wiT ms n j i) (hd ms a) r)) = snD (fun j => hd ms c j && wiT ms n j i) (hd ms a) (i + 1)), r < m_ → AW G kX3_isSince ((3, 45, 0, 0), (fun r h1 => r = some (.int (bI (snD (fun j => hd ms c j && wiT ms n j i) (hd ms a) (i + 1)))) ∧ h = h1), nX) 8 [(5, .int (jv r)), (4, .int (bI kp)), (3, .int (bI fo)), (0, .ref b), (1, .int (nI n)), (2, .int (nI i))] [] h 0 0 from
    AW.lvs (lv' := [(5, .int (nI i)), (4, .int 1), (3, .int 0), (0, .ref b), (1, .int (nI n)), (2, .int (nI i))]) (AW.eq (lv2 := _) (rfl) rfl rfl rfl rfl (L_8 _ (i + 1) false true (Nat.le_refl _) (by simp) (Nat.lt_succ_self _))) (by simp)
  intro m_
  induction m_ with
  | zero => intro r fo kp hr hv h_m; exact absurd h_m (Nat.not_lt_zero _)
  | succ m_ ih_8 =>
    intro r fo kp hr hv h_m
    cases r with
    | zero =>
      refine AW.eq (lv2 := [(5, .int (-1)), (4, .int (bI kp)), (3, .int (bI fo)), (0, .ref b), (1, .int (nI n)), (2, .int (nI i))]) rfl rfl rfl rfl rfl ?_
      refine aw_iload (n := 10) dX3_isSince_8 0 rfl rfl ?_
      refine aw_if_lt (n := 13) (tgt := 74) dX3_isSince_10 (by decide) rfl (fun c_10 => ?_) (fun c_10 => ?_)
      · skip
        refine aw_iload_n (n := 75) dX3_isSince_74 rfl 2 rfl rfl ?_
        exact aw_zret dX3_isSince_75 rfl (bI_le _) ⟨congrArg some (congrArg Value.int (by rw [← hv]; simp_all [snD])), rfl⟩ ⟨Nat.zero_le _, Nat.zero_le _⟩
      · skip
        exact absurd c_10 (by decide +kernel)
    | succ r =>
      refine AW.eq (lv2 := [(5, .int (nI r)), (4, .int (bI kp)), (3, .int (bI fo)), (0, .ref b), (1, .int (nI n)), (2, .int (nI i))]) rfl rfl rfl rfl rfl ?_
      refine aw_iload (n := 10) dX3_isSince_8 0 rfl rfl ?_
      refine aw_if_lt (n := 13) (tgt := 74) dX3_isSince_10 (by decide) rfl (fun c_10_2 => ?_) (fun c_10_2 => ?_)
      · skip
        have n_10_2 : r < 0 := (nI_ltI (a := r) (b := 0) (by omega) (by omega)).mp (by rw [← ((by rfl) : (0 : Int32) = nI 0)]; exact c_10_2)
        exact absurd c_10_2 (nI_pos (by omega))
      · skip
        have n_10_2 : ¬ (r < 0) := fun z => c_10_2 (by have y := (nI_ltI (a := r) (b := 0) (by omega) (by omega)).mpr z; rw [← ((by rfl) : (0 : Int32) = nI 0)] at y; exact y)
        refine aw_iload (n := 15) dX3_isSince_13 1 rfl rfl ?_
        refine aw_if_eq (n := 18) (tgt := 74) dX3_isSince_15 (by decide) rfl (fun c_15 => ?_) (fun c_15 => ?_)
        · skip
          have b_15 : kp = false := (bI_0 _).mp c_15
          refine aw_iload_n (n := 75) dX3_isSince_74 rfl 2 rfl rfl ?_
          exact aw_zret dX3_isSince_75 rfl (bI_le _) ⟨congrArg some (congrArg Value.int (by rw [← hv]; simp_all [snD])), rfl⟩ ⟨Nat.zero_le _, Nat.zero_le _⟩
        · skip
          have b_15 : kp = true := Bool.of_not_eq_false (fun e => c_15 ((bI_0 _).mpr e))
          refine aw_iload_n (n := 19) dX3_isSince_18 rfl 2 rfl rfl ?_
          refine aw_if_ne (n := 22) (tgt := 48) dX3_isSince_19 (by decide) rfl (fun c_19 => ?_) (fun c_19 => ?_)
          · skip
            have b_19 : fo = true := Bool.of_not_eq_false (fun e => c_19 ((bI_0 _).mpr e))
            refine aw_iconst (n := 49) (v := 1) dX3_isSince_48 (by decide) rfl ?_
            refine aw_goto (tgt := 53) dX3_isSince_49 (by decide) ?_
            refine aw_istore_n (n := 54) (lv' := [(3, .int 1), (5, .int (nI r)), (4, .int (bI kp)), (0, .ref b), (1, .int (nI n)), (2, .int (nI i))]) dX3_isSince_53 rfl (by decide) rfl rfl ?_
            refine aw_aload_n (n := 55) dX3_isSince_54 rfl 3 rfl rfl ?_
            refine aw_aload_n (n := 56) dX3_isSince_55 rfl 3 rfl rfl ?_
            refine aw_getf (n := 59) (v := .ref (b + 6)) (C0 := RX3) (T := TX3) dX3_isSince_56 rfl 10 q2651 (Or.inl rfl) hT.1 rfl rfl ?_
            refine aw_iload_n (n := 60) dX3_isSince_59 rfl 4 rfl rfl ?_
            refine aw_iald (n := 61) (v := .int (ms.2.1 10 n)) dX3_isSince_60 rfl n rfl hT.a10 (by omega) (by decide) rfl rfl ?_
            refine aw_iload (n := 63) dX3_isSince_61 1 rfl rfl ?_
            refine AW.sts (st' := [.int (nI r), .int (nI a), .ref b]) (by rw [show ms.2.1 10 n = nI a from ha]) ?_
            refine aw_callV (n := 66) (C0 := RX3) (As := [.int (nI a), .int (nI r)]) (rest := []) (K2 := kX3_holds) dX3_isSince_63 q3056 q3058 qs91 q113 q3059 ⟨rfl, hcX3_holds⟩ rfl hT.1 (ct_holds G h b ms hb hT a r (by omega) (by omega)) rfl (Nat.le_of_ble_eq_true rfl) ⟨Nat.le_of_ble_eq_true rfl, Nat.le_of_ble_eq_true rfl⟩ ⟨Nat.zero_le _, Nat.zero_le _⟩ (fun _ _ _ z => z.elim) rfl (fun r_63 h_63 q_63 => ?_)
            obtain ⟨rfl, rfl⟩ := q_63
            refine AW.sts (st' := [.int (bI (hd ms a r))]) rfl ?_
            refine aw_istore (n := 68) (lv' := [(4, .int (bI (hd ms a r))), (3, .int 1), (5, .int (nI r)), (0, .ref b), (1, .int (nI n)), (2, .int (nI i))]) dX3_isSince_66 (by decide) rfl rfl ?_
            refine aw_iinc (n := 71) (v := (nI r) + (-1)) (lv' := [(5, .int ((nI r) + (-1))), (4, .int (bI (hd ms a r))), (3, .int 1), (0, .ref b), (1, .int (nI n)), (2, .int (nI i))]) dX3_isSince_68 2 rfl rfl (by decide) rfl rfl ?_
            refine aw_goto (tgt := 8) dX3_isSince_71 (by decide) ?_
            exact AW.lvs (lv' := [(5, .int ((nI r) + (-1))), (4, .int (bI (hd ms a r))), (3, .int 1), (0, .ref b), (1, .int (nI n)), (2, .int (nI i))]) (AW.eq (lv2 := _) (by rw [jv_dec]; rfl) rfl rfl rfl rfl (ih_8 r true (hd ms a r) (by omega) (by rw [← hv]; simp [snD, *]) (by omega))) (by simp)
          · skip
            have b_19 : fo = false := (bI_0 _).mp c_19
            refine aw_aload_n (n := 23) dX3_isSince_22 rfl 3 rfl rfl ?_
            refine aw_aload_n (n := 24) dX3_isSince_23 rfl 3 rfl rfl ?_
            refine aw_getf (n := 27) (v := .ref (b + 7)) (C0 := RX3) (T := TX3) dX3_isSince_24 rfl 11 q2652 (Or.inl rfl) hT.1 rfl rfl ?_
            refine aw_iload_n (n := 28) dX3_isSince_27 rfl 4 rfl rfl ?_
            refine aw_iald (n := 29) (v := .int (ms.2.1 11 n)) dX3_isSince_28 rfl n rfl hT.a11 (by omega) (by decide) rfl rfl ?_
            refine aw_iload (n := 31) dX3_isSince_29 0 rfl rfl ?_
            refine AW.sts (st' := [.int (nI r), .int (nI c), .ref b]) (by rw [show ms.2.1 11 n = nI c from hc]) ?_
            refine aw_callV (n := 34) (C0 := RX3) (As := [.int (nI c), .int (nI r)]) (rest := []) (K2 := kX3_holds) dX3_isSince_31 q3056 q3058 qs91 q113 q3059 ⟨rfl, hcX3_holds⟩ rfl hT.1 (ct_holds G h b ms hb hT c r (by omega) (by omega)) rfl (Nat.le_of_ble_eq_true rfl) ⟨Nat.le_of_ble_eq_true rfl, Nat.le_of_ble_eq_true rfl⟩ ⟨Nat.zero_le _, Nat.zero_le _⟩ (fun _ _ _ z => z.elim) rfl (fun r_31 h_31 q_31 => ?_)
            obtain ⟨rfl, rfl⟩ := q_31
            refine AW.sts (st' := [.int (bI (hd ms c r))]) rfl ?_
            refine aw_if_eq (n := 37) (tgt := 52) dX3_isSince_34 (by decide) rfl (fun c_34 => ?_) (fun c_34 => ?_)
            · skip
              have b_34 : (hd ms c r) = false := (bI_0 _).mp c_34
              refine aw_iconst (n := 53) (v := 0) dX3_isSince_52 (by decide) rfl ?_
              refine aw_istore_n (n := 54) (lv' := [(3, .int 0), (5, .int (nI r)), (4, .int (bI kp)), (0, .ref b), (1, .int (nI n)), (2, .int (nI i))]) dX3_isSince_53 rfl (by decide) rfl rfl ?_
              refine aw_aload_n (n := 55) dX3_isSince_54 rfl 3 rfl rfl ?_
              refine aw_aload_n (n := 56) dX3_isSince_55 rfl 3 rfl rfl ?_
              refine aw_getf (n := 59) (v := .ref (b + 6)) (C0 := RX3) (T := TX3) dX3_isSince_56 rfl 10 q2651 (Or.inl rfl) hT.1 rfl rfl ?_
              refine aw_iload_n (n := 60) dX3_isSince_59 rfl 4 rfl rfl ?_
              refine aw_iald (n := 61) (v := .int (ms.2.1 10 n)) dX3_isSince_60 rfl n rfl hT.a10 (by omega) (by decide) rfl rfl ?_
              refine aw_iload (n := 63) dX3_isSince_61 1 rfl rfl ?_
              refine AW.sts (st' := [.int (nI r), .int (nI a), .ref b]) (by rw [show ms.2.1 10 n = nI a from ha]) ?_
              refine aw_callV (n := 66) (C0 := RX3) (As := [.int (nI a), .int (nI r)]) (rest := []) (K2 := kX3_holds) dX3_isSince_63 q3056 q3058 qs91 q113 q3059 ⟨rfl, hcX3_holds⟩ rfl hT.1 (ct_holds G h b ms hb hT a r (by omega) (by omega)) rfl (Nat.le_of_ble_eq_true rfl) ⟨Nat.le_of_ble_eq_true rfl, Nat.le_of_ble_eq_true rfl⟩ ⟨Nat.zero_le _, Nat.zero_le _⟩ (fun _ _ _ z => z.elim) rfl (fun r_63 h_63 q_63 => ?_)
              obtain ⟨rfl, rfl⟩ := q_63
              refine AW.sts (st' := [.int (bI (hd ms a r))]) rfl ?_
              refine aw_istore (n := 68) (lv' := [(4, .int (bI (hd ms a r))), (3, .int 0), (5, .int (nI r)), (0, .ref b), (1, .int (nI n)), (2, .int (nI i))]) dX3_isSince_66 (by decide) rfl rfl ?_
              refine aw_iinc (n := 71) (v := (nI r) + (-1)) (lv' := [(5, .int ((nI r) + (-1))), (4, .int (bI (hd ms a r))), (3, .int 0), (0, .ref b), (1, .int (nI n)), (2, .int (nI i))]) dX3_isSince_68 2 rfl rfl (by decide) rfl rfl ?_
              refine aw_goto (tgt := 8) dX3_isSince_71 (by decide) ?_
              exact AW.lvs (lv' := [(5, .int ((nI r) + (-1))), (4, .int (bI (hd ms a r))), (3, .int 0), (0, .ref b), (1, .int (nI n)), (2, .int (nI i))]) (AW.eq (lv2 := _) (by rw [jv_dec]; rfl) rfl rfl rfl rfl (ih_8 r false (hd ms a r) (by omega) (by rw [← hv]; simp [snD, *]) (by omega))) (by simp)
            · skip
              have b_34 : (hd ms c r) = true := Bool.of_not_eq_false (fun e => c_34 ((bI_0 _).mpr e))
              refine aw_aload_n (n := 38) dX3_isSince_37 rfl 3 rfl rfl ?_
              refine aw_iload_n (n := 39) dX3_isSince_38 rfl 4 rfl rfl ?_
              refine aw_iload (n := 41) dX3_isSince_39 0 rfl rfl ?_
              refine aw_iload_n (n := 42) dX3_isSince_41 rfl 5 rfl rfl ?_
              refine aw_callV (n := 45) (C0 := RX3) (As := [.int (nI n), .int (nI r), .int (nI i)]) (rest := []) (K2 := kX3_isWithin) dX3_isSince_42 q3064 q3066 qs93 q113 q3067 ⟨rfl, hcX3_isWithin⟩ rfl hT.1 (ct_isWithin G h b ms hb hT n r i (by omega) (by omega) (by omega)) rfl (Nat.le_of_ble_eq_true rfl) ⟨Nat.le_of_ble_eq_true rfl, Nat.le_of_ble_eq_true rfl⟩ ⟨Nat.zero_le _, Nat.zero_le _⟩ (fun _ _ _ z => z.elim) rfl (fun r_42 h_42 q_42 => ?_)
              obtain ⟨rfl, rfl⟩ := q_42
              refine AW.sts (st' := [.int (bI (wiT ms n r i))]) rfl ?_
              refine aw_if_eq (n := 48) (tgt := 52) dX3_isSince_45 (by decide) rfl (fun c_45 => ?_) (fun c_45 => ?_)
              · skip
                have b_45 : (wiT ms n r i) = false := (bI_0 _).mp c_45
                refine aw_iconst (n := 53) (v := 0) dX3_isSince_52 (by decide) rfl ?_
                refine aw_istore_n (n := 54) (lv' := [(3, .int 0), (5, .int (nI r)), (4, .int (bI kp)), (0, .ref b), (1, .int (nI n)), (2, .int (nI i))]) dX3_isSince_53 rfl (by decide) rfl rfl ?_
                refine aw_aload_n (n := 55) dX3_isSince_54 rfl 3 rfl rfl ?_
                refine aw_aload_n (n := 56) dX3_isSince_55 rfl 3 rfl rfl ?_
                refine aw_getf (n := 59) (v := .ref (b + 6)) (C0 := RX3) (T := TX3) dX3_isSince_56 rfl 10 q2651 (Or.inl rfl) hT.1 rfl rfl ?_
                refine aw_iload_n (n := 60) dX3_isSince_59 rfl 4 rfl rfl ?_
                refine aw_iald (n := 61) (v := .int (ms.2.1 10 n)) dX3_isSince_60 rfl n rfl hT.a10 (by omega) (by decide) rfl rfl ?_
                refine aw_iload (n := 63) dX3_isSince_61 1 rfl rfl ?_
                refine AW.sts (st' := [.int (nI r), .int (nI a), .ref b]) (by rw [show ms.2.1 10 n = nI a from ha]) ?_
                refine aw_callV (n := 66) (C0 := RX3) (As := [.int (nI a), .int (nI r)]) (rest := []) (K2 := kX3_holds) dX3_isSince_63 q3056 q3058 qs91 q113 q3059 ⟨rfl, hcX3_holds⟩ rfl hT.1 (ct_holds G h b ms hb hT a r (by omega) (by omega)) rfl (Nat.le_of_ble_eq_true rfl) ⟨Nat.le_of_ble_eq_true rfl, Nat.le_of_ble_eq_true rfl⟩ ⟨Nat.zero_le _, Nat.zero_le _⟩ (fun _ _ _ z => z.elim) rfl (fun r_63 h_63 q_63 => ?_)
                obtain ⟨rfl, rfl⟩ := q_63
                refine AW.sts (st' := [.int (bI (hd ms a r))]) rfl ?_
                refine aw_istore (n := 68) (lv' := [(4, .int (bI (hd ms a r))), (3, .int 0), (5, .int (nI r)), (0, .ref b), (1, .int (nI n)), (2, .int (nI i))]) dX3_isSince_66 (by decide) rfl rfl ?_
                refine aw_iinc (n := 71) (v := (nI r) + (-1)) (lv' := [(5, .int ((nI r) + (-1))), (4, .int (bI (hd ms a r))), (3, .int 0), (0, .ref b), (1, .int (nI n)), (2, .int (nI i))]) dX3_isSince_68 2 rfl rfl (by decide) rfl rfl ?_
                refine aw_goto (tgt := 8) dX3_isSince_71 (by decide) ?_
                exact AW.lvs (lv' := [(5, .int ((nI r) + (-1))), (4, .int (bI (hd ms a r))), (3, .int 0), (0, .ref b), (1, .int (nI n)), (2, .int (nI i))]) (AW.eq (lv2 := _) (by rw [jv_dec]; rfl) rfl rfl rfl rfl (ih_8 r false (hd ms a r) (by omega) (by rw [← hv]; simp [snD, *]) (by omega))) (by simp)
              · skip
                have b_45 : (wiT ms n r i) = true := Bool.of_not_eq_false (fun e => c_45 ((bI_0 _).mpr e))
                refine aw_iconst (n := 49) (v := 1) dX3_isSince_48 (by decide) rfl ?_
                refine aw_goto (tgt := 53) dX3_isSince_49 (by decide) ?_
                refine aw_istore_n (n := 54) (lv' := [(3, .int 1), (5, .int (nI r)), (4, .int (bI kp)), (0, .ref b), (1, .int (nI n)), (2, .int (nI i))]) dX3_isSince_53 rfl (by decide) rfl rfl ?_
                refine aw_aload_n (n := 55) dX3_isSince_54 rfl 3 rfl rfl ?_
                refine aw_aload_n (n := 56) dX3_isSince_55 rfl 3 rfl rfl ?_
                refine aw_getf (n := 59) (v := .ref (b + 6)) (C0 := RX3) (T := TX3) dX3_isSince_56 rfl 10 q2651 (Or.inl rfl) hT.1 rfl rfl ?_
                refine aw_iload_n (n := 60) dX3_isSince_59 rfl 4 rfl rfl ?_
                refine aw_iald (n := 61) (v := .int (ms.2.1 10 n)) dX3_isSince_60 rfl n rfl hT.a10 (by omega) (by decide) rfl rfl ?_
                refine aw_iload (n := 63) dX3_isSince_61 1 rfl rfl ?_
                refine AW.sts (st' := [.int (nI r), .int (nI a), .ref b]) (by rw [show ms.2.1 10 n = nI a from ha]) ?_
                refine aw_callV (n := 66) (C0 := RX3) (As := [.int (nI a), .int (nI r)]) (rest := []) (K2 := kX3_holds) dX3_isSince_63 q3056 q3058 qs91 q113 q3059 ⟨rfl, hcX3_holds⟩ rfl hT.1 (ct_holds G h b ms hb hT a r (by omega) (by omega)) rfl (Nat.le_of_ble_eq_true rfl) ⟨Nat.le_of_ble_eq_true rfl, Nat.le_of_ble_eq_true rfl⟩ ⟨Nat.zero_le _, Nat.zero_le _⟩ (fun _ _ _ z => z.elim) rfl (fun r_63 h_63 q_63 => ?_)
                obtain ⟨rfl, rfl⟩ := q_63
                refine AW.sts (st' := [.int (bI (hd ms a r))]) rfl ?_
                refine aw_istore (n := 68) (lv' := [(4, .int (bI (hd ms a r))), (3, .int 1), (5, .int (nI r)), (0, .ref b), (1, .int (nI n)), (2, .int (nI i))]) dX3_isSince_66 (by decide) rfl rfl ?_
                refine aw_iinc (n := 71) (v := (nI r) + (-1)) (lv' := [(5, .int ((nI r) + (-1))), (4, .int (bI (hd ms a r))), (3, .int 1), (0, .ref b), (1, .int (nI n)), (2, .int (nI i))]) dX3_isSince_68 2 rfl rfl (by decide) rfl rfl ?_
                refine aw_goto (tgt := 8) dX3_isSince_71 (by decide) ?_
                exact AW.lvs (lv' := [(5, .int ((nI r) + (-1))), (4, .int (bI (hd ms a r))), (3, .int 1), (0, .ref b), (1, .int (nI n)), (2, .int (nI i))]) (AW.eq (lv2 := _) (by rw [jv_dec]; rfl) rfl rfl rfl rfl (ih_8 r true (hd ms a r) (by omega) (by rw [← hv]; simp [snD, *]) (by omega))) (by simp)

abbrev kX3_lastHolding : aK := (yX3_lastHolding, cX3_lastHolding, 5, (Option.some Jvm.ClassFile.FieldType.int), [])
theorem hcX3_lastHolding : kX3_lastHolding.1.cls ≠ "java/lang/invoke/MethodHandle" ∧ kX3_lastHolding.1.cls ≠ "java/lang/invoke/VarHandle" ∧ (parseMethodDescriptor kX3_lastHolding.1.desc).map (fun d => d.parameters.length) = some 2 := ⟨by decide, by decide, by decide +kernel⟩
theorem ct_lastHolding (G : aG) (h : hH) (b : Nat) (ms : tM) (hb : gB G ≤ b) (hT : TW b h ms) (n i : Nat) (hn : n < 1203) (hi : i < 120) : Con G kX3_lastHolding [.ref b, .int (nI n), .int (nI i)] h ((3, 44, 0, 0), (fun r h1 => r = some (.int (lhT ms n i)) ∧ h = h1), nX) := by
  refine Con.of (plainFor_of_name rfl) rfl (Nat.le_of_ble_eq_true rfl) ?_
  refine AW.eq (lv2 := [(0, .ref b), (1, .int (nI n)), (2, .int (nI i))]) (s2 := []) rfl rfl rfl rfl rfl ?_
  refine aw_iconst (n := 1) (v := (-1)) dX3_lastHolding_0 (by decide) rfl ?_
  refine aw_istore_n (n := 2) (lv' := [(3, .int (-1)), (0, .ref b), (1, .int (nI n)), (2, .int (nI i))]) dX3_lastHolding_1 rfl (by decide) rfl rfl ?_
  refine aw_iconst (n := 3) (v := 0) dX3_lastHolding_2 (by decide) rfl ?_
  refine aw_istore (n := 5) (lv' := [(4, .int 0), (3, .int (-1)), (0, .ref b), (1, .int (nI n)), (2, .int (nI i))]) dX3_lastHolding_3 (by decide) rfl rfl ?_
  suffices L_5 : ∀ (m_ : Nat) (c : Nat) (hc : c ≤ i + 1), i + 1 - c < m_ → AW G kX3_lastHolding ((3, 44, 0, 0), (fun r h1 => r = some (.int (lhT ms n i)) ∧ h = h1), nX) 5 [(4, .int (nI c)), (3, .int (fU (hd ms n) c)), (0, .ref b), (1, .int (nI n)), (2, .int (nI i))] [] h 0 0 from
    AW.lvs (lv' := [(4, .int 0), (3, .int (-1)), (0, .ref b), (1, .int (nI n)), (2, .int (nI i))]) (AW.eq (lv2 := _) (rfl) rfl rfl rfl rfl (L_5 _ 0 (by omega) (Nat.lt_succ_self _))) (by simp)
  intro m_
  induction m_ with
  | zero => intro c hc h_m; exact absurd h_m (Nat.not_lt_zero _)
  | succ m_ ih_5 =>
    intro c hc h_m
    refine aw_iload (n := 7) dX3_lastHolding_5 0 rfl rfl ?_
    refine aw_iload_n (n := 8) dX3_lastHolding_7 rfl 4 rfl rfl ?_
    refine aw_icmp_gt (n := 11) (tgt := 30) dX3_lastHolding_8 (by decide) rfl (fun c_8 => ?_) (fun c_8 => ?_)
    · skip
      have n_8 : i < c := (nI_ltI (a := i) (b := c) (by omega) (by omega)).mp (by exact c_8)
      refine aw_iload_n (n := 31) dX3_lastHolding_30 rfl 1 rfl rfl ?_
      exact aw_iret dX3_lastHolding_31 rfl ⟨congrArg some (congrArg Value.int (by rw [show c = i + 1 by omega]; rfl)), rfl⟩ ⟨Nat.zero_le _, Nat.zero_le _⟩
    · skip
      have n_8 : ¬ (i < c) := fun z => c_8 (by have y := (nI_ltI (a := i) (b := c) (by omega) (by omega)).mpr z; exact y)
      refine aw_aload_n (n := 12) dX3_lastHolding_11 rfl 2 rfl rfl ?_
      refine aw_iload_n (n := 13) dX3_lastHolding_12 rfl 3 rfl rfl ?_
      refine aw_iload (n := 15) dX3_lastHolding_13 0 rfl rfl ?_
      refine aw_callV (n := 18) (C0 := RX3) (As := [.int (nI n), .int (nI c)]) (rest := []) (K2 := kX3_holds) dX3_lastHolding_15 q3056 q3058 qs91 q113 q3059 ⟨rfl, hcX3_holds⟩ rfl hT.1 (ct_holds G h b ms hb hT n c (by omega) (by omega)) rfl (Nat.le_of_ble_eq_true rfl) ⟨Nat.le_of_ble_eq_true rfl, Nat.le_of_ble_eq_true rfl⟩ ⟨Nat.zero_le _, Nat.zero_le _⟩ (fun _ _ _ z => z.elim) rfl (fun r_15 h_15 q_15 => ?_)
      obtain ⟨rfl, rfl⟩ := q_15
      refine AW.sts (st' := [.int (bI (hd ms n c))]) rfl ?_
      refine aw_if_eq (n := 21) (tgt := 24) dX3_lastHolding_18 (by decide) rfl (fun c_18 => ?_) (fun c_18 => ?_)
      · skip
        have b_18 : (hd ms n c) = false := (bI_0 _).mp c_18
        refine aw_iinc (n := 27) (v := nI (c + 1)) (lv' := [(4, .int (nI (c + 1))), (3, .int (fU (hd ms n) c)), (0, .ref b), (1, .int (nI n)), (2, .int (nI i))]) dX3_lastHolding_24 0 rfl (by rw [show nI c = nI c from rfl]; exact nI_1 _) (by decide) rfl rfl ?_
        refine aw_goto (tgt := 5) dX3_lastHolding_27 (by decide) ?_
        exact AW.lvs (lv' := [(4, .int (nI (c + 1))), (3, .int (fU (hd ms n) c)), (0, .ref b), (1, .int (nI n)), (2, .int (nI i))]) (AW.eq (lv2 := _) (by simp [fU, *]) rfl rfl rfl rfl (ih_5 (c + 1) (by omega) (by omega))) (by simp)
      · skip
        have b_18 : (hd ms n c) = true := Bool.of_not_eq_false (fun e => c_18 ((bI_0 _).mpr e))
        refine aw_iload (n := 23) dX3_lastHolding_21 0 rfl rfl ?_
        refine aw_istore_n (n := 24) (lv' := [(3, .int (nI c)), (4, .int (nI c)), (0, .ref b), (1, .int (nI n)), (2, .int (nI i))]) dX3_lastHolding_23 rfl (by decide) rfl rfl ?_
        refine aw_iinc (n := 27) (v := nI (c + 1)) (lv' := [(4, .int (nI (c + 1))), (3, .int (nI c)), (0, .ref b), (1, .int (nI n)), (2, .int (nI i))]) dX3_lastHolding_24 1 rfl (by rw [show nI c = nI c from rfl]; exact nI_1 _) (by decide) rfl rfl ?_
        refine aw_goto (tgt := 5) dX3_lastHolding_27 (by decide) ?_
        exact AW.lvs (lv' := [(4, .int (nI (c + 1))), (3, .int (nI c)), (0, .ref b), (1, .int (nI n)), (2, .int (nI i))]) (AW.eq (lv2 := _) (by simp [fU, *]) rfl rfl rfl rfl (ih_5 (c + 1) (by omega) (by omega))) (by simp)

end
