/-! The twin: a step of the table. -/
section
set_option maxRecDepth 100000
abbrev kX3_reckon : aK := (yX3_reckon, cX3_reckon, 5, (Option.none : Option Jvm.ClassFile.FieldType), [])
theorem hcX3_reckon : kX3_reckon.1.cls ≠ "java/lang/invoke/MethodHandle" ∧ kX3_reckon.1.cls ≠ "java/lang/invoke/VarHandle" ∧ (parseMethodDescriptor kX3_reckon.1.desc).map (fun d => d.parameters.length) = some 3 := ⟨by decide, by decide, by decide +kernel⟩
theorem ct_reckon (G : aG) (h : hH) (b : Nat) (ms : tM) (hb : gB G ≤ b) (hT : TW b h ms) (fr un i : Nat) (hfu : fr ≤ un) (hun : un ≤ 1203) (hi : i < 120) (hW : ∀ n, fr ≤ n → n < un → okW ms n) : Con G kX3_reckon [.ref b, .int (nI fr), .int (nI un), .int (nI i)] h ((5, 96, 0, 0), (fun r h1 => r = none ∧ TW b h1 (rkT ms fr i (un - fr)) ∧ Fr (TS b) h h1 ∧ h1.1 = h.1), nX) := by
  refine Con.of (plainFor_of_name rfl) rfl (Nat.le_of_ble_eq_true rfl) ?_
  refine AW.eq (lv2 := [(0, .ref b), (1, .int (nI fr)), (2, .int (nI un)), (3, .int (nI i))]) (s2 := []) rfl rfl rfl rfl rfl ?_
  refine aw_iload_n (n := 1) dX3_reckon_0 rfl 1 rfl rfl ?_
  refine aw_istore (n := 3) (lv' := [(4, .int (nI fr)), (0, .ref b), (1, .int (nI fr)), (2, .int (nI un)), (3, .int (nI i))]) dX3_reckon_1 (by decide) rfl rfl ?_
  suffices L_3 : ∀ (m_ : Nat) (c : Nat) (hh : hH) (hc : fr + c ≤ un) (hTc : TW b hh (rkT ms fr i c)) (hFc : Fr (TS b) h hh) (hzc : hh.1 = h.1), un - (fr + c) < m_ → AW G kX3_reckon ((5, 96, 0, 0), (fun r h1 => r = none ∧ TW b h1 (rkT ms fr i (un - fr)) ∧ Fr (TS b) h h1 ∧ h1.1 = h.1), nX) 3 [(4, .int (nI (fr + c))), (0, .ref b), (1, .int (nI fr)), (2, .int (nI un)), (3, .int (nI i))] [] hh 0 0 from
    AW.lvs (lv' := [(4, .int (nI fr)), (0, .ref b), (1, .int (nI fr)), (2, .int (nI un)), (3, .int (nI i))]) (AW.eq (lv2 := _) (rfl) rfl rfl rfl rfl (L_3 _ 0 h (by omega) hT Fr.rf rfl (Nat.lt_succ_self _))) (by simp)
  intro m_
  induction m_ with
  | zero => intro c hh hc hTc hFc hzc h_m; exact absurd h_m (Nat.not_lt_zero _)
  | succ m_ ih_3 =>
    intro c hh hc hTc hFc hzc h_m
    refine aw_iload (n := 5) dX3_reckon_3 0 rfl rfl ?_
    refine aw_iload_n (n := 6) dX3_reckon_5 rfl 3 rfl rfl ?_
    refine aw_icmp_ge (n := 9) (tgt := 59) dX3_reckon_6 (by decide) rfl (fun c_6 => ?_) (fun c_6 => ?_)
    · skip
      have n_6 : un ≤ (fr + c) := (nI_leI (a := un) (b := (fr + c)) (by omega) (by omega)).mp (by exact c_6)
      exact aw_vret dX3_reckon_59 rfl ⟨rfl, by rw [show un - fr = c by omega]; exact hTc, hFc, hzc⟩ ⟨Nat.zero_le _, Nat.zero_le _⟩
    · skip
      have n_6 : ¬ (un ≤ (fr + c)) := fun z => c_6 (by have y := (nI_leI (a := un) (b := (fr + c)) (by omega) (by omega)).mpr z; exact y)
      have hN : okW (rkT ms fr i c) (fr + c) := okW_of (rkT_21 ms fr i c) (hW (fr + c) (by omega) (by omega))
      have hk35 := hN.1.2.1
      refine aw_aload_n (n := 10) dX3_reckon_9 rfl 1 rfl rfl ?_
      refine aw_getf (n := 13) (v := .ref (b + 12)) (C0 := RX3) (T := TX3) dX3_reckon_10 rfl 16 q2657 (Or.inl rfl) hTc.1 rfl rfl ?_
      refine aw_bipush (n := 15) (v := 120) dX3_reckon_13 (by decide) rfl ?_
      refine aw_iload (n := 17) dX3_reckon_15 0 rfl rfl ?_
      refine aw_imul (n := 18) dX3_reckon_17 rfl ?_
      refine aw_iload_n (n := 19) dX3_reckon_18 rfl 4 rfl rfl ?_
      refine aw_iadd (n := 20) dX3_reckon_19 rfl ?_
      refine aw_aload_n (n := 21) dX3_reckon_20 rfl 1 rfl rfl ?_
      refine aw_getf (n := 24) (v := .ref (b + 5)) (C0 := RX3) (T := TX3) dX3_reckon_21 rfl 9 q2650 (Or.inl rfl) hTc.1 rfl rfl ?_
      refine aw_iload (n := 26) dX3_reckon_24 0 rfl rfl ?_
      refine aw_iald (n := 27) (v := .int ((rkT ms fr i c).2.1 9 (fr + c))) dX3_reckon_26 rfl (fr + c) rfl hTc.a9 (by omega) (by decide) rfl rfl ?_
      refine aw_bipush (n := 29) (v := 20) dX3_reckon_27 (by decide) rfl ?_
      refine aw_icmp_ge (n := 32) (tgt := 45) dX3_reckon_29 (by decide) rfl (fun c_29 => ?_) (fun c_29 => ?_)
      · skip
        have n_29 : 20 ≤ nk (rkT ms fr i c) (fr + c) := (nI_leI (a := 20) (by omega) (by omega)).mp (by rw [← hN.1.2.2.1]; exact c_29)
        refine aw_aload_n (n := 46) dX3_reckon_45 rfl 1 rfl rfl ?_
        refine aw_iload (n := 48) dX3_reckon_46 0 rfl rfl ?_
        refine aw_iload_n (n := 49) dX3_reckon_48 rfl 4 rfl rfl ?_
        refine aw_callV (n := 52) (C0 := RX3) (As := [.int (nI (fr + c)), .int (nI i)]) (rest := [.int ((120 * (nI (fr + c))) + (nI i)), .ref (b + 12)]) (K2 := kX3_worth) dX3_reckon_49 q3082 q3084 qs96 q113 q3085 ⟨rfl, hcX3_worth⟩ rfl hTc.1 (ct_worth G hh b (rkT ms fr i c) hb hTc (fr + c) i _ _ _ _ (by omega) hi hN.1 (by omega) hN.2.2.2.1 hN.2.2.2.2) rfl (Nat.le_of_ble_eq_true rfl) ⟨Nat.le_of_ble_eq_true rfl, Nat.le_of_ble_eq_true rfl⟩ ⟨Nat.zero_le _, Nat.zero_le _⟩ (fun _ _ _ z => z.elim) rfl (fun r_49 h_49 q_49 => ?_)
        obtain ⟨rfl, rfl⟩ := q_49
        refine AW.sts (st' := [.long (woT (rkT ms fr i c) (nk (rkT ms fr i c) (fr + c)) ((rkT ms fr i c).2.1 10 (fr + c)) (na (rkT ms fr i c) (fr + c)) (nb (rkT ms fr i c) (fr + c)) (nc (rkT ms fr i c) (fr + c)) i), .int ((120 * (nI (fr + c))) + (nI i)), .ref (b + 12)]) rfl ?_
        refine aw_tlast (n := 53) dX3_reckon_52 TW.m16 hTc hb ((120 * (fr + c)) + i) (by rw [show 120 * (nI (fr + c)) = nI (120 * (fr + c)) from (by rw [show 120 = nI 120 from (by rfl), show nI (fr + c) = nI (fr + c) from rfl]; exact pk_mul _ _), show nI i = nI i from rfl]; exact nI_add _ _) (by omega) (by decide) rfl (fun h_1 hT_1 hF_1 hz_1 => ?_)
        have hG_1 := Fr.trans hFc hF_1
        refine aw_iinc (n := 56) (v := nI ((fr + c) + 1)) (lv' := [(4, .int (nI ((fr + c) + 1))), (0, .ref b), (1, .int (nI fr)), (2, .int (nI un)), (3, .int (nI i))]) dX3_reckon_53 0 rfl (by rw [show nI (fr + c) = nI (fr + c) from rfl]; exact nI_1 _) (by decide) rfl rfl ?_
        refine aw_goto (tgt := 3) dX3_reckon_56 (by decide) ?_
        exact AW.lvs (lv' := [(4, .int (nI ((fr + c) + 1))), (0, .ref b), (1, .int (nI fr)), (2, .int (nI un)), (3, .int (nI i))]) (AW.eq (lv2 := _) (rfl) rfl rfl rfl rfl (ih_3 (c + 1) h_1 (by omega) (by rw [rkT, valT, if_neg (by omega)]; exact hT_1) hG_1 (by omega) (by omega))) (by simp)
      · skip
        have n_29 : ¬ (20 ≤ nk (rkT ms fr i c) (fr + c)) := fun z => c_29 (by have y := (nI_leI (a := 20) (by omega) (by omega)).mpr z; rw [← hN.1.2.2.1] at y; exact y)
        refine aw_aload_n (n := 33) dX3_reckon_32 rfl 1 rfl rfl ?_
        refine aw_iload (n := 35) dX3_reckon_33 0 rfl rfl ?_
        refine aw_iload_n (n := 36) dX3_reckon_35 rfl 4 rfl rfl ?_
        refine aw_callV (n := 39) (C0 := RX3) (As := [.int (nI (fr + c)), .int (nI i)]) (rest := [.int ((120 * (nI (fr + c))) + (nI i)), .ref (b + 12)]) (K2 := kX3_isTrue) dX3_reckon_36 q3052 q3054 qs90 q113 q3055 ⟨rfl, hcX3_isTrue⟩ rfl hTc.1 (ct_isTrue G hh b (rkT ms fr i c) hb hTc (fr + c) i _ _ _ _ (by omega) hi hN.1 (by rcases hN.2.1 with z | z <;> omega) hN.2.2.1) rfl (Nat.le_of_ble_eq_true rfl) ⟨Nat.le_of_ble_eq_true rfl, Nat.le_of_ble_eq_true rfl⟩ ⟨Nat.zero_le _, Nat.zero_le _⟩ (fun _ _ _ z => z.elim) rfl (fun r_36 h_36 q_36 => ?_)
        obtain ⟨rfl, rfl⟩ := q_36
        refine AW.sts (st' := [.int (bI (itT (rkT ms fr i c) (nk (rkT ms fr i c) (fr + c)) (fr + c) (na (rkT ms fr i c) (fr + c)) (nb (rkT ms fr i c) (fr + c)) (nc (rkT ms fr i c) (fr + c)) i)), .int ((120 * (nI (fr + c))) + (nI i)), .ref (b + 12)]) rfl ?_
        refine aw_callS (n := 42) (As := [.int (bI (itT (rkT ms fr i c) (nk (rkT ms fr i c) (fr + c)) (fr + c) (na (rkT ms fr i c) (fr + c)) (nb (rkT ms fr i c) (fr + c)) (nc (rkT ms fr i c) (fr + c)) i))]) (rest := [.int ((120 * (nI (fr + c))) + (nI i)), .ref (b + 12)]) (K2 := kX3_truth) dX3_reckon_39 q3079 q3080 q113 q3081 hcX3_truth (ct_truth G hh (itT (rkT ms fr i c) (nk (rkT ms fr i c) (fr + c)) (fr + c) (na (rkT ms fr i c) (fr + c)) (nb (rkT ms fr i c) (fr + c)) (nc (rkT ms fr i c) (fr + c)) i)) rfl (Nat.le_of_ble_eq_true rfl) ⟨Nat.le_of_ble_eq_true rfl, Nat.le_of_ble_eq_true rfl⟩ ⟨Nat.zero_le _, Nat.zero_le _⟩ (fun _ _ _ z => z.elim) rfl (fun r_39 h_39 q_39 => ?_)
        obtain ⟨rfl, rfl⟩ := q_39
        refine AW.sts (st' := [.long (lb (itT (rkT ms fr i c) (nk (rkT ms fr i c) (fr + c)) (fr + c) (na (rkT ms fr i c) (fr + c)) (nb (rkT ms fr i c) (fr + c)) (nc (rkT ms fr i c) (fr + c)) i)), .int ((120 * (nI (fr + c))) + (nI i)), .ref (b + 12)]) rfl ?_
        refine aw_goto (tgt := 52) dX3_reckon_42 (by decide) ?_
        refine aw_tlast (n := 53) dX3_reckon_52 TW.m16 hTc hb ((120 * (fr + c)) + i) (by rw [show 120 * (nI (fr + c)) = nI (120 * (fr + c)) from (by rw [show 120 = nI 120 from (by rfl), show nI (fr + c) = nI (fr + c) from rfl]; exact pk_mul _ _), show nI i = nI i from rfl]; exact nI_add _ _) (by omega) (by decide) rfl (fun h_2 hT_2 hF_2 hz_2 => ?_)
        have hG_2 := Fr.trans hFc hF_2
        refine aw_iinc (n := 56) (v := nI ((fr + c) + 1)) (lv' := [(4, .int (nI ((fr + c) + 1))), (0, .ref b), (1, .int (nI fr)), (2, .int (nI un)), (3, .int (nI i))]) dX3_reckon_53 0 rfl (by rw [show nI (fr + c) = nI (fr + c) from rfl]; exact nI_1 _) (by decide) rfl rfl ?_
        refine aw_goto (tgt := 3) dX3_reckon_56 (by decide) ?_
        exact AW.lvs (lv' := [(4, .int (nI ((fr + c) + 1))), (0, .ref b), (1, .int (nI fr)), (2, .int (nI un)), (3, .int (nI i))]) (AW.eq (lv2 := _) (rfl) rfl rfl rfl rfl (ih_3 (c + 1) h_2 (by omega) (by rw [rkT, valT, if_pos (by omega)]; exact hT_2) hG_2 (by omega) (by omega))) (by simp)

end
