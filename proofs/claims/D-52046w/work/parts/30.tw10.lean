/-! The twin: answer, replay. -/
section
set_option maxRecDepth 100000
/-- the question's rows at the steps below c -/
def anT (ms : tM) : Nat → tM
  | 0 => ms
  | c + 1 => rkT (anT ms c) (Pn ms) c (En ms - Pn ms)
theorem anT_1 (ms : tM) : ∀ c, (anT ms c).1 = ms.1
  | 0 => rfl
  | c + 1 => (rkT_1 _ _ _ _).trans (anT_1 ms c)
theorem anT_21 (ms : tM) : ∀ c, (anT ms c).2.1 = ms.2.1
  | 0 => rfl
  | c + 1 => (rkT_21 _ _ _ _).trans (anT_21 ms c)
def opAns (ms : tM) (v : Int32) : Int32 × tM := if inS v (Sn ms) = false then (0, tS ms 0 1) else if ms.1 28 = -1 then (0, tS ms 0 2) else (bI (hd (anT (tS ms 0 0) (nN v + 1)) (nN (ms.1 28)) (nN v)), anT (tS ms 0 0) (nN v + 1))
abbrev kX3_answer : aK := (yX3_answer, cX3_answer, 3, (Option.some Jvm.ClassFile.FieldType.boolean), [])
theorem hcX3_answer : kX3_answer.1.cls ≠ "java/lang/invoke/MethodHandle" ∧ kX3_answer.1.cls ≠ "java/lang/invoke/VarHandle" ∧ (parseMethodDescriptor kX3_answer.1.desc).map (fun d => d.parameters.length) = some 1 := ⟨by decide, by decide, by decide +kernel⟩
theorem ct_answer (G : aG) (h : hH) (b : Nat) (ms : tM) (hb : gB G ≤ b) (hT : TW b h ms) (hI : tOK ms) (v : Int32) : Con G kX3_answer [.ref b, .int v] h ((6, 120, 0, 0), (fun r h1 => r = some (.int (opAns ms v).1) ∧ TW b h1 ((opAns ms v).2) ∧ Fr (TS b) h h1 ∧ h1.1 = h.1), nX) := by
  have := hI.L2; have := hI.S2; have := hI.M0; have := hI.M1; have := hI.M2; have := hI.M3; have := hI.P2; have := hI.K2; have := hI.KM2
  refine Con.of (plainFor_of_name rfl) rfl (Nat.le_of_ble_eq_true rfl) ?_
  refine AW.eq (lv2 := [(0, .ref b), (1, .int v)]) (s2 := []) rfl rfl rfl rfl rfl ?_
  refine aw_aload_n (n := 1) dX3_answer_0 rfl 0 rfl rfl ?_
  refine aw_aload_n (n := 2) dX3_answer_1 rfl 0 rfl rfl ?_
  refine aw_iload_n (n := 3) dX3_answer_2 rfl 1 rfl rfl ?_
  refine aw_callV (n := 6) (C0 := RX3) (As := [.int v]) (rest := [.ref b]) (K2 := kX3_isStep) dX3_answer_3 q3126 q3128 qs100 q113 q3129 ⟨rfl, hcX3_isStep⟩ rfl hT.1 (ct_isStep G h b ms hb hT hI v) rfl (Nat.le_of_ble_eq_true rfl) ⟨Nat.le_of_ble_eq_true rfl, Nat.le_of_ble_eq_true rfl⟩ ⟨Nat.zero_le _, Nat.zero_le _⟩ (fun _ _ _ z => z.elim) rfl (fun r_3 h_3 q_3 => ?_)
  obtain ⟨rfl, rfl⟩ := q_3
  refine AW.sts (st' := [.int (bI (inS v (Sn ms))), .ref b]) rfl ?_
  refine aw_if_ne (n := 9) (tgt := 13) dX3_answer_6 (by decide) rfl (fun c_6 => ?_) (fun c_6 => ?_)
  · skip
    have b_6 : (inS v (Sn ms)) = true := Bool.of_not_eq_false (fun e => c_6 ((bI_0 _).mpr e))
    obtain ⟨j, hj, rfl⟩ := inS_of b_6 (by omega)
    refine aw_aload_n (n := 14) dX3_answer_13 rfl 0 rfl rfl ?_
    refine aw_getf (n := 17) (v := .int (ms.1 28)) (C0 := RX3) (T := TX3) dX3_answer_14 rfl 28 q2669 (Or.inl rfl) hT.1 rfl rfl ?_
    refine aw_iconst (n := 18) (v := (-1)) dX3_answer_17 (by decide) rfl ?_
    refine aw_icmp_ne (n := 21) (tgt := 25) dX3_answer_18 (by decide) rfl (fun c_18 => ?_) (fun c_18 => ?_)
    · skip
      have hA := hI.A c_18
      refine aw_iconst (n := 26) (v := 0) dX3_answer_25 (by decide) rfl ?_
      refine aw_tput (n := 29) (k := 0) dX3_answer_26 q2641 (by decide) rfl rfl rfl rfl rfl hT hb rfl rfl (fun h_1 hT_1 hF_1 hz_1 => ?_)
      refine aw_aload_n (n := 30) dX3_answer_29 rfl 0 rfl rfl ?_
      refine aw_getf (n := 33) (v := .int 0) (C0 := RX3) (T := TX3) dX3_answer_30 rfl 0 q2641 (Or.inl rfl) hT_1.1 rfl rfl ?_
      refine aw_if_eq (n := 36) (tgt := 38) dX3_answer_33 (by decide) rfl (fun c_33 => ?_) (fun c_33 => ?_)
      · skip
        refine aw_iconst (n := 39) (v := 0) dX3_answer_38 (by decide) rfl ?_
        refine aw_istore_n (n := 40) (lv' := [(2, .int 0), (0, .ref b), (1, .int (nI j))]) dX3_answer_39 rfl (by decide) rfl rfl ?_
        suffices L_40 : ∀ (m_ : Nat) (c : Nat) (hh : hH) (hc : c ≤ j + 1) (hTc : TW b hh (anT (tS ms 0 0) c)) (hFc : Fr (TS b) h hh) (hzc : hh.1 = h.1), j + 1 - c < m_ → AW G kX3_answer ((6, 120, 0, 0), (fun r h1 => r = some (.int (opAns ms (nI j)).1) ∧ TW b h1 ((opAns ms (nI j)).2) ∧ Fr (TS b) h h1 ∧ h1.1 = h.1), nX) 40 [(2, .int (nI c)), (0, .ref b), (1, .int (nI j))] [] hh 0 0 from
          AW.lvs (lv' := [(2, .int 0), (0, .ref b), (1, .int (nI j))]) (AW.eq (lv2 := _) (rfl) rfl rfl rfl rfl (L_40 _ 0 h_1 (by omega) hT_1 hF_1 (by omega) (Nat.lt_succ_self _))) (by simp)
        intro m_
        induction m_ with
        | zero => intro c hh hc hTc hFc hzc h_m; exact absurd h_m (Nat.not_lt_zero _)
        | succ m_ ih_40 =>
          intro c hh hc hTc hFc hzc h_m
          refine aw_iload_n (n := 41) dX3_answer_40 rfl 0 rfl rfl ?_
          refine aw_iload_n (n := 42) dX3_answer_41 rfl 2 rfl rfl ?_
          refine aw_icmp_gt (n := 45) (tgt := 64) dX3_answer_42 (by decide) rfl (fun c_42 => ?_) (fun c_42 => ?_)
          · skip
            have n_42 : j < c := (nI_ltI (by omega) (by omega)).mp c_42
            have e9 : c = j + 1 := by omega
            subst e9
            refine aw_aload_n (n := 65) dX3_answer_64 rfl 1 rfl rfl ?_
            refine aw_aload_n (n := 66) dX3_answer_65 rfl 1 rfl rfl ?_
            refine aw_getf (n := 69) (v := .int (nI (nN (ms.1 28)))) (C0 := RX3) (T := TX3) dX3_answer_66 rfl 28 q2669 (Or.inl rfl) hTc.1 (congrArg some (congrArg Value.int (by rw [anT_1]; exact hA.1))) rfl ?_
            refine aw_iload_n (n := 70) dX3_answer_69 rfl 2 rfl rfl ?_
            refine aw_callV (n := 73) (C0 := RX3) (As := [.int (nI (nN (ms.1 28))), .int (nI j)]) (rest := []) (K2 := kX3_holds) dX3_answer_70 q3056 q3058 qs91 q113 q3059 ⟨rfl, hcX3_holds⟩ rfl hTc.1 (ct_holds G hh b (anT (tS ms 0 0) (j + 1)) hb hTc (nN (ms.1 28)) j (by have := hA.2.1; have := hA.2.2.2.1; omega) (by omega)) rfl (Nat.le_of_ble_eq_true rfl) ⟨Nat.le_of_ble_eq_true rfl, Nat.le_of_ble_eq_true rfl⟩ ⟨Nat.zero_le _, Nat.zero_le _⟩ (fun _ _ _ z => z.elim) rfl (fun r_70 h_70 q_70 => ?_)
            obtain ⟨rfl, rfl⟩ := q_70
            refine AW.sts (st' := [.int (bI (hd (anT (tS ms 0 0) (j + 1)) (nN (ms.1 28)) j))]) rfl ?_
            have e9 : opAns ms (nI j) = (bI (hd (anT (tS ms 0 0) (j + 1)) (nN (ms.1 28)) j), (anT (tS ms 0 0) (j + 1))) := by first | (simp [opAns, c_6, b_6, c_18, c_18, c_33, c_42, nN_nI (show j < 2 ^ 31 by omega)]; done) | simp_all [opAns]
            exact aw_zret dX3_answer_73 rfl (bI_le _) ⟨by rw [e9], by rw [e9]; exact hTc, hFc, (by omega)⟩ ⟨Nat.zero_le _, Nat.zero_le _⟩
          · skip
            have n_42 : ¬ (j < c) := fun z => c_42 ((nI_ltI (by omega) (by omega)).mpr z)
            refine aw_aload_n (n := 46) dX3_answer_45 rfl 1 rfl rfl ?_
            refine aw_aload_n (n := 47) dX3_answer_46 rfl 1 rfl rfl ?_
            refine aw_getf (n := 50) (v := .int (nI (Pn ms))) (C0 := RX3) (T := TX3) dX3_answer_47 rfl 27 q2668 (Or.inl rfl) hTc.1 (congrArg some (congrArg Value.int (by rw [anT_1]; exact hI.P))) rfl ?_
            refine aw_aload_n (n := 51) dX3_answer_50 rfl 1 rfl rfl ?_
            refine aw_getf (n := 54) (v := .int (nI (En ms))) (C0 := RX3) (T := TX3) dX3_answer_51 rfl 40 q2681 (Or.inl rfl) hTc.1 (congrArg some (congrArg Value.int (by rw [anT_1]; exact hA.2.2.1))) rfl ?_
            refine aw_iload_n (n := 55) dX3_answer_54 rfl 0 rfl rfl ?_
            refine aw_callV (n := 58) (C0 := RX3) (As := [.int (nI (Pn ms)), .int (nI (En ms)), .int (nI c)]) (rest := []) (K2 := kX3_reckon) dX3_answer_55 q3048 q3050 qs89 q113 q3051 ⟨rfl, hcX3_reckon⟩ rfl hTc.1 (ct_reckon G hh b (anT (tS ms 0 0) c) hb hTc (Pn ms) (En ms) c hA.2.2.2.2.1 (by have := hA.2.2.2.1; omega) (by omega) (fun n _ hn => okW_of (anT_21 _ _) (hA.2.2.2.2.2 n hn).1)) rfl (Nat.le_of_ble_eq_true rfl) ⟨Nat.le_of_ble_eq_true rfl, Nat.le_of_ble_eq_true rfl⟩ ⟨Nat.zero_le _, Nat.zero_le _⟩ (fun _ _ _ z => z.elim) rfl (fun r_55 h_55 q_55 => ?_)
            obtain ⟨rfl, hT_55, hF_55, hz_55⟩ := q_55
            have hT_55 : TW b h_55 (anT (tS ms 0 0) (c + 1)) := hT_55
            have hG_55 := Fr.trans hFc hF_55
            refine AW.sts (st' := []) rfl ?_
            refine aw_iinc (n := 61) (v := nI (c + 1)) (lv' := [(2, .int (nI (c + 1))), (0, .ref b), (1, .int (nI j))]) dX3_answer_58 0 rfl (by rw [show nI c = nI c from rfl]; exact nI_1 _) (by decide) rfl rfl ?_
            refine aw_goto (tgt := 40) dX3_answer_61 (by decide) ?_
            exact AW.lvs (lv' := [(2, .int (nI (c + 1))), (0, .ref b), (1, .int (nI j))]) (AW.eq (lv2 := _) (rfl) rfl rfl rfl rfl (ih_40 (c + 1) h_55 (by omega) hT_55 hG_55 (by omega) (by omega))) (by simp)
      · skip
        exact absurd c_33 (by decide +kernel)
    · skip
      refine aw_iconst (n := 22) (v := 2) dX3_answer_21 (by decide) rfl ?_
      refine aw_goto (tgt := 26) dX3_answer_22 (by decide) ?_
      refine aw_tput (n := 29) (k := 0) dX3_answer_26 q2641 (by decide) rfl rfl rfl rfl rfl hT hb rfl rfl (fun h_2 hT_2 hF_2 hz_2 => ?_)
      refine aw_aload_n (n := 30) dX3_answer_29 rfl 0 rfl rfl ?_
      refine aw_getf (n := 33) (v := .int 2) (C0 := RX3) (T := TX3) dX3_answer_30 rfl 0 q2641 (Or.inl rfl) hT_2.1 rfl rfl ?_
      refine aw_if_eq (n := 36) (tgt := 38) dX3_answer_33 (by decide) rfl (fun c_33_2 => ?_) (fun c_33_2 => ?_)
      · skip
        exact absurd c_33_2 (by decide +kernel)
      · skip
        refine aw_iconst (n := 37) (v := 0) dX3_answer_36 (by decide) rfl ?_
        have e9 : opAns ms (nI j) = (0, tS ms 0 (2 : Int32)) := by first | (simp [opAns, c_6, b_6, c_18, c_18, c_33_2, nN_nI (show j < 2 ^ 31 by omega)]; done) | simp_all [opAns]
        exact aw_zret dX3_answer_37 rfl (by decide) ⟨by rw [e9], by rw [e9]; exact hT_2, hF_2, (by omega)⟩ ⟨Nat.zero_le _, Nat.zero_le _⟩
  · skip
    have b_6 : (inS v (Sn ms)) = false := (bI_0 _).mp c_6
    refine aw_iconst (n := 10) (v := 1) dX3_answer_9 (by decide) rfl ?_
    refine aw_goto (tgt := 26) dX3_answer_10 (by decide) ?_
    refine aw_tput (n := 29) (k := 0) dX3_answer_26 q2641 (by decide) rfl rfl rfl rfl rfl hT hb rfl rfl (fun h_3 hT_3 hF_3 hz_3 => ?_)
    refine aw_aload_n (n := 30) dX3_answer_29 rfl 0 rfl rfl ?_
    refine aw_getf (n := 33) (v := .int 1) (C0 := RX3) (T := TX3) dX3_answer_30 rfl 0 q2641 (Or.inl rfl) hT_3.1 rfl rfl ?_
    refine aw_if_eq (n := 36) (tgt := 38) dX3_answer_33 (by decide) rfl (fun c_33_3 => ?_) (fun c_33_3 => ?_)
    · skip
      exact absurd c_33_3 (by decide +kernel)
    · skip
      refine aw_iconst (n := 37) (v := 0) dX3_answer_36 (by decide) rfl ?_
      have e9 : opAns ms v = (0, tS ms 0 (1 : Int32)) := by first | (simp [opAns, c_6, b_6, c_33_3]; done) | simp_all [opAns]
      exact aw_zret dX3_answer_37 rfl (by decide) ⟨by rw [e9], by rw [e9]; exact hT_3, hF_3, (by omega)⟩ ⟨Nat.zero_le _, Nat.zero_le _⟩

end
