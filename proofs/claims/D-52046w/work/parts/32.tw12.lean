/-! The twin: share. -/
section
set_option maxRecDepth 100000
def dsh (a s : Nat) : Bool := decide (FP.ddiv (FP.i2d (nI a)) (FP.i2d (nI s)) &&& 0x7fffffffffffffff ≤ 0x7ff0000000000000)
theorem dsh_all : ∀ s : Nat, s < 120 → ∀ a : Nat, a < s + 2 → dsh a (s + 1) = true := by decide +kernel
theorem tdS_1 (p : Nat → Bool) : ∀ c : Nat, ∃ m : Nat, m ≤ c ∧ (tdS p c).1 = nI m
  | 0 => ⟨0, Nat.le_refl _, rfl⟩
  | c + 1 => by
    obtain ⟨m, h1, h2⟩ := tdS_1 p c
    simp only [tdS]
    rw [h2]
    by_cases e : p c = true
    · exact ⟨m, by omega, by rw [if_pos e]; simp⟩
    · exact ⟨m + 1, by omega, by rw [if_neg e]; exact nI_1 _⟩
theorem share_num (ms : tM) (j : Nat) (h0 : ¬ Sn ms = 0) (h : Sn ms ≤ 120) : FP.ddiv (FP.i2d (nI (Sn ms) - tdT ms j 1)) (FP.i2d (nI (Sn ms))) &&& 0x7fffffffffffffff ≤ 0x7ff0000000000000 := by
  obtain ⟨m, h1, h2⟩ := tdS_1 (hd ms (tp ms 3 j)) (Sn ms)
  rw [show tdT ms j 1 = nI m from by simp [tdT, toT, h2], show nI (Sn ms) - nI m = nI (Sn ms - m) from pk_sub h1]
  have z := dsh_all (Sn ms - 1) (by omega) (Sn ms - m) (by omega)
  rw [show Sn ms - 1 + 1 = Sn ms by omega] at z
  exact of_decide_eq_true z
def opShare (ms : tM) (v : Int32) : UInt64 × tM := if inS v (Mn ms 3) = true then ((if Sn ms = 0 then 0x3ff0000000000000 else FP.ddiv (FP.i2d (nI (Sn ms) - tdT ms (nN v) 1)) (FP.i2d (nI (Sn ms)))), tS ms 0 0) else (0, tS ms 0 1)
abbrev kX3_share : aK := (yX3_share, cX3_share, 2, (Option.some Jvm.ClassFile.FieldType.double), [])
theorem hcX3_share : kX3_share.1.cls ≠ "java/lang/invoke/MethodHandle" ∧ kX3_share.1.cls ≠ "java/lang/invoke/VarHandle" ∧ (parseMethodDescriptor kX3_share.1.desc).map (fun d => d.parameters.length) = some 1 := ⟨by decide, by decide, by decide +kernel⟩
theorem ct_share (G : aG) (h : hH) (b : Nat) (ms : tM) (hb : gB G ≤ b) (hT : TW b h ms) (hI : tOK ms) (v : Int32) : Con G kX3_share [.ref b, .int v] h ((5, 94, 0, 0), (fun r h1 => r = some (.double (opShare ms v).1) ∧ TW b h1 ((opShare ms v).2) ∧ Fr (TS b) h h1 ∧ h1.1 = h.1), nX) := by
  have := hI.L2; have := hI.S2; have := hI.M0; have := hI.M1; have := hI.M2; have := hI.M3; have := hI.P2; have := hI.K2; have := hI.KM2
  refine Con.of (plainFor_of_name rfl) rfl (Nat.le_of_ble_eq_true rfl) ?_
  refine AW.eq (lv2 := [(0, .ref b), (1, .int v)]) (s2 := []) rfl rfl rfl rfl rfl ?_
  refine aw_aload_n (n := 1) dX3_share_0 rfl 0 rfl rfl ?_
  refine aw_aload_n (n := 2) dX3_share_1 rfl 0 rfl rfl ?_
  refine aw_iload_n (n := 3) dX3_share_2 rfl 1 rfl rfl ?_
  refine aw_callV (n := 6) (C0 := RX3) (As := [.int v]) (rest := [.ref b]) (K2 := kX3_isWatch) dX3_share_3 q3146 q3148 qs101 q113 q3149 ⟨rfl, hcX3_isWatch⟩ rfl hT.1 (ct_isWatch G h b ms hb hT hI v) rfl (Nat.le_of_ble_eq_true rfl) ⟨Nat.le_of_ble_eq_true rfl, Nat.le_of_ble_eq_true rfl⟩ ⟨Nat.zero_le _, Nat.zero_le _⟩ (fun _ _ _ z => z.elim) rfl (fun r_3 h_3 q_3 => ?_)
  obtain ⟨rfl, rfl⟩ := q_3
  refine AW.sts (st' := [.int (bI (inS v (Mn ms 3))), .ref b]) rfl ?_
  refine aw_if_eq (n := 9) (tgt := 13) dX3_share_6 (by decide) rfl (fun c_6 => ?_) (fun c_6 => ?_)
  · skip
    have b_6 : (inS v (Mn ms 3)) = false := (bI_0 _).mp c_6
    refine aw_iconst (n := 14) (v := 1) dX3_share_13 (by decide) rfl ?_
    refine aw_tput (n := 17) (k := 0) dX3_share_14 q2641 (by decide) rfl rfl rfl rfl rfl hT hb rfl rfl (fun h_1 hT_1 hF_1 hz_1 => ?_)
    refine aw_aload_n (n := 18) dX3_share_17 rfl 0 rfl rfl ?_
    refine aw_getf (n := 21) (v := .int 1) (C0 := RX3) (T := TX3) dX3_share_18 rfl 0 q2641 (Or.inl rfl) hT_1.1 rfl rfl ?_
    refine aw_if_eq (n := 24) (tgt := 26) dX3_share_21 (by decide) rfl (fun c_21 => ?_) (fun c_21 => ?_)
    · skip
      exact absurd c_21 (by decide +kernel)
    · skip
      refine aw_dconst0 (n := 25) dX3_share_24 rfl ?_
      have e9 : opShare ms v = (0, tS ms 0 (1 : Int32)) := by first | (simp [opShare, c_6, b_6, c_21]; done) | simp_all [opShare]
      exact aw_dret dX3_share_25 rfl ⟨by rw [e9], by rw [e9]; exact hT_1, hF_1, (by omega)⟩ ⟨Nat.zero_le _, Nat.zero_le _⟩
  · skip
    have b_6 : (inS v (Mn ms 3)) = true := Bool.of_not_eq_false (fun e => c_6 ((bI_0 _).mpr e))
    obtain ⟨j, hj, rfl⟩ := inS_of b_6 (by omega)
    refine aw_iconst (n := 10) (v := 0) dX3_share_9 (by decide) rfl ?_
    refine aw_goto (tgt := 14) dX3_share_10 (by decide) ?_
    refine aw_tput (n := 17) (k := 0) dX3_share_14 q2641 (by decide) rfl rfl rfl rfl rfl hT hb rfl rfl (fun h_2 hT_2 hF_2 hz_2 => ?_)
    refine aw_aload_n (n := 18) dX3_share_17 rfl 0 rfl rfl ?_
    refine aw_getf (n := 21) (v := .int 0) (C0 := RX3) (T := TX3) dX3_share_18 rfl 0 q2641 (Or.inl rfl) hT_2.1 rfl rfl ?_
    refine aw_if_eq (n := 24) (tgt := 26) dX3_share_21 (by decide) rfl (fun c_21_2 => ?_) (fun c_21_2 => ?_)
    · skip
      refine aw_aload_n (n := 27) dX3_share_26 rfl 0 rfl rfl ?_
      refine aw_getf (n := 30) (v := .int (nI (Sn ms))) (C0 := RX3) (T := TX3) dX3_share_27 rfl 29 q2670 (Or.inl rfl) hT_2.1 (congrArg some (congrArg Value.int hI.S)) rfl ?_
      refine aw_if_ne (n := 33) (tgt := 37) dX3_share_30 (by decide) rfl (fun c_30 => ?_) (fun c_30 => ?_)
      · skip
        have n_30 : ¬ ((Sn ms) = 0) := fun z => c_30 (by have y := (nI_eq (a := (Sn ms)) (b := 0) (by omega) (by omega)).mpr z; rw [← ((by rfl) : (0 : Int32) = nI 0)] at y; exact y)
        refine aw_aload_n (n := 38) dX3_share_37 rfl 0 rfl rfl ?_
        refine aw_getf (n := 41) (v := .int (nI (Sn ms))) (C0 := RX3) (T := TX3) dX3_share_38 rfl 29 q2670 (Or.inl rfl) hT_2.1 (congrArg some (congrArg Value.int hI.S)) rfl ?_
        refine aw_aload_n (n := 42) dX3_share_41 rfl 0 rfl rfl ?_
        refine aw_iload_n (n := 43) dX3_share_42 rfl 1 rfl rfl ?_
        refine aw_iconst (n := 44) (v := 1) dX3_share_43 (by decide) rfl ?_
        refine AW.sts (st' := [.int (nI 1), .int (nI j), .ref b, .int (nI (Sn ms))]) (by rw [show (1 : Int32) = nI 1 from (by rfl)]) ?_
        refine aw_callV (n := 47) (C0 := RX3) (As := [.int (nI j), .int (nI 1)]) (rest := [.int (nI (Sn ms))]) (K2 := kX3_toldOf) dX3_share_44 q3154 q3156 qs102 q113 q3157 ⟨rfl, hcX3_toldOf⟩ rfl hT_2.1 (ct_toldOf G h_2 b (tS ms 0 (0 : Int32)) hb hT_2 (tOK.thrown hI _) j 1 (by assumption) (by omega)) rfl (Nat.le_of_ble_eq_true rfl) ⟨Nat.le_of_ble_eq_true rfl, Nat.le_of_ble_eq_true rfl⟩ ⟨Nat.zero_le _, Nat.zero_le _⟩ (fun _ _ _ z => z.elim) rfl (fun r_44 h_44 q_44 => ?_)
        obtain ⟨rfl, rfl⟩ := q_44
        refine AW.sts (st' := [.int (tdT ms j 1), .int (nI (Sn ms))]) rfl ?_
        refine aw_isub (n := 48) dX3_share_47 rfl ?_
        refine aw_i2d (n := 49) dX3_share_48 rfl ?_
        refine aw_aload_n (n := 50) dX3_share_49 rfl 0 rfl rfl ?_
        refine aw_getf (n := 53) (v := .int (nI (Sn ms))) (C0 := RX3) (T := TX3) dX3_share_50 rfl 29 q2670 (Or.inl rfl) hT_2.1 (congrArg some (congrArg Value.int hI.S)) rfl ?_
        refine aw_i2d (n := 54) dX3_share_53 rfl ?_
        refine aw_ddiv (n := 55) dX3_share_54 (share_num ms _ n_30 (by omega)) rfl ?_
        have e9 : opShare ms (nI j) = (FP.ddiv (FP.i2d ((nI (Sn ms)) - (tdT ms j 1))) (FP.i2d (nI (Sn ms))), tS ms 0 (0 : Int32)) := by first | (simp [opShare, c_6, b_6, c_21_2, n_30, c_30, nN_nI (show j < 2 ^ 31 by omega)]; done) | simp_all [opShare]
        exact aw_dret dX3_share_55 rfl ⟨by rw [e9], by rw [e9]; exact hT_2, hF_2, (by omega)⟩ ⟨Nat.zero_le _, Nat.zero_le _⟩
      · skip
        have n_30 : (Sn ms) = 0 := (nI_eq (a := (Sn ms)) (b := 0) (by omega) (by omega)).mp (by rw [← ((by rfl) : (0 : Int32) = nI 0)]; exact c_30)
        refine aw_dconst1 (n := 34) dX3_share_33 rfl ?_
        refine aw_goto (tgt := 55) dX3_share_34 (by decide) ?_
        have e9 : opShare ms (nI j) = (0x3ff0000000000000, tS ms 0 (0 : Int32)) := by first | (simp [opShare, c_6, b_6, c_21_2, c_30, nN_nI (show j < 2 ^ 31 by omega), n_30]; done) | simp_all [opShare]
        exact aw_dret dX3_share_55 rfl ⟨by rw [e9], by rw [e9]; exact hT_2, hF_2, (by omega)⟩ ⟨Nat.zero_le _, Nat.zero_le _⟩
    · skip
      exact absurd c_21_2 (by decide +kernel)

end
