/-! The twin: reason, why. -/
section
set_option maxRecDepth 100000
theorem fD_in (p : Nat → Bool) (i : Nat) : ∀ c : Nat, fD p i c ≠ -1 → ∃ l : Nat, fD p i c = nI l ∧ l ≤ i ∧ p l = true
  | 0, h => absurd rfl h
  | c + 1, h => by
    simp only [fD] at h ⊢
    by_cases e : p (i - c) = true
    · rw [if_pos e]; exact ⟨i - c, rfl, by omega, e⟩
    · rw [if_neg e] at h ⊢
      exact fD_in p i c h
theorem hd_it {ms : tM} (ht : tbOK ms) {n i : Nat} (hn : n < Pn ms) (hi : i < Sn ms) (h14 : nk ms n < 14) (hh : hd ms n i = false) : itT ms (nk ms n) n (na ms n) (nb ms n) (nc ms n) i = false := by
  have h := ht n hn i hi
  unfold hd at hh
  rw [h, valT, if_pos (by omega)] at hh
  cases e : itT ms (nk ms n) n (na ms n) (nb ms n) (nc ms n) i with
  | false => rfl
  | true => rw [e] at hh; exact absurd hh (by decide)
def opWhy (ms : tM) (v i : Int32) (z : Bool) : Int32 × tM := if (inS v (Mn ms 3) && inS i (Sn ms)) = true then (if hd ms (tp ms 3 (nN v)) (nN i) = true then (0, tS ms 0 2) else ((if z = true then nI (rsT (tS ms 0 0) 400 (tp ms 3 (nN v)) (nN i)).2 else (rsT (tS ms 0 0) 400 (tp ms 3 (nN v)) (nN i)).1), tS (tS ms 0 0) 39 (nI (rsT (tS ms 0 0) 400 (tp ms 3 (nN v)) (nN i)).2))) else (0, tS ms 0 1)
abbrev kX3_reason : aK := (yX3_reason, cX3_reason, 5, (Option.some Jvm.ClassFile.FieldType.int), [])
theorem hcX3_reason : kX3_reason.1.cls ≠ "java/lang/invoke/MethodHandle" ∧ kX3_reason.1.cls ≠ "java/lang/invoke/VarHandle" ∧ (parseMethodDescriptor kX3_reason.1.desc).map (fun d => d.parameters.length) = some 2 := ⟨by decide, by decide, by decide +kernel⟩
theorem ct_reason (G : aG) (h : hH) (b : Nat) (ms : tM) (hb : gB G ≤ b) (hT : TW b h ms) (hI : tOK ms) (ht : tbOK ms) (f n i : Nat) (hn : n < Pn ms) (hi : i < Sn ms) (h14 : nk ms n < 14) (hh : hd ms n i = false) (hf : n < f) : Con G kX3_reason [.ref b, .int (nI n), .int (nI i)] h ((4 + f, 69 + 24 * f, 0, 0), (fun r h1 => r = some (.int (rsT ms f n i).1) ∧ TW b h1 (tS ms 39 (nI (rsT ms f n i).2)) ∧ Fr (TS b) h h1 ∧ h1.1 = h.1), nX) := by
  have := hI.L2; have := hI.S2; have := hI.P2
  induction f generalizing n i with
  | zero => omega
  | succ f ih => ?_
  have hO := hI.W hn
  obtain ⟨k, hk⟩ : ∃ k, k = nk ms n := ⟨_, rfl⟩
  have hN := hO.1.1
  rw [← hk] at hN
  have hk14 : k < 14 := by omega
  refine Con.of (plainFor_of_name rfl) rfl (Nat.le_of_ble_eq_true rfl) ?_
  refine AW.eq (lv2 := [(0, .ref b), (1, .int (nI n)), (2, .int (nI i))]) (s2 := []) rfl rfl rfl rfl rfl ?_
  have hk_ : k = 0 ∨ k = 1 ∨ k = 2 ∨ k = 3 ∨ k = 4 ∨ k = 5 ∨ k = 6 ∨ k = 7 ∨ k = 8 ∨ k = 9 ∨ k = 10 ∨ k = 11 ∨ k = 12 ∨ k = 13 := by omega
  rcases hk_ with rfl | rfl | rfl | rfl | rfl | rfl | rfl | rfl | rfl | rfl | rfl | rfl | rfl | rfl
  · skip
    have hit : itT ms 0 n (na ms n) (nb ms n) (nc ms n) i = false := by have z := hd_it ht hn hi h14 hh; rw [← hk] at z; exact z
    have ha := (hN.2.2.2.1 (by decide)).1; have hca := hO.2.1 (by rw [← hk]; rfl) (by rw [← hk]; decide)
    have hfa : nk ms (na ms n) < 14 := (hO.2.2.2.2.1 (by rw [← hk]; rfl) (by rw [← hk]; decide)).mpr (Or.inl ⟨by omega, by omega⟩)
    refine aw_aload_n (n := 1) dX3_reason_0 rfl 0 rfl rfl ?_
    refine aw_getf (n := 4) (v := .ref (b + 6)) (C0 := RX3) (T := TX3) dX3_reason_1 rfl 10 q2651 (Or.inl rfl) hT.1 rfl rfl ?_
    refine aw_iload_n (n := 5) dX3_reason_4 rfl 1 rfl rfl ?_
    refine aw_iald (n := 6) (v := .int (ms.2.1 10 n)) dX3_reason_5 rfl n rfl hT.a10 (by omega) (by decide) rfl rfl ?_
    refine aw_istore_n (n := 7) (lv' := [(3, .int (ms.2.1 10 n)), (0, .ref b), (1, .int (nI n)), (2, .int (nI i))]) dX3_reason_6 rfl (by decide) rfl rfl ?_
    refine aw_aload_n (n := 8) dX3_reason_7 rfl 1 rfl rfl ?_
    refine aw_getf (n := 11) (v := .ref (b + 7)) (C0 := RX3) (T := TX3) dX3_reason_8 rfl 11 q2652 (Or.inl rfl) hT.1 rfl rfl ?_
    refine aw_iload_n (n := 12) dX3_reason_11 rfl 2 rfl rfl ?_
    refine aw_iald (n := 13) (v := .int (ms.2.1 11 n)) dX3_reason_12 rfl n rfl hT.a11 (by omega) (by decide) rfl rfl ?_
    refine aw_istore (n := 15) (lv' := [(4, .int (ms.2.1 11 n)), (3, .int (ms.2.1 10 n)), (0, .ref b), (1, .int (nI n)), (2, .int (nI i))]) dX3_reason_13 (by decide) rfl rfl ?_
    refine aw_aload_n (n := 16) dX3_reason_15 rfl 2 rfl rfl ?_
    refine aw_getf (n := 19) (v := .ref (b + 5)) (C0 := RX3) (T := TX3) dX3_reason_16 rfl 9 q2650 (Or.inl rfl) hT.1 rfl rfl ?_
    refine aw_iload_n (n := 20) dX3_reason_19 rfl 3 rfl rfl ?_
    refine aw_iald (n := 21) (v := .int (ms.2.1 9 n)) dX3_reason_20 rfl n rfl hT.a9 (by omega) (by decide) rfl rfl ?_
    refine AW.sts (st' := [.int (nI 0)]) (by rw [show ms.2.1 9 n = nI 0 from hN.2.2.1]) ?_
    refine aw_tableOut (tgt := 120) dX3_reason_21 (by decide) (by decide) ?_
    refine aw_aload_n (n := 121) dX3_reason_120 rfl 2 rfl rfl ?_
    refine aw_getf (n := 124) (v := .ref (b + 5)) (C0 := RX3) (T := TX3) dX3_reason_121 rfl 9 q2650 (Or.inl rfl) hT.1 rfl rfl ?_
    refine aw_iload_n (n := 125) dX3_reason_124 rfl 3 rfl rfl ?_
    refine aw_iald (n := 126) (v := .int (ms.2.1 9 n)) dX3_reason_125 rfl n rfl hT.a9 (by omega) (by decide) rfl rfl ?_
    refine aw_iconst (n := 127) (v := 1) dX3_reason_126 (by decide) rfl ?_
    refine aw_icmp_ne (n := 130) (tgt := 143) dX3_reason_127 (by decide) rfl (fun c_127 => ?_) (fun c_127 => ?_)
    · skip
      refine aw_aload_n (n := 144) dX3_reason_143 rfl 2 rfl rfl ?_
      refine aw_iload_n (n := 145) dX3_reason_144 rfl 4 rfl rfl ?_
      refine aw_tput (n := 148) (k := 39) dX3_reason_145 q2680 (by decide) rfl rfl rfl rfl rfl hT hb rfl rfl (fun h_1 hT_1 hF_1 hz_1 => ?_)
      refine aw_aload_n (n := 149) dX3_reason_148 rfl 2 rfl rfl ?_
      refine aw_getf (n := 152) (v := .ref (b + 11)) (C0 := RX3) (T := TX3) dX3_reason_149 rfl 15 q2656 (Or.inl rfl) hT_1.1 rfl rfl ?_
      refine aw_iload_n (n := 153) dX3_reason_152 rfl 3 rfl rfl ?_
      refine aw_iald (n := 154) (v := .int (ms.2.1 15 n)) dX3_reason_153 rfl n rfl hT_1.a15 (by omega) (by decide) rfl rfl ?_
      have hrs : rsT ms (f + 1) n i = (ms.2.1 15 n, i) := by simp [rsT, ← hk]
      exact aw_iret dX3_reason_154 rfl ⟨by rw [hrs], by rw [hrs]; exact hT_1, hF_1, (by omega)⟩ ⟨Nat.zero_le _, Nat.zero_le _⟩
    · skip
      exact absurd c_127 (by rw [show (ms.2.1 9 n) = nI 0 from hN.2.2.1]; decide +kernel)
  · skip
    have hit : itT ms 1 n (na ms n) (nb ms n) (nc ms n) i = false := by have z := hd_it ht hn hi h14 hh; rw [← hk] at z; exact z
    have ha := (hN.2.2.2.1 (by decide)).1; have hca := hO.2.1 (by rw [← hk]; rfl) (by rw [← hk]; decide)
    have hfa : nk ms (na ms n) < 14 := (hO.2.2.2.2.1 (by rw [← hk]; rfl) (by rw [← hk]; decide)).mpr (Or.inl ⟨by omega, by omega⟩)
    refine aw_aload_n (n := 1) dX3_reason_0 rfl 0 rfl rfl ?_
    refine aw_getf (n := 4) (v := .ref (b + 6)) (C0 := RX3) (T := TX3) dX3_reason_1 rfl 10 q2651 (Or.inl rfl) hT.1 rfl rfl ?_
    refine aw_iload_n (n := 5) dX3_reason_4 rfl 1 rfl rfl ?_
    refine aw_iald (n := 6) (v := .int (ms.2.1 10 n)) dX3_reason_5 rfl n rfl hT.a10 (by omega) (by decide) rfl rfl ?_
    refine aw_istore_n (n := 7) (lv' := [(3, .int (ms.2.1 10 n)), (0, .ref b), (1, .int (nI n)), (2, .int (nI i))]) dX3_reason_6 rfl (by decide) rfl rfl ?_
    refine aw_aload_n (n := 8) dX3_reason_7 rfl 1 rfl rfl ?_
    refine aw_getf (n := 11) (v := .ref (b + 7)) (C0 := RX3) (T := TX3) dX3_reason_8 rfl 11 q2652 (Or.inl rfl) hT.1 rfl rfl ?_
    refine aw_iload_n (n := 12) dX3_reason_11 rfl 2 rfl rfl ?_
    refine aw_iald (n := 13) (v := .int (ms.2.1 11 n)) dX3_reason_12 rfl n rfl hT.a11 (by omega) (by decide) rfl rfl ?_
    refine aw_istore (n := 15) (lv' := [(4, .int (ms.2.1 11 n)), (3, .int (ms.2.1 10 n)), (0, .ref b), (1, .int (nI n)), (2, .int (nI i))]) dX3_reason_13 (by decide) rfl rfl ?_
    refine aw_aload_n (n := 16) dX3_reason_15 rfl 2 rfl rfl ?_
    refine aw_getf (n := 19) (v := .ref (b + 5)) (C0 := RX3) (T := TX3) dX3_reason_16 rfl 9 q2650 (Or.inl rfl) hT.1 rfl rfl ?_
    refine aw_iload_n (n := 20) dX3_reason_19 rfl 3 rfl rfl ?_
    refine aw_iald (n := 21) (v := .int (ms.2.1 9 n)) dX3_reason_20 rfl n rfl hT.a9 (by omega) (by decide) rfl rfl ?_
    refine AW.sts (st' := [.int (nI 1)]) (by rw [show ms.2.1 9 n = nI 1 from hN.2.2.1]) ?_
    refine aw_tableOut (tgt := 120) dX3_reason_21 (by decide) (by decide) ?_
    refine aw_aload_n (n := 121) dX3_reason_120 rfl 2 rfl rfl ?_
    refine aw_getf (n := 124) (v := .ref (b + 5)) (C0 := RX3) (T := TX3) dX3_reason_121 rfl 9 q2650 (Or.inl rfl) hT.1 rfl rfl ?_
    refine aw_iload_n (n := 125) dX3_reason_124 rfl 3 rfl rfl ?_
    refine aw_iald (n := 126) (v := .int (ms.2.1 9 n)) dX3_reason_125 rfl n rfl hT.a9 (by omega) (by decide) rfl rfl ?_
    refine aw_iconst (n := 127) (v := 1) dX3_reason_126 (by decide) rfl ?_
    refine aw_icmp_ne (n := 130) (tgt := 143) dX3_reason_127 (by decide) rfl (fun c_127 => ?_) (fun c_127 => ?_)
    · skip
      exact absurd c_127 (by rw [show (ms.2.1 9 n) = nI 1 from hN.2.2.1]; decide +kernel)
    · skip
      refine aw_iload_n (n := 131) dX3_reason_130 rfl 4 rfl rfl ?_
      refine aw_if_le (n := 134) (tgt := 143) dX3_reason_131 (by decide) rfl (fun c_131 => ?_) (fun c_131 => ?_)
      · skip
        have n_131 : i ≤ 0 := (nI_leI (a := i) (b := 0) (by omega) (by omega)).mp (by rw [← ((by rfl) : (0 : Int32) = nI 0)]; exact c_131)
        refine aw_aload_n (n := 144) dX3_reason_143 rfl 2 rfl rfl ?_
        refine aw_iload_n (n := 145) dX3_reason_144 rfl 4 rfl rfl ?_
        refine aw_tput (n := 148) (k := 39) dX3_reason_145 q2680 (by decide) rfl rfl rfl rfl rfl hT hb rfl rfl (fun h_2 hT_2 hF_2 hz_2 => ?_)
        refine aw_aload_n (n := 149) dX3_reason_148 rfl 2 rfl rfl ?_
        refine aw_getf (n := 152) (v := .ref (b + 11)) (C0 := RX3) (T := TX3) dX3_reason_149 rfl 15 q2656 (Or.inl rfl) hT_2.1 rfl rfl ?_
        refine aw_iload_n (n := 153) dX3_reason_152 rfl 3 rfl rfl ?_
        refine aw_iald (n := 154) (v := .int (ms.2.1 15 n)) dX3_reason_153 rfl n rfl hT_2.a15 (by omega) (by decide) rfl rfl ?_
        have hrs : rsT ms (f + 1) n i = (ms.2.1 15 n, i) := by simp [rsT, ← hk] <;> omega
        exact aw_iret dX3_reason_154 rfl ⟨by rw [hrs], by rw [hrs]; exact hT_2, hF_2, (by omega)⟩ ⟨Nat.zero_le _, Nat.zero_le _⟩
      · skip
        have n_131 : ¬ (i ≤ 0) := fun z => c_131 (by have y := (nI_leI (a := i) (b := 0) (by omega) (by omega)).mpr z; rw [← ((by rfl) : (0 : Int32) = nI 0)] at y; exact y)
        refine aw_aload_n (n := 135) dX3_reason_134 rfl 2 rfl rfl ?_
        refine aw_iload_n (n := 136) dX3_reason_135 rfl 1 rfl rfl ?_
        refine aw_iload_n (n := 137) dX3_reason_136 rfl 4 rfl rfl ?_
        refine aw_iconst (n := 138) (v := 1) dX3_reason_137 (by decide) rfl ?_
        refine aw_isub (n := 139) dX3_reason_138 rfl ?_
        refine AW.sts (st' := [.int (nI (i - 1)), .int (ms.2.1 10 n), .ref b]) (by rw [show (nI i) - 1 = nI (i - 1) from (by exact (pk_sub (b := 1) (by omega)))]) ?_
        refine AW.sts (st' := [.int (nI (i - 1)), .int (nI (na ms n)), .ref b]) (by rw [show ms.2.1 10 n = nI (na ms n) from ha]) ?_
        have hrs : rsT ms (f + 1) n i = rsT ms f (na ms n) (i - 1) := by simp [rsT, ← hk, (show 0 < i by omega)]
        have hnn : hd ms (na ms n) (i - 1) = false := (by have h0 : 0 < i := (by omega); simpa [itT, h0] using hit)
        refine aw_callV (n := 142) (C0 := RX3) (As := [.int (nI (na ms n)), .int (nI (i - 1))]) (rest := []) (K2 := kX3_reason) dX3_reason_139 q3166 q3168 qs103 q113 q3169 ⟨rfl, hcX3_reason⟩ rfl hT.1 (ih (na ms n) (i - 1) (by omega) (by omega) hfa hnn (by omega)) rfl (Nat.le_of_ble_eq_true rfl) ⟨by dsimp only [kX3_reason, kX3_firstMiss, kX3_holds]; omega, by dsimp only [kX3_reason, kX3_firstMiss, kX3_holds]; omega⟩ ⟨Nat.zero_le _, Nat.zero_le _⟩ (fun _ _ _ z => z.elim) rfl (fun r_139 h_139 q_139 => ?_)
        obtain ⟨rfl, hT_139, hF_139, hz_139⟩ := q_139
        refine AW.sts (st' := [.int ((rsT ms f (na ms n) (i - 1)).1)]) rfl ?_
        exact aw_iret dX3_reason_142 rfl ⟨by rw [hrs], by rw [hrs]; exact hT_139, hF_139, (by omega)⟩ ⟨Nat.zero_le _, Nat.zero_le _⟩
  · skip
    have hit : itT ms 2 n (na ms n) (nb ms n) (nc ms n) i = false := by have z := hd_it ht hn hi h14 hh; rw [← hk] at z; exact z
    have ha := (hN.2.2.2.1 (by decide)).1; have hca := hO.2.1 (by rw [← hk]; rfl) (by rw [← hk]; decide)
    have hfa : nk ms (na ms n) < 14 := (hO.2.2.2.2.1 (by rw [← hk]; rfl) (by rw [← hk]; decide)).mpr (Or.inl ⟨by omega, by omega⟩)
    refine aw_aload_n (n := 1) dX3_reason_0 rfl 0 rfl rfl ?_
    refine aw_getf (n := 4) (v := .ref (b + 6)) (C0 := RX3) (T := TX3) dX3_reason_1 rfl 10 q2651 (Or.inl rfl) hT.1 rfl rfl ?_
    refine aw_iload_n (n := 5) dX3_reason_4 rfl 1 rfl rfl ?_
    refine aw_iald (n := 6) (v := .int (ms.2.1 10 n)) dX3_reason_5 rfl n rfl hT.a10 (by omega) (by decide) rfl rfl ?_
    refine aw_istore_n (n := 7) (lv' := [(3, .int (ms.2.1 10 n)), (0, .ref b), (1, .int (nI n)), (2, .int (nI i))]) dX3_reason_6 rfl (by decide) rfl rfl ?_
    refine aw_aload_n (n := 8) dX3_reason_7 rfl 1 rfl rfl ?_
    refine aw_getf (n := 11) (v := .ref (b + 7)) (C0 := RX3) (T := TX3) dX3_reason_8 rfl 11 q2652 (Or.inl rfl) hT.1 rfl rfl ?_
    refine aw_iload_n (n := 12) dX3_reason_11 rfl 2 rfl rfl ?_
    refine aw_iald (n := 13) (v := .int (ms.2.1 11 n)) dX3_reason_12 rfl n rfl hT.a11 (by omega) (by decide) rfl rfl ?_
    refine aw_istore (n := 15) (lv' := [(4, .int (ms.2.1 11 n)), (3, .int (ms.2.1 10 n)), (0, .ref b), (1, .int (nI n)), (2, .int (nI i))]) dX3_reason_13 (by decide) rfl rfl ?_
    refine aw_aload_n (n := 16) dX3_reason_15 rfl 2 rfl rfl ?_
    refine aw_getf (n := 19) (v := .ref (b + 5)) (C0 := RX3) (T := TX3) dX3_reason_16 rfl 9 q2650 (Or.inl rfl) hT.1 rfl rfl ?_
    refine aw_iload_n (n := 20) dX3_reason_19 rfl 3 rfl rfl ?_
    refine aw_iald (n := 21) (v := .int (ms.2.1 9 n)) dX3_reason_20 rfl n rfl hT.a9 (by omega) (by decide) rfl rfl ?_
    refine AW.sts (st' := [.int (nI 2)]) (by rw [show ms.2.1 9 n = nI 2 from hN.2.2.1]) ?_
    refine aw_tableOut (tgt := 120) dX3_reason_21 (by decide) (by decide) ?_
    refine aw_aload_n (n := 121) dX3_reason_120 rfl 2 rfl rfl ?_
    refine aw_getf (n := 124) (v := .ref (b + 5)) (C0 := RX3) (T := TX3) dX3_reason_121 rfl 9 q2650 (Or.inl rfl) hT.1 rfl rfl ?_
    refine aw_iload_n (n := 125) dX3_reason_124 rfl 3 rfl rfl ?_
    refine aw_iald (n := 126) (v := .int (ms.2.1 9 n)) dX3_reason_125 rfl n rfl hT.a9 (by omega) (by decide) rfl rfl ?_
    refine aw_iconst (n := 127) (v := 1) dX3_reason_126 (by decide) rfl ?_
    refine aw_icmp_ne (n := 130) (tgt := 143) dX3_reason_127 (by decide) rfl (fun c_127 => ?_) (fun c_127 => ?_)
    · skip
      refine aw_aload_n (n := 144) dX3_reason_143 rfl 2 rfl rfl ?_
      refine aw_iload_n (n := 145) dX3_reason_144 rfl 4 rfl rfl ?_
      refine aw_tput (n := 148) (k := 39) dX3_reason_145 q2680 (by decide) rfl rfl rfl rfl rfl hT hb rfl rfl (fun h_3 hT_3 hF_3 hz_3 => ?_)
      refine aw_aload_n (n := 149) dX3_reason_148 rfl 2 rfl rfl ?_
      refine aw_getf (n := 152) (v := .ref (b + 11)) (C0 := RX3) (T := TX3) dX3_reason_149 rfl 15 q2656 (Or.inl rfl) hT_3.1 rfl rfl ?_
      refine aw_iload_n (n := 153) dX3_reason_152 rfl 3 rfl rfl ?_
      refine aw_iald (n := 154) (v := .int (ms.2.1 15 n)) dX3_reason_153 rfl n rfl hT_3.a15 (by omega) (by decide) rfl rfl ?_
      have hrs : rsT ms (f + 1) n i = (ms.2.1 15 n, i) := by simp [rsT, ← hk]
      exact aw_iret dX3_reason_154 rfl ⟨by rw [hrs], by rw [hrs]; exact hT_3, hF_3, (by omega)⟩ ⟨Nat.zero_le _, Nat.zero_le _⟩
    · skip
      exact absurd c_127 (by rw [show (ms.2.1 9 n) = nI 2 from hN.2.2.1]; decide +kernel)
  · skip
    have hit : itT ms 3 n (na ms n) (nb ms n) (nc ms n) i = false := by have z := hd_it ht hn hi h14 hh; rw [← hk] at z; exact z
    have ha := (hN.2.2.2.1 (by decide)).1; have hca := hO.2.1 (by rw [← hk]; rfl) (by rw [← hk]; decide)
    have hfa : nk ms (na ms n) < 14 := (hO.2.2.2.2.1 (by rw [← hk]; rfl) (by rw [← hk]; decide)).mpr (Or.inl ⟨by omega, by omega⟩)
    refine aw_aload_n (n := 1) dX3_reason_0 rfl 0 rfl rfl ?_
    refine aw_getf (n := 4) (v := .ref (b + 6)) (C0 := RX3) (T := TX3) dX3_reason_1 rfl 10 q2651 (Or.inl rfl) hT.1 rfl rfl ?_
    refine aw_iload_n (n := 5) dX3_reason_4 rfl 1 rfl rfl ?_
    refine aw_iald (n := 6) (v := .int (ms.2.1 10 n)) dX3_reason_5 rfl n rfl hT.a10 (by omega) (by decide) rfl rfl ?_
    refine aw_istore_n (n := 7) (lv' := [(3, .int (ms.2.1 10 n)), (0, .ref b), (1, .int (nI n)), (2, .int (nI i))]) dX3_reason_6 rfl (by decide) rfl rfl ?_
    refine aw_aload_n (n := 8) dX3_reason_7 rfl 1 rfl rfl ?_
    refine aw_getf (n := 11) (v := .ref (b + 7)) (C0 := RX3) (T := TX3) dX3_reason_8 rfl 11 q2652 (Or.inl rfl) hT.1 rfl rfl ?_
    refine aw_iload_n (n := 12) dX3_reason_11 rfl 2 rfl rfl ?_
    refine aw_iald (n := 13) (v := .int (ms.2.1 11 n)) dX3_reason_12 rfl n rfl hT.a11 (by omega) (by decide) rfl rfl ?_
    refine aw_istore (n := 15) (lv' := [(4, .int (ms.2.1 11 n)), (3, .int (ms.2.1 10 n)), (0, .ref b), (1, .int (nI n)), (2, .int (nI i))]) dX3_reason_13 (by decide) rfl rfl ?_
    refine aw_aload_n (n := 16) dX3_reason_15 rfl 2 rfl rfl ?_
    refine aw_getf (n := 19) (v := .ref (b + 5)) (C0 := RX3) (T := TX3) dX3_reason_16 rfl 9 q2650 (Or.inl rfl) hT.1 rfl rfl ?_
    refine aw_iload_n (n := 20) dX3_reason_19 rfl 3 rfl rfl ?_
    refine aw_iald (n := 21) (v := .int (ms.2.1 9 n)) dX3_reason_20 rfl n rfl hT.a9 (by omega) (by decide) rfl rfl ?_
    refine AW.sts (st' := [.int (nI 3)]) (by rw [show ms.2.1 9 n = nI 3 from hN.2.2.1]) ?_
    refine aw_tableOut (tgt := 120) dX3_reason_21 (by decide) (by decide) ?_
    refine aw_aload_n (n := 121) dX3_reason_120 rfl 2 rfl rfl ?_
    refine aw_getf (n := 124) (v := .ref (b + 5)) (C0 := RX3) (T := TX3) dX3_reason_121 rfl 9 q2650 (Or.inl rfl) hT.1 rfl rfl ?_
    refine aw_iload_n (n := 125) dX3_reason_124 rfl 3 rfl rfl ?_
    refine aw_iald (n := 126) (v := .int (ms.2.1 9 n)) dX3_reason_125 rfl n rfl hT.a9 (by omega) (by decide) rfl rfl ?_
    refine aw_iconst (n := 127) (v := 1) dX3_reason_126 (by decide) rfl ?_
    refine aw_icmp_ne (n := 130) (tgt := 143) dX3_reason_127 (by decide) rfl (fun c_127 => ?_) (fun c_127 => ?_)
    · skip
      refine aw_aload_n (n := 144) dX3_reason_143 rfl 2 rfl rfl ?_
      refine aw_iload_n (n := 145) dX3_reason_144 rfl 4 rfl rfl ?_
      refine aw_tput (n := 148) (k := 39) dX3_reason_145 q2680 (by decide) rfl rfl rfl rfl rfl hT hb rfl rfl (fun h_4 hT_4 hF_4 hz_4 => ?_)
      refine aw_aload_n (n := 149) dX3_reason_148 rfl 2 rfl rfl ?_
      refine aw_getf (n := 152) (v := .ref (b + 11)) (C0 := RX3) (T := TX3) dX3_reason_149 rfl 15 q2656 (Or.inl rfl) hT_4.1 rfl rfl ?_
      refine aw_iload_n (n := 153) dX3_reason_152 rfl 3 rfl rfl ?_
      refine aw_iald (n := 154) (v := .int (ms.2.1 15 n)) dX3_reason_153 rfl n rfl hT_4.a15 (by omega) (by decide) rfl rfl ?_
      have hrs : rsT ms (f + 1) n i = (ms.2.1 15 n, i) := by simp [rsT, ← hk]
      exact aw_iret dX3_reason_154 rfl ⟨by rw [hrs], by rw [hrs]; exact hT_4, hF_4, (by omega)⟩ ⟨Nat.zero_le _, Nat.zero_le _⟩
    · skip
      exact absurd c_127 (by rw [show (ms.2.1 9 n) = nI 3 from hN.2.2.1]; decide +kernel)
  · skip
    have hit : itT ms 4 n (na ms n) (nb ms n) (nc ms n) i = false := by have z := hd_it ht hn hi h14 hh; rw [← hk] at z; exact z
    have ha := (hN.2.2.2.1 (by decide)).1; have hca := hO.2.1 (by rw [← hk]; rfl) (by rw [← hk]; decide)
    have hfa : nk ms (na ms n) < 14 := (hO.2.2.2.2.1 (by rw [← hk]; rfl) (by rw [← hk]; decide)).mpr (Or.inl ⟨by omega, by omega⟩)
    refine aw_aload_n (n := 1) dX3_reason_0 rfl 0 rfl rfl ?_
    refine aw_getf (n := 4) (v := .ref (b + 6)) (C0 := RX3) (T := TX3) dX3_reason_1 rfl 10 q2651 (Or.inl rfl) hT.1 rfl rfl ?_
    refine aw_iload_n (n := 5) dX3_reason_4 rfl 1 rfl rfl ?_
    refine aw_iald (n := 6) (v := .int (ms.2.1 10 n)) dX3_reason_5 rfl n rfl hT.a10 (by omega) (by decide) rfl rfl ?_
    refine aw_istore_n (n := 7) (lv' := [(3, .int (ms.2.1 10 n)), (0, .ref b), (1, .int (nI n)), (2, .int (nI i))]) dX3_reason_6 rfl (by decide) rfl rfl ?_
    refine aw_aload_n (n := 8) dX3_reason_7 rfl 1 rfl rfl ?_
    refine aw_getf (n := 11) (v := .ref (b + 7)) (C0 := RX3) (T := TX3) dX3_reason_8 rfl 11 q2652 (Or.inl rfl) hT.1 rfl rfl ?_
    refine aw_iload_n (n := 12) dX3_reason_11 rfl 2 rfl rfl ?_
    refine aw_iald (n := 13) (v := .int (ms.2.1 11 n)) dX3_reason_12 rfl n rfl hT.a11 (by omega) (by decide) rfl rfl ?_
    refine aw_istore (n := 15) (lv' := [(4, .int (ms.2.1 11 n)), (3, .int (ms.2.1 10 n)), (0, .ref b), (1, .int (nI n)), (2, .int (nI i))]) dX3_reason_13 (by decide) rfl rfl ?_
    refine aw_aload_n (n := 16) dX3_reason_15 rfl 2 rfl rfl ?_
    refine aw_getf (n := 19) (v := .ref (b + 5)) (C0 := RX3) (T := TX3) dX3_reason_16 rfl 9 q2650 (Or.inl rfl) hT.1 rfl rfl ?_
    refine aw_iload_n (n := 20) dX3_reason_19 rfl 3 rfl rfl ?_
    refine aw_iald (n := 21) (v := .int (ms.2.1 9 n)) dX3_reason_20 rfl n rfl hT.a9 (by omega) (by decide) rfl rfl ?_
    refine AW.sts (st' := [.int (nI 4)]) (by rw [show ms.2.1 9 n = nI 4 from hN.2.2.1]) ?_
    refine aw_tableOut (tgt := 120) dX3_reason_21 (by decide) (by decide) ?_
    refine aw_aload_n (n := 121) dX3_reason_120 rfl 2 rfl rfl ?_
    refine aw_getf (n := 124) (v := .ref (b + 5)) (C0 := RX3) (T := TX3) dX3_reason_121 rfl 9 q2650 (Or.inl rfl) hT.1 rfl rfl ?_
    refine aw_iload_n (n := 125) dX3_reason_124 rfl 3 rfl rfl ?_
    refine aw_iald (n := 126) (v := .int (ms.2.1 9 n)) dX3_reason_125 rfl n rfl hT.a9 (by omega) (by decide) rfl rfl ?_
    refine aw_iconst (n := 127) (v := 1) dX3_reason_126 (by decide) rfl ?_
    refine aw_icmp_ne (n := 130) (tgt := 143) dX3_reason_127 (by decide) rfl (fun c_127 => ?_) (fun c_127 => ?_)
    · skip
      refine aw_aload_n (n := 144) dX3_reason_143 rfl 2 rfl rfl ?_
      refine aw_iload_n (n := 145) dX3_reason_144 rfl 4 rfl rfl ?_
      refine aw_tput (n := 148) (k := 39) dX3_reason_145 q2680 (by decide) rfl rfl rfl rfl rfl hT hb rfl rfl (fun h_5 hT_5 hF_5 hz_5 => ?_)
      refine aw_aload_n (n := 149) dX3_reason_148 rfl 2 rfl rfl ?_
      refine aw_getf (n := 152) (v := .ref (b + 11)) (C0 := RX3) (T := TX3) dX3_reason_149 rfl 15 q2656 (Or.inl rfl) hT_5.1 rfl rfl ?_
      refine aw_iload_n (n := 153) dX3_reason_152 rfl 3 rfl rfl ?_
      refine aw_iald (n := 154) (v := .int (ms.2.1 15 n)) dX3_reason_153 rfl n rfl hT_5.a15 (by omega) (by decide) rfl rfl ?_
      have hrs : rsT ms (f + 1) n i = (ms.2.1 15 n, i) := by simp [rsT, ← hk]
      exact aw_iret dX3_reason_154 rfl ⟨by rw [hrs], by rw [hrs]; exact hT_5, hF_5, (by omega)⟩ ⟨Nat.zero_le _, Nat.zero_le _⟩
    · skip
      exact absurd c_127 (by rw [show (ms.2.1 9 n) = nI 4 from hN.2.2.1]; decide +kernel)
  · skip
    have hit : itT ms 5 n (na ms n) (nb ms n) (nc ms n) i = false := by have z := hd_it ht hn hi h14 hh; rw [← hk] at z; exact z
    have ha := (hN.2.2.2.1 (by decide)).1; have hca := hO.2.1 (by rw [← hk]; rfl) (by rw [← hk]; decide)
    have hfa : nk ms (na ms n) < 14 := (hO.2.2.2.2.1 (by rw [← hk]; rfl) (by rw [← hk]; decide)).mpr (Or.inl ⟨by omega, by omega⟩)
    refine aw_aload_n (n := 1) dX3_reason_0 rfl 0 rfl rfl ?_
    refine aw_getf (n := 4) (v := .ref (b + 6)) (C0 := RX3) (T := TX3) dX3_reason_1 rfl 10 q2651 (Or.inl rfl) hT.1 rfl rfl ?_
    refine aw_iload_n (n := 5) dX3_reason_4 rfl 1 rfl rfl ?_
    refine aw_iald (n := 6) (v := .int (ms.2.1 10 n)) dX3_reason_5 rfl n rfl hT.a10 (by omega) (by decide) rfl rfl ?_
    refine aw_istore_n (n := 7) (lv' := [(3, .int (ms.2.1 10 n)), (0, .ref b), (1, .int (nI n)), (2, .int (nI i))]) dX3_reason_6 rfl (by decide) rfl rfl ?_
    refine aw_aload_n (n := 8) dX3_reason_7 rfl 1 rfl rfl ?_
    refine aw_getf (n := 11) (v := .ref (b + 7)) (C0 := RX3) (T := TX3) dX3_reason_8 rfl 11 q2652 (Or.inl rfl) hT.1 rfl rfl ?_
    refine aw_iload_n (n := 12) dX3_reason_11 rfl 2 rfl rfl ?_
    refine aw_iald (n := 13) (v := .int (ms.2.1 11 n)) dX3_reason_12 rfl n rfl hT.a11 (by omega) (by decide) rfl rfl ?_
    refine aw_istore (n := 15) (lv' := [(4, .int (ms.2.1 11 n)), (3, .int (ms.2.1 10 n)), (0, .ref b), (1, .int (nI n)), (2, .int (nI i))]) dX3_reason_13 (by decide) rfl rfl ?_
    refine aw_aload_n (n := 16) dX3_reason_15 rfl 2 rfl rfl ?_
    refine aw_getf (n := 19) (v := .ref (b + 5)) (C0 := RX3) (T := TX3) dX3_reason_16 rfl 9 q2650 (Or.inl rfl) hT.1 rfl rfl ?_
    refine aw_iload_n (n := 20) dX3_reason_19 rfl 3 rfl rfl ?_
    refine aw_iald (n := 21) (v := .int (ms.2.1 9 n)) dX3_reason_20 rfl n rfl hT.a9 (by omega) (by decide) rfl rfl ?_
    refine AW.sts (st' := [.int (nI 5)]) (by rw [show ms.2.1 9 n = nI 5 from hN.2.2.1]) ?_
    refine aw_tableIn (tgt := 101) dX3_reason_21 (by decide) (by decide) (off := 80) (by rfl) (by decide) ?_
    refine aw_aload_n (n := 102) dX3_reason_101 rfl 2 rfl rfl ?_
    refine aw_iload_n (n := 103) dX3_reason_102 rfl 1 rfl rfl ?_
    refine aw_aload_n (n := 104) dX3_reason_103 rfl 2 rfl rfl ?_
    refine aw_iload_n (n := 105) dX3_reason_104 rfl 3 rfl rfl ?_
    refine aw_iload_n (n := 106) dX3_reason_105 rfl 4 rfl rfl ?_
    refine aw_callV (n := 109) (C0 := RX3) (As := [.int (nI n), .int (nI i)]) (rest := [.int (ms.2.1 10 n), .ref b]) (K2 := kX3_firstMiss) dX3_reason_106 q3068 q3070 qs94 q113 q3071 ⟨rfl, hcX3_firstMiss⟩ rfl hT.1 (ct_firstMiss G h b ms hb hT n i (na ms n) (by omega) (by omega) ha (by omega)) rfl (Nat.le_of_ble_eq_true rfl) ⟨by dsimp only [kX3_reason, kX3_firstMiss, kX3_holds]; omega, by dsimp only [kX3_reason, kX3_firstMiss, kX3_holds]; omega⟩ ⟨Nat.zero_le _, Nat.zero_le _⟩ (fun _ _ _ z => z.elim) rfl (fun r_106 h_106 q_106 => ?_)
    obtain ⟨rfl, rfl⟩ := q_106
    obtain ⟨j, hj, hj2, hj3⟩ := fD_in _ _ _ (by simpa [itT, fmT] using hit)
    replace hj : fmT ms n (na ms n) i = nI j := hj
    have hj4 : hd ms (na ms n) j = false := by have z : (!hd ms (na ms n) j && wiT ms n j i) = true := hj3; simp only [Bool.and_eq_true, Bool.not_eq_true'] at z; exact z.1
    refine AW.sts (st' := [.int (fmT ms n (na ms n) i), .int (ms.2.1 10 n), .ref b]) rfl ?_
    refine AW.sts (st' := [.int (nI j), .int (ms.2.1 10 n), .ref b]) (by rw [show fmT ms n (na ms n) i = nI j from hj]) ?_
    refine AW.sts (st' := [.int (nI j), .int (nI (na ms n)), .ref b]) (by rw [show ms.2.1 10 n = nI (na ms n) from ha]) ?_
    have hrs : rsT ms (f + 1) n i = rsT ms f (na ms n) j := by simp [rsT, ← hk, hj, nN_nI (show j < 2 ^ 31 by omega)]
    have hnn : hd ms (na ms n) j = false := hj4
    refine aw_callV (n := 112) (C0 := RX3) (As := [.int (nI (na ms n)), .int (nI j)]) (rest := []) (K2 := kX3_reason) dX3_reason_109 q3166 q3168 qs103 q113 q3169 ⟨rfl, hcX3_reason⟩ rfl hT.1 (ih (na ms n) j (by omega) (by omega) hfa hnn (by omega)) rfl (Nat.le_of_ble_eq_true rfl) ⟨by dsimp only [kX3_reason, kX3_firstMiss, kX3_holds]; omega, by dsimp only [kX3_reason, kX3_firstMiss, kX3_holds]; omega⟩ ⟨Nat.zero_le _, Nat.zero_le _⟩ (fun _ _ _ z => z.elim) rfl (fun r_109 h_109 q_109 => ?_)
    obtain ⟨rfl, hT_109, hF_109, hz_109⟩ := q_109
    refine AW.sts (st' := [.int ((rsT ms f (na ms n) j).1)]) rfl ?_
    exact aw_iret dX3_reason_112 rfl ⟨by rw [hrs], by rw [hrs]; exact hT_109, hF_109, (by omega)⟩ ⟨Nat.zero_le _, Nat.zero_le _⟩
  · skip
    have hit : itT ms 6 n (na ms n) (nb ms n) (nc ms n) i = false := by have z := hd_it ht hn hi h14 hh; rw [← hk] at z; exact z
    refine aw_aload_n (n := 1) dX3_reason_0 rfl 0 rfl rfl ?_
    refine aw_getf (n := 4) (v := .ref (b + 6)) (C0 := RX3) (T := TX3) dX3_reason_1 rfl 10 q2651 (Or.inl rfl) hT.1 rfl rfl ?_
    refine aw_iload_n (n := 5) dX3_reason_4 rfl 1 rfl rfl ?_
    refine aw_iald (n := 6) (v := .int (ms.2.1 10 n)) dX3_reason_5 rfl n rfl hT.a10 (by omega) (by decide) rfl rfl ?_
    refine aw_istore_n (n := 7) (lv' := [(3, .int (ms.2.1 10 n)), (0, .ref b), (1, .int (nI n)), (2, .int (nI i))]) dX3_reason_6 rfl (by decide) rfl rfl ?_
    refine aw_aload_n (n := 8) dX3_reason_7 rfl 1 rfl rfl ?_
    refine aw_getf (n := 11) (v := .ref (b + 7)) (C0 := RX3) (T := TX3) dX3_reason_8 rfl 11 q2652 (Or.inl rfl) hT.1 rfl rfl ?_
    refine aw_iload_n (n := 12) dX3_reason_11 rfl 2 rfl rfl ?_
    refine aw_iald (n := 13) (v := .int (ms.2.1 11 n)) dX3_reason_12 rfl n rfl hT.a11 (by omega) (by decide) rfl rfl ?_
    refine aw_istore (n := 15) (lv' := [(4, .int (ms.2.1 11 n)), (3, .int (ms.2.1 10 n)), (0, .ref b), (1, .int (nI n)), (2, .int (nI i))]) dX3_reason_13 (by decide) rfl rfl ?_
    refine aw_aload_n (n := 16) dX3_reason_15 rfl 2 rfl rfl ?_
    refine aw_getf (n := 19) (v := .ref (b + 5)) (C0 := RX3) (T := TX3) dX3_reason_16 rfl 9 q2650 (Or.inl rfl) hT.1 rfl rfl ?_
    refine aw_iload_n (n := 20) dX3_reason_19 rfl 3 rfl rfl ?_
    refine aw_iald (n := 21) (v := .int (ms.2.1 9 n)) dX3_reason_20 rfl n rfl hT.a9 (by omega) (by decide) rfl rfl ?_
    refine AW.sts (st' := [.int (nI 6)]) (by rw [show ms.2.1 9 n = nI 6 from hN.2.2.1]) ?_
    refine aw_tableIn (tgt := 120) dX3_reason_21 (by decide) (by decide) (off := 99) (by rfl) (by decide) ?_
    refine aw_aload_n (n := 121) dX3_reason_120 rfl 2 rfl rfl ?_
    refine aw_getf (n := 124) (v := .ref (b + 5)) (C0 := RX3) (T := TX3) dX3_reason_121 rfl 9 q2650 (Or.inl rfl) hT.1 rfl rfl ?_
    refine aw_iload_n (n := 125) dX3_reason_124 rfl 3 rfl rfl ?_
    refine aw_iald (n := 126) (v := .int (ms.2.1 9 n)) dX3_reason_125 rfl n rfl hT.a9 (by omega) (by decide) rfl rfl ?_
    refine aw_iconst (n := 127) (v := 1) dX3_reason_126 (by decide) rfl ?_
    refine aw_icmp_ne (n := 130) (tgt := 143) dX3_reason_127 (by decide) rfl (fun c_127 => ?_) (fun c_127 => ?_)
    · skip
      refine aw_aload_n (n := 144) dX3_reason_143 rfl 2 rfl rfl ?_
      refine aw_iload_n (n := 145) dX3_reason_144 rfl 4 rfl rfl ?_
      refine aw_tput (n := 148) (k := 39) dX3_reason_145 q2680 (by decide) rfl rfl rfl rfl rfl hT hb rfl rfl (fun h_6 hT_6 hF_6 hz_6 => ?_)
      refine aw_aload_n (n := 149) dX3_reason_148 rfl 2 rfl rfl ?_
      refine aw_getf (n := 152) (v := .ref (b + 11)) (C0 := RX3) (T := TX3) dX3_reason_149 rfl 15 q2656 (Or.inl rfl) hT_6.1 rfl rfl ?_
      refine aw_iload_n (n := 153) dX3_reason_152 rfl 3 rfl rfl ?_
      refine aw_iald (n := 154) (v := .int (ms.2.1 15 n)) dX3_reason_153 rfl n rfl hT_6.a15 (by omega) (by decide) rfl rfl ?_
      have hrs : rsT ms (f + 1) n i = (ms.2.1 15 n, i) := by simp [rsT, ← hk]
      exact aw_iret dX3_reason_154 rfl ⟨by rw [hrs], by rw [hrs]; exact hT_6, hF_6, (by omega)⟩ ⟨Nat.zero_le _, Nat.zero_le _⟩
    · skip
      exact absurd c_127 (by rw [show (ms.2.1 9 n) = nI 6 from hN.2.2.1]; decide +kernel)
  · skip
    have hit : itT ms 7 n (na ms n) (nb ms n) (nc ms n) i = false := by have z := hd_it ht hn hi h14 hh; rw [← hk] at z; exact z
    refine aw_aload_n (n := 1) dX3_reason_0 rfl 0 rfl rfl ?_
    refine aw_getf (n := 4) (v := .ref (b + 6)) (C0 := RX3) (T := TX3) dX3_reason_1 rfl 10 q2651 (Or.inl rfl) hT.1 rfl rfl ?_
    refine aw_iload_n (n := 5) dX3_reason_4 rfl 1 rfl rfl ?_
    refine aw_iald (n := 6) (v := .int (ms.2.1 10 n)) dX3_reason_5 rfl n rfl hT.a10 (by omega) (by decide) rfl rfl ?_
    refine aw_istore_n (n := 7) (lv' := [(3, .int (ms.2.1 10 n)), (0, .ref b), (1, .int (nI n)), (2, .int (nI i))]) dX3_reason_6 rfl (by decide) rfl rfl ?_
    refine aw_aload_n (n := 8) dX3_reason_7 rfl 1 rfl rfl ?_
    refine aw_getf (n := 11) (v := .ref (b + 7)) (C0 := RX3) (T := TX3) dX3_reason_8 rfl 11 q2652 (Or.inl rfl) hT.1 rfl rfl ?_
    refine aw_iload_n (n := 12) dX3_reason_11 rfl 2 rfl rfl ?_
    refine aw_iald (n := 13) (v := .int (ms.2.1 11 n)) dX3_reason_12 rfl n rfl hT.a11 (by omega) (by decide) rfl rfl ?_
    refine aw_istore (n := 15) (lv' := [(4, .int (ms.2.1 11 n)), (3, .int (ms.2.1 10 n)), (0, .ref b), (1, .int (nI n)), (2, .int (nI i))]) dX3_reason_13 (by decide) rfl rfl ?_
    refine aw_aload_n (n := 16) dX3_reason_15 rfl 2 rfl rfl ?_
    refine aw_getf (n := 19) (v := .ref (b + 5)) (C0 := RX3) (T := TX3) dX3_reason_16 rfl 9 q2650 (Or.inl rfl) hT.1 rfl rfl ?_
    refine aw_iload_n (n := 20) dX3_reason_19 rfl 3 rfl rfl ?_
    refine aw_iald (n := 21) (v := .int (ms.2.1 9 n)) dX3_reason_20 rfl n rfl hT.a9 (by omega) (by decide) rfl rfl ?_
    refine AW.sts (st' := [.int (nI 7)]) (by rw [show ms.2.1 9 n = nI 7 from hN.2.2.1]) ?_
    refine aw_tableIn (tgt := 120) dX3_reason_21 (by decide) (by decide) (off := 99) (by rfl) (by decide) ?_
    refine aw_aload_n (n := 121) dX3_reason_120 rfl 2 rfl rfl ?_
    refine aw_getf (n := 124) (v := .ref (b + 5)) (C0 := RX3) (T := TX3) dX3_reason_121 rfl 9 q2650 (Or.inl rfl) hT.1 rfl rfl ?_
    refine aw_iload_n (n := 125) dX3_reason_124 rfl 3 rfl rfl ?_
    refine aw_iald (n := 126) (v := .int (ms.2.1 9 n)) dX3_reason_125 rfl n rfl hT.a9 (by omega) (by decide) rfl rfl ?_
    refine aw_iconst (n := 127) (v := 1) dX3_reason_126 (by decide) rfl ?_
    refine aw_icmp_ne (n := 130) (tgt := 143) dX3_reason_127 (by decide) rfl (fun c_127 => ?_) (fun c_127 => ?_)
    · skip
      refine aw_aload_n (n := 144) dX3_reason_143 rfl 2 rfl rfl ?_
      refine aw_iload_n (n := 145) dX3_reason_144 rfl 4 rfl rfl ?_
      refine aw_tput (n := 148) (k := 39) dX3_reason_145 q2680 (by decide) rfl rfl rfl rfl rfl hT hb rfl rfl (fun h_7 hT_7 hF_7 hz_7 => ?_)
      refine aw_aload_n (n := 149) dX3_reason_148 rfl 2 rfl rfl ?_
      refine aw_getf (n := 152) (v := .ref (b + 11)) (C0 := RX3) (T := TX3) dX3_reason_149 rfl 15 q2656 (Or.inl rfl) hT_7.1 rfl rfl ?_
      refine aw_iload_n (n := 153) dX3_reason_152 rfl 3 rfl rfl ?_
      refine aw_iald (n := 154) (v := .int (ms.2.1 15 n)) dX3_reason_153 rfl n rfl hT_7.a15 (by omega) (by decide) rfl rfl ?_
      have hrs : rsT ms (f + 1) n i = (ms.2.1 15 n, i) := by simp [rsT, ← hk]
      exact aw_iret dX3_reason_154 rfl ⟨by rw [hrs], by rw [hrs]; exact hT_7, hF_7, (by omega)⟩ ⟨Nat.zero_le _, Nat.zero_le _⟩
    · skip
      exact absurd c_127 (by rw [show (ms.2.1 9 n) = nI 7 from hN.2.2.1]; decide +kernel)
  · skip
    have hit : itT ms 8 n (na ms n) (nb ms n) (nc ms n) i = false := by have z := hd_it ht hn hi h14 hh; rw [← hk] at z; exact z
    have ha := (hN.2.2.2.1 (by decide)).1; have hca := hO.2.1 (by rw [← hk]; rfl) (by rw [← hk]; decide)
    have hfa : nk ms (na ms n) < 14 := (hO.2.2.2.2.1 (by rw [← hk]; rfl) (by rw [← hk]; decide)).mpr (Or.inl ⟨by omega, by omega⟩)
    refine aw_aload_n (n := 1) dX3_reason_0 rfl 0 rfl rfl ?_
    refine aw_getf (n := 4) (v := .ref (b + 6)) (C0 := RX3) (T := TX3) dX3_reason_1 rfl 10 q2651 (Or.inl rfl) hT.1 rfl rfl ?_
    refine aw_iload_n (n := 5) dX3_reason_4 rfl 1 rfl rfl ?_
    refine aw_iald (n := 6) (v := .int (ms.2.1 10 n)) dX3_reason_5 rfl n rfl hT.a10 (by omega) (by decide) rfl rfl ?_
    refine aw_istore_n (n := 7) (lv' := [(3, .int (ms.2.1 10 n)), (0, .ref b), (1, .int (nI n)), (2, .int (nI i))]) dX3_reason_6 rfl (by decide) rfl rfl ?_
    refine aw_aload_n (n := 8) dX3_reason_7 rfl 1 rfl rfl ?_
    refine aw_getf (n := 11) (v := .ref (b + 7)) (C0 := RX3) (T := TX3) dX3_reason_8 rfl 11 q2652 (Or.inl rfl) hT.1 rfl rfl ?_
    refine aw_iload_n (n := 12) dX3_reason_11 rfl 2 rfl rfl ?_
    refine aw_iald (n := 13) (v := .int (ms.2.1 11 n)) dX3_reason_12 rfl n rfl hT.a11 (by omega) (by decide) rfl rfl ?_
    refine aw_istore (n := 15) (lv' := [(4, .int (ms.2.1 11 n)), (3, .int (ms.2.1 10 n)), (0, .ref b), (1, .int (nI n)), (2, .int (nI i))]) dX3_reason_13 (by decide) rfl rfl ?_
    refine aw_aload_n (n := 16) dX3_reason_15 rfl 2 rfl rfl ?_
    refine aw_getf (n := 19) (v := .ref (b + 5)) (C0 := RX3) (T := TX3) dX3_reason_16 rfl 9 q2650 (Or.inl rfl) hT.1 rfl rfl ?_
    refine aw_iload_n (n := 20) dX3_reason_19 rfl 3 rfl rfl ?_
    refine aw_iald (n := 21) (v := .int (ms.2.1 9 n)) dX3_reason_20 rfl n rfl hT.a9 (by omega) (by decide) rfl rfl ?_
    refine AW.sts (st' := [.int (nI 8)]) (by rw [show ms.2.1 9 n = nI 8 from hN.2.2.1]) ?_
    refine aw_tableIn (tgt := 113) dX3_reason_21 (by decide) (by decide) (off := 92) (by rfl) (by decide) ?_
    refine aw_aload_n (n := 114) dX3_reason_113 rfl 2 rfl rfl ?_
    refine aw_iload_n (n := 115) dX3_reason_114 rfl 1 rfl rfl ?_
    refine aw_iload_n (n := 116) dX3_reason_115 rfl 4 rfl rfl ?_
    refine AW.sts (st' := [.int (nI i), .int (nI (na ms n)), .ref b]) (by rw [show ms.2.1 10 n = nI (na ms n) from ha]) ?_
    have hrs : rsT ms (f + 1) n i = rsT ms f (na ms n) i := by simp [rsT, ← hk]
    have hnn : hd ms (na ms n) i = false := hit
    refine aw_callV (n := 119) (C0 := RX3) (As := [.int (nI (na ms n)), .int (nI i)]) (rest := []) (K2 := kX3_reason) dX3_reason_116 q3166 q3168 qs103 q113 q3169 ⟨rfl, hcX3_reason⟩ rfl hT.1 (ih (na ms n) i (by omega) (by omega) hfa hnn (by omega)) rfl (Nat.le_of_ble_eq_true rfl) ⟨by dsimp only [kX3_reason, kX3_firstMiss, kX3_holds]; omega, by dsimp only [kX3_reason, kX3_firstMiss, kX3_holds]; omega⟩ ⟨Nat.zero_le _, Nat.zero_le _⟩ (fun _ _ _ z => z.elim) rfl (fun r_116 h_116 q_116 => ?_)
    obtain ⟨rfl, hT_116, hF_116, hz_116⟩ := q_116
    refine AW.sts (st' := [.int ((rsT ms f (na ms n) i).1)]) rfl ?_
    exact aw_iret dX3_reason_119 rfl ⟨by rw [hrs], by rw [hrs]; exact hT_116, hF_116, (by omega)⟩ ⟨Nat.zero_le _, Nat.zero_le _⟩
  · skip
    have hit : itT ms 9 n (na ms n) (nb ms n) (nc ms n) i = false := by have z := hd_it ht hn hi h14 hh; rw [← hk] at z; exact z
    have ha := (hN.2.2.2.1 (by decide)).1; have hca := hO.2.1 (by rw [← hk]; rfl) (by rw [← hk]; decide)
    have hc := (hN.2.2.2.2.1 (by decide)).1; have hcb := hO.2.2.1 (by rw [← hk]; rfl)
    refine aw_aload_n (n := 1) dX3_reason_0 rfl 0 rfl rfl ?_
    refine aw_getf (n := 4) (v := .ref (b + 6)) (C0 := RX3) (T := TX3) dX3_reason_1 rfl 10 q2651 (Or.inl rfl) hT.1 rfl rfl ?_
    refine aw_iload_n (n := 5) dX3_reason_4 rfl 1 rfl rfl ?_
    refine aw_iald (n := 6) (v := .int (ms.2.1 10 n)) dX3_reason_5 rfl n rfl hT.a10 (by omega) (by decide) rfl rfl ?_
    refine aw_istore_n (n := 7) (lv' := [(3, .int (ms.2.1 10 n)), (0, .ref b), (1, .int (nI n)), (2, .int (nI i))]) dX3_reason_6 rfl (by decide) rfl rfl ?_
    refine aw_aload_n (n := 8) dX3_reason_7 rfl 1 rfl rfl ?_
    refine aw_getf (n := 11) (v := .ref (b + 7)) (C0 := RX3) (T := TX3) dX3_reason_8 rfl 11 q2652 (Or.inl rfl) hT.1 rfl rfl ?_
    refine aw_iload_n (n := 12) dX3_reason_11 rfl 2 rfl rfl ?_
    refine aw_iald (n := 13) (v := .int (ms.2.1 11 n)) dX3_reason_12 rfl n rfl hT.a11 (by omega) (by decide) rfl rfl ?_
    refine aw_istore (n := 15) (lv' := [(4, .int (ms.2.1 11 n)), (3, .int (ms.2.1 10 n)), (0, .ref b), (1, .int (nI n)), (2, .int (nI i))]) dX3_reason_13 (by decide) rfl rfl ?_
    refine aw_aload_n (n := 16) dX3_reason_15 rfl 2 rfl rfl ?_
    refine aw_getf (n := 19) (v := .ref (b + 5)) (C0 := RX3) (T := TX3) dX3_reason_16 rfl 9 q2650 (Or.inl rfl) hT.1 rfl rfl ?_
    refine aw_iload_n (n := 20) dX3_reason_19 rfl 3 rfl rfl ?_
    refine aw_iald (n := 21) (v := .int (ms.2.1 9 n)) dX3_reason_20 rfl n rfl hT.a9 (by omega) (by decide) rfl rfl ?_
    refine AW.sts (st' := [.int (nI 9)]) (by rw [show ms.2.1 9 n = nI 9 from hN.2.2.1]) ?_
    refine aw_tableIn (tgt := 120) dX3_reason_21 (by decide) (by decide) (off := 99) (by rfl) (by decide) ?_
    refine aw_aload_n (n := 121) dX3_reason_120 rfl 2 rfl rfl ?_
    refine aw_getf (n := 124) (v := .ref (b + 5)) (C0 := RX3) (T := TX3) dX3_reason_121 rfl 9 q2650 (Or.inl rfl) hT.1 rfl rfl ?_
    refine aw_iload_n (n := 125) dX3_reason_124 rfl 3 rfl rfl ?_
    refine aw_iald (n := 126) (v := .int (ms.2.1 9 n)) dX3_reason_125 rfl n rfl hT.a9 (by omega) (by decide) rfl rfl ?_
    refine aw_iconst (n := 127) (v := 1) dX3_reason_126 (by decide) rfl ?_
    refine aw_icmp_ne (n := 130) (tgt := 143) dX3_reason_127 (by decide) rfl (fun c_127 => ?_) (fun c_127 => ?_)
    · skip
      refine aw_aload_n (n := 144) dX3_reason_143 rfl 2 rfl rfl ?_
      refine aw_iload_n (n := 145) dX3_reason_144 rfl 4 rfl rfl ?_
      refine aw_tput (n := 148) (k := 39) dX3_reason_145 q2680 (by decide) rfl rfl rfl rfl rfl hT hb rfl rfl (fun h_8 hT_8 hF_8 hz_8 => ?_)
      refine aw_aload_n (n := 149) dX3_reason_148 rfl 2 rfl rfl ?_
      refine aw_getf (n := 152) (v := .ref (b + 11)) (C0 := RX3) (T := TX3) dX3_reason_149 rfl 15 q2656 (Or.inl rfl) hT_8.1 rfl rfl ?_
      refine aw_iload_n (n := 153) dX3_reason_152 rfl 3 rfl rfl ?_
      refine aw_iald (n := 154) (v := .int (ms.2.1 15 n)) dX3_reason_153 rfl n rfl hT_8.a15 (by omega) (by decide) rfl rfl ?_
      have hrs : rsT ms (f + 1) n i = (ms.2.1 15 n, i) := by simp [rsT, ← hk]
      exact aw_iret dX3_reason_154 rfl ⟨by rw [hrs], by rw [hrs]; exact hT_8, hF_8, (by omega)⟩ ⟨Nat.zero_le _, Nat.zero_le _⟩
    · skip
      exact absurd c_127 (by rw [show (ms.2.1 9 n) = nI 9 from hN.2.2.1]; decide +kernel)
  · skip
    have hit : itT ms 10 n (na ms n) (nb ms n) (nc ms n) i = false := by have z := hd_it ht hn hi h14 hh; rw [← hk] at z; exact z
    have ha := (hN.2.2.2.1 (by decide)).1; have hca := hO.2.1 (by rw [← hk]; rfl) (by rw [← hk]; decide)
    have hfa : nk ms (na ms n) < 14 := (hO.2.2.2.2.1 (by rw [← hk]; rfl) (by rw [← hk]; decide)).mpr (Or.inl ⟨by omega, by omega⟩)
    have hc := (hN.2.2.2.2.1 (by decide)).1; have hcb := hO.2.2.1 (by rw [← hk]; rfl)
    have hfb : nk ms (nb ms n) < 14 := (hO.2.2.2.2.2.1 (by rw [← hk]; rfl)).mpr ⟨by omega, by omega⟩
    refine aw_aload_n (n := 1) dX3_reason_0 rfl 0 rfl rfl ?_
    refine aw_getf (n := 4) (v := .ref (b + 6)) (C0 := RX3) (T := TX3) dX3_reason_1 rfl 10 q2651 (Or.inl rfl) hT.1 rfl rfl ?_
    refine aw_iload_n (n := 5) dX3_reason_4 rfl 1 rfl rfl ?_
    refine aw_iald (n := 6) (v := .int (ms.2.1 10 n)) dX3_reason_5 rfl n rfl hT.a10 (by omega) (by decide) rfl rfl ?_
    refine aw_istore_n (n := 7) (lv' := [(3, .int (ms.2.1 10 n)), (0, .ref b), (1, .int (nI n)), (2, .int (nI i))]) dX3_reason_6 rfl (by decide) rfl rfl ?_
    refine aw_aload_n (n := 8) dX3_reason_7 rfl 1 rfl rfl ?_
    refine aw_getf (n := 11) (v := .ref (b + 7)) (C0 := RX3) (T := TX3) dX3_reason_8 rfl 11 q2652 (Or.inl rfl) hT.1 rfl rfl ?_
    refine aw_iload_n (n := 12) dX3_reason_11 rfl 2 rfl rfl ?_
    refine aw_iald (n := 13) (v := .int (ms.2.1 11 n)) dX3_reason_12 rfl n rfl hT.a11 (by omega) (by decide) rfl rfl ?_
    refine aw_istore (n := 15) (lv' := [(4, .int (ms.2.1 11 n)), (3, .int (ms.2.1 10 n)), (0, .ref b), (1, .int (nI n)), (2, .int (nI i))]) dX3_reason_13 (by decide) rfl rfl ?_
    refine aw_aload_n (n := 16) dX3_reason_15 rfl 2 rfl rfl ?_
    refine aw_getf (n := 19) (v := .ref (b + 5)) (C0 := RX3) (T := TX3) dX3_reason_16 rfl 9 q2650 (Or.inl rfl) hT.1 rfl rfl ?_
    refine aw_iload_n (n := 20) dX3_reason_19 rfl 3 rfl rfl ?_
    refine aw_iald (n := 21) (v := .int (ms.2.1 9 n)) dX3_reason_20 rfl n rfl hT.a9 (by omega) (by decide) rfl rfl ?_
    refine AW.sts (st' := [.int (nI 10)]) (by rw [show ms.2.1 9 n = nI 10 from hN.2.2.1]) ?_
    refine aw_tableIn (tgt := 120) dX3_reason_21 (by decide) (by decide) (off := 99) (by rfl) (by decide) ?_
    refine aw_aload_n (n := 121) dX3_reason_120 rfl 2 rfl rfl ?_
    refine aw_getf (n := 124) (v := .ref (b + 5)) (C0 := RX3) (T := TX3) dX3_reason_121 rfl 9 q2650 (Or.inl rfl) hT.1 rfl rfl ?_
    refine aw_iload_n (n := 125) dX3_reason_124 rfl 3 rfl rfl ?_
    refine aw_iald (n := 126) (v := .int (ms.2.1 9 n)) dX3_reason_125 rfl n rfl hT.a9 (by omega) (by decide) rfl rfl ?_
    refine aw_iconst (n := 127) (v := 1) dX3_reason_126 (by decide) rfl ?_
    refine aw_icmp_ne (n := 130) (tgt := 143) dX3_reason_127 (by decide) rfl (fun c_127 => ?_) (fun c_127 => ?_)
    · skip
      refine aw_aload_n (n := 144) dX3_reason_143 rfl 2 rfl rfl ?_
      refine aw_iload_n (n := 145) dX3_reason_144 rfl 4 rfl rfl ?_
      refine aw_tput (n := 148) (k := 39) dX3_reason_145 q2680 (by decide) rfl rfl rfl rfl rfl hT hb rfl rfl (fun h_9 hT_9 hF_9 hz_9 => ?_)
      refine aw_aload_n (n := 149) dX3_reason_148 rfl 2 rfl rfl ?_
      refine aw_getf (n := 152) (v := .ref (b + 11)) (C0 := RX3) (T := TX3) dX3_reason_149 rfl 15 q2656 (Or.inl rfl) hT_9.1 rfl rfl ?_
      refine aw_iload_n (n := 153) dX3_reason_152 rfl 3 rfl rfl ?_
      refine aw_iald (n := 154) (v := .int (ms.2.1 15 n)) dX3_reason_153 rfl n rfl hT_9.a15 (by omega) (by decide) rfl rfl ?_
      have hrs : rsT ms (f + 1) n i = (ms.2.1 15 n, i) := by simp [rsT, ← hk]
      exact aw_iret dX3_reason_154 rfl ⟨by rw [hrs], by rw [hrs]; exact hT_9, hF_9, (by omega)⟩ ⟨Nat.zero_le _, Nat.zero_le _⟩
    · skip
      exact absurd c_127 (by rw [show (ms.2.1 9 n) = nI 10 from hN.2.2.1]; decide +kernel)
  · skip
    have hit : itT ms 11 n (na ms n) (nb ms n) (nc ms n) i = false := by have z := hd_it ht hn hi h14 hh; rw [← hk] at z; exact z
    have ha := (hN.2.2.2.1 (by decide)).1; have hca := hO.2.1 (by rw [← hk]; rfl) (by rw [← hk]; decide)
    have hfa : nk ms (na ms n) < 14 := (hO.2.2.2.2.1 (by rw [← hk]; rfl) (by rw [← hk]; decide)).mpr (Or.inl ⟨by omega, by omega⟩)
    have hc := (hN.2.2.2.2.1 (by decide)).1; have hcb := hO.2.2.1 (by rw [← hk]; rfl)
    have hfb : nk ms (nb ms n) < 14 := (hO.2.2.2.2.2.1 (by rw [← hk]; rfl)).mpr ⟨by omega, by omega⟩
    refine aw_aload_n (n := 1) dX3_reason_0 rfl 0 rfl rfl ?_
    refine aw_getf (n := 4) (v := .ref (b + 6)) (C0 := RX3) (T := TX3) dX3_reason_1 rfl 10 q2651 (Or.inl rfl) hT.1 rfl rfl ?_
    refine aw_iload_n (n := 5) dX3_reason_4 rfl 1 rfl rfl ?_
    refine aw_iald (n := 6) (v := .int (ms.2.1 10 n)) dX3_reason_5 rfl n rfl hT.a10 (by omega) (by decide) rfl rfl ?_
    refine aw_istore_n (n := 7) (lv' := [(3, .int (ms.2.1 10 n)), (0, .ref b), (1, .int (nI n)), (2, .int (nI i))]) dX3_reason_6 rfl (by decide) rfl rfl ?_
    refine aw_aload_n (n := 8) dX3_reason_7 rfl 1 rfl rfl ?_
    refine aw_getf (n := 11) (v := .ref (b + 7)) (C0 := RX3) (T := TX3) dX3_reason_8 rfl 11 q2652 (Or.inl rfl) hT.1 rfl rfl ?_
    refine aw_iload_n (n := 12) dX3_reason_11 rfl 2 rfl rfl ?_
    refine aw_iald (n := 13) (v := .int (ms.2.1 11 n)) dX3_reason_12 rfl n rfl hT.a11 (by omega) (by decide) rfl rfl ?_
    refine aw_istore (n := 15) (lv' := [(4, .int (ms.2.1 11 n)), (3, .int (ms.2.1 10 n)), (0, .ref b), (1, .int (nI n)), (2, .int (nI i))]) dX3_reason_13 (by decide) rfl rfl ?_
    refine aw_aload_n (n := 16) dX3_reason_15 rfl 2 rfl rfl ?_
    refine aw_getf (n := 19) (v := .ref (b + 5)) (C0 := RX3) (T := TX3) dX3_reason_16 rfl 9 q2650 (Or.inl rfl) hT.1 rfl rfl ?_
    refine aw_iload_n (n := 20) dX3_reason_19 rfl 3 rfl rfl ?_
    refine aw_iald (n := 21) (v := .int (ms.2.1 9 n)) dX3_reason_20 rfl n rfl hT.a9 (by omega) (by decide) rfl rfl ?_
    refine AW.sts (st' := [.int (nI 11)]) (by rw [show ms.2.1 9 n = nI 11 from hN.2.2.1]) ?_
    refine aw_tableIn (tgt := 72) dX3_reason_21 (by decide) (by decide) (off := 51) (by rfl) (by decide) ?_
    refine aw_aload_n (n := 73) dX3_reason_72 rfl 2 rfl rfl ?_
    refine aw_aload_n (n := 74) dX3_reason_73 rfl 2 rfl rfl ?_
    refine aw_iload_n (n := 75) dX3_reason_74 rfl 1 rfl rfl ?_
    refine aw_iload_n (n := 76) dX3_reason_75 rfl 4 rfl rfl ?_
    refine AW.sts (st' := [.int (nI i), .int (nI (na ms n)), .ref b, .ref b]) (by rw [show ms.2.1 10 n = nI (na ms n) from ha]) ?_
    refine aw_callV (n := 79) (C0 := RX3) (As := [.int (nI (na ms n)), .int (nI i)]) (rest := [.ref b]) (K2 := kX3_holds) dX3_reason_76 q3056 q3058 qs91 q113 q3059 ⟨rfl, hcX3_holds⟩ rfl hT.1 (ct_holds G h b ms hb hT (na ms n) i (by omega) (by omega)) rfl (Nat.le_of_ble_eq_true rfl) ⟨by dsimp only [kX3_reason, kX3_firstMiss, kX3_holds]; omega, by dsimp only [kX3_reason, kX3_firstMiss, kX3_holds]; omega⟩ ⟨Nat.zero_le _, Nat.zero_le _⟩ (fun _ _ _ z => z.elim) rfl (fun r_76 h_76 q_76 => ?_)
    obtain ⟨rfl, rfl⟩ := q_76
    refine AW.sts (st' := [.int (bI (hd ms (na ms n) i)), .ref b]) rfl ?_
    refine aw_if_eq (n := 82) (tgt := 87) dX3_reason_79 (by decide) rfl (fun c_79 => ?_) (fun c_79 => ?_)
    · skip
      have b_79 : (hd ms (na ms n) i) = false := (bI_0 _).mp c_79
      refine aw_iload_n (n := 88) dX3_reason_87 rfl 1 rfl rfl ?_
      refine aw_iload_n (n := 89) dX3_reason_88 rfl 4 rfl rfl ?_
      refine AW.sts (st' := [.int (nI i), .int (nI (na ms n)), .ref b]) (by rw [show ms.2.1 10 n = nI (na ms n) from ha]) ?_
      have hrs : rsT ms (f + 1) n i = rsT ms f (na ms n) i := by simp [rsT, ← hk, b_79]
      have hnn : hd ms (na ms n) i = false := b_79
      refine aw_callV (n := 92) (C0 := RX3) (As := [.int (nI (na ms n)), .int (nI i)]) (rest := []) (K2 := kX3_reason) dX3_reason_89 q3166 q3168 qs103 q113 q3169 ⟨rfl, hcX3_reason⟩ rfl hT.1 (ih (na ms n) i (by omega) (by omega) hfa hnn (by omega)) rfl (Nat.le_of_ble_eq_true rfl) ⟨by dsimp only [kX3_reason, kX3_firstMiss, kX3_holds]; omega, by dsimp only [kX3_reason, kX3_firstMiss, kX3_holds]; omega⟩ ⟨Nat.zero_le _, Nat.zero_le _⟩ (fun _ _ _ z => z.elim) rfl (fun r_89 h_89 q_89 => ?_)
      obtain ⟨rfl, hT_89, hF_89, hz_89⟩ := q_89
      refine AW.sts (st' := [.int ((rsT ms f (na ms n) i).1)]) rfl ?_
      exact aw_iret dX3_reason_92 rfl ⟨by rw [hrs], by rw [hrs]; exact hT_89, hF_89, (by omega)⟩ ⟨Nat.zero_le _, Nat.zero_le _⟩
    · skip
      have b_79 : (hd ms (na ms n) i) = true := Bool.of_not_eq_false (fun e => c_79 ((bI_0 _).mpr e))
      refine aw_iload (n := 84) dX3_reason_82 0 rfl rfl ?_
      refine aw_goto (tgt := 88) dX3_reason_84 (by decide) ?_
      refine aw_iload_n (n := 89) dX3_reason_88 rfl 4 rfl rfl ?_
      refine AW.sts (st' := [.int (nI i), .int (nI (nb ms n)), .ref b]) (by rw [show ms.2.1 11 n = nI (nb ms n) from hc]) ?_
      have hrs : rsT ms (f + 1) n i = rsT ms f (nb ms n) i := by simp [rsT, ← hk, b_79]
      have hnn : hd ms (nb ms n) i = false := (by have z : (hd ms (na ms n) i && hd ms (nb ms n) i) = false := hit; rw [b_79, Bool.true_and] at z; exact z)
      refine aw_callV (n := 92) (C0 := RX3) (As := [.int (nI (nb ms n)), .int (nI i)]) (rest := []) (K2 := kX3_reason) dX3_reason_89 q3166 q3168 qs103 q113 q3169 ⟨rfl, hcX3_reason⟩ rfl hT.1 (ih (nb ms n) i (by omega) (by omega) hfb hnn (by omega)) rfl (Nat.le_of_ble_eq_true rfl) ⟨by dsimp only [kX3_reason, kX3_firstMiss, kX3_holds]; omega, by dsimp only [kX3_reason, kX3_firstMiss, kX3_holds]; omega⟩ ⟨Nat.zero_le _, Nat.zero_le _⟩ (fun _ _ _ z => z.elim) rfl (fun r_89 h_89 q_89 => ?_)
      obtain ⟨rfl, hT_89, hF_89, hz_89⟩ := q_89
      refine AW.sts (st' := [.int ((rsT ms f (nb ms n) i).1)]) rfl ?_
      exact aw_iret dX3_reason_92 rfl ⟨by rw [hrs], by rw [hrs]; exact hT_89, hF_89, (by omega)⟩ ⟨Nat.zero_le _, Nat.zero_le _⟩
  · skip
    have hit : itT ms 12 n (na ms n) (nb ms n) (nc ms n) i = false := by have z := hd_it ht hn hi h14 hh; rw [← hk] at z; exact z
    have ha := (hN.2.2.2.1 (by decide)).1; have hca := hO.2.1 (by rw [← hk]; rfl) (by rw [← hk]; decide)
    have hfa : nk ms (na ms n) < 14 := (hO.2.2.2.2.1 (by rw [← hk]; rfl) (by rw [← hk]; decide)).mpr (Or.inl ⟨by omega, by omega⟩)
    have hc := (hN.2.2.2.2.1 (by decide)).1; have hcb := hO.2.2.1 (by rw [← hk]; rfl)
    have hfb : nk ms (nb ms n) < 14 := (hO.2.2.2.2.2.1 (by rw [← hk]; rfl)).mpr ⟨by omega, by omega⟩
    refine aw_aload_n (n := 1) dX3_reason_0 rfl 0 rfl rfl ?_
    refine aw_getf (n := 4) (v := .ref (b + 6)) (C0 := RX3) (T := TX3) dX3_reason_1 rfl 10 q2651 (Or.inl rfl) hT.1 rfl rfl ?_
    refine aw_iload_n (n := 5) dX3_reason_4 rfl 1 rfl rfl ?_
    refine aw_iald (n := 6) (v := .int (ms.2.1 10 n)) dX3_reason_5 rfl n rfl hT.a10 (by omega) (by decide) rfl rfl ?_
    refine aw_istore_n (n := 7) (lv' := [(3, .int (ms.2.1 10 n)), (0, .ref b), (1, .int (nI n)), (2, .int (nI i))]) dX3_reason_6 rfl (by decide) rfl rfl ?_
    refine aw_aload_n (n := 8) dX3_reason_7 rfl 1 rfl rfl ?_
    refine aw_getf (n := 11) (v := .ref (b + 7)) (C0 := RX3) (T := TX3) dX3_reason_8 rfl 11 q2652 (Or.inl rfl) hT.1 rfl rfl ?_
    refine aw_iload_n (n := 12) dX3_reason_11 rfl 2 rfl rfl ?_
    refine aw_iald (n := 13) (v := .int (ms.2.1 11 n)) dX3_reason_12 rfl n rfl hT.a11 (by omega) (by decide) rfl rfl ?_
    refine aw_istore (n := 15) (lv' := [(4, .int (ms.2.1 11 n)), (3, .int (ms.2.1 10 n)), (0, .ref b), (1, .int (nI n)), (2, .int (nI i))]) dX3_reason_13 (by decide) rfl rfl ?_
    refine aw_aload_n (n := 16) dX3_reason_15 rfl 2 rfl rfl ?_
    refine aw_getf (n := 19) (v := .ref (b + 5)) (C0 := RX3) (T := TX3) dX3_reason_16 rfl 9 q2650 (Or.inl rfl) hT.1 rfl rfl ?_
    refine aw_iload_n (n := 20) dX3_reason_19 rfl 3 rfl rfl ?_
    refine aw_iald (n := 21) (v := .int (ms.2.1 9 n)) dX3_reason_20 rfl n rfl hT.a9 (by omega) (by decide) rfl rfl ?_
    refine AW.sts (st' := [.int (nI 12)]) (by rw [show ms.2.1 9 n = nI 12 from hN.2.2.1]) ?_
    refine aw_tableIn (tgt := 93) dX3_reason_21 (by decide) (by decide) (off := 72) (by rfl) (by decide) ?_
    refine aw_aload_n (n := 94) dX3_reason_93 rfl 2 rfl rfl ?_
    refine aw_iload (n := 96) dX3_reason_94 0 rfl rfl ?_
    refine aw_iload_n (n := 97) dX3_reason_96 rfl 4 rfl rfl ?_
    refine AW.sts (st' := [.int (nI i), .int (nI (nb ms n)), .ref b]) (by rw [show ms.2.1 11 n = nI (nb ms n) from hc]) ?_
    have hrs : rsT ms (f + 1) n i = rsT ms f (nb ms n) i := by simp [rsT, ← hk]
    have hnn : hd ms (nb ms n) i = false := (Bool.or_eq_false_iff.mp hit).2
    refine aw_callV (n := 100) (C0 := RX3) (As := [.int (nI (nb ms n)), .int (nI i)]) (rest := []) (K2 := kX3_reason) dX3_reason_97 q3166 q3168 qs103 q113 q3169 ⟨rfl, hcX3_reason⟩ rfl hT.1 (ih (nb ms n) i (by omega) (by omega) hfb hnn (by omega)) rfl (Nat.le_of_ble_eq_true rfl) ⟨by dsimp only [kX3_reason, kX3_firstMiss, kX3_holds]; omega, by dsimp only [kX3_reason, kX3_firstMiss, kX3_holds]; omega⟩ ⟨Nat.zero_le _, Nat.zero_le _⟩ (fun _ _ _ z => z.elim) rfl (fun r_97 h_97 q_97 => ?_)
    obtain ⟨rfl, hT_97, hF_97, hz_97⟩ := q_97
    refine AW.sts (st' := [.int ((rsT ms f (nb ms n) i).1)]) rfl ?_
    exact aw_iret dX3_reason_100 rfl ⟨by rw [hrs], by rw [hrs]; exact hT_97, hF_97, (by omega)⟩ ⟨Nat.zero_le _, Nat.zero_le _⟩
  · skip
    have hit : itT ms 13 n (na ms n) (nb ms n) (nc ms n) i = false := by have z := hd_it ht hn hi h14 hh; rw [← hk] at z; exact z
    have ha := (hN.2.2.2.1 (by decide)).1; have hca := hO.2.1 (by rw [← hk]; rfl) (by rw [← hk]; decide)
    have hfa : nk ms (na ms n) < 14 := (hO.2.2.2.2.1 (by rw [← hk]; rfl) (by rw [← hk]; decide)).mpr (Or.inl ⟨by omega, by omega⟩)
    have hc := (hN.2.2.2.2.1 (by decide)).1; have hcb := hO.2.2.1 (by rw [← hk]; rfl)
    have hfb : nk ms (nb ms n) < 14 := (hO.2.2.2.2.2.1 (by rw [← hk]; rfl)).mpr ⟨by omega, by omega⟩
    refine aw_aload_n (n := 1) dX3_reason_0 rfl 0 rfl rfl ?_
    refine aw_getf (n := 4) (v := .ref (b + 6)) (C0 := RX3) (T := TX3) dX3_reason_1 rfl 10 q2651 (Or.inl rfl) hT.1 rfl rfl ?_
    refine aw_iload_n (n := 5) dX3_reason_4 rfl 1 rfl rfl ?_
    refine aw_iald (n := 6) (v := .int (ms.2.1 10 n)) dX3_reason_5 rfl n rfl hT.a10 (by omega) (by decide) rfl rfl ?_
    refine aw_istore_n (n := 7) (lv' := [(3, .int (ms.2.1 10 n)), (0, .ref b), (1, .int (nI n)), (2, .int (nI i))]) dX3_reason_6 rfl (by decide) rfl rfl ?_
    refine aw_aload_n (n := 8) dX3_reason_7 rfl 1 rfl rfl ?_
    refine aw_getf (n := 11) (v := .ref (b + 7)) (C0 := RX3) (T := TX3) dX3_reason_8 rfl 11 q2652 (Or.inl rfl) hT.1 rfl rfl ?_
    refine aw_iload_n (n := 12) dX3_reason_11 rfl 2 rfl rfl ?_
    refine aw_iald (n := 13) (v := .int (ms.2.1 11 n)) dX3_reason_12 rfl n rfl hT.a11 (by omega) (by decide) rfl rfl ?_
    refine aw_istore (n := 15) (lv' := [(4, .int (ms.2.1 11 n)), (3, .int (ms.2.1 10 n)), (0, .ref b), (1, .int (nI n)), (2, .int (nI i))]) dX3_reason_13 (by decide) rfl rfl ?_
    refine aw_aload_n (n := 16) dX3_reason_15 rfl 2 rfl rfl ?_
    refine aw_getf (n := 19) (v := .ref (b + 5)) (C0 := RX3) (T := TX3) dX3_reason_16 rfl 9 q2650 (Or.inl rfl) hT.1 rfl rfl ?_
    refine aw_iload_n (n := 20) dX3_reason_19 rfl 3 rfl rfl ?_
    refine aw_iald (n := 21) (v := .int (ms.2.1 9 n)) dX3_reason_20 rfl n rfl hT.a9 (by omega) (by decide) rfl rfl ?_
    refine AW.sts (st' := [.int (nI 13)]) (by rw [show ms.2.1 9 n = nI 13 from hN.2.2.1]) ?_
    refine aw_tableIn (tgt := 93) dX3_reason_21 (by decide) (by decide) (off := 72) (by rfl) (by decide) ?_
    refine aw_aload_n (n := 94) dX3_reason_93 rfl 2 rfl rfl ?_
    refine aw_iload (n := 96) dX3_reason_94 0 rfl rfl ?_
    refine aw_iload_n (n := 97) dX3_reason_96 rfl 4 rfl rfl ?_
    refine AW.sts (st' := [.int (nI i), .int (nI (nb ms n)), .ref b]) (by rw [show ms.2.1 11 n = nI (nb ms n) from hc]) ?_
    have hrs : rsT ms (f + 1) n i = rsT ms f (nb ms n) i := by simp [rsT, ← hk]
    have hnn : hd ms (nb ms n) i = false := (Bool.or_eq_false_iff.mp hit).2
    refine aw_callV (n := 100) (C0 := RX3) (As := [.int (nI (nb ms n)), .int (nI i)]) (rest := []) (K2 := kX3_reason) dX3_reason_97 q3166 q3168 qs103 q113 q3169 ⟨rfl, hcX3_reason⟩ rfl hT.1 (ih (nb ms n) i (by omega) (by omega) hfb hnn (by omega)) rfl (Nat.le_of_ble_eq_true rfl) ⟨by dsimp only [kX3_reason, kX3_firstMiss, kX3_holds]; omega, by dsimp only [kX3_reason, kX3_firstMiss, kX3_holds]; omega⟩ ⟨Nat.zero_le _, Nat.zero_le _⟩ (fun _ _ _ z => z.elim) rfl (fun r_97 h_97 q_97 => ?_)
    obtain ⟨rfl, hT_97, hF_97, hz_97⟩ := q_97
    refine AW.sts (st' := [.int ((rsT ms f (nb ms n) i).1)]) rfl ?_
    exact aw_iret dX3_reason_100 rfl ⟨by rw [hrs], by rw [hrs]; exact hT_97, hF_97, (by omega)⟩ ⟨Nat.zero_le _, Nat.zero_le _⟩

abbrev kX3_why : aK := (yX3_why, cX3_why, 5, (Option.some Jvm.ClassFile.FieldType.int), [])
theorem hcX3_why : kX3_why.1.cls ≠ "java/lang/invoke/MethodHandle" ∧ kX3_why.1.cls ≠ "java/lang/invoke/VarHandle" ∧ (parseMethodDescriptor kX3_why.1.desc).map (fun d => d.parameters.length) = some 3 := ⟨by decide, by decide, by decide +kernel⟩
theorem ct_why (G : aG) (h : hH) (b : Nat) (ms : tM) (hb : gB G ≤ b) (hT : TW b h ms) (hI : tOK ms) (v i : Int32) (z : Bool) (ht : tbOK ms) : Con G kX3_why [.ref b, .int v, .int i, .int (bI z)] h ((406, 9693, 0, 0), (fun r h1 => r = some (.int (opWhy ms v i z).1) ∧ TW b h1 ((opWhy ms v i z).2) ∧ Fr (TS b) h h1 ∧ h1.1 = h.1), nX) := by
  have := hI.L2; have := hI.S2; have := hI.M0; have := hI.M1; have := hI.M2; have := hI.M3; have := hI.P2; have := hI.K2; have := hI.KM2
  refine Con.of (plainFor_of_name rfl) rfl (Nat.le_of_ble_eq_true rfl) ?_
  refine AW.eq (lv2 := [(0, .ref b), (1, .int v), (2, .int i), (3, .int (bI z))]) (s2 := []) rfl rfl rfl rfl rfl ?_
  refine aw_aload_n (n := 1) dX3_why_0 rfl 0 rfl rfl ?_
  refine aw_iconst (n := 2) (v := 0) dX3_why_1 (by decide) rfl ?_
  refine aw_tput (n := 5) (k := 0) dX3_why_2 q2641 (by decide) rfl rfl rfl rfl rfl hT hb rfl rfl (fun h_1 hT_1 hF_1 hz_1 => ?_)
  refine aw_aload_n (n := 6) dX3_why_5 rfl 0 rfl rfl ?_
  refine aw_iload_n (n := 7) dX3_why_6 rfl 1 rfl rfl ?_
  refine aw_callV (n := 10) (C0 := RX3) (As := [.int v]) (rest := []) (K2 := kX3_isWatch) dX3_why_7 q3146 q3148 qs101 q113 q3149 ⟨rfl, hcX3_isWatch⟩ rfl hT_1.1 (ct_isWatch G h_1 b (tS ms 0 (0 : Int32)) hb hT_1 (tOK.thrown hI _) v) rfl (Nat.le_of_ble_eq_true rfl) ⟨Nat.le_of_ble_eq_true rfl, Nat.le_of_ble_eq_true rfl⟩ ⟨Nat.zero_le _, Nat.zero_le _⟩ (fun _ _ _ z => z.elim) rfl (fun r_7 h_7 q_7 => ?_)
  obtain ⟨rfl, rfl⟩ := q_7
  refine AW.sts (st' := [.int (bI (inS v (Mn ms 3)))]) rfl ?_
  refine aw_if_eq (n := 13) (tgt := 21) dX3_why_10 (by decide) rfl (fun c_10 => ?_) (fun c_10 => ?_)
  · skip
    have b_10 : (inS v (Mn ms 3)) = false := (bI_0 _).mp c_10
    refine aw_aload_n (n := 22) dX3_why_21 rfl 0 rfl rfl ?_
    refine aw_iconst (n := 23) (v := 1) dX3_why_22 (by decide) rfl ?_
    refine aw_callV (n := 26) (C0 := RX3) (As := [.int 1]) (rest := []) (K2 := kX3_no) dX3_why_23 q2773 q2775 qs42 q113 q2776 ⟨rfl, hcX3_no⟩ rfl hT_1.1 (ct_no G h_1 b (tS ms 0 (0 : Int32)) hb hT_1 (1 : Int32)) rfl (Nat.le_of_ble_eq_true rfl) ⟨Nat.le_of_ble_eq_true rfl, Nat.le_of_ble_eq_true rfl⟩ ⟨Nat.zero_le _, Nat.zero_le _⟩ (fun _ _ _ z => z.elim) rfl (fun r_23 h_23 q_23 => ?_)
    obtain ⟨rfl, hT_23, hF_23, hz_23⟩ := q_23
    have hG_23 := Fr.trans hF_1 hF_23
    refine AW.sts (st' := [.int 0]) rfl ?_
    have e9 : opWhy ms v i z = (0, tS (tS ms 0 (0 : Int32)) 0 (1 : Int32)) := by first | (simp [opWhy, c_10, b_10, tS_tS]; done) | simp_all [opWhy, tS_tS]
    exact aw_iret dX3_why_26 rfl ⟨by rw [e9], by rw [e9]; exact hT_23, hG_23, (by omega)⟩ ⟨Nat.zero_le _, Nat.zero_le _⟩
  · skip
    have b_10 : (inS v (Mn ms 3)) = true := Bool.of_not_eq_false (fun e => c_10 ((bI_0 _).mpr e))
    obtain ⟨j, hj, rfl⟩ := inS_of b_10 (by omega)
    refine aw_aload_n (n := 14) dX3_why_13 rfl 0 rfl rfl ?_
    refine aw_iload_n (n := 15) dX3_why_14 rfl 2 rfl rfl ?_
    refine aw_callV (n := 18) (C0 := RX3) (As := [.int i]) (rest := []) (K2 := kX3_isStep) dX3_why_15 q3126 q3128 qs100 q113 q3129 ⟨rfl, hcX3_isStep⟩ rfl hT_1.1 (ct_isStep G h_1 b (tS ms 0 (0 : Int32)) hb hT_1 (tOK.thrown hI _) i) rfl (Nat.le_of_ble_eq_true rfl) ⟨Nat.le_of_ble_eq_true rfl, Nat.le_of_ble_eq_true rfl⟩ ⟨Nat.zero_le _, Nat.zero_le _⟩ (fun _ _ _ z => z.elim) rfl (fun r_15 h_15 q_15 => ?_)
    obtain ⟨rfl, rfl⟩ := q_15
    refine AW.sts (st' := [.int (bI (inS i (Sn ms)))]) rfl ?_
    refine aw_if_ne (n := 21) (tgt := 27) dX3_why_18 (by decide) rfl (fun c_18 => ?_) (fun c_18 => ?_)
    · skip
      have b_18 : (inS i (Sn ms)) = true := Bool.of_not_eq_false (fun e => c_18 ((bI_0 _).mpr e))
      obtain ⟨i9, hi9, rfl⟩ := inS_of b_18 (by omega)
      refine aw_aload_n (n := 28) dX3_why_27 rfl 0 rfl rfl ?_
      refine aw_iload_n (n := 29) dX3_why_28 rfl 1 rfl rfl ?_
      refine aw_iload_n (n := 30) dX3_why_29 rfl 2 rfl rfl ?_
      refine aw_callV (n := 33) (C0 := RX3) (As := [.int (nI j), .int (nI i9)]) (rest := []) (K2 := kX3_watches) dX3_why_30 q3100 q3102 qs99 q113 q3103 ⟨rfl, hcX3_watches⟩ rfl hT_1.1 (ct_watches G h_1 b (tS ms 0 (0 : Int32)) hb hT_1 j i9 (tp ms 3 j) (by omega) (by omega) (hI.T (k := 3) (by decide) (by decide) (by omega)) (by have := hI.T2 (k := 3) (j := j) (by decide) (by decide) (by omega); omega)) rfl (Nat.le_of_ble_eq_true rfl) ⟨Nat.le_of_ble_eq_true rfl, Nat.le_of_ble_eq_true rfl⟩ ⟨Nat.zero_le _, Nat.zero_le _⟩ (fun _ _ _ z => z.elim) rfl (fun r_30 h_30 q_30 => ?_)
      obtain ⟨rfl, rfl⟩ := q_30
      refine AW.sts (st' := [.int (bI (hd ms (tp ms 3 j) i9))]) rfl ?_
      refine aw_if_eq (n := 36) (tgt := 42) dX3_why_33 (by decide) rfl (fun c_33 => ?_) (fun c_33 => ?_)
      · skip
        have b_33 : (hd ms (tp ms 3 j) i9) = false := (bI_0 _).mp c_33
        refine aw_aload_n (n := 43) dX3_why_42 rfl 0 rfl rfl ?_
        refine aw_aload_n (n := 44) dX3_why_43 rfl 0 rfl rfl ?_
        refine aw_getf (n := 47) (v := .ref (b + 18)) (C0 := RX3) (T := TX3) dX3_why_44 rfl 25 q2666 (Or.inl rfl) hT_1.1 rfl rfl ?_
        refine aw_bipush (n := 49) (v := 36) dX3_why_47 (by decide) rfl ?_
        refine aw_iload_n (n := 50) dX3_why_49 rfl 1 rfl rfl ?_
        refine aw_iadd (n := 51) dX3_why_50 rfl ?_
        refine aw_iald (n := 52) (v := .int (ms.2.1 25 (36 + j))) dX3_why_51 rfl (36 + j) (by rw [show 36 = nI 36 from (by rfl), show nI j = nI j from rfl]; exact nI_add _ _) hT_1.a25 (by omega) (by decide) rfl rfl ?_
        refine aw_iload_n (n := 53) dX3_why_52 rfl 2 rfl rfl ?_
        refine AW.sts (st' := [.int (nI i9), .int (nI (tp ms 3 j)), .ref b]) (by rw [show ms.2.1 25 (36 + j) = nI (tp ms 3 j) from (hI.T (k := 3) (by decide) (by decide) (by omega))]) ?_
        refine aw_callV (n := 56) (C0 := RX3) (As := [.int (nI (tp ms 3 j)), .int (nI i9)]) (rest := []) (K2 := kX3_reason) dX3_why_53 q3166 q3168 qs103 q113 q3169 ⟨rfl, hcX3_reason⟩ rfl hT_1.1 (ct_reason G h_1 b (tS ms 0 (0 : Int32)) hb hT_1 (tOK.thrown hI _) ht 400 (tp ms 3 j) i9 (hI.T2 (k := 3) (j := j) (by decide) (by decide) (by omega)) hi9 ((hI.T3 (k := 3) (j := j) (by decide) (by decide) (by omega)).mpr (by decide)) b_33 (by have := hI.T2 (k := 3) (j := j) (by decide) (by decide) (by omega); omega)) rfl (Nat.le_of_ble_eq_true rfl) ⟨Nat.le_of_ble_eq_true rfl, Nat.le_of_ble_eq_true rfl⟩ ⟨Nat.zero_le _, Nat.zero_le _⟩ (fun _ _ _ z => z.elim) rfl (fun r_53 h_53 q_53 => ?_)
        obtain ⟨rfl, hT_53, hF_53, hz_53⟩ := q_53
        have hG_53 := Fr.trans hF_1 hF_53
        refine AW.sts (st' := [.int ((rsT (tS ms 0 0) 400 (tp ms 3 j) i9).1)]) rfl ?_
        refine aw_istore (n := 58) (lv' := [(4, .int ((rsT (tS ms 0 0) 400 (tp ms 3 j) i9).1)), (0, .ref b), (1, .int (nI j)), (2, .int (nI i9)), (3, .int (bI z))]) dX3_why_56 (by decide) rfl rfl ?_
        refine aw_iload_n (n := 59) dX3_why_58 rfl 4 rfl rfl ?_
        refine aw_if_eq (n := 62) (tgt := 69) dX3_why_59 (by decide) rfl (fun c_59 => ?_) (fun c_59 => ?_)
        · skip
          have b_59 : z = false := (bI_0 _).mp c_59
          refine aw_iload (n := 71) dX3_why_69 0 rfl rfl ?_
          have e9 : opWhy ms (nI j) (nI i9) z = ((rsT (tS ms 0 0) 400 (tp ms 3 j) i9).1, tS (tS ms 0 (0 : Int32)) 39 (nI (rsT (tS ms 0 0) 400 (tp ms 3 j) i9).2)) := by first | (simp [opWhy, c_10, b_10, c_18, b_18, b_33, c_33, b_59, c_59, nN_nI (show j < 2 ^ 31 by omega), nN_nI (show i9 < 2 ^ 31 by omega), tS_tS]; done) | simp_all [opWhy, nN_nI (show j < 2 ^ 31 by omega), nN_nI (show i9 < 2 ^ 31 by omega), tS_tS]
          exact aw_iret dX3_why_71 rfl ⟨by rw [e9], by rw [e9]; exact hT_53, hG_53, (by omega)⟩ ⟨Nat.zero_le _, Nat.zero_le _⟩
        · skip
          have b_59 : z = true := Bool.of_not_eq_false (fun e => c_59 ((bI_0 _).mpr e))
          refine aw_aload_n (n := 63) dX3_why_62 rfl 1 rfl rfl ?_
          refine aw_getf (n := 66) (v := .int (nI (rsT (tS ms 0 0) 400 (tp ms 3 j) i9).2)) (C0 := RX3) (T := TX3) dX3_why_63 rfl 39 q2680 (Or.inl rfl) hT_53.1 rfl rfl ?_
          refine aw_goto (tgt := 71) dX3_why_66 (by decide) ?_
          have e9 : opWhy ms (nI j) (nI i9) z = (nI (rsT (tS ms 0 0) 400 (tp ms 3 j) i9).2, tS (tS ms 0 (0 : Int32)) 39 (nI (rsT (tS ms 0 0) 400 (tp ms 3 j) i9).2)) := by first | (simp [opWhy, c_10, b_10, c_18, b_18, b_33, c_33, b_59, c_59, nN_nI (show j < 2 ^ 31 by omega), nN_nI (show i9 < 2 ^ 31 by omega), tS_tS]; done) | simp_all [opWhy, nN_nI (show j < 2 ^ 31 by omega), nN_nI (show i9 < 2 ^ 31 by omega), tS_tS]
          exact aw_iret dX3_why_71 rfl ⟨by rw [e9], by rw [e9]; exact hT_53, hG_53, (by omega)⟩ ⟨Nat.zero_le _, Nat.zero_le _⟩
      · skip
        have b_33 : (hd ms (tp ms 3 j) i9) = true := Bool.of_not_eq_false (fun e => c_33 ((bI_0 _).mpr e))
        refine aw_aload_n (n := 37) dX3_why_36 rfl 0 rfl rfl ?_
        refine aw_iconst (n := 38) (v := 2) dX3_why_37 (by decide) rfl ?_
        refine aw_callV (n := 41) (C0 := RX3) (As := [.int 2]) (rest := []) (K2 := kX3_no) dX3_why_38 q2773 q2775 qs42 q113 q2776 ⟨rfl, hcX3_no⟩ rfl hT_1.1 (ct_no G h_1 b (tS ms 0 (0 : Int32)) hb hT_1 (2 : Int32)) rfl (Nat.le_of_ble_eq_true rfl) ⟨Nat.le_of_ble_eq_true rfl, Nat.le_of_ble_eq_true rfl⟩ ⟨Nat.zero_le _, Nat.zero_le _⟩ (fun _ _ _ z => z.elim) rfl (fun r_38 h_38 q_38 => ?_)
        obtain ⟨rfl, hT_38, hF_38, hz_38⟩ := q_38
        have hG_38 := Fr.trans hF_1 hF_38
        refine AW.sts (st' := [.int 0]) rfl ?_
        have e9 : opWhy ms (nI j) (nI i9) z = (0, tS (tS ms 0 (0 : Int32)) 0 (2 : Int32)) := by first | (simp [opWhy, c_10, b_10, c_18, b_18, b_33, c_33, nN_nI (show j < 2 ^ 31 by omega), nN_nI (show i9 < 2 ^ 31 by omega), tS_tS]; done) | simp_all [opWhy, nN_nI (show j < 2 ^ 31 by omega), nN_nI (show i9 < 2 ^ 31 by omega), tS_tS]
        exact aw_iret dX3_why_41 rfl ⟨by rw [e9], by rw [e9]; exact hT_38, hG_38, (by omega)⟩ ⟨Nat.zero_le _, Nat.zero_le _⟩
    · skip
      have b_18 : (inS i (Sn ms)) = false := (bI_0 _).mp c_18
      refine aw_aload_n (n := 22) dX3_why_21 rfl 0 rfl rfl ?_
      refine aw_iconst (n := 23) (v := 1) dX3_why_22 (by decide) rfl ?_
      refine aw_callV (n := 26) (C0 := RX3) (As := [.int 1]) (rest := []) (K2 := kX3_no) dX3_why_23 q2773 q2775 qs42 q113 q2776 ⟨rfl, hcX3_no⟩ rfl hT_1.1 (ct_no G h_1 b (tS ms 0 (0 : Int32)) hb hT_1 (1 : Int32)) rfl (Nat.le_of_ble_eq_true rfl) ⟨Nat.le_of_ble_eq_true rfl, Nat.le_of_ble_eq_true rfl⟩ ⟨Nat.zero_le _, Nat.zero_le _⟩ (fun _ _ _ z => z.elim) rfl (fun r_23 h_23 q_23 => ?_)
      obtain ⟨rfl, hT_23, hF_23, hz_23⟩ := q_23
      have hG_23 := Fr.trans hF_1 hF_23
      refine AW.sts (st' := [.int 0]) rfl ?_
      have e9 : opWhy ms (nI j) i z = (0, tS (tS ms 0 (0 : Int32)) 0 (1 : Int32)) := by first | (simp [opWhy, c_10, b_10, c_18, b_18, nN_nI (show j < 2 ^ 31 by omega), tS_tS]; done) | simp_all [opWhy, nN_nI (show j < 2 ^ 31 by omega), tS_tS]
      exact aw_iret dX3_why_26 rfl ⟨by rw [e9], by rw [e9]; exact hT_23, hG_23, (by omega)⟩ ⟨Nat.zero_le _, Nat.zero_le _⟩

end
