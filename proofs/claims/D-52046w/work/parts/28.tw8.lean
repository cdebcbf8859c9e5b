/-! The twin: digest. -/
section
set_option maxRecDepth 100000
abbrev kX3_digest : aK := (yX3_digest, cX3_digest, 5, (Option.some Jvm.ClassFile.FieldType.long), [])
theorem hcX3_digest : kX3_digest.1.cls ≠ "java/lang/invoke/MethodHandle" ∧ kX3_digest.1.cls ≠ "java/lang/invoke/VarHandle" ∧ (parseMethodDescriptor kX3_digest.1.desc).map (fun d => d.parameters.length) = some 0 := ⟨by decide, by decide, by decide +kernel⟩
theorem ct_digest (G : aG) (h : hH) (b : Nat) (ms : tM) (hb : gB G ≤ b) (hT : TW b h ms) (hI : tOK ms) : Con G kX3_digest [.ref b] h ((5, 94, 0, 0), (fun r h1 => r = some (.long (digT ms)) ∧ TW b h1 (tS ms 0 0) ∧ Fr (TS b) h h1 ∧ h1.1 = h.1), nX) := by
  have := hI.L2; have := hI.S2; have := hI.M0; have := hI.M1; have := hI.M2; have := hI.M3; have := hI.P2; have := hI.K2; have := hI.KM2
  refine Con.of (plainFor_of_name rfl) rfl (Nat.le_of_ble_eq_true rfl) ?_
  refine AW.eq (lv2 := [(0, .ref b)]) (s2 := []) rfl rfl rfl rfl rfl ?_
  refine aw_aload_n (n := 1) dX3_digest_0 rfl 0 rfl rfl ?_
  refine aw_iconst (n := 2) (v := 0) dX3_digest_1 (by decide) rfl ?_
  refine aw_tput (n := 5) (k := 0) dX3_digest_2 q2641 (by decide) rfl rfl rfl rfl rfl hT hb rfl rfl (fun h_1 hT_1 hF_1 hz_1 => ?_)
  refine aw_ldc2 (n := 8) (v := 383) dX3_digest_5 q3200 rfl ?_
  refine aw_lstore_n (n := 9) (lv' := [(1, .long 383), (0, .ref b)]) dX3_digest_8 rfl (by decide) rfl rfl ?_
  refine aw_iconst (n := 10) (v := 0) dX3_digest_9 (by decide) rfl ?_
  refine aw_istore_n (n := 11) (lv' := [(3, .int 0), (1, .long 383), (0, .ref b)]) dX3_digest_10 rfl (by decide) rfl rfl ?_
  suffices L_11 : ∀ (m_ : Nat) (c1 : Nat) (hc1 : c1 ≤ 7), 7 - c1 < m_ → AW G kX3_digest ((5, 94, 0, 0), (fun r h1 => r = some (.long (digT ms)) ∧ TW b h1 (tS ms 0 0) ∧ Fr (TS b) h h1 ∧ h1.1 = h.1), nX) 11 [(3, .int (nI c1)), (1, .long (dgU (fun k => (cntT ms k).toInt64) 383 c1)), (0, .ref b)] [] h_1 0 0 from
    AW.lvs (lv' := [(3, .int 0), (1, .long 383), (0, .ref b)]) (AW.eq (lv2 := _) (rfl) rfl rfl rfl rfl (L_11 _ 0 (by omega) (Nat.lt_succ_self _))) (by simp)
  intro m_
  induction m_ with
  | zero => intro c1 hc1 h_m; exact absurd h_m (Nat.not_lt_zero _)
  | succ m_ ih_11 =>
    intro c1 hc1 h_m
    refine aw_iload_n (n := 12) dX3_digest_11 rfl 0 rfl rfl ?_
    refine aw_bipush (n := 14) (v := 7) dX3_digest_12 (by decide) rfl ?_
    refine aw_icmp_ge (n := 17) (tgt := 36) dX3_digest_14 (by decide) rfl (fun c_14 => ?_) (fun c_14 => ?_)
    · skip
      have n_14 : 7 ≤ c1 := (nI_leI (a := 7) (b := c1) (by omega) (by omega)).mp (by rw [← ((by rfl) : (7 : Int32) = nI 7)]; exact c_14)
      have e_14 : c1 = 7 := by omega
      subst e_14
      refine aw_iconst (n := 37) (v := 0) dX3_digest_36 (by decide) rfl ?_
      refine aw_istore_n (n := 38) (lv' := [(3, .int 0), (1, .long (dgU (fun k => (cntT ms k).toInt64) 383 7)), (0, .ref b)]) dX3_digest_37 rfl (by decide) rfl rfl ?_
      suffices L_38 : ∀ (m_ : Nat) (c2 : Nat) (hc2 : c2 ≤ Sn ms), Sn ms - c2 < m_ → AW G kX3_digest ((5, 94, 0, 0), (fun r h1 => r = some (.long (digT ms)) ∧ TW b h1 (tS ms 0 0) ∧ Fr (TS b) h h1 ∧ h1.1 = h.1), nX) 38 [(3, .int (nI c2)), (1, .long (dgS ms (dgU (fun k => (cntT ms k).toInt64) 383 7) c2)), (0, .ref b)] [] h_1 0 0 from
        AW.lvs (lv' := [(3, .int 0), (1, .long (dgU (fun k => (cntT ms k).toInt64) 383 7)), (0, .ref b)]) (AW.eq (lv2 := _) (rfl) rfl rfl rfl rfl (L_38 _ 0 (by omega) (Nat.lt_succ_self _))) (by simp)
      intro m_
      induction m_ with
      | zero => intro c2 hc2 h_m; exact absurd h_m (Nat.not_lt_zero _)
      | succ m_ ih_38 =>
        intro c2 hc2 h_m
        refine aw_iload_n (n := 39) dX3_digest_38 rfl 0 rfl rfl ?_
        refine aw_aload_n (n := 40) dX3_digest_39 rfl 2 rfl rfl ?_
        refine aw_getf (n := 43) (v := .int (nI (Sn ms))) (C0 := RX3) (T := TX3) dX3_digest_40 rfl 29 q2670 (Or.inl rfl) hT_1.1 (congrArg some (congrArg Value.int hI.S)) rfl ?_
        refine aw_icmp_ge (n := 46) (tgt := 231) dX3_digest_43 (by decide) rfl (fun c_43 => ?_) (fun c_43 => ?_)
        · skip
          have n_43 : (Sn ms) ≤ c2 := (nI_leI (a := (Sn ms)) (b := c2) (by omega) (by omega)).mp (by exact c_43)
          have e_43 : c2 = Sn ms := by omega
          subst e_43
          refine aw_iconst (n := 232) (v := 0) dX3_digest_231 (by decide) rfl ?_
          refine aw_istore_n (n := 233) (lv' := [(3, .int 0), (1, .long (dgS ms (dgU (fun k => (cntT ms k).toInt64) 383 7) (Sn ms))), (0, .ref b)]) dX3_digest_232 rfl (by decide) rfl rfl ?_
          suffices L_233 : ∀ (m_ : Nat) (c7 : Nat) (hc7 : c7 ≤ Mn ms 3), Mn ms 3 - c7 < m_ → AW G kX3_digest ((5, 94, 0, 0), (fun r h1 => r = some (.long (digT ms)) ∧ TW b h1 (tS ms 0 0) ∧ Fr (TS b) h h1 ∧ h1.1 = h.1), nX) 233 [(3, .int (nI c7)), (1, .long (dgW ms (dgS ms (dgU (fun k => (cntT ms k).toInt64) 383 7) (Sn ms)) c7)), (0, .ref b)] [] h_1 0 0 from
            AW.lvs (lv' := [(3, .int 0), (1, .long (dgS ms (dgU (fun k => (cntT ms k).toInt64) 383 7) (Sn ms))), (0, .ref b)]) (AW.eq (lv2 := _) (rfl) rfl rfl rfl rfl (L_233 _ 0 (by omega) (Nat.lt_succ_self _))) (by simp)
          intro m_
          induction m_ with
          | zero => intro c7 hc7 h_m; exact absurd h_m (Nat.not_lt_zero _)
          | succ m_ ih_233 =>
            intro c7 hc7 h_m
            refine aw_iload_n (n := 234) dX3_digest_233 rfl 0 rfl rfl ?_
            refine aw_aload_n (n := 235) dX3_digest_234 rfl 2 rfl rfl ?_
            refine aw_getf (n := 238) (v := .ref (b + 16)) (C0 := RX3) (T := TX3) dX3_digest_235 rfl 23 q2664 (Or.inl rfl) hT_1.1 rfl rfl ?_
            refine aw_iconst (n := 239) (v := 3) dX3_digest_238 (by decide) rfl ?_
            refine aw_iald (n := 240) (v := .int (ms.2.1 23 3)) dX3_digest_239 rfl 3 (by rfl) hT_1.a23 (by omega) (by decide) rfl rfl ?_
            refine aw_icmp_ge (n := 243) (tgt := 279) dX3_digest_240 (by decide) rfl (fun c_240 => ?_) (fun c_240 => ?_)
            · skip
              have n_240 : (Mn ms 3) ≤ c7 := (nI_leI (a := (Mn ms 3)) (b := c7) (by omega) (by omega)).mp (by rw [← ((hI.M (by decide)) : (ms.2.1 23 3) = nI (Mn ms 3))]; exact c_240)
              have e_240 : c7 = Mn ms 3 := by omega
              subst e_240
              refine aw_iconst (n := 280) (v := 0) dX3_digest_279 (by decide) rfl ?_
              refine aw_istore_n (n := 281) (lv' := [(3, .int 0), (1, .long (dgW ms (dgS ms (dgU (fun k => (cntT ms k).toInt64) 383 7) (Sn ms)) (Mn ms 3))), (0, .ref b)]) dX3_digest_280 rfl (by decide) rfl rfl ?_
              suffices L_281 : ∀ (m_ : Nat) (c9 : Nat) (hc9 : c9 ≤ Mn ms 0), Mn ms 0 - c9 < m_ → AW G kX3_digest ((5, 94, 0, 0), (fun r h1 => r = some (.long (digT ms)) ∧ TW b h1 (tS ms 0 0) ∧ Fr (TS b) h h1 ∧ h1.1 = h.1), nX) 281 [(3, .int (nI c9)), (1, .long (dgU (fun w => ms.2.2 32 w) (dgW ms (dgS ms (dgU (fun k => (cntT ms k).toInt64) 383 7) (Sn ms)) (Mn ms 3)) c9)), (0, .ref b)] [] h_1 0 0 from
                AW.lvs (lv' := [(3, .int 0), (1, .long (dgW ms (dgS ms (dgU (fun k => (cntT ms k).toInt64) 383 7) (Sn ms)) (Mn ms 3))), (0, .ref b)]) (AW.eq (lv2 := _) (rfl) rfl rfl rfl rfl (L_281 _ 0 (by omega) (Nat.lt_succ_self _))) (by simp)
              intro m_
              induction m_ with
              | zero => intro c9 hc9 h_m; exact absurd h_m (Nat.not_lt_zero _)
              | succ m_ ih_281 =>
                intro c9 hc9 h_m
                refine aw_iload_n (n := 282) dX3_digest_281 rfl 0 rfl rfl ?_
                refine aw_aload_n (n := 283) dX3_digest_282 rfl 2 rfl rfl ?_
                refine aw_getf (n := 286) (v := .ref (b + 16)) (C0 := RX3) (T := TX3) dX3_digest_283 rfl 23 q2664 (Or.inl rfl) hT_1.1 rfl rfl ?_
                refine aw_iconst (n := 287) (v := 0) dX3_digest_286 (by decide) rfl ?_
                refine aw_iald (n := 288) (v := .int (ms.2.1 23 0)) dX3_digest_287 rfl 0 (by rfl) hT_1.a23 (by omega) (by decide) rfl rfl ?_
                refine aw_icmp_ge (n := 291) (tgt := 310) dX3_digest_288 (by decide) rfl (fun c_288 => ?_) (fun c_288 => ?_)
                · skip
                  have n_288 : (Mn ms 0) ≤ c9 := (nI_leI (a := (Mn ms 0)) (b := c9) (by omega) (by omega)).mp (by rw [← ((hI.M (by decide)) : (ms.2.1 23 0) = nI (Mn ms 0))]; exact c_288)
                  have e_288 : c9 = Mn ms 0 := by omega
                  subst e_288
                  refine aw_lload_n (n := 311) dX3_digest_310 rfl 1 rfl rfl ?_
                  exact aw_lret dX3_digest_311 rfl ⟨rfl, hT_1, hF_1, (by omega)⟩ ⟨Nat.zero_le _, Nat.zero_le _⟩
                · skip
                  have n_288 : ¬ ((Mn ms 0) ≤ c9) := fun z => c_288 (by have y := (nI_leI (a := (Mn ms 0)) (b := c9) (by omega) (by omega)).mpr z; rw [← ((hI.M (by decide)) : (ms.2.1 23 0) = nI (Mn ms 0))] at y; exact y)
                  refine aw_lload_n (n := 292) dX3_digest_291 rfl 1 rfl rfl ?_
                  refine aw_ldc2 (n := 295) (v := 31) dX3_digest_292 q3201 rfl ?_
                  refine aw_lmul (n := 296) dX3_digest_295 rfl ?_
                  refine aw_aload_n (n := 297) dX3_digest_296 rfl 2 rfl rfl ?_
                  refine aw_getf (n := 300) (v := .ref (b + 22)) (C0 := RX3) (T := TX3) dX3_digest_297 rfl 32 q2673 (Or.inl rfl) hT_1.1 rfl rfl ?_
                  refine aw_iload_n (n := 301) dX3_digest_300 rfl 0 rfl rfl ?_
                  refine aw_lald (n := 302) (v := .long (ms.2.2 32 c9)) dX3_digest_301 rfl c9 rfl hT_1.a32 (by omega) (by decide) rfl rfl ?_
                  refine aw_ladd (n := 303) dX3_digest_302 rfl ?_
                  refine aw_lstore_n (n := 304) (lv' := [(1, .long (((dgU (fun w => ms.2.2 32 w) (dgW ms (dgS ms (dgU (fun k => (cntT ms k).toInt64) 383 7) (Sn ms)) (Mn ms 3)) c9) * 31) + (ms.2.2 32 c9))), (3, .int (nI c9)), (0, .ref b)]) dX3_digest_303 rfl (by decide) rfl rfl ?_
                  refine aw_iinc (n := 307) (v := nI (c9 + 1)) (lv' := [(3, .int (nI (c9 + 1))), (1, .long (((dgU (fun w => ms.2.2 32 w) (dgW ms (dgS ms (dgU (fun k => (cntT ms k).toInt64) 383 7) (Sn ms)) (Mn ms 3)) c9) * 31) + (ms.2.2 32 c9))), (0, .ref b)]) dX3_digest_304 1 rfl (by rw [show nI c9 = nI c9 from rfl]; exact nI_1 _) (by decide) rfl rfl ?_
                  refine aw_goto (tgt := 281) dX3_digest_307 (by decide) ?_
                  exact AW.lvs (lv' := [(3, .int (nI (c9 + 1))), (1, .long (((dgU (fun w => ms.2.2 32 w) (dgW ms (dgS ms (dgU (fun k => (cntT ms k).toInt64) 383 7) (Sn ms)) (Mn ms 3)) c9) * 31) + (ms.2.2 32 c9))), (0, .ref b)]) (AW.eq (lv2 := _) (rfl) rfl rfl rfl rfl (ih_281 (c9 + 1) (by omega) (by omega))) (by simp)
            · skip
              have n_240 : ¬ ((Mn ms 3) ≤ c7) := fun z => c_240 (by have y := (nI_leI (a := (Mn ms 3)) (b := c7) (by omega) (by omega)).mpr z; rw [← ((hI.M (by decide)) : (ms.2.1 23 3) = nI (Mn ms 3))] at y; exact y)
              have q_7 : c7 < Mn (tS ms 0 0) 3 := (by omega : c7 < Mn ms 3)
              refine aw_iconst (n := 244) (v := 0) dX3_digest_243 (by decide) rfl ?_
              refine aw_istore (n := 246) (lv' := [(4, .int 0), (3, .int (nI c7)), (1, .long (dgW ms (dgS ms (dgU (fun k => (cntT ms k).toInt64) 383 7) (Sn ms)) c7)), (0, .ref b)]) dX3_digest_244 (by decide) rfl rfl ?_
              suffices L_246 : ∀ (m_ : Nat) (c8 : Nat) (hc8 : c8 ≤ 5), 5 - c8 < m_ → AW G kX3_digest ((5, 94, 0, 0), (fun r h1 => r = some (.long (digT ms)) ∧ TW b h1 (tS ms 0 0) ∧ Fr (TS b) h h1 ∧ h1.1 = h.1), nX) 246 [(4, .int (nI c8)), (1, .long (dgU (fun k => (tdT ms c7 k).toInt64) (dgW ms (dgS ms (dgU (fun k => (cntT ms k).toInt64) 383 7) (Sn ms)) c7) c8)), (3, .int (nI c7)), (0, .ref b)] [] h_1 0 0 from
                AW.lvs (lv' := [(4, .int 0), (1, .long (dgW ms (dgS ms (dgU (fun k => (cntT ms k).toInt64) 383 7) (Sn ms)) c7)), (3, .int (nI c7)), (0, .ref b)]) (AW.eq (lv2 := _) (rfl) rfl rfl rfl rfl (L_246 _ 0 (by omega) (Nat.lt_succ_self _))) (by simp)
              intro m_
              induction m_ with
              | zero => intro c8 hc8 h_m; exact absurd h_m (Nat.not_lt_zero _)
              | succ m_ ih_246 =>
                intro c8 hc8 h_m
                refine aw_iload (n := 248) dX3_digest_246 0 rfl rfl ?_
                refine aw_iconst (n := 249) (v := 5) dX3_digest_248 (by decide) rfl ?_
                refine aw_icmp_ge (n := 252) (tgt := 273) dX3_digest_249 (by decide) rfl (fun c_249 => ?_) (fun c_249 => ?_)
                · skip
                  have n_249 : 5 ≤ c8 := (nI_leI (a := 5) (b := c8) (by omega) (by omega)).mp (by rw [← ((by rfl) : (5 : Int32) = nI 5)]; exact c_249)
                  have e_249 : c8 = 5 := by omega
                  subst e_249
                  refine aw_iinc (n := 276) (v := nI (c7 + 1)) (lv' := [(3, .int (nI (c7 + 1))), (4, .int (nI 5)), (1, .long (dgU (fun k => (tdT ms c7 k).toInt64) (dgW ms (dgS ms (dgU (fun k => (cntT ms k).toInt64) 383 7) (Sn ms)) c7) 5)), (0, .ref b)]) dX3_digest_273 2 rfl (by rw [show nI c7 = nI c7 from rfl]; exact nI_1 _) (by decide) rfl rfl ?_
                  refine aw_goto (tgt := 233) dX3_digest_276 (by decide) ?_
                  exact AW.lvs (lv' := [(3, .int (nI (c7 + 1))), (1, .long (dgU (fun k => (tdT ms c7 k).toInt64) (dgW ms (dgS ms (dgU (fun k => (cntT ms k).toInt64) 383 7) (Sn ms)) c7) 5)), (0, .ref b)]) (AW.eq (lv2 := _) (rfl) rfl rfl rfl rfl (ih_233 (c7 + 1) (by omega) (by omega))) (by simp)
                · skip
                  have n_249 : ¬ (5 ≤ c8) := fun z => c_249 (by have y := (nI_leI (a := 5) (b := c8) (by omega) (by omega)).mpr z; rw [← ((by rfl) : (5 : Int32) = nI 5)] at y; exact y)
                  refine aw_lload_n (n := 253) dX3_digest_252 rfl 1 rfl rfl ?_
                  refine aw_ldc2 (n := 256) (v := 31) dX3_digest_253 q3201 rfl ?_
                  refine aw_lmul (n := 257) dX3_digest_256 rfl ?_
                  refine aw_aload_n (n := 258) dX3_digest_257 rfl 3 rfl rfl ?_
                  refine aw_iload_n (n := 259) dX3_digest_258 rfl 2 rfl rfl ?_
                  refine aw_iload (n := 261) dX3_digest_259 0 rfl rfl ?_
                  refine aw_callV (n := 264) (C0 := RX3) (As := [.int (nI c7), .int (nI c8)]) (rest := [.long ((dgU (fun k => (tdT ms c7 k).toInt64) (dgW ms (dgS ms (dgU (fun k => (cntT ms k).toInt64) 383 7) (Sn ms)) c7) c8) * 31)]) (K2 := kX3_toldOf) dX3_digest_261 q3154 q3156 qs102 q113 q3157 ⟨rfl, hcX3_toldOf⟩ rfl hT_1.1 (ct_toldOf G h_1 b (tS ms 0 (0 : Int32)) hb hT_1 (tOK.thrown hI _) c7 c8 (by assumption) (by omega)) rfl (Nat.le_of_ble_eq_true rfl) ⟨Nat.le_of_ble_eq_true rfl, Nat.le_of_ble_eq_true rfl⟩ ⟨Nat.zero_le _, Nat.zero_le _⟩ (fun _ _ _ z => z.elim) rfl (fun r_261 h_261 q_261 => ?_)
                  obtain ⟨rfl, rfl⟩ := q_261
                  refine AW.sts (st' := [.int (tdT ms c7 c8), .long ((dgU (fun k => (tdT ms c7 k).toInt64) (dgW ms (dgS ms (dgU (fun k => (cntT ms k).toInt64) 383 7) (Sn ms)) c7) c8) * 31)]) rfl ?_
                  refine aw_i2l (n := 265) dX3_digest_264 rfl rfl ?_
                  refine aw_ladd (n := 266) dX3_digest_265 rfl ?_
                  refine aw_lstore_n (n := 267) (lv' := [(1, .long (((dgU (fun k => (tdT ms c7 k).toInt64) (dgW ms (dgS ms (dgU (fun k => (cntT ms k).toInt64) 383 7) (Sn ms)) c7) c8) * 31) + ((tdT ms c7 c8).toInt64))), (4, .int (nI c8)), (3, .int (nI c7)), (0, .ref b)]) dX3_digest_266 rfl (by decide) rfl rfl ?_
                  refine aw_iinc (n := 270) (v := nI (c8 + 1)) (lv' := [(4, .int (nI (c8 + 1))), (1, .long (((dgU (fun k => (tdT ms c7 k).toInt64) (dgW ms (dgS ms (dgU (fun k => (cntT ms k).toInt64) 383 7) (Sn ms)) c7) c8) * 31) + ((tdT ms c7 c8).toInt64))), (3, .int (nI c7)), (0, .ref b)]) dX3_digest_267 1 rfl (by rw [show nI c8 = nI c8 from rfl]; exact nI_1 _) (by decide) rfl rfl ?_
                  refine aw_goto (tgt := 246) dX3_digest_270 (by decide) ?_
                  exact AW.lvs (lv' := [(4, .int (nI (c8 + 1))), (1, .long (((dgU (fun k => (tdT ms c7 k).toInt64) (dgW ms (dgS ms (dgU (fun k => (cntT ms k).toInt64) 383 7) (Sn ms)) c7) c8) * 31) + ((tdT ms c7 c8).toInt64))), (3, .int (nI c7)), (0, .ref b)]) (AW.eq (lv2 := _) (rfl) rfl rfl rfl rfl (ih_246 (c8 + 1) (by omega) (by omega))) (by simp)
        · skip
          have n_43 : ¬ ((Sn ms) ≤ c2) := fun z => c_43 (by have y := (nI_leI (a := (Sn ms)) (b := c2) (by omega) (by omega)).mpr z; exact y)
          refine aw_lload_n (n := 47) dX3_digest_46 rfl 1 rfl rfl ?_
          refine aw_ldc2 (n := 50) (v := 31) dX3_digest_47 q3201 rfl ?_
          refine aw_lmul (n := 51) dX3_digest_50 rfl ?_
          refine aw_aload_n (n := 52) dX3_digest_51 rfl 2 rfl rfl ?_
          refine aw_getf (n := 55) (v := .ref (b + 20)) (C0 := RX3) (T := TX3) dX3_digest_52 rfl 30 q2671 (Or.inl rfl) hT_1.1 rfl rfl ?_
          refine aw_iload_n (n := 56) dX3_digest_55 rfl 0 rfl rfl ?_
          refine aw_iald (n := 57) (v := .int (ms.2.1 30 c2)) dX3_digest_56 rfl c2 rfl hT_1.a30 (by omega) (by decide) rfl rfl ?_
          refine aw_i2l (n := 58) dX3_digest_57 rfl rfl ?_
          refine aw_ladd (n := 59) dX3_digest_58 rfl ?_
          refine aw_lstore_n (n := 60) (lv' := [(1, .long (((dgS ms (dgU (fun k => (cntT ms k).toInt64) 383 7) c2) * 31) + ((ms.2.1 30 c2).toInt64))), (3, .int (nI c2)), (0, .ref b)]) dX3_digest_59 rfl (by decide) rfl rfl ?_
          refine aw_iconst (n := 61) (v := 0) dX3_digest_60 (by decide) rfl ?_
          refine aw_istore (n := 63) (lv' := [(4, .int 0), (1, .long (((dgS ms (dgU (fun k => (cntT ms k).toInt64) 383 7) c2) * 31) + ((ms.2.1 30 c2).toInt64))), (3, .int (nI c2)), (0, .ref b)]) dX3_digest_61 (by decide) rfl rfl ?_
          suffices L_63 : ∀ (m_ : Nat) (c3 : Nat) (hc3 : c3 ≤ Mn ms 0), Mn ms 0 - c3 < m_ → AW G kX3_digest ((5, 94, 0, 0), (fun r h1 => r = some (.long (digT ms)) ∧ TW b h1 (tS ms 0 0) ∧ Fr (TS b) h h1 ∧ h1.1 = h.1), nX) 63 [(4, .int (nI c3)), (1, .long (dgU (fun w => ms.2.2 31 (8 * c2 + w)) (dgS ms (dgU (fun k => (cntT ms k).toInt64) 383 7) c2 * 31 + (ms.2.1 30 c2).toInt64) c3)), (3, .int (nI c2)), (0, .ref b)] [] h_1 0 0 from
            AW.lvs (lv' := [(4, .int 0), (1, .long (((dgS ms (dgU (fun k => (cntT ms k).toInt64) 383 7) c2) * 31) + ((ms.2.1 30 c2).toInt64))), (3, .int (nI c2)), (0, .ref b)]) (AW.eq (lv2 := _) (rfl) rfl rfl rfl rfl (L_63 _ 0 (by omega) (Nat.lt_succ_self _))) (by simp)
          intro m_
          induction m_ with
          | zero => intro c3 hc3 h_m; exact absurd h_m (Nat.not_lt_zero _)
          | succ m_ ih_63 =>
            intro c3 hc3 h_m
            refine aw_iload (n := 65) dX3_digest_63 0 rfl rfl ?_
            refine aw_aload_n (n := 66) dX3_digest_65 rfl 3 rfl rfl ?_
            refine aw_getf (n := 69) (v := .ref (b + 16)) (C0 := RX3) (T := TX3) dX3_digest_66 rfl 23 q2664 (Or.inl rfl) hT_1.1 rfl rfl ?_
            refine aw_iconst (n := 70) (v := 0) dX3_digest_69 (by decide) rfl ?_
            refine aw_iald (n := 71) (v := .int (ms.2.1 23 0)) dX3_digest_70 rfl 0 (by rfl) hT_1.a23 (by omega) (by decide) rfl rfl ?_
            refine aw_icmp_ge (n := 74) (tgt := 99) dX3_digest_71 (by decide) rfl (fun c_71 => ?_) (fun c_71 => ?_)
            · skip
              have n_71 : (Mn ms 0) ≤ c3 := (nI_leI (a := (Mn ms 0)) (b := c3) (by omega) (by omega)).mp (by rw [← ((hI.M (by decide)) : (ms.2.1 23 0) = nI (Mn ms 0))]; exact c_71)
              have e_71 : c3 = Mn ms 0 := by omega
              subst e_71
              refine aw_iconst (n := 100) (v := 0) dX3_digest_99 (by decide) rfl ?_
              refine aw_istore (n := 102) (lv' := [(4, .int 0), (1, .long (dgU (fun w => ms.2.2 31 (8 * c2 + w)) (dgS ms (dgU (fun k => (cntT ms k).toInt64) 383 7) c2 * 31 + (ms.2.1 30 c2).toInt64) (Mn ms 0))), (3, .int (nI c2)), (0, .ref b)]) dX3_digest_100 (by decide) rfl rfl ?_
              suffices L_102 : ∀ (m_ : Nat) (c4 : Nat) (hc4 : c4 ≤ Mn ms 2), Mn ms 2 - c4 < m_ → AW G kX3_digest ((5, 94, 0, 0), (fun r h1 => r = some (.long (digT ms)) ∧ TW b h1 (tS ms 0 0) ∧ Fr (TS b) h h1 ∧ h1.1 = h.1), nX) 102 [(4, .int (nI c4)), (1, .long (dgU (fun w => tb ms (tp ms 2 w) c2) (dgU (fun w => ms.2.2 31 (8 * c2 + w)) (dgS ms (dgU (fun k => (cntT ms k).toInt64) 383 7) c2 * 31 + (ms.2.1 30 c2).toInt64) (Mn ms 0)) c4)), (3, .int (nI c2)), (0, .ref b)] [] h_1 0 0 from
                AW.lvs (lv' := [(4, .int 0), (1, .long (dgU (fun w => ms.2.2 31 (8 * c2 + w)) (dgS ms (dgU (fun k => (cntT ms k).toInt64) 383 7) c2 * 31 + (ms.2.1 30 c2).toInt64) (Mn ms 0))), (3, .int (nI c2)), (0, .ref b)]) (AW.eq (lv2 := _) (rfl) rfl rfl rfl rfl (L_102 _ 0 (by omega) (Nat.lt_succ_self _))) (by simp)
              intro m_
              induction m_ with
              | zero => intro c4 hc4 h_m; exact absurd h_m (Nat.not_lt_zero _)
              | succ m_ ih_102 =>
                intro c4 hc4 h_m
                refine aw_iload (n := 104) dX3_digest_102 0 rfl rfl ?_
                refine aw_aload_n (n := 105) dX3_digest_104 rfl 3 rfl rfl ?_
                refine aw_getf (n := 108) (v := .ref (b + 16)) (C0 := RX3) (T := TX3) dX3_digest_105 rfl 23 q2664 (Or.inl rfl) hT_1.1 rfl rfl ?_
                refine aw_iconst (n := 109) (v := 2) dX3_digest_108 (by decide) rfl ?_
                refine aw_iald (n := 110) (v := .int (ms.2.1 23 2)) dX3_digest_109 rfl 2 (by rfl) hT_1.a23 (by omega) (by decide) rfl rfl ?_
                refine aw_icmp_ge (n := 113) (tgt := 141) dX3_digest_110 (by decide) rfl (fun c_110 => ?_) (fun c_110 => ?_)
                · skip
                  have n_110 : (Mn ms 2) ≤ c4 := (nI_leI (a := (Mn ms 2)) (b := c4) (by omega) (by omega)).mp (by rw [← ((hI.M (by decide)) : (ms.2.1 23 2) = nI (Mn ms 2))]; exact c_110)
                  have e_110 : c4 = Mn ms 2 := by omega
                  subst e_110
                  refine aw_iconst (n := 142) (v := 0) dX3_digest_141 (by decide) rfl ?_
                  refine aw_istore (n := 144) (lv' := [(4, .int 0), (1, .long (dgU (fun w => tb ms (tp ms 2 w) c2) (dgU (fun w => ms.2.2 31 (8 * c2 + w)) (dgS ms (dgU (fun k => (cntT ms k).toInt64) 383 7) c2 * 31 + (ms.2.1 30 c2).toInt64) (Mn ms 0)) (Mn ms 2))), (3, .int (nI c2)), (0, .ref b)]) dX3_digest_142 (by decide) rfl rfl ?_
                  suffices L_144 : ∀ (m_ : Nat) (c5 : Nat) (hc5 : c5 ≤ Mn ms 1), Mn ms 1 - c5 < m_ → AW G kX3_digest ((5, 94, 0, 0), (fun r h1 => r = some (.long (digT ms)) ∧ TW b h1 (tS ms 0 0) ∧ Fr (TS b) h h1 ∧ h1.1 = h.1), nX) 144 [(4, .int (nI c5)), (1, .long (dgU (fun w => tb ms (tp ms 1 w) c2) (dgU (fun w => tb ms (tp ms 2 w) c2) (dgU (fun w => ms.2.2 31 (8 * c2 + w)) (dgS ms (dgU (fun k => (cntT ms k).toInt64) 383 7) c2 * 31 + (ms.2.1 30 c2).toInt64) (Mn ms 0)) (Mn ms 2)) c5)), (3, .int (nI c2)), (0, .ref b)] [] h_1 0 0 from
                    AW.lvs (lv' := [(4, .int 0), (1, .long (dgU (fun w => tb ms (tp ms 2 w) c2) (dgU (fun w => ms.2.2 31 (8 * c2 + w)) (dgS ms (dgU (fun k => (cntT ms k).toInt64) 383 7) c2 * 31 + (ms.2.1 30 c2).toInt64) (Mn ms 0)) (Mn ms 2))), (3, .int (nI c2)), (0, .ref b)]) (AW.eq (lv2 := _) (rfl) rfl rfl rfl rfl (L_144 _ 0 (by omega) (Nat.lt_succ_self _))) (by simp)
                  intro m_
                  induction m_ with
                  | zero => intro c5 hc5 h_m; exact absurd h_m (Nat.not_lt_zero _)
                  | succ m_ ih_144 =>
                    intro c5 hc5 h_m
                    refine aw_iload (n := 146) dX3_digest_144 0 rfl rfl ?_
                    refine aw_aload_n (n := 147) dX3_digest_146 rfl 3 rfl rfl ?_
                    refine aw_getf (n := 150) (v := .ref (b + 16)) (C0 := RX3) (T := TX3) dX3_digest_147 rfl 23 q2664 (Or.inl rfl) hT_1.1 rfl rfl ?_
                    refine aw_iconst (n := 151) (v := 1) dX3_digest_150 (by decide) rfl ?_
                    refine aw_iald (n := 152) (v := .int (ms.2.1 23 1)) dX3_digest_151 rfl 1 (by rfl) hT_1.a23 (by omega) (by decide) rfl rfl ?_
                    refine aw_icmp_ge (n := 155) (tgt := 183) dX3_digest_152 (by decide) rfl (fun c_152 => ?_) (fun c_152 => ?_)
                    · skip
                      have n_152 : (Mn ms 1) ≤ c5 := (nI_leI (a := (Mn ms 1)) (b := c5) (by omega) (by omega)).mp (by rw [← ((hI.M (by decide)) : (ms.2.1 23 1) = nI (Mn ms 1))]; exact c_152)
                      have e_152 : c5 = Mn ms 1 := by omega
                      subst e_152
                      refine aw_iconst (n := 184) (v := 0) dX3_digest_183 (by decide) rfl ?_
                      refine aw_istore (n := 186) (lv' := [(4, .int 0), (1, .long (dgU (fun w => tb ms (tp ms 1 w) c2) (dgU (fun w => tb ms (tp ms 2 w) c2) (dgU (fun w => ms.2.2 31 (8 * c2 + w)) (dgS ms (dgU (fun k => (cntT ms k).toInt64) 383 7) c2 * 31 + (ms.2.1 30 c2).toInt64) (Mn ms 0)) (Mn ms 2)) (Mn ms 1))), (3, .int (nI c2)), (0, .ref b)]) dX3_digest_184 (by decide) rfl rfl ?_
                      suffices L_186 : ∀ (m_ : Nat) (c6 : Nat) (hc6 : c6 ≤ Mn ms 3), Mn ms 3 - c6 < m_ → AW G kX3_digest ((5, 94, 0, 0), (fun r h1 => r = some (.long (digT ms)) ∧ TW b h1 (tS ms 0 0) ∧ Fr (TS b) h h1 ∧ h1.1 = h.1), nX) 186 [(4, .int (nI c6)), (1, .long (dgU (fun w => tb ms (tp ms 3 w) c2) (dgU (fun w => tb ms (tp ms 1 w) c2) (dgU (fun w => tb ms (tp ms 2 w) c2) (dgU (fun w => ms.2.2 31 (8 * c2 + w)) (dgS ms (dgU (fun k => (cntT ms k).toInt64) 383 7) c2 * 31 + (ms.2.1 30 c2).toInt64) (Mn ms 0)) (Mn ms 2)) (Mn ms 1)) c6)), (3, .int (nI c2)), (0, .ref b)] [] h_1 0 0 from
                        AW.lvs (lv' := [(4, .int 0), (1, .long (dgU (fun w => tb ms (tp ms 1 w) c2) (dgU (fun w => tb ms (tp ms 2 w) c2) (dgU (fun w => ms.2.2 31 (8 * c2 + w)) (dgS ms (dgU (fun k => (cntT ms k).toInt64) 383 7) c2 * 31 + (ms.2.1 30 c2).toInt64) (Mn ms 0)) (Mn ms 2)) (Mn ms 1))), (3, .int (nI c2)), (0, .ref b)]) (AW.eq (lv2 := _) (rfl) rfl rfl rfl rfl (L_186 _ 0 (by omega) (Nat.lt_succ_self _))) (by simp)
                      intro m_
                      induction m_ with
                      | zero => intro c6 hc6 h_m; exact absurd h_m (Nat.not_lt_zero _)
                      | succ m_ ih_186 =>
                        intro c6 hc6 h_m
                        refine aw_iload (n := 188) dX3_digest_186 0 rfl rfl ?_
                        refine aw_aload_n (n := 189) dX3_digest_188 rfl 3 rfl rfl ?_
                        refine aw_getf (n := 192) (v := .ref (b + 16)) (C0 := RX3) (T := TX3) dX3_digest_189 rfl 23 q2664 (Or.inl rfl) hT_1.1 rfl rfl ?_
                        refine aw_iconst (n := 193) (v := 3) dX3_digest_192 (by decide) rfl ?_
                        refine aw_iald (n := 194) (v := .int (ms.2.1 23 3)) dX3_digest_193 rfl 3 (by rfl) hT_1.a23 (by omega) (by decide) rfl rfl ?_
                        refine aw_icmp_ge (n := 197) (tgt := 225) dX3_digest_194 (by decide) rfl (fun c_194 => ?_) (fun c_194 => ?_)
                        · skip
                          have n_194 : (Mn ms 3) ≤ c6 := (nI_leI (a := (Mn ms 3)) (b := c6) (by omega) (by omega)).mp (by rw [← ((hI.M (by decide)) : (ms.2.1 23 3) = nI (Mn ms 3))]; exact c_194)
                          have e_194 : c6 = Mn ms 3 := by omega
                          subst e_194
                          refine aw_iinc (n := 228) (v := nI (c2 + 1)) (lv' := [(3, .int (nI (c2 + 1))), (4, .int (nI (Mn ms 3))), (1, .long (dgU (fun w => tb ms (tp ms 3 w) c2) (dgU (fun w => tb ms (tp ms 1 w) c2) (dgU (fun w => tb ms (tp ms 2 w) c2) (dgU (fun w => ms.2.2 31 (8 * c2 + w)) (dgS ms (dgU (fun k => (cntT ms k).toInt64) 383 7) c2 * 31 + (ms.2.1 30 c2).toInt64) (Mn ms 0)) (Mn ms 2)) (Mn ms 1)) (Mn ms 3))), (0, .ref b)]) dX3_digest_225 2 rfl (by rw [show nI c2 = nI c2 from rfl]; exact nI_1 _) (by decide) rfl rfl ?_
                          refine aw_goto (tgt := 38) dX3_digest_228 (by decide) ?_
                          exact AW.lvs (lv' := [(3, .int (nI (c2 + 1))), (1, .long (dgU (fun w => tb ms (tp ms 3 w) c2) (dgU (fun w => tb ms (tp ms 1 w) c2) (dgU (fun w => tb ms (tp ms 2 w) c2) (dgU (fun w => ms.2.2 31 (8 * c2 + w)) (dgS ms (dgU (fun k => (cntT ms k).toInt64) 383 7) c2 * 31 + (ms.2.1 30 c2).toInt64) (Mn ms 0)) (Mn ms 2)) (Mn ms 1)) (Mn ms 3))), (0, .ref b)]) (AW.eq (lv2 := _) (rfl) rfl rfl rfl rfl (ih_38 (c2 + 1) (by omega) (by omega))) (by simp)
                        · skip
                          have n_194 : ¬ ((Mn ms 3) ≤ c6) := fun z => c_194 (by have y := (nI_leI (a := (Mn ms 3)) (b := c6) (by omega) (by omega)).mpr z; rw [← ((hI.M (by decide)) : (ms.2.1 23 3) = nI (Mn ms 3))] at y; exact y)
                          refine aw_lload_n (n := 198) dX3_digest_197 rfl 1 rfl rfl ?_
                          refine aw_ldc2 (n := 201) (v := 31) dX3_digest_198 q3201 rfl ?_
                          refine aw_lmul (n := 202) dX3_digest_201 rfl ?_
                          refine aw_aload_n (n := 203) dX3_digest_202 rfl 3 rfl rfl ?_
                          refine aw_aload_n (n := 204) dX3_digest_203 rfl 3 rfl rfl ?_
                          refine aw_getf (n := 207) (v := .ref (b + 18)) (C0 := RX3) (T := TX3) dX3_digest_204 rfl 25 q2666 (Or.inl rfl) hT_1.1 rfl rfl ?_
                          refine aw_bipush (n := 209) (v := 36) dX3_digest_207 (by decide) rfl ?_
                          refine aw_iload (n := 211) dX3_digest_209 0 rfl rfl ?_
                          refine aw_iadd (n := 212) dX3_digest_211 rfl ?_
                          refine aw_iald (n := 213) (v := .int (ms.2.1 25 (36 + c6))) dX3_digest_212 rfl (36 + c6) (by rw [show 36 = nI 36 from (by rfl), show nI c6 = nI c6 from rfl]; exact nI_add _ _) hT_1.a25 (by omega) (by decide) rfl rfl ?_
                          refine aw_iload_n (n := 214) dX3_digest_213 rfl 2 rfl rfl ?_
                          have ht9 := hI.T2 (k := 3) (j := c6) (by decide) (by decide) (by omega)
                          refine AW.sts (st' := [.int (nI c2), .int (nI (tp ms 3 c6)), .ref b, .long ((dgU (fun w => tb ms (tp ms 3 w) c2) (dgU (fun w => tb ms (tp ms 1 w) c2) (dgU (fun w => tb ms (tp ms 2 w) c2) (dgU (fun w => ms.2.2 31 (8 * c2 + w)) (dgS ms (dgU (fun k => (cntT ms k).toInt64) 383 7) c2 * 31 + (ms.2.1 30 c2).toInt64) (Mn ms 0)) (Mn ms 2)) (Mn ms 1)) c6) * 31)]) (by rw [show ms.2.1 25 (36 + c6) = nI (tp ms 3 c6) from (hI.T (k := 3) (by decide) (by decide) (by omega))]) ?_
                          refine aw_callV (n := 217) (C0 := RX3) (As := [.int (nI (tp ms 3 c6)), .int (nI c2)]) (rest := [.long ((dgU (fun w => tb ms (tp ms 3 w) c2) (dgU (fun w => tb ms (tp ms 1 w) c2) (dgU (fun w => tb ms (tp ms 2 w) c2) (dgU (fun w => ms.2.2 31 (8 * c2 + w)) (dgS ms (dgU (fun k => (cntT ms k).toInt64) 383 7) c2 * 31 + (ms.2.1 30 c2).toInt64) (Mn ms 0)) (Mn ms 2)) (Mn ms 1)) c6) * 31)]) (K2 := kX3_at) dX3_digest_214 q3060 q3062 qs92 q113 q3063 ⟨rfl, hcX3_at⟩ rfl hT_1.1 (ct_at G h_1 b (tS ms 0 (0 : Int32)) hb hT_1 (tp ms 3 c6) c2 (by omega) (by omega)) rfl (Nat.le_of_ble_eq_true rfl) ⟨Nat.le_of_ble_eq_true rfl, Nat.le_of_ble_eq_true rfl⟩ ⟨Nat.zero_le _, Nat.zero_le _⟩ (fun _ _ _ z => z.elim) rfl (fun r_214 h_214 q_214 => ?_)
                          obtain ⟨rfl, rfl⟩ := q_214
                          refine AW.sts (st' := [.long (tb ms (tp ms 3 c6) c2), .long ((dgU (fun w => tb ms (tp ms 3 w) c2) (dgU (fun w => tb ms (tp ms 1 w) c2) (dgU (fun w => tb ms (tp ms 2 w) c2) (dgU (fun w => ms.2.2 31 (8 * c2 + w)) (dgS ms (dgU (fun k => (cntT ms k).toInt64) 383 7) c2 * 31 + (ms.2.1 30 c2).toInt64) (Mn ms 0)) (Mn ms 2)) (Mn ms 1)) c6) * 31)]) rfl ?_
                          refine aw_ladd (n := 218) dX3_digest_217 rfl ?_
                          refine aw_lstore_n (n := 219) (lv' := [(1, .long (((dgU (fun w => tb ms (tp ms 3 w) c2) (dgU (fun w => tb ms (tp ms 1 w) c2) (dgU (fun w => tb ms (tp ms 2 w) c2) (dgU (fun w => ms.2.2 31 (8 * c2 + w)) (dgS ms (dgU (fun k => (cntT ms k).toInt64) 383 7) c2 * 31 + (ms.2.1 30 c2).toInt64) (Mn ms 0)) (Mn ms 2)) (Mn ms 1)) c6) * 31) + (tb ms (tp ms 3 c6) c2))), (4, .int (nI c6)), (3, .int (nI c2)), (0, .ref b)]) dX3_digest_218 rfl (by decide) rfl rfl ?_
                          refine aw_iinc (n := 222) (v := nI (c6 + 1)) (lv' := [(4, .int (nI (c6 + 1))), (1, .long (((dgU (fun w => tb ms (tp ms 3 w) c2) (dgU (fun w => tb ms (tp ms 1 w) c2) (dgU (fun w => tb ms (tp ms 2 w) c2) (dgU (fun w => ms.2.2 31 (8 * c2 + w)) (dgS ms (dgU (fun k => (cntT ms k).toInt64) 383 7) c2 * 31 + (ms.2.1 30 c2).toInt64) (Mn ms 0)) (Mn ms 2)) (Mn ms 1)) c6) * 31) + (tb ms (tp ms 3 c6) c2))), (3, .int (nI c2)), (0, .ref b)]) dX3_digest_219 1 rfl (by rw [show nI c6 = nI c6 from rfl]; exact nI_1 _) (by decide) rfl rfl ?_
                          refine aw_goto (tgt := 186) dX3_digest_222 (by decide) ?_
                          exact AW.lvs (lv' := [(4, .int (nI (c6 + 1))), (1, .long (((dgU (fun w => tb ms (tp ms 3 w) c2) (dgU (fun w => tb ms (tp ms 1 w) c2) (dgU (fun w => tb ms (tp ms 2 w) c2) (dgU (fun w => ms.2.2 31 (8 * c2 + w)) (dgS ms (dgU (fun k => (cntT ms k).toInt64) 383 7) c2 * 31 + (ms.2.1 30 c2).toInt64) (Mn ms 0)) (Mn ms 2)) (Mn ms 1)) c6) * 31) + (tb ms (tp ms 3 c6) c2))), (3, .int (nI c2)), (0, .ref b)]) (AW.eq (lv2 := _) (rfl) rfl rfl rfl rfl (ih_186 (c6 + 1) (by omega) (by omega))) (by simp)
                    · skip
                      have n_152 : ¬ ((Mn ms 1) ≤ c5) := fun z => c_152 (by have y := (nI_leI (a := (Mn ms 1)) (b := c5) (by omega) (by omega)).mpr z; rw [← ((hI.M (by decide)) : (ms.2.1 23 1) = nI (Mn ms 1))] at y; exact y)
                      refine aw_lload_n (n := 156) dX3_digest_155 rfl 1 rfl rfl ?_
                      refine aw_ldc2 (n := 159) (v := 31) dX3_digest_156 q3201 rfl ?_
                      refine aw_lmul (n := 160) dX3_digest_159 rfl ?_
                      refine aw_aload_n (n := 161) dX3_digest_160 rfl 3 rfl rfl ?_
                      refine aw_aload_n (n := 162) dX3_digest_161 rfl 3 rfl rfl ?_
                      refine aw_getf (n := 165) (v := .ref (b + 18)) (C0 := RX3) (T := TX3) dX3_digest_162 rfl 25 q2666 (Or.inl rfl) hT_1.1 rfl rfl ?_
                      refine aw_bipush (n := 167) (v := 12) dX3_digest_165 (by decide) rfl ?_
                      refine aw_iload (n := 169) dX3_digest_167 0 rfl rfl ?_
                      refine aw_iadd (n := 170) dX3_digest_169 rfl ?_
                      refine aw_iald (n := 171) (v := .int (ms.2.1 25 (12 + c5))) dX3_digest_170 rfl (12 + c5) (by rw [show 12 = nI 12 from (by rfl), show nI c5 = nI c5 from rfl]; exact nI_add _ _) hT_1.a25 (by omega) (by decide) rfl rfl ?_
                      refine aw_iload_n (n := 172) dX3_digest_171 rfl 2 rfl rfl ?_
                      have ht9 := hI.T2 (k := 1) (j := c5) (by decide) (by decide) (by omega)
                      refine AW.sts (st' := [.int (nI c2), .int (nI (tp ms 1 c5)), .ref b, .long ((dgU (fun w => tb ms (tp ms 1 w) c2) (dgU (fun w => tb ms (tp ms 2 w) c2) (dgU (fun w => ms.2.2 31 (8 * c2 + w)) (dgS ms (dgU (fun k => (cntT ms k).toInt64) 383 7) c2 * 31 + (ms.2.1 30 c2).toInt64) (Mn ms 0)) (Mn ms 2)) c5) * 31)]) (by rw [show ms.2.1 25 (12 + c5) = nI (tp ms 1 c5) from (hI.T (k := 1) (by decide) (by decide) (by omega))]) ?_
                      refine aw_callV (n := 175) (C0 := RX3) (As := [.int (nI (tp ms 1 c5)), .int (nI c2)]) (rest := [.long ((dgU (fun w => tb ms (tp ms 1 w) c2) (dgU (fun w => tb ms (tp ms 2 w) c2) (dgU (fun w => ms.2.2 31 (8 * c2 + w)) (dgS ms (dgU (fun k => (cntT ms k).toInt64) 383 7) c2 * 31 + (ms.2.1 30 c2).toInt64) (Mn ms 0)) (Mn ms 2)) c5) * 31)]) (K2 := kX3_at) dX3_digest_172 q3060 q3062 qs92 q113 q3063 ⟨rfl, hcX3_at⟩ rfl hT_1.1 (ct_at G h_1 b (tS ms 0 (0 : Int32)) hb hT_1 (tp ms 1 c5) c2 (by omega) (by omega)) rfl (Nat.le_of_ble_eq_true rfl) ⟨Nat.le_of_ble_eq_true rfl, Nat.le_of_ble_eq_true rfl⟩ ⟨Nat.zero_le _, Nat.zero_le _⟩ (fun _ _ _ z => z.elim) rfl (fun r_172 h_172 q_172 => ?_)
                      obtain ⟨rfl, rfl⟩ := q_172
                      refine AW.sts (st' := [.long (tb ms (tp ms 1 c5) c2), .long ((dgU (fun w => tb ms (tp ms 1 w) c2) (dgU (fun w => tb ms (tp ms 2 w) c2) (dgU (fun w => ms.2.2 31 (8 * c2 + w)) (dgS ms (dgU (fun k => (cntT ms k).toInt64) 383 7) c2 * 31 + (ms.2.1 30 c2).toInt64) (Mn ms 0)) (Mn ms 2)) c5) * 31)]) rfl ?_
                      refine aw_ladd (n := 176) dX3_digest_175 rfl ?_
                      refine aw_lstore_n (n := 177) (lv' := [(1, .long (((dgU (fun w => tb ms (tp ms 1 w) c2) (dgU (fun w => tb ms (tp ms 2 w) c2) (dgU (fun w => ms.2.2 31 (8 * c2 + w)) (dgS ms (dgU (fun k => (cntT ms k).toInt64) 383 7) c2 * 31 + (ms.2.1 30 c2).toInt64) (Mn ms 0)) (Mn ms 2)) c5) * 31) + (tb ms (tp ms 1 c5) c2))), (4, .int (nI c5)), (3, .int (nI c2)), (0, .ref b)]) dX3_digest_176 rfl (by decide) rfl rfl ?_
                      refine aw_iinc (n := 180) (v := nI (c5 + 1)) (lv' := [(4, .int (nI (c5 + 1))), (1, .long (((dgU (fun w => tb ms (tp ms 1 w) c2) (dgU (fun w => tb ms (tp ms 2 w) c2) (dgU (fun w => ms.2.2 31 (8 * c2 + w)) (dgS ms (dgU (fun k => (cntT ms k).toInt64) 383 7) c2 * 31 + (ms.2.1 30 c2).toInt64) (Mn ms 0)) (Mn ms 2)) c5) * 31) + (tb ms (tp ms 1 c5) c2))), (3, .int (nI c2)), (0, .ref b)]) dX3_digest_177 1 rfl (by rw [show nI c5 = nI c5 from rfl]; exact nI_1 _) (by decide) rfl rfl ?_
                      refine aw_goto (tgt := 144) dX3_digest_180 (by decide) ?_
                      exact AW.lvs (lv' := [(4, .int (nI (c5 + 1))), (1, .long (((dgU (fun w => tb ms (tp ms 1 w) c2) (dgU (fun w => tb ms (tp ms 2 w) c2) (dgU (fun w => ms.2.2 31 (8 * c2 + w)) (dgS ms (dgU (fun k => (cntT ms k).toInt64) 383 7) c2 * 31 + (ms.2.1 30 c2).toInt64) (Mn ms 0)) (Mn ms 2)) c5) * 31) + (tb ms (tp ms 1 c5) c2))), (3, .int (nI c2)), (0, .ref b)]) (AW.eq (lv2 := _) (rfl) rfl rfl rfl rfl (ih_144 (c5 + 1) (by omega) (by omega))) (by simp)
                · skip
                  have n_110 : ¬ ((Mn ms 2) ≤ c4) := fun z => c_110 (by have y := (nI_leI (a := (Mn ms 2)) (b := c4) (by omega) (by omega)).mpr z; rw [← ((hI.M (by decide)) : (ms.2.1 23 2) = nI (Mn ms 2))] at y; exact y)
                  refine aw_lload_n (n := 114) dX3_digest_113 rfl 1 rfl rfl ?_
                  refine aw_ldc2 (n := 117) (v := 31) dX3_digest_114 q3201 rfl ?_
                  refine aw_lmul (n := 118) dX3_digest_117 rfl ?_
                  refine aw_aload_n (n := 119) dX3_digest_118 rfl 3 rfl rfl ?_
                  refine aw_aload_n (n := 120) dX3_digest_119 rfl 3 rfl rfl ?_
                  refine aw_getf (n := 123) (v := .ref (b + 18)) (C0 := RX3) (T := TX3) dX3_digest_120 rfl 25 q2666 (Or.inl rfl) hT_1.1 rfl rfl ?_
                  refine aw_bipush (n := 125) (v := 24) dX3_digest_123 (by decide) rfl ?_
                  refine aw_iload (n := 127) dX3_digest_125 0 rfl rfl ?_
                  refine aw_iadd (n := 128) dX3_digest_127 rfl ?_
                  refine aw_iald (n := 129) (v := .int (ms.2.1 25 (24 + c4))) dX3_digest_128 rfl (24 + c4) (by rw [show 24 = nI 24 from (by rfl), show nI c4 = nI c4 from rfl]; exact nI_add _ _) hT_1.a25 (by omega) (by decide) rfl rfl ?_
                  refine aw_iload_n (n := 130) dX3_digest_129 rfl 2 rfl rfl ?_
                  have ht9 := hI.T2 (k := 2) (j := c4) (by decide) (by decide) (by omega)
                  refine AW.sts (st' := [.int (nI c2), .int (nI (tp ms 2 c4)), .ref b, .long ((dgU (fun w => tb ms (tp ms 2 w) c2) (dgU (fun w => ms.2.2 31 (8 * c2 + w)) (dgS ms (dgU (fun k => (cntT ms k).toInt64) 383 7) c2 * 31 + (ms.2.1 30 c2).toInt64) (Mn ms 0)) c4) * 31)]) (by rw [show ms.2.1 25 (24 + c4) = nI (tp ms 2 c4) from (hI.T (k := 2) (by decide) (by decide) (by omega))]) ?_
                  refine aw_callV (n := 133) (C0 := RX3) (As := [.int (nI (tp ms 2 c4)), .int (nI c2)]) (rest := [.long ((dgU (fun w => tb ms (tp ms 2 w) c2) (dgU (fun w => ms.2.2 31 (8 * c2 + w)) (dgS ms (dgU (fun k => (cntT ms k).toInt64) 383 7) c2 * 31 + (ms.2.1 30 c2).toInt64) (Mn ms 0)) c4) * 31)]) (K2 := kX3_at) dX3_digest_130 q3060 q3062 qs92 q113 q3063 ⟨rfl, hcX3_at⟩ rfl hT_1.1 (ct_at G h_1 b (tS ms 0 (0 : Int32)) hb hT_1 (tp ms 2 c4) c2 (by omega) (by omega)) rfl (Nat.le_of_ble_eq_true rfl) ⟨Nat.le_of_ble_eq_true rfl, Nat.le_of_ble_eq_true rfl⟩ ⟨Nat.zero_le _, Nat.zero_le _⟩ (fun _ _ _ z => z.elim) rfl (fun r_130 h_130 q_130 => ?_)
                  obtain ⟨rfl, rfl⟩ := q_130
                  refine AW.sts (st' := [.long (tb ms (tp ms 2 c4) c2), .long ((dgU (fun w => tb ms (tp ms 2 w) c2) (dgU (fun w => ms.2.2 31 (8 * c2 + w)) (dgS ms (dgU (fun k => (cntT ms k).toInt64) 383 7) c2 * 31 + (ms.2.1 30 c2).toInt64) (Mn ms 0)) c4) * 31)]) rfl ?_
                  refine aw_ladd (n := 134) dX3_digest_133 rfl ?_
                  refine aw_lstore_n (n := 135) (lv' := [(1, .long (((dgU (fun w => tb ms (tp ms 2 w) c2) (dgU (fun w => ms.2.2 31 (8 * c2 + w)) (dgS ms (dgU (fun k => (cntT ms k).toInt64) 383 7) c2 * 31 + (ms.2.1 30 c2).toInt64) (Mn ms 0)) c4) * 31) + (tb ms (tp ms 2 c4) c2))), (4, .int (nI c4)), (3, .int (nI c2)), (0, .ref b)]) dX3_digest_134 rfl (by decide) rfl rfl ?_
                  refine aw_iinc (n := 138) (v := nI (c4 + 1)) (lv' := [(4, .int (nI (c4 + 1))), (1, .long (((dgU (fun w => tb ms (tp ms 2 w) c2) (dgU (fun w => ms.2.2 31 (8 * c2 + w)) (dgS ms (dgU (fun k => (cntT ms k).toInt64) 383 7) c2 * 31 + (ms.2.1 30 c2).toInt64) (Mn ms 0)) c4) * 31) + (tb ms (tp ms 2 c4) c2))), (3, .int (nI c2)), (0, .ref b)]) dX3_digest_135 1 rfl (by rw [show nI c4 = nI c4 from rfl]; exact nI_1 _) (by decide) rfl rfl ?_
                  refine aw_goto (tgt := 102) dX3_digest_138 (by decide) ?_
                  exact AW.lvs (lv' := [(4, .int (nI (c4 + 1))), (1, .long (((dgU (fun w => tb ms (tp ms 2 w) c2) (dgU (fun w => ms.2.2 31 (8 * c2 + w)) (dgS ms (dgU (fun k => (cntT ms k).toInt64) 383 7) c2 * 31 + (ms.2.1 30 c2).toInt64) (Mn ms 0)) c4) * 31) + (tb ms (tp ms 2 c4) c2))), (3, .int (nI c2)), (0, .ref b)]) (AW.eq (lv2 := _) (rfl) rfl rfl rfl rfl (ih_102 (c4 + 1) (by omega) (by omega))) (by simp)
            · skip
              have n_71 : ¬ ((Mn ms 0) ≤ c3) := fun z => c_71 (by have y := (nI_leI (a := (Mn ms 0)) (b := c3) (by omega) (by omega)).mpr z; rw [← ((hI.M (by decide)) : (ms.2.1 23 0) = nI (Mn ms 0))] at y; exact y)
              refine aw_lload_n (n := 75) dX3_digest_74 rfl 1 rfl rfl ?_
              refine aw_ldc2 (n := 78) (v := 31) dX3_digest_75 q3201 rfl ?_
              refine aw_lmul (n := 79) dX3_digest_78 rfl ?_
              refine aw_aload_n (n := 80) dX3_digest_79 rfl 3 rfl rfl ?_
              refine aw_getf (n := 83) (v := .ref (b + 21)) (C0 := RX3) (T := TX3) dX3_digest_80 rfl 31 q2672 (Or.inl rfl) hT_1.1 rfl rfl ?_
              refine aw_bipush (n := 85) (v := 8) dX3_digest_83 (by decide) rfl ?_
              refine aw_iload_n (n := 86) dX3_digest_85 rfl 2 rfl rfl ?_
              refine aw_imul (n := 87) dX3_digest_86 rfl ?_
              refine aw_iload (n := 89) dX3_digest_87 0 rfl rfl ?_
              refine aw_iadd (n := 90) dX3_digest_89 rfl ?_
              refine aw_lald (n := 91) (v := .long (ms.2.2 31 ((8 * c2) + c3))) dX3_digest_90 rfl ((8 * c2) + c3) (by rw [show 8 * (nI c2) = nI (8 * c2) from (by rw [show 8 = nI 8 from (by rfl), show nI c2 = nI c2 from rfl]; exact pk_mul _ _), show nI c3 = nI c3 from rfl]; exact nI_add _ _) hT_1.a31 (by omega) (by decide) rfl rfl ?_
              refine aw_ladd (n := 92) dX3_digest_91 rfl ?_
              refine aw_lstore_n (n := 93) (lv' := [(1, .long (((dgU (fun w => ms.2.2 31 (8 * c2 + w)) (dgS ms (dgU (fun k => (cntT ms k).toInt64) 383 7) c2 * 31 + (ms.2.1 30 c2).toInt64) c3) * 31) + (ms.2.2 31 ((8 * c2) + c3)))), (4, .int (nI c3)), (3, .int (nI c2)), (0, .ref b)]) dX3_digest_92 rfl (by decide) rfl rfl ?_
              refine aw_iinc (n := 96) (v := nI (c3 + 1)) (lv' := [(4, .int (nI (c3 + 1))), (1, .long (((dgU (fun w => ms.2.2 31 (8 * c2 + w)) (dgS ms (dgU (fun k => (cntT ms k).toInt64) 383 7) c2 * 31 + (ms.2.1 30 c2).toInt64) c3) * 31) + (ms.2.2 31 ((8 * c2) + c3)))), (3, .int (nI c2)), (0, .ref b)]) dX3_digest_93 1 rfl (by rw [show nI c3 = nI c3 from rfl]; exact nI_1 _) (by decide) rfl rfl ?_
              refine aw_goto (tgt := 63) dX3_digest_96 (by decide) ?_
              exact AW.lvs (lv' := [(4, .int (nI (c3 + 1))), (1, .long (((dgU (fun w => ms.2.2 31 (8 * c2 + w)) (dgS ms (dgU (fun k => (cntT ms k).toInt64) 383 7) c2 * 31 + (ms.2.1 30 c2).toInt64) c3) * 31) + (ms.2.2 31 ((8 * c2) + c3)))), (3, .int (nI c2)), (0, .ref b)]) (AW.eq (lv2 := _) (rfl) rfl rfl rfl rfl (ih_63 (c3 + 1) (by omega) (by omega))) (by simp)
    · skip
      have n_14 : ¬ (7 ≤ c1) := fun z => c_14 (by have y := (nI_leI (a := 7) (b := c1) (by omega) (by omega)).mpr z; rw [← ((by rfl) : (7 : Int32) = nI 7)] at y; exact y)
      refine aw_lload_n (n := 18) dX3_digest_17 rfl 1 rfl rfl ?_
      refine aw_ldc2 (n := 21) (v := 31) dX3_digest_18 q3201 rfl ?_
      refine aw_lmul (n := 22) dX3_digest_21 rfl ?_
      refine aw_aload_n (n := 23) dX3_digest_22 rfl 2 rfl rfl ?_
      refine aw_iload_n (n := 24) dX3_digest_23 rfl 0 rfl rfl ?_
      refine aw_callV (n := 27) (C0 := RX3) (As := [.int (nI c1)]) (rest := [.long ((dgU (fun k => (cntT ms k).toInt64) 383 c1) * 31)]) (K2 := kX3_counted) dX3_digest_24 q3032 q3034 qs87 q113 q3035 ⟨rfl, hcX3_counted⟩ rfl hT_1.1 (ct_counted G h_1 b (tS ms 0 (0 : Int32)) hb hT_1 c1 (by omega)) rfl (Nat.le_of_ble_eq_true rfl) ⟨Nat.le_of_ble_eq_true rfl, Nat.le_of_ble_eq_true rfl⟩ ⟨Nat.zero_le _, Nat.zero_le _⟩ (fun _ _ _ z => z.elim) rfl (fun r_24 h_24 q_24 => ?_)
      obtain ⟨rfl, rfl⟩ := q_24
      refine AW.sts (st' := [.int (cntT ms c1), .long ((dgU (fun k => (cntT ms k).toInt64) 383 c1) * 31)]) rfl ?_
      refine aw_i2l (n := 28) dX3_digest_27 rfl rfl ?_
      refine aw_ladd (n := 29) dX3_digest_28 rfl ?_
      refine aw_lstore_n (n := 30) (lv' := [(1, .long (((dgU (fun k => (cntT ms k).toInt64) 383 c1) * 31) + ((cntT ms c1).toInt64))), (3, .int (nI c1)), (0, .ref b)]) dX3_digest_29 rfl (by decide) rfl rfl ?_
      refine aw_iinc (n := 33) (v := nI (c1 + 1)) (lv' := [(3, .int (nI (c1 + 1))), (1, .long (((dgU (fun k => (cntT ms k).toInt64) 383 c1) * 31) + ((cntT ms c1).toInt64))), (0, .ref b)]) dX3_digest_30 1 rfl (by rw [show nI c1 = nI c1 from rfl]; exact nI_1 _) (by decide) rfl rfl ?_
      refine aw_goto (tgt := 11) dX3_digest_33 (by decide) ?_
      exact AW.lvs (lv' := [(3, .int (nI (c1 + 1))), (1, .long (((dgU (fun k => (cntT ms k).toInt64) 383 c1) * 31) + ((cntT ms c1).toInt64))), (0, .ref b)]) (AW.eq (lv2 := _) (rfl) rfl rfl rfl rfl (ih_11 (c1 + 1) (by omega) (by omega))) (by simp)

end
