/-! The twin: feed. -/
section
set_option maxRecDepth 100000
theorem hset_at {h : hH} {a : Nat} {e : hE} : (hset h a e).2 a = some e := if_pos rfl
theorem hnew_at {h : hH} {e : hE} : (hnew h e).2 h.1 = some e := if_pos rfl
def fvT (x1 x2 x3 x4 x5 : Int32) (j : Nat) : Int32 := if j = 0 then x1 else if j = 1 then x2 else if j = 2 then x3 else if j = 3 then x4 else if j = 4 then x5 else 0
/-- t bytes written behind the text -/
def fdT (ms : tM) (f : Nat → Int32) : Nat → tM
  | 0 => ms
  | t + 1 => tS (tI (fdT ms f t) 1 (Ln ms + t) ((f (t / 4) >>> ((8 * nI (3 - t % 4)) &&& 31)) &&& 255)) 2 (nI (Ln ms + t + 1))
theorem fdT_L {ms : tM} {f : Nat → Int32} (h : ms.1 2 = nI (Ln ms)) : ∀ t, (fdT ms f t).1 2 = nI (Ln ms + t)
  | 0 => h
  | _ + 1 => rfl
def opFeed (ms : tM) (x1 x2 x3 x4 x5 : Int32) : Int32 × tM := if Ln ms ≤ 1780 then (nI (Ln ms + 20), fdT (tS ms 0 0) (fvT x1 x2 x3 x4 x5) 20) else (0, tS ms 0 1)
theorem fd_step {ms : tM} {f : Nat → Int32} {j r : Nat} (hr : r ≤ 3) : fdT ms f (4 * j + (4 - r)) = tS (tI (fdT ms f (4 * j + (4 - (r + 1)))) 1 (Ln ms + (4 * j + (4 - (r + 1)))) ((f j >>> ((8 * nI r) &&& 31)) &&& 255)) 2 (nI (Ln ms + (4 * j + (4 - (r + 1)))) + 1) := by
  rw [show 4 * j + (4 - r) = (4 * j + (4 - (r + 1))) + 1 by omega, fdT, show (4 * j + (4 - (r + 1))) / 4 = j by omega, show 3 - (4 * j + (4 - (r + 1))) % 4 = r by omega, ← nI_succ]
abbrev kX3_feed : aK := (yX3_feed, cX3_feed, 12, (Option.some Jvm.ClassFile.FieldType.int), [])
theorem hcX3_feed : kX3_feed.1.cls ≠ "java/lang/invoke/MethodHandle" ∧ kX3_feed.1.cls ≠ "java/lang/invoke/VarHandle" ∧ (parseMethodDescriptor kX3_feed.1.desc).map (fun d => d.parameters.length) = some 5 := ⟨by decide, by decide, by decide +kernel⟩
theorem ct_feed (G : aG) (h : hH) (b : Nat) (ms : tM) (hb : gB G ≤ b) (hT : TW b h ms) (hI : tOK ms) (x1 x2 x3 x4 x5 : Int32) (hlt : b + 25 ≤ h.1) : Con G kX3_feed [.ref b, .int x1, .int x2, .int x3, .int x4, .int x5] h ((2, 21, 1, 5), (fun r h1 => r = some (.int (opFeed ms x1 x2 x3 x4 x5).1) ∧ TW b h1 ((opFeed ms x1 x2 x3 x4 x5).2) ∧ Fr (TS b) h h1 ∧ h1.1 ≤ h.1 + 1), nX) := by
  have := hI.L2; have := hI.S2; have := hI.M0; have := hI.M1; have := hI.M2; have := hI.M3; have := hI.P2; have := hI.K2; have := hI.KM2
  refine Con.of (plainFor_of_name rfl) rfl (Nat.le_of_ble_eq_true rfl) ?_
  refine AW.eq (lv2 := [(0, .ref b), (1, .int x1), (2, .int x2), (3, .int x3), (4, .int x4), (5, .int x5)]) (s2 := []) rfl rfl rfl rfl rfl ?_
  refine aw_aload_n (n := 1) dX3_feed_0 rfl 0 rfl rfl ?_
  refine aw_iconst (n := 2) (v := 0) dX3_feed_1 (by decide) rfl ?_
  refine aw_tput (n := 5) (k := 0) dX3_feed_2 q2641 (by decide) rfl rfl rfl rfl rfl hT hb rfl rfl (fun h_1 hT_1 hF_1 hz_1 => ?_)
  refine aw_aload_n (n := 6) dX3_feed_5 rfl 0 rfl rfl ?_
  refine aw_getf (n := 9) (v := .int (nI (Ln ms))) (C0 := RX3) (T := TX3) dX3_feed_6 rfl 2 q2643 (Or.inl rfl) hT_1.1 (congrArg some (congrArg Value.int hI.L)) rfl ?_
  refine aw_bipush (n := 11) (v := 20) dX3_feed_9 (by decide) rfl ?_
  refine aw_iadd (n := 12) dX3_feed_11 rfl ?_
  refine aw_sipush (n := 15) (v := 1800) dX3_feed_12 (by decide) rfl ?_
  refine aw_icmp_le (n := 18) (tgt := 24) dX3_feed_15 (by decide) rfl (fun c_15 => ?_) (fun c_15 => ?_)
  · skip
    have n_15 : ((Ln ms) + 20) ≤ 1800 := (nI_leI (a := ((Ln ms) + 20)) (b := 1800) (by omega) (by omega)).mp (by rw [← ((by rw [show nI (Ln ms) = nI (Ln ms) from rfl, show 20 = nI 20 from (by rfl)]; exact nI_add _ _) : ((nI (Ln ms)) + 20) = nI ((Ln ms) + 20)), ← ((by rfl) : (1800 : Int32) = nI 1800)]; exact c_15)
    refine aw_iconst (n := 25) (v := 5) dX3_feed_24 (by decide) rfl ?_
    suffices key : ∀ h5 : hH, h5.2 h_1.1 = some (har 0 5 (fun j => Value.int (fvT x1 x2 x3 x4 x5 j))) → TW b h5 (tS ms 0 0) → Fr (TS b) h h5 → h5.1 = h.1 + 1 → AW G kX3_feed ((2, 21, 1, 5), (fun r h1 => r = some (.int (opFeed ms x1 x2 x3 x4 x5).1) ∧ TW b h1 ((opFeed ms x1 x2 x3 x4 x5).2) ∧ Fr (TS b) h h1 ∧ h1.1 ≤ h.1 + 1), nX) 49 [(0, .ref b), (1, .int x1), (2, .int x2), (3, .int x3), (4, .int x4), (5, .int x5)] [.ref h_1.1] h5 (0 + 1) (0 + 5) from by
      refine aw_newa (n := 27) (ti := 0) (N := 5) (v := .int 0) dX3_feed_25 rfl rfl rfl q314 rfl (by rfl) (by decide) (by decide) (Nat.le_refl _) (Nat.le_refl _) rfl ?_
      refine aw_dup (n := 28) dX3_feed_27 rfl rfl ?_
      refine aw_iconst (n := 29) (v := 0) dX3_feed_28 (by decide) rfl ?_
      refine aw_iload_n (n := 30) dX3_feed_29 rfl 1 rfl rfl ?_
      refine aw_iast (n := 31) (ti := 0) (N := 5) dX3_feed_30 rfl 0 (by rfl) hnew_at (by omega) (by decide) (by decide) rfl rfl ?_
      refine aw_dup (n := 32) dX3_feed_31 rfl rfl ?_
      refine aw_iconst (n := 33) (v := 1) dX3_feed_32 (by decide) rfl ?_
      refine aw_iload_n (n := 34) dX3_feed_33 rfl 2 rfl rfl ?_
      refine aw_iast (n := 35) (ti := 0) (N := 5) dX3_feed_34 rfl 1 (by rfl) hset_at (by omega) (by decide) (by decide) rfl rfl ?_
      refine aw_dup (n := 36) dX3_feed_35 rfl rfl ?_
      refine aw_iconst (n := 37) (v := 2) dX3_feed_36 (by decide) rfl ?_
      refine aw_iload_n (n := 38) dX3_feed_37 rfl 3 rfl rfl ?_
      refine aw_iast (n := 39) (ti := 0) (N := 5) dX3_feed_38 rfl 2 (by rfl) hset_at (by omega) (by decide) (by decide) rfl rfl ?_
      refine aw_dup (n := 40) dX3_feed_39 rfl rfl ?_
      refine aw_iconst (n := 41) (v := 3) dX3_feed_40 (by decide) rfl ?_
      refine aw_iload (n := 43) dX3_feed_41 4 rfl rfl ?_
      refine aw_iast (n := 44) (ti := 0) (N := 5) dX3_feed_43 rfl 3 (by rfl) hset_at (by omega) (by decide) (by decide) rfl rfl ?_
      refine aw_dup (n := 45) dX3_feed_44 rfl rfl ?_
      refine aw_iconst (n := 46) (v := 4) dX3_feed_45 (by decide) rfl ?_
      refine aw_iload (n := 48) dX3_feed_46 5 rfl rfl ?_
      refine aw_iast (n := 49) (ti := 0) (N := 5) dX3_feed_48 rfl 4 (by rfl) hset_at (by omega) (by decide) (by decide) rfl rfl ?_
      have fr : ∀ e0 e1 e2 e3 e4 e5 : hE, Fr (fun q => q = h_1.1) h_1 (hset (hset (hset (hset (hset (hnew h_1 e0) h_1.1 e1) h_1.1 e2) h_1.1 e3) h_1.1 e4) h_1.1 e5) := fun e0 e1 e2 e3 e4 e5 => (Fr.trans (Fr.trans (Fr.trans (Fr.trans (Fr.trans Fr.new (Fr.set rfl)) (Fr.set rfl)) (Fr.set rfl)) (Fr.set rfl)) (Fr.set rfl))
      refine key _ (hset_at.trans (congrArg (fun f => some (har 0 5 f)) (funext fun j => by match j with | 0 => rfl | 1 => rfl | 2 => rfl | 3 => rfl | 4 => rfl | j + 5 => simp [updV, fvT]))) (TW.kept hT_1 (fr _ _ _ _ _ _) (by omega) (fun q hq z => by have hq : q = h_1.1 := hq; have := z.2; omega)) (Fr.trans hF_1 ⟨(fr _ _ _ _ _ _).1, fun q hq _ => (fr _ _ _ _ _ _).2 q hq (fun z => by have z : q = h_1.1 := z; omega)⟩) ?_
      show h_1.1 + 1 = h.1 + 1
      omega
    intro h5 hA5 hT5 hF5 hz5
    refine aw_astore (n := 51) (lv' := [(6, .ref h_1.1), (0, .ref b), (1, .int x1), (2, .int x2), (3, .int x3), (4, .int x4), (5, .int x5)]) dX3_feed_49 (by decide) rfl rfl ?_
    refine aw_aload (n := 53) dX3_feed_51 0 rfl rfl ?_
    refine aw_astore (n := 55) (lv' := [(7, .ref h_1.1), (6, .ref h_1.1), (0, .ref b), (1, .int x1), (2, .int x2), (3, .int x3), (4, .int x4), (5, .int x5)]) dX3_feed_53 (by decide) rfl rfl ?_
    refine aw_aload (n := 57) dX3_feed_55 0 rfl rfl ?_
    refine aw_alen (n := 58) (v := nI 5) dX3_feed_57 rfl hA5 rfl rfl ?_
    refine aw_istore (n := 60) (lv' := [(8, .int (nI 5)), (7, .ref h_1.1), (6, .ref h_1.1), (0, .ref b), (1, .int x1), (2, .int x2), (3, .int x3), (4, .int x4), (5, .int x5)]) dX3_feed_58 (by decide) rfl rfl ?_
    refine aw_iconst (n := 61) (v := 0) dX3_feed_60 (by decide) rfl ?_
    refine aw_istore (n := 63) (lv' := [(9, .int 0), (8, .int (nI 5)), (7, .ref h_1.1), (6, .ref h_1.1), (0, .ref b), (1, .int x1), (2, .int x2), (3, .int x3), (4, .int x4), (5, .int x5)]) dX3_feed_61 (by decide) rfl rfl ?_
    suffices L_63 : ∀ (m_ : Nat) (j : Nat) (hh : hH) (hj : j ≤ 5) (hTc : TW b hh (fdT (tS ms 0 0) (fvT x1 x2 x3 x4 x5) (4 * j))) (hFc : Fr (TS b) h hh) (hzc : hh.1 = h.1 + 1) (hAc : hh.2 h_1.1 = some (har 0 5 (fun j => Value.int (fvT x1 x2 x3 x4 x5 j)))), 5 - j < m_ → AW G kX3_feed ((2, 21, 1, 5), (fun r h1 => r = some (.int (opFeed ms x1 x2 x3 x4 x5).1) ∧ TW b h1 ((opFeed ms x1 x2 x3 x4 x5).2) ∧ Fr (TS b) h h1 ∧ h1.1 ≤ h.1 + 1), nX) 63 [(9, .int (nI j)), (8, .int (nI 5)), (7, .ref h_1.1), (0, .ref b)] [] hh (0 + 1) (0 + 5) from
      AW.lvs (lv' := [(9, .int 0), (8, .int (nI 5)), (7, .ref h_1.1), (0, .ref b)]) (AW.eq (lv2 := _) (rfl) rfl rfl rfl rfl (L_63 _ 0 h5 (by omega) hT5 hF5 (by omega) hA5 (Nat.lt_succ_self _))) (by simp)
    intro m_
    induction m_ with
    | zero => intro j hh hj hTc hFc hzc hAc h_m; exact absurd h_m (Nat.not_lt_zero _)
    | succ m_ ih_63 =>
      intro j hh hj hTc hFc hzc hAc h_m
      refine aw_iload (n := 65) dX3_feed_63 0 rfl rfl ?_
      refine aw_iload (n := 67) dX3_feed_65 1 rfl rfl ?_
      refine aw_icmp_ge (n := 70) (tgt := 128) dX3_feed_67 (by decide) rfl (fun c_67 => ?_) (fun c_67 => ?_)
      · skip
        have n_67 : 5 ≤ j := (nI_leI (a := 5) (b := j) (by omega) (by omega)).mp (by exact c_67)
        refine aw_aload_n (n := 129) dX3_feed_128 rfl 3 rfl rfl ?_
        refine aw_getf (n := 132) (v := .int (nI (Ln ms + 4 * j))) (C0 := RX3) (T := TX3) dX3_feed_129 rfl 2 q2643 (Or.inl rfl) hTc.1 (congrArg some (congrArg Value.int (fdT_L (ms := tS ms 0 0) hI.L _))) rfl ?_
        have e9 : opFeed ms x1 x2 x3 x4 x5 = (nI (Ln ms + 4 * j), (fdT (tS ms 0 0) (fvT x1 x2 x3 x4 x5) (4 * j))) := by have e5 : j = 5 := (by omega); subst e5; exact if_pos (show Ln ms ≤ 1780 by omega)
        exact aw_iret dX3_feed_132 rfl ⟨by rw [e9], by rw [e9]; exact hTc, hFc, by omega⟩ ⟨(by first | exact Nat.le_refl _ | omega | (dsimp only; omega)), (by first | exact Nat.le_refl _ | omega | (dsimp only; omega))⟩
      · skip
        have n_67 : ¬ (5 ≤ j) := fun z => c_67 (by have y := (nI_leI (a := 5) (b := j) (by omega) (by omega)).mpr z; exact y)
        refine aw_aload (n := 72) dX3_feed_70 2 rfl rfl ?_
        refine aw_iload (n := 74) dX3_feed_72 0 rfl rfl ?_
        refine aw_iald (n := 75) (v := .int (fvT x1 x2 x3 x4 x5 j)) dX3_feed_74 rfl j rfl hAc (by omega) (by decide) rfl rfl ?_
        refine aw_istore (n := 77) (lv' := [(10, .int (fvT x1 x2 x3 x4 x5 j)), (9, .int (nI j)), (8, .int (nI 5)), (7, .ref h_1.1), (0, .ref b)]) dX3_feed_75 (by decide) rfl rfl ?_
        refine aw_iconst (n := 78) (v := 3) dX3_feed_77 (by decide) rfl ?_
        refine aw_istore (n := 80) (lv' := [(11, .int 3), (10, .int (fvT x1 x2 x3 x4 x5 j)), (9, .int (nI j)), (8, .int (nI 5)), (7, .ref h_1.1), (0, .ref b)]) dX3_feed_78 (by decide) rfl rfl ?_
        suffices L_80 : ∀ (m_ : Nat) (r : Nat) (h2 : hH) (hr : r ≤ 4) (hTd : TW b h2 (fdT (tS ms 0 0) (fvT x1 x2 x3 x4 x5) (4 * j + (4 - r)))) (hFd : Fr (TS b) h h2) (hzd : h2.1 = h.1 + 1) (hAd : h2.2 h_1.1 = some (har 0 5 (fun j => Value.int (fvT x1 x2 x3 x4 x5 j)))), r < m_ → AW G kX3_feed ((2, 21, 1, 5), (fun r h1 => r = some (.int (opFeed ms x1 x2 x3 x4 x5).1) ∧ TW b h1 ((opFeed ms x1 x2 x3 x4 x5).2) ∧ Fr (TS b) h h1 ∧ h1.1 ≤ h.1 + 1), nX) 80 [(11, .int (jv r)), (10, .int (fvT x1 x2 x3 x4 x5 j)), (9, .int (nI j)), (8, .int (nI 5)), (7, .ref h_1.1), (0, .ref b)] [] h2 (0 + 1) (0 + 5) from
          AW.lvs (lv' := [(11, .int 3), (10, .int (fvT x1 x2 x3 x4 x5 j)), (9, .int (nI j)), (8, .int (nI 5)), (7, .ref h_1.1), (0, .ref b)]) (AW.eq (lv2 := _) (rfl) rfl rfl rfl rfl (L_80 _ 4 hh (by omega) hTc hFc (by omega) hAc (Nat.lt_succ_self _))) (by simp)
        intro m_
        induction m_ with
        | zero => intro r h2 hr hTd hFd hzd hAd h_m; exact absurd h_m (Nat.not_lt_zero _)
        | succ m_ ih_80 =>
          intro r h2 hr hTd hFd hzd hAd h_m
          cases r with
          | zero =>
            refine AW.eq (lv2 := [(11, .int (-1)), (10, .int (fvT x1 x2 x3 x4 x5 j)), (9, .int (nI j)), (8, .int (nI 5)), (7, .ref h_1.1), (0, .ref b)]) rfl rfl rfl rfl rfl ?_
            refine aw_iload (n := 82) dX3_feed_80 0 rfl rfl ?_
            refine aw_if_lt (n := 85) (tgt := 122) dX3_feed_82 (by decide) rfl (fun c_82 => ?_) (fun c_82 => ?_)
            · skip
              refine aw_iinc (n := 125) (v := nI (j + 1)) (lv' := [(9, .int (nI (j + 1))), (11, .int (-1)), (10, .int (fvT x1 x2 x3 x4 x5 j)), (8, .int (nI 5)), (7, .ref h_1.1), (0, .ref b)]) dX3_feed_122 2 rfl (by rw [show nI j = nI j from rfl]; exact nI_1 _) (by decide) rfl rfl ?_
              refine aw_goto (tgt := 63) dX3_feed_125 (by decide) ?_
              exact AW.lvs (lv' := [(9, .int (nI (j + 1))), (8, .int (nI 5)), (7, .ref h_1.1), (0, .ref b)]) (AW.eq (lv2 := _) (rfl) rfl rfl rfl rfl (ih_63 (j + 1) h2 (by omega) (by have z := hTd; rw [show 4 * j + (4 - 0) = 4 * (j + 1) by omega] at z; exact z) hFd (by omega) hAd (by omega))) (by simp)
            · skip
              exact absurd c_82 (by decide +kernel)
          | succ r =>
            refine AW.eq (lv2 := [(11, .int (nI r)), (10, .int (fvT x1 x2 x3 x4 x5 j)), (9, .int (nI j)), (8, .int (nI 5)), (7, .ref h_1.1), (0, .ref b)]) rfl rfl rfl rfl rfl ?_
            refine aw_iload (n := 82) dX3_feed_80 0 rfl rfl ?_
            refine aw_if_lt (n := 85) (tgt := 122) dX3_feed_82 (by decide) rfl (fun c_82_2 => ?_) (fun c_82_2 => ?_)
            · skip
              have n_82_2 : r < 0 := (nI_ltI (a := r) (b := 0) (by omega) (by omega)).mp (by rw [← ((by rfl) : (0 : Int32) = nI 0)]; exact c_82_2)
              exact absurd c_82_2 (nI_pos (by omega))
            · skip
              have n_82_2 : ¬ (r < 0) := fun z => c_82_2 (by have y := (nI_ltI (a := r) (b := 0) (by omega) (by omega)).mpr z; rw [← ((by rfl) : (0 : Int32) = nI 0)] at y; exact y)
              refine aw_aload_n (n := 86) dX3_feed_85 rfl 5 rfl rfl ?_
              refine aw_getf (n := 89) (v := .ref (b + 1)) (C0 := RX3) (T := TX3) dX3_feed_86 rfl 1 q2642 (Or.inl rfl) hTd.1 rfl rfl ?_
              refine aw_aload_n (n := 90) dX3_feed_89 rfl 5 rfl rfl ?_
              refine aw_getf (n := 93) (v := .int (nI (Ln ms + (4 * j + (4 - (r + 1)))))) (C0 := RX3) (T := TX3) dX3_feed_90 rfl 2 q2643 (Or.inl rfl) hTd.1 (congrArg some (congrArg Value.int (fdT_L (ms := tS ms 0 0) hI.L _))) rfl ?_
              refine aw_iload (n := 95) dX3_feed_93 1 rfl rfl ?_
              refine aw_bipush (n := 97) (v := 8) dX3_feed_95 (by decide) rfl ?_
              refine aw_iload (n := 99) dX3_feed_97 0 rfl rfl ?_
              refine aw_imul (n := 100) dX3_feed_99 rfl ?_
              refine aw_ishr (n := 101) dX3_feed_100 rfl ?_
              refine aw_sipush (n := 104) (v := 255) dX3_feed_101 (by decide) rfl ?_
              refine aw_iand (n := 105) dX3_feed_104 rfl ?_
              refine aw_tiast (n := 106) dX3_feed_105 TW.m1 hTd hb (Ln ms + (4 * j + (4 - (r + 1)))) rfl (by omega) (by decide) rfl (fun h_2 hT_2 hF_2 hz_2 => ?_)
              have hG_2 := Fr.trans hFd hF_2
              refine aw_aload_n (n := 107) dX3_feed_106 rfl 5 rfl rfl ?_
              refine aw_dup (n := 108) dX3_feed_107 rfl rfl ?_
              refine aw_getf (n := 111) (v := .int (nI (Ln ms + (4 * j + (4 - (r + 1)))))) (C0 := RX3) (T := TX3) dX3_feed_108 rfl 2 q2643 (Or.inl rfl) hT_2.1 (congrArg some (congrArg Value.int (fdT_L (ms := tS ms 0 0) hI.L _))) rfl ?_
              refine aw_iconst (n := 112) (v := 1) dX3_feed_111 (by decide) rfl ?_
              refine aw_iadd (n := 113) dX3_feed_112 rfl ?_
              refine aw_tput (n := 116) (k := 2) dX3_feed_113 q2643 (by decide) rfl rfl rfl rfl rfl hT_2 hb rfl rfl (fun h_3 hT_3 hF_3 hz_3 => ?_)
              have hG_3 := Fr.trans hG_2 hF_3
              refine aw_iinc (n := 119) (v := (nI r) + (-1)) (lv' := [(11, .int ((nI r) + (-1))), (10, .int (fvT x1 x2 x3 x4 x5 j)), (9, .int (nI j)), (8, .int (nI 5)), (7, .ref h_1.1), (0, .ref b)]) dX3_feed_116 0 rfl rfl (by decide) rfl rfl ?_
              refine aw_goto (tgt := 80) dX3_feed_119 (by decide) ?_
              have hA9 := (hF_3.2 h_1.1 (by omega) (fun z => by have := z.2; omega)).trans ((hF_2.2 h_1.1 (by omega) (fun z => by have := z.2; omega)).trans hAd)
              exact AW.lvs (lv' := [(11, .int ((nI r) + (-1))), (10, .int (fvT x1 x2 x3 x4 x5 j)), (9, .int (nI j)), (8, .int (nI 5)), (7, .ref h_1.1), (0, .ref b)]) (AW.eq (lv2 := _) (by rw [jv_dec]) rfl rfl rfl rfl (ih_80 r h_3 (by omega) (by rw [fd_step (by omega)]; exact hT_3) hG_3 (by omega) hA9 (by omega))) (by simp)
  · skip
    have n_15 : ¬ (((Ln ms) + 20) ≤ 1800) := fun z => c_15 (by have y := (nI_leI (a := ((Ln ms) + 20)) (b := 1800) (by omega) (by omega)).mpr z; rw [← ((by rw [show nI (Ln ms) = nI (Ln ms) from rfl, show 20 = nI 20 from (by rfl)]; exact nI_add _ _) : ((nI (Ln ms)) + 20) = nI ((Ln ms) + 20)), ← ((by rfl) : (1800 : Int32) = nI 1800)] at y; exact y)
    refine aw_aload_n (n := 19) dX3_feed_18 rfl 0 rfl rfl ?_
    refine aw_iconst (n := 20) (v := 1) dX3_feed_19 (by decide) rfl ?_
    refine aw_callV (n := 23) (C0 := RX3) (As := [.int 1]) (rest := []) (K2 := kX3_no) dX3_feed_20 q2773 q2775 qs42 q113 q2776 ⟨rfl, hcX3_no⟩ rfl hT_1.1 (ct_no G h_1 b (tS ms 0 (0 : Int32)) hb hT_1 (1 : Int32)) rfl (Nat.le_of_ble_eq_true rfl) ⟨Nat.le_of_ble_eq_true rfl, Nat.le_of_ble_eq_true rfl⟩ ⟨Nat.zero_le _, Nat.zero_le _⟩ (fun _ _ _ z => z.elim) rfl (fun r_20 h_20 q_20 => ?_)
    obtain ⟨rfl, hT_20, hF_20, hz_20⟩ := q_20
    have hG_20 := Fr.trans hF_1 hF_20
    refine AW.sts (st' := [.int 0]) rfl ?_
    have e9 : opFeed ms x1 x2 x3 x4 x5 = (0, tS (tS ms 0 (0 : Int32)) 0 (1 : Int32)) := by rw [tS_tS, opFeed, if_neg (by omega)]
    exact aw_iret dX3_feed_23 rfl ⟨by rw [e9], by rw [e9]; exact hT_20, hG_20, by omega⟩ ⟨Nat.zero_le _, Nat.zero_le _⟩

end
