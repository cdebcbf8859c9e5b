/-! The twin: keep. -/
section
set_option maxRecDepth 100000
def tIA (ms : tM) (k : Nat) (F : Nat → Int32) : tM := (ms.1, (fun q => if q = k then F else ms.2.1 q), ms.2.2)
theorem TW.allI {b : Nat} {h : hH} {ms : tM} (hT : TW b h ms) {k r n : Nat} (hq : (k, r, n, false) ∈ twT) (F : Nat → Int32) : TW b (hset h (b + r) (har 0 n (fun i => .int (F i)))) (tIA ms k F) := by
  have h0 : 0 < r := (twT_in _ hq).1
  refine ⟨?_, fun q hq' => ?_⟩
  · simp only [hset]
    rw [if_neg (by omega)]
    exact hT.1
  · by_cases e : q.1 = k
    · rcases twT_eq q hq' _ hq with e2 | e2
      · exact absurd e e2
      · subst e2
        simp [hset, twC, tIA]
    · rcases twT_ne q hq' _ hq with e2 | e2
      · exact absurd e2 e
      · simp only [hset]
        rw [if_neg (by simp at e2; omega), hT.2 q hq']
        simp [twC, tIA, e]
def tLA (ms : tM) (k : Nat) (F : Nat → Int64) : tM := (ms.1, ms.2.1, fun q => if q = k then F else ms.2.2 q)
theorem TW.allL {b : Nat} {h : hH} {ms : tM} (hT : TW b h ms) {k r n : Nat} (hq : (k, r, n, true) ∈ twT) (F : Nat → Int64) : TW b (hset h (b + r) (har 1 n (fun i => .long (F i)))) (tLA ms k F) := by
  have h0 : 0 < r := (twT_in _ hq).1
  refine ⟨?_, fun q hq' => ?_⟩
  · simp only [hset]
    rw [if_neg (by omega)]
    exact hT.1
  · by_cases e : q.1 = k
    · rcases twT_eq q hq' _ hq with e2 | e2
      · exact absurd e e2
      · subst e2
        simp [hset, twC, tLA]
    · rcases twT_ne q hq' _ hq with e2 | e2
      · exact absurd e2 e
      · simp only [hset]
        rw [if_neg (by simp at e2; omega), hT.2 q hq']
        simp [twC, tLA, e]
def opKeep (ms : tM) : Int32 × tM := (ms.1 29, tLA (tIA (tS (tS (tS ms 0 0) 33 (ms.1 29)) 34 (ms.2.1 23 0)) 35 (fun j => if j < 120 then ms.2.1 30 j else ms.2.1 35 j)) 36 (fun j => if j < 960 then ms.2.2 31 j else ms.2.2 36 j))
theorem cpF_all {α : Type} (V : α → Value) (f g : Nat → α) (n : Nat) : cpF (fun j => V (f j)) (fun j => V (g j)) 0 0 n = fun j => V (if j < n then f j else g j) := by
  funext j
  simp only [cpF, Nat.zero_le, true_and, Nat.zero_add, Nat.sub_zero]
  split <;> rfl
abbrev kX3_keep : aK := (yX3_keep, cX3_keep, 1, (Option.some Jvm.ClassFile.FieldType.int), [])
theorem hcX3_keep : kX3_keep.1.cls ≠ "java/lang/invoke/MethodHandle" ∧ kX3_keep.1.cls ≠ "java/lang/invoke/VarHandle" ∧ (parseMethodDescriptor kX3_keep.1.desc).map (fun d => d.parameters.length) = some 0 := ⟨by decide, by decide, by decide +kernel⟩
theorem ct_keep (G : aG) (h : hH) (b : Nat) (ms : tM) (hb : gB G ≤ b) (hT : TW b h ms) (hI : tOK ms) : Con G kX3_keep [.ref b] h ((2, 200, 0, 0), (fun r h1 => r = some (.int (opKeep ms).1) ∧ TW b h1 ((opKeep ms).2) ∧ Fr (TS b) h h1 ∧ h1.1 = h.1), nX) := by
  refine Con.of (plainFor_of_name rfl) rfl (Nat.le_of_ble_eq_true rfl) ?_
  refine AW.eq (lv2 := [(0, .ref b)]) (s2 := []) rfl rfl rfl rfl rfl ?_
  refine aw_aload_n (n := 1) dX3_keep_0 rfl 0 rfl rfl ?_
  refine aw_iconst (n := 2) (v := 0) dX3_keep_1 (by decide) rfl ?_
  refine aw_tput (n := 5) (k := 0) dX3_keep_2 q2641 (by decide) rfl rfl rfl rfl rfl hT hb rfl rfl (fun h_1 hT_1 hF_1 hz_1 => ?_)
  refine aw_aload_n (n := 6) dX3_keep_5 rfl 0 rfl rfl ?_
  refine aw_aload_n (n := 7) dX3_keep_6 rfl 0 rfl rfl ?_
  refine aw_getf (n := 10) (v := .int (ms.1 29)) (C0 := RX3) (T := TX3) dX3_keep_7 rfl 29 q2670 (Or.inl rfl) hT_1.1 rfl rfl ?_
  refine aw_tput (n := 13) (k := 33) dX3_keep_10 q2674 (by decide) rfl rfl rfl rfl rfl hT_1 hb rfl rfl (fun h_2 hT_2 hF_2 hz_2 => ?_)
  have hG_2 := Fr.trans hF_1 hF_2
  refine aw_aload_n (n := 14) dX3_keep_13 rfl 0 rfl rfl ?_
  refine aw_aload_n (n := 15) dX3_keep_14 rfl 0 rfl rfl ?_
  refine aw_getf (n := 18) (v := .ref (b + 16)) (C0 := RX3) (T := TX3) dX3_keep_15 rfl 23 q2664 (Or.inl rfl) hT_2.1 rfl rfl ?_
  refine aw_iconst (n := 19) (v := 0) dX3_keep_18 (by decide) rfl ?_
  refine aw_iald (n := 20) (v := .int (ms.2.1 23 0)) dX3_keep_19 rfl 0 (by rfl) hT_2.a23 (by omega) (by decide) rfl rfl ?_
  refine aw_tput (n := 23) (k := 34) dX3_keep_20 q2675 (by decide) rfl rfl rfl rfl rfl hT_2 hb rfl rfl (fun h_3 hT_3 hF_3 hz_3 => ?_)
  have hG_3 := Fr.trans hG_2 hF_3
  refine aw_aload_n (n := 24) dX3_keep_23 rfl 0 rfl rfl ?_
  refine aw_getf (n := 27) (v := .ref (b + 20)) (C0 := RX3) (T := TX3) dX3_keep_24 rfl 30 q2671 (Or.inl rfl) hT_3.1 rfl rfl ?_
  refine aw_iconst (n := 28) (v := 0) dX3_keep_27 (by decide) rfl ?_
  refine aw_aload_n (n := 29) dX3_keep_28 rfl 0 rfl rfl ?_
  refine aw_getf (n := 32) (v := .ref (b + 23)) (C0 := RX3) (T := TX3) dX3_keep_29 rfl 35 q2676 (Or.inl rfl) hT_3.1 rfl rfl ?_
  refine aw_iconst (n := 33) (v := 0) dX3_keep_32 (by decide) rfl ?_
  refine aw_bipush (n := 35) (v := 120) dX3_keep_33 (by decide) rfl ?_
  refine AW.sts (st' := [.int (nI 120), .int (nI 0), .ref (b + 23), .int (nI 0), .ref (b + 20)]) rfl ?_
  refine aw_acopy (n := 38) (ti := 0) (rest := []) dX3_keep_35 q3116 q398 q397 q127 rfl rfl hT_3.a30 hT_3.a35 (by omega) (by omega) (by omega) (by decide) (by decide) (fun j _ => rfl) (by decide) ⟨Nat.le_of_ble_eq_true rfl, by show 8 + (nativeFrameWords "java/lang/System" "arraycopy" 5 + 11) ≤ 200; decide⟩ rfl ?_
  rw [cpF_all]
  have hT_35 := TW.allI hT_3 TW.m35 (fun j => if j < 120 then ms.2.1 30 j else ms.2.1 35 j)
  have hF_35 : Fr (TS b) h (hset h_3 (b + 23) (har 0 120 (fun i => Value.int ((fun j => if j < 120 then ms.2.1 30 j else ms.2.1 35 j) i)))) := Fr.trans hG_3 (Fr.set ⟨by omega, by omega⟩)
  have hz_35 : (hset h_3 (b + 23) (har 0 120 (fun i => Value.int ((fun j => if j < 120 then ms.2.1 30 j else ms.2.1 35 j) i)))).1 = h.1 := by show h_3.1 = h.1; omega
  refine id (?_ : AW G kX3_keep ((2, 200, 0, 0), (fun r h1 => r = some (.int (opKeep ms).1) ∧ TW b h1 ((opKeep ms).2) ∧ Fr (TS b) h h1 ∧ h1.1 = h.1), nX) 38 [(0, .ref b)] [] (hset h_3 (b + 23) (har 0 120 (fun i => Value.int ((fun j => if j < 120 then ms.2.1 30 j else ms.2.1 35 j) i)))) 0 0)
  generalize hset h_3 (b + 23) (har 0 120 (fun i => Value.int ((fun j => if j < 120 then ms.2.1 30 j else ms.2.1 35 j) i))) = h_35 at hT_35 hF_35 hz_35 ⊢
  refine aw_aload_n (n := 39) dX3_keep_38 rfl 0 rfl rfl ?_
  refine aw_getf (n := 42) (v := .ref (b + 21)) (C0 := RX3) (T := TX3) dX3_keep_39 rfl 31 q2672 (Or.inl rfl) hT_35.1 rfl rfl ?_
  refine aw_iconst (n := 43) (v := 0) dX3_keep_42 (by decide) rfl ?_
  refine aw_aload_n (n := 44) dX3_keep_43 rfl 0 rfl rfl ?_
  refine aw_getf (n := 47) (v := .ref (b + 24)) (C0 := RX3) (T := TX3) dX3_keep_44 rfl 36 q2677 (Or.inl rfl) hT_35.1 rfl rfl ?_
  refine aw_iconst (n := 48) (v := 0) dX3_keep_47 (by decide) rfl ?_
  refine aw_sipush (n := 51) (v := 960) dX3_keep_48 (by decide) rfl ?_
  refine AW.sts (st' := [.int (nI 960), .int (nI 0), .ref (b + 24), .int (nI 0), .ref (b + 21)]) rfl ?_
  refine aw_acopy (n := 54) (ti := 1) (rest := []) dX3_keep_51 q3116 q398 q397 q127 rfl rfl hT_35.a31 hT_35.a36 (by omega) (by omega) (by omega) (by decide) (by decide) (fun j _ => rfl) (by decide) ⟨Nat.le_of_ble_eq_true rfl, by show 8 + (nativeFrameWords "java/lang/System" "arraycopy" 5 + 11) ≤ 200; decide⟩ rfl ?_
  rw [cpF_all]
  have hT_51 := TW.allL hT_35 TW.m36 (fun j => if j < 960 then ms.2.2 31 j else ms.2.2 36 j)
  have hF_51 : Fr (TS b) h (hset h_35 (b + 24) (har 1 960 (fun i => Value.long ((fun j => if j < 960 then ms.2.2 31 j else ms.2.2 36 j) i)))) := Fr.trans hF_35 (Fr.set ⟨by omega, by omega⟩)
  have hz_51 : (hset h_35 (b + 24) (har 1 960 (fun i => Value.long ((fun j => if j < 960 then ms.2.2 31 j else ms.2.2 36 j) i)))).1 = h.1 := by show h_35.1 = h.1; omega
  refine id (?_ : AW G kX3_keep ((2, 200, 0, 0), (fun r h1 => r = some (.int (opKeep ms).1) ∧ TW b h1 ((opKeep ms).2) ∧ Fr (TS b) h h1 ∧ h1.1 = h.1), nX) 54 [(0, .ref b)] [] (hset h_35 (b + 24) (har 1 960 (fun i => Value.long ((fun j => if j < 960 then ms.2.2 31 j else ms.2.2 36 j) i)))) 0 0)
  generalize hset h_35 (b + 24) (har 1 960 (fun i => Value.long ((fun j => if j < 960 then ms.2.2 31 j else ms.2.2 36 j) i))) = h_51 at hT_51 hF_51 hz_51 ⊢
  refine aw_aload_n (n := 55) dX3_keep_54 rfl 0 rfl rfl ?_
  refine aw_getf (n := 58) (v := .int ((tLA (tIA (tS (tS (tS ms 0 (0 : Int32)) 33 (ms.1 29)) 34 (ms.2.1 23 0)) 35 (fun j => if j < 120 then ms.2.1 30 j else ms.2.1 35 j)) 36 (fun j => if j < 960 then ms.2.2 31 j else ms.2.2 36 j)).1 33)) (C0 := RX3) (T := TX3) dX3_keep_55 rfl 33 q2674 (Or.inl rfl) hT_51.1 rfl rfl ?_
  exact aw_iret dX3_keep_58 rfl ⟨rfl, hT_51, hF_51, (by omega)⟩ ⟨Nat.zero_le _, Nat.zero_le _⟩

end
