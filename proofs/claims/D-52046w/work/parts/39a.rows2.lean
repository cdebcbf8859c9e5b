/-! AW rows: a string constant by ldc_w. -/
section
set_option maxRecDepth 100000
variable {G : aG} {K : aK} {P : aP} {pc n : Nat} {lv lv' : List (Nat × Value)} {st st' : List Value} {h h' : hH} {ce sl : Nat}
theorem aw_ldcwS {idx q : Nat} {tx : String} (hd : decode K.2.1 pc = .ok (.ldc_w idx, 3)) (i : Nat) (hs : srT[i]? = some (K.1.cls, idx, tx, q)) (hn : pc + 3 = n) (k : AW G K P n lv (.ref (gT G q) :: st) h ce sl) : AW G K P pc lv st h ce sl := by
  intro p l e s m args below meth c C H locs ls hR hl hf
  subst hn
  have hZ := vk_R.warm C.wm (C.gd.2.2.2.1 i _ hs)
  intro T hT X
  obtain ⟨t, a1, b1⟩ := k p l e s m args below meth c C H locs ls hR hl hf T hT X
  refine ⟨t, ?_, b1⟩
  obtain ⟨k9, cf, i9, a9, hk, hcf, hcp, -, hr, hev'⟩ := Cond.stringRef_spec C.own hZ.1
  cases hZ.2.symm.trans hev'
  obtain ⟨k', hk', he⟩ := X.warmed.alike.2.2 _ _ hk
  have hr' : k'.resolved[idx]? = some (some (.string (gT G q))) := by
    rcases X.warmed.entry hk hk' idx with h9 | ⟨h9, -⟩
    · rw [h9]; exact hr
    · rw [hr] at h9; cases h9
  have hdg : decode c.code (F0 m pc ls st).pc = .ok (.ldc_w idx, 3) := by rw [C.2.1]; exact hd
  jvm_step X.here [C.1, hdg, ldc_w.wp_string (e := e) (s := T) (f := F0 m pc ls st) X.here.top hk' (by rw [he]; exact hcf) hcp hr']
  exact a1
end
