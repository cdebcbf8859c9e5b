/-! AW row: Object's constructor. -/
section
variable {G : aG} {K : aK} {P : aP} {pc n : Nat} {lv lv' : List (Nat × Value)} {st st' : List Value} {h h' : hH} {ce sl : Nat}
theorem aw_objInit {idx b : Nat} (hd : decode K.2.1 pc = .ok (.invokespecial idx, 3)) (w1 : Cond.methodLink K.1.cls idx ⟨"java/lang/Object", "<init>", "()V"⟩ ∈ lw_all) (hr : 1 ≤ P.1.1 ∧ (st.map (fun v => v.category)).sum + 12 ≤ P.1.2.1) (hn : pc + 3 = n) (k : AW G K P n lv st h ce sl) : AW G K P pc lv (.ref b :: st) h ce sl := by
  intro p l e s m args below meth c C H locs ls hR hl hf
  subst hn
  refine W.objInit C.1 C.2.1 C.own (C.ts _ w1) (C.ts _ q175) (C.ts _ q176) rfl (by rw [C.2.2.1]; exact hl.1) rfl hd hr.1 ?_ (k p l e s m args below meth c C H locs ls hR hl hf)
  show 2 * 0 + (st.map (fun v => v.category)).sum + 12 ≤ P.1.2.1
  omega
end
