section VINV2
variable {Ω : Om} {own nm : String} {cc : ByteArray} {nL : Nat} {ret : Option FieldType} {hh : List (Nat × Nat × Nat × Nat)} {d mc ms : Nat} {P : Outcome → AH → Prop} {h : AH} {k n pc : Nat} {lv : List (Nat × Value)} {st : List Value}
/-- a call of an inherited or an abstract method x, declared by owner; the object's class r has y for it -/
theorem V.callU2 {bytes2 : ByteArray} {maxL2 : Nat} {ret2 : Option FieldType} {x y : MethodName} {np d' mc' ms' idx ci b : Nat} {owner : String} {As fs : List Value} {r : vw_C} {P' : Outcome → AH → Prop} (hd : decode cc pc = .ok (.invokevirtual idx, 3)) (hl0 : Cond.methodLink own idx x ∈ lw_tbl) (hsame0 : Cond.sameMethod x.cls owner x.name x.desc ∈ lw_tbl) (hdi : Cond.instanceMethod ⟨owner, x.name, x.desc⟩ ∈ lw_tbl) (hdc : Cond.code ⟨owner, x.name, x.desc⟩ bytes2 maxL2 ret2 ∈ lw_tbl) (hown0 : owner ≠ "java/lang/invoke/MethodHandle" ∧ owner ≠ "java/lang/invoke/VarHandle") (hpar : (parseMethodDescriptor x.desc).map (fun d => d.parameters.length) = some np) (hin : Cond.instanceMethod y ∈ lw_tbl) (hsel0 : Cond.selects r.1 x y ∈ lw_tbl) (hc : vwCl[ci]? = some r) (hb0 : lk Ω h b (.inr (ci, fs))) (hC : Ct Ω y d' mc' ms' (.ref b :: As) h P') (hnp : As.length = np)
    {stk : List Value} (he : stk = As.reverse ++ .ref b :: st) (hst : (st.map fun v => v.category).sum ≤ 8) (hd' : d' ≤ d) (hk : k + mc' ≤ mc) (hn : n + ms' ≤ ms)
    (kR : ∀ (v : Option Value) (h' : AH), P' (.returned v) h' → V Ω own nm cc nL ret hh d mc ms P h' (k + mc') (n + ms') (pc + 3) lv (v.toList ++ st))
    (kT : ∀ (a : Nat) (h' : AH), P' (.threw a) h' → VT Ω own nm cc nL ret hh d mc ms P h' (k + mc') (n + ms') pc lv a) : V Ω own nm cc nL ret hh d mc ms P h k n pc lv stk := by
  refine V.inv hd hC ?_ hst hd' hk hn kR kT
  intro p e s m args below meth c F ls locs T hH X
  have hB := F.2.2.2.2.2.2.2.2
  obtain ⟨w, nL', d0, ⟨hw1, hw2, hw3⟩, -, -, hcd, -⟩ := hC
  obtain ⟨mk, methM, cM, hnamed, hmethM, -, -, hsigM⟩ := hcd s args (tw hB hw1 hw2 args)
  obtain ⟨kP, hkP, -⟩ := className_of_methodNamed hnamed
  have hinitP : kP.init = .initialized := Cond.initialized_spec (findClass_of_methodNamed hnamed) hkP (tw hB hw3 (by simp [okw, Cond.onTables, Cond.keeps, Cond.steady]) args)
  have hb := F.2.1
  subst hb
  have hdec : va_Decl s ⟨owner, x.name, x.desc⟩ := by
    obtain ⟨mk', methM', hnamed', hmethM', hstM', -⟩ := Cond.instanceMethod_spec (tw hB hdi (by simp [okw, Cond.onTables, Cond.keeps, Cond.steady]) args)
    obtain ⟨meth2, c2, g1, g2, g3, g4, -, -, -, g5⟩ := Cond.code_spec hnamed' (tw hB hdc (by simp [okw, Cond.onTables, Cond.keeps, Cond.steady]) args)
    cases hmethM'.symm.trans g1
    exact ⟨mk', methM', hnamed', hmethM', hstM', g5⟩
  obtain ⟨r0, rr, hn0, hrm, hstR, hsigR⟩ := hdec
  have hsame := tw hB hsame0 (by simp [okw, Cond.onTables, Cond.keeps, Cond.steady]) args
  obtain ⟨cn, ck, r1, hcn, hck, hni, hf, hn1⟩ := Cond.sameMethod_found hsame
  cases hn0.symm.trans hn1
  obtain ⟨mk', methM', hnamed', hmethM', -, habM⟩ := Cond.instanceMethod_spec (tw hB hin (by simp [okw, Cond.onTables, Cond.keeps, Cond.steady]) args)
  cases hnamed.symm.trans hnamed'
  obtain ⟨cellB, hcB, hoB, hclB⟩ := recv_ hB hH hc hb0
  obtain ⟨c2, r2, m2, q1, q2, q3, q4, kP2, hkP2, hkPi⟩ := Cond.selects_spec (tw hB hsel0 (by simp [okw, Cond.onTables, Cond.keeps, Cond.steady]) args)
  cases hclB.symm.trans q1
  cases hf.symm.trans q2
  cases hnamed.symm.trans q3
  have hselP : selectMethod e.platform s.vm cellB.cls r0 = .method mk := by rw [Launch.admits_selectMethod X.admits]; exact q4
  obtain ⟨vm₁, X₁, hstep₁⟩ := X.invokevirtualUp F.1 F.2.2.2.2.1 (tw hB hl0 (by simp [okw, Cond.onTables, Cond.keeps, Cond.steady]) args) hsame hown0 hn0 hrm hstR (a := b) (cell := cellB) hcB
    (fun z h => by rw [h] at hoB; cases hoB) hselP hmethM' habM hkP2 hkPi (g := F0 m pc ls stk) rfl (argsL := As) (rest := st) (hnp.trans (np_of hpar _ hsigR)) he hd
  exact ⟨vm₁, mk, X₁.warmed, X₁, hnamed, fun target h => hstep₁ _ fun acts => by rw [doInvoke_state]; exact h⟩
end VINV2
theorem dr_U2 {μ : Me} {pc np idx ci : Nat} {bytes2 : ByteArray} {maxL2 : Nat} {ret2 : Option FieldType} {x ym : MethodName} {owner : String} {r : vw_C} (hd : decode μ.2.1 pc = .ok (.invokevirtual idx, 3)) (hl0 : Cond.methodLink μ.1.cls idx x ∈ lw_tbl) (hsame0 : Cond.sameMethod x.cls owner x.name x.desc ∈ lw_tbl) (hdi : Cond.instanceMethod ⟨owner, x.name, x.desc⟩ ∈ lw_tbl) (hdc : Cond.code ⟨owner, x.name, x.desc⟩ bytes2 maxL2 ret2 ∈ lw_tbl) (hown0 : owner ≠ "java/lang/invoke/MethodHandle" ∧ owner ≠ "java/lang/invoke/VarHandle") (hpar : (parseMethodDescriptor x.desc).map (fun d => d.parameters.length) = some np) (hin : Cond.instanceMethod ym ∈ lw_tbl) (hc : vwCl[ci]? = some r) (hsel0 : Cond.selects r.1 x ym ∈ lw_tbl) : DRow μ pc np ci ym := by
  intro Ω d h b fs As rest hb hnp hst mc ms P k n lv0 mc' ms' P' hC hk hn kR kT
  exact V.callU2 hd hl0 hsame0 hdi hdc hown0 hpar hin hsel0 hc hb hC hnp rfl hst (Nat.le_refl _) hk hn kR kT
