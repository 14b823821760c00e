/-! MORE ROWS: statics, clone, arraycopy, casts of arrays, super calls, private calls -/
section VROWS3
variable {Ω : Om} {own nm : String} {cc : ByteArray} {nL : Nat} {ret : Option FieldType} {hh : List (Nat × Nat × Nat × Nat)} {d mc ms : Nat} {P : Outcome → AH → Prop} {h : AH} {k n pc : Nat} {lv : List (Nat × Value)} {st : List Value}
theorem V.gets {C n0 d0 : String} {v : Value} {idx : Nat} (hd : decode cc pc = .ok (.getstatic idx, 3)) (hl0 : Cond.fieldLink own idx C n0 d0 ∈ lw_tbl) (hZ : Ok Ω → va_Z C n0 d0 v (fun _ => False) Ω.s Ω.s.heap) (kk : V Ω own nm cc nL ret hh d mc ms P h k n (pc + 3) lv (v :: st)) : V Ω own nm cc nL ret hh d mc ms P h k n pc lv st := by
  intro p e s m args below meth c F H locs ls hH hl hv
  have hB := F.2.2.2.2.2.2.2.2
  obtain ⟨cf, kf, fi, f, a, cell, h1, h2, h3, h4, h5, h6, h7, -⟩ := va_Z.moved hB.2.1.alike (hZ hB.1)
  exact W.gets F.1 F.2.1 F.2.2.2.2.1 (tw hB hl0 (by simp [okw, Cond.onTables, Cond.keeps, Cond.steady]) args) h1 h2 h3 h4 (by rw [hH.2.2.2 a (Array.getElem?_eq_some_iff.mp h5).1]; exact h5) (fun e => by rw [e] at h6; cases h6) h7 rfl hd (kk p e s m args below meth c F H locs ls hH hl hv)
theorem ok_compact {Ω : Om} (hO : Ok Ω) : va_Z "java/lang/String" "COMPACT_STRINGS" "Z" (.int 1) (fun _ => False) Ω.s Ω.s.heap :=
  va_Zof (hO.1 _ w127) (hO.1 _ w66) (va_eqt (flat_of_before _ hO.2.2.1 _ (by decide +kernel))) (fun _ _ h => h)
theorem V.cloneB {idx a len : Nat} {f : Nat → Int32} (hd : decode cc pc = .ok (.invokevirtual idx, 3)) (hl0 : Cond.methodLink own idx ⟨"[B", "clone", "()Ljava/lang/Object;"⟩ ∈ lw_tbl) (hsm : Cond.sameMethod "[B" "java/lang/Object" "clone" "()Ljava/lang/Object;" ∈ lw_tbl) (hnat : Cond.native ⟨"java/lang/Object", "clone", "()Ljava/lang/Object;"⟩ ∈ lw_tbl) (hin : Cond.instanceMethod ⟨"java/lang/Object", "clone", "()Ljava/lang/Object;"⟩ ∈ lw_tbl) (hsel : Cond.selects "[B" ⟨"[B", "clone", "()Ljava/lang/Object;"⟩ ⟨"java/lang/Object", "clone", "()Ljava/lang/Object;"⟩ ∈ lw_tbl) (hcl : Cond.castable "[B" "java/lang/Cloneable" ∈ lw_tbl)
    (ha : lk Ω h a (.inl (.byte, (len, .inl f)))) (hasz : Ω.sz ≤ a) (hfit : ∀ j, j < len → fits .byte (.int (f j)) = true) (hst : (st.map fun v => v.category).sum ≤ 8) (hd1 : 1 ≤ d) (hk : k + 1 ≤ mc) (hn : n + len ≤ ms)
    (kk : V Ω own nm cc nL ret hh d mc ms P (hnew h (.inl (.byte, (len, .inl f))) len) (k + 1) (n + len) (pc + 3) lv (.ref h.2.1 :: st)) : V Ω own nm cc nL ret hh d mc ms P h k n pc lv (.ref a :: st) := by
  intro p e s m args below meth c F H locs ls hH hl hv T hT X
  have hB := F.2.2.2.2.2.2.2.2
  obtain ⟨cA, hK, hc⟩ := (ha.at hH).arr hasz
  have hK' := hB.arr hK
  have hnm : s.vm.findClass "[B" = some cA := hK'.2
  have hsz : (vp_cell cA (len, .inl f)).slots.size = len := arrV_size _ _ _
  obtain ⟨c0, t0', f1, f2, f3⟩ := Cond.castable_spec (tw hB hcl rfl args)
  cases hnm.symm.trans f1
  have hcellT : T.heap[a]? = some (vp_cell cA (len, .inl f)) := by rw [hT]; exact hc
  obtain ⟨-, kA, hkA, comp, hkind⟩ := State.isArrayOf_alike X.warmed.alike (hK'.1 0 (fun _ => .null))
  obtain ⟨-, kS, hkS, compS, hkindS⟩ := hK'.1 0 (fun _ => .null)
  obtain ⟨vm', X', st'⟩ := X.cloneArray F.1 F.2.2.2.2.1 (tw hB hl0 (by simp [okw, Cond.onTables, Cond.keeps, Cond.steady]) args) (tw hB hsm (by simp [okw, Cond.onTables, Cond.keeps, Cond.steady]) args) (tw hB hnat (by simp [okw, Cond.onTables, Cond.keeps, Cond.steady]) args) (tw hB hin (by simp [okw, Cond.onTables, Cond.keeps, Cond.steady]) args) (tw hB hsel (by simp [okw, Cond.onTables, Cond.keeps, Cond.steady]) args) (a := a) (cell := vp_cell cA (len, .inl f)) hcellT (fun k h => by cases h) (fun h => by cases h) hnm f2 f3
    (fun i v hv => by
      have hk' : T.vm.classes[cA]? = some kA := hkA
      have hv' : (arrV cA len (fun j => .int (f j))).slots[i]? = some v := hv
      have hi : i < len := by
        have := (Array.getElem?_eq_some_iff.mp hv').1
        rwa [arrV_size] at this
      rw [arrV_read _ _ hi] at hv'
      cases hv'
      show T.fitsSlot cA .none i _ = true
      simpa [State.fitsSlot, State.slotType?, hk', hkind] using hfit i hi)
    (g := F0 m pc ls (.ref a :: st)) rfl (by rw [F.2.2.1]; exact hv.1) rfl (by rw [F.2.1]; exact hd) hd1 (by show 2 * 0 + _ + 14 ≤ 60 * d; omega) hk (by rw [hsz]; exact hn) (hloader := Vm.clonesLoader_of_array hkS hkindS)
  rw [hsz] at X'
  generalize hH1 : H.push (vp_cell cA (len, .inl f)) = H1
  have z1 : H1.size = H.size + 1 := by rw [← hH1, Array.size_push]
  have e1 : H1[H.size]? = some (vp_cell cA (len, .inl f)) := by rw [← hH1, Array.getElem?_push_size]
  have o1 : ∀ q : Nat, q < H.size → H1[q]? = H[q]? := fun q hq => by rw [← hH1, Array.getElem?_push, if_neg (Nat.ne_of_lt hq)]
  have hH1' := hH.push (N := len) (e := .inl (.byte, (len, .inl f))) (at_.mkA (cA := cA) hK e1) z1 o1
  have kk := kk p e s m args below meth c F H1 locs ls hH1' hl hv
  rw [hH.2.1] at kk
  obtain ⟨t, b1, b2⟩ := kk ((T.setVm vm').pushCell (vp_cell cA (len, .inl f))) (by rw [← hH1, ← hT]; rfl) X'
  refine ⟨t, st' t ?_, b2⟩
  rw [hT]
  exact b1
theorem V.acopy {idx a0 a n0 n1 sp dp cn : Nat} {f g : Nat → Int32} {i1 i2 i3 : Int32} (hd : decode cc pc = .ok (.invokestatic idx, 3)) (hl0 : Cond.methodLink own idx arraycopyName ∈ lw_tbl) (hnat : Cond.native arraycopyName ∈ lw_tbl) (hstat : Cond.static arraycopyName ∈ lw_tbl) (hini : Cond.initialized "java/lang/System" ∈ lw_tbl)
    (ha0 : lk Ω h a0 (.inl (.byte, (n0, .inl f)))) (ha : lk Ω h a (.inl (.byte, (n1, .inl g)))) (hasz : Ω.sz ≤ a) (hi1 : i1 = nI sp) (hi2 : i2 = nI dp) (hi3 : i3 = nI cn) (h4 : sp + cn ≤ n0) (h5 : dp + cn ≤ n1) (hb0 : n0 < 100000) (hb1 : n1 < 100000) (hfit : ∀ j, j < cn → fits .byte (.int (f (sp + j))) = true) (hst : (st.map fun v => v.category).sum ≤ 8) (hd1 : 1 ≤ d)
    (kk : V Ω own nm cc nL ret hh d mc ms P (hput h a (.inl (.byte, (n1, .inl (va_cpy f g sp dp cn))))) k n (pc + 3) lv st) : V Ω own nm cc nL ret hh d mc ms P h k n pc lv (.int i3 :: .int i2 :: .ref a :: .int i1 :: .ref a0 :: st) := by
  intro p e s m args below meth c F H locs ls hH hl hv T hT X
  have hB := F.2.2.2.2.2.2.2.2
  obtain ⟨c0, cell0, hK0, hc0, hcl0, hs0, hv0, hu0, -⟩ := ha0.at hH
  subst hcl0
  obtain ⟨c1, hK1, hc1⟩ := (ha.at hH).arr hasz
  have hK0' := arrOfT_moved hB.2.1.alike hK0
  have hK1' := hB.arr hK1
  subst hi1 hi2 hi3
  have z1 : (nI sp).toNatClampNeg = sp := nI_clamp (by omega)
  have z2 : (nI dp).toNatClampNeg = dp := nI_clamp (by omega)
  have z3 : (nI cn).toNatClampNeg = cn := nI_clamp (by omega)
  obtain ⟨-, k0, hk0, cm0, hkk0⟩ := hK0' n0 (fun j => .int (f j))
  obtain ⟨-, k1, hk1, cm1, hkk1⟩ := hK1'.1 n1 (fun j => .int (g j))
  obtain ⟨vm', X', step⟩ := X.arraycopy F.1 F.2.2.2.2.1 (tw hB hl0 (by simp [okw, Cond.onTables, Cond.keeps, Cond.steady]) args) (tw hB hnat (by simp [okw, Cond.onTables, Cond.keeps, Cond.steady]) args) (tw hB hstat (by simp [okw, Cond.onTables, Cond.keeps, Cond.steady]) args) (tw hB hini (by simp [okw, Cond.onTables, Cond.keeps, Cond.steady]) args) (src := a0) (dst := a) (cs := cell0) (cd := vp_cell c1 (n1, .inl g)) (srcPos := nI sp) (destPos := nI dp) (n := nI cn) (by rw [hT]; exact hc0) (by rw [hT]; exact hc1)
    hv0 (fun _ h => by cases h) hu0 (fun h => by cases h) hk0 hk1 hkk0 hkk1 rfl (nI_pos (by omega)) (nI_pos (by omega)) (nI_pos (by omega))
    (by rw [nI_toInt (by omega), nI_toInt (by omega)]; have := hs0.1; show ¬ _ > (cell0.slots.size : Int); have h0 : n0 ≤ cell0.slots.size := hs0.1; omega)
    (by rw [nI_toInt (by omega), nI_toInt (by omega)]; show ¬ _ > ((arrV c1 n1 (fun j => .int (g j))).slots.size : Int); rw [arrV_size]; omega)
    (fun vm₁ _ i hi => by
      rw [z3] at hi
      rw [z1]
      have e : cell0.slots.getD (sp + i) .null = .int (f (sp + i)) := by
        rw [Array.getD_eq_getD_getElem?, hs0.2.2 (sp + i) (show sp + i < n0 by omega)]
        show ((arrV cell0.cls n0 (fun j => .int (f j))).slots[sp + i]?).getD _ = _
        rw [arrV_read _ _ (by omega)]
        rfl
      refine ⟨?_, ?_⟩
      · rw [e]
        exact hfit i hi
      · rw [e]
        exact trivial)
    (g := F0 m pc ls (.int (nI cn) :: .int (nI dp) :: .ref a :: .int (nI sp) :: .ref a0 :: st)) rfl (by rw [F.2.2.1]; exact hv.1) (rest := st) rfl (by rw [F.2.1]; exact hd) hd1 (by
      show 2 * 0 + _ + (nativeFrameWords "java/lang/System" "arraycopy" 5 + 11) ≤ 60 * d
      have : nativeFrameWords "java/lang/System" "arraycopy" 5 + 11 ≤ 52 := by decide +kernel
      omega)
  have e1 : copied cell0 (vp_cell c1 (n1, .inl g)) (nI sp) (nI dp) (nI cn) = vp_cell c1 (n1, .inl (va_cpy f g sp dp cn)) := by
    have := va_copied (fun z => .int z) cell0.cls c1 f g (dp := dp) (n1 := n1) h4
    have es : cell0.stretch sp cn = (vp_cell cell0.cls (n0, .inl f)).stretch sp cn := by
      unfold Cell.stretch
      refine List.map_congr_left fun i hi => ?_
      have hi' := List.mem_range.mp hi
      rw [Array.getD_eq_getD_getElem?, Array.getD_eq_getD_getElem?, hs0.2.2 (sp + i) (show sp + i < n0 by omega)]
    unfold copied
    rw [z1, z2, z3, es]
    exact this
  rw [e1] at X' step
  have hl2 : a < H.size := (Array.getElem?_eq_some_iff.mp hc1).1
  have hheap : ((T.setVm vm').setCell a (vp_cell c1 (n1, .inl (va_cpy f g sp dp cn)))).heap = H.setIfInBounds a (vp_cell c1 (n1, .inl (va_cpy f g sp dp cn))) := by rw [← hT]; rfl
  have oq : ∀ q : Nat, q ≠ a → (H.setIfInBounds a (vp_cell c1 (n1, .inl (va_cpy f g sp dp cn))))[q]? = H[q]? := fun q hq => by simp [Array.getElem?_setIfInBounds, Ne.symm hq]
  obtain ⟨t, a1, b1⟩ := kk p e s m args below meth c F _ _ ls (hH.set hasz (e := .inl (.byte, (n1, .inl (va_cpy f g sp dp cn)))) (at_.mkA (cA := c1) hK1 (show (H.setIfInBounds a _)[a]? = some _ by simp [Array.getElem?_setIfInBounds, hl2])) (by simp) oq) (fun q hq => by
      rcases List.mem_append.mp hq with h | h
      · exact hl q h
      · obtain ⟨z, -, hz⟩ := List.mem_map.mp h
        rw [← hz]
        exact hasz) hv _ hheap X'
  exact ⟨t, step t a1, b1⟩
theorem V.castA {idx a : Nat} {nm0 : String} {ty : FieldType} {x : vp_A} (hd : decode cc pc = .ok (.checkcast idx, 3)) (hl0 : Cond.classLink own idx nm0 ∈ lw_tbl) (ha : lk Ω h a (.inl (ty, x))) (hasz : Ω.sz ≤ a) (hty : ∀ (U : State) (cA : ClassId), va_RA U cA ty → U.vm.findClass nm0 = some cA) (kk : V Ω own nm cc nL ret hh d mc ms P h k n (pc + 3) lv (.ref a :: st)) : V Ω own nm cc nL ret hh d mc ms P h k n pc lv (.ref a :: st) := by
  intro p e s m args below meth c F H locs ls hH hl hv
  have hB := F.2.2.2.2.2.2.2.2
  obtain ⟨cA, hK, hc⟩ := (ha.at hH).arr hasz
  have hK' := hB.arr hK
  exact va_castA (D := Ω.D) (cl := []) (ws := [(a, .inl (cA, x))]) F.1 F.2.1 F.2.2.2.2.1 (tw hB hl0 (by simp [okw, Cond.onTables, Cond.keeps, Cond.steady]) args) (fun i q hq => by
    cases i with
    | zero => cases hq; exact hc
    | succ i => simp at hq) 0 rfl (hty s cA hK'.2) hd (kk p e s m args below meth c F H locs ls hH hl hv)
/-- super.m(..) -/
theorem V.callSp {y : MethodName} {np d' mc' ms' idx ci b : Nat} {As fs : List Value} {r : vw_C} {P' : Outcome → AH → Prop} (hd : decode cc pc = .ok (.invokespecial idx, 3)) (hl0 : Cond.methodLink own idx y ∈ lw_tbl) (hm : Mi y np) (hsame : Cond.sameMethod y.cls y.cls y.name y.desc ∈ lw_tbl) (hsup : Cond.superclass own y.cls ∈ lw_tbl) (hno : y.name ≠ "<init>") (hc : vwCl[ci]? = some r) (hb0 : lk Ω h b (.inr (ci, fs))) (hC : Ct Ω y d' mc' ms' (.ref b :: As) h P') (hnp : As.length = np)
    {stk : List Value} (he : stk = As.reverse ++ .ref b :: st) (hst : (st.map fun v => v.category).sum ≤ 8) (hd' : d' ≤ d) (hk : k + mc' ≤ mc) (hn : n + ms' ≤ ms)
    (kR : ∀ (v : Option Value) (h' : AH), P' (.returned v) h' → V Ω own nm cc nL ret hh d mc ms P h' (k + mc') (n + ms') (pc + 3) lv (v.toList ++ st))
    (kT : ∀ (a : Nat) (h' : AH), P' (.threw a) h' → VT Ω own nm cc nL ret hh d mc ms P h' (k + mc') (n + ms') pc lv a) : V Ω own nm cc nL ret hh d mc ms P h k n pc lv stk := by
  refine V.inv hd hC ?_ hst hd' hk hn kR kT
  intro p e s m args below meth c F ls locs T hH X
  have hB := F.2.2.2.2.2.2.2.2
  obtain ⟨w, nL', d0, ⟨hw1, hw2, hw3⟩, -, -, hcd, -⟩ := hC
  obtain ⟨mk, methM, cM, hnamed, hmethM, -, -, hsigM⟩ := hcd s args (tw hB hw1 hw2 args)
  have hb := F.2.1
  subst hb
  obtain ⟨hin, hy, hpar⟩ := hm
  obtain ⟨mk', methM', hnamed', hmethM', hstM, habM⟩ := Cond.instanceMethod_spec (tw hB hin (by simp [okw, Cond.onTables, Cond.keeps, Cond.steady]) args)
  cases hnamed.symm.trans hnamed'
  cases hmethM.symm.trans hmethM'
  obtain ⟨ps, dk, kp, hps, hdk, hkp, hsuper, -, -, hnid⟩ := Cond.superclass_spec F.2.2.2.2.1 (tw hB hsup (by simp [okw, Cond.onTables, Cond.keeps, Cond.steady]) args)
  have hn' : s.methodNamed? ⟨y.cls, y.name, y.desc⟩ = some mk := hnamed
  have hpm : ps = mk.cls := Option.some.inj (hps.symm.trans (findClass_of_methodNamed hnamed))
  have hsub : s.vm.isSubclass ps mk.cls = true := by rw [hpm]; simp [Vm.isSubclass, Vm.isSubclassAux]
  obtain ⟨cellB, hcB, hoB, hclB⟩ := recv_ hB hH hc hb0
  obtain ⟨kB, hkB, -⟩ := Vm.findClass_spec hclB
  obtain ⟨vm₁, X₁, hstep₁⟩ := X.invokespecialUp F.1 F.2.2.2.2.1 (tw hB hl0 (by simp [okw, Cond.onTables, Cond.keeps, Cond.steady]) args) (tw hB hsame (by simp [okw, Cond.onTables, Cond.keeps, Cond.steady]) args) hn' hmethM hstM habM hno hdk hnid hps hsuper hsub (a := b) (cell := cellB) hcB
    (fun z h => by rw [h] at hoB; cases hoB) hkB (g := F0 m pc ls stk) rfl (argsL := As) (rest := st) (hnp.trans (np_of hpar _ hsigM)) he hd
  exact ⟨vm₁, mk, X₁.warmed, X₁, hnamed, fun target h => hstep₁ _ (by rw [doInvoke_state]; exact h)⟩
/-- a private method of the same class, or of a superclass -/
theorem V.callP {y : MethodName} {np d' mc' ms' idx ci b : Nat} {As fs : List Value} {r : vw_C} {P' : Outcome → AH → Prop} (hd : decode cc pc = .ok (.invokevirtual idx, 3)) (hl0 : Cond.methodLink own idx y ∈ lw_tbl) (hm : Mi y np) (hpr : Cond.privateMethod y ∈ lw_tbl) (hsame0 : Cond.sameMethod y.cls y.cls y.name y.desc ∈ lw_tbl) (hc : vwCl[ci]? = some r) (hb0 : lk Ω h b (.inr (ci, fs))) (hC : Ct Ω y d' mc' ms' (.ref b :: As) h P') (hnp : As.length = np)
    {stk : List Value} (he : stk = As.reverse ++ .ref b :: st) (hst : (st.map fun v => v.category).sum ≤ 8) (hd' : d' ≤ d) (hk : k + mc' ≤ mc) (hn : n + ms' ≤ ms)
    (kR : ∀ (v : Option Value) (h' : AH), P' (.returned v) h' → V Ω own nm cc nL ret hh d mc ms P h' (k + mc') (n + ms') (pc + 3) lv (v.toList ++ st))
    (kT : ∀ (a : Nat) (h' : AH), P' (.threw a) h' → VT Ω own nm cc nL ret hh d mc ms P h' (k + mc') (n + ms') pc lv a) : V Ω own nm cc nL ret hh d mc ms P h k n pc lv stk := by
  refine V.inv hd hC ?_ hst hd' hk hn kR kT
  intro p e s m args below meth c F ls locs T hH X
  have hB := F.2.2.2.2.2.2.2.2
  obtain ⟨w, nL', d0, ⟨hw1, hw2, hw3⟩, -, -, hcd, -⟩ := hC
  obtain ⟨mk, methM, cM, hnamed, hmethM, -, -, hsigM⟩ := hcd s args (tw hB hw1 hw2 args)
  obtain ⟨kP, hkP, -⟩ := className_of_methodNamed hnamed
  have hinitP : kP.init = .initialized := Cond.initialized_spec (findClass_of_methodNamed hnamed) hkP (tw hB hw3 (by simp [okw, Cond.onTables, Cond.keeps, Cond.steady]) args)
  have hb := F.2.1
  subst hb
  obtain ⟨hin, hy, hpar⟩ := hm
  obtain ⟨mk', methM', hnamed', hmethM', hstM, habM⟩ := Cond.instanceMethod_spec (tw hB hin (by simp [okw, Cond.onTables, Cond.keeps, Cond.steady]) args)
  cases hnamed.symm.trans hnamed'
  cases hmethM.symm.trans hmethM'
  obtain ⟨cellB, hcB, hoB, hclB⟩ := recv_ hB hH hc hb0
  have hpv : methM.isPrivate = true := Cond.privateMethod_at (Cond.privateMethod_warm (args' := args) hB.2.1 (hB.1.1 _ hpr)) mk methM hnamed hmethM
  have hselP : selectMethod e.platform s.vm cellB.cls mk = .method mk := selectMethod_private hmethM hpv
  obtain ⟨cn, ck, r1, hcn, hck, hni0, hf, hn1⟩ := Cond.sameMethod_found (tw hB hsame0 (by simp [okw, Cond.onTables, Cond.keeps, Cond.steady]) args)
  have hni : kP.isInterface = false := by
    cases hcn.symm.trans (findClass_of_methodNamed hnamed)
    cases hck.symm.trans hkP
    exact hni0
  obtain ⟨vm₁, X₁, hstep₁⟩ := X.invokevirtual F.1 F.2.2.2.2.1 (tw hB hl0 (by simp [okw, Cond.onTables, Cond.keeps, Cond.steady]) args) hnamed hmethM hstM hkP hni hy (a := b) (cell := cellB) hcB
    (fun z h => by rw [h] at hoB; cases hoB) hselP hmethM habM hkP hni (g := F0 m pc ls stk) rfl (argsL := As) (rest := st) (hnp.trans (np_of hpar _ hsigM)) he hd
  exact ⟨vm₁, mk, X₁.warmed, X₁, hnamed, fun target h => hstep₁ _ fun acts => by rw [doInvoke_state]; exact h⟩
end VROWS3
