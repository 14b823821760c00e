/-! CALLS: from V to V by a contract -/
/-- the machine at T.setTop g goes into a call of y with As; rest is what stays on the stack -/
def Inv (p : Program) (l : Launch) (e : Env) (R : Room) (s : State) (m : MethodId) (args : Array Value) (below : List Frame) (meth : Method) (c : Code) (T : State) (locs : List Loc) (cells slots : Nat) (g : JFrame) (rest : List Value) (y : MethodName) (As : List Value) : Prop :=
  ∃ (vm₁ : Vm) (mk : MethodId), s.WarmedH vm₁ ∧ Stand p l e R s m args below meth c (T.setVm vm₁) locs cells slots ∧ s.methodNamed? y = some mk ∧
    ∀ target, Steps p.tables e below (doInvoke e ((T.setVm vm₁).setTop { g with stack := rest }) [] mk As.toArray).1 target → Steps p.tables e below (T.setTop g) target
section VINV
variable {Ω : Om} {own nm : String} {cc : ByteArray} {nL : Nat} {ret : Option FieldType} {hh : List (Nat × Nat × Nat × Nat)} {d mc ms : Nat} {P : Outcome → AH → Prop} {h : AH} {k n pc : Nat} {lv : List (Nat × Value)} {st : List Value}
theorem V.inv {stk : List Value} {y : MethodName} {d' mc' ms' : Nat} {As : List Value} {P' : Outcome → AH → Prop} {ig : Instr} (hd : decode cc pc = .ok (ig, 3)) (hC : Ct Ω y d' mc' ms' As h P')
    (hI : ∀ (p : Program) (e : Env) (s : State) (m : MethodId) (args : Array Value) (below : List Frame) (meth : Method) (c : Code), Fr Ω own nm cc nL ret hh p s m meth c → ∀ (ls : Array Slot) (locs : List Loc) (T : State), hp Ω h T.heap → Stand p Ω.l e (Rm d mc ms) s m args below meth c T locs k n → Inv p Ω.l e (Rm d mc ms) s m args below meth c T locs k n (F0 m pc ls stk) st y As)
    (hst : (st.map fun v => v.category).sum ≤ 8) (hd' : d' ≤ d) (hk : k + mc' ≤ mc) (hn : n + ms' ≤ ms)
    (kR : ∀ (v : Option Value) (h' : AH), P' (.returned v) h' → V Ω own nm cc nL ret hh d mc ms P h' (k + mc') (n + ms') (pc + 3) lv (v.toList ++ st))
    (kT : ∀ (a : Nat) (h' : AH), P' (.threw a) h' → VT Ω own nm cc nL ret hh d mc ms P h' (k + mc') (n + ms') pc lv a) : V Ω own nm cc nL ret hh d mc ms P h k n pc lv stk := by
  intro p e s m args below meth c F H locs ls hH hl hv T hT X
  obtain ⟨vm₁, mk, hW₁, X₁, hnm, hst₁⟩ := hI p e s m args below meth c F ls locs T (by rw [hT]; exact hH) X
  have hB := F.2.2.2.2.2.2.2.2
  rcases callT (g := { (F0 m pc ls stk) with stack := st }) (ig := ig) (len := 3) X₁ hC hB (by show hp Ω h T.heap; rw [hT]; exact hH) hd' (Nat.mul_le_mul_left 60 hd') hk hn rfl (hv.1.trans F.2.2.1.symm) (by rw [F.2.1]; exact hd) (lv_room hst) (X₁.named hnm) with ⟨v, h', U', L, X', hP', hH', hL, hsteps⟩ | ⟨a, h', U', L, X', hP', hH', hL, hsteps⟩
  · obtain ⟨t, a1, b1⟩ := kR v h' hP' p e s m args below meth c F U'.heap (locs ++ L) ls hH' (fun q hq => (List.mem_append.mp hq).elim (hl q) (hL q)) hv U' rfl X'
    exact ⟨t, hst₁ t (hsteps.trans a1), b1⟩
  · obtain ⟨t, a1, b1⟩ := kT a h' hP' p e s m args below meth c F U'.heap (locs ++ L) ls hH' (fun q hq => (List.mem_append.mp hq).elim (hl q) (hL q)) hv U' rfl X' st
    exact ⟨t, hst₁ t (hsteps.trans a1), b1⟩
/-- what the tables say of a method that can be called through an object: parameters np -/
def Mi (y : MethodName) (np : Nat) : Prop := Cond.instanceMethod y ∈ lw_tbl ∧ (y.cls ≠ "java/lang/invoke/MethodHandle" ∧ y.cls ≠ "java/lang/invoke/VarHandle") ∧ (parseMethodDescriptor y.desc).map (fun d => d.parameters.length) = some np
theorem np_of {desc : String} {np : Nat} (h : (parseMethodDescriptor desc).map (fun d => d.parameters.length) = some np) : ∀ sig, parseMethodDescriptor desc = some sig → np = sig.parameters.length := by
  intro sig hs
  rw [hs] at h
  exact (Option.some.inj h).symm
/-- a known cell -/
def lk (Ω : Om) (h : AH) (a : Nat) (e : Ce) : Prop := h.1 a = some e
theorem lk.at {e : Ce} {a : Nat} {H : Heap} (hk : lk Ω h a e) (hH : hp Ω h H) : at_ Ω a e H := hH.1 a e hk
/-- the class of a known cell -/
theorem recv_ {s : State} (hB : Bs Ω s) {H : Heap} (hH : hp Ω h H) {a ci : Nat} {fs : List Value} {r : vw_C} (hc : vwCl[ci]? = some r) (he : lk Ω h a (.inr (ci, fs))) : ∃ cell : Cell, H[a]? = some cell ∧ cell.vm.isStatics = false ∧ s.vm.findClass r.1 = some cell.cls := by
  obtain ⟨q, h1, cell, g1, g2, g3, -⟩ := he.at hH
  cases hc.symm.trans h1
  exact ⟨cell, g1, g3, by rw [g2]; exact (hB.kn hc).2.1⟩
/-- a static call -/
theorem V.callS {y : MethodName} {np d' mc' ms' idx : Nat} {As : List Value} {P' : Outcome → AH → Prop} (hd : decode cc pc = .ok (.invokestatic idx, 3)) (hl0 : Cond.methodLink own idx y ∈ lw_tbl) (hs0 : Cond.static y ∈ lw_tbl) (hm : (y.cls ≠ "java/lang/invoke/MethodHandle" ∧ y.cls ≠ "java/lang/invoke/VarHandle") ∧ (parseMethodDescriptor y.desc).map (fun d => d.parameters.length) = some np) (hC : Ct Ω y d' mc' ms' As h P') (hnp : As.length = np)
    {stk : List Value} (he : stk = As.reverse ++ st) (hst : (st.map fun v => v.category).sum ≤ 8) (hd' : d' ≤ d) (hk : k + mc' ≤ mc) (hn : n + ms' ≤ ms)
    (kR : ∀ (v : Option Value) (h' : AH), P' (.returned v) h' → V Ω own nm cc nL ret hh d mc ms P h' (k + mc') (n + ms') (pc + 3) lv (v.toList ++ st))
    (kT : ∀ (a : Nat) (h' : AH), P' (.threw a) h' → VT Ω own nm cc nL ret hh d mc ms P h' (k + mc') (n + ms') pc lv a) : V Ω own nm cc nL ret hh d mc ms P h k n pc lv stk := by
  refine V.inv hd hC ?_ hst hd' hk hn kR kT
  intro p e s m args below meth c F ls locs T hH X
  have hB := F.2.2.2.2.2.2.2.2
  obtain ⟨w, nL', d0, ⟨hw1, hw2, hw3⟩, -, -, hcd, -⟩ := hC
  obtain ⟨mk, methM, cM, hnamed, hmethM, -, -, hsigM⟩ := hcd s args (tw hB hw1 hw2 args)
  obtain ⟨kP, hkP, -⟩ := className_of_methodNamed hnamed
  have hinitP : kP.init = .initialized := Cond.initialized_spec (findClass_of_methodNamed hnamed) hkP (tw hB hw3 (by simp [okw, Cond.onTables, Cond.keeps, Cond.steady]) args)
  have hb := F.2.1
  subst hb
  obtain ⟨vm₁, X₁, hstep₁⟩ := X.invokestatic F.1 F.2.2.2.2.1 (tw hB hl0 (by simp [okw, Cond.onTables, Cond.keeps, Cond.steady]) args) hnamed hmethM (Cond.static_spec hnamed hmethM (tw hB hs0 (by simp [okw, Cond.onTables, Cond.keeps, Cond.steady]) args)) hkP hinitP hm.1 (g := F0 m pc ls stk) rfl (argsL := As) (rest := st) (hnp.trans (np_of hm.2 _ hsigM)) he hd
  exact ⟨vm₁, mk, X₁.warmed, X₁, hnamed, fun target h => hstep₁ _ fun acts => by rw [doInvoke_state]; exact h⟩
/-- a call through an object of a known class, which has the method -/
theorem V.callV {y : MethodName} {np d' mc' ms' idx ci b : Nat} {As fs : List Value} {r : vw_C} {P' : Outcome → AH → Prop} (hd : decode cc pc = .ok (.invokevirtual idx, 3)) (hl0 : Cond.methodLink own idx y ∈ lw_tbl) (hm : Mi y np) (hsel0 : Cond.selects r.1 y y ∈ lw_tbl) (hc : vwCl[ci]? = some r) (hb0 : lk Ω h b (.inr (ci, fs))) (hC : Ct Ω y d' mc' ms' (.ref b :: As) h P') (hnp : As.length = np)
    {stk : List Value} (he : stk = As.reverse ++ .ref b :: st) (hst : (st.map fun v => v.category).sum ≤ 8) (hd' : d' ≤ d) (hk : k + mc' ≤ mc) (hn : n + ms' ≤ ms)
    (kR : ∀ (v : Option Value) (h' : AH), P' (.returned v) h' → V Ω own nm cc nL ret hh d mc ms P h' (k + mc') (n + ms') (pc + 3) lv (v.toList ++ st))
    (kT : ∀ (a : Nat) (h' : AH), P' (.threw a) h' → VT Ω own nm cc nL ret hh d mc ms P h' (k + mc') (n + ms') pc lv a) : V Ω own nm cc nL ret hh d mc ms P h k n pc lv stk := by
  refine V.inv hd hC ?_ hst hd' hk hn kR kT
  intro p e s m args below meth c F ls locs T hH X
  have hB := F.2.2.2.2.2.2.2.2
  obtain ⟨w, nL', d0, ⟨hw1, hw2, hw3⟩, -, -, hcd, -⟩ := hC
  obtain ⟨mk, methM, cM, hnamed, hmethM, -, -, hsigM⟩ := hcd s args (tw hB hw1 hw2 args)
  obtain ⟨kP, hkP, -⟩ := className_of_methodNamed hnamed
  have hinitP : kP.init = .initialized := Cond.initialized_spec (findClass_of_methodNamed hnamed) hkP (tw hB hw3 (by simp [okw, Cond.onTables, Cond.keeps, Cond.steady]) args)
  have hb := F.2.1
  subst hb
  obtain ⟨hin, hy, hpar⟩ := hm
  obtain ⟨mk', methM', hnamed', hmethM', hstM, habM⟩ := Cond.instanceMethod_spec (tw hB hin (by simp [okw, Cond.onTables, Cond.keeps, Cond.steady]) args)
  cases hnamed.symm.trans hnamed'
  cases hmethM.symm.trans hmethM'
  obtain ⟨cellB, hcB, hoB, hclB⟩ := recv_ hB hH hc hb0
  obtain ⟨c2, r2, m2, q1, q2, q3, q4, kP2, hkP2, hkPi⟩ := Cond.selects_spec (tw hB hsel0 (by simp [okw, Cond.onTables, Cond.keeps, Cond.steady]) args)
  cases hclB.symm.trans q1
  cases (State.methodFound?_of_named hnamed hy).symm.trans q2
  cases hnamed.symm.trans q3
  have hselP : selectMethod e.platform s.vm cellB.cls mk = .method mk := by rw [Launch.admits_selectMethod X.admits]; exact q4
  obtain ⟨vm₁, X₁, hstep₁⟩ := X.invokevirtual F.1 F.2.2.2.2.1 (tw hB hl0 (by simp [okw, Cond.onTables, Cond.keeps, Cond.steady]) args) hnamed hmethM hstM hkP2 hkPi hy (a := b) (cell := cellB) hcB
    (fun z h => by rw [h] at hoB; cases hoB) hselP hmethM habM hkP2 hkPi (g := F0 m pc ls stk) rfl (argsL := As) (rest := st) (hnp.trans (np_of hpar _ hsigM)) he hd
  exact ⟨vm₁, mk, X₁.warmed, X₁, hnamed, fun target h => hstep₁ _ fun acts => by rw [doInvoke_state]; exact h⟩
/-- a constructor -/
theorem V.callI {y : MethodName} {np d' mc' ms' idx b maxL : Nat} {bytes : ByteArray} {As : List Value} {P' : Outcome → AH → Prop} (hd : decode cc pc = .ok (.invokespecial idx, 3)) (hl0 : Cond.methodLink own idx y ∈ lw_tbl) (hm : Mi y np) (hy1 : y.name = "<init>") (hcode : Cond.code y bytes maxL none ∈ lw_tbl) (hC : Ct Ω y d' mc' ms' (.ref b :: As) h P') (hnp : As.length = np)
    {stk : List Value} (he : stk = As.reverse ++ .ref b :: st) (hst : (st.map fun v => v.category).sum ≤ 8) (hd' : d' ≤ d) (hk : k + mc' ≤ mc) (hn : n + ms' ≤ ms)
    (kR : ∀ (v : Option Value) (h' : AH), P' (.returned v) h' → V Ω own nm cc nL ret hh d mc ms P h' (k + mc') (n + ms') (pc + 3) lv (v.toList ++ st))
    (kT : ∀ (a : Nat) (h' : AH), P' (.threw a) h' → VT Ω own nm cc nL ret hh d mc ms P h' (k + mc') (n + ms') pc lv a) : V Ω own nm cc nL ret hh d mc ms P h k n pc lv stk := by
  refine V.inv hd hC ?_ hst hd' hk hn kR kT
  intro p e s m args below meth c F ls locs T hH X
  have hB := F.2.2.2.2.2.2.2.2
  obtain ⟨w, nL', d0, ⟨hw1, hw2, hw3⟩, -, -, hcd, -⟩ := hC
  obtain ⟨mk, methM, cM, hnamed, hmethM, -, -, hsigM⟩ := hcd s args (tw hB hw1 hw2 args)
  obtain ⟨kP, hkP, -⟩ := className_of_methodNamed hnamed
  have hinitP : kP.init = .initialized := Cond.initialized_spec (findClass_of_methodNamed hnamed) hkP (tw hB hw3 (by simp [okw, Cond.onTables, Cond.keeps, Cond.steady]) args)
  have hb := F.2.1
  subst hb
  obtain ⟨hin, hy, hpar⟩ := hm
  have hpl : e.platform.magicAccessors = ({} : Platform).magicAccessors := by rw [X.admits.platform]
  obtain ⟨mk', methM', cM', kP', vm₁, hnamed', hmethM', hcodeM, -, hlocalsM, -, hkP', -, hW₁, hstep₁⟩ := Steps.initColdArgs (e := e) X.here F.1 X.warmed hpl F.2.2.2.2.1 hy1 hy (tw hB hl0 (by simp [okw, Cond.onTables, Cond.keeps, Cond.steady]) args) (tw hB hin (by simp [okw, Cond.onTables, Cond.keeps, Cond.steady]) args) (tw hB hcode (by simp [okw, Cond.onTables, Cond.keeps, Cond.steady]) args) (f := F0 m pc ls stk) rfl (argsL := As) (rest := st) (fun sig h => hnp.trans (np_of hpar sig h)) he hd
  exact ⟨vm₁, mk', hW₁, X.noted hW₁, hnamed', fun target h => hstep₁ _ fun acts => by rw [doInvoke_state]; exact h⟩
/-- a static call -/
theorem V.callSN {y : MethodName} {np d' mc' ms' idx : Nat} {host : String} {As : List Value} {P' : Outcome → AH → Prop} (hd : decode cc pc = .ok (.invokestatic idx, 3)) (hl0 : Cond.methodLinkNest own idx y host ∈ lw_tbl) (hs0 : Cond.static y ∈ lw_tbl) (hm : (y.cls ≠ "java/lang/invoke/MethodHandle" ∧ y.cls ≠ "java/lang/invoke/VarHandle") ∧ (parseMethodDescriptor y.desc).map (fun d => d.parameters.length) = some np) (hC : Ct Ω y d' mc' ms' As h P') (hnp : As.length = np)
    {stk : List Value} (he : stk = As.reverse ++ st) (hst : (st.map fun v => v.category).sum ≤ 8) (hd' : d' ≤ d) (hk : k + mc' ≤ mc) (hn : n + ms' ≤ ms)
    (kR : ∀ (v : Option Value) (h' : AH), P' (.returned v) h' → V Ω own nm cc nL ret hh d mc ms P h' (k + mc') (n + ms') (pc + 3) lv (v.toList ++ st))
    (kT : ∀ (a : Nat) (h' : AH), P' (.threw a) h' → VT Ω own nm cc nL ret hh d mc ms P h' (k + mc') (n + ms') pc lv a) : V Ω own nm cc nL ret hh d mc ms P h k n pc lv stk := by
  refine V.inv hd hC ?_ hst hd' hk hn kR kT
  intro p e s m args below meth c F ls locs T hH X
  have hB := F.2.2.2.2.2.2.2.2
  obtain ⟨w, nL', d0, ⟨hw1, hw2, hw3⟩, -, -, hcd, -⟩ := hC
  obtain ⟨mk, methM, cM, hnamed, hmethM, -, -, hsigM⟩ := hcd s args (tw hB hw1 hw2 args)
  obtain ⟨kP, hkP, -⟩ := className_of_methodNamed hnamed
  have hinitP : kP.init = .initialized := Cond.initialized_spec (findClass_of_methodNamed hnamed) hkP (tw hB hw3 (by simp [okw, Cond.onTables, Cond.keeps, Cond.steady]) args)
  have hb := F.2.1
  subst hb
  obtain ⟨vm₁, X₁, hstep₁⟩ := X.invokestaticNest F.1 F.2.2.2.2.1 (tw hB hl0 (by simp [okw, Cond.onTables, Cond.keeps, Cond.steady]) args) hnamed hmethM (Cond.static_spec hnamed hmethM (tw hB hs0 (by simp [okw, Cond.onTables, Cond.keeps, Cond.steady]) args)) hkP hinitP hm.1 (g := F0 m pc ls stk) rfl (argsL := As) (rest := st) (hnp.trans (np_of hm.2 _ hsigM)) he hd
  exact ⟨vm₁, mk, X₁.warmed, X₁, hnamed, fun target h => hstep₁ _ fun acts => by rw [doInvoke_state]; exact h⟩
/-- a call through an object of a known class, which has the method -/
theorem V.callVN {y : MethodName} {np d' mc' ms' idx ci b : Nat} {host : String} {As fs : List Value} {r : vw_C} {P' : Outcome → AH → Prop} (hd : decode cc pc = .ok (.invokevirtual idx, 3)) (hl0 : Cond.methodLinkNest own idx y host ∈ lw_tbl) (hm : Mi y np) (hsel0 : Cond.selects r.1 y y ∈ lw_tbl) (hc : vwCl[ci]? = some r) (hb0 : lk Ω h b (.inr (ci, fs))) (hC : Ct Ω y d' mc' ms' (.ref b :: As) h P') (hnp : As.length = np)
    {stk : List Value} (he : stk = As.reverse ++ .ref b :: st) (hst : (st.map fun v => v.category).sum ≤ 8) (hd' : d' ≤ d) (hk : k + mc' ≤ mc) (hn : n + ms' ≤ ms)
    (kR : ∀ (v : Option Value) (h' : AH), P' (.returned v) h' → V Ω own nm cc nL ret hh d mc ms P h' (k + mc') (n + ms') (pc + 3) lv (v.toList ++ st))
    (kT : ∀ (a : Nat) (h' : AH), P' (.threw a) h' → VT Ω own nm cc nL ret hh d mc ms P h' (k + mc') (n + ms') pc lv a) : V Ω own nm cc nL ret hh d mc ms P h k n pc lv stk := by
  refine V.inv hd hC ?_ hst hd' hk hn kR kT
  intro p e s m args below meth c F ls locs T hH X
  have hB := F.2.2.2.2.2.2.2.2
  obtain ⟨w, nL', d0, ⟨hw1, hw2, hw3⟩, -, -, hcd, -⟩ := hC
  obtain ⟨mk, methM, cM, hnamed, hmethM, -, -, hsigM⟩ := hcd s args (tw hB hw1 hw2 args)
  obtain ⟨kP, hkP, -⟩ := className_of_methodNamed hnamed
  have hinitP : kP.init = .initialized := Cond.initialized_spec (findClass_of_methodNamed hnamed) hkP (tw hB hw3 (by simp [okw, Cond.onTables, Cond.keeps, Cond.steady]) args)
  have hb := F.2.1
  subst hb
  obtain ⟨hin, hy, hpar⟩ := hm
  obtain ⟨mk', methM', hnamed', hmethM', hstM, habM⟩ := Cond.instanceMethod_spec (tw hB hin (by simp [okw, Cond.onTables, Cond.keeps, Cond.steady]) args)
  cases hnamed.symm.trans hnamed'
  cases hmethM.symm.trans hmethM'
  obtain ⟨cellB, hcB, hoB, hclB⟩ := recv_ hB hH hc hb0
  obtain ⟨c2, r2, m2, q1, q2, q3, q4, kP2, hkP2, hkPi⟩ := Cond.selects_spec (tw hB hsel0 (by simp [okw, Cond.onTables, Cond.keeps, Cond.steady]) args)
  cases hclB.symm.trans q1
  cases (State.methodFound?_of_named hnamed hy).symm.trans q2
  cases hnamed.symm.trans q3
  have hselP : selectMethod e.platform s.vm cellB.cls mk = .method mk := by rw [Launch.admits_selectMethod X.admits]; exact q4
  obtain ⟨vm₁, X₁, hstep₁⟩ := X.invokevirtualNest F.1 F.2.2.2.2.1 (tw hB hl0 (by simp [okw, Cond.onTables, Cond.keeps, Cond.steady]) args) hnamed hmethM hstM hkP2 hkPi hy (a := b) (cell := cellB) hcB
    (fun z h => by rw [h] at hoB; cases hoB) hselP hmethM habM hkP2 hkPi (g := F0 m pc ls stk) rfl (argsL := As) (rest := st) (hnp.trans (np_of hpar _ hsigM)) he hd
  exact ⟨vm₁, mk, X₁.warmed, X₁, hnamed, fun target h => hstep₁ _ fun acts => by rw [doInvoke_state]; exact h⟩
/-- a constructor -/
theorem V.callIN {y : MethodName} {np d' mc' ms' idx b maxL : Nat} {bytes : ByteArray} {host : String} {As : List Value} {P' : Outcome → AH → Prop} (hd : decode cc pc = .ok (.invokespecial idx, 3)) (hl0 : Cond.methodLinkNest own idx y host ∈ lw_tbl) (hm : Mi y np) (hy1 : y.name = "<init>") (hcode : Cond.code y bytes maxL none ∈ lw_tbl) (hC : Ct Ω y d' mc' ms' (.ref b :: As) h P') (hnp : As.length = np)
    {stk : List Value} (he : stk = As.reverse ++ .ref b :: st) (hst : (st.map fun v => v.category).sum ≤ 8) (hd' : d' ≤ d) (hk : k + mc' ≤ mc) (hn : n + ms' ≤ ms)
    (kR : ∀ (v : Option Value) (h' : AH), P' (.returned v) h' → V Ω own nm cc nL ret hh d mc ms P h' (k + mc') (n + ms') (pc + 3) lv (v.toList ++ st))
    (kT : ∀ (a : Nat) (h' : AH), P' (.threw a) h' → VT Ω own nm cc nL ret hh d mc ms P h' (k + mc') (n + ms') pc lv a) : V Ω own nm cc nL ret hh d mc ms P h k n pc lv stk := by
  refine V.inv hd hC ?_ hst hd' hk hn kR kT
  intro p e s m args below meth c F ls locs T hH X
  have hB := F.2.2.2.2.2.2.2.2
  obtain ⟨w, nL', d0, ⟨hw1, hw2, hw3⟩, -, -, hcd, -⟩ := hC
  obtain ⟨mk, methM, cM, hnamed, hmethM, -, -, hsigM⟩ := hcd s args (tw hB hw1 hw2 args)
  obtain ⟨kP, hkP, -⟩ := className_of_methodNamed hnamed
  have hinitP : kP.init = .initialized := Cond.initialized_spec (findClass_of_methodNamed hnamed) hkP (tw hB hw3 (by simp [okw, Cond.onTables, Cond.keeps, Cond.steady]) args)
  have hb := F.2.1
  subst hb
  obtain ⟨hin, hy, hpar⟩ := hm
  have hpl : e.platform.magicAccessors = ({} : Platform).magicAccessors := by rw [X.admits.platform]
  obtain ⟨mk', methM', cM', kP', vm₁, hnamed', hmethM', hcodeM, -, hlocalsM, -, hkP', -, hW₁, hstep₁⟩ := Steps.initColdArgsNest (e := e) X.here F.1 X.warmed hpl F.2.2.2.2.1 hy1 hy (tw hB hl0 (by simp [okw, Cond.onTables, Cond.keeps, Cond.steady]) args) (tw hB hin (by simp [okw, Cond.onTables, Cond.keeps, Cond.steady]) args) (tw hB hcode (by simp [okw, Cond.onTables, Cond.keeps, Cond.steady]) args) (f := F0 m pc ls stk) rfl (argsL := As) (rest := st) (fun sig h => hnp.trans (np_of hpar sig h)) he hd
  exact ⟨vm₁, mk', hW₁, X.noted hW₁, hnamed', fun target h => hstep₁ _ fun acts => by rw [doInvoke_state]; exact h⟩
/-- a call of an inherited or an abstract method x, declared by owner; the object's class r has y for it -/
theorem V.callU {x y : MethodName} {np d' mc' ms' idx ci b : Nat} {owner : String} {As fs : List Value} {r : vw_C} {P' : Outcome → AH → Prop} (hd : decode cc pc = .ok (.invokevirtual idx, 3)) (hl0 : Cond.methodLink own idx x ∈ lw_tbl) (hsame0 : Cond.sameMethod x.cls owner x.name x.desc ∈ lw_tbl) (hdecl : Cond.declares ⟨owner, x.name, x.desc⟩ ∈ lw_tbl ∨ y = ⟨owner, x.name, x.desc⟩) (hown0 : owner ≠ "java/lang/invoke/MethodHandle" ∧ owner ≠ "java/lang/invoke/VarHandle") (hpar : (parseMethodDescriptor x.desc).map (fun d => d.parameters.length) = some np) (hin : Cond.instanceMethod y ∈ lw_tbl) (hsel0 : Cond.selects r.1 x y ∈ lw_tbl) (hc : vwCl[ci]? = some r) (hb0 : lk Ω h b (.inr (ci, fs))) (hC : Ct Ω y d' mc' ms' (.ref b :: As) h P') (hnp : As.length = np)
    {stk : List Value} (he : stk = As.reverse ++ .ref b :: st) (hst : (st.map fun v => v.category).sum ≤ 8) (hd' : d' ≤ d) (hk : k + mc' ≤ mc) (hn : n + ms' ≤ ms)
    (kR : ∀ (v : Option Value) (h' : AH), P' (.returned v) h' → V Ω own nm cc nL ret hh d mc ms P h' (k + mc') (n + ms') (pc + 3) lv (v.toList ++ st))
    (kT : ∀ (a : Nat) (h' : AH), P' (.threw a) h' → VT Ω own nm cc nL ret hh d mc ms P h' (k + mc') (n + ms') pc lv a) : V Ω own nm cc nL ret hh d mc ms P h k n pc lv stk := by
  refine V.inv hd hC ?_ hst hd' hk hn kR kT
  intro p e s m args below meth c F ls locs T hH X
  have hB := F.2.2.2.2.2.2.2.2
  obtain ⟨w, nL', d0, ⟨hw1, hw2, hw3⟩, -, -, hcd, -⟩ := hC
  obtain ⟨mk, methM, cM, hnamed, hmethM, -, -, hsigM⟩ := hcd s args (tw hB hw1 hw2 args)
  obtain ⟨kP, hkP, -⟩ := className_of_methodNamed hnamed
  have hinitP : kP.init = .initialized := Cond.initialized_spec (findClass_of_methodNamed hnamed) hkP (tw hB hw3 (by simp [okw, Cond.onTables, Cond.keeps, Cond.steady]) args)
  have hb := F.2.1
  subst hb
  have hdec : va_Decl s ⟨owner, x.name, x.desc⟩ := by
    rcases hdecl with hq | hq
    · exact va_Decl.abs (va_Nw.of rfl (tw hB hq (by simp [okw, Cond.onTables, Cond.keeps, Cond.steady]) args))
    · obtain ⟨mk', methM', hnamed', hmethM', hstM', -⟩ := Cond.instanceMethod_spec (tw hB hin (by simp [okw, Cond.onTables, Cond.keeps, Cond.steady]) args)
      cases hnamed.symm.trans hnamed'
      cases hmethM.symm.trans hmethM'
      rw [← hq]
      exact ⟨mk, methM, hnamed, hmethM, hstM', hsigM⟩
  obtain ⟨r0, rr, hn0, hrm, hstR, hsigR⟩ := hdec
  have hsame := tw hB hsame0 (by simp [okw, Cond.onTables, Cond.keeps, Cond.steady]) args
  obtain ⟨cn, ck, r1, hcn, hck, hni, hf, hn1⟩ := Cond.sameMethod_found hsame
  cases hn0.symm.trans hn1
  obtain ⟨mk', methM', hnamed', hmethM', -, habM⟩ := Cond.instanceMethod_spec (tw hB hin (by simp [okw, Cond.onTables, Cond.keeps, Cond.steady]) args)
  cases hnamed.symm.trans hnamed'
  obtain ⟨cellB, hcB, hoB, hclB⟩ := recv_ hB hH hc hb0
  obtain ⟨c2, r2, m2, q1, q2, q3, q4, kP2, hkP2, hkPi⟩ := Cond.selects_spec (tw hB hsel0 (by simp [okw, Cond.onTables, Cond.keeps, Cond.steady]) args)
  cases hclB.symm.trans q1
  cases hf.symm.trans q2
  cases hnamed.symm.trans q3
  have hselP : selectMethod e.platform s.vm cellB.cls r0 = .method mk := by rw [Launch.admits_selectMethod X.admits]; exact q4
  obtain ⟨vm₁, X₁, hstep₁⟩ := X.invokevirtualUp F.1 F.2.2.2.2.1 (tw hB hl0 (by simp [okw, Cond.onTables, Cond.keeps, Cond.steady]) args) hsame hown0 hn0 hrm hstR (a := b) (cell := cellB) hcB
    (fun z h => by rw [h] at hoB; cases hoB) hselP hmethM' habM hkP2 hkPi (g := F0 m pc ls stk) rfl (argsL := As) (rest := st) (hnp.trans (np_of hpar _ hsigR)) he hd
  exact ⟨vm₁, mk, X₁.warmed, X₁, hnamed, fun target h => hstep₁ _ fun acts => by rw [doInvoke_state]; exact h⟩
end VINV
