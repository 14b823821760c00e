/-! CATCH: a handler's class may still be unresolved -/
def FindsTo (e : Env) (s : State) (f : JFrame) (a : Addr) (h : Handler) (vm' : Vm) : Prop :=
  ∀ (Q : Handler → Pre) (E : CtlPost) (d : Bool) (acts : List Action), wp (findHandler f a) Q E e d acts s ↔ Q h d acts (s.setVm vm')
theorem fh_cold {Q : Handler → Pre} {E : CtlPost} {e : Env} {d : Bool} {acts : List Action} {s : State} {f : JFrame} {a : Addr} {x : ExceptionTableEntry} {t : List ExceptionTableEntry} {c : ClassId} {vm' : Vm} (hx : covers x f.pc = true) (h0 : x.catchType ≠ 0)
    (hg : (Jvm.resolveClass f.method.cls x.catchType).Gives e.toSetting s.vm (.ok c) vm') (hr : vm'.classReady f.method.cls x.catchType c) (hsz : vm'.classes.size ≤ s.vm.classes.size) :
    wp (findHandler.go f a (x :: t)) Q E e d acts s ↔ wp (findHandler.go f a (x :: t)) Q E e d acts (s.setVm vm') := by
  obtain ⟨ha, ht⟩ := hg.op (op := VmOp.resolveClass f.method.cls x.catchType) rfl
  simp only [covers] at hx
  obtain ⟨k, hkd, hres⟩ := hr
  simp [findHandler.go, hx, h0, ha, ht, hsz, resolveClass_memo e hkd hres, VmOp.dirties, VmOp.acts, State.setVm_twice]
theorem step_catchTo {e : Env} {s : State} {a : Addr} {f : JFrame} {r : List Frame} {pc : Nat} {vm' : Vm} (hfind : FindsTo e s f a (.found pc) vm') :
    (stepThrowing e s a (.java f :: r)).Is ((s.setVm vm').setFrames (.java { f with pc := pc, stack := [.ref a] } :: r)) [] := by
  simp only [stepThrowing, searchFrame, vmDo]
  generalize hr : Sem.go _ e false [] s = res
  obtain ⟨as, rfl, ha⟩ := Sem.eq_ok_of hr (a := Handler.found pc) (s' := s.setVm vm') (acts' := []) (by simp [hfind _ _ _ _])
  exact ⟨rfl, ha⟩
theorem caughtTo {tb : Tables} {e : Env} {s target : State} {g : JFrame} {c : Code} {below : List Frame} {a : Addr} (h : At s g.method c below) {pc : Nat} {vm' : Vm} (hfind : FindsTo e ((s.setTop g).pushFrame (.throwing a)) g a (.found pc) vm')
    (hrest : Steps tb e below ((s.setVm vm').setTop { g with pc := pc, stack := [.ref a] }) target) :
    Steps tb e below ((s.setTop g).pushFrame (.throwing a)) target := by
  obtain ⟨hgo, hw⟩ := h.throwing a
  refine Steps.head hgo hw ?_
  rw [stepThread_throwing (frames_entered h.top _), (step_catchTo (s := (s.setTop g).pushFrame (.throwing a)) hfind).1]
  obtain ⟨g₀, hg⟩ := Option.isSome_iff_exists.mp h.top
  obtain ⟨r, hr⟩ := State.topJava?_eq_some.mp hg
  have hr' : (s.setVm vm').frames = .java g₀ :: r := hr
  rw [State.setTop_of_frames _ hr'] at hrest
  rw [State.pushFrame, State.setTop_of_frames _ hr, hr]
  show Steps tb e below ((((s.setVm vm').setFrames _).setFrames _).setFrames _) target
  rw [State.setFrames_setFrames, State.setFrames_setFrames]
  exact hrest
/-- which handler takes an exception of class X -/
def CatchOk (own X : String) (pc hpc : Nat) : List (Nat × Nat × Nat × Nat) → Prop
  | [] => False
  | x :: t => (x.1 ≤ pc ∧ pc < x.2.1) ∧ x.2.2.2 ≠ 0 ∧ ∃ C : String, Cond.classLink own x.2.2.2 C ∈ lw_tbl ∧ ((Cond.castable X C ∈ lw_tbl ∧ x.2.2.1 = hpc) ∨ (Nc X C ∧ CatchOk own X pc hpc t))
section VCAT
variable {Ω : Om} {own nm : String} {cc : ByteArray} {nL : Nat} {ret : Option FieldType} {hh : List (Nat × Nat × Nat × Nat)} {d mc ms : Nat} {P : Outcome → AH → Prop} {h : AH} {k n pc : Nat} {lv : List (Nat × Value)} {st : List Value}
theorem find_go {X : String} {pc hpc : Nat} {p : Program} {e : Env} {R : Room} {s : State} {m : MethodId} {args : Array Value} {below : List Frame} {meth : Method} {c : Code} {Ω : Om} (hB : Bs Ω s) (hown : s.vm.findClass own = some m.cls) {a : Nat} {cell : Cell} (hobj : cell.vm.isStatics = false) (hX : s.vm.findClass X = some cell.cls) {f : JFrame} (hf : f.method = m) (hfp : f.pc = pc) :
    ∀ (tb : List ExceptionTableEntry), CatchOk own X pc hpc (tb.map (fun h => (h.startPc, h.endPc, h.handlerPc, h.catchType))) → ∀ (T S : State) (locs : List Loc) (k n : Nat), Stand p Ω.l e R s m args below meth c T locs k n → S.vm = T.vm → S.heap[a]? = some cell →
      ∃ vm', Stand p Ω.l e R s m args below meth c (T.setVm vm') locs k n ∧ ∀ (Q : Handler → Pre) (E : CtlPost) (d : Bool) (acts : List Action), wp (findHandler.go f a tb) Q E e d acts S ↔ Q (.found hpc) d acts (S.setVm vm') := by
  intro tb
  induction tb with
  | nil => intro hC; exact hC.elim
  | cons x t ih =>
    intro hC T S locs k n Z hS hcell
    obtain ⟨⟨hc1, hc2⟩, h0, C, hl, hor⟩ := hC
    have hc1 : x.startPc ≤ pc := hc1
    have hc2 : pc < x.endPc := hc2
    have h0 : x.catchType ≠ 0 := h0
    have hx : covers x f.pc = true := by simp [covers, hfp, hc1, hc2]
    have hpl : e.platform.magicAccessors = ({} : Platform).magicAccessors := by rw [Z.admits.platform]
    obtain ⟨cT, hcT, hcl⟩ := Cond.classLink_spec hown (tw hB hl (by simp [okw, Cond.onTables, Cond.keeps, Cond.steady]) args) e.platform hpl
    obtain ⟨dk, _, _, kt, hd, _, _, _, _, hkt, _, hopen⟩ := hcl.here
    have hcl₀ := Z.warmed.classLinks hcl
    have hW' : s.WarmedH (T.vm.noted m.cls x.catchType (.cls cT)) := Z.warmed.noted hd hopen (State.rightAt_cls hcl)
    have Z' := Z.noted hW'
    obtain ⟨kt', hkt', -⟩ := hW'.alike.2.2 _ _ hkt
    obtain ⟨ks, hks, -⟩ := Vm.findClass_spec hX
    obtain ⟨ks', hks', -⟩ := hW'.alike.2.2 _ _ hks
    have hcold : ∀ (Q : Handler → Pre) (E : CtlPost) (d : Bool) (acts : List Action), wp (findHandler.go f a (x :: t)) Q E e d acts S ↔ (if (T.vm.noted m.cls x.catchType (.cls cT)).assignable cell.cls cT = true then Q (.found x.handlerPc) d acts (S.setVm (T.vm.noted m.cls x.catchType (.cls cT))) else wp (findHandler.go f a t) Q E e d acts (S.setVm (T.vm.noted m.cls x.catchType (.cls cT)))) := by
      intro Q E d acts
      rw [fh_cold hx h0 (vm' := T.vm.noted m.cls x.catchType (.cls cT)) (by rw [hf, hS]; exact resolveClass_links e.toSetting hcl₀) (by rw [hf]; exact hcl₀.ready) (by rw [hS]; no_record)]
      exact W.findHandler_go_class (s := S.setVm (T.vm.noted m.cls x.catchType (.cls cT))) hx h0 (by rw [hf]; exact hcl₀.ready) hcell (VmData.noStatics_of hobj) ⟨ks', hks'⟩ ⟨kt', hkt'⟩
    rcases hor with ⟨hca, hpe⟩ | ⟨hnc, hrest⟩
    · have hpe : x.handlerPc = hpc := hpe
      obtain ⟨c0, t0, f1, f2, f3⟩ := Cond.castable_spec (tw hB hca rfl args)
      cases hX.symm.trans f1
      cases hcT.symm.trans f2
      refine ⟨_, Z', fun Q E d acts => ?_⟩
      rw [hcold, if_pos (by rw [hW'.alike.assignable]; exact f3), hpe]
    · have hno : s.vm.assignable cell.cls cT = false := by
        obtain ⟨c9, t9, f1, f2, f3⟩ := (va_Nc.of (hnc _ _ hB.1.2.2.1)).moved hB.2.1.alike
        cases hX.symm.trans f1
        cases hcT.symm.trans f2
        exact f3
      obtain ⟨vm2, Z2, hfi⟩ := ih hrest (T.setVm (T.vm.noted m.cls x.catchType (.cls cT))) (S.setVm (T.vm.noted m.cls x.catchType (.cls cT))) locs k n Z' rfl hcell
      refine ⟨vm2, by rw [State.setVm_twice] at Z2; exact Z2, fun Q E d acts => ?_⟩
      rw [hcold, if_neg (by rw [hW'.alike.assignable, hno]; decide), hfi, State.setVm_twice]
theorem VT.catch {X : String} {ci a hpc : Nat} {fs : List Value} {r : vw_C} (hc : vwCl[ci]? = some r) (ha : lk Ω h a (.inr (ci, fs))) (hC : CatchOk own r.1 pc hpc hh) (kk : V Ω own nm cc nL ret hh d mc ms P h k n hpc lv [.ref a]) : VT Ω own nm cc nL ret hh d mc ms P h k n pc lv a := by
  intro p e s m args below meth c F H locs ls hH hl hv T hT Z st
  have hB := F.2.2.2.2.2.2.2.2
  obtain ⟨cell, h1, h2, h3⟩ := recv_ hB hH hc ha
  have hS : ((T.setTop (F0 m pc ls st)).pushFrame (.throwing a)).vm = T.vm := Stand.throwing_vm T _ a
  have hS2 : ((T.setTop (F0 m pc ls st)).pushFrame (.throwing a)).heap = T.heap := Stand.throwing_heap T _ a
  obtain ⟨vm', Z', hfi⟩ := find_go (hpc := hpc) hB F.2.2.2.2.1 h2 h3 (f := F0 m pc ls st) rfl rfl c.exceptionTable.toList (by rw [F.2.2.2.2.2.2.2.1]; exact hC) T ((T.setTop (F0 m pc ls st)).pushFrame (.throwing a)) locs k n Z hS (by rw [hS2, hT]; exact h1)
  obtain ⟨t, a1, b1⟩ := kk p e s m args below meth c F H locs ls hH hl hv (T.setVm vm') hT Z'
  refine ⟨t, caughtTo (g := F0 m pc ls st) Z.here (pc := hpc) (vm' := vm') (fun Q E d acts => ?_) a1, b1⟩
  rw [W.findHandler_eq (meth := meth) (code := c) (by rw [hS]; exact Z.method') Z.code]
  exact hfi Q E d acts
end VCAT
