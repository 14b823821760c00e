/-! RETURNS, THROWS, CONTRACTS, CALLS -/
theorem W.mono {p : Program} {l : Launch} {e : Env} {R : Room} {s : State} {m : MethodId} {args : Array Value} {below : List Frame} {meth : Method} {c : Code} {H : Heap} {locs : List Loc} {cells slots : Nat} {Q Q' : State → Prop} {g : JFrame} (h : W p l e R s m args below meth c H locs cells slots Q g) (hq : ∀ t, Q t → Q' t) : W p l e R s m args below meth c H locs cells slots Q' g := by
  intro T hT X
  obtain ⟨t, a, b⟩ := h T hT X
  exact ⟨t, a, hq t b⟩
theorem MQT.of {Ω : Om} {below : List Frame} {P : Outcome → AH → Prop} {s : State} {mc ms : Nat} {a : Array Value} {t : State} (h : MQ below (fun _ _ o t => ∃ h', P o h' ∧ hp Ω h' t.heap) a s mc ms (fun q => Ω.sz ≤ q) t) : MQT Ω below P s mc ms t := by
  obtain ⟨o, h1, h2, h3, L, ⟨h4, h5, h6⟩, h7⟩ := h
  exact ⟨o, h1, h2, h3, L, ⟨h5, h6⟩, h7⟩
/-- which pcs the handlers cover -/
def hcov (hh : List (Nat × Nat × Nat × Nat)) (pc : Nat) : Bool := hh.any (fun x => decide (x.1 ≤ pc) && decide (pc < x.2.1))
section VENDS
variable {Ω : Om} {own nm : String} {cc : ByteArray} {nL : Nat} {ret : Option FieldType} {hh : List (Nat × Nat × Nat × Nat)} {d mc ms : Nat} {P : Outcome → AH → Prop} {h : AH} {k n pc : Nat} {lv : List (Nat × Value)} {st : List Value}
theorem V.lcmp {x y : Int64} (hd : decode cc pc = .ok (.lcmp, 1)) (kk : V Ω own nm cc nL ret hh d mc ms P h k n (pc + 1) lv (.int (lg_cmp x y) :: st)) : V Ω own nm cc nL ret hh d mc ms P h k n pc lv (.long y :: .long x :: st) :=
  fun p e s m args below meth c F H locs ls hH hl hv => W.lcmp F.1 F.2.1 hd (kk p e s m args below meth c F H locs ls hH hl hv)
theorem V.iret {v : Int32} (hd : decode cc pc = .ok (.ireturn, 1)) {ty : FieldType} (hr : ret = some ty) (hn0 : narrow ty (.int v) = .int v) (hk : k ≤ mc) (hn : n ≤ ms) (hq : P (.returned (some (.int v))) h) : V Ω own nm cc nL ret hh d mc ms P h k n pc lv [.int v] := by
  intro p e s m args below meth c F H locs ls hH hl hv
  refine W.widen hk hn ?_
  exact W.mono (W.zret (Qc := fun _ _ o t => ∃ h', P o h' ∧ hp Ω h' t.heap) (free := fun q => Ω.sz ≤ q) F.1 F.2.1 (F.2.2.2.1.trans hr) hn0 (fun t ht _ => ⟨h, hq, by rw [ht]; exact hH⟩) hl hd F.2.2.2.2.2.2.1) (fun t ht => MQT.of ht)
theorem V.lret {v : Int64} (hd : decode cc pc = .ok (.lreturn, 1)) (hr : ret = some .long) (hk : k ≤ mc) (hn : n ≤ ms) (hq : P (.returned (some (.long v))) h) : V Ω own nm cc nL ret hh d mc ms P h k n pc lv [.long v] := by
  intro p e s m args below meth c F H locs ls hH hl hv
  refine W.widen hk hn ?_
  exact W.mono (W.lret (Qc := fun _ _ o t => ∃ h', P o h' ∧ hp Ω h' t.heap) (free := fun q => Ω.sz ≤ q) F.1 F.2.1 (F.2.2.2.1.trans hr) (fun t ht _ => ⟨h, hq, by rw [ht]; exact hH⟩) hl hd F.2.2.2.2.2.2.1) (fun t ht => MQT.of ht)
theorem V.vret (hd : decode cc pc = .ok (.return_, 1)) (hr : ret = none) (hk : k ≤ mc) (hn : n ≤ ms) (hq : P (.returned none) h) : V Ω own nm cc nL ret hh d mc ms P h k n pc lv [] := by
  intro p e s m args below meth c F H locs ls hH hl hv
  refine W.widen hk hn ?_
  exact W.mono (W.vret (Qc := fun _ _ o t => ∃ h', P o h' ∧ hp Ω h' t.heap) (free := fun q => Ω.sz ≤ q) F.1 F.2.1 (F.2.2.2.1.trans hr) (fun t ht _ => ⟨h, hq, by rw [ht]; exact hH⟩) hl hd F.2.2.2.2.2.2.1) (fun t ht => MQT.of ht)
theorem V.aret {v : Value} (hd : decode cc pc = .ok (.areturn, 1)) {ty : FieldType} (hr : ret = some ty) (hrt : (∃ n, ty = .object n) ∨ ∃ t, ty = .array t) (hv0 : v = .null ∨ ∃ a, v = .ref a) (hk : k ≤ mc) (hn : n ≤ ms) (hq : P (.returned (some v)) h) : V Ω own nm cc nL ret hh d mc ms P h k n pc lv [v] := by
  intro p e s m args below meth c F H locs ls hH hl hv
  refine W.widen hk hn ?_
  exact W.mono (W.aret (Qc := fun _ _ o t => ∃ h', P o h' ∧ hp Ω h' t.heap) (free := fun q => Ω.sz ≤ q) F.1 F.2.1 (F.2.2.2.1.trans hr) hrt hv0 (fun t ht _ => ⟨h, hq, by rw [ht]; exact hH⟩) hl hd F.2.2.2.2.2.2.1) (fun t ht => MQT.of ht)
/-- an exception a is on its way at pc -/
def VT (Ω : Om) (own nm : String) (cc : ByteArray) (nL : Nat) (ret : Option FieldType) (hh : List (Nat × Nat × Nat × Nat)) (d mc ms : Nat) (P : Outcome → AH → Prop) (h : AH) (k n pc : Nat) (lv : List (Nat × Value)) (a : Nat) : Prop :=
  ∀ (p : Program) (e : Env) (s : State) (m : MethodId) (args : Array Value) (below : List Frame) (meth : Method) (c : Code), Fr Ω own nm cc nL ret hh p s m meth c → ∀ (H : Heap) (locs : List Loc) (ls : Array Slot), hp Ω h H → (∀ q ∈ locs, Ω.sz ≤ q.base) → lv_has ls nL lv →
    ∀ T : State, T.heap = H → Stand p Ω.l e (Rm d mc ms) s m args below meth c T locs k n → ∀ st : List Value, ∃ t, Steps p.tables e below ((T.setTop (F0 m pc ls st)).pushFrame (.throwing a)) t ∧ MQT Ω below P s mc ms t
theorem hcov_out {c : Code} {pc : Nat} (hc : hcov (c.exceptionTable.toList.map (fun h => (h.startPc, h.endPc, h.handlerPc, h.catchType))) pc = false) : ∀ x ∈ c.exceptionTable.toList, covers x pc = false := by
  intro x hx
  unfold hcov at hc
  rw [List.any_eq_false] at hc
  have h1 := hc _ (List.mem_map.mpr ⟨x, hx, rfl⟩)
  simpa [covers] using h1
theorem VT.leave {a : Nat} (hc : hcov hh pc = false) (hk : k ≤ mc) (hn : n ≤ ms) (hq : P (.threw a) h) : VT Ω own nm cc nL ret hh d mc ms P h k n pc lv a := by
  intro p e s m args below meth c F H locs ls hH hl hv T hT X st
  obtain ⟨h1, h2, h3, h4, h5⟩ := (stand_widen X hk hn).leaveThrown a (g := F0 m pc ls st) rfl rfl rfl (hcov_out (by rw [F.2.2.2.2.2.2.2.1]; exact hc)) F.2.2.2.2.2.2.1
  have hz : (T.setFrames (.throwing a :: below)).heap = T.heap := rfl
  exact ⟨_, h1, .threw a, h2, h3, ⟨h, hq, by rw [hz, hT]; exact hH⟩, locs, ⟨h4, h5⟩, hl⟩
theorem V.athrow {a : Nat} (hd : decode cc pc = .ok (.athrow, 1)) (kk : VT Ω own nm cc nL ret hh d mc ms P h k n pc lv a) : V Ω own nm cc nL ret hh d mc ms P h k n pc lv (.ref a :: st) := by
  intro p e s m args below meth c F H locs ls hH hl hv T hT X
  obtain ⟨t, h1, h2⟩ := kk p e s m args below meth c F H locs ls hH hl hv T hT X st
  refine ⟨t, ?_, h2⟩
  have hx := F.1
  have hb := F.2.1
  subst hb
  jvm_step X.here [hx, hd, Op.athrow.wp_sem]
  exact h1
end VENDS
/-- A CONTRACT: called with As on the heap h, y ends with P; it needs d frames, mc cells, ms slots -/
def Ct (Ω : Om) (y : MethodName) (d mc ms : Nat) (As : List Value) (h : AH) (P : Outcome → AH → Prop) : Prop :=
  ∃ (w : Cond) (nL d0 : Nat), (w ∈ lw_tbl ∧ okw w = true ∧ Cond.initialized y.cls ∈ lw_tbl) ∧ d = d0 + 1 ∧ nL + 19 ≤ 60 ∧
    (∀ (U : State) (args : Array Value), w.before args U = true → ∃ m meth c, U.methodNamed? y = some m ∧ U.vm.method? m = some meth ∧ meth.code = some c ∧ c.maxLocals = nL ∧ parseMethodDescriptor y.desc = some meth.sig) ∧
    MetFree Ω.l y (headSpec [w] (Rm d0 mc ms)) (fun a U => a = As.toArray ∧ Bs Ω U ∧ hp Ω h U.heap) (fun _ _ _ _ _ => True) (fun _ st o t => (∃ h', P o h' ∧ hp Ω h' t.heap) ∧ ∃ L, FE st t L mc ms ∧ ∀ q ∈ L, Ω.sz ≤ q.base)
theorem Ct.of_V {Ω : Om} {y : MethodName} {cc : ByteArray} {nL : Nat} {ret : Option FieldType} {d mc ms : Nat} {As : List Value} {h : AH} {P : Outcome → AH → Prop} (hw : Cond.code y cc nL ret ∈ lw_tbl) (hi : Cond.initialized y.cls ∈ lw_tbl) (hy : plainFor y = true) (hL : (lg_sl As).length ≤ nL) (hnl : nL + 19 ≤ 60)
    (hV : V Ω y.cls y.name cc nL ret [] d mc ms P h 0 0 0 (lv_args 0 As) []) : Ct Ω y (d + 1) mc ms As h P := by
  refine ⟨Cond.code y cc nL ret, nL, d, ⟨hw, by simp [okw, Cond.onTables, Cond.keeps, Cond.steady], hi⟩, rfl, hnl, ?_, ?_⟩
  · intro U args hwd
    obtain ⟨m, hm⟩ := Cond.code_named hwd
    obtain ⟨meth, c, h1, h2, h3, h4, -, -, -, h5⟩ := Cond.code_spec hm hwd
    exact ⟨m, meth, c, hm, h1, h2, h4, h5⟩
  refine MetFree.of_bodySF (code := cc) (maxLocals := nL) (ret := ret) hy ?_ ?_
  · intro args s m h hn
    obtain ⟨meth, c, h1, h2, h3, h4, h5, h6, -, -⟩ := Cond.code_spec hn (atoms_spec (ws := [Cond.code y cc nL ret]) h _ List.mem_cons_self)
    exact ⟨meth, c, h1, h2, h3, h4, h5, h6⟩
  · intro p e s m args below meth c s₁ B hml hP _
    obtain ⟨rfl, hB, hH⟩ := hP
    have hh0 : s₁.heap = s.heap := by rw [B.state]; rfl
    have hts := atoms_spec (ws := [Cond.code y cc nL ret]) B.pre
    have hex := B.noHandlers (hts _ List.mem_cons_self)
    have hlv := lv_entry As (n := nL) hL
    have key := hV p e s m As.toArray below meth c ⟨B.exec, B.bytes, hml, B.returns, findClass_of_methodNamed B.named, (name_of_methodNamed B.named B.method).1, B.notSynchronized, by
      rw [Array.isEmpty_iff] at hex
      rw [hex]; rfl, hB⟩ s.heap [] _ hH (fun _ h => by cases h) hlv
    obtain ⟨t, a1, o, b1, b2, b3, b4⟩ := key s₁ hh0 (Stand.of_body B)
    rw [← lg_entry_eq] at a1
    exact ⟨t, o, a1, b1, b2, b3, b4⟩
theorem Ct.mono {Ω : Om} {y : MethodName} {d mc ms : Nat} {As : List Value} {h : AH} {P P' : Outcome → AH → Prop} (hC : Ct Ω y d mc ms As h P) (hP : ∀ o h', P o h' → P' o h') : Ct Ω y d mc ms As h P' := by
  obtain ⟨w, nL, d0, h1, h2, h3, h4, hM⟩ := hC
  refine ⟨w, nL, d0, h1, h2, h3, h4, ?_⟩
  intro p e ha hc hk s m args below hf happ hP0 hK
  obtain ⟨n, o, g1, g2, g3, ⟨h', g4, g5⟩, g6⟩ := hM p e ha hc hk s m args below hf happ hP0 hK
  exact ⟨n, o, g1, g2, g3, ⟨h', hP o h' g4, g5⟩, g6⟩
/-- a call by a contract, from a point of a walk -/
theorem callT {p : Program} {e : Env} {R : Room} {s : State} {m : MethodId} {sargs : Array Value} {below : List Frame} {meth : Method} {c : Code} {U : State} {Ls : List Loc} {c0 s0 : Nat} {Ω : Om} {y : MethodName} {d mc ms : Nat} {As : List Value} {h : AH} {P : Outcome → AH → Prop} {g : JFrame} {ig : Instr} {len : Nat} {mk : MethodId}
    (X : Stand p Ω.l e R s m sargs below meth c U Ls c0 s0) (hC : Ct Ω y d mc ms As h P) (hB : Bs Ω s) (hH : hp Ω h U.heap) (hfr0 : d ≤ R.frames) (hlo : 60 * d ≤ R.locals) (hc0 : c0 + mc ≤ R.cells) (hs0 : s0 + ms ≤ R.slots)
    (hg : g.method = m) (hsize : g.locals.size = c.maxLocals) (hdg : decode c.code g.pc = .ok (ig, len)) (hW : 2 * g.monitorRoom + (g.stack.map fun v => v.category).sum ≤ 8) (hn : U.methodNamed? y = some mk) :
    (∃ (v : Option Value) (h' : AH) (U' : State) (L : List Loc), Stand p Ω.l e R s m sargs below meth c U' (Ls ++ L) (c0 + mc) (s0 + ms) ∧ P (.returned v) h' ∧ hp Ω h' U'.heap ∧ (∀ q ∈ L, Ω.sz ≤ q.base) ∧
      Steps p.tables e below (doInvoke e (U.setTop g) [] mk As.toArray).1 (U'.setTop { g with pc := g.pc + len, stack := v.toList ++ g.stack })) ∨
    (∃ (a : Nat) (h' : AH) (U' : State) (L : List Loc), Stand p Ω.l e R s m sargs below meth c U' (Ls ++ L) (c0 + mc) (s0 + ms) ∧ P (.threw a) h' ∧ hp Ω h' U'.heap ∧ (∀ q ∈ L, Ω.sz ≤ q.base) ∧
      Steps p.tables e below (doInvoke e (U.setTop g) [] mk As.toArray).1 ((U'.setTop g).pushFrame (.throwing a))) := by
  obtain ⟨w, nL, d0, ⟨hw1, hw2, hw3⟩, rfl, hnl, hcd, hM⟩ := hC
  have hBU : Bs Ω U := hB.step X.warmed hH.old
  have h2 := tw hBU hw1 hw2 As.toArray
  have h3 : (Cond.initialized y.cls).before As.toArray U = true := tw hBU hw3 (by simp [okw, Cond.onTables, Cond.keeps, Cond.steady]) _
  obtain ⟨mk', methY, cY, hn', hmY, hcY, hlY, -⟩ := hcd U As.toArray h2
  cases hn.symm.trans hn'
  obtain ⟨kY, hkY, -⟩ := className_of_methodNamed hn
  have hinitY : kY.init = .initialized := Cond.initialized_spec (findClass_of_methodNamed hn) hkY h3
  have hat : At U g.method c below := by rw [hg]; exact X.here
  have happ : (headSpec [w] (Rm d0 mc ms)).appliesLoose y e.platform (U.calling g mk As.toArray) = true :=
    Spec.appliesLoose_calling (g := g) hat hdg hn hkY hinitY
      (X.room_calling (g := g) (R' := (headSpec [w] (Rm d0 mc ms)).room) hsize hmY hcY hfr0 (by rw [hlY]; show _ + _ + 60 * d0 ≤ _; omega) hc0 hs0) (atoms_intro fun x hx => by rw [List.mem_singleton.mp hx]; exact h2)
  obtain ⟨mid, hmid⟩ := hat.above
  have hfr : (U.setTop g).frames = (.java g :: mid) ++ below := by rw [State.frames_setTop' g hat.top, hmid]; rfl
  have hheap : (U.calling g mk As.toArray).heap = U.heap := by rw [State.calling_eq hat.top]; rfl
  have hvm : (U.calling g mk As.toArray).vm = U.vm := by rw [State.calling_eq hat.top]; rfl
  obtain ⟨o, s₂, hsteps, -, hend, hq⟩ := Steps.callFree hM p X.admits X.cas X.clock (acts := []) hfr happ ⟨rfl, ⟨hBU.1, by show Ω.s.WarmedH (U.calling g mk As.toArray).vm; rw [hvm]; exact hBU.2.1, by show Old Ω (U.calling g mk As.toArray).heap; rw [hheap]; exact hBU.2.2⟩, by show hp Ω h (U.calling g mk As.toArray).heap; rw [hheap]; exact hH⟩ trivial
  obtain ⟨⟨h', hP', hH'⟩, L, ⟨hW₂, e2, q2, q3, q4, q5, q6⟩, hL⟩ := hq
  rw [State.frames_setTop' g hat.top] at hend
  have e3 : s₂ = ({ (U.calling g mk As.toArray).setFrames s₂.frames with heap := s₂.heap, slotsUsed := s₂.slotsUsed } : State).setVm s₂.vm := by
    have : s₂ = ({ s₂ with vm := (U.calling g mk As.toArray).vm } : State).setVm s₂.vm := rfl
    rw [show ({ s₂ with vm := (U.calling g mk As.toArray).vm } : State) = _ from e2] at this
    exact this
  have hW' : U.WarmedH s₂.vm := hW₂
  obtain ⟨g₀, hg0⟩ := Option.isSome_iff_exists.mp hat.top
  obtain ⟨r, hr⟩ := State.topJava?_eq_some.mp hg0
  have hr' : (({ U with heap := s₂.heap, slotsUsed := s₂.slotsUsed } : State).setVm s₂.vm).frames = .java g₀ :: r := hr
  have hsame : U.sameButNew ({ U with heap := s₂.heap, slotsUsed := s₂.slotsUsed } : State) L mc ms := by
    refine ⟨?_, q2, q3, q4, q5, q6⟩
    obtain ⟨t, ht, -⟩ := State.frames_cons hr
    show ({ U with heap := s₂.heap, slotsUsed := s₂.slotsUsed } : State) = { U.setFrames U.frames with heap := s₂.heap, slotsUsed := s₂.slotsUsed }
    rw [State.setFrames_self ht]
  have XB : Stand p Ω.l e R s m sargs below meth c (({ U with heap := s₂.heap, slotsUsed := s₂.slotsUsed } : State).setVm s₂.vm) (Ls ++ L) (c0 + mc) (s0 + ms) :=
    ⟨X.admits, X.cas, X.clock, X.frames, X.room, X.hears, X.method, X.code, (X.here.setHeapUsed s₂.heap s₂.slotsUsed).setVm hW'.alike, X.tail, State.WarmedH.trans X.warmed hW', X.limits, X.bytes, X.same.trans (hsame.setVm s.vm)⟩
  cases o with
  | returned v =>
    obtain ⟨c₂, i₂, len₂, hc₂, hd₂, hf₂⟩ := hend
    have hcc : c₂ = c := by
      have h1 : s₂.code? g.method = U.code? g.method := by
        rw [State.code?_eq, State.code?_eq, hW'.alike.method?]
      exact Option.some.inj (hc₂.symm.trans (h1.trans hat.code))
    subst hcc
    have hlen : len₂ = len := by rw [hdg] at hd₂; cases hd₂; rfl
    subst hlen
    have hs₂ : s₂ = (({ U with heap := s₂.heap, slotsUsed := s₂.slotsUsed } : State).setVm s₂.vm).setTop { g with pc := g.pc + len₂, stack := v.toList ++ g.stack } := by
      refine e3.trans ?_
      rw [hf₂, State.calling_eq hat.top, State.setFrames_setFrames, State.setTop_of_frames _ hr', hr]
      rfl
    refine Or.inl ⟨v, h', _, L, XB, hP', hH', hL, ?_⟩
    rw [← hs₂]
    exact hsteps
  | threw a =>
    have hf₂ : s₂.frames = .throwing a :: .java g :: U.frames.tail := hend
    have hs₂ : s₂ = ((({ U with heap := s₂.heap, slotsUsed := s₂.slotsUsed } : State).setVm s₂.vm).setTop g).pushFrame (.throwing a) := by
      refine e3.trans ?_
      rw [hf₂, State.calling_eq hat.top, State.setFrames_setFrames, State.pushFrame, State.frames_setTop _ hr', State.setTop_of_frames _ hr', State.setFrames_setFrames, hr]
      rfl
    refine Or.inr ⟨a, h', _, L, XB, hP', hH', hL, ?_⟩
    rw [← hs₂]
    exact hsteps
