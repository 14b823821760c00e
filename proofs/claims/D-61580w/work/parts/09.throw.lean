/-! THROW NEW X(): the exception's object is made, its constructors run, it is thrown. CATCH. -/
def excAtoms (X : String) (names : List String) : List Cond := Bundle.throwableAtoms ++ Bundle.chain0Atoms X names ++
  [.instantiable X 6, .selects X Bundle.tFill0 Bundle.tFill0, .selects X Bundle.tFill Bundle.tFill,
   .lays X Bundle.tN "cause" "Ljava/lang/Throwable;", .lays X Bundle.tN "stackTrace" Bundle.steD, .lays X Bundle.tN "suppressedExceptions" Bundle.listD,
   .fieldLink Bundle.tN 198 Bundle.tN "backtrace" "Ljava/lang/Object;", .lays Bundle.tN Bundle.tN "backtrace" "Ljava/lang/Object;", .lays X Bundle.tN "backtrace" "Ljava/lang/Object;"]
def isLS : Cond → Bool
  | .laysStatic .. => true
  | _ => false
def ExcOk (X : String) (names : List String) : Prop := (∀ a ∈ excAtoms X names, a ∈ lw_tbl ∧ (okw a || isLS a) = true) ∧ Bundle.fit X = true ∧ (∀ n ∈ names, Bundle.fit n = true) ∧ names.length ≤ 3
theorem twS {Ω : Om} {s : State} (hB : Bs Ω s) {w : Cond} (hw : w ∈ lw_tbl) (hk : (okw w || isLS w) = true) (args : Array Value) : w.before args s = true := by
  rcases Bool.or_eq_true_iff.mp hk with h1 | h1
  · exact tw hB hw h1 args
  · unfold isLS at h1
    split at h1
    · obtain ⟨c, k, i, f, a, cell, hc, hi, hst, ha, hcell, hs, hcls, hlt, hty⟩ := Cond.laysStatic_spec (hB.1.1 _ hw)
      obtain ⟨k', hi', hek⟩ := State.fieldFound?_setVm hB.2.1.alike hi
      exact Cond.laysStatic_of (s := s) (by rw [hB.2.1.alike.findClass]; exact hc) hi' hst (by rw [hek]; exact ha) (by rw [hB.2.2.2 a (Array.getElem?_eq_some_iff.mp hcell).1]; exact hcell) hs hcls hlt (by rw [hek]; exact hty)
    · cases h1
theorem ok_ref {Ω : Om} (hO : Ok Ω) {C n d : String} (hl : Cond.laysStatic C n d ∈ lw_tbl) (hi : Cond.initialized C ∈ lw_tbl) (hr : (Cond.isRef (.static C n d)).before Ω.a Ω.s = true) : ∃ u : RefV, va_Z C n d u.v (fun _ => False) Ω.s Ω.s.heap := by
  simp only [Cond.before, Cond.holds, Cond.value] at hr
  cases hv : (Term.static C n d).eval Ω.a Ω.s none [] Ω.s with
  | none => simp [hv] at hr
  | some v =>
    rw [hv] at hr
    have hok : v.isRef = true := by cases v <;> first | rfl | (simp at hr)
    exact ⟨⟨v, hok⟩, va_Zof (hO.1 _ hl) (hO.1 _ hi) hv (fun _ _ h => h)⟩
section VTHR
variable {Ω : Om} {own nm : String} {cc : ByteArray} {nL : Nat} {ret : Option FieldType} {hh : List (Nat × Nat × Nat × Nat)} {d mc ms : Nat} {P : Outcome → AH → Prop} {h : AH} {k n pc : Nat} {lv : List (Nat × Value)} {st : List Value}
set_option maxHeartbeats 1000000 in
theorem V.throw0 {X : String} {names : List String} {idx ic ci : Nat} {T0 : u_T} (hE : ExcOk X names) (hc : vwCl[ci]? = some (X, T0, 0)) (hd0 : decode cc pc = .ok (.new idx, 3)) (hd3 : decode cc (pc + 3) = .ok (.dup, 1)) (hd4 : decode cc (pc + 4) = .ok (.invokespecial ic, 3)) (hd7 : decode cc (pc + 7) = .ok (.athrow, 1))
    (hcl : Cond.classLink own idx X ∈ lw_tbl) (hml : Cond.methodLink own ic (Bundle.init0 X) ∈ lw_tbl) (hini : Cond.initialized X ∈ lw_tbl) (hcov : hcov hh (pc + 7) = false) (hst : (st.map fun v => v.category).sum ≤ 8) (hd : 8 ≤ d) (hk : k + 1 ≤ mc) (hn : n + 6 ≤ ms)
    (hq : P (.threw h.2.1) (hnew h (.inr (ci, [])) 6)) : V Ω own nm cc nL ret hh d mc ms P h k n pc lv st := by
  intro p e s m args below meth c F H locs ls hH hl hv
  have hB := F.2.2.2.2.2.2.2.2
  obtain ⟨hat, hfitX, hfitN, hnl⟩ := hE
  have hts : ∀ a ∈ excAtoms X names, a.before args s = true := fun a ha => twS hB (hat a ha).1 (hat a ha).2 args
  have hKn := hB.kn hc
  have hin6 : (Cond.instantiable X 6).before args s = true := hts _ (by simp [excAtoms])
  refine W.newcK F.1 F.2.1 F.2.2.2.2.1 (tw hB hcl (by simp [okw, Cond.onTables, Cond.keeps, Cond.steady]) args) hin6 (tw hB hini (by simp [okw, Cond.onTables, Cond.keeps, Cond.steady]) args) rfl hd0 hk hn hKn.2.1 rfl fun H1 kX hkX e1 z1 o1 => ?_
  refine lv_dup F.1 F.2.1 hd3 rfl ?_
  intro W0 hT S
  have hexec := F.1
  have hown := F.2.2.2.2.1
  have howns : e.platform.frameOwnsMonitors = true := by rw [S.admits.platform]
  have hfin : e.platform.finalization = false := by rw [S.admits.platform]
  have hpl : e.platform.magicAccessors = ({} : Platform).magicAccessors := by rw [S.admits.platform]
  have htr : e.platform.stackTraces = false := by
    rw [S.admits.platform]
    show Ω.l.stackTraces = false
    unfold Launch.stackTraces
    rw [hB.1.2.2.2.2.2]
    decide +kernel
  have a' : ∀ x, x ∈ excAtoms X names → x.holds args s none s [] = true := fun x hx => hts x hx
  obtain ⟨T, Z, L, LZ, Y⟩ := ThrowableC.of_atoms (args := args) (s := s) howns hfin hpl (fun x hx => hts x (by simp [excAtoms, hx]))
  obtain ⟨P1, Ps, hlen, L1, hL, hP1m, hlink1, hlink⟩ := Bundle.chain0 (args := args) (s := s) hpl Y.init0 names X hfitX hfitN (fun x hx => hts x (by simp [excAtoms, hx]))
  have hfound : s.vm.findClass X = some P1.m.cls := findClass_of_methodNamed hP1m
  have hcX : Ω.D.1 ci = P1.m.cls := Option.some.inj (hKn.2.1.symm.trans hfound)
  rw [hcX] at e1 hkX
  have hk : s.vm.classes[P1.m.cls]? = some kX := hkX
  obtain ⟨c1, kX', hc1, hk', hord, -, -, hn6⟩ := Cond.instantiable_spec hin6
  cases Option.some.inj (hc1.symm.trans hfound)
  cases Option.some.inj (hkX.symm.trans hk')
  have hsel0 : selectMethod e.platform s.vm P1.m.cls T.fill0 = .method T.fill0 := by
    obtain ⟨c2, r2, m2, q1, q2, q3, q4, -⟩ := Cond.selects_spec (a' (.selects X Bundle.tFill0 Bundle.tFill0) (by simp [excAtoms]))
    cases Option.some.inj (q1.symm.trans hfound)
    cases Option.some.inj (q2.symm.trans (State.methodFound?_of_named Y.fill0 (by decide)))
    cases Option.some.inj (q3.symm.trans Y.fill0)
    rw [Launch.admits_selectMethod S.admits]; exact q4
  have hselF : selectMethod e.platform s.vm P1.m.cls T.fill = .method T.fill := by
    obtain ⟨c2, r2, m2, q1, q2, q3, q4, -⟩ := Cond.selects_spec (a' (.selects X Bundle.tFill Bundle.tFill) (by simp [excAtoms]))
    cases Option.some.inj (q1.symm.trans hfound)
    cases Option.some.inj (q2.symm.trans (State.methodFound?_of_named Y.fill (by decide)))
    cases Option.some.inj (q3.symm.trans Y.fill)
    rw [Launch.admits_selectMethod S.admits]; exact q4
  obtain ⟨u0, hZu⟩ := ok_ref hB.1 w250 w70 (flat_of_before _ hB.1.2.2.1 _ (by decide +kernel))
  obtain ⟨sen, hZs⟩ := ok_ref hB.1 w252 w70 (flat_of_before _ hB.1.2.2.1 _ (by decide +kernel))
  obtain ⟨cf, kf, fi, f, aS, cellS, g1, g2, g3, g4, g5, g6, g7, -⟩ := va_Z.moved hB.2.1.alike hZu
  obtain ⟨cf2, kf2, fi2, f2, aS2, cellS2, g12, g22, g32, g42, g52, g62, g72, -⟩ := va_Z.moved hB.2.1.alike hZs
  cases g1.symm.trans Y.unassigned
  cases g12.symm.trans Y.sentinel
  cases g4.symm.trans L.statics
  cases g42.symm.trans L.statics
  cases g5.symm.trans g52
  have hlS : T.aS < Ω.sz := (Array.getElem?_eq_some_iff.mp g5).1
  have hcellS : W0.heap[T.aS]? = some cellS := by
    rw [hT, o1 _ (Nat.lt_of_lt_of_le hlS hH.2.2.1), hH.2.2.2 _ hlS]
    exact g5
  have hknownS : cellS.vm ≠ .unknown := fun hu => by rw [hu] at g6; cases g6
  have hneS : T.aS ≠ H.size := Nat.ne_of_lt (Nat.lt_of_lt_of_le hlS hH.2.2.1)
  obtain ⟨ci198, i198, fB, hk198, hg198, ha198, hsB, -, hnB, htB, hffB⟩ := Cond.ownField (t := .object "java/lang/Object") Y.found L.cls (by decide +kernel) (a' (.fieldLink Bundle.tN 198 Bundle.tN "backtrace" "Ljava/lang/Object;") (by simp [excAtoms])) (a' (.lays Bundle.tN Bundle.tN "backtrace" "Ljava/lang/Object;") (by simp [excAtoms])) e.platform hpl
  obtain ⟨tyC, dC, hdC, hdnC⟩ := Cond.laysAt hfound hk Y.cause (a' (.lays X Bundle.tN "cause" "Ljava/lang/Throwable;") (by simp [excAtoms]))
  obtain ⟨tyS, dS, hdS, hdnS⟩ := Cond.laysAt hfound hk Y.stack (a' (.lays X Bundle.tN "stackTrace" Bundle.steD) (by simp [excAtoms]))
  obtain ⟨tyP, dP, hdP, hdnP⟩ := Cond.laysAt hfound hk Y.supp (a' (.lays X Bundle.tN "suppressedExceptions" Bundle.listD) (by simp [excAtoms]))
  obtain ⟨tyB, dB, hdB, hdnB⟩ := Cond.laysAt hfound hk hffB (a' (.lays X Bundle.tN "backtrace" "Ljava/lang/Object;") (by simp [excAtoms]))
  have bC := Cond.laysApart hdB hdC hdnB hdnC (by rw [hnB, Y.causeName]; decide)
  have bS := Cond.laysApart hdB hdS hdnB hdnS (by rw [hnB, Y.stackName]; decide)
  have bP := Cond.laysApart hdB hdP hdnB hdnP (by rw [hnB, Y.suppName]; decide)
  have hskip : SkipFacts T e.platform s (fun u => u) u0 ((preparedCellV T.toThrowableT (freshCell P1.m.cls kX) H.size u0 sen).withEntry W0.cur) :=
    ⟨{ ci198 := ci198, i198 := i198, fBack := fB }, ⟨hk198, hg198, ha198, hsB⟩, by
      have := fresh_default (c := P1.m.cls) tyB
      rw [htB] at this
      simpa [preparedCellV, Cell.setSlot, Cell.withEntry, Array.getElem?_setIfInBounds, bC, bS, bP, bC.symm, bS.symm, bP.symm, defaultValue] using this, fun _ _ => rfl⟩
  have hcell : W0.heap[H.size]? = some (freshCell P1.m.cls kX) := by rw [hT]; exact e1
  obtain ⟨tm, methC, cdC, kC, vm₁, hnC, -, -, -, -, -, -, -, hW₁, st1⟩ := Steps.initCold (tb := p.tables) (e := e) (below := below) (s := s) (U := W0) S.here hexec S.warmed hpl hown (t := Bundle.init0 X) rfl rfl (Bundle.fit_spec hfitX).2
    (tw hB hml (by simp [okw, Cond.onTables, Cond.keeps, Cond.steady]) args) (hts (.instanceMethod (Bundle.init0 X)) (by cases names <;> simp [excAtoms, Bundle.chain0Atoms, Bundle.passAtoms])) (bytes := Bundle.five) (maxL := 1) (hts (.code (Bundle.init0 X) Bundle.five 1 none) (by cases names <;> simp [excAtoms, Bundle.chain0Atoms, Bundle.passAtoms]))
    (f := F0 m (pc + 4) ls (.ref H.size :: .ref H.size :: st)) rfl (a := H.size) (rest := .ref H.size :: st) rfl (by rw [F.2.1]; exact hd4)
  cases Option.some.inj (hnC.symm.trans hP1m)
  have S₁ := S.noted hW₁
  obtain ⟨vm₂, S₂, st2⟩ := S₁.ctorPlainOffV hexec (g := { (F0 m (pc + 4) ls (.ref H.size :: .ref H.size :: st)) with stack := .ref H.size :: st }) rfl (by rw [F.2.2.1]; exact hv.1) T L Z LZ (P1 :: Ps)
    (fun P hP => by rcases List.mem_cons.mp hP with rfl | hP; exact L1; exact hL P hP) ⟨hlink1, hlink⟩ (u0 := u0) (sen := sen) (self := H.size) (cell := freshCell P1.m.cls kX) (cellS := cellS)
    hcell (fun _ => by simp) (by simp) rfl rfl hsel0 hselF hcellS hneS hknownS g7 g72
    (Takes.of_laid hk hord tyC (by rw [Y.causeType]; rfl)) (Takes.of_laid hk hord tyS (by rw [Y.stackType]; exact fits_refV_array _ u0)) (Takes.of_laid hk hord tyP (by rw [Y.suppType]; exact fits_refV_object _ sen)) Y.objLocals hskip htr (ig := .invokespecial ic) (len := 3) [] (by rw [F.2.1]; exact hd4)
    (by simp only [List.length_cons, hlen]; show _ < d; omega) (by simp only [List.length_cons, hlen]; show 2 * 0 + (1 + (st.map fun v => v.category).sum) + _ ≤ 60 * d; omega)
  generalize hce : (preparedCellV T.toThrowableT (freshCell P1.m.cls kX) H.size u0 sen).setSlot T.fStack.slot u0.v = ce at S₂ st2
  have hce1 : ce.cls = P1.m.cls := by rw [← hce]; rfl
  have hce2 : ce.vm = .none := by rw [← hce]; rfl
  have hlt : H.size < H1.size := by rw [z1]; exact Nat.lt_succ_self _
  have hheap : (((W0.setVm vm₁).setVm vm₂).setCell H.size ce).heap = H1.setIfInBounds H.size ce := by rw [← hT]; rfl
  have hH2 : hp Ω (hnew h (.inr (ci, [])) 6) (H1.setIfInBounds H.size ce) := by
    refine hH.push (at_.mkO hc ⟨ce, by simp [Array.getElem?_setIfInBounds, hlt], by rw [hce1]; exact hcX.symm, hce2, fun k hk => absurd hk (Nat.not_lt_zero k)⟩) (by simp [z1]) (fun q hq => ?_)
    rw [← o1 q hq]
    simp [Array.getElem?_setIfInBounds, Nat.ne_of_gt hq]
  rw [hH.2.1] at hq
  obtain ⟨t, b1, b2⟩ := V.athrow (st := st) hd7 (VT.leave (a := H.size) hcov (by assumption) (by assumption) hq) p e s m args below meth c F _ _ ls hH2 (fun q hq => by
      rcases List.mem_append.mp hq with hq | hq
      · exact hl q hq
      · have hb : q.base = H.size := by
          simp only [List.mem_cons, List.not_mem_nil, or_false] at hq
          rcases hq with rfl | rfl | rfl | rfl <;> rfl
        rw [hb]; exact hH.2.2.1) hv _ hheap S₂
  refine ⟨t, st1 _ (fun acts => ?_), b2⟩
  rw [doInvoke_state]
  exact st2 _ b1
end VTHR
