/-! THE JUDGEMENT V: a method's walk over an abstract heap h (a map from addresses to cells), closed: no context of the machine in its rows. Contracts: Ct (it returns or throws, by P). -/
/-- the run: launch, the law's start, its arguments, the classes' numbers -/
abbrev Om : Type := Launch × State × Array Value × va_G × (Nat → Nat)
abbrev Om.l (Ω : Om) : Launch := Ω.1
abbrev Om.s (Ω : Om) : State := Ω.2.1
abbrev Om.a (Ω : Om) : Array Value := Ω.2.2.1
abbrev Om.D (Ω : Om) : va_G := Ω.2.2.2.1
/-- the addresses of what the start holds: string constants (by their place in lits), SIOOBE_FORMATTER (100) -/
abbrev Om.k (Ω : Om) : Nat → Nat := Ω.2.2.2.2
abbrev Om.sz (Ω : Om) : Nat := Ω.2.1.heap.size
/-- a cell: an array (its components' type, its length and contents), or an object (its class's number in vwCl, its fields) -/
abbrev Ce : Type := (FieldType × vp_A) ⊕ (Nat × List Value)
/-- the heap: known cells, its size, slots used (a count of the walk's own) -/
abbrev AH : Type := (Nat → Option Ce) × Nat × Nat
def ArrK (U : State) (cA : ClassId) (ty : FieldType) : Prop := ArrOfT U cA ty ∧ va_RA U cA ty
/-- an array's slots: its length as an int, its first N components -/
def SlA (cell c0 : Cell) (N : Nat) : Prop := N ≤ cell.slots.size ∧ cell.slots.size.toInt32 = Int32.ofNat N ∧ ∀ j, j < N → cell.slots[j]? = c0.slots[j]?
/-- what is known of a cell; of one that the start holds (below Ω.sz) less is known: not its monitor, its class's name -/
def at_ (Ω : Om) (a : Nat) (e : Ce) (H : Heap) : Prop := match e with
  | .inl x => ∃ (cA : ClassId) (cell : Cell), ArrOfT Ω.s cA x.1 ∧ H[a]? = some cell ∧ cell.cls = cA ∧ SlA cell (vp_cell cA x.2) x.2.1 ∧ (∀ k, cell.vm ≠ .statics k) ∧ cell.vm ≠ .unknown ∧ (Ω.sz ≤ a → va_RA Ω.s cA x.1 ∧ cell = vp_cell cA x.2)
  | .inr o => ∃ r : vw_C, vwCl[o.1]? = some r ∧ ∃ cell : Cell, H[a]? = some cell ∧ cell.cls = Ω.D.1 o.1 ∧ cell.vm.isStatics = false ∧ cell.vm ≠ .unknown ∧ (∀ k, k < r.2.2 → cell.slots[Ω.D.2 o.1 k]? = some (vp_V o.2 k)) ∧ (Ω.sz ≤ a → cell.vm = .none)
theorem vpc_cls (cA : ClassId) (x : vp_A) : (vp_cell cA x).cls = cA := by
  obtain ⟨n, f | f | f | f | f⟩ := x <;> rfl
theorem vpc_vm (cA : ClassId) (x : vp_A) : (vp_cell cA x).vm = .none := by
  obtain ⟨n, f | f | f | f | f⟩ := x <;> rfl
theorem vpc_size (cA : ClassId) (x : vp_A) : (vp_cell cA x).slots.size = x.1 := by
  obtain ⟨n, f | f | f | f | f⟩ := x
  · rw [vp_cell_i, arrV_size]
  · rw [vp_cell_l, arrV_size]
  · rw [vp_cell_f, arrV_size]
  · rw [vp_cell_d, arrV_size]
  · rw [vp_cell_q, arrV_size]
theorem at_.mkA {Ω : Om} {a : Nat} {x : FieldType × vp_A} {H : Heap} {cA : ClassId} (hK : ArrK Ω.s cA x.1) (hc : H[a]? = some (vp_cell cA x.2)) : at_ Ω a (.inl x) H :=
  ⟨cA, _, hK.1, hc, vpc_cls _ _, ⟨(by rw [vpc_size]; exact Nat.le_refl _), (by rw [vpc_size] <;> rfl), fun _ _ => rfl⟩, (fun k h => by rw [vpc_vm] at h; cases h), (fun h => by rw [vpc_vm] at h; cases h), fun _ => ⟨hK.2, rfl⟩⟩
theorem at_.mkO {Ω : Om} {a : Nat} {o : Nat × List Value} {H : Heap} {r : vw_C} (h1 : vwCl[o.1]? = some r) (h2 : t_OB a (Ω.D.1 o.1) r.2.2 (Ω.D.2 o.1) H (vp_V o.2)) : at_ Ω a (.inr o) H := by
  obtain ⟨cell, q1, q2, q3, q4⟩ := h2
  exact ⟨r, h1, cell, q1, q2, (by rw [q3]; rfl), (fun h => by rw [q3] at h; cases h), q4, fun _ => q3⟩
theorem at_.arr {Ω : Om} {a : Nat} {x : FieldType × vp_A} {H : Heap} (h : at_ Ω a (.inl x) H) (hz : Ω.sz ≤ a) : ∃ cA : ClassId, ArrK Ω.s cA x.1 ∧ H[a]? = some (vp_cell cA x.2) := by
  obtain ⟨cA, cell, h1, h2, -, -, -, -, h7⟩ := h
  exact ⟨cA, ⟨h1, (h7 hz).1⟩, by rw [h2, (h7 hz).2]⟩
def hp (Ω : Om) (h : AH) (H : Heap) : Prop := (∀ (a : Nat) (e : Ce), h.1 a = some e → at_ Ω a e H) ∧ h.2.1 = H.size ∧ Ω.sz ≤ H.size ∧ ∀ q : Nat, q < Ω.sz → H[q]? = Ω.s.heap[q]?
/-- a cell written -/
def hput (h : AH) (a : Nat) (e : Ce) : AH := (va_up h.1 a (some e), h.2)
/-- a cell made, of N slots -/
def hnew (h : AH) (e : Ce) (N : Nat) : AH := (va_up h.1 h.2.1 (some e), h.2.1 + 1, h.2.2 + N)
/-- the string constants that are used: class, entry, text -/
def lits : List (String × Nat × String) := [("TripleStore$Reader", 85, ""), ("java/lang/StringLatin1", 151, ""), ("TripleStore$Reader", 39, "select"), ("TripleStore$Reader", 45, "distinct"), ("TripleStore$Reader", 47, "order"), ("TripleStore$Reader", 49, "desc"), ("TripleStore$Reader", 51, "limit"), ("TripleStore$Reader", 53, "filter"), ("TripleStore$Reader", 55, "optional"), ("TripleStore$Reader", 57, "minus"), ("TripleStore$Reader", 59, "union"), ("TripleStore$Reader", 61, "not"), ("TripleStore$Reader", 63, "bound")]
/-- what the static SIOOBE_FORMATTER holds -/
def fmtV (Ω : Om) : Value := if Ω.k 100 = 0 then .null else .ref (Ω.k 100 - 1)
def Ok (Ω : Om) : Prop := (∀ w ∈ lw_tbl, w.before Ω.a Ω.s = true) ∧ (∀ (c : Nat) (q : vw_C), vwCl[c]? = some q → u_Kn Ω.s q.1 q.2.1 q.2.2 (Ω.D.1 c) (Ω.D.2 c)) ∧ (Jvm.Cond.and given_1 narrow_1).before Ω.a Ω.s = true ∧ (∀ (i : Nat) (q : String × Nat × String), lits[i]? = some q → vk_R q.1 q.2.1 q.2.2 (Ω.k i) Ω.s) ∧ va_Z "jdk/internal/util/Preconditions" "SIOOBE_FORMATTER" "Ljava/util/function/BiFunction;" (fmtV Ω) (fun _ => False) Ω.s Ω.s.heap ∧ Ω.l.flags = flags0
/-- what the start's heap held still stands -/
def Old (Ω : Om) (H : Heap) : Prop := Ω.sz ≤ H.size ∧ ∀ q : Nat, q < Ω.sz → H[q]? = Ω.s.heap[q]?
def Bs (Ω : Om) (U : State) : Prop := Ok Ω ∧ Ω.s.WarmedH U.vm ∧ Old Ω U.heap
def okw : Cond → Bool
  | .arrayClass _ => true
  | .fieldLinkNest .. => true
  | .methodLinkNest .. => true
  | .castable .. => true
  | .declares _ => true
  | .arrayOver (.object _) => true
  | w => w.onTables && w.keeps
theorem tw {Ω : Om} {s : State} (hB : Bs Ω s) {w : Cond} (hw : w ∈ lw_tbl) (hk : okw w = true) (args : Array Value) : w.before args s = true := by
  have h0 := hB.1.1 w hw
  have hW := hB.2.1
  unfold okw at hk
  split at hk
  · exact word_at hW (Or.inr ⟨_, rfl⟩) h0
  · exact va_Nw.use rfl (va_Nw.warmF hW (va_Nw.of rfl h0))
  · exact va_Nw.use rfl (va_Nw.warmM hW (va_Nw.of rfl h0))
  · exact va_Nw.use rfl (va_Nw.warmC hW (va_Nw.of rfl h0))
  · exact va_Nw.use rfl (va_Nw.warmD hW (va_Nw.of rfl h0))
  · exact va_AO.use (va_AO.moved hW.alike (va_AO.of h0))
  · exact word_at hW (Or.inl hk) h0
theorem Bs.kn {Ω : Om} {s : State} (hB : Bs Ω s) {c : Nat} {q : vw_C} (h : vwCl[c]? = some q) : u_Kn s q.1 q.2.1 q.2.2 (Ω.D.1 c) (Ω.D.2 c) := u_Kn_moved hB.2.1.alike (hB.1.2.1 c q h)
theorem Bs.arr {Ω : Om} {s : State} (hB : Bs Ω s) {cA : ClassId} {ty : FieldType} (h : ArrK Ω.s cA ty) : ArrK s cA ty := ⟨arrOfT_moved hB.2.1.alike h.1, h.2.moved hB.2.1.alike⟩
theorem Bs.arr' {Ω : Om} {s : State} (hB : Bs Ω s) {cA : ClassId} {ty : FieldType} (h : ArrK s cA ty) : ArrK Ω.s cA ty := ⟨arrOfT_moved hB.2.1.alike.symm h.1, h.2.moved hB.2.1.alike.symm⟩
theorem Bs.step {Ω : Om} {s U : State} (hB : Bs Ω s) (h : s.WarmedH U.vm) (hO : Old Ω U.heap) : Bs Ω U := ⟨hB.1, State.WarmedH.trans hB.2.1 h, hO⟩
theorem at_.lt {Ω : Om} {a : Nat} {e : Ce} {H : Heap} (h : at_ Ω a e H) : a < H.size := by
  cases e with
  | inl x =>
    obtain ⟨cA, cell, -, h2, -⟩ := h
    exact (Array.getElem?_eq_some_iff.mp h2).1
  | inr o =>
    obtain ⟨r, -, cell, h2, -⟩ := h
    exact (Array.getElem?_eq_some_iff.mp h2).1
theorem at_.kept {Ω : Om} {a : Nat} {e : Ce} {H H1 : Heap} (h : at_ Ω a e H) (hq : H1[a]? = H[a]?) : at_ Ω a e H1 := by
  cases e with
  | inl x =>
    obtain ⟨cA, cell, h1, h2, h3⟩ := h
    exact ⟨cA, cell, h1, hq.trans h2, h3⟩
  | inr o =>
    obtain ⟨r, h1, cell, h2, h3⟩ := h
    exact ⟨r, h1, cell, hq.trans h2, h3⟩
/-- an array that is read -/
theorem at_.rd {Ω : Om} {s : State} (hB : Bs Ω s) {a : Nat} {x : FieldType × vp_A} {H : Heap} (h : at_ Ω a (.inl x) H) : ∃ (cA : ClassId) (cell : Cell), H[a]? = some cell ∧ s.isArrayOf cell x.1 ∧ cell.vm ≠ .unknown ∧ SlA cell (vp_cell cA x.2) x.2.1 := by
  obtain ⟨cA, cell, h1, h2, h3, h4, h5, h6, -⟩ := h
  obtain ⟨-, k, g1, comp, g2⟩ := arrOfT_moved hB.2.1.alike h1 0 (fun _ => .null)
  exact ⟨cA, cell, h2, ⟨h5, k, by rw [h3]; exact g1, comp, g2⟩, h6, h4⟩
theorem hp.old {Ω : Om} {h : AH} {H : Heap} (hH : hp Ω h H) : Old Ω H := ⟨hH.2.2.1, hH.2.2.2⟩
theorem hp.lt {Ω : Om} {h : AH} {H : Heap} (hH : hp Ω h H) {a : Nat} {e : Ce} (he : h.1 a = some e) : a < H.size := (hH.1 a e he).lt
/-- one cell written -/
theorem hp.set {Ω : Om} {h : AH} {H H1 : Heap} (hH : hp Ω h H) {a : Nat} {e : Ce} (hsz : Ω.sz ≤ a) (he : at_ Ω a e H1) (z : H1.size = H.size) (oq : ∀ q : Nat, q ≠ a → H1[q]? = H[q]?) : hp Ω (hput h a e) H1 := by
  refine ⟨fun b x hx => ?_, by rw [z]; exact hH.2.1, by rw [z]; exact hH.2.2.1, fun q hq => ?_⟩
  · by_cases hb : b = a
    · subst hb
      have hx : va_up h.1 b (some e) b = some x := hx
      rw [va_up_self] at hx
      cases hx
      exact he
    · have hx : va_up h.1 a (some e) b = some x := hx
      rw [va_up_ne _ _ hb] at hx
      exact (hH.1 b x hx).kept (oq b hb)
  · rw [oq q (by omega)]
    exact hH.2.2.2 q hq
/-- one cell made -/
theorem hp.push {Ω : Om} {h : AH} {H H1 : Heap} {N : Nat} (hH : hp Ω h H) {e : Ce} (he : at_ Ω H.size e H1) (z : H1.size = H.size + 1) (oq : ∀ q : Nat, q < H.size → H1[q]? = H[q]?) : hp Ω (hnew h e N) H1 := by
  have hs := hH.2.1
  refine ⟨fun b x hx => ?_, by rw [z]; show h.2.1 + 1 = _; rw [hs], by rw [z]; exact Nat.le_succ_of_le hH.2.2.1, fun q hq => ?_⟩
  · have hx : va_up h.1 h.2.1 (some e) b = some x := hx
    rw [hs] at hx
    by_cases hb : b = H.size
    · subst hb
      rw [va_up_self] at hx
      cases hx
      exact he
    · rw [va_up_ne _ _ hb] at hx
      exact (hH.1 b x hx).kept (oq b (hH.lt hx))
  · rw [oq q (Nat.lt_of_lt_of_le hq hH.2.2.1)]
    exact hH.2.2.2 q hq
/-- what an invocation leaves behind, returned or thrown -/
def FE (s t : State) (L : List Loc) (mc ms : Nat) : Prop := s.WarmedH t.vm ∧ s.sameButNew ({ t with vm := s.vm } : State) L mc ms
def MQT (Ω : Om) (below : List Frame) (P : Outcome → AH → Prop) (s : State) (mc ms : Nat) : State → Prop := fun t =>
  ∃ o, t.status = .running ∧ Ended t below o ∧ (∃ h', P o h' ∧ hp Ω h' t.heap) ∧ ∃ L, FE s t L mc ms ∧ ∀ q ∈ L, Ω.sz ≤ q.base
/-- the frame's fixed facts: own class, method's name, code, locals, answer, handlers -/
def Fr (Ω : Om) (own nm : String) (cc : ByteArray) (nL : Nat) (ret : Option FieldType) (hh : List (Nat × Nat × Nat × Nat)) (p : Program) (s : State) (m : MethodId) (meth : Method) (c : Code) : Prop :=
  p.tables.exec = Jvm.exec ∧ c.code = cc ∧ c.maxLocals = nL ∧ meth.sig.returnType = ret ∧ s.vm.findClass own = some m.cls ∧ meth.name = nm ∧ meth.locks = false ∧ c.exceptionTable.toList.map (fun h => (h.startPc, h.endPc, h.handlerPc, h.catchType)) = hh ∧ Bs Ω s
abbrev Rm (d mc ms : Nat) : Room := { frames := d, cells := mc, slots := ms, locals := 60 * d }
/-- THE JUDGEMENT: at pc, with locals lv, operand stack st, heap h, k cells of n slots made so far: the method comes to an end with P -/
def V (Ω : Om) (own nm : String) (cc : ByteArray) (nL : Nat) (ret : Option FieldType) (hh : List (Nat × Nat × Nat × Nat)) (d mc ms : Nat) (P : Outcome → AH → Prop) (h : AH) (k n pc : Nat) (lv : List (Nat × Value)) (st : List Value) : Prop :=
  ∀ (p : Program) (e : Env) (s : State) (m : MethodId) (args : Array Value) (below : List Frame) (meth : Method) (c : Code), Fr Ω own nm cc nL ret hh p s m meth c → ∀ (H : Heap) (locs : List Loc) (ls : Array Slot), hp Ω h H → (∀ q ∈ locs, Ω.sz ≤ q.base) → lv_has ls nL lv →
    W p Ω.l e (Rm d mc ms) s m args below meth c H locs k n (MQT Ω below P s mc ms) (F0 m pc ls st)
theorem lv_idx {lv : List (Nat × Value)} {i : Nat} {v : Value} (h : lv.lookup i = some v) : ∃ j : Nat, lv[j]? = some (i, v) := by
  apply List.getElem?_of_mem
  induction lv with
  | nil => simp at h
  | cons a l ih =>
    obtain ⟨j, w⟩ := a
    rw [List.lookup_cons] at h
    split at h
    · rename_i hb
      have : i = j := by simpa using hb
      subst this
      cases h
      exact List.mem_cons_self
    · exact List.mem_cons_of_mem _ (ih h)
theorem lv_get {ls : Array Slot} {nL : Nat} {lv : List (Nat × Value)} {i : Nat} {v : Value} (hv : lv_has ls nL lv) (h : lv.lookup i = some v) : ls[i]? = some (.val v) := by
  obtain ⟨j, hj⟩ := lv_idx h
  exact lv_at hv j hj
section VROWS
variable {Ω : Om} {own nm : String} {cc : ByteArray} {nL : Nat} {ret : Option FieldType} {hh : List (Nat × Nat × Nat × Nat)} {d mc ms : Nat} {P : Outcome → AH → Prop} {h : AH} {k n pc : Nat} {lv : List (Nat × Value)} {st : List Value}
theorem V.iconst {i : Int} {v : Int32} (hd : decode cc pc = .ok (.iconst i, 1)) (hv0 : Int32.ofInt i = v) (kk : V Ω own nm cc nL ret hh d mc ms P h k n (pc + 1) lv (.int v :: st)) : V Ω own nm cc nL ret hh d mc ms P h k n pc lv (st) :=
  fun p e s m args below meth c F H locs ls hH hl hv => lv_iconst F.1 F.2.1 hd hv0 (kk p e s m args below meth c F H locs ls hH hl hv)
theorem V.bipush {i : Int} {v : Int32} (hd : decode cc pc = .ok (.bipush i, 2)) (hv0 : (Int8.ofInt i).toInt32 = v) (kk : V Ω own nm cc nL ret hh d mc ms P h k n (pc + 2) lv (.int v :: st)) : V Ω own nm cc nL ret hh d mc ms P h k n pc lv (st) :=
  fun p e s m args below meth c F H locs ls hH hl hv => lv_bipush F.1 F.2.1 hd hv0 (kk p e s m args below meth c F H locs ls hH hl hv)
theorem V.sipush {i : Int} {v : Int32} (hd : decode cc pc = .ok (.sipush i, 3)) (hv0 : (Int16.ofInt i).toInt32 = v) (kk : V Ω own nm cc nL ret hh d mc ms P h k n (pc + 3) lv (.int v :: st)) : V Ω own nm cc nL ret hh d mc ms P h k n pc lv (st) :=
  fun p e s m args below meth c F H locs ls hH hl hv => lv_sipush F.1 F.2.1 hd hv0 (kk p e s m args below meth c F H locs ls hH hl hv)
theorem V.lconst {i : Fin 2} {v : Int64} (hd : decode cc pc = .ok (.lconst i, 1)) (hv0 : Int64.ofNat (i : Nat) = v) (kk : V Ω own nm cc nL ret hh d mc ms P h k n (pc + 1) lv (.long v :: st)) : V Ω own nm cc nL ret hh d mc ms P h k n pc lv (st) :=
  fun p e s m args below meth c F H locs ls hH hl hv => lv_lconst F.1 F.2.1 hd hv0 (kk p e s m args below meth c F H locs ls hH hl hv)
theorem V.null  (hd : decode cc pc = .ok (.aconst_null, 1)) (kk : V Ω own nm cc nL ret hh d mc ms P h k n (pc + 1) lv (.null :: st)) : V Ω own nm cc nL ret hh d mc ms P h k n pc lv (st) :=
  fun p e s m args below meth c F H locs ls hH hl hv => lv_null F.1 F.2.1 hd (kk p e s m args below meth c F H locs ls hH hl hv)
theorem V.iload_n {q : Fin 4} {i : Nat} {x : Int32} (hd : decode cc pc = .ok (.iload_n q, 1)) (hi : (q : Nat) = i) (h0 : lv.lookup i = some (.int x)) (kk : V Ω own nm cc nL ret hh d mc ms P h k n (pc + 1) lv (.int x :: st)) : V Ω own nm cc nL ret hh d mc ms P h k n pc lv (st) :=
  fun p e s m args below meth c F H locs ls hH hl hv => lv_iload_n F.1 F.2.1 hd hi (lv_get hv h0) (kk p e s m args below meth c F H locs ls hH hl hv)
theorem V.iload {i : Nat} {x : Int32} (hd : decode cc pc = .ok (.iload i, 2)) (h0 : lv.lookup i = some (.int x)) (kk : V Ω own nm cc nL ret hh d mc ms P h k n (pc + 2) lv (.int x :: st)) : V Ω own nm cc nL ret hh d mc ms P h k n pc lv (st) :=
  fun p e s m args below meth c F H locs ls hH hl hv => lv_iload F.1 F.2.1 hd (lv_get hv h0) (kk p e s m args below meth c F H locs ls hH hl hv)
theorem V.lload_n {q : Fin 4} {i : Nat} {x : Int64} (hd : decode cc pc = .ok (.lload_n q, 1)) (hi : (q : Nat) = i) (h0 : lv.lookup i = some (.long x)) (kk : V Ω own nm cc nL ret hh d mc ms P h k n (pc + 1) lv (.long x :: st)) : V Ω own nm cc nL ret hh d mc ms P h k n pc lv (st) :=
  fun p e s m args below meth c F H locs ls hH hl hv => lv_lload_n F.1 F.2.1 hd hi (lv_get hv h0) (kk p e s m args below meth c F H locs ls hH hl hv)
theorem V.lload {i : Nat} {x : Int64} (hd : decode cc pc = .ok (.lload i, 2)) (h0 : lv.lookup i = some (.long x)) (kk : V Ω own nm cc nL ret hh d mc ms P h k n (pc + 2) lv (.long x :: st)) : V Ω own nm cc nL ret hh d mc ms P h k n pc lv (st) :=
  fun p e s m args below meth c F H locs ls hH hl hv => lv_lload F.1 F.2.1 hd (lv_get hv h0) (kk p e s m args below meth c F H locs ls hH hl hv)
theorem V.aload_n {q : Fin 4} {i : Nat} {x : Nat} (hd : decode cc pc = .ok (.aload_n q, 1)) (hi : (q : Nat) = i) (h0 : lv.lookup i = some (.ref x)) (kk : V Ω own nm cc nL ret hh d mc ms P h k n (pc + 1) lv (.ref x :: st)) : V Ω own nm cc nL ret hh d mc ms P h k n pc lv (st) :=
  fun p e s m args below meth c F H locs ls hH hl hv => lv_aload_n F.1 F.2.1 hd hi (lv_get hv h0) (kk p e s m args below meth c F H locs ls hH hl hv)
theorem V.aload {i : Nat} {x : Nat} (hd : decode cc pc = .ok (.aload i, 2)) (h0 : lv.lookup i = some (.ref x)) (kk : V Ω own nm cc nL ret hh d mc ms P h k n (pc + 2) lv (.ref x :: st)) : V Ω own nm cc nL ret hh d mc ms P h k n pc lv (st) :=
  fun p e s m args below meth c F H locs ls hH hl hv => lv_aload F.1 F.2.1 hd (lv_get hv h0) (kk p e s m args below meth c F H locs ls hH hl hv)
theorem V.aload_nN {q : Fin 4} {i : Nat} (hd : decode cc pc = .ok (.aload_n q, 1)) (hi : (q : Nat) = i) (h0 : lv.lookup i = some .null) (kk : V Ω own nm cc nL ret hh d mc ms P h k n (pc + 1) lv (.null :: st)) : V Ω own nm cc nL ret hh d mc ms P h k n pc lv (st) :=
  fun p e s m args below meth c F H locs ls hH hl hv => lv_aload_nN F.1 F.2.1 hd hi (lv_get hv h0) (kk p e s m args below meth c F H locs ls hH hl hv)
theorem V.aloadN {i : Nat} (hd : decode cc pc = .ok (.aload i, 2)) (h0 : lv.lookup i = some .null) (kk : V Ω own nm cc nL ret hh d mc ms P h k n (pc + 2) lv (.null :: st)) : V Ω own nm cc nL ret hh d mc ms P h k n pc lv (st) :=
  fun p e s m args below meth c F H locs ls hH hl hv => lv_aloadN F.1 F.2.1 hd (lv_get hv h0) (kk p e s m args below meth c F H locs ls hH hl hv)
theorem V.istore_n {q : Fin 4} {i : Nat} {x : Int32} {lv' : List (Nat × Value)} (hd : decode cc pc = .ok (.istore_n q, 1)) (hi : (q : Nat) = i) (hn : i < nL) (hf : (i, Value.int x) :: lv.filter (fun q => !(q.1 == i) && !(q.1 + 1 == i && q.2.category == 2)) = lv') (kk : V Ω own nm cc nL ret hh d mc ms P h k n (pc + 1) lv' st) : V Ω own nm cc nL ret hh d mc ms P h k n pc lv (Value.int x :: st) :=
  fun p e s m args below meth c F H locs ls hH hl hv => lv_istore_n F.1 F.2.1 hd hi hv hn hf (fun ls hv => kk p e s m args below meth c F H locs ls hH hl hv)
theorem V.istore {i : Nat} {x : Int32} {lv' : List (Nat × Value)} (hd : decode cc pc = .ok (.istore i, 2)) (hn : i < nL) (hf : (i, Value.int x) :: lv.filter (fun q => !(q.1 == i) && !(q.1 + 1 == i && q.2.category == 2)) = lv') (kk : V Ω own nm cc nL ret hh d mc ms P h k n (pc + 2) lv' st) : V Ω own nm cc nL ret hh d mc ms P h k n pc lv (Value.int x :: st) :=
  fun p e s m args below meth c F H locs ls hH hl hv => lv_istore F.1 F.2.1 hd hv hn hf (fun ls hv => kk p e s m args below meth c F H locs ls hH hl hv)
theorem V.lstore_n {q : Fin 4} {i : Nat} {x : Int64} {lv' : List (Nat × Value)} (hd : decode cc pc = .ok (.lstore_n q, 1)) (hi : (q : Nat) = i) (hn : i + 1 < nL) (hf : (i, Value.long x) :: lv.filter (fun q => !(q.1 == i) && (!(q.1 == i + 1) && !(q.1 + 1 == i && q.2.category == 2))) = lv') (kk : V Ω own nm cc nL ret hh d mc ms P h k n (pc + 1) lv' st) : V Ω own nm cc nL ret hh d mc ms P h k n pc lv (Value.long x :: st) :=
  fun p e s m args below meth c F H locs ls hH hl hv => lv_lstore_n F.1 F.2.1 hd hi hv hn hf (fun ls hv => kk p e s m args below meth c F H locs ls hH hl hv)
theorem V.lstore {i : Nat} {x : Int64} {lv' : List (Nat × Value)} (hd : decode cc pc = .ok (.lstore i, 2)) (hn : i + 1 < nL) (hf : (i, Value.long x) :: lv.filter (fun q => !(q.1 == i) && (!(q.1 == i + 1) && !(q.1 + 1 == i && q.2.category == 2))) = lv') (kk : V Ω own nm cc nL ret hh d mc ms P h k n (pc + 2) lv' st) : V Ω own nm cc nL ret hh d mc ms P h k n pc lv (Value.long x :: st) :=
  fun p e s m args below meth c F H locs ls hH hl hv => lv_lstore F.1 F.2.1 hd hv hn hf (fun ls hv => kk p e s m args below meth c F H locs ls hH hl hv)
theorem V.astore_n {q : Fin 4} {i : Nat} {x : Nat} {lv' : List (Nat × Value)} (hd : decode cc pc = .ok (.astore_n q, 1)) (hi : (q : Nat) = i) (hn : i < nL) (hf : (i, Value.ref x) :: lv.filter (fun q => !(q.1 == i) && !(q.1 + 1 == i && q.2.category == 2)) = lv') (kk : V Ω own nm cc nL ret hh d mc ms P h k n (pc + 1) lv' st) : V Ω own nm cc nL ret hh d mc ms P h k n pc lv (Value.ref x :: st) :=
  fun p e s m args below meth c F H locs ls hH hl hv => lv_astore_n F.1 F.2.1 hd hi hv hn hf (fun ls hv => kk p e s m args below meth c F H locs ls hH hl hv)
theorem V.astore {i : Nat} {x : Nat} {lv' : List (Nat × Value)} (hd : decode cc pc = .ok (.astore i, 2)) (hn : i < nL) (hf : (i, Value.ref x) :: lv.filter (fun q => !(q.1 == i) && !(q.1 + 1 == i && q.2.category == 2)) = lv') (kk : V Ω own nm cc nL ret hh d mc ms P h k n (pc + 2) lv' st) : V Ω own nm cc nL ret hh d mc ms P h k n pc lv (Value.ref x :: st) :=
  fun p e s m args below meth c F H locs ls hH hl hv => lv_astore F.1 F.2.1 hd hv hn hf (fun ls hv => kk p e s m args below meth c F H locs ls hH hl hv)
theorem V.astore_nN {q : Fin 4} {i : Nat} {lv' : List (Nat × Value)} (hd : decode cc pc = .ok (.astore_n q, 1)) (hi : (q : Nat) = i) (hn : i < nL) (hf : (i, Value.null) :: lv.filter (fun q => !(q.1 == i) && !(q.1 + 1 == i && q.2.category == 2)) = lv') (kk : V Ω own nm cc nL ret hh d mc ms P h k n (pc + 1) lv' st) : V Ω own nm cc nL ret hh d mc ms P h k n pc lv (Value.null :: st) :=
  fun p e s m args below meth c F H locs ls hH hl hv => lv_astore_nN F.1 F.2.1 hd hi hv hn hf (fun ls hv => kk p e s m args below meth c F H locs ls hH hl hv)
theorem V.astoreN {i : Nat} {lv' : List (Nat × Value)} (hd : decode cc pc = .ok (.astore i, 2)) (hn : i < nL) (hf : (i, Value.null) :: lv.filter (fun q => !(q.1 == i) && !(q.1 + 1 == i && q.2.category == 2)) = lv') (kk : V Ω own nm cc nL ret hh d mc ms P h k n (pc + 2) lv' st) : V Ω own nm cc nL ret hh d mc ms P h k n pc lv (Value.null :: st) :=
  fun p e s m args below meth c F H locs ls hH hl hv => lv_astoreN F.1 F.2.1 hd hv hn hf (fun ls hv => kk p e s m args below meth c F H locs ls hH hl hv)
theorem V.iinc {i : Nat} {z : Int} {x v : Int32} {lv' : List (Nat × Value)} (hd : decode cc pc = .ok (.iinc i z, 3)) (h0 : lv.lookup i = some (.int x)) (h1 : x + Int32.ofInt z = v) (hn : i < nL) (hf : (i, Value.int v) :: lv.filter (fun q => !(q.1 == i) && !(q.1 + 1 == i && q.2.category == 2)) = lv') (kk : V Ω own nm cc nL ret hh d mc ms P h k n (pc + 3) lv' st) : V Ω own nm cc nL ret hh d mc ms P h k n pc lv st := by
  obtain ⟨j, hj⟩ := lv_idx h0
  exact fun p e s m args below meth c F H locs ls hH hl hv => lv_iinc F.1 F.2.1 hd hv (k := j) hj h1 hn hf (fun ls hv => kk p e s m args below meth c F H locs ls hH hl hv)
theorem V.iadd {x y : Int32} (hd : decode cc pc = .ok (.iadd, 1)) (kk : V Ω own nm cc nL ret hh d mc ms P h k n (pc + 1) lv (.int (x + y) :: st)) : V Ω own nm cc nL ret hh d mc ms P h k n pc lv (.int y :: .int x :: st) :=
  fun p e s m args below meth c F H locs ls hH hl hv => lv_iadd F.1 F.2.1 hd (kk p e s m args below meth c F H locs ls hH hl hv)
theorem V.isub {x y : Int32} (hd : decode cc pc = .ok (.isub, 1)) (kk : V Ω own nm cc nL ret hh d mc ms P h k n (pc + 1) lv (.int (x - y) :: st)) : V Ω own nm cc nL ret hh d mc ms P h k n pc lv (.int y :: .int x :: st) :=
  fun p e s m args below meth c F H locs ls hH hl hv => lv_isub F.1 F.2.1 hd (kk p e s m args below meth c F H locs ls hH hl hv)
theorem V.imul {x y : Int32} (hd : decode cc pc = .ok (.imul, 1)) (kk : V Ω own nm cc nL ret hh d mc ms P h k n (pc + 1) lv (.int (x * y) :: st)) : V Ω own nm cc nL ret hh d mc ms P h k n pc lv (.int y :: .int x :: st) :=
  fun p e s m args below meth c F H locs ls hH hl hv => lv_imul F.1 F.2.1 hd (kk p e s m args below meth c F H locs ls hH hl hv)
theorem V.iand {x y : Int32} (hd : decode cc pc = .ok (.iand, 1)) (kk : V Ω own nm cc nL ret hh d mc ms P h k n (pc + 1) lv (.int (x &&& y) :: st)) : V Ω own nm cc nL ret hh d mc ms P h k n pc lv (.int y :: .int x :: st) :=
  fun p e s m args below meth c F H locs ls hH hl hv => lv_iand F.1 F.2.1 hd (kk p e s m args below meth c F H locs ls hH hl hv)
theorem V.ior {x y : Int32} (hd : decode cc pc = .ok (.ior, 1)) (kk : V Ω own nm cc nL ret hh d mc ms P h k n (pc + 1) lv (.int (x ||| y) :: st)) : V Ω own nm cc nL ret hh d mc ms P h k n pc lv (.int y :: .int x :: st) :=
  fun p e s m args below meth c F H locs ls hH hl hv => lv_ior F.1 F.2.1 hd (kk p e s m args below meth c F H locs ls hH hl hv)
theorem V.ixor {x y : Int32} (hd : decode cc pc = .ok (.ixor, 1)) (kk : V Ω own nm cc nL ret hh d mc ms P h k n (pc + 1) lv (.int (x ^^^ y) :: st)) : V Ω own nm cc nL ret hh d mc ms P h k n pc lv (.int y :: .int x :: st) :=
  fun p e s m args below meth c F H locs ls hH hl hv => lv_ixor F.1 F.2.1 hd (kk p e s m args below meth c F H locs ls hH hl hv)
theorem V.ishl {x y : Int32} (hd : decode cc pc = .ok (.ishl, 1)) (kk : V Ω own nm cc nL ret hh d mc ms P h k n (pc + 1) lv (.int (x <<< (y &&& 31)) :: st)) : V Ω own nm cc nL ret hh d mc ms P h k n pc lv (.int y :: .int x :: st) :=
  fun p e s m args below meth c F H locs ls hH hl hv => lv_ishl F.1 F.2.1 hd (kk p e s m args below meth c F H locs ls hH hl hv)
theorem V.ishr {x y : Int32} (hd : decode cc pc = .ok (.ishr, 1)) (kk : V Ω own nm cc nL ret hh d mc ms P h k n (pc + 1) lv (.int (x >>> (y &&& 31)) :: st)) : V Ω own nm cc nL ret hh d mc ms P h k n pc lv (.int y :: .int x :: st) :=
  fun p e s m args below meth c F H locs ls hH hl hv => lv_ishr F.1 F.2.1 hd (kk p e s m args below meth c F H locs ls hH hl hv)
theorem V.ineg {x : Int32} (hd : decode cc pc = .ok (.ineg, 1)) (kk : V Ω own nm cc nL ret hh d mc ms P h k n (pc + 1) lv (.int (-x) :: st)) : V Ω own nm cc nL ret hh d mc ms P h k n pc lv (.int x :: st) :=
  fun p e s m args below meth c F H locs ls hH hl hv => lv_ineg F.1 F.2.1 hd (kk p e s m args below meth c F H locs ls hH hl hv)
theorem V.ladd {x y : Int64} (hd : decode cc pc = .ok (.ladd, 1)) (kk : V Ω own nm cc nL ret hh d mc ms P h k n (pc + 1) lv (.long (x + y) :: st)) : V Ω own nm cc nL ret hh d mc ms P h k n pc lv (.long y :: .long x :: st) :=
  fun p e s m args below meth c F H locs ls hH hl hv => lv_ladd F.1 F.2.1 hd (kk p e s m args below meth c F H locs ls hH hl hv)
theorem V.lsub {x y : Int64} (hd : decode cc pc = .ok (.lsub, 1)) (kk : V Ω own nm cc nL ret hh d mc ms P h k n (pc + 1) lv (.long (x - y) :: st)) : V Ω own nm cc nL ret hh d mc ms P h k n pc lv (.long y :: .long x :: st) :=
  fun p e s m args below meth c F H locs ls hH hl hv => lv_lsub F.1 F.2.1 hd (kk p e s m args below meth c F H locs ls hH hl hv)
theorem V.lmul {x y : Int64} (hd : decode cc pc = .ok (.lmul, 1)) (kk : V Ω own nm cc nL ret hh d mc ms P h k n (pc + 1) lv (.long (x * y) :: st)) : V Ω own nm cc nL ret hh d mc ms P h k n pc lv (.long y :: .long x :: st) :=
  fun p e s m args below meth c F H locs ls hH hl hv => lv_lmul F.1 F.2.1 hd (kk p e s m args below meth c F H locs ls hH hl hv)
theorem V.land {x y : Int64} (hd : decode cc pc = .ok (.land, 1)) (kk : V Ω own nm cc nL ret hh d mc ms P h k n (pc + 1) lv (.long (x &&& y) :: st)) : V Ω own nm cc nL ret hh d mc ms P h k n pc lv (.long y :: .long x :: st) :=
  fun p e s m args below meth c F H locs ls hH hl hv => lv_land F.1 F.2.1 hd (kk p e s m args below meth c F H locs ls hH hl hv)
theorem V.lor {x y : Int64} (hd : decode cc pc = .ok (.lor, 1)) (kk : V Ω own nm cc nL ret hh d mc ms P h k n (pc + 1) lv (.long (x ||| y) :: st)) : V Ω own nm cc nL ret hh d mc ms P h k n pc lv (.long y :: .long x :: st) :=
  fun p e s m args below meth c F H locs ls hH hl hv => lv_lor F.1 F.2.1 hd (kk p e s m args below meth c F H locs ls hH hl hv)
theorem V.lxor {x y : Int64} (hd : decode cc pc = .ok (.lxor, 1)) (kk : V Ω own nm cc nL ret hh d mc ms P h k n (pc + 1) lv (.long (x ^^^ y) :: st)) : V Ω own nm cc nL ret hh d mc ms P h k n pc lv (.long y :: .long x :: st) :=
  fun p e s m args below meth c F H locs ls hH hl hv => lv_lxor F.1 F.2.1 hd (kk p e s m args below meth c F H locs ls hH hl hv)
theorem V.i2l {x : Int32} (hd : decode cc pc = .ok (.i2l, 1)) (kk : V Ω own nm cc nL ret hh d mc ms P h k n (pc + 1) lv (.long x.toInt64 :: st)) : V Ω own nm cc nL ret hh d mc ms P h k n pc lv (.int x :: st) :=
  fun p e s m args below meth c F H locs ls hH hl hv => lv_i2l F.1 F.2.1 hd rfl (kk p e s m args below meth c F H locs ls hH hl hv)
theorem V.l2i {x : Int64} (hd : decode cc pc = .ok (.l2i, 1)) (kk : V Ω own nm cc nL ret hh d mc ms P h k n (pc + 1) lv (.int x.toInt32 :: st)) : V Ω own nm cc nL ret hh d mc ms P h k n pc lv (.long x :: st) :=
  fun p e s m args below meth c F H locs ls hH hl hv => lv_l2i F.1 F.2.1 hd rfl (kk p e s m args below meth c F H locs ls hH hl hv)
theorem V.i2b {x : Int32} (hd : decode cc pc = .ok (.i2b, 1)) (kk : V Ω own nm cc nL ret hh d mc ms P h k n (pc + 1) lv (.int x.toInt8.toInt32 :: st)) : V Ω own nm cc nL ret hh d mc ms P h k n pc lv (.int x :: st) :=
  fun p e s m args below meth c F H locs ls hH hl hv => lv_i2b F.1 F.2.1 hd rfl (kk p e s m args below meth c F H locs ls hH hl hv)
theorem V.i2c {x : Int32} (hd : decode cc pc = .ok (.i2c, 1)) (kk : V Ω own nm cc nL ret hh d mc ms P h k n (pc + 1) lv (.int (x.toUInt32 % 65536).toInt32 :: st)) : V Ω own nm cc nL ret hh d mc ms P h k n pc lv (.int x :: st) :=
  fun p e s m args below meth c F H locs ls hH hl hv => lv_i2c F.1 F.2.1 hd rfl (kk p e s m args below meth c F H locs ls hH hl hv)
theorem V.iushr {x y : Int32} (hd : decode cc pc = .ok (.iushr, 1)) (kk : V Ω own nm cc nL ret hh d mc ms P h k n (pc + 1) lv (.int (x.toUInt32 >>> (y.toUInt32 &&& Int32.toUInt32 31)).toInt32 :: st)) : V Ω own nm cc nL ret hh d mc ms P h k n pc lv (.int y :: .int x :: st) :=
  fun p e s m args below meth c F H locs ls hH hl hv => lv_iushr F.1 F.2.1 hd rfl (kk p e s m args below meth c F H locs ls hH hl hv)
theorem V.lshl {x : Int64} {y : Int32} (hd : decode cc pc = .ok (.lshl, 1)) (kk : V Ω own nm cc nL ret hh d mc ms P h k n (pc + 1) lv (.long (x <<< (y.toInt64 &&& 63)) :: st)) : V Ω own nm cc nL ret hh d mc ms P h k n pc lv (.int y :: .long x :: st) :=
  fun p e s m args below meth c F H locs ls hH hl hv => lv_lshl F.1 F.2.1 hd rfl (kk p e s m args below meth c F H locs ls hH hl hv)
theorem V.lshr {x : Int64} {y : Int32} (hd : decode cc pc = .ok (.lshr, 1)) (kk : V Ω own nm cc nL ret hh d mc ms P h k n (pc + 1) lv (.long (x >>> (y.toInt64 &&& 63)) :: st)) : V Ω own nm cc nL ret hh d mc ms P h k n pc lv (.int y :: .long x :: st) :=
  fun p e s m args below meth c F H locs ls hH hl hv => lv_lshr F.1 F.2.1 hd rfl (kk p e s m args below meth c F H locs ls hH hl hv)
theorem V.dup {a : Value} (hd : decode cc pc = .ok (.dup, 1)) (ha : a.category = 1) (kk : V Ω own nm cc nL ret hh d mc ms P h k n (pc + 1) lv (a :: a :: st)) : V Ω own nm cc nL ret hh d mc ms P h k n pc lv (a :: st) :=
  fun p e s m args below meth c F H locs ls hH hl hv => lv_dup F.1 F.2.1 hd ha (kk p e s m args below meth c F H locs ls hH hl hv)
theorem V.pop {a : Value} (hd : decode cc pc = .ok (.pop, 1)) (ha : a.category = 1) (kk : V Ω own nm cc nL ret hh d mc ms P h k n (pc + 1) lv (st)) : V Ω own nm cc nL ret hh d mc ms P h k n pc lv (a :: st) :=
  fun p e s m args below meth c F H locs ls hH hl hv => lv_pop F.1 F.2.1 hd ha (kk p e s m args below meth c F H locs ls hH hl hv)
theorem V.dup_x1 {a b : Value} (hd : decode cc pc = .ok (.dup_x1, 1)) (ha : a.category = 1) (hb : b.category = 1) (kk : V Ω own nm cc nL ret hh d mc ms P h k n (pc + 1) lv (a :: b :: a :: st)) : V Ω own nm cc nL ret hh d mc ms P h k n pc lv (a :: b :: st) :=
  fun p e s m args below meth c F H locs ls hH hl hv => lv_dup_x1 F.1 F.2.1 hd ha hb (kk p e s m args below meth c F H locs ls hH hl hv)
theorem V.dup_x2 {a b b2 : Value} (hd : decode cc pc = .ok (.dup_x2, 1)) (ha : a.category = 1) (hb : b.category = 1) (hb2 : b2.category = 1) (kk : V Ω own nm cc nL ret hh d mc ms P h k n (pc + 1) lv (a :: b :: b2 :: a :: st)) : V Ω own nm cc nL ret hh d mc ms P h k n pc lv (a :: b :: b2 :: st) :=
  fun p e s m args below meth c F H locs ls hH hl hv => lv_dup_x2 F.1 F.2.1 hd ha hb hb2 (kk p e s m args below meth c F H locs ls hH hl hv)
theorem V.dup2 {a b : Value} (hd : decode cc pc = .ok (.dup2, 1)) (ha : a.category = 1) (hb : b.category = 1) (kk : V Ω own nm cc nL ret hh d mc ms P h k n (pc + 1) lv (a :: b :: a :: b :: st)) : V Ω own nm cc nL ret hh d mc ms P h k n pc lv (a :: b :: st) :=
  fun p e s m args below meth c F H locs ls hH hl hv => lv_dup2_11 F.1 F.2.1 hd ha hb (kk p e s m args below meth c F H locs ls hH hl hv)
theorem V.pop2 {a : Value} (hd : decode cc pc = .ok (.pop2, 1)) (ha : a.category = 2) (kk : V Ω own nm cc nL ret hh d mc ms P h k n (pc + 1) lv (st)) : V Ω own nm cc nL ret hh d mc ms P h k n pc lv (a :: st) :=
  fun p e s m args below meth c F H locs ls hH hl hv => lv_pop2_2 F.1 F.2.1 hd ha (kk p e s m args below meth c F H locs ls hH hl hv)
theorem V.if_eq {x : Int32} {off : Int} {tgt : Nat} (hd : decode cc pc = .ok (.ifCond .eq off, 3)) (ht : (pc : Int) + off = (tgt : Int)) (k1 : x = 0 → V Ω own nm cc nL ret hh d mc ms P h k n tgt lv st) (k2 : ¬ (x = 0) → V Ω own nm cc nL ret hh d mc ms P h k n (pc + 3) lv st) : V Ω own nm cc nL ret hh d mc ms P h k n pc lv (.int x :: st) :=
  fun p e s m args below meth c F H locs ls hH hl hv => lv_if_eq F.1 F.2.1 hd ht (fun q => k1 q p e s m args below meth c F H locs ls hH hl hv) (fun q => k2 q p e s m args below meth c F H locs ls hH hl hv)
theorem V.icmp_eq {x y : Int32} {off : Int} {tgt : Nat} (hd : decode cc pc = .ok (.if_icmp .eq off, 3)) (ht : (pc : Int) + off = (tgt : Int)) (k1 : x = y → V Ω own nm cc nL ret hh d mc ms P h k n tgt lv st) (k2 : ¬ (x = y) → V Ω own nm cc nL ret hh d mc ms P h k n (pc + 3) lv st) : V Ω own nm cc nL ret hh d mc ms P h k n pc lv (.int y :: .int x :: st) :=
  fun p e s m args below meth c F H locs ls hH hl hv => lv_icmp_eq F.1 F.2.1 hd ht (fun q => k1 q p e s m args below meth c F H locs ls hH hl hv) (fun q => k2 q p e s m args below meth c F H locs ls hH hl hv)
theorem V.if_ne {x : Int32} {off : Int} {tgt : Nat} (hd : decode cc pc = .ok (.ifCond .ne off, 3)) (ht : (pc : Int) + off = (tgt : Int)) (k1 : (¬ x = 0) → V Ω own nm cc nL ret hh d mc ms P h k n tgt lv st) (k2 : x = 0 → V Ω own nm cc nL ret hh d mc ms P h k n (pc + 3) lv st) : V Ω own nm cc nL ret hh d mc ms P h k n pc lv (.int x :: st) :=
  fun p e s m args below meth c F H locs ls hH hl hv => lv_if_ne F.1 F.2.1 hd ht (fun q => k1 q p e s m args below meth c F H locs ls hH hl hv) (fun q => k2 q p e s m args below meth c F H locs ls hH hl hv)
theorem V.icmp_ne {x y : Int32} {off : Int} {tgt : Nat} (hd : decode cc pc = .ok (.if_icmp .ne off, 3)) (ht : (pc : Int) + off = (tgt : Int)) (k1 : (¬ x = y) → V Ω own nm cc nL ret hh d mc ms P h k n tgt lv st) (k2 : x = y → V Ω own nm cc nL ret hh d mc ms P h k n (pc + 3) lv st) : V Ω own nm cc nL ret hh d mc ms P h k n pc lv (.int y :: .int x :: st) :=
  fun p e s m args below meth c F H locs ls hH hl hv => lv_icmp_ne F.1 F.2.1 hd ht (fun q => k1 q p e s m args below meth c F H locs ls hH hl hv) (fun q => k2 q p e s m args below meth c F H locs ls hH hl hv)
theorem V.if_lt {x : Int32} {off : Int} {tgt : Nat} (hd : decode cc pc = .ok (.ifCond .lt off, 3)) (ht : (pc : Int) + off = (tgt : Int)) (k1 : x < 0 → V Ω own nm cc nL ret hh d mc ms P h k n tgt lv st) (k2 : ¬ (x < 0) → V Ω own nm cc nL ret hh d mc ms P h k n (pc + 3) lv st) : V Ω own nm cc nL ret hh d mc ms P h k n pc lv (.int x :: st) :=
  fun p e s m args below meth c F H locs ls hH hl hv => lv_if_lt F.1 F.2.1 hd ht (fun q => k1 q p e s m args below meth c F H locs ls hH hl hv) (fun q => k2 q p e s m args below meth c F H locs ls hH hl hv)
theorem V.icmp_lt {x y : Int32} {off : Int} {tgt : Nat} (hd : decode cc pc = .ok (.if_icmp .lt off, 3)) (ht : (pc : Int) + off = (tgt : Int)) (k1 : x < y → V Ω own nm cc nL ret hh d mc ms P h k n tgt lv st) (k2 : ¬ (x < y) → V Ω own nm cc nL ret hh d mc ms P h k n (pc + 3) lv st) : V Ω own nm cc nL ret hh d mc ms P h k n pc lv (.int y :: .int x :: st) :=
  fun p e s m args below meth c F H locs ls hH hl hv => lv_icmp_lt F.1 F.2.1 hd ht (fun q => k1 q p e s m args below meth c F H locs ls hH hl hv) (fun q => k2 q p e s m args below meth c F H locs ls hH hl hv)
theorem V.if_ge {x : Int32} {off : Int} {tgt : Nat} (hd : decode cc pc = .ok (.ifCond .ge off, 3)) (ht : (pc : Int) + off = (tgt : Int)) (k1 : 0 ≤ x → V Ω own nm cc nL ret hh d mc ms P h k n tgt lv st) (k2 : ¬ (0 ≤ x) → V Ω own nm cc nL ret hh d mc ms P h k n (pc + 3) lv st) : V Ω own nm cc nL ret hh d mc ms P h k n pc lv (.int x :: st) :=
  fun p e s m args below meth c F H locs ls hH hl hv => lv_if_ge F.1 F.2.1 hd ht (fun q => k1 q p e s m args below meth c F H locs ls hH hl hv) (fun q => k2 q p e s m args below meth c F H locs ls hH hl hv)
theorem V.icmp_ge {x y : Int32} {off : Int} {tgt : Nat} (hd : decode cc pc = .ok (.if_icmp .ge off, 3)) (ht : (pc : Int) + off = (tgt : Int)) (k1 : y ≤ x → V Ω own nm cc nL ret hh d mc ms P h k n tgt lv st) (k2 : ¬ (y ≤ x) → V Ω own nm cc nL ret hh d mc ms P h k n (pc + 3) lv st) : V Ω own nm cc nL ret hh d mc ms P h k n pc lv (.int y :: .int x :: st) :=
  fun p e s m args below meth c F H locs ls hH hl hv => lv_icmp_ge F.1 F.2.1 hd ht (fun q => k1 q p e s m args below meth c F H locs ls hH hl hv) (fun q => k2 q p e s m args below meth c F H locs ls hH hl hv)
theorem V.if_gt {x : Int32} {off : Int} {tgt : Nat} (hd : decode cc pc = .ok (.ifCond .gt off, 3)) (ht : (pc : Int) + off = (tgt : Int)) (k1 : 0 < x → V Ω own nm cc nL ret hh d mc ms P h k n tgt lv st) (k2 : ¬ (0 < x) → V Ω own nm cc nL ret hh d mc ms P h k n (pc + 3) lv st) : V Ω own nm cc nL ret hh d mc ms P h k n pc lv (.int x :: st) :=
  fun p e s m args below meth c F H locs ls hH hl hv => lv_if_gt F.1 F.2.1 hd ht (fun q => k1 q p e s m args below meth c F H locs ls hH hl hv) (fun q => k2 q p e s m args below meth c F H locs ls hH hl hv)
theorem V.icmp_gt {x y : Int32} {off : Int} {tgt : Nat} (hd : decode cc pc = .ok (.if_icmp .gt off, 3)) (ht : (pc : Int) + off = (tgt : Int)) (k1 : y < x → V Ω own nm cc nL ret hh d mc ms P h k n tgt lv st) (k2 : ¬ (y < x) → V Ω own nm cc nL ret hh d mc ms P h k n (pc + 3) lv st) : V Ω own nm cc nL ret hh d mc ms P h k n pc lv (.int y :: .int x :: st) :=
  fun p e s m args below meth c F H locs ls hH hl hv => lv_icmp_gt F.1 F.2.1 hd ht (fun q => k1 q p e s m args below meth c F H locs ls hH hl hv) (fun q => k2 q p e s m args below meth c F H locs ls hH hl hv)
theorem V.if_le {x : Int32} {off : Int} {tgt : Nat} (hd : decode cc pc = .ok (.ifCond .le off, 3)) (ht : (pc : Int) + off = (tgt : Int)) (k1 : x ≤ 0 → V Ω own nm cc nL ret hh d mc ms P h k n tgt lv st) (k2 : ¬ (x ≤ 0) → V Ω own nm cc nL ret hh d mc ms P h k n (pc + 3) lv st) : V Ω own nm cc nL ret hh d mc ms P h k n pc lv (.int x :: st) :=
  fun p e s m args below meth c F H locs ls hH hl hv => lv_if_le F.1 F.2.1 hd ht (fun q => k1 q p e s m args below meth c F H locs ls hH hl hv) (fun q => k2 q p e s m args below meth c F H locs ls hH hl hv)
theorem V.icmp_le {x y : Int32} {off : Int} {tgt : Nat} (hd : decode cc pc = .ok (.if_icmp .le off, 3)) (ht : (pc : Int) + off = (tgt : Int)) (k1 : x ≤ y → V Ω own nm cc nL ret hh d mc ms P h k n tgt lv st) (k2 : ¬ (x ≤ y) → V Ω own nm cc nL ret hh d mc ms P h k n (pc + 3) lv st) : V Ω own nm cc nL ret hh d mc ms P h k n pc lv (.int y :: .int x :: st) :=
  fun p e s m args below meth c F H locs ls hH hl hv => lv_icmp_le F.1 F.2.1 hd ht (fun q => k1 q p e s m args below meth c F H locs ls hH hl hv) (fun q => k2 q p e s m args below meth c F H locs ls hH hl hv)
theorem V.goto {off : Int} {tgt : Nat} (hd : decode cc pc = .ok (.goto off, 3)) (ht : (pc : Int) + off = (tgt : Int)) (kk : V Ω own nm cc nL ret hh d mc ms P h k n tgt lv st) : V Ω own nm cc nL ret hh d mc ms P h k n pc lv st :=
  fun p e s m args below meth c F H locs ls hH hl hv => lv_goto F.1 F.2.1 hd ht (kk p e s m args below meth c F H locs ls hH hl hv)
theorem V.ifnull {x : Nat} {off : Int} (hd : decode cc pc = .ok (.ifnull off, 3)) (kk : V Ω own nm cc nL ret hh d mc ms P h k n (pc + 3) lv st) : V Ω own nm cc nL ret hh d mc ms P h k n pc lv (.ref x :: st) :=
  fun p e s m args below meth c F H locs ls hH hl hv => lv_ifnull F.1 F.2.1 hd (kk p e s m args below meth c F H locs ls hH hl hv)
theorem V.ifnullN {off : Int} {tgt : Nat} (hd : decode cc pc = .ok (.ifnull off, 3)) (ht : (pc : Int) + off = (tgt : Int)) (kk : V Ω own nm cc nL ret hh d mc ms P h k n tgt lv st) : V Ω own nm cc nL ret hh d mc ms P h k n pc lv (.null :: st) :=
  fun p e s m args below meth c F H locs ls hH hl hv => lv_ifnullN F.1 F.2.1 hd ht (kk p e s m args below meth c F H locs ls hH hl hv)
theorem V.ifnonnull {x : Nat} {off : Int} {tgt : Nat} (hd : decode cc pc = .ok (.ifnonnull off, 3)) (ht : (pc : Int) + off = (tgt : Int)) (kk : V Ω own nm cc nL ret hh d mc ms P h k n tgt lv st) : V Ω own nm cc nL ret hh d mc ms P h k n pc lv (.ref x :: st) :=
  fun p e s m args below meth c F H locs ls hH hl hv => lv_ifnonnull F.1 F.2.1 hd ht (kk p e s m args below meth c F H locs ls hH hl hv)
theorem V.ifnonnullN {off : Int} (hd : decode cc pc = .ok (.ifnonnull off, 3)) (kk : V Ω own nm cc nL ret hh d mc ms P h k n (pc + 3) lv st) : V Ω own nm cc nL ret hh d mc ms P h k n pc lv (.null :: st) :=
  fun p e s m args below meth c F H locs ls hH hl hv => lv_ifnonnullN F.1 F.2.1 hd (kk p e s m args below meth c F H locs ls hH hl hv)
theorem V.acmp_eq {rx ry : Option Nat} {off : Int} {tgt : Nat} (hd : decode cc pc = .ok (.if_acmp .eq off, 3)) (ht : (pc : Int) + off = (tgt : Int)) (k1 : rx = ry → V Ω own nm cc nL ret hh d mc ms P h k n tgt lv st) (k2 : ¬ (rx = ry) → V Ω own nm cc nL ret hh d mc ms P h k n (pc + 3) lv st) : V Ω own nm cc nL ret hh d mc ms P h k n pc lv (va_rf ry :: va_rf rx :: st) :=
  fun p e s m args below meth c F H locs ls hH hl hv => lv_acmp_eq F.1 F.2.1 hd ht (fun q => k1 q p e s m args below meth c F H locs ls hH hl hv) (fun q => k2 q p e s m args below meth c F H locs ls hH hl hv)
theorem V.acmp_ne {rx ry : Option Nat} {off : Int} {tgt : Nat} (hd : decode cc pc = .ok (.if_acmp .ne off, 3)) (ht : (pc : Int) + off = (tgt : Int)) (k1 : (¬ rx = ry) → V Ω own nm cc nL ret hh d mc ms P h k n tgt lv st) (k2 : rx = ry → V Ω own nm cc nL ret hh d mc ms P h k n (pc + 3) lv st) : V Ω own nm cc nL ret hh d mc ms P h k n pc lv (va_rf ry :: va_rf rx :: st) :=
  fun p e s m args below meth c F H locs ls hH hl hv => lv_acmp_ne F.1 F.2.1 hd ht (fun q => k1 q p e s m args below meth c F H locs ls hH hl hv) (fun q => k2 q p e s m args below meth c F H locs ls hH hl hv)
theorem V.lookup {dflt : Int} {ps : Array (Int × Int)} {len : Nat} {x : Int32} {off : Int} {tgt : Nat} (hd : decode cc pc = .ok (.lookupswitch dflt ps, len)) (h1 : (ps.toList.zip (ps.toList.drop 1)).all (fun (a, next) => a.1 < next.1) = true) (ho : Op.lookupswitch.offset ps.toList dflt x.toInt = off) (ht : (pc : Int) + off = (tgt : Int)) (kk : V Ω own nm cc nL ret hh d mc ms P h k n tgt lv st) : V Ω own nm cc nL ret hh d mc ms P h k n pc lv (.int x :: st) :=
  fun p e s m args below meth c F H locs ls hH hl hv => lv_lookup F.1 F.2.1 hd h1 ho ht (kk p e s m args below meth c F H locs ls hH hl hv)
theorem V.tableOut {dflt lo hi : Int} {offs : Array Int} {len : Nat} {x : Int32} {tgt : Nat} (hd : decode cc pc = .ok (.tableswitch dflt lo hi offs, len)) (h1 : x.toInt < lo ∨ hi < x.toInt) (ht : (pc : Int) + dflt = (tgt : Int)) (kk : V Ω own nm cc nL ret hh d mc ms P h k n tgt lv st) : V Ω own nm cc nL ret hh d mc ms P h k n pc lv (.int x :: st) :=
  fun p e s m args below meth c F H locs ls hH hl hv => lv_tableOut F.1 F.2.1 hd h1 ht (kk p e s m args below meth c F H locs ls hH hl hv)
theorem V.tableIn {dflt lo hi : Int} {offs : Array Int} {len : Nat} {x : Int32} {off : Int} {tgt : Nat} (hd : decode cc pc = .ok (.tableswitch dflt lo hi offs, len)) (h1 : ¬ x.toInt < lo) (h2 : ¬ hi < x.toInt) (ho : offs[(x.toInt - lo).toNat]? = some off) (ht : (pc : Int) + off = (tgt : Int)) (kk : V Ω own nm cc nL ret hh d mc ms P h k n tgt lv st) : V Ω own nm cc nL ret hh d mc ms P h k n pc lv (.int x :: st) :=
  fun p e s m args below meth c F H locs ls hH hl hv => lv_tableIn F.1 F.2.1 hd h1 h2 ho ht (kk p e s m args below meth c F H locs ls hH hl hv)
theorem V.topi {x : Int32} (kk : ∀ y : Int32, y = x → V Ω own nm cc nL ret hh d mc ms P h k n pc lv (.int y :: st)) : V Ω own nm cc nL ret hh d mc ms P h k n pc lv (.int x :: st) := kk x rfl
theorem V.topl {x : Int64} (kk : ∀ y : Int64, y = x → V Ω own nm cc nL ret hh d mc ms P h k n pc lv (.long y :: st)) : V Ω own nm cc nL ret hh d mc ms P h k n pc lv (.long x :: st) := kk x rfl
theorem V.topr {x y : Value} (e : x = y) (kk : V Ω own nm cc nL ret hh d mc ms P h k n pc lv (y :: st)) : V Ω own nm cc nL ret hh d mc ms P h k n pc lv (x :: st) := by rw [e]; exact kk
theorem V.pcr {pc2 : Nat} (e : pc = pc2) (kk : V Ω own nm cc nL ret hh d mc ms P h k n pc2 lv st) : V Ω own nm cc nL ret hh d mc ms P h k n pc lv st := by rw [e]; exact kk
theorem V.sub {lv' : List (Nat × Value)} (ks : List Nat) (e0 : lv_pick lv ks = lv') (kk : V Ω own nm cc nL ret hh d mc ms P h k n pc lv' st) : V Ω own nm cc nL ret hh d mc ms P h k n pc lv st :=
  fun p e s m args below meth c F H locs ls hH hl hv => kk p e s m args below meth c F H locs ls hH hl (lv_sub hv ks e0)
end VROWS
