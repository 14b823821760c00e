/-! HEAP ROWS -/
/-- a field link: class own, entry idx, is field j (of type ty, final fin, declared by dcl) of the class number ci -/
def FD (own : String) (idx ci j : Nat) (ty : FieldType) (fin : Bool) (dcl : String) : Prop :=
  ∃ (C : String) (T : u_T) (N : Nat), vwCl[ci]? = some (C, T, N) ∧ j < N ∧ ((Cond.fieldLink own idx dcl (T j).2.1 (T j).2.2.1 ∈ lw_tbl) ∨ ∃ host, Cond.fieldLinkNest own idx dcl (T j).2.1 (T j).2.2.1 host ∈ lw_tbl) ∧ parseFieldDescriptor (T j).2.2.1 = some ty ∧ (T j).2.2.2 = fin ∧ (T j).1 = dcl
theorem cl_words {Ω : Om} {s : State} (hB : Bs Ω s) {ci : Nat} {r : vw_C} (hc : vwCl[ci]? = some r) (args : Array Value) : ∀ w ∈ u_ws r.1 r.2.1 r.2.2, w.before args s = true := by
  intro w hw
  obtain ⟨h1, h2⟩ := List.mem_filter.mp (cl_in hc w hw)
  exact word_at hB.2.1 (good_of_word h2) (hB.1.1 w h1)
theorem at_.fields {Ω : Om} {a ci : Nat} {fs : List Value} {H : Heap} {r : vw_C} (h : at_ Ω a (.inr (ci, fs)) H) (hc : vwCl[ci]? = some r) : ∃ cell : Cell, H[a]? = some cell ∧ cell.cls = Ω.D.1 ci ∧ cell.vm ≠ .unknown ∧ (∀ k, k < r.2.2 → cell.slots[Ω.D.2 ci k]? = some (vp_V fs k)) ∧ (Ω.sz ≤ a → cell.vm = .none) := by
  obtain ⟨q, h1, cell, g1, g2, -, g4, g5, g6⟩ := h
  cases hc.symm.trans h1
  exact ⟨cell, g1, g2, g4, g5, g6⟩
section VHEAP
variable {Ω : Om} {own nm : String} {cc : ByteArray} {nL : Nat} {ret : Option FieldType} {hh : List (Nat × Nat × Nat × Nat)} {d mc ms : Nat} {P : Outcome → AH → Prop} {h : AH} {k n pc : Nat} {lv : List (Nat × Value)} {st : List Value}
theorem V.getf {idx ci j a : Nat} {ty : FieldType} {fin : Bool} {dcl : String} {fs : List Value} {v : Value} (hd : decode cc pc = .ok (.getfield idx, 3)) (hF : FD own idx ci j ty fin dcl) (ha : lk Ω h a (.inr (ci, fs))) (hv0 : fs[j]? = some v)
    (kk : V Ω own nm cc nL ret hh d mc ms P h k n (pc + 3) lv (v :: st)) : V Ω own nm cc nL ret hh d mc ms P h k n pc lv (.ref a :: st) := by
  intro p e s m args below meth c F H locs ls hH hl hv
  obtain ⟨C, T, N, hc, hj, hlk, hpd, -, hdc⟩ := hF
  have hB := F.2.2.2.2.2.2.2.2
  obtain ⟨cell, q1, q2, q3, q4, -⟩ := (ha.at hH).fields hc
  obtain ⟨hS, hfc, kC, hkC, hkind⟩ := hB.kn hc
  obtain ⟨cf, kf, fi, f, hi, hsl⟩ := hS j hj
  have hst := (u_facts hfc hkC (u_lays (ws := u_ws C T N) (cl_words hB hc args) (fun w h => h) hj) hi).1
  rw [hdc] at hi
  have hval : cell.slots[f.slot]? = some v := by
    rw [hsl, q4 j hj]
    simp [vp_V, hv0]
  have kk' := kk p e s m args below meth c F H locs ls hH hl hv
  rcases hlk with hlk | ⟨host, hlk⟩
  · exact W.getf F.1 F.2.1 F.2.2.2.2.1 (tw hB hlk (by simp [okw, Cond.onTables, Cond.keeps, Cond.steady]) args) hi hst q1 q3 hval rfl rfl hd kk'
  · exact va_Wgetf F.1 F.2.1 F.2.2.2.2.1 (tw hB hlk rfl args) hi hst q1 q3 hval rfl rfl hd kk'
theorem ob_set {a : Nat} {fs : List Value} {j N : Nat} {cC : ClassId} {iS : Nat → Nat} {H1 : Heap} {cell : Cell} {v : Value} (e1 : H1[a]? = some (cell.setSlot (iS j) v)) (q2 : cell.cls = cC) (q3 : cell.vm = .none) (q4 : ∀ k, k < N → cell.slots[iS k]? = some (vp_V fs k)) (hap : ∀ x y, x < N → y < N → x ≠ y → iS x ≠ iS y) (hj : j < N) (hl : j < fs.length) : t_OB a cC N iS H1 (vp_V (fs.set j v)) :=
  t_OB.to (V := updV (vp_V fs) j v) ⟨_, e1, q2, q3, t_set q4 hap hj v⟩ (fun i _ => vp_updV_set hl v i)
theorem kn_apart {s : State} (hB : Bs Ω s) {ci : Nat} {r : vw_C} (hc : vwCl[ci]? = some r) (args : Array Value) : ∀ x y, x < r.2.2 → y < r.2.2 → x ≠ y → (Ω.D.2 ci) x ≠ (Ω.D.2 ci) y := by
  obtain ⟨ty, hty⟩ := cl_ty hc
  intro x y hx hy hne
  obtain ⟨hS, -⟩ := hB.kn hc
  obtain ⟨_, _, _, fa, hia, ea⟩ := hS x hx
  obtain ⟨_, _, _, fb, hib, eb⟩ := hS y hy
  rw [← ea, ← eb]
  refine u_apart (u_lays (ws := u_ws r.1 r.2.1 r.2.2) (cl_words hB hc args) (fun w h => h) hx) (u_lays (ws := u_ws r.1 r.2.1 r.2.2) (cl_words hB hc args) (fun w h => h) hy) hia hib ?_
  rw [(State.fieldFound?_type hia (hty x hx)).1, (State.fieldFound?_type hib (hty y hy)).1]
  exact cl_nm hc x hx y hy hne
theorem V.putf {idx ci j a : Nat} {ty : FieldType} {dcl : String} {fs : List Value} {v : Value} (hd : decode cc pc = .ok (.putfield idx, 3)) (hF : FD own idx ci j ty false dcl) (ha : h.1 a = some (.inr (ci, fs))) (hasz : Ω.sz ≤ a) (hl0 : j < fs.length) (hn0 : narrow ty v = v) (hf0 : fits ty v = true)
    (kk : V Ω own nm cc nL ret hh d mc ms P (hput h a (.inr (ci, fs.set j v))) k n (pc + 3) lv st) : V Ω own nm cc nL ret hh d mc ms P h k n pc lv (v :: .ref a :: st) := by
  intro p e s m args below meth c F H locs ls hH hl hv
  obtain ⟨C, T, N, hc, hj, hlk, hpd, hfin, hdc⟩ := hF
  have hB := F.2.2.2.2.2.2.2.2
  have hat := hH.1 a _ ha
  obtain ⟨cell, q1, q2, -, q4, q3'⟩ := hat.fields hc
  have q3 := q3' hasz
  obtain ⟨hS, hfc, kC, hkC, hkind⟩ := hB.kn hc
  obtain ⟨cf, kf, fi, f, hi, hsl⟩ := hS j hj
  have hlay := cl_words hB hc args _ (u_in_lay hj)
  unfold u_lay at hlay
  rw [if_neg (by rw [hfin]; decide)] at hlay
  have hst := (u_facts hfc hkC (u_lays (ws := u_ws C T N) (cl_words hB hc args) (fun w h => h) hj) hi).1
  have h6 := u_store hfc hkC hkind hlay hi hpd hn0 hf0
  rw [hdc] at hi
  have kk' : ∀ H' : Heap, H'[a]? = some (cell.setSlot f.slot v) → H'.size = H.size → (∀ q, q ≠ a → H'[q]? = H[q]?) → W p Ω.l e (Rm d mc ms) s m args below meth c H' (locs ++ [⟨a, f.slot⟩]) k n (MQT Ω below P s mc ms) (F0 m (pc + 3) ls st) := by
    intro H' e1 e2 e3
    refine kk p e s m args below meth c F H' _ ls (hH.set hasz (at_.mkO hc ?_) e2 e3) (fun q hq => ?_) hv
    · exact ob_set (by rw [← hsl]; exact e1) q2 q3 q4 (kn_apart hB hc args) hj hl0
    · rcases List.mem_append.mp hq with hq | hq
      · exact hl q hq
      · rw [List.mem_singleton.mp hq]; exact hasz
  rcases hlk with hlk | ⟨host, hlk⟩
  · exact W.putK F.1 F.2.1 (f := f) ⟨F.2.2.2.2.1, tw hB hlk (by simp [okw, Cond.onTables, Cond.keeps, Cond.steady]) args, ⟨_, _, _, hi⟩, hst⟩ (by rw [q2]; exact h6) q1 q3 (by rw [hsl]; exact k2_hasslot (q4 j hj)) rfl rfl hd kk'
  · exact va_WputK F.1 F.2.1 (f := f) F.2.2.2.2.1 (tw hB hlk rfl args) hi hst (by rw [q2]; exact h6) q1 q3 (by rw [hsl]; exact k2_hasslot (q4 j hj)) rfl rfl hd kk'
theorem V.putF {idx ci j a : Nat} {ty : FieldType} {fs : List Value} {v : Value} (hd : decode cc pc = .ok (.putfield idx, 3)) (hF : FD own idx ci j ty true own) (hnm : nm = "<init>") (ha : h.1 a = some (.inr (ci, fs))) (hasz : Ω.sz ≤ a) (hl0 : j < fs.length) (hn0 : narrow ty v = v) (hf0 : fits ty v = true)
    (kk : V Ω own nm cc nL ret hh d mc ms P (hput h a (.inr (ci, fs.set j v))) k n (pc + 3) lv st) : V Ω own nm cc nL ret hh d mc ms P h k n pc lv (v :: .ref a :: st) := by
  intro p e s m args below meth c F H locs ls hH hl hv
  obtain ⟨C, T, N, hc, hj, hlk, hpd, hfin, hdc⟩ := hF
  have hB := F.2.2.2.2.2.2.2.2
  have hat := hH.1 a _ ha
  obtain ⟨cell, q1, q2, -, q4, q3'⟩ := hat.fields hc
  have q3 := q3' hasz
  obtain ⟨hS, hfc, kC, hkC, hkind⟩ := hB.kn hc
  obtain ⟨cf, kf, fi, f, hi, hsl⟩ := hS j hj
  have hlay := cl_words hB hc args _ (u_in_lay hj)
  unfold u_lay at hlay
  rw [if_pos hfin] at hlay
  have hst := (u_facts hfc hkC (u_lays (ws := u_ws C T N) (cl_words hB hc args) (fun w h => h) hj) hi).1
  have hcf : m.cls = cf := by
    obtain ⟨_, _, c', _, _, _, -, -, hf', -, -, -, hown2, -⟩ := Cond.laysFinal_spec hlay
    have e1 : c' = cf := by have := hi.symm.trans hf'; simp at this; exact this.1.symm
    rw [hdc] at hown2
    rw [← e1]; exact Option.some.inj (F.2.2.2.2.1.symm.trans hown2)
  have h6 := u_fits hfc hkC hkind (Or.inr hlay) hi hpd hn0 hf0
  rw [hdc] at hi
  have kk' : ∀ H' : Heap, H'[a]? = some (cell.setSlot f.slot v) → H'.size = H.size → (∀ q, q ≠ a → H'[q]? = H[q]?) → W p Ω.l e (Rm d mc ms) s m args below meth c H' (locs ++ [⟨a, f.slot⟩]) k n (MQT Ω below P s mc ms) (F0 m (pc + 3) ls st) := by
    intro H' e1 e2 e3
    refine kk p e s m args below meth c F H' _ ls (hH.set hasz (at_.mkO hc ?_) e2 e3) (fun q hq => ?_) hv
    · exact ob_set (by rw [← hsl]; exact e1) q2 q3 q4 (kn_apart hB hc args) hj hl0
    · rcases List.mem_append.mp hq with hq | hq
      · exact hl q hq
      · rw [List.mem_singleton.mp hq]; exact hasz
  rcases hlk with hlk | ⟨host, hlk⟩
  · exact W.putFinK F.1 F.2.1 F.2.2.2.2.1 (tw hB hlk (by simp [okw, Cond.onTables, Cond.keeps, Cond.steady]) args) hi hst hcf (F.2.2.2.2.2.1.trans hnm) (by rw [q2]; exact h6) q1 q3 (by rw [hsl]; exact k2_hasslot (q4 j hj)) rfl rfl hd kk'
  · have ha2 : a < H.size := (Array.getElem?_eq_some_iff.mp q1).1
    refine va_Wputf F.1 F.2.1 F.2.2.2.2.1 (tw hB hlk rfl args) hi hst (Or.inr ⟨hcf, F.2.2.2.2.2.1.trans hnm⟩) q1 (by rw [q3]; exact fun h => by cases h) (by rw [hsl]; exact k2_hasslot (q4 j hj)) h6.1 (by rw [q3, q2]; exact h6.2) rfl rfl hd ?_
    refine kk' _ ?_ ?_ ?_
    · simp [Array.getElem?_setIfInBounds, ha2]
    · simp
    · intro q hq
      simp [Array.getElem?_setIfInBounds, Ne.symm hq]
theorem V.new {idx ci N : Nat} {C : String} {T : u_T} {fs : List Value} (hd : decode cc pc = .ok (.new idx, 3)) (hc : vwCl[ci]? = some (C, T, N)) (hcl : Cond.classLink own idx C ∈ lw_tbl) (hin : Cond.instantiable C N ∈ lw_tbl) (hini : Cond.initialized C ∈ lw_tbl) (hfs : ∀ (j : Nat), j < N → ∀ ty, parseFieldDescriptor (T j).2.2.1 = some ty → defaultValue ty = vp_V fs j) (hk : k + 1 ≤ mc) (hn : n + N ≤ ms)
    (kk : V Ω own nm cc nL ret hh d mc ms P (hnew h (.inr (ci, fs)) N) (k + 1) (n + N) (pc + 3) lv (.ref h.2.1 :: st)) : V Ω own nm cc nL ret hh d mc ms P h k n pc lv st := by
  intro p e s m args below meth c F H locs ls hH hl hv
  have hB := F.2.2.2.2.2.2.2.2
  have hKn := hB.kn hc
  obtain ⟨ty, hty⟩ := cl_ty hc
  refine W.newcK F.1 F.2.1 F.2.2.2.2.1 (tw hB hcl (by simp [okw, Cond.onTables, Cond.keeps, Cond.steady]) args) (tw hB hin (by simp [okw, Cond.onTables, Cond.keeps, Cond.steady]) args) (tw hB hini (by simp [okw, Cond.onTables, Cond.keeps, Cond.steady]) args) rfl hd hk hn hKn.2.1 rfl fun H1 kC hkC e1 z1 o1 => ?_
  have hH1 := hH.push (N := N) (e := .inr (ci, fs)) (at_.mkO hc ((u_born ty (ws := u_ws C T N) (cl_words hB hc args) (fun w h => h) hKn hkC e1 hty).to (fun j hj => hfs j hj _ (hty j hj)))) z1 o1
  have kk := kk p e s m args below meth c F H1 locs ls hH1 hl hv
  rw [hH.2.1] at kk
  exact kk
theorem V.newa {atype : ArrayType} {x : Int32} {N : Nat} {ty : FieldType} {a0 : vp_A} (hd : decode cc pc = .ok (.newarray atype, 2)) (harr : Cond.arrayClass ty ∈ lw_tbl) (hty : newarray.typeOf atype = ty) (hx : x = nI N) (hN : N < 100000) (h0 : ∀ cA : ClassId, vp_cell cA a0 = arrV cA N (fun _ => defaultValue ty)) (hk : k + 1 ≤ mc) (hn : n + N ≤ ms)
    (kk : V Ω own nm cc nL ret hh d mc ms P (hnew h (.inl (ty, a0)) N) (k + 1) (n + N) (pc + 2) lv (.ref h.2.1 :: st)) : V Ω own nm cc nL ret hh d mc ms P h k n pc lv (.int x :: st) := by
  intro p e s m args below meth c F H locs ls hH hl hv
  have hB := F.2.2.2.2.2.2.2.2
  subst hty
  subst hx
  have hcb : componentBytes (newarray.typeOf atype) ≤ 8 := by cases atype <;> decide
  refine va_newaK F.1 F.2.1 (tw hB harr (by simp [okw]) args) rfl hd rfl (nI_pos (by omega)) (nI_clamp (by omega)) (Nat.le_trans (Nat.mul_le_mul (Nat.le_of_lt hN) hcb) (by decide)) hk hn rfl fun H1 cA e1 z1 o1 hAr hNm => ?_
  have hH1 := hH.push (N := N) (e := .inl (newarray.typeOf atype, a0)) (at_.mkA (cA := cA) (hB.arr' ⟨hAr, by cases atype <;> exact hNm⟩) (by rw [h0]; exact e1)) z1 o1
  have kk := kk p e s m args below meth c F H1 locs ls hH1 hl hv
  rw [hH.2.1] at kk
  exact kk
theorem V.anew {idx : Nat} {C : String} {x : Int32} {N : Nat} (hd : decode cc pc = .ok (.anewarray idx, 3)) (hcl : Cond.classLink own idx C ∈ lw_tbl) (hov : Cond.arrayOver (.object C) ∈ lw_tbl) (hx : x = nI N) (hN : N < 100000) (hk : k + 1 ≤ mc) (hn : n + N ≤ ms)
    (kk : V Ω own nm cc nL ret hh d mc ms P (hnew h (.inl (.object C, (N, .inr (.inr (.inr (.inr (fun _ => none))))))) N) (k + 1) (n + N) (pc + 3) lv (.ref h.2.1 :: st)) : V Ω own nm cc nL ret hh d mc ms P h k n pc lv (.int x :: st) := by
  intro p e s m args below meth c F H locs ls hH hl hv
  have hB := F.2.2.2.2.2.2.2.2
  subst hx
  have hcl1 : (nI N).toNatClampNeg = N := nI_clamp (by omega)
  refine W.anew F.1 F.2.1 F.2.2.2.2.1 (tw hB hcl (by simp [okw, Cond.onTables, Cond.keeps, Cond.steady]) args) (tw hB hov rfl args) rfl hd rfl (nI_pos (by omega)) (by rw [hcl1]; omega) hk (by rw [hcl1]; exact hn) fun cA kA comp f1 f2 f3 f4 => ?_
  rw [hcl1]
  generalize hH1e : H.push ({ cls := cA, slots := Array.replicate N .null, vm := .none } : Cell) = H1
  have z1 : H1.size = H.size + 1 := by rw [← hH1e, Array.size_push]
  have e1 : H1[H.size]? = some (arrV cA N (fun _ => .null)) := by rw [← hH1e, Array.getElem?_push_size, ← arrV_new]
  have o1 : ∀ q : Nat, q < H.size → H1[q]? = H[q]? := fun q hq => by rw [← hH1e, Array.getElem?_push, if_neg (Nat.ne_of_lt hq)]
  have hAr : ArrOfT s cA (.object C) := fun N z => ⟨(fun k h => by cases h), kA, f2, comp, f3⟩
  have hH1 := hH.push (N := N) (e := .inl (.object C, (N, .inr (.inr (.inr (.inr (fun _ => none))))))) (at_.mkA (cA := cA) (hB.arr' ⟨hAr, kA, comp, f2, f3, f4, f1⟩) (by rw [vp_cell_q]; exact e1)) z1 o1
  have kk := kk p e s m args below meth c F H1 locs ls hH1 hl hv
  rw [hH.2.1] at kk
  exact kk
theorem V.alen {ty : FieldType} {A : vp_A} {a : Nat} (hd : decode cc pc = .ok (.arraylength, 1)) (ha : lk Ω h a (.inl (ty, A))) (kk : V Ω own nm cc nL ret hh d mc ms P h k n (pc + 1) lv (.int (nI A.1) :: st)) : V Ω own nm cc nL ret hh d mc ms P h k n pc lv (.ref a :: st) := by
  intro p e s m args below meth c F H locs ls hH hl hv
  obtain ⟨cA, cell, hc, hA, hu, hs⟩ := (ha.at hH).rd F.2.2.2.2.2.2.2.2
  exact W.alen (n := nI A.1) F.1 F.2.1 hc hA (by rw [hs.2.1] <;> rfl) rfl rfl hd (kk p e s m args below meth c F H locs ls hH hl hv)
theorem V.iald {a len j : Nat} {i : Int32} {f : Nat → Int32} (hd : decode cc pc = .ok (.iaload, 1)) (ha : lk Ω h a (.inl (.int, (len, .inl f)))) (hi : i = nI j) (hj : j < len) (hlen : len < 2 ^ 31) (kk : V Ω own nm cc nL ret hh d mc ms P h k n (pc + 1) lv (.int (f j) :: st)) : V Ω own nm cc nL ret hh d mc ms P h k n pc lv (.int i :: .ref a :: st) := by
  intro p e s m args below meth c F H locs ls hH hl hv
  obtain ⟨cA, cell, hc, hA, hu, hs⟩ := (ha.at hH).rd F.2.2.2.2.2.2.2.2
  subst hi
  have hcl : (nI j).toNatClampNeg = j := nI_clamp (by omega)
  have kk' := kk p e s m args below meth c F H locs ls hH hl hv
  have hin := vp_in_nI hj hlen
  exact W.iald (v := .int (f j)) F.1 F.2.1 hc hA hu (by intro q; rcases q with q | q; exact hin (Or.inl q); rw [hcl] at q; exact absurd hj (Nat.not_lt.mpr (Nat.le_trans hs.1 q))) (by rw [hcl, hs.2.2 j hj]; show (arrV _ _ _).slots[j]? = _; rw [arrV_read _ _ hj]) rfl rfl hd kk'
theorem V.bald {a len j : Nat} {i : Int32} {f : Nat → Int32} (hd : decode cc pc = .ok (.baload, 1)) (ha : lk Ω h a (.inl (.byte, (len, .inl f)))) (hi : i = nI j) (hj : j < len) (hlen : len < 2 ^ 31) (kk : V Ω own nm cc nL ret hh d mc ms P h k n (pc + 1) lv (.int (f j) :: st)) : V Ω own nm cc nL ret hh d mc ms P h k n pc lv (.int i :: .ref a :: st) := by
  intro p e s m args below meth c F H locs ls hH hl hv
  obtain ⟨cA, cell, hc, hA, hu, hs⟩ := (ha.at hH).rd F.2.2.2.2.2.2.2.2
  subst hi
  have hcl : (nI j).toNatClampNeg = j := nI_clamp (by omega)
  have kk' := kk p e s m args below meth c F H locs ls hH hl hv
  have hin := vp_in_nI hj hlen
  exact W.bald (v := .int (f j)) F.1 F.2.1 hc hA hu (by intro q; rcases q with q | q; exact hin (Or.inl q); rw [hcl] at q; exact absurd hj (Nat.not_lt.mpr (Nat.le_trans hs.1 q))) (by rw [hcl, hs.2.2 j hj]; show (arrV _ _ _).slots[j]? = _; rw [arrV_read _ _ hj]) rfl rfl hd kk'
theorem V.zald {a len j : Nat} {i : Int32} {f : Nat → Int32} (hd : decode cc pc = .ok (.baload, 1)) (ha : lk Ω h a (.inl (.boolean, (len, .inl f)))) (hi : i = nI j) (hj : j < len) (hlen : len < 2 ^ 31) (kk : V Ω own nm cc nL ret hh d mc ms P h k n (pc + 1) lv (.int (f j) :: st)) : V Ω own nm cc nL ret hh d mc ms P h k n pc lv (.int i :: .ref a :: st) := by
  intro p e s m args below meth c F H locs ls hH hl hv
  obtain ⟨cA, cell, hc, hA, hu, hs⟩ := (ha.at hH).rd F.2.2.2.2.2.2.2.2
  subst hi
  have hcl : (nI j).toNatClampNeg = j := nI_clamp (by omega)
  have kk' := kk p e s m args below meth c F H locs ls hH hl hv
  have hin := vp_in_nI hj hlen
  exact W.zald (v := .int (f j)) F.1 F.2.1 hc hA hu (by intro q; rcases q with q | q; exact hin (Or.inl q); rw [hcl] at q; exact absurd hj (Nat.not_lt.mpr (Nat.le_trans hs.1 q))) (by rw [hcl, hs.2.2 j hj]; show (arrV _ _ _).slots[j]? = _; rw [arrV_read _ _ hj]) rfl rfl hd kk'
theorem V.lald {a len j : Nat} {i : Int32} {f : Nat → Int64} (hd : decode cc pc = .ok (.laload, 1)) (ha : lk Ω h a (.inl (.long, (len, .inr (.inl f))))) (hi : i = nI j) (hj : j < len) (hlen : len < 2 ^ 31) (kk : V Ω own nm cc nL ret hh d mc ms P h k n (pc + 1) lv (.long (f j) :: st)) : V Ω own nm cc nL ret hh d mc ms P h k n pc lv (.int i :: .ref a :: st) := by
  intro p e s m args below meth c F H locs ls hH hl hv
  obtain ⟨cA, cell, hc, hA, hu, hs⟩ := (ha.at hH).rd F.2.2.2.2.2.2.2.2
  subst hi
  have hcl : (nI j).toNatClampNeg = j := nI_clamp (by omega)
  have kk' := kk p e s m args below meth c F H locs ls hH hl hv
  have hin := vp_in_nI hj hlen
  exact W.lald (v := .long (f j)) F.1 F.2.1 hc hA hu (by intro q; rcases q with q | q; exact hin (Or.inl q); rw [hcl] at q; exact absurd hj (Nat.not_lt.mpr (Nat.le_trans hs.1 q))) (by rw [hcl, hs.2.2 j hj]; show (arrV _ _ _).slots[j]? = _; rw [arrV_read _ _ hj]) rfl rfl hd kk'
theorem V.aldq {C : String} {a len j : Nat} {i : Int32} {f : Nat → Option Nat} (hd : decode cc pc = .ok (.aaload, 1)) (ha : lk Ω h a (.inl ((.object C), (len, .inr (.inr (.inr (.inr f))))))) (hi : i = nI j) (hj : j < len) (hlen : len < 2 ^ 31) (kk : V Ω own nm cc nL ret hh d mc ms P h k n (pc + 1) lv (va_rf (f j) :: st)) : V Ω own nm cc nL ret hh d mc ms P h k n pc lv (.int i :: .ref a :: st) := by
  intro p e s m args below meth c F H locs ls hH hl hv
  obtain ⟨cA, cell, hc, hA, hu, hs⟩ := (ha.at hH).rd F.2.2.2.2.2.2.2.2
  subst hi
  have hcl : (nI j).toNatClampNeg = j := nI_clamp (by omega)
  have kk' := kk p e s m args below meth c F H locs ls hH hl hv
  have hin := vp_in_nI hj hlen
  exact W.aald (v := va_rf (f j)) (ty := .object C) F.1 F.2.1 hc hA rfl hu (by intro q; rcases q with q | q; exact hin (Or.inl q); rw [hcl] at q; exact absurd hj (Nat.not_lt.mpr (Nat.le_trans hs.1 q))) (by rw [hcl, hs.2.2 j hj]; show (arrV _ _ _).slots[j]? = _; rw [arrV_read _ _ hj]) rfl rfl hd kk'
end VHEAP
