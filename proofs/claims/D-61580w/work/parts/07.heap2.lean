/-! HEAP ROWS: array stores, casts, constants -/
section VHEAP2
variable {Ω : Om} {own nm : String} {cc : ByteArray} {nL : Nat} {ret : Option FieldType} {hh : List (Nat × Nat × Nat × Nat)} {d mc ms : Nat} {P : Outcome → AH → Prop} {h : AH} {k n pc : Nat} {lv : List (Nat × Value)} {st : List Value}
theorem V.iast {a len j : Nat} {i : Int32} {x : Int32} {f : Nat → Int32} (hd : decode cc pc = .ok (.iastore, 1)) (hasz : Ω.sz ≤ a) (ha : h.1 a = some (.inl (.int, (len, .inl f)))) (hi : i = nI j) (hj : j < len) (hlen : len < 2 ^ 31) (kk : V Ω own nm cc nL ret hh d mc ms P (hput h a (.inl (.int, (len, .inl (va_up f j x))))) k n (pc + 1) lv st) : V Ω own nm cc nL ret hh d mc ms P h k n pc lv (.int x :: .int i :: .ref a :: st) := by
  intro p e s m args below meth c F H locs ls hH hl hv
  obtain ⟨cA, hK, hc⟩ := (hH.1 a _ ha).arr hasz
  have hB := F.2.2.2.2.2.2.2.2
  have hK' := hB.arr hK
  subst hi
  have hcl : (nI j).toNatClampNeg = j := nI_clamp (by omega)
  have hin := vp_in_nI hj hlen
  refine W.iast F.1 F.2.1 hc (hK'.1 len (fun j => .int (f j))) (fun q => by cases q) (by show ¬ ((nI j) < 0 ∨ (arrV _ _ _).slots.size ≤ _); rw [arrV_size]; exact hin) rfl rfl hd fun H1 e1 z oq => ?_
  refine kk p e s m args below meth c F H1 _ ls (hH.set hasz (at_.mkA (cA := cA) hK ?_) z oq) (fun q hq => ?_) hv
  · show H1[a]? = some (vp_cell _ _)
    rw [e1]
    rw [hcl]
    rw [vp_cell_i, vp_cell_i, arrV_store]
    congr 2
    funext q
    by_cases hq : q = j
    · subst hq; simp [updV, va_up]
    · simp [updV, va_up, hq]
  · rcases List.mem_append.mp hq with hq | hq
    · exact hl q hq
    · rw [List.mem_singleton.mp hq]; exact hasz
theorem V.bast {a len j : Nat} {i : Int32} {x : Int32} {f : Nat → Int32} (hd : decode cc pc = .ok (.bastore, 1)) (hasz : Ω.sz ≤ a) (ha : h.1 a = some (.inl (.byte, (len, .inl f)))) (hi : i = nI j) (hj : j < len) (hlen : len < 2 ^ 31) (hnx : narrow .byte (.int x) = .int x) (kk : V Ω own nm cc nL ret hh d mc ms P (hput h a (.inl (.byte, (len, .inl (va_up f j x))))) k n (pc + 1) lv st) : V Ω own nm cc nL ret hh d mc ms P h k n pc lv (.int x :: .int i :: .ref a :: st) := by
  intro p e s m args below meth c F H locs ls hH hl hv
  obtain ⟨cA, hK, hc⟩ := (hH.1 a _ ha).arr hasz
  have hB := F.2.2.2.2.2.2.2.2
  have hK' := hB.arr hK
  subst hi
  have hcl : (nI j).toNatClampNeg = j := nI_clamp (by omega)
  have hin := vp_in_nI hj hlen
  refine W.bast F.1 F.2.1 hc (hK'.1 len (fun j => .int (f j))) (fun q => by cases q) (by show ¬ ((nI j) < 0 ∨ (arrV _ _ _).slots.size ≤ _); rw [arrV_size]; exact hin) rfl rfl hd fun H1 e1 z oq => ?_
  refine kk p e s m args below meth c F H1 _ ls (hH.set hasz (at_.mkA (cA := cA) hK ?_) z oq) (fun q hq => ?_) hv
  · show H1[a]? = some (vp_cell _ _)
    rw [e1]
    rw [hcl]
    rw [vp_cell_i, vp_cell_i, arrV_store]
    congr 2
    funext q
    by_cases hq : q = j
    · subst hq; simp [updV, va_up, hnx]
    · simp [updV, va_up, hq]
  · rcases List.mem_append.mp hq with hq | hq
    · exact hl q hq
    · rw [List.mem_singleton.mp hq]; exact hasz
theorem V.zast {a len j : Nat} {i : Int32} {x : Int32} {f : Nat → Int32} (hd : decode cc pc = .ok (.bastore, 1)) (hasz : Ω.sz ≤ a) (ha : h.1 a = some (.inl (.boolean, (len, .inl f)))) (hi : i = nI j) (hj : j < len) (hlen : len < 2 ^ 31) (hnx : narrow .boolean (.int x) = .int x) (kk : V Ω own nm cc nL ret hh d mc ms P (hput h a (.inl (.boolean, (len, .inl (va_up f j x))))) k n (pc + 1) lv st) : V Ω own nm cc nL ret hh d mc ms P h k n pc lv (.int x :: .int i :: .ref a :: st) := by
  intro p e s m args below meth c F H locs ls hH hl hv
  obtain ⟨cA, hK, hc⟩ := (hH.1 a _ ha).arr hasz
  have hB := F.2.2.2.2.2.2.2.2
  have hK' := hB.arr hK
  subst hi
  have hcl : (nI j).toNatClampNeg = j := nI_clamp (by omega)
  have hin := vp_in_nI hj hlen
  refine W.zast F.1 F.2.1 hc (hK'.1 len (fun j => .int (f j))) (fun q => by cases q) (by show ¬ ((nI j) < 0 ∨ (arrV _ _ _).slots.size ≤ _); rw [arrV_size]; exact hin) rfl rfl hd fun H1 e1 z oq => ?_
  refine kk p e s m args below meth c F H1 _ ls (hH.set hasz (at_.mkA (cA := cA) hK ?_) z oq) (fun q hq => ?_) hv
  · show H1[a]? = some (vp_cell _ _)
    rw [e1]
    rw [hcl]
    rw [vp_cell_i, vp_cell_i, arrV_store]
    congr 2
    funext q
    by_cases hq : q = j
    · subst hq; simp [updV, va_up, hnx]
    · simp [updV, va_up, hq]
  · rcases List.mem_append.mp hq with hq | hq
    · exact hl q hq
    · rw [List.mem_singleton.mp hq]; exact hasz
theorem V.last {a len j : Nat} {i : Int32} {x : Int64} {f : Nat → Int64} (hd : decode cc pc = .ok (.lastore, 1)) (hasz : Ω.sz ≤ a) (ha : h.1 a = some (.inl (.long, (len, .inr (.inl f))))) (hi : i = nI j) (hj : j < len) (hlen : len < 2 ^ 31) (kk : V Ω own nm cc nL ret hh d mc ms P (hput h a (.inl (.long, (len, .inr (.inl (va_up f j x)))))) k n (pc + 1) lv st) : V Ω own nm cc nL ret hh d mc ms P h k n pc lv (.long x :: .int i :: .ref a :: st) := by
  intro p e s m args below meth c F H locs ls hH hl hv
  obtain ⟨cA, hK, hc⟩ := (hH.1 a _ ha).arr hasz
  have hB := F.2.2.2.2.2.2.2.2
  have hK' := hB.arr hK
  subst hi
  have hcl : (nI j).toNatClampNeg = j := nI_clamp (by omega)
  have hin := vp_in_nI hj hlen
  refine W.last F.1 F.2.1 hc (hK'.1 len (fun j => .long (f j))) (fun q => by cases q) (by show ¬ ((nI j) < 0 ∨ (arrV _ _ _).slots.size ≤ _); rw [arrV_size]; exact hin) rfl rfl hd fun H1 e1 z oq => ?_
  refine kk p e s m args below meth c F H1 _ ls (hH.set hasz (at_.mkA (cA := cA) hK ?_) z oq) (fun q hq => ?_) hv
  · show H1[a]? = some (vp_cell _ _)
    rw [e1]
    rw [hcl]
    rw [vp_cell_l, vp_cell_l, arrV_store]
    congr 2
    funext q
    by_cases hq : q = j
    · subst hq; simp [updV, va_up]
    · simp [updV, va_up, hq]
  · rcases List.mem_append.mp hq with hq | hq
    · exact hl q hq
    · rw [List.mem_singleton.mp hq]; exact hasz
theorem V.astq {C : String} {r : vw_C} {v ci : Nat} {vs : List Value} {a len j : Nat} {i : Int32} {f : Nat → Option Nat} (hd : decode cc pc = .ok (.aastore, 1)) (hasz : Ω.sz ≤ a) (ha : h.1 a = some (.inl (.object C, (len, .inr (.inr (.inr (.inr f))))))) (hi : i = nI j) (hj : j < len) (hlen : len < 2 ^ 31) (hv1 : lk Ω h v (.inr (ci, vs))) (hcv : vwCl[ci]? = some r) (hcast : Cond.castable r.1 C ∈ lw_tbl ∨ r.1 = C) (kk : V Ω own nm cc nL ret hh d mc ms P (hput h a (.inl (.object C, (len, .inr (.inr (.inr (.inr (va_up f j (some v))))))))) k n (pc + 1) lv st) : V Ω own nm cc nL ret hh d mc ms P h k n pc lv (.ref v :: .int i :: .ref a :: st) := by
  intro p e s m args below meth c F H locs ls hH hl hv
  obtain ⟨cA, hK, hc⟩ := (hH.1 a _ ha).arr hasz
  have hB := F.2.2.2.2.2.2.2.2
  have hK' := hB.arr hK
  subst hi
  have hcl : (nI j).toNatClampNeg = j := nI_clamp (by omega)
  have hin := vp_in_nI hj hlen
  obtain ⟨cellV, g1, g3, hclV⟩ := recv_ hB hH hcv hv1
  obtain ⟨kC, hkC, -⟩ := Vm.findClass_spec hclV
  obtain ⟨kA, comp, k1, k2, k3, -⟩ := hK'.2
  obtain ⟨kE, hkE, -⟩ := Vm.findClass_spec k3
  have hasg : s.vm.assignable cellV.cls comp = true := by
    rcases hcast with hq | hq
    · obtain ⟨c0, t0, f1, f2, f3⟩ := Cond.castable_spec (tw hB hq rfl args)
      cases hclV.symm.trans f1
      cases k3.symm.trans f2
      exact f3
    · rw [hq] at hclV
      cases hclV.symm.trans k3
      exact va_asg _ _
  refine W.aast F.1 F.2.1 hc (fun q h => by cases h) (fun h => by cases h) k1 k2 rfl hkE ⟨nI_pos (by omega), by show _ < (arrV _ _ _).slots.size; rw [arrV_size, hcl]; exact hj⟩ g1 (fun q h => by rw [h] at g3; cases g3) hkC hasg rfl rfl hd fun H1 e1 z oq => ?_
  refine kk p e s m args below meth c F H1 _ ls (hH.set hasz (at_.mkA (cA := cA) hK ?_) z oq) (fun q hq => ?_) hv
  · show H1[a]? = some (vp_cell _ _)
    rw [e1]
    rw [hcl]
    rw [vp_cell_q, vp_cell_q, arrV_store]
    congr 2
    funext q
    by_cases hq : q = j
    · subst hq; simp [updV, va_up, va_rf]
    · simp [updV, va_up, hq]
  · rcases List.mem_append.mp hq with hq | hq
    · exact hl q hq
    · rw [List.mem_singleton.mp hq]; exact hasz
theorem V.astqN {C : String} {a len j : Nat} {i : Int32} {f : Nat → Option Nat} (hd : decode cc pc = .ok (.aastore, 1)) (hasz : Ω.sz ≤ a) (ha : h.1 a = some (.inl (.object C, (len, .inr (.inr (.inr (.inr f))))))) (hi : i = nI j) (hj : j < len) (hlen : len < 2 ^ 31) (kk : V Ω own nm cc nL ret hh d mc ms P (hput h a (.inl (.object C, (len, .inr (.inr (.inr (.inr (va_up f j none)))))))) k n (pc + 1) lv st) : V Ω own nm cc nL ret hh d mc ms P h k n pc lv (.null :: .int i :: .ref a :: st) := by
  intro p e s m args below meth c F H locs ls hH hl hv
  obtain ⟨cA, hK, hc⟩ := (hH.1 a _ ha).arr hasz
  have hB := F.2.2.2.2.2.2.2.2
  have hK' := hB.arr hK
  subst hi
  have hcl : (nI j).toNatClampNeg = j := nI_clamp (by omega)
  have hin := vp_in_nI hj hlen
  refine va_WaastN (C := C) F.1 F.2.1 hc (hK'.1 len (fun j => va_rf (f j))) (fun h => by cases h) (by show ¬ ((nI j) < 0 ∨ (arrV _ _ _).slots.size ≤ _); rw [arrV_size]; exact hin) rfl rfl hd fun H1 e1 z oq => ?_
  refine kk p e s m args below meth c F H1 _ ls (hH.set hasz (at_.mkA (cA := cA) hK ?_) z oq) (fun q hq => ?_) hv
  · show H1[a]? = some (vp_cell _ _)
    rw [e1]
    rw [hcl]
    rw [vp_cell_q, vp_cell_q, arrV_store]
    congr 2
    funext q
    by_cases hq : q = j
    · subst hq; simp [updV, va_up, va_rf]
    · simp [updV, va_up, hq]
  · rcases List.mem_append.mp hq with hq | hq
    · exact hl q hq
    · rw [List.mem_singleton.mp hq]; exact hasz
theorem V.castY {idx ci a : Nat} {C : String} {r : vw_C} {fs : List Value} (hd : decode cc pc = .ok (.checkcast idx, 3)) (hl0 : Cond.classLink own idx C ∈ lw_tbl) (ha : lk Ω h a (.inr (ci, fs))) (hc : vwCl[ci]? = some r) (hcast : Cond.castable r.1 C ∈ lw_tbl ∨ r.1 = C) (kk : V Ω own nm cc nL ret hh d mc ms P h k n (pc + 3) lv (.ref a :: st)) : V Ω own nm cc nL ret hh d mc ms P h k n pc lv (.ref a :: st) := by
  intro p e s m args below meth c F H locs ls hH hl hv T hT X
  have hB := F.2.2.2.2.2.2.2.2
  obtain ⟨cell, h1, h2, h3⟩ := recv_ hB hH hc ha
  obtain ⟨t0, f2, f3⟩ : ∃ t0, s.vm.findClass C = some t0 ∧ s.vm.assignable cell.cls t0 = true := by
    rcases hcast with hq | hq
    · obtain ⟨c0, t0, f1, f2, f3⟩ := Cond.castable_spec (tw hB hq rfl args)
      cases h3.symm.trans f1
      exact ⟨t0, f2, f3⟩
    · exact ⟨cell.cls, by rw [← hq]; exact h3, va_asg _ _⟩
  obtain ⟨vm', X', st'⟩ := X.checkcastYes F.1 F.2.2.2.2.1 (tw hB hl0 (by simp [okw, Cond.onTables, Cond.keeps, Cond.steady]) args) (by rw [hT]; exact h1) h2 f2 f3 (g := F0 m pc ls (.ref a :: st)) rfl rfl (by rw [F.2.1]; exact hd)
  obtain ⟨t, a1, b1⟩ := kk p e s m args below meth c F H locs ls hH hl hv (T.setVm vm') hT X'
  exact ⟨t, st' t a1, b1⟩
theorem V.castN {idx : Nat} (hd : decode cc pc = .ok (.checkcast idx, 3)) (kk : V Ω own nm cc nL ret hh d mc ms P h k n (pc + 3) lv (.null :: st)) : V Ω own nm cc nL ret hh d mc ms P h k n pc lv (.null :: st) :=
  fun p e s m args below meth c F H locs ls hH hl hv => lv_castN F.1 F.2.1 hd (kk p e s m args below meth c F H locs ls hH hl hv)
theorem V.instY {idx ci a : Nat} {C : String} {r : vw_C} {fs : List Value} (hd : decode cc pc = .ok (.instanceof idx, 3)) (hl0 : Cond.classLink own idx C ∈ lw_tbl) (ha : lk Ω h a (.inr (ci, fs))) (hc : vwCl[ci]? = some r) (hcast : Cond.castable r.1 C ∈ lw_tbl ∨ r.1 = C) (kk : V Ω own nm cc nL ret hh d mc ms P h k n (pc + 3) lv (.int 1 :: st)) : V Ω own nm cc nL ret hh d mc ms P h k n pc lv (.ref a :: st) := by
  intro p e s m args below meth c F H locs ls hH hl hv T hT X
  have hB := F.2.2.2.2.2.2.2.2
  obtain ⟨cell, h1, h2, h3⟩ := recv_ hB hH hc ha
  obtain ⟨t0, f2, f3⟩ : ∃ t0, s.vm.findClass C = some t0 ∧ s.vm.assignable cell.cls t0 = true := by
    rcases hcast with hq | hq
    · obtain ⟨c0, t0, f1, f2, f3⟩ := Cond.castable_spec (tw hB hq rfl args)
      cases h3.symm.trans f1
      exact ⟨t0, f2, f3⟩
    · exact ⟨cell.cls, by rw [← hq]; exact h3, va_asg _ _⟩
  obtain ⟨vm', X', st'⟩ := X.instanceofYes F.1 F.2.2.2.2.1 (tw hB hl0 (by simp [okw, Cond.onTables, Cond.keeps, Cond.steady]) args) (by rw [hT]; exact h1) h2 f2 f3 (g := F0 m pc ls (.ref a :: st)) rfl rfl (by rw [F.2.1]; exact hd)
  obtain ⟨t, a1, b1⟩ := kk p e s m args below meth c F H locs ls hH hl hv (T.setVm vm') hT X'
  exact ⟨t, st' t a1, b1⟩
/-- two classes said not castable by the Statement -/
def Nc (C D : String) : Prop := ∀ (A : Array Value) (s : State), (Jvm.Cond.and given_1 narrow_1).before A s = true → (Cond.not (.castable C D)).before A s = true
theorem V.instNo {idx ci a : Nat} {C : String} {r : vw_C} {fs : List Value} (hd : decode cc pc = .ok (.instanceof idx, 3)) (hl0 : Cond.classLink own idx C ∈ lw_tbl) (ha : lk Ω h a (.inr (ci, fs))) (hc : vwCl[ci]? = some r) (hnc : Nc r.1 C) (kk : V Ω own nm cc nL ret hh d mc ms P h k n (pc + 3) lv (.int 0 :: st)) : V Ω own nm cc nL ret hh d mc ms P h k n pc lv (.ref a :: st) := by
  intro p e s m args below meth c F H locs ls hH hl hv
  have hB := F.2.2.2.2.2.2.2.2
  exact va_instNo F.1 F.2.1 F.2.2.2.2.1 (tw hB hl0 (by simp [okw, Cond.onTables, Cond.keeps, Cond.steady]) args) ((va_Nc.of (hnc _ _ hB.1.2.2.1)).moved hB.2.1.alike) (recv_ hB hH hc ha) hd (kk p e s m args below meth c F H locs ls hH hl hv)
theorem V.instN {idx : Nat} (hd : decode cc pc = .ok (.instanceof idx, 3)) (kk : V Ω own nm cc nL ret hh d mc ms P h k n (pc + 3) lv (.int 0 :: st)) : V Ω own nm cc nL ret hh d mc ms P h k n pc lv (.null :: st) :=
  fun p e s m args below meth c F H locs ls hH hl hv => lv_instN F.1 F.2.1 hd (kk p e s m args below meth c F H locs ls hH hl hv)
theorem V.ldc {idx : Nat} {v : Int32} (hd : decode cc pc = .ok (.ldc idx, 2)) (hc : Cond.constant own idx v ∈ lw_tbl) (kk : V Ω own nm cc nL ret hh d mc ms P h k n (pc + 2) lv (.int v :: st)) : V Ω own nm cc nL ret hh d mc ms P h k n pc lv st :=
  fun p e s m args below meth c F H locs ls hH hl hv => lv_ldc F.1 F.2.1 F.2.2.2.2.1 (tw F.2.2.2.2.2.2.2.2 hc (by simp [okw, Cond.onTables, Cond.keeps, Cond.steady]) args) hd (kk p e s m args below meth c F H locs ls hH hl hv)
theorem V.ldc2 {idx : Nat} {v : Int64} (hd : decode cc pc = .ok (.ldc2_w idx, 3)) (hc : Cond.constantLong own idx v ∈ lw_tbl) (kk : V Ω own nm cc nL ret hh d mc ms P h k n (pc + 3) lv (.long v :: st)) : V Ω own nm cc nL ret hh d mc ms P h k n pc lv st :=
  fun p e s m args below meth c F H locs ls hH hl hv => lv_ldc2 F.1 F.2.1 F.2.2.2.2.1 (tw F.2.2.2.2.2.2.2.2 hc (by simp [okw, Cond.onTables, Cond.keeps, Cond.steady]) args) hd (kk p e s m args below meth c F H locs ls hH hl hv)
theorem V.ldcS {idx q : Nat} {tx : String} (hd : decode cc pc = .ok (.ldc idx, 2)) (hZ : Ok Ω → vk_R own idx tx q Ω.s) (kk : V Ω own nm cc nL ret hh d mc ms P h k n (pc + 2) lv (.ref q :: st)) : V Ω own nm cc nL ret hh d mc ms P h k n pc lv st :=
  fun p e s m args below meth c F H locs ls hH hl hv => va_ldcS F.1 F.2.1 F.2.2.2.2.1 (vk_R.warm F.2.2.2.2.2.2.2.2.2.1 (hZ F.2.2.2.2.2.2.2.2.1)) hd (kk p e s m args below meth c F H locs ls hH hl hv)
theorem V.objInit {idx a : Nat} (hd : decode cc pc = .ok (.invokespecial idx, 3)) (hl0 : Cond.methodLink own idx Lib.objectInit ∈ lw_tbl) (hi0 : Cond.instanceMethod Lib.objectInit ∈ lw_tbl) (hc0 : Cond.code Lib.objectInit ⟨#[0xb1]⟩ 1 none ∈ lw_tbl) (hst : (st.map fun v => v.category).sum ≤ 8) (hd1 : 1 ≤ d) (kk : V Ω own nm cc nL ret hh d mc ms P h k n (pc + 3) lv st) : V Ω own nm cc nL ret hh d mc ms P h k n pc lv (.ref a :: st) := by
  intro p e s m args below meth c F H locs ls hH hl hv
  have hB := F.2.2.2.2.2.2.2.2
  refine W.objInit F.1 F.2.1 F.2.2.2.2.1 (tw hB hl0 (by simp [okw, Cond.onTables, Cond.keeps, Cond.steady]) args) (tw hB hi0 (by simp [okw, Cond.onTables, Cond.keeps, Cond.steady]) args) (tw hB hc0 (by simp [okw, Cond.onTables, Cond.keeps, Cond.steady]) args) rfl (by rw [F.2.2.1]; exact hv.1) rfl hd hd1 ?_ (kk p e s m args below meth c F H locs ls hH hl hv)
  have := lv_room (m := m) (pc := pc) (ls := ls) (rest := .ref a :: st) hst
  show _ ≤ 60 * d
  omega
end VHEAP2

