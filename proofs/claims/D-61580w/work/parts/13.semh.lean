/-! INSTRUCTIONS ON THE HEAP, CALLS -/
section HSEM
variable {nam : Nat → MethodName} {μ : Me} {pc : Nat} {pg : Pg} {Ω : Om} {d y : Nat} {lv st : List Value} {h : AH}
/-- a field of an object, by its class -/
def gf (h : AH) (a : Nat) (cj : List (Nat × Nat)) : Option Value := match h.1 a with
  | some (.inr (ci, fs)) => (cj.lookup ci).bind (fun j => fs[j]?)
  | _ => none
def m_getf (cj : List (Nat × Nat)) (q : Nat) : Sm := fun _ _ _ lv st h => match st with
  | .ref a :: t => (gf h a cj).bind (fun v => some (.inl (q, lv, v :: t, h)))
  | _ => none
theorem gf_some {h : AH} {a : Nat} {cj : List (Nat × Nat)} {v : Value} (hv : gf h a cj = some v) : ∃ ci fs j, h.1 a = some (.inr (ci, fs)) ∧ cj.lookup ci = some j ∧ fs[j]? = some v := by
  unfold gf at hv
  split at hv
  · rename_i ci fs hx
    obtain ⟨j, h1, h2⟩ := Option.bind_eq_some_iff.mp hv
    exact ⟨ci, fs, j, hx, h1, h2⟩
  · cases hv
theorem lookup_mem {cj : List (Nat × Nat)} {ci j : Nat} (h : cj.lookup ci = some j) : (ci, j) ∈ cj := by
  induction cj with
  | nil => simp at h
  | cons a t ih =>
    obtain ⟨x, z⟩ := a
    rw [List.lookup_cons] at h
    split at h
    · rename_i hb
      have : ci = x := by simpa using hb
      cases h; subst this
      exact List.mem_cons_self
    · exact List.mem_cons_of_mem _ (ih h)
theorem snd_getf {idx : Nat} {cj : List (Nat × Nat)} {ty : FieldType} {dcl : String} {fin0 : Bool} (hd : decode μ.2.1 pc = .ok (.getfield idx, 3)) (hF : ∀ q ∈ cj, FD μ.1.cls idx q.1 q.2 ty fin0 dcl) : Snd nam μ pc (m_getf cj (pc + 3)) := snd_pure (by
  intro Ω d orc lv st h r hr
  unfold m_getf at hr
  split at hr
  · obtain ⟨v, h1, h2⟩ := Option.bind_eq_some_iff.mp hr
    obtain ⟨ci, fs, j, g1, g2, g3⟩ := gf_some h1
    cases h2
    exact ⟨_, _, _, rfl, fun mc ms P k n kk => V.getf hd (hF _ (lookup_mem g2)) g1 g3 kk⟩
  · cases hr)
theorem fin_bind {α : Type} {o : Option α} {f : α → Option (Cf ⊕ Rs)} {k : Cf → Option Rs} : fin (o.bind f) k = o.bind (fun v => fin (f v) k) := by cases o <;> rfl
theorem q_getf {cj : List (Nat × Nat)} {q a : Nat} (hs : (pg y).2 pc = m_getf cj q) : gO pg Ω d y pc lv (.ref a :: st) h = (gf h a cj).bind (fun v => gO pg Ω d y q lv (v :: st) h) := by
  rw [gO_of hs]; unfold m_getf; dsimp only; rw [fin_bind]; rfl
/-- may the value stand in a field of this type -/
def okv (ty : FieldType) (v : Value) : Bool := decide (narrow ty v = v) && fits ty v
/-- a field of an object written; cells of the start are never written -/
def pf (z : Nat) (h : AH) (a : Nat) (cj : List (Nat × Nat)) (ty : FieldType) (v : Value) : Option AH := match h.1 a with
  | some (.inr (ci, fs)) => (cj.lookup ci).bind (fun j => if z ≤ a ∧ j < fs.length ∧ okv ty v = true then some (hput h a (.inr (ci, fs.set j v))) else none)
  | _ => none
def m_putf (cj : List (Nat × Nat)) (ty : FieldType) (q : Nat) : Sm := fun Ω _ _ lv st h => match st with
  | v :: .ref a :: t => (pf Ω.sz h a cj ty v).bind (fun h' => some (.inl (q, lv, t, h')))
  | _ => none
theorem pf_some {z : Nat} {h h' : AH} {a : Nat} {cj : List (Nat × Nat)} {ty : FieldType} {v : Value} (hv : pf z h a cj ty v = some h') : ∃ ci fs j, h.1 a = some (.inr (ci, fs)) ∧ cj.lookup ci = some j ∧ z ≤ a ∧ j < fs.length ∧ narrow ty v = v ∧ fits ty v = true ∧ h' = hput h a (.inr (ci, fs.set j v)) := by
  unfold pf at hv
  split at hv
  · rename_i ci fs hx
    obtain ⟨j, h1, h2⟩ := Option.bind_eq_some_iff.mp hv
    split at h2
    · rename_i hc
      obtain ⟨c1, c2, c3⟩ := hc
      unfold okv at c3
      rw [Bool.and_eq_true, decide_eq_true_eq] at c3
      cases h2
      exact ⟨ci, fs, j, hx, h1, c1, c2, c3.1, c3.2, rfl⟩
    · cases h2
  · cases hv
/-- a step that writes, and makes nothing -/
theorem snd_wr {sem : Sm} (H : ∀ (Ω : Om) (d : Nat) (orc : Orc) (lv st : List Value) (h : AH) (r : Cf ⊕ Rs), sem Ω d orc lv st h = some r → ∃ (pc' : Nat) (lv' st' : List Value) (h' : AH), r = .inl (pc', lv', st', h') ∧ h'.2 = h.2 ∧ ∀ (mc ms : Nat) (P : Outcome → AH → Prop) (k n : Nat), VV Ω μ d mc ms P h' k n pc' lv' st' → VV Ω μ d mc ms P h k n pc lv st) : Snd nam μ pc sem := by
  intro Ω d orc _ lv st h
  refine ⟨fun pc' lv' st' h' hr => ?_, fun o h' hr => ?_⟩
  · obtain ⟨p2, l2, s2, h2, e, e2, hk⟩ := H Ω d orc lv st h _ hr
    cases e
    rw [e2]
    refine ⟨Nat.le_refl _, Nat.le_refl _, fun mc ms P k n _ _ kk => ?_⟩
    simp only [Nat.sub_self, Nat.add_zero] at kk
    exact hk mc ms P k n kk
  · obtain ⟨p2, l2, s2, h2, e, e2, hk⟩ := H Ω d orc lv st h _ hr
    cases e
theorem snd_putf {idx : Nat} {cj : List (Nat × Nat)} {ty : FieldType} {dcl : String} (hd : decode μ.2.1 pc = .ok (.putfield idx, 3)) (hF : ∀ q ∈ cj, FD μ.1.cls idx q.1 q.2 ty false dcl) : Snd nam μ pc (m_putf cj ty (pc + 3)) := snd_wr (by
  intro Ω d orc lv st h r hr
  unfold m_putf at hr
  split at hr
  · obtain ⟨v, h1, h2⟩ := Option.bind_eq_some_iff.mp hr
    obtain ⟨ci, fs, j, g1, g2, g3, g4, g5, g6, rfl⟩ := pf_some h1
    cases h2
    exact ⟨_, _, _, _, rfl, rfl, fun mc ms P k n kk => V.putf hd (hF _ (lookup_mem g2)) g1 g3 g4 g5 g6 kk⟩
  · cases hr)
theorem snd_putF {idx : Nat} {cj : List (Nat × Nat)} {ty : FieldType} (hd : decode μ.2.1 pc = .ok (.putfield idx, 3)) (hF : ∀ q ∈ cj, FD μ.1.cls idx q.1 q.2 ty true μ.1.cls) (hn : μ.1.name = "<init>") : Snd nam μ pc (m_putf cj ty (pc + 3)) := snd_wr (by
  intro Ω d orc lv st h r hr
  unfold m_putf at hr
  split at hr
  · obtain ⟨v, h1, h2⟩ := Option.bind_eq_some_iff.mp hr
    obtain ⟨ci, fs, j, g1, g2, g3, g4, g5, g6, rfl⟩ := pf_some h1
    cases h2
    exact ⟨_, _, _, _, rfl, rfl, fun mc ms P k n kk => V.putF hd (hF _ (lookup_mem g2)) hn g1 g3 g4 g5 g6 kk⟩
  · cases hr)
theorem q_putf {cj : List (Nat × Nat)} {ty : FieldType} {q a : Nat} {v : Value} (hs : (pg y).2 pc = m_putf cj ty q) : gO pg Ω d y pc lv (v :: .ref a :: st) h = (pf Ω.sz h a cj ty v).bind (fun h' => gO pg Ω d y q lv st h') := by
  rw [gO_of hs]; unfold m_putf; dsimp only; rw [fin_bind]; rfl
/-- a step that makes a cell of N slots -/
theorem snd_mk {sem : Sm} (H : ∀ (Ω : Om) (d : Nat) (orc : Orc) (lv st : List Value) (h : AH) (r : Cf ⊕ Rs), sem Ω d orc lv st h = some r → ∃ (pc' : Nat) (lv' st' : List Value) (e : Ce) (N : Nat), r = .inl (pc', lv', st', hnew h e N) ∧ ∀ (mc ms : Nat) (P : Outcome → AH → Prop) (k n : Nat), k + 1 ≤ mc → n + N ≤ ms → VV Ω μ d mc ms P (hnew h e N) (k + 1) (n + N) pc' lv' st' → VV Ω μ d mc ms P h k n pc lv st) : Snd nam μ pc sem := by
  intro Ω d orc _ lv st h
  refine ⟨fun pc' lv' st' h' hr => ?_, fun o h' hr => ?_⟩
  · obtain ⟨p2, l2, s2, e, N, e1, hk⟩ := H Ω d orc lv st h _ hr
    cases e1
    have z1 : (hnew h e N).2.1 - h.2.1 = 1 := by show h.2.1 + 1 - h.2.1 = 1; omega
    have z2 : (hnew h e N).2.2 - h.2.2 = N := by show h.2.2 + N - h.2.2 = N; omega
    rw [z1, z2]
    exact ⟨Nat.le_succ _, Nat.le_add_right _ _, hk⟩
  · obtain ⟨p2, l2, s2, e, N, e1, hk⟩ := H Ω d orc lv st h _ hr
    cases e1
def m_new (ci : Nat) (fs : List Value) (q : Nat) : Sm := fun _ _ _ lv st h => some (.inl (q, lv, .ref h.2.1 :: st, hnew h (.inr (ci, fs)) fs.length))
theorem snd_new {idx ci N : Nat} {C : String} {T : u_T} {fs : List Value} (hd : decode μ.2.1 pc = .ok (.new idx, 3)) (hc : vwCl[ci]? = some (C, T, N)) (hcl : Cond.classLink μ.1.cls idx C ∈ lw_tbl) (hin : Cond.instantiable C N ∈ lw_tbl) (hini : Cond.initialized C ∈ lw_tbl) (hN : fs.length = N) (hfs : (List.range N).all (fun j => decide ((parseFieldDescriptor (T j).2.2.1).map defaultValue = some (vp_V fs j))) = true) : Snd nam μ pc (m_new ci fs (pc + 3)) := snd_mk (by
  intro Ω d orc lv st h r hr
  cases hr
  refine ⟨_, _, _, _, _, rfl, fun mc ms P k n hk hn kk => ?_⟩
  rw [hN] at kk hn
  have := V.new (Ω := Ω) (lv := prs 0 lv) (st := st) hd hc hcl hin hini (fs := fs) (fun j hj ty hty => by
    have := List.all_eq_true.mp hfs j (List.mem_range.mpr hj)
    rw [decide_eq_true_eq, hty] at this
    exact Option.some.inj this) hk hn kk
  exact this)
theorem q_new {ci q : Nat} {fs : List Value} (hs : (pg y).2 pc = m_new ci fs q) : gO pg Ω d y pc lv st h = gO pg Ω d y q lv (.ref h.2.1 :: st) (hnew h (.inr (ci, fs)) fs.length) := gO_of hs
/-- an index below a bound -/
def ckI (x : Int32) (N : Nat) : Option Nat := if x < 0 ∨ N ≤ x.toNatClampNeg then none else some x.toNatClampNeg
theorem ckI_nI {j N : Nat} (h : j < N) (hN : N ≤ 2 ^ 31) : ckI (nI j) N = some j := by
  unfold ckI
  rw [nI_clamp (by omega), if_neg]
  intro hq
  rcases hq with hq | hq
  · exact nI_pos (by omega) hq
  · omega
theorem ckI_some {x : Int32} {N j : Nat} (h : ckI x N = some j) : x = nI j ∧ j < N ∧ j < 2 ^ 31 := by
  unfold ckI at h
  split at h
  · cases h
  · rename_i hc
    cases h
    have h0 : ¬ x < 0 := fun q => hc (Or.inl q)
    obtain ⟨j, hj, rfl⟩ := nI_of h0
    rw [nI_clamp hj]
    refine ⟨rfl, ?_, hj⟩
    have : ¬ N ≤ (nI j).toNatClampNeg := fun q => hc (Or.inr q)
    rw [nI_clamp hj] at this
    omega
def zeroA (ty : FieldType) (N : Nat) : vp_A := if ty = .long then (N, .inr (.inl (fun _ => 0))) else (N, .inl (fun _ => 0))
def m_newa (ty : FieldType) (q : Nat) : Sm := fun _ _ _ lv st h => match st with
  | .int x :: t => (ckI x 100000).bind (fun N => some (.inl (q, lv, .ref h.2.1 :: t, hnew h (.inl (ty, zeroA ty N)) N)))
  | _ => none
theorem snd_newa {at0 : ArrayType} {ty : FieldType} (hd : decode μ.2.1 pc = .ok (.newarray at0, 2)) (harr : Cond.arrayClass ty ∈ lw_tbl) (hty : newarray.typeOf at0 = ty) (hok : ty = .int ∨ ty = .byte ∨ ty = .boolean ∨ ty = .long) : Snd nam μ pc (m_newa ty (pc + 2)) := snd_mk (by
  intro Ω d orc lv st h r hr
  unfold m_newa at hr
  split at hr
  · obtain ⟨N, h1, h2⟩ := Option.bind_eq_some_iff.mp hr
    obtain ⟨e, hN, -⟩ := ckI_some h1
    cases h2
    refine ⟨_, _, _, _, _, rfl, fun mc ms P k n hk hn kk => V.newa hd harr hty e hN (fun cA => ?_) hk hn kk⟩
    rcases hok with rfl | rfl | rfl | rfl <;> rfl
  · cases hr)
theorem q_newa {ty : FieldType} {q : Nat} {x : Int32} (hs : (pg y).2 pc = m_newa ty q) : gO pg Ω d y pc lv (.int x :: st) h = (ckI x 100000).bind (fun N => gO pg Ω d y q lv (.ref h.2.1 :: st) (hnew h (.inl (ty, zeroA ty N)) N)) := by
  rw [gO_of hs]; unfold m_newa; dsimp only; rw [fin_bind]; rfl
/-- an array of references -/
abbrev arR (C : String) (N : Nat) (f : Nat → Option Nat) : Ce := .inl (.object C, (N, .inr (.inr (.inr (.inr f)))))
abbrev arI (ty : FieldType) (N : Nat) (f : Nat → Int32) : Ce := .inl (ty, (N, .inl f))
abbrev arL (N : Nat) (f : Nat → Int64) : Ce := .inl (.long, (N, .inr (.inl f)))
def m_anew (C : String) (q : Nat) : Sm := fun _ _ _ lv st h => match st with
  | .int x :: t => (ckI x 100000).bind (fun N => some (.inl (q, lv, .ref h.2.1 :: t, hnew h (arR C N (fun _ => none)) N)))
  | _ => none
theorem snd_anew {idx : Nat} {C : String} (hd : decode μ.2.1 pc = .ok (.anewarray idx, 3)) (hcl : Cond.classLink μ.1.cls idx C ∈ lw_tbl) (hov : Cond.arrayOver (.object C) ∈ lw_tbl) : Snd nam μ pc (m_anew C (pc + 3)) := snd_mk (by
  intro Ω d orc lv st h r hr
  unfold m_anew at hr
  split at hr
  · obtain ⟨N, h1, h2⟩ := Option.bind_eq_some_iff.mp hr
    obtain ⟨e, hN, -⟩ := ckI_some h1
    cases h2
    exact ⟨_, _, _, _, _, rfl, fun mc ms P k n hk hn kk => V.anew hd hcl hov e hN hk hn kk⟩
  · cases hr)
theorem q_anew {C : String} {q : Nat} {x : Int32} (hs : (pg y).2 pc = m_anew C q) : gO pg Ω d y pc lv (.int x :: st) h = (ckI x 100000).bind (fun N => gO pg Ω d y q lv (.ref h.2.1 :: st) (hnew h (arR C N (fun _ => none)) N)) := by
  rw [gO_of hs]; unfold m_anew; dsimp only; rw [fin_bind]; rfl
/-- an array's length -/
def aln (h : AH) (a : Nat) : Option Nat := match h.1 a with
  | some (.inl (_, A)) => some A.1
  | _ => none
def m_alen (q : Nat) : Sm := fun _ _ _ lv st h => match st with
  | .ref a :: t => (aln h a).bind (fun N => some (.inl (q, lv, .int (nI N) :: t, h)))
  | _ => none
theorem snd_alen (hd : decode μ.2.1 pc = .ok (.arraylength, 1)) : Snd nam μ pc (m_alen (pc + 1)) := snd_pure (by
  intro Ω d orc lv st h r hr
  unfold m_alen at hr
  split at hr
  · obtain ⟨N, h1, h2⟩ := Option.bind_eq_some_iff.mp hr
    cases h2
    unfold aln at h1
    split at h1
    · rename_i ty A hx
      cases h1
      exact ⟨_, _, _, rfl, fun mc ms P k n kk => V.alen hd hx kk⟩
    · cases h1
  · cases hr)
theorem q_alen {q a : Nat} (hs : (pg y).2 pc = m_alen q) : gO pg Ω d y pc lv (.ref a :: st) h = (aln h a).bind (fun N => gO pg Ω d y q lv (.int (nI N) :: st) h) := by
  rw [gO_of hs]; unfold m_alen; dsimp only; rw [fin_bind]; rfl
/-- reads of arrays -/
def gaI (tys : List FieldType) (h : AH) (a : Nat) (x : Int32) : Option Int32 := match h.1 a with
  | some (.inl (ty, (N, .inl f))) => if ty ∈ tys ∧ N < 2 ^ 31 then (ckI x N).map f else none
  | _ => none
def gaL (h : AH) (a : Nat) (x : Int32) : Option Int64 := match h.1 a with
  | some (.inl (.long, (N, .inr (.inl f)))) => if N < 2 ^ 31 then (ckI x N).map f else none
  | _ => none
def gaR (h : AH) (a : Nat) (x : Int32) : Option (Option Nat) := match h.1 a with
  | some (.inl (.object _, (N, .inr (.inr (.inr (.inr f)))))) => if N < 2 ^ 31 then (ckI x N).map f else none
  | _ => none
def m_iald (tys : List FieldType) (q : Nat) : Sm := fun _ _ _ lv st h => match st with
  | .int x :: .ref a :: t => (gaI tys h a x).bind (fun v => some (.inl (q, lv, .int v :: t, h)))
  | _ => none
theorem gaI_some {tys : List FieldType} {h : AH} {a : Nat} {x v : Int32} (hv : gaI tys h a x = some v) : ∃ ty N f j, h.1 a = some (arI ty N f) ∧ ty ∈ tys ∧ x = nI j ∧ j < N ∧ N < 2 ^ 31 ∧ v = f j := by
  unfold gaI at hv
  split at hv
  · rename_i ty N f hx
    split at hv
    · rename_i hc
      obtain ⟨j, h1, h2⟩ := Option.map_eq_some_iff.mp hv
      obtain ⟨e, hj, -⟩ := ckI_some h1
      exact ⟨ty, N, f, j, hx, hc.1, e, hj, hc.2, h2.symm⟩
    · cases hv
  · cases hv
theorem gaL_some {h : AH} {a : Nat} {x : Int32} {v : Int64} (hv : gaL h a x = some v) : ∃ N f j, h.1 a = some (arL N f) ∧ x = nI j ∧ j < N ∧ N < 2 ^ 31 ∧ v = f j := by
  unfold gaL at hv
  split at hv
  · rename_i N f hx
    split at hv
    · rename_i hc
      obtain ⟨j, h1, h2⟩ := Option.map_eq_some_iff.mp hv
      obtain ⟨e, hj, -⟩ := ckI_some h1
      exact ⟨N, f, j, hx, e, hj, hc, h2.symm⟩
    · cases hv
  · cases hv
theorem gaR_some {h : AH} {a : Nat} {x : Int32} {v : Option Nat} (hv : gaR h a x = some v) : ∃ C N f j, h.1 a = some (arR C N f) ∧ x = nI j ∧ j < N ∧ N < 2 ^ 31 ∧ v = f j := by
  unfold gaR at hv
  split at hv
  · rename_i C N f hx
    split at hv
    · rename_i hc
      obtain ⟨j, h1, h2⟩ := Option.map_eq_some_iff.mp hv
      obtain ⟨e, hj, -⟩ := ckI_some h1
      exact ⟨C, N, f, j, hx, e, hj, hc, h2.symm⟩
    · cases hv
  · cases hv
theorem snd_iald (hd : decode μ.2.1 pc = .ok (.iaload, 1)) : Snd nam μ pc (m_iald [.int] (pc + 1)) := snd_pure (by
  intro Ω d orc lv st h r hr
  unfold m_iald at hr
  split at hr
  · obtain ⟨v, h1, h2⟩ := Option.bind_eq_some_iff.mp hr
    obtain ⟨ty, N, f, j, g1, g2, g3, g4, g5, rfl⟩ := gaI_some h1
    cases h2
    rw [List.mem_singleton.mp g2] at g1
    exact ⟨_, _, _, rfl, fun mc ms P k n kk => V.iald hd g1 g3 g4 g5 kk⟩
  · cases hr)
theorem snd_bald (hd : decode μ.2.1 pc = .ok (.baload, 1)) : Snd nam μ pc (m_iald [.byte, .boolean] (pc + 1)) := snd_pure (by
  intro Ω d orc lv st h r hr
  unfold m_iald at hr
  split at hr
  · obtain ⟨v, h1, h2⟩ := Option.bind_eq_some_iff.mp hr
    obtain ⟨ty, N, f, j, g1, g2, g3, g4, g5, rfl⟩ := gaI_some h1
    cases h2
    rcases List.mem_cons.mp g2 with g2 | g2
    · rw [g2] at g1
      exact ⟨_, _, _, rfl, fun mc ms P k n kk => V.bald hd g1 g3 g4 g5 kk⟩
    · rw [List.mem_singleton.mp g2] at g1
      exact ⟨_, _, _, rfl, fun mc ms P k n kk => V.zald hd g1 g3 g4 g5 kk⟩
  · cases hr)
theorem q_iald {tys : List FieldType} {q a : Nat} {x : Int32} (hs : (pg y).2 pc = m_iald tys q) : gO pg Ω d y pc lv (.int x :: .ref a :: st) h = (gaI tys h a x).bind (fun v => gO pg Ω d y q lv (.int v :: st) h) := by
  rw [gO_of hs]; unfold m_iald; dsimp only; rw [fin_bind]; rfl
def m_lald (q : Nat) : Sm := fun _ _ _ lv st h => match st with
  | .int x :: .ref a :: t => (gaL h a x).bind (fun v => some (.inl (q, lv, .long v :: t, h)))
  | _ => none
theorem snd_lald (hd : decode μ.2.1 pc = .ok (.laload, 1)) : Snd nam μ pc (m_lald (pc + 1)) := snd_pure (by
  intro Ω d orc lv st h r hr
  unfold m_lald at hr
  split at hr
  · obtain ⟨v, h1, h2⟩ := Option.bind_eq_some_iff.mp hr
    obtain ⟨N, f, j, g1, g3, g4, g5, rfl⟩ := gaL_some h1
    cases h2
    exact ⟨_, _, _, rfl, fun mc ms P k n kk => V.lald hd g1 g3 g4 g5 kk⟩
  · cases hr)
theorem q_lald {q a : Nat} {x : Int32} (hs : (pg y).2 pc = m_lald q) : gO pg Ω d y pc lv (.int x :: .ref a :: st) h = (gaL h a x).bind (fun v => gO pg Ω d y q lv (.long v :: st) h) := by
  rw [gO_of hs]; unfold m_lald; dsimp only; rw [fin_bind]; rfl
def m_aald (q : Nat) : Sm := fun _ _ _ lv st h => match st with
  | .int x :: .ref a :: t => (gaR h a x).bind (fun v => some (.inl (q, lv, va_rf v :: t, h)))
  | _ => none
theorem snd_aald (hd : decode μ.2.1 pc = .ok (.aaload, 1)) : Snd nam μ pc (m_aald (pc + 1)) := snd_pure (by
  intro Ω d orc lv st h r hr
  unfold m_aald at hr
  split at hr
  · obtain ⟨v, h1, h2⟩ := Option.bind_eq_some_iff.mp hr
    obtain ⟨C, N, f, j, g1, g3, g4, g5, rfl⟩ := gaR_some h1
    cases h2
    exact ⟨_, _, _, rfl, fun mc ms P k n kk => V.aldq hd g1 g3 g4 g5 kk⟩
  · cases hr)
theorem q_aald {q a : Nat} {x : Int32} (hs : (pg y).2 pc = m_aald q) : gO pg Ω d y pc lv (.int x :: .ref a :: st) h = (gaR h a x).bind (fun v => gO pg Ω d y q lv (va_rf v :: st) h) := by
  rw [gO_of hs]; unfold m_aald; dsimp only; rw [fin_bind]; rfl
/-- writes of arrays -/
def saI (tys : List FieldType) (z : Nat) (h : AH) (a : Nat) (x v : Int32) : Option AH := match h.1 a with
  | some (.inl (ty, (N, .inl f))) => if ty ∈ tys ∧ N < 2 ^ 31 ∧ z ≤ a ∧ narrow ty (.int v) = .int v then (ckI x N).map (fun j => hput h a (arI ty N (va_up f j v))) else none
  | _ => none
def saL (z : Nat) (h : AH) (a : Nat) (x : Int32) (v : Int64) : Option AH := match h.1 a with
  | some (.inl (.long, (N, .inr (.inl f)))) => if N < 2 ^ 31 ∧ z ≤ a then (ckI x N).map (fun j => hput h a (arL N (va_up f j v))) else none
  | _ => none
/-- a reference into an array over C: null, or an object of one of the classes cs -/
def saR (C : String) (cs : List Nat) (z : Nat) (h : AH) (a : Nat) (x : Int32) (v : Value) : Option AH := match h.1 a with
  | some (.inl (.object C', (N, .inr (.inr (.inr (.inr f)))))) => if C' = C ∧ N < 2 ^ 31 ∧ z ≤ a then (match v with
      | .null => (ckI x N).map (fun j => hput h a (arR C N (va_up f j none)))
      | .ref b => (match h.1 b with
        | some (.inr (ci, _)) => if ci ∈ cs then (ckI x N).map (fun j => hput h a (arR C N (va_up f j (some b)))) else none
        | _ => none)
      | _ => none) else none
  | _ => none
def m_iast (tys : List FieldType) (q : Nat) : Sm := fun Ω _ _ lv st h => match st with
  | .int v :: .int x :: .ref a :: t => (saI tys Ω.sz h a x v).bind (fun h' => some (.inl (q, lv, t, h')))
  | _ => none
theorem saI_some {tys : List FieldType} {z : Nat} {h h' : AH} {a : Nat} {x v : Int32} (hv : saI tys z h a x v = some h') : ∃ ty N f j, h.1 a = some (arI ty N f) ∧ ty ∈ tys ∧ z ≤ a ∧ narrow ty (.int v) = .int v ∧ x = nI j ∧ j < N ∧ N < 2 ^ 31 ∧ h' = hput h a (arI ty N (va_up f j v)) := by
  unfold saI at hv
  split at hv
  · rename_i ty N f hx
    split at hv
    · rename_i hc
      obtain ⟨j, h1, h2⟩ := Option.map_eq_some_iff.mp hv
      obtain ⟨e, hj, -⟩ := ckI_some h1
      exact ⟨ty, N, f, j, hx, hc.1, hc.2.2.1, hc.2.2.2, e, hj, hc.2.1, h2.symm⟩
    · cases hv
  · cases hv
theorem snd_iast (hd : decode μ.2.1 pc = .ok (.iastore, 1)) : Snd nam μ pc (m_iast [.int] (pc + 1)) := snd_wr (by
  intro Ω d orc lv st h r hr
  unfold m_iast at hr
  split at hr
  · obtain ⟨h', h1, h2⟩ := Option.bind_eq_some_iff.mp hr
    obtain ⟨ty, N, f, j, g1, g2, g3, g4, g5, g6, g7, rfl⟩ := saI_some h1
    cases h2
    cases List.mem_singleton.mp g2
    exact ⟨_, _, _, _, rfl, rfl, fun mc ms P k n kk => V.iast hd g3 g1 g5 g6 g7 kk⟩
  · cases hr)
theorem snd_bast (hd : decode μ.2.1 pc = .ok (.bastore, 1)) : Snd nam μ pc (m_iast [.byte, .boolean] (pc + 1)) := snd_wr (by
  intro Ω d orc lv st h r hr
  unfold m_iast at hr
  split at hr
  · obtain ⟨h', h1, h2⟩ := Option.bind_eq_some_iff.mp hr
    obtain ⟨ty, N, f, j, g1, g2, g3, g4, g5, g6, g7, rfl⟩ := saI_some h1
    cases h2
    rcases List.mem_cons.mp g2 with g2 | g2
    · subst g2
      exact ⟨_, _, _, _, rfl, rfl, fun mc ms P k n kk => V.bast hd g3 g1 g5 g6 g7 g4 kk⟩
    · cases List.mem_singleton.mp g2
      exact ⟨_, _, _, _, rfl, rfl, fun mc ms P k n kk => V.zast hd g3 g1 g5 g6 g7 g4 kk⟩
  · cases hr)
theorem q_iast {tys : List FieldType} {q a : Nat} {x v : Int32} (hs : (pg y).2 pc = m_iast tys q) : gO pg Ω d y pc lv (.int v :: .int x :: .ref a :: st) h = (saI tys Ω.sz h a x v).bind (fun h' => gO pg Ω d y q lv st h') := by
  rw [gO_of hs]; unfold m_iast; dsimp only; rw [fin_bind]; rfl
def m_last (q : Nat) : Sm := fun Ω _ _ lv st h => match st with
  | .long v :: .int x :: .ref a :: t => (saL Ω.sz h a x v).bind (fun h' => some (.inl (q, lv, t, h')))
  | _ => none
theorem snd_last (hd : decode μ.2.1 pc = .ok (.lastore, 1)) : Snd nam μ pc (m_last (pc + 1)) := snd_wr (by
  intro Ω d orc lv st h r hr
  unfold m_last at hr
  split at hr
  · obtain ⟨h', h1, h2⟩ := Option.bind_eq_some_iff.mp hr
    cases h2
    unfold saL at h1
    split at h1
    · rename_i N f hx
      split at h1
      · rename_i hc
        obtain ⟨j, h3, h4⟩ := Option.map_eq_some_iff.mp h1
        obtain ⟨e, hj, -⟩ := ckI_some h3
        subst h4
        exact ⟨_, _, _, _, rfl, rfl, fun mc ms P k n kk => V.last hd hc.2 hx e hj hc.1 kk⟩
      · cases h1
    · cases h1
  · cases hr)
theorem q_last {q a : Nat} {x : Int32} {v : Int64} (hs : (pg y).2 pc = m_last q) : gO pg Ω d y pc lv (.long v :: .int x :: .ref a :: st) h = (saL Ω.sz h a x v).bind (fun h' => gO pg Ω d y q lv st h') := by
  rw [gO_of hs]; unfold m_last; dsimp only; rw [fin_bind]; rfl
def m_aast (C : String) (cs : List Nat) (q : Nat) : Sm := fun Ω _ _ lv st h => match st with
  | v :: .int x :: .ref a :: t => (saR C cs Ω.sz h a x v).bind (fun h' => some (.inl (q, lv, t, h')))
  | _ => none
/-- an object of class number ci is a C -/
def Isa (ci : Nat) (C : String) : Prop := ∃ r : vw_C, vwCl[ci]? = some r ∧ (Cond.castable r.1 C ∈ lw_tbl ∨ r.1 = C)
theorem snd_aast {C : String} {cs : List Nat} (hd : decode μ.2.1 pc = .ok (.aastore, 1)) (hcs : ∀ ci ∈ cs, Isa ci C) : Snd nam μ pc (m_aast C cs (pc + 1)) := snd_wr (by
  intro Ω d orc lv st h r hr
  unfold m_aast at hr
  split at hr
  · obtain ⟨h', h1, h2⟩ := Option.bind_eq_some_iff.mp hr
    cases h2
    unfold saR at h1
    split at h1
    · rename_i C' N f hx
      split at h1
      · rename_i hc
        obtain ⟨rfl, hc2, hc3⟩ := hc
        split at h1
        · obtain ⟨j, h3, h4⟩ := Option.map_eq_some_iff.mp h1
          obtain ⟨e, hj, -⟩ := ckI_some h3
          subst h4
          exact ⟨_, _, _, _, rfl, rfl, fun mc ms P k n kk => V.astqN hd hc3 hx e hj hc2 kk⟩
        · split at h1
          · rename_i b ci fs hb
            split at h1
            · rename_i hm
              obtain ⟨j, h3, h4⟩ := Option.map_eq_some_iff.mp h1
              obtain ⟨e, hj, -⟩ := ckI_some h3
              obtain ⟨rr, hr1, hr2⟩ := hcs ci hm
              subst h4
              exact ⟨_, _, _, _, rfl, rfl, fun mc ms P k n kk => V.astq hd hc3 hx e hj hc2 hb hr1 hr2 kk⟩
            · cases h1
          · cases h1
        · cases h1
      · cases h1
    · cases h1
  · cases hr)
theorem q_aast {C : String} {cs : List Nat} {q a : Nat} {x : Int32} {v : Value} (hs : (pg y).2 pc = m_aast C cs q) : gO pg Ω d y pc lv (v :: .int x :: .ref a :: st) h = (saR C cs Ω.sz h a x v).bind (fun h' => gO pg Ω d y q lv st h') := by
  rw [gO_of hs]; unfold m_aast; dsimp only; rw [fin_bind]; rfl
/-- the class of the object at a -/
def clN (h : AH) (a : Nat) : Option Nat := match h.1 a with
  | some (.inr (ci, _)) => some ci
  | _ => none
theorem clN_some {h : AH} {a ci : Nat} (hv : clN h a = some ci) : ∃ fs, h.1 a = some (.inr (ci, fs)) := by
  unfold clN at hv
  split at hv
  · rename_i c fs hx
    cases hv
    exact ⟨fs, hx⟩
  · cases hv
/-- checkcast: an object of a class of cs, or null -/
def ctB (cs : List Nat) (h : AH) (v : Value) (k : Option Rs) : Option Rs := match v with
  | .null => k
  | .ref a => (clN h a).bind (fun ci => if ci ∈ cs then k else none)
  | _ => none
def m_cast (cs : List Nat) (q : Nat) : Sm := fun _ _ _ lv st h => match st with
  | .null :: t => some (.inl (q, lv, .null :: t, h))
  | .ref a :: t => (clN h a).bind (fun ci => if ci ∈ cs then some (.inl (q, lv, .ref a :: t, h)) else none)
  | _ => none
theorem snd_cast {idx : Nat} {C : String} {cs : List Nat} (hd : decode μ.2.1 pc = .ok (.checkcast idx, 3)) (hl0 : Cond.classLink μ.1.cls idx C ∈ lw_tbl) (hcs : ∀ ci ∈ cs, Isa ci C) : Snd nam μ pc (m_cast cs (pc + 3)) := snd_pure (by
  intro Ω d orc lv st h r hr
  unfold m_cast at hr
  split at hr
  · cases hr
    exact ⟨_, _, _, rfl, fun mc ms P k n kk => V.castN hd kk⟩
  · obtain ⟨ci, h1, h2⟩ := Option.bind_eq_some_iff.mp hr
    obtain ⟨fs, h3⟩ := clN_some h1
    split at h2
    · rename_i hm
      cases h2
      obtain ⟨rr, hr1, hr2⟩ := hcs ci hm
      exact ⟨_, _, _, rfl, fun mc ms P k n kk => V.castY hd hl0 h3 hr1 hr2 kk⟩
    · cases h2
  · cases hr)
theorem q_cast {cs : List Nat} {q : Nat} {v : Value} (hs : (pg y).2 pc = m_cast cs q) : gO pg Ω d y pc lv (v :: st) h = ctB cs h v (gO pg Ω d y q lv (v :: st) h) := by
  rw [gO_of hs]; unfold m_cast ctB
  cases v <;> try rfl
  dsimp only
  rw [fin_bind]
  congr 1
  funext ci
  split <;> rfl
/-- instanceof: 1 for the classes ys, 0 for ns -/
def isI (ys ns : List Nat) (h : AH) (v : Value) : Option Int32 := match v with
  | .null => some 0
  | .ref a => (clN h a).bind (fun ci => if ci ∈ ys then some 1 else if ci ∈ ns then some 0 else none)
  | _ => none
def m_inst (ys ns : List Nat) (q : Nat) : Sm := fun _ _ _ lv st h => match st with
  | v :: t => (isI ys ns h v).bind (fun x => some (.inl (q, lv, .int x :: t, h)))
  | _ => none
def Nota (ci : Nat) (C : String) : Prop := ∃ r : vw_C, vwCl[ci]? = some r ∧ Nc r.1 C
theorem snd_inst {idx : Nat} {C : String} {ys ns : List Nat} (hd : decode μ.2.1 pc = .ok (.instanceof idx, 3)) (hl0 : Cond.classLink μ.1.cls idx C ∈ lw_tbl) (hys : ∀ ci ∈ ys, Isa ci C) (hns : ∀ ci ∈ ns, Nota ci C) : Snd nam μ pc (m_inst ys ns (pc + 3)) := snd_pure (by
  intro Ω d orc lv st h r hr
  unfold m_inst at hr
  split at hr
  · obtain ⟨x, h1, h2⟩ := Option.bind_eq_some_iff.mp hr
    cases h2
    unfold isI at h1
    split at h1
    · cases h1
      exact ⟨_, _, _, rfl, fun mc ms P k n kk => V.instN hd kk⟩
    · obtain ⟨ci, h3, h4⟩ := Option.bind_eq_some_iff.mp h1
      obtain ⟨fs, h5⟩ := clN_some h3
      split at h4
      · rename_i hm
        cases h4
        obtain ⟨rr, hr1, hr2⟩ := hys ci hm
        exact ⟨_, _, _, rfl, fun mc ms P k n kk => V.instY hd hl0 h5 hr1 hr2 kk⟩
      · split at h4
        · rename_i hm
          cases h4
          obtain ⟨rr, hr1, hr2⟩ := hns ci hm
          exact ⟨_, _, _, rfl, fun mc ms P k n kk => V.instNo hd hl0 h5 hr1 hr2 kk⟩
        · cases h4
    · cases h1
  · cases hr)
theorem q_inst {ys ns : List Nat} {q : Nat} {v : Value} (hs : (pg y).2 pc = m_inst ys ns q) : gO pg Ω d y pc lv (v :: st) h = (isI ys ns h v).bind (fun x => gO pg Ω d y q lv (.int x :: st) h) := by
  rw [gO_of hs]; unfold m_inst; dsimp only; rw [fin_bind]; rfl
/-- checkcast to a byte array -/
def isB (h : AH) (a : Nat) : Bool := match h.1 a with
  | some (.inl (.byte, _)) => true
  | _ => false
def m_castB (q : Nat) : Sm := fun Ω _ _ lv st h => match st with
  | .ref a :: t => if Ω.sz ≤ a ∧ isB h a = true then some (.inl (q, lv, .ref a :: t, h)) else none
  | _ => none
theorem snd_castB {idx : Nat} (hd : decode μ.2.1 pc = .ok (.checkcast idx, 3)) (hl0 : Cond.classLink μ.1.cls idx "[B" ∈ lw_tbl) : Snd nam μ pc (m_castB (pc + 3)) := snd_pure (by
  intro Ω d orc lv st h r hr
  unfold m_castB at hr
  split at hr
  · split at hr
    · rename_i hb0
      cases hr
      obtain ⟨hz, hb⟩ := hb0
      unfold isB at hb
      split at hb
      · rename_i x hx
        exact ⟨_, _, _, rfl, fun mc ms P k n kk => V.castA hd hl0 hx hz (fun U cA h => h) kk⟩
      · cases hb
    · cases hr
  · cases hr)
theorem q_castB {q a : Nat} (hs : (pg y).2 pc = m_castB q) : gO pg Ω d y pc lv (.ref a :: st) h = if Ω.sz ≤ a ∧ isB h a = true then gO pg Ω d y q lv (.ref a :: st) h else none := by
  rw [gO_of hs]; unfold m_castB; dsimp only; split <;> rfl
end HSEM
