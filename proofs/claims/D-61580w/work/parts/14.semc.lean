/-! CALLS, THROWS, NATIVES -/
section CSEM
variable {nam : Nat → MethodName} {μ : Me} {pc : Nat} {pg : Pg} {Ω : Om} {d y : Nat} {lv st : List Value} {h : AH}
/-- behind a call: void, or a value; what is thrown goes on -/
def bV (r : Option Rs) (f : AH → Option Rs) : Option Rs := match r with
  | some (.returned none, h') => f h'
  | some (.threw a, h') => some (.threw a, h')
  | _ => none
def bA (r : Option Rs) (f : Value → AH → Option Rs) : Option Rs := match r with
  | some (.returned (some v), h') => f v h'
  | some (.threw a, h') => some (.threw a, h')
  | _ => none
def clR (isV : Bool) (lv rest : List Value) (q : Nat) (r : Option Rs) : Option (Cf ⊕ Rs) := match r with
  | some (.returned none, h') => if isV then some (.inl (q, lv, rest, h')) else none
  | some (.returned (some v), h') => if isV then none else some (.inl (q, lv, v :: rest, h'))
  | some (.threw a, h') => some (.inr (.threw a, h'))
  | none => none
theorem fin_clRV {lv rest : List Value} {q : Nat} {r : Option Rs} {k : Cf → Option Rs} : fin (clR true lv rest q r) k = bV r (fun h' => k (q, lv, rest, h')) := by
  rcases r with _ | ⟨⟨_ | v⟩ | a, h'⟩ <;> rfl
theorem fin_clRA {lv rest : List Value} {q : Nat} {r : Option Rs} {k : Cf → Option Rs} : fin (clR false lv rest q r) k = bA r (fun v h' => k (q, lv, v :: rest, h')) := by
  rcases r with _ | ⟨⟨_ | v⟩ | a, h'⟩ <;> rfl
/-- a row of a call, whatever the callee's contract -/
def CallRow (Ω : Om) (μ : Me) (pc : Nat) (ym : MethodName) (As : List Value) (h : AH) (stk rest : List Value) (d : Nat) : Prop := ∀ (mc ms : Nat) (P : Outcome → AH → Prop) (k n : Nat) (lv0 : List (Nat × Value)) (mc' ms' : Nat) (P' : Outcome → AH → Prop), Ct Ω ym d mc' ms' As h P' → k + mc' ≤ mc → n + ms' ≤ ms →
  (∀ (v : Option Value) (h' : AH), P' (.returned v) h' → V Ω μ.1.cls μ.1.name μ.2.1 μ.2.2.1 μ.2.2.2.1 μ.2.2.2.2 d mc ms P h' (k + mc') (n + ms') (pc + 3) lv0 (v.toList ++ rest)) →
  (∀ (a : Nat) (h' : AH), P' (.threw a) h' → VT Ω μ.1.cls μ.1.name μ.2.1 μ.2.2.1 μ.2.2.2.1 μ.2.2.2.2 d mc ms P h' (k + mc') (n + ms') pc lv0 a) → V Ω μ.1.cls μ.1.name μ.2.1 μ.2.2.1 μ.2.2.2.1 μ.2.2.2.2 d mc ms P h k n pc lv0 stk
theorem snd_call {isV : Bool} {sem : Sm} (hcv : hcov μ.2.2.2.2 pc = false) (H : ∀ (Ω : Om) (d : Nat) (orc : Orc) (lv st : List Value) (h : AH) (r : Cf ⊕ Rs), sem Ω d orc lv st h = some r → ∃ (yy : Nat) (As rest : List Value), clR isV lv rest (pc + 3) (orc yy As h) = some r ∧ CallRow Ω μ pc (nam yy) As h st rest d) : Snd nam μ pc sem := by
  intro Ω d orc hor lv st h
  refine ⟨fun pc' lv' st' h' hr => ?_, fun o h' hr => ?_⟩
  · obtain ⟨yy, As, rest, hcl, hrow⟩ := H Ω d orc lv st h _ hr
    rcases ho : orc yy As h with _ | ⟨⟨_ | v⟩ | a, h2⟩
    · rw [ho] at hcl; cases hcl
    · rw [ho] at hcl
      cases isV with
      | false => cases hcl
      | true =>
        cases hcl
        obtain ⟨m1, m2, hC⟩ := hor yy As h _ _ ho
        refine ⟨m1, m2, fun mc ms P k n hk hn kk => hrow mc ms P k n _ _ _ _ hC hk hn (fun v h3 e => ?_) (fun a h3 e => ?_)⟩
        · obtain ⟨e1, e2⟩ := e
          cases e1; subst e2
          exact kk
        · cases e.1
    · rw [ho] at hcl
      cases isV with
      | true => cases hcl
      | false =>
        cases hcl
        obtain ⟨m1, m2, hC⟩ := hor yy As h _ _ ho
        refine ⟨m1, m2, fun mc ms P k n hk hn kk => hrow mc ms P k n _ _ _ _ hC hk hn (fun v h3 e => ?_) (fun a h3 e => ?_)⟩
        · obtain ⟨e1, e2⟩ := e
          cases e1; subst e2
          exact kk
        · cases e.1
    · rw [ho] at hcl
      cases isV <;> cases hcl
  · obtain ⟨yy, As, rest, hcl, hrow⟩ := H Ω d orc lv st h _ hr
    rcases ho : orc yy As h with _ | ⟨⟨_ | v⟩ | a, h2⟩
    · rw [ho] at hcl; cases hcl
    · rw [ho] at hcl
      cases isV <;> cases hcl
    · rw [ho] at hcl
      cases isV <;> cases hcl
    · rw [ho] at hcl
      have hcl : (some (.inr (.threw a, h2)) : Option (Cf ⊕ Rs)) = some (.inr (o, h')) := by cases isV <;> exact hcl
      cases hcl
      obtain ⟨m1, m2, hC⟩ := hor yy As h _ _ ho
      refine ⟨m1, m2, fun mc ms P k n hk hn hP => hrow mc ms P k n _ _ _ _ hC hk hn (fun v h3 e => ?_) (fun a h3 e => ?_)⟩
      · cases e.1
      · obtain ⟨e1, e2⟩ := e
        cases e1; subst e2
        exact VT.leave hcv hk hn hP
theorem cat_sum : ∀ {l : List Value}, l.length ≤ 4 → (l.map fun v => v.category).sum ≤ 8 := by
  intro l hl
  have hc : ∀ v : Value, v.category ≤ 2 := fun v => by cases v <;> simp [Value.category]
  have : ∀ l : List Value, (l.map fun v => v.category).sum ≤ 2 * l.length := by
    intro l
    induction l with
    | nil => simp
    | cons a t ih => simp only [List.map_cons, List.sum_cons, List.length_cons]; have := hc a; omega
  have := this l
  omega
/- static -/
def m_callS (isV : Bool) (yy np q : Nat) : Sm := fun _ _ orc lv st h => if np ≤ st.length ∧ st.length ≤ np + 4 then clR isV lv (st.drop np) q (orc yy (st.take np).reverse h) else none
theorem snd_callS {isV : Bool} {idx yy np : Nat} (hd : decode μ.2.1 pc = .ok (.invokestatic idx, 3)) (hl0 : Cond.methodLink μ.1.cls idx (nam yy) ∈ lw_tbl ∨ ∃ host, Cond.methodLinkNest μ.1.cls idx (nam yy) host ∈ lw_tbl) (hs0 : Cond.static (nam yy) ∈ lw_tbl) (hm : ((nam yy).cls ≠ "java/lang/invoke/MethodHandle" ∧ (nam yy).cls ≠ "java/lang/invoke/VarHandle") ∧ (parseMethodDescriptor (nam yy).desc).map (fun d => d.parameters.length) = some np) (hcv : hcov μ.2.2.2.2 pc = false) : Snd nam μ pc (m_callS isV yy np (pc + 3)) := snd_call (isV := isV) hcv (by
  intro Ω d orc lv st h r hr
  unfold m_callS at hr
  split at hr
  · rename_i hc
    refine ⟨yy, _, _, hr, ?_⟩
    intro mc ms P k n lv0 mc' ms' P' hC hk hn kR kT
    have he : st = ((st.take np).reverse).reverse ++ st.drop np := by rw [List.reverse_reverse, List.take_append_drop]
    have hlen : (st.take np).reverse.length = np := by rw [List.length_reverse, List.length_take]; omega
    have hst := cat_sum (l := st.drop np) (by rw [List.length_drop]; omega)
    rcases hl0 with hl0 | ⟨host, hl0⟩
    · exact V.callS hd hl0 hs0 hm hC hlen he hst (Nat.le_refl _) hk hn kR kT
    · exact V.callSN hd hl0 hs0 hm hC hlen he hst (Nat.le_refl _) hk hn kR kT
  · cases hr)
theorem q_callSV {yy np q : Nat} {As rest : List Value} (hs : (pg y).2 pc = m_callS true yy np q) (hst : st = As.reverse ++ rest) (hnp : As.length = np) : gO pg Ω d y pc lv st h = if rest.length ≤ 4 then bV (gM pg Ω d yy As h) (fun h' => gO pg Ω d y q lv rest h') else none := by
  rw [gO_of hs]; unfold m_callS
  subst hst
  have e1 : (As.reverse ++ rest).drop np = rest := by rw [← hnp, ← List.length_reverse]; simp
  have e2 : ((As.reverse ++ rest).take np).reverse = As := by rw [← hnp, ← List.length_reverse]; simp
  rw [e1, e2]
  by_cases hc : rest.length ≤ 4
  · rw [if_pos hc, if_pos (by simp; omega), fin_clRV]
  · rw [if_neg hc, if_neg (by simp; omega)]; rfl
theorem q_callSA {yy np q : Nat} {As rest : List Value} (hs : (pg y).2 pc = m_callS false yy np q) (hst : st = As.reverse ++ rest) (hnp : As.length = np) : gO pg Ω d y pc lv st h = if rest.length ≤ 4 then bA (gM pg Ω d yy As h) (fun v h' => gO pg Ω d y q lv (v :: rest) h') else none := by
  rw [gO_of hs]; unfold m_callS
  subst hst
  have e1 : (As.reverse ++ rest).drop np = rest := by rw [← hnp, ← List.length_reverse]; simp
  have e2 : ((As.reverse ++ rest).take np).reverse = As := by rw [← hnp, ← List.length_reverse]; simp
  rw [e1, e2]
  by_cases hc : rest.length ≤ 4
  · rw [if_pos hc, if_pos (by simp; omega), fin_clRA]
  · rw [if_neg hc, if_neg (by simp; omega)]; rfl
/- constructors -/
def m_callI (yy np q : Nat) : Sm := fun _ _ orc lv st h => if np + 1 ≤ st.length ∧ st.length ≤ np + 5 then (match st.drop np with
    | .ref b :: rest => clR true lv rest q (orc yy (.ref b :: (st.take np).reverse) h)
    | _ => none) else none
theorem snd_callI {idx yy np maxL : Nat} {bytes : ByteArray} (hd : decode μ.2.1 pc = .ok (.invokespecial idx, 3)) (hl0 : Cond.methodLink μ.1.cls idx (nam yy) ∈ lw_tbl ∨ ∃ host, Cond.methodLinkNest μ.1.cls idx (nam yy) host ∈ lw_tbl) (hm : Mi (nam yy) np) (hy1 : (nam yy).name = "<init>") (hcode : Cond.code (nam yy) bytes maxL none ∈ lw_tbl) (hcv : hcov μ.2.2.2.2 pc = false) : Snd nam μ pc (m_callI yy np (pc + 3)) := snd_call (isV := true) hcv (by
  intro Ω d orc lv st h r hr
  unfold m_callI at hr
  split at hr
  · rename_i hc
    split at hr
    · rename_i b rest hdr
      refine ⟨yy, _, _, hr, ?_⟩
      intro mc ms P k n lv0 mc' ms' P' hC hk hn kR kT
      have he : st = ((st.take np).reverse).reverse ++ .ref b :: rest := by rw [List.reverse_reverse, ← hdr, List.take_append_drop]
      have hlen : (st.take np).reverse.length = np := by rw [List.length_reverse, List.length_take]; omega
      have hst := cat_sum (l := rest) (by have := congrArg List.length hdr; rw [List.length_drop, List.length_cons] at this; omega)
      rcases hl0 with hl0 | ⟨host, hl0⟩
      · exact V.callI hd hl0 hm hy1 hcode hC hlen he hst (Nat.le_refl _) hk hn kR kT
      · exact V.callIN hd hl0 hm hy1 hcode hC hlen he hst (Nat.le_refl _) hk hn kR kT
    · cases hr
  · cases hr)
theorem q_callI {yy np q b : Nat} {As rest : List Value} (hs : (pg y).2 pc = m_callI yy np q) (hst : st = As.reverse ++ .ref b :: rest) (hnp : As.length = np) : gO pg Ω d y pc lv st h = if rest.length ≤ 4 then bV (gM pg Ω d yy (.ref b :: As) h) (fun h' => gO pg Ω d y q lv rest h') else none := by
  rw [gO_of hs]; unfold m_callI
  subst hst
  have e1 : (As.reverse ++ .ref b :: rest).drop np = .ref b :: rest := by rw [← hnp, ← List.length_reverse]; simp
  have e2 : ((As.reverse ++ .ref b :: rest).take np).reverse = As := by rw [← hnp, ← List.length_reverse]; simp
  rw [e1, e2]
  by_cases hc : rest.length ≤ 4
  · rw [if_pos hc, if_pos (by simp; omega)]; exact fin_clRV
  · rw [if_neg hc, if_neg (by simp; omega)]; rfl
/- through an object: by its class -/
def m_callV (isV : Bool) (tbl : List (Nat × Nat)) (np q : Nat) : Sm := fun _ _ orc lv st h => if np + 1 ≤ st.length ∧ st.length ≤ np + 5 then (match st.drop np with
    | .ref b :: rest => (clN h b).bind (fun ci => (tbl.lookup ci).bind (fun yy => clR isV lv rest q (orc yy (.ref b :: (st.take np).reverse) h)))
    | _ => none) else none
def DRow (μ : Me) (pc np ci : Nat) (ym : MethodName) : Prop := ∀ (Ω : Om) (d : Nat) (h : AH) (b : Nat) (fs As rest : List Value), lk Ω h b (.inr (ci, fs)) → As.length = np → (rest.map fun v => v.category).sum ≤ 8 → CallRow Ω μ pc ym (.ref b :: As) h (As.reverse ++ .ref b :: rest) rest d
theorem dr_V {np idx ci : Nat} {ym : MethodName} {r : vw_C} (hd : decode μ.2.1 pc = .ok (.invokevirtual idx, 3)) (hl0 : Cond.methodLink μ.1.cls idx ym ∈ lw_tbl ∨ ∃ host, Cond.methodLinkNest μ.1.cls idx ym host ∈ lw_tbl) (hm : Mi ym np) (hc : vwCl[ci]? = some r) (hsel0 : Cond.selects r.1 ym ym ∈ lw_tbl) : DRow μ pc np ci ym := by
  intro Ω d h b fs As rest hb hnp hst mc ms P k n lv0 mc' ms' P' hC hk hn kR kT
  rcases hl0 with hl0 | ⟨host, hl0⟩
  · exact V.callV hd hl0 hm hsel0 hc hb hC hnp rfl hst (Nat.le_refl _) hk hn kR kT
  · exact V.callVN hd hl0 hm hsel0 hc hb hC hnp rfl hst (Nat.le_refl _) hk hn kR kT
theorem dr_U {np idx ci : Nat} {x ym : MethodName} {owner : String} {r : vw_C} (hd : decode μ.2.1 pc = .ok (.invokevirtual idx, 3)) (hl0 : Cond.methodLink μ.1.cls idx x ∈ lw_tbl) (hsame0 : Cond.sameMethod x.cls owner x.name x.desc ∈ lw_tbl) (hdecl : Cond.declares ⟨owner, x.name, x.desc⟩ ∈ lw_tbl ∨ ym = ⟨owner, x.name, x.desc⟩) (hown0 : owner ≠ "java/lang/invoke/MethodHandle" ∧ owner ≠ "java/lang/invoke/VarHandle") (hpar : (parseMethodDescriptor x.desc).map (fun d => d.parameters.length) = some np) (hin : Cond.instanceMethod ym ∈ lw_tbl) (hc : vwCl[ci]? = some r) (hsel0 : Cond.selects r.1 x ym ∈ lw_tbl) : DRow μ pc np ci ym := by
  intro Ω d h b fs As rest hb hnp hst mc ms P k n lv0 mc' ms' P' hC hk hn kR kT
  exact V.callU hd hl0 hsame0 hdecl hown0 hpar hin hsel0 hc hb hC hnp rfl hst (Nat.le_refl _) hk hn kR kT
theorem dr_P {np idx ci : Nat} {ym : MethodName} {r : vw_C} (hd : decode μ.2.1 pc = .ok (.invokevirtual idx, 3)) (hl0 : Cond.methodLink μ.1.cls idx ym ∈ lw_tbl) (hm : Mi ym np) (hpr : Cond.privateMethod ym ∈ lw_tbl) (hsame0 : Cond.sameMethod ym.cls ym.cls ym.name ym.desc ∈ lw_tbl) (hc : vwCl[ci]? = some r) : DRow μ pc np ci ym := by
  intro Ω d h b fs As rest hb hnp hst mc ms P k n lv0 mc' ms' P' hC hk hn kR kT
  exact V.callP hd hl0 hm hpr hsame0 hc hb hC hnp rfl hst (Nat.le_refl _) hk hn kR kT
theorem dr_Sp {np idx ci : Nat} {ym : MethodName} {r : vw_C} (hd : decode μ.2.1 pc = .ok (.invokespecial idx, 3)) (hl0 : Cond.methodLink μ.1.cls idx ym ∈ lw_tbl) (hm : Mi ym np) (hsame : Cond.sameMethod ym.cls ym.cls ym.name ym.desc ∈ lw_tbl) (hsup : Cond.superclass μ.1.cls ym.cls ∈ lw_tbl) (hno : ym.name ≠ "<init>") (hc : vwCl[ci]? = some r) : DRow μ pc np ci ym := by
  intro Ω d h b fs As rest hb hnp hst mc ms P k n lv0 mc' ms' P' hC hk hn kR kT
  exact V.callSp hd hl0 hm hsame hsup hno hc hb hC hnp rfl hst (Nat.le_refl _) hk hn kR kT
theorem snd_callV {isV : Bool} {tbl : List (Nat × Nat)} {np : Nat} (H : ∀ q ∈ tbl, DRow μ pc np q.1 (nam q.2)) (hcv : hcov μ.2.2.2.2 pc = false) : Snd nam μ pc (m_callV isV tbl np (pc + 3)) := snd_call (isV := isV) hcv (by
  intro Ω d orc lv st h r hr
  unfold m_callV at hr
  split at hr
  · rename_i hc
    split at hr
    · rename_i b rest hdr
      obtain ⟨ci, h1, h2⟩ := Option.bind_eq_some_iff.mp hr
      obtain ⟨yy, h3, h4⟩ := Option.bind_eq_some_iff.mp h2
      obtain ⟨fs, h5⟩ := clN_some h1
      refine ⟨yy, _, _, h4, ?_⟩
      have he : st = ((st.take np).reverse).reverse ++ .ref b :: rest := by rw [List.reverse_reverse, ← hdr, List.take_append_drop]
      have hlen : (st.take np).reverse.length = np := by rw [List.length_reverse, List.length_take]; omega
      have hst := cat_sum (l := rest) (by have := congrArg List.length hdr; rw [List.length_drop, List.length_cons] at this; omega)
      have key := H _ (lookup_mem h3) Ω d h b fs _ rest h5 hlen hst
      rw [← he] at key
      exact key
    · cases hr
  · cases hr)
theorem q_callVV {tbl : List (Nat × Nat)} {np q b : Nat} {As rest : List Value} (hs : (pg y).2 pc = m_callV true tbl np q) (hst : st = As.reverse ++ .ref b :: rest) (hnp : As.length = np) : gO pg Ω d y pc lv st h = if rest.length ≤ 4 then (clN h b).bind (fun ci => (tbl.lookup ci).bind (fun yy => bV (gM pg Ω d yy (.ref b :: As) h) (fun h' => gO pg Ω d y q lv rest h'))) else none := by
  rw [gO_of hs]; unfold m_callV
  subst hst
  have e1 : (As.reverse ++ .ref b :: rest).drop np = .ref b :: rest := by rw [← hnp, ← List.length_reverse]; simp
  have e2 : ((As.reverse ++ .ref b :: rest).take np).reverse = As := by rw [← hnp, ← List.length_reverse]; simp
  rw [e1, e2]
  by_cases hc : rest.length ≤ 4
  · rw [if_pos hc, if_pos (by simp; omega)]
    dsimp only
    rw [fin_bind]
    congr 1; funext ci
    rw [fin_bind]
    congr 1; funext yy
    exact fin_clRV
  · rw [if_neg hc, if_neg (by simp; omega)]; rfl
theorem q_callVA {tbl : List (Nat × Nat)} {np q b : Nat} {As rest : List Value} (hs : (pg y).2 pc = m_callV false tbl np q) (hst : st = As.reverse ++ .ref b :: rest) (hnp : As.length = np) : gO pg Ω d y pc lv st h = if rest.length ≤ 4 then (clN h b).bind (fun ci => (tbl.lookup ci).bind (fun yy => bA (gM pg Ω d yy (.ref b :: As) h) (fun v h' => gO pg Ω d y q lv (v :: rest) h'))) else none := by
  rw [gO_of hs]; unfold m_callV
  subst hst
  have e1 : (As.reverse ++ .ref b :: rest).drop np = .ref b :: rest := by rw [← hnp, ← List.length_reverse]; simp
  have e2 : ((As.reverse ++ .ref b :: rest).take np).reverse = As := by rw [← hnp, ← List.length_reverse]; simp
  rw [e1, e2]
  by_cases hc : rest.length ≤ 4
  · rw [if_pos hc, if_pos (by simp; omega)]
    dsimp only
    rw [fin_bind]
    congr 1; funext ci
    rw [fin_bind]
    congr 1; funext yy
    exact fin_clRA
  · rw [if_neg hc, if_neg (by simp; omega)]; rfl
/- a call inside a try: hs says which handler takes which class -/
def bX (r : Option Rs) (f : Value → AH → Option Rs) (g : Nat → AH → Option Rs) : Option Rs := match r with
  | some (.returned (some v), h') => f v h'
  | some (.threw a, h') => g a h'
  | _ => none
def m_callX (tbl : List (Nat × Nat)) (np q : Nat) (hs : List (Nat × Nat)) : Sm := fun _ _ orc lv st h => if np + 1 ≤ st.length ∧ st.length ≤ np + 5 then (match st.drop np with
    | .ref b :: rest => (clN h b).bind (fun ci => (tbl.lookup ci).bind (fun yy => match orc yy (.ref b :: (st.take np).reverse) h with
      | some (.returned (some v), h') => some (.inl (q, lv, v :: rest, h'))
      | some (.threw a, h') => (clN h' a).bind (fun ca => (hs.lookup ca).bind (fun hp => some (.inl (hp, lv, [.ref a], h'))))
      | _ => none))
    | _ => none) else none
theorem snd_callX {tbl hs : List (Nat × Nat)} {np : Nat} (H : ∀ q ∈ tbl, DRow μ pc np q.1 (nam q.2)) (hX : ∀ q ∈ hs, ∃ r : vw_C, vwCl[q.1]? = some r ∧ CatchOk μ.1.cls r.1 pc q.2 μ.2.2.2.2) : Snd nam μ pc (m_callX tbl np (pc + 3) hs) := by
  intro Ω d orc hor lv st h
  have key : ∀ r, m_callX tbl np (pc + 3) hs Ω d orc lv st h = some r → ∃ (yy : Nat) (As rest : List Value), CallRow Ω μ pc (nam yy) As h st rest d ∧ ((∃ v h', orc yy As h = some (.returned (some v), h') ∧ r = .inl (pc + 3, lv, v :: rest, h')) ∨ (∃ a h' ca fs hp, orc yy As h = some (.threw a, h') ∧ h'.1 a = some (.inr (ca, fs)) ∧ (ca, hp) ∈ hs ∧ r = .inl (hp, lv, [.ref a], h'))) := by
    intro r hr
    unfold m_callX at hr
    split at hr
    · rename_i hc
      split at hr
      · rename_i b rest hdr
        obtain ⟨ci, h1, h2⟩ := Option.bind_eq_some_iff.mp hr
        obtain ⟨yy, h3, h4⟩ := Option.bind_eq_some_iff.mp h2
        obtain ⟨fs, h5⟩ := clN_some h1
        have he : st = ((st.take np).reverse).reverse ++ .ref b :: rest := by rw [List.reverse_reverse, ← hdr, List.take_append_drop]
        have hlen : (st.take np).reverse.length = np := by rw [List.length_reverse, List.length_take]; omega
        have hst := cat_sum (l := rest) (by have := congrArg List.length hdr; rw [List.length_drop, List.length_cons] at this; omega)
        have key := H _ (lookup_mem h3) Ω d h b fs _ rest h5 hlen hst
        rw [← he] at key
        refine ⟨yy, _, rest, key, ?_⟩
        split at h4
        · rename_i v h' ho
          cases h4
          exact Or.inl ⟨v, h', ho, rfl⟩
        · rename_i a h' ho
          obtain ⟨ca, g1, g2⟩ := Option.bind_eq_some_iff.mp h4
          obtain ⟨hp, g3, g4⟩ := Option.bind_eq_some_iff.mp g2
          obtain ⟨fa, g5⟩ := clN_some g1
          cases g4
          exact Or.inr ⟨a, h', ca, fa, hp, ho, g5, lookup_mem g3, rfl⟩
        · cases h4
      · cases hr
    · cases hr
  refine ⟨fun pc' lv' st' h' hr => ?_, fun o h' hr => ?_⟩
  · obtain ⟨yy, As, rest, hrow, ⟨v, h2, ho, e⟩ | ⟨a, h2, ca, fa, hp, ho, hh1, hh2, e⟩⟩ := key _ hr
    · cases e
      obtain ⟨m1, m2, hC⟩ := hor yy As h _ _ ho
      refine ⟨m1, m2, fun mc ms P k n hk hn kk => hrow mc ms P k n _ _ _ _ hC hk hn (fun v h3 e => ?_) (fun a h3 e => ?_)⟩
      · obtain ⟨e1, e2⟩ := e
        cases e1; subst e2
        exact kk
      · cases e.1
    · cases e
      obtain ⟨m1, m2, hC⟩ := hor yy As h _ _ ho
      obtain ⟨rr, hr1, hr2⟩ := hX _ hh2
      refine ⟨m1, m2, fun mc ms P k n hk hn kk => hrow mc ms P k n _ _ _ _ hC hk hn (fun v h3 e => ?_) (fun a h3 e => ?_)⟩
      · cases e.1
      · obtain ⟨e1, e2⟩ := e
        cases e1; subst e2
        exact VT.catch (X := rr.1) hr1 hh1 hr2 kk
  · obtain ⟨yy, As, rest, hrow, ⟨v, h2, ho, e⟩ | ⟨a, h2, ca, fa, hp, ho, hh1, hh2, e⟩⟩ := key _ hr <;> cases e
theorem q_callX {tbl hs0 : List (Nat × Nat)} {np q b : Nat} {As rest : List Value} (hs : (pg y).2 pc = m_callX tbl np q hs0) (hst : st = As.reverse ++ .ref b :: rest) (hnp : As.length = np) : gO pg Ω d y pc lv st h = if rest.length ≤ 4 then (clN h b).bind (fun ci => (tbl.lookup ci).bind (fun yy => bX (gM pg Ω d yy (.ref b :: As) h) (fun v h' => gO pg Ω d y q lv (v :: rest) h') (fun a h' => (clN h' a).bind (fun ca => (hs0.lookup ca).bind (fun hp => gO pg Ω d y hp lv [.ref a] h'))))) else none := by
  rw [gO_of hs]; unfold m_callX
  subst hst
  have e1 : (As.reverse ++ .ref b :: rest).drop np = .ref b :: rest := by rw [← hnp, ← List.length_reverse]; simp
  have e2 : ((As.reverse ++ .ref b :: rest).take np).reverse = As := by rw [← hnp, ← List.length_reverse]; simp
  rw [e1, e2]
  by_cases hc : rest.length ≤ 4
  · rw [if_pos hc, if_pos (by simp; omega)]
    dsimp only
    rw [fin_bind]
    congr 1; funext ci
    rw [fin_bind]
    congr 1; funext yy
    rcases gM pg Ω d yy (.ref b :: As) h with _ | ⟨⟨_ | v⟩ | a, h'⟩
    · rfl
    · rfl
    · rfl
    · unfold bX
      dsimp only
      rw [fin_bind]
      congr 1; funext ca
      rw [fin_bind]
      rfl
  · rw [if_neg hc, if_neg (by simp; omega)]; rfl
/- throw new X() -/
def m_thr (ci : Nat) : Sm := fun _ d _ _ st h => if 8 ≤ d ∧ st.length ≤ 4 then some (.inr (.threw h.2.1, hnew h (.inr (ci, [])) 6)) else none
theorem snd_thr {X : String} {names : List String} {idx ic ci : Nat} {T0 : u_T} (hE : ExcOk X names) (hc : vwCl[ci]? = some (X, T0, 0)) (hd0 : decode μ.2.1 pc = .ok (.new idx, 3)) (hd3 : decode μ.2.1 (pc + 3) = .ok (.dup, 1)) (hd4 : decode μ.2.1 (pc + 4) = .ok (.invokespecial ic, 3)) (hd7 : decode μ.2.1 (pc + 7) = .ok (.athrow, 1))
    (hcl : Cond.classLink μ.1.cls idx X ∈ lw_tbl) (hml : Cond.methodLink μ.1.cls ic (Bundle.init0 X) ∈ lw_tbl) (hini : Cond.initialized X ∈ lw_tbl) (hcv : hcov μ.2.2.2.2 (pc + 7) = false) : Snd nam μ pc (m_thr ci) := by
  intro Ω d orc _ lv st h
  refine ⟨fun pc' lv' st' h' hr => ?_, fun o h' hr => ?_⟩
  · unfold m_thr at hr
    split at hr <;> cases hr
  · unfold m_thr at hr
    split at hr
    · rename_i hcd
      cases hr
      have z1 : (hnew h (.inr (ci, [])) 6).2.1 - h.2.1 = 1 := by show h.2.1 + 1 - h.2.1 = 1; omega
      have z2 : (hnew h (.inr (ci, [])) 6).2.2 - h.2.2 = 6 := by show h.2.2 + 6 - h.2.2 = 6; omega
      rw [z1, z2]
      refine ⟨Nat.le_succ _, Nat.le_add_right _ _, fun mc ms P k n hk hn hP => ?_⟩
      exact V.throw0 hE hc hd0 hd3 hd4 hd7 hcl hml hini hcv (cat_sum hcd.2) hcd.1 hk hn hP
    · cases hr
theorem q_thr {ci : Nat} (hs : (pg y).2 pc = m_thr ci) : gO pg Ω (d + 8) y pc lv st h = if st.length ≤ 4 then some (.threw h.2.1, hnew h (.inr (ci, [])) 6) else none := by
  rw [gO_of hs]; unfold m_thr
  by_cases hc : st.length ≤ 4
  · rw [if_pos hc, if_pos ⟨by omega, hc⟩]; rfl
  · rw [if_neg hc, if_neg (fun q => hc q.2)]; rfl
/- Object's own constructor -/
def m_oi (q : Nat) : Sm := fun _ d _ lv st h => match st with
  | .ref _ :: t => if 1 ≤ d ∧ t.length ≤ 4 then some (.inl (q, lv, t, h)) else none
  | _ => none
theorem snd_oi {idx : Nat} (hd : decode μ.2.1 pc = .ok (.invokespecial idx, 3)) (hl0 : Cond.methodLink μ.1.cls idx Lib.objectInit ∈ lw_tbl) (hi0 : Cond.instanceMethod Lib.objectInit ∈ lw_tbl) (hc0 : Cond.code Lib.objectInit ⟨#[0xb1]⟩ 1 none ∈ lw_tbl) : Snd nam μ pc (m_oi (pc + 3)) := snd_pure (by
  intro Ω d orc lv st h r hr
  unfold m_oi at hr
  split at hr
  · split at hr
    · rename_i hc
      cases hr
      exact ⟨_, _, _, rfl, fun mc ms P k n kk => V.objInit hd hl0 hi0 hc0 (cat_sum hc.2) hc.1 kk⟩
    · cases hr
  · cases hr)
theorem q_oi {q a : Nat} (hs : (pg y).2 pc = m_oi q) : gO pg Ω (d + 1) y pc lv (.ref a :: st) h = if st.length ≤ 4 then gO pg Ω (d + 1) y q lv st h else none := by
  rw [gO_of hs]; unfold m_oi; dsimp only
  by_cases hc : st.length ≤ 4
  · rw [if_pos hc, if_pos ⟨by omega, hc⟩]; rfl
  · rw [if_neg hc, if_neg (fun q => hc q.2)]; rfl
/- byte arrays: clone, arraycopy -/
def fitB (N : Nat) (f : Nat → Int32) : Bool := (List.range N).all (fun j => fits .byte (.int (f j)))
theorem fitB_at {N : Nat} {f : Nat → Int32} (h : fitB N f = true) {j : Nat} (hj : j < N) : fits .byte (.int (f j)) = true := List.all_eq_true.mp h j (List.mem_range.mpr hj)
def gB (h : AH) (a : Nat) : Option (Nat × (Nat → Int32)) := match h.1 a with
  | some (.inl (.byte, (N, .inl f))) => some (N, f)
  | _ => none
theorem gB_some {h : AH} {a N : Nat} {f : Nat → Int32} (hv : gB h a = some (N, f)) : h.1 a = some (arI .byte N f) := by
  unfold gB at hv
  split at hv
  · rename_i hx
    cases hv
    exact hx
  · cases hv
def m_clone (q : Nat) : Sm := fun Ω d _ lv st h => match st with
  | .ref a :: t => (gB h a).bind (fun x => if 1 ≤ d ∧ t.length ≤ 4 ∧ fitB x.1 x.2 = true ∧ Ω.sz ≤ a then some (.inl (q, lv, .ref h.2.1 :: t, hnew h (arI .byte x.1 x.2) x.1)) else none)
  | _ => none
theorem snd_clone {idx : Nat} (hd : decode μ.2.1 pc = .ok (.invokevirtual idx, 3)) (hl0 : Cond.methodLink μ.1.cls idx ⟨"[B", "clone", "()Ljava/lang/Object;"⟩ ∈ lw_tbl) (hsm : Cond.sameMethod "[B" "java/lang/Object" "clone" "()Ljava/lang/Object;" ∈ lw_tbl) (hnat : Cond.native ⟨"java/lang/Object", "clone", "()Ljava/lang/Object;"⟩ ∈ lw_tbl) (hin : Cond.instanceMethod ⟨"java/lang/Object", "clone", "()Ljava/lang/Object;"⟩ ∈ lw_tbl) (hsel : Cond.selects "[B" ⟨"[B", "clone", "()Ljava/lang/Object;"⟩ ⟨"java/lang/Object", "clone", "()Ljava/lang/Object;"⟩ ∈ lw_tbl) (hcl : Cond.castable "[B" "java/lang/Cloneable" ∈ lw_tbl) : Snd nam μ pc (m_clone (pc + 3)) := snd_mk (by
  intro Ω d orc lv st h r hr
  unfold m_clone at hr
  split at hr
  · obtain ⟨x, h1, h2⟩ := Option.bind_eq_some_iff.mp hr
    obtain ⟨N, f⟩ := x
    split at h2
    · rename_i hc
      cases h2
      exact ⟨_, _, _, _, _, rfl, fun mc ms P k n hk hn kk => V.cloneB hd hl0 hsm hnat hin hsel hcl (gB_some h1) hc.2.2.2 (fun j hj => fitB_at hc.2.2.1 hj) (cat_sum hc.2.1) hc.1 hk hn kk⟩
    · cases h2
  · cases hr)
theorem q_clone {q a : Nat} (hs : (pg y).2 pc = m_clone q) : gO pg Ω (d + 1) y pc lv (.ref a :: st) h = (gB h a).bind (fun x => if st.length ≤ 4 ∧ fitB x.1 x.2 = true ∧ Ω.sz ≤ a then gO pg Ω (d + 1) y q lv (.ref h.2.1 :: st) (hnew h (arI .byte x.1 x.2) x.1) else none) := by
  rw [gO_of hs]; unfold m_clone; dsimp only; rw [fin_bind]
  congr 1; funext x
  by_cases hc : st.length ≤ 4 ∧ fitB x.1 x.2 = true ∧ Ω.sz ≤ a
  · rw [if_pos hc, if_pos ⟨by omega, hc⟩]; rfl
  · rw [if_neg hc, if_neg (fun q => hc q.2)]; rfl
/-- System.arraycopy between byte arrays -/
def acp (z : Nat) (h : AH) (a0 : Nat) (x0 : Int32) (a : Nat) (x1 x2 : Int32) : Option AH := (gB h a0).bind (fun s => (gB h a).bind (fun t => (ckI x0 (s.1 + 1)).bind (fun sp => (ckI x1 (t.1 + 1)).bind (fun dp => (ckI x2 (s.1 + 1)).bind (fun cn =>
  if z ≤ a ∧ sp + cn ≤ s.1 ∧ dp + cn ≤ t.1 ∧ s.1 < 100000 ∧ t.1 < 100000 ∧ fitB cn (fun j => s.2 (sp + j)) = true then some (hput h a (arI .byte t.1 (va_cpy s.2 t.2 sp dp cn))) else none)))))
def m_acopy (q : Nat) : Sm := fun Ω d _ lv st h => match st with
  | .int x2 :: .int x1 :: .ref a :: .int x0 :: .ref a0 :: t => if 1 ≤ d ∧ t.length ≤ 4 then (acp Ω.sz h a0 x0 a x1 x2).bind (fun h' => some (.inl (q, lv, t, h'))) else none
  | _ => none
theorem snd_acopy {idx : Nat} (hd : decode μ.2.1 pc = .ok (.invokestatic idx, 3)) (hl0 : Cond.methodLink μ.1.cls idx arraycopyName ∈ lw_tbl) (hnat : Cond.native arraycopyName ∈ lw_tbl) (hstat : Cond.static arraycopyName ∈ lw_tbl) (hini : Cond.initialized "java/lang/System" ∈ lw_tbl) : Snd nam μ pc (m_acopy (pc + 3)) := snd_wr (by
  intro Ω d orc lv st h r hr
  unfold m_acopy at hr
  split at hr
  · split at hr
    · rename_i hcd
      obtain ⟨h', h1, h2⟩ := Option.bind_eq_some_iff.mp hr
      cases h2
      unfold acp at h1
      obtain ⟨⟨n0, f⟩, g0, h1⟩ := Option.bind_eq_some_iff.mp h1
      obtain ⟨⟨n1, g⟩, g1, h1⟩ := Option.bind_eq_some_iff.mp h1
      obtain ⟨sp, g2, h1⟩ := Option.bind_eq_some_iff.mp h1
      obtain ⟨dp, g3, h1⟩ := Option.bind_eq_some_iff.mp h1
      obtain ⟨cn, g4, h1⟩ := Option.bind_eq_some_iff.mp h1
      split at h1
      · rename_i hc
        obtain ⟨c1, c2, c3, c4, c5, c6⟩ := hc
        cases h1
        exact ⟨_, _, _, _, rfl, rfl, fun mc ms P k n kk => V.acopy hd hl0 hnat hstat hini (gB_some g0) (gB_some g1) c1 (ckI_some g2).1 (ckI_some g3).1 (ckI_some g4).1 c2 c3 c4 c5 (fun j hj => fitB_at c6 hj) (cat_sum hcd.2) hcd.1 kk⟩
      · cases h1
    · cases hr
  · cases hr)
theorem q_acopy {q a0 a : Nat} {x0 x1 x2 : Int32} (hs : (pg y).2 pc = m_acopy q) : gO pg Ω (d + 1) y pc lv (.int x2 :: .int x1 :: .ref a :: .int x0 :: .ref a0 :: st) h = if st.length ≤ 4 then (acp Ω.sz h a0 x0 a x1 x2).bind (fun h' => gO pg Ω (d + 1) y q lv st h') else none := by
  rw [gO_of hs]; unfold m_acopy; dsimp only
  by_cases hc : st.length ≤ 4
  · rw [if_pos hc, if_pos ⟨by omega, hc⟩, fin_bind]; rfl
  · rw [if_neg hc, if_neg (fun q => hc q.2)]; rfl
theorem q_callVV1 {ci yy np q b : Nat} {As rest : List Value} (hs : (pg y).2 pc = m_callV true [(ci, yy)] np q) (hst : st = As.reverse ++ .ref b :: rest) (hnp : As.length = np) : gO pg Ω d y pc lv st h = if rest.length ≤ 4 ∧ clN h b = some ci then bV (gM pg Ω d yy (.ref b :: As) h) (fun h' => gO pg Ω d y q lv rest h') else none := by
  rw [q_callVV hs hst hnp]
  by_cases h1 : rest.length ≤ 4
  · rw [if_pos h1]
    by_cases h2 : clN h b = some ci
    · rw [if_pos ⟨h1, h2⟩, h2]
      simp [List.lookup]
    · rw [if_neg (fun q => h2 q.2)]
      cases h3 : clN h b with
      | none => rfl
      | some c =>
        have : (c == ci) = false := by
          simp only [beq_eq_false_iff_ne, ne_eq]
          intro e
          exact h2 (by rw [h3, e])
        simp [List.lookup, this]
  · rw [if_neg h1, if_neg (fun q => h1 q.1)]
theorem q_callVA1 {ci yy np q b : Nat} {As rest : List Value} (hs : (pg y).2 pc = m_callV false [(ci, yy)] np q) (hst : st = As.reverse ++ .ref b :: rest) (hnp : As.length = np) : gO pg Ω d y pc lv st h = if rest.length ≤ 4 ∧ clN h b = some ci then bA (gM pg Ω d yy (.ref b :: As) h) (fun v h' => gO pg Ω d y q lv (v :: rest) h') else none := by
  rw [q_callVA hs hst hnp]
  by_cases h1 : rest.length ≤ 4
  · rw [if_pos h1]
    by_cases h2 : clN h b = some ci
    · rw [if_pos ⟨h1, h2⟩, h2]
      simp [List.lookup]
    · rw [if_neg (fun q => h2 q.2)]
      cases h3 : clN h b with
      | none => rfl
      | some c =>
        have : (c == ci) = false := by
          simp only [beq_eq_false_iff_ne, ne_eq]
          intro e
          exact h2 (by rw [h3, e])
        simp [List.lookup, this]
  · rw [if_neg h1, if_neg (fun q => h1 q.1)]
/- a call begins -/
theorem q_enter {nL : Nat} {As : List Value} {lv : List Value} (hy : y ≠ 0) (hn : (pg y).1.2.2.1 = nL) (hl : (ents As).length ≤ nL ∧ (As.all fun v => !isU v) = true) (he : entL nL As = lv) : gM pg Ω (d + 1) y As h = gO pg Ω d y 0 lv [] h := by
  show (if y ≠ 0 ∧ (ents As).length ≤ (pg y).1.2.2.1 ∧ (As.all fun v => !isU v) = true then lim (stp pg Ω d (gM pg Ω d) y) (0, entL (pg y).1.2.2.1 As, [], h) else none) = _
  rw [hn, if_pos ⟨hy, hl⟩, he]
  rfl
end CSEM
