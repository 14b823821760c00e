/-! THE TWIN'S WORLD: a function of its state: ints and booleans by field, token, int and boolean arrays by field, long arrays by field -/
theorem okv_nar {ty : FieldType} {v : Value} (h : okv ty v = true) : narrow ty v = v := by
  unfold okv at h
  rw [Bool.and_eq_true, decide_eq_true_eq] at h
  exact h.1
abbrev Tw : Type := (Nat → Int32) × Int64 × (Nat → Nat → Int32) × (Nat → Nat → Int64)
def sI (σ : Tw) (j : Nat) (v : Int32) : Tw := (va_up σ.1 j v, σ.2)
def sT (σ : Tw) (v : Int64) : Tw := (σ.1, v, σ.2.2)
def sA (σ : Tw) (j i : Nat) (v : Int32) : Tw := (σ.1, σ.2.1, va_up σ.2.2.1 j (va_up (σ.2.2.1 j) i v), σ.2.2.2)
def sL (σ : Tw) (j i : Nat) (v : Int64) : Tw := (σ.1, σ.2.1, σ.2.2.1, va_up σ.2.2.2 j (va_up (σ.2.2.2 j) i v))
/-- its arrays: field, kind (0 int, 1 boolean, 2 long), length -/
def twArr : List (Nat × Nat × Nat) := [(0, 2, 144), (2, 2, 144), (4, 2, 2400), (5, 1, 800), (6, 0, 800), (12, 0, 160), (23, 2, 6), (28, 0, 5), (29, 0, 5), (30, 0, 400), (31, 0, 400), (33, 0, 120), (34, 2, 120), (36, 0, 14), (37, 0, 14), (38, 1, 14), (40, 0, 80), (42, 0, 5), (47, 2, 9900), (48, 0, 1650), (49, 0, 11), (52, 2, 900), (53, 0, 150), (54, 0, 150), (56, 0, 80)]
def twE (σ : Tw) (q : Nat × Nat × Nat) : Ce := if q.2.1 = 2 then arL q.2.2 (σ.2.2.2 q.1) else if q.2.1 = 1 then arI .boolean q.2.2 (σ.2.2.1 q.1) else arI .int q.2.2 (σ.2.2.1 q.1)
def twF (A : Nat → Nat) (σ : Tw) : List Value := [.ref (A 0), .int (σ.1 1), .ref (A 2), .int (σ.1 3), .ref (A 4), .ref (A 5), .ref (A 6), .int (σ.1 7), .int (σ.1 8), .int (σ.1 9), .int (σ.1 10), .int (σ.1 11), .ref (A 12), .int (σ.1 13), .int (σ.1 14), .int (σ.1 15), .long σ.2.1, .int (σ.1 17), .int (σ.1 18), .int (σ.1 19), .int (σ.1 20), .int (σ.1 21), .int (σ.1 22), .ref (A 23), .int (σ.1 24), .int (σ.1 25), .int (σ.1 26), .int (σ.1 27), .ref (A 28), .ref (A 29), .ref (A 30), .ref (A 31), .int (σ.1 32), .ref (A 33), .ref (A 34), .int (σ.1 35), .ref (A 36), .ref (A 37), .ref (A 38), .int (σ.1 39), .ref (A 40), .int (σ.1 41), .ref (A 42), .int (σ.1 43), .int (σ.1 44), .int (σ.1 45), .int (σ.1 46), .ref (A 47), .ref (A 48), .ref (A 49), .int (σ.1 50), .int (σ.1 51), .ref (A 52), .ref (A 53), .ref (A 54), .int (σ.1 55), .ref (A 56), .int (σ.1 57), .int (σ.1 58)]
def twC (x : Nat) (A : Nat → Nat) (σ : Tw) (a : Nat) : Option Ce := if a = x then some (.inr (1, twF A σ)) else (twArr.find? (fun q => A q.1 == a)).map (twE σ)
def tW (h : AH) (x : Nat) (A : Nat → Nat) (σ : Tw) : AH := (fun a => (twC x A σ a).or (h.1 a), h.2)
/-- its addresses: apart, none of the start's -/
def TwOk (z x : Nat) (A : Nat → Nat) : Prop := z ≤ x ∧ ∀ q ∈ twArr, z ≤ A q.1 ∧ A q.1 ≠ x ∧ ∀ r ∈ twArr, A q.1 = A r.1 → q = r
theorem tw_x {h : AH} {x : Nat} {A : Nat → Nat} {σ : Tw} : (tW h x A σ).1 x = some (.inr (1, twF A σ)) := by simp [tW, twC]
theorem tw_a {z : Nat} {h : AH} {x : Nat} {A : Nat → Nat} {σ : Tw} (hT : TwOk z x A) {q : Nat × Nat × Nat} (hq : q ∈ twArr) : (tW h x A σ).1 (A q.1) = some (twE σ q) := by
  obtain ⟨h1, h2, h3⟩ := hT.2 q hq
  unfold tW twC
  show (if A q.1 = x then some (.inr (1, twF A σ)) else (twArr.find? (fun r => A r.1 == A q.1)).map (twE σ) : Option Ce).or (h.1 (A q.1)) = _
  rw [if_neg h2]
  cases hf : twArr.find? (fun r => A r.1 == A q.1) with
  | none =>
    have := List.find?_eq_none.mp hf q hq
    simp at this
  | some r =>
    have hr := List.mem_of_find?_eq_some hf
    have he := List.find?_some hf
    rw [h3 r hr (by simpa using (beq_iff_eq.mp he).symm)]
    rfl
theorem tw_put_x {h : AH} {x : Nat} {A : Nat → Nat} {σ σ' : Tw} (h1 : σ'.2.2 = σ.2.2) : hput (tW h x A σ) x (.inr (1, twF A σ')) = tW h x A σ' := by
  unfold hput tW
  refine Prod.ext (funext fun a => ?_) rfl
  have hE : twE σ' = twE σ := by funext q; unfold twE; rw [h1]
  show va_up _ x _ a = (twC x A σ' a).or (h.1 a)
  unfold va_up twC
  by_cases ha : a = x
  · rw [if_pos ha, if_pos ha]; rfl
  · rw [if_neg ha, if_neg ha, hE]
    show ((if a = x then _ else _ : Option Ce)).or _ = _
    rw [if_neg ha]
theorem tw_put_a {z : Nat} {h : AH} {x : Nat} {A : Nat → Nat} {σ σ' : Tw} (hT : TwOk z x A) {q : Nat × Nat × Nat} (hq : q ∈ twArr) (hF : twF A σ' = twF A σ) (hE : ∀ r ∈ twArr, r ≠ q → twE σ' r = twE σ r) : hput (tW h x A σ) (A q.1) (twE σ' q) = tW h x A σ' := by
  obtain ⟨h1, h2, h3⟩ := hT.2 q hq
  unfold hput
  refine Prod.ext (funext fun a => ?_) rfl
  show va_up _ (A q.1) _ a = _
  unfold va_up
  by_cases ha : a = A q.1
  · rw [if_pos ha, ha, tw_a hT hq]
  · rw [if_neg ha]
    show (twC x A σ a).or (h.1 a) = (twC x A σ' a).or (h.1 a)
    congr 1
    unfold twC
    by_cases hx : a = x
    · rw [if_pos hx, if_pos hx, hF]
    · rw [if_neg hx, if_neg hx]
      cases hf : twArr.find? (fun r => A r.1 == a) with
      | none => rfl
      | some r =>
        have hr := List.mem_of_find?_eq_some hf
        have he := List.find?_some hf
        have hne : r ≠ q := fun e => ha (by rw [← e]; simpa using (beq_iff_eq.mp he).symm)
        show some (twE σ r) = some (twE σ' r)
        rw [hE r hr hne]
theorem twE_sA {σ : Tw} {q : Nat × Nat × Nat} {i : Nat} {v : Int32} {r : Nat × Nat × Nat} (hr : r.1 ≠ q.1) : twE (sA σ q.1 i v) r = twE σ r := by
  unfold twE sA; simp [va_up, hr]
theorem twE_sL {σ : Tw} {q : Nat × Nat × Nat} {i : Nat} {v : Int64} {r : Nat × Nat × Nat} (hr : r.1 ≠ q.1) : twE (sL σ q.1 i v) r = twE σ r := by
  unfold twE sL; simp [va_up, hr]
theorem twArr_nd : ∀ q ∈ twArr, ∀ r ∈ twArr, r ≠ q → r.1 ≠ q.1 := by decide +kernel
section TWR
variable {Ω : Om} {h : AH} {x : Nat} {A : Nat → Nat} {σ : Tw}
theorem tw_cl : clN (tW h x A σ) x = some 1 := clN1 tw_x
theorem tg0 : gf (tW h x A σ) x [(1, 0)] = some (.ref (A 0)) := gf1 tw_x
theorem tr0 (hT : TwOk Ω.sz x A) {i : Nat} (hi : i < 144) : gaL (tW h x A σ) (A 0) (nI i) = some (σ.2.2.2 0 i) := gaL1 (tw_a hT (q := (0, 2, 144)) (by decide)) hi (by decide)
theorem ts0 (hT : TwOk Ω.sz x A) {i : Nat} {v : Int64} (hi : i < 144) : saL Ω.sz (tW h x A σ) (A 0) (nI i) v = some (tW h x A (sL σ 0 i v)) := by
  rw [saL1 (tw_a hT (q := (0, 2, 144)) (by decide)) (hT.2 (0, 2, 144) (by decide)).1 hi (by decide)]
  have e := tw_put_a (h := h) (σ := σ) (σ' := sL σ 0 i v) hT (q := (0, 2, 144)) (by decide) rfl (fun r hr hne => twE_sL (q := (0, 2, 144)) (twArr_nd _ (by decide) r hr hne))
  rw [← e]
  congr 2
  try simp [twE, sL, va_up]
theorem tg1 : gf (tW h x A σ) x [(1, 1)] = some (.int (σ.1 1)) := gf1 tw_x
theorem tp1 (hT : TwOk Ω.sz x A) {v : Int32} : pf Ω.sz (tW h x A σ) x [(1, 1)] .int (.int v) = some (tW h x A (sI σ 1 v)) := by
  rw [pf1 tw_x hT.1 (by show _ < 59; decide) okv_int]; exact congrArg some (tw_put_x (σ := σ) (σ' := sI σ 1 v) rfl)
theorem tg2 : gf (tW h x A σ) x [(1, 2)] = some (.ref (A 2)) := gf1 tw_x
theorem tr2 (hT : TwOk Ω.sz x A) {i : Nat} (hi : i < 144) : gaL (tW h x A σ) (A 2) (nI i) = some (σ.2.2.2 2 i) := gaL1 (tw_a hT (q := (2, 2, 144)) (by decide)) hi (by decide)
theorem ts2 (hT : TwOk Ω.sz x A) {i : Nat} {v : Int64} (hi : i < 144) : saL Ω.sz (tW h x A σ) (A 2) (nI i) v = some (tW h x A (sL σ 2 i v)) := by
  rw [saL1 (tw_a hT (q := (2, 2, 144)) (by decide)) (hT.2 (2, 2, 144) (by decide)).1 hi (by decide)]
  have e := tw_put_a (h := h) (σ := σ) (σ' := sL σ 2 i v) hT (q := (2, 2, 144)) (by decide) rfl (fun r hr hne => twE_sL (q := (2, 2, 144)) (twArr_nd _ (by decide) r hr hne))
  rw [← e]
  congr 2
  try simp [twE, sL, va_up]
theorem tg3 : gf (tW h x A σ) x [(1, 3)] = some (.int (σ.1 3)) := gf1 tw_x
theorem tp3 (hT : TwOk Ω.sz x A) {v : Int32} : pf Ω.sz (tW h x A σ) x [(1, 3)] .int (.int v) = some (tW h x A (sI σ 3 v)) := by
  rw [pf1 tw_x hT.1 (by show _ < 59; decide) okv_int]; exact congrArg some (tw_put_x (σ := σ) (σ' := sI σ 3 v) rfl)
theorem tg4 : gf (tW h x A σ) x [(1, 4)] = some (.ref (A 4)) := gf1 tw_x
theorem tr4 (hT : TwOk Ω.sz x A) {i : Nat} (hi : i < 2400) : gaL (tW h x A σ) (A 4) (nI i) = some (σ.2.2.2 4 i) := gaL1 (tw_a hT (q := (4, 2, 2400)) (by decide)) hi (by decide)
theorem ts4 (hT : TwOk Ω.sz x A) {i : Nat} {v : Int64} (hi : i < 2400) : saL Ω.sz (tW h x A σ) (A 4) (nI i) v = some (tW h x A (sL σ 4 i v)) := by
  rw [saL1 (tw_a hT (q := (4, 2, 2400)) (by decide)) (hT.2 (4, 2, 2400) (by decide)).1 hi (by decide)]
  have e := tw_put_a (h := h) (σ := σ) (σ' := sL σ 4 i v) hT (q := (4, 2, 2400)) (by decide) rfl (fun r hr hne => twE_sL (q := (4, 2, 2400)) (twArr_nd _ (by decide) r hr hne))
  rw [← e]
  congr 2
  try simp [twE, sL, va_up]
theorem tg5 : gf (tW h x A σ) x [(1, 5)] = some (.ref (A 5)) := gf1 tw_x
theorem tr5 (hT : TwOk Ω.sz x A) {i : Nat} (hi : i < 800) : gaI [.byte, .boolean] (tW h x A σ) (A 5) (nI i) = some (σ.2.2.1 5 i) := gaI1 (ty := .boolean) (tw_a hT (q := (5, 1, 800)) (by decide)) (by decide) hi (by decide)
theorem ts5 (hT : TwOk Ω.sz x A) {i : Nat} {v : Int32} (hi : i < 800) (hv : okv .boolean (.int v) = true) : saI [.byte, .boolean] Ω.sz (tW h x A σ) (A 5) (nI i) v = some (tW h x A (sA σ 5 i v)) := by
  rw [saI1 (ty := .boolean) (tw_a hT (q := (5, 1, 800)) (by decide)) (by decide) (hT.2 (5, 1, 800) (by decide)).1 hi (by decide) (okv_nar hv)]
  have e := tw_put_a (h := h) (σ := σ) (σ' := sA σ 5 i v) hT (q := (5, 1, 800)) (by decide) rfl (fun r hr hne => twE_sA (q := (5, 1, 800)) (twArr_nd _ (by decide) r hr hne))
  rw [← e]
  congr 2
  try simp [twE, sA, va_up]
theorem tg6 : gf (tW h x A σ) x [(1, 6)] = some (.ref (A 6)) := gf1 tw_x
theorem tr6 (hT : TwOk Ω.sz x A) {i : Nat} (hi : i < 800) : gaI [.int] (tW h x A σ) (A 6) (nI i) = some (σ.2.2.1 6 i) := gaI1 (ty := .int) (tw_a hT (q := (6, 0, 800)) (by decide)) (by decide) hi (by decide)
theorem ts6 (hT : TwOk Ω.sz x A) {i : Nat} {v : Int32} (hi : i < 800) : saI [.int] Ω.sz (tW h x A σ) (A 6) (nI i) v = some (tW h x A (sA σ 6 i v)) := by
  rw [saI1 (ty := .int) (tw_a hT (q := (6, 0, 800)) (by decide)) (by decide) (hT.2 (6, 0, 800) (by decide)).1 hi (by decide) rfl]
  have e := tw_put_a (h := h) (σ := σ) (σ' := sA σ 6 i v) hT (q := (6, 0, 800)) (by decide) rfl (fun r hr hne => twE_sA (q := (6, 0, 800)) (twArr_nd _ (by decide) r hr hne))
  rw [← e]
  congr 2
  try simp [twE, sA, va_up]
theorem tg7 : gf (tW h x A σ) x [(1, 7)] = some (.int (σ.1 7)) := gf1 tw_x
theorem tp7 (hT : TwOk Ω.sz x A) {v : Int32} : pf Ω.sz (tW h x A σ) x [(1, 7)] .int (.int v) = some (tW h x A (sI σ 7 v)) := by
  rw [pf1 tw_x hT.1 (by show _ < 59; decide) okv_int]; exact congrArg some (tw_put_x (σ := σ) (σ' := sI σ 7 v) rfl)
theorem tg8 : gf (tW h x A σ) x [(1, 8)] = some (.int (σ.1 8)) := gf1 tw_x
theorem tp8 (hT : TwOk Ω.sz x A) {v : Int32} : pf Ω.sz (tW h x A σ) x [(1, 8)] .int (.int v) = some (tW h x A (sI σ 8 v)) := by
  rw [pf1 tw_x hT.1 (by show _ < 59; decide) okv_int]; exact congrArg some (tw_put_x (σ := σ) (σ' := sI σ 8 v) rfl)
theorem tg9 : gf (tW h x A σ) x [(1, 9)] = some (.int (σ.1 9)) := gf1 tw_x
theorem tp9 (hT : TwOk Ω.sz x A) {v : Int32} : pf Ω.sz (tW h x A σ) x [(1, 9)] .int (.int v) = some (tW h x A (sI σ 9 v)) := by
  rw [pf1 tw_x hT.1 (by show _ < 59; decide) okv_int]; exact congrArg some (tw_put_x (σ := σ) (σ' := sI σ 9 v) rfl)
theorem tg10 : gf (tW h x A σ) x [(1, 10)] = some (.int (σ.1 10)) := gf1 tw_x
theorem tp10 (hT : TwOk Ω.sz x A) {v : Int32} (hv : okv .boolean (.int v) = true) : pf Ω.sz (tW h x A σ) x [(1, 10)] .boolean (.int v) = some (tW h x A (sI σ 10 v)) := by
  rw [pf1 tw_x hT.1 (by show _ < 59; decide) hv]; exact congrArg some (tw_put_x (σ := σ) (σ' := sI σ 10 v) rfl)
theorem tg11 : gf (tW h x A σ) x [(1, 11)] = some (.int (σ.1 11)) := gf1 tw_x
theorem tp11 (hT : TwOk Ω.sz x A) {v : Int32} : pf Ω.sz (tW h x A σ) x [(1, 11)] .int (.int v) = some (tW h x A (sI σ 11 v)) := by
  rw [pf1 tw_x hT.1 (by show _ < 59; decide) okv_int]; exact congrArg some (tw_put_x (σ := σ) (σ' := sI σ 11 v) rfl)
theorem tg12 : gf (tW h x A σ) x [(1, 12)] = some (.ref (A 12)) := gf1 tw_x
theorem tr12 (hT : TwOk Ω.sz x A) {i : Nat} (hi : i < 160) : gaI [.int] (tW h x A σ) (A 12) (nI i) = some (σ.2.2.1 12 i) := gaI1 (ty := .int) (tw_a hT (q := (12, 0, 160)) (by decide)) (by decide) hi (by decide)
theorem ts12 (hT : TwOk Ω.sz x A) {i : Nat} {v : Int32} (hi : i < 160) : saI [.int] Ω.sz (tW h x A σ) (A 12) (nI i) v = some (tW h x A (sA σ 12 i v)) := by
  rw [saI1 (ty := .int) (tw_a hT (q := (12, 0, 160)) (by decide)) (by decide) (hT.2 (12, 0, 160) (by decide)).1 hi (by decide) rfl]
  have e := tw_put_a (h := h) (σ := σ) (σ' := sA σ 12 i v) hT (q := (12, 0, 160)) (by decide) rfl (fun r hr hne => twE_sA (q := (12, 0, 160)) (twArr_nd _ (by decide) r hr hne))
  rw [← e]
  congr 2
  try simp [twE, sA, va_up]
theorem tg13 : gf (tW h x A σ) x [(1, 13)] = some (.int (σ.1 13)) := gf1 tw_x
theorem tp13 (hT : TwOk Ω.sz x A) {v : Int32} : pf Ω.sz (tW h x A σ) x [(1, 13)] .int (.int v) = some (tW h x A (sI σ 13 v)) := by
  rw [pf1 tw_x hT.1 (by show _ < 59; decide) okv_int]; exact congrArg some (tw_put_x (σ := σ) (σ' := sI σ 13 v) rfl)
theorem tg14 : gf (tW h x A σ) x [(1, 14)] = some (.int (σ.1 14)) := gf1 tw_x
theorem tp14 (hT : TwOk Ω.sz x A) {v : Int32} : pf Ω.sz (tW h x A σ) x [(1, 14)] .int (.int v) = some (tW h x A (sI σ 14 v)) := by
  rw [pf1 tw_x hT.1 (by show _ < 59; decide) okv_int]; exact congrArg some (tw_put_x (σ := σ) (σ' := sI σ 14 v) rfl)
theorem tg15 : gf (tW h x A σ) x [(1, 15)] = some (.int (σ.1 15)) := gf1 tw_x
theorem tp15 (hT : TwOk Ω.sz x A) {v : Int32} : pf Ω.sz (tW h x A σ) x [(1, 15)] .int (.int v) = some (tW h x A (sI σ 15 v)) := by
  rw [pf1 tw_x hT.1 (by show _ < 59; decide) okv_int]; exact congrArg some (tw_put_x (σ := σ) (σ' := sI σ 15 v) rfl)
theorem tg16 : gf (tW h x A σ) x [(1, 16)] = some (.long σ.2.1) := gf1 tw_x
theorem tp16 (hT : TwOk Ω.sz x A) {v : Int64} : pf Ω.sz (tW h x A σ) x [(1, 16)] .long (.long v) = some (tW h x A (sT σ v)) := by
  rw [pf1 tw_x hT.1 (by show _ < 59; decide) okv_long]; exact congrArg some (tw_put_x (σ := σ) (σ' := sT σ v) rfl)
theorem tg17 : gf (tW h x A σ) x [(1, 17)] = some (.int (σ.1 17)) := gf1 tw_x
theorem tp17 (hT : TwOk Ω.sz x A) {v : Int32} : pf Ω.sz (tW h x A σ) x [(1, 17)] .int (.int v) = some (tW h x A (sI σ 17 v)) := by
  rw [pf1 tw_x hT.1 (by show _ < 59; decide) okv_int]; exact congrArg some (tw_put_x (σ := σ) (σ' := sI σ 17 v) rfl)
theorem tg18 : gf (tW h x A σ) x [(1, 18)] = some (.int (σ.1 18)) := gf1 tw_x
theorem tp18 (hT : TwOk Ω.sz x A) {v : Int32} : pf Ω.sz (tW h x A σ) x [(1, 18)] .int (.int v) = some (tW h x A (sI σ 18 v)) := by
  rw [pf1 tw_x hT.1 (by show _ < 59; decide) okv_int]; exact congrArg some (tw_put_x (σ := σ) (σ' := sI σ 18 v) rfl)
theorem tg19 : gf (tW h x A σ) x [(1, 19)] = some (.int (σ.1 19)) := gf1 tw_x
theorem tp19 (hT : TwOk Ω.sz x A) {v : Int32} : pf Ω.sz (tW h x A σ) x [(1, 19)] .int (.int v) = some (tW h x A (sI σ 19 v)) := by
  rw [pf1 tw_x hT.1 (by show _ < 59; decide) okv_int]; exact congrArg some (tw_put_x (σ := σ) (σ' := sI σ 19 v) rfl)
theorem tg20 : gf (tW h x A σ) x [(1, 20)] = some (.int (σ.1 20)) := gf1 tw_x
theorem tp20 (hT : TwOk Ω.sz x A) {v : Int32} : pf Ω.sz (tW h x A σ) x [(1, 20)] .int (.int v) = some (tW h x A (sI σ 20 v)) := by
  rw [pf1 tw_x hT.1 (by show _ < 59; decide) okv_int]; exact congrArg some (tw_put_x (σ := σ) (σ' := sI σ 20 v) rfl)
theorem tg21 : gf (tW h x A σ) x [(1, 21)] = some (.int (σ.1 21)) := gf1 tw_x
theorem tp21 (hT : TwOk Ω.sz x A) {v : Int32} (hv : okv .boolean (.int v) = true) : pf Ω.sz (tW h x A σ) x [(1, 21)] .boolean (.int v) = some (tW h x A (sI σ 21 v)) := by
  rw [pf1 tw_x hT.1 (by show _ < 59; decide) hv]; exact congrArg some (tw_put_x (σ := σ) (σ' := sI σ 21 v) rfl)
theorem tg22 : gf (tW h x A σ) x [(1, 22)] = some (.int (σ.1 22)) := gf1 tw_x
theorem tp22 (hT : TwOk Ω.sz x A) {v : Int32} (hv : okv .boolean (.int v) = true) : pf Ω.sz (tW h x A σ) x [(1, 22)] .boolean (.int v) = some (tW h x A (sI σ 22 v)) := by
  rw [pf1 tw_x hT.1 (by show _ < 59; decide) hv]; exact congrArg some (tw_put_x (σ := σ) (σ' := sI σ 22 v) rfl)
theorem tg23 : gf (tW h x A σ) x [(1, 23)] = some (.ref (A 23)) := gf1 tw_x
theorem tr23 (hT : TwOk Ω.sz x A) {i : Nat} (hi : i < 6) : gaL (tW h x A σ) (A 23) (nI i) = some (σ.2.2.2 23 i) := gaL1 (tw_a hT (q := (23, 2, 6)) (by decide)) hi (by decide)
theorem ts23 (hT : TwOk Ω.sz x A) {i : Nat} {v : Int64} (hi : i < 6) : saL Ω.sz (tW h x A σ) (A 23) (nI i) v = some (tW h x A (sL σ 23 i v)) := by
  rw [saL1 (tw_a hT (q := (23, 2, 6)) (by decide)) (hT.2 (23, 2, 6) (by decide)).1 hi (by decide)]
  have e := tw_put_a (h := h) (σ := σ) (σ' := sL σ 23 i v) hT (q := (23, 2, 6)) (by decide) rfl (fun r hr hne => twE_sL (q := (23, 2, 6)) (twArr_nd _ (by decide) r hr hne))
  rw [← e]
  congr 2
  try simp [twE, sL, va_up]
theorem tg24 : gf (tW h x A σ) x [(1, 24)] = some (.int (σ.1 24)) := gf1 tw_x
theorem tp24 (hT : TwOk Ω.sz x A) {v : Int32} : pf Ω.sz (tW h x A σ) x [(1, 24)] .int (.int v) = some (tW h x A (sI σ 24 v)) := by
  rw [pf1 tw_x hT.1 (by show _ < 59; decide) okv_int]; exact congrArg some (tw_put_x (σ := σ) (σ' := sI σ 24 v) rfl)
theorem tg25 : gf (tW h x A σ) x [(1, 25)] = some (.int (σ.1 25)) := gf1 tw_x
theorem tp25 (hT : TwOk Ω.sz x A) {v : Int32} : pf Ω.sz (tW h x A σ) x [(1, 25)] .int (.int v) = some (tW h x A (sI σ 25 v)) := by
  rw [pf1 tw_x hT.1 (by show _ < 59; decide) okv_int]; exact congrArg some (tw_put_x (σ := σ) (σ' := sI σ 25 v) rfl)
theorem tg26 : gf (tW h x A σ) x [(1, 26)] = some (.int (σ.1 26)) := gf1 tw_x
theorem tp26 (hT : TwOk Ω.sz x A) {v : Int32} : pf Ω.sz (tW h x A σ) x [(1, 26)] .int (.int v) = some (tW h x A (sI σ 26 v)) := by
  rw [pf1 tw_x hT.1 (by show _ < 59; decide) okv_int]; exact congrArg some (tw_put_x (σ := σ) (σ' := sI σ 26 v) rfl)
theorem tg27 : gf (tW h x A σ) x [(1, 27)] = some (.int (σ.1 27)) := gf1 tw_x
theorem tp27 (hT : TwOk Ω.sz x A) {v : Int32} : pf Ω.sz (tW h x A σ) x [(1, 27)] .int (.int v) = some (tW h x A (sI σ 27 v)) := by
  rw [pf1 tw_x hT.1 (by show _ < 59; decide) okv_int]; exact congrArg some (tw_put_x (σ := σ) (σ' := sI σ 27 v) rfl)
theorem tg28 : gf (tW h x A σ) x [(1, 28)] = some (.ref (A 28)) := gf1 tw_x
theorem tr28 (hT : TwOk Ω.sz x A) {i : Nat} (hi : i < 5) : gaI [.int] (tW h x A σ) (A 28) (nI i) = some (σ.2.2.1 28 i) := gaI1 (ty := .int) (tw_a hT (q := (28, 0, 5)) (by decide)) (by decide) hi (by decide)
theorem ts28 (hT : TwOk Ω.sz x A) {i : Nat} {v : Int32} (hi : i < 5) : saI [.int] Ω.sz (tW h x A σ) (A 28) (nI i) v = some (tW h x A (sA σ 28 i v)) := by
  rw [saI1 (ty := .int) (tw_a hT (q := (28, 0, 5)) (by decide)) (by decide) (hT.2 (28, 0, 5) (by decide)).1 hi (by decide) rfl]
  have e := tw_put_a (h := h) (σ := σ) (σ' := sA σ 28 i v) hT (q := (28, 0, 5)) (by decide) rfl (fun r hr hne => twE_sA (q := (28, 0, 5)) (twArr_nd _ (by decide) r hr hne))
  rw [← e]
  congr 2
  try simp [twE, sA, va_up]
theorem tg29 : gf (tW h x A σ) x [(1, 29)] = some (.ref (A 29)) := gf1 tw_x
theorem tr29 (hT : TwOk Ω.sz x A) {i : Nat} (hi : i < 5) : gaI [.int] (tW h x A σ) (A 29) (nI i) = some (σ.2.2.1 29 i) := gaI1 (ty := .int) (tw_a hT (q := (29, 0, 5)) (by decide)) (by decide) hi (by decide)
theorem ts29 (hT : TwOk Ω.sz x A) {i : Nat} {v : Int32} (hi : i < 5) : saI [.int] Ω.sz (tW h x A σ) (A 29) (nI i) v = some (tW h x A (sA σ 29 i v)) := by
  rw [saI1 (ty := .int) (tw_a hT (q := (29, 0, 5)) (by decide)) (by decide) (hT.2 (29, 0, 5) (by decide)).1 hi (by decide) rfl]
  have e := tw_put_a (h := h) (σ := σ) (σ' := sA σ 29 i v) hT (q := (29, 0, 5)) (by decide) rfl (fun r hr hne => twE_sA (q := (29, 0, 5)) (twArr_nd _ (by decide) r hr hne))
  rw [← e]
  congr 2
  try simp [twE, sA, va_up]
theorem tg30 : gf (tW h x A σ) x [(1, 30)] = some (.ref (A 30)) := gf1 tw_x
theorem tr30 (hT : TwOk Ω.sz x A) {i : Nat} (hi : i < 400) : gaI [.int] (tW h x A σ) (A 30) (nI i) = some (σ.2.2.1 30 i) := gaI1 (ty := .int) (tw_a hT (q := (30, 0, 400)) (by decide)) (by decide) hi (by decide)
theorem ts30 (hT : TwOk Ω.sz x A) {i : Nat} {v : Int32} (hi : i < 400) : saI [.int] Ω.sz (tW h x A σ) (A 30) (nI i) v = some (tW h x A (sA σ 30 i v)) := by
  rw [saI1 (ty := .int) (tw_a hT (q := (30, 0, 400)) (by decide)) (by decide) (hT.2 (30, 0, 400) (by decide)).1 hi (by decide) rfl]
  have e := tw_put_a (h := h) (σ := σ) (σ' := sA σ 30 i v) hT (q := (30, 0, 400)) (by decide) rfl (fun r hr hne => twE_sA (q := (30, 0, 400)) (twArr_nd _ (by decide) r hr hne))
  rw [← e]
  congr 2
  try simp [twE, sA, va_up]
theorem tg31 : gf (tW h x A σ) x [(1, 31)] = some (.ref (A 31)) := gf1 tw_x
theorem tr31 (hT : TwOk Ω.sz x A) {i : Nat} (hi : i < 400) : gaI [.int] (tW h x A σ) (A 31) (nI i) = some (σ.2.2.1 31 i) := gaI1 (ty := .int) (tw_a hT (q := (31, 0, 400)) (by decide)) (by decide) hi (by decide)
theorem ts31 (hT : TwOk Ω.sz x A) {i : Nat} {v : Int32} (hi : i < 400) : saI [.int] Ω.sz (tW h x A σ) (A 31) (nI i) v = some (tW h x A (sA σ 31 i v)) := by
  rw [saI1 (ty := .int) (tw_a hT (q := (31, 0, 400)) (by decide)) (by decide) (hT.2 (31, 0, 400) (by decide)).1 hi (by decide) rfl]
  have e := tw_put_a (h := h) (σ := σ) (σ' := sA σ 31 i v) hT (q := (31, 0, 400)) (by decide) rfl (fun r hr hne => twE_sA (q := (31, 0, 400)) (twArr_nd _ (by decide) r hr hne))
  rw [← e]
  congr 2
  try simp [twE, sA, va_up]
theorem tg32 : gf (tW h x A σ) x [(1, 32)] = some (.int (σ.1 32)) := gf1 tw_x
theorem tp32 (hT : TwOk Ω.sz x A) {v : Int32} : pf Ω.sz (tW h x A σ) x [(1, 32)] .int (.int v) = some (tW h x A (sI σ 32 v)) := by
  rw [pf1 tw_x hT.1 (by show _ < 59; decide) okv_int]; exact congrArg some (tw_put_x (σ := σ) (σ' := sI σ 32 v) rfl)
theorem tg33 : gf (tW h x A σ) x [(1, 33)] = some (.ref (A 33)) := gf1 tw_x
theorem tr33 (hT : TwOk Ω.sz x A) {i : Nat} (hi : i < 120) : gaI [.int] (tW h x A σ) (A 33) (nI i) = some (σ.2.2.1 33 i) := gaI1 (ty := .int) (tw_a hT (q := (33, 0, 120)) (by decide)) (by decide) hi (by decide)
theorem ts33 (hT : TwOk Ω.sz x A) {i : Nat} {v : Int32} (hi : i < 120) : saI [.int] Ω.sz (tW h x A σ) (A 33) (nI i) v = some (tW h x A (sA σ 33 i v)) := by
  rw [saI1 (ty := .int) (tw_a hT (q := (33, 0, 120)) (by decide)) (by decide) (hT.2 (33, 0, 120) (by decide)).1 hi (by decide) rfl]
  have e := tw_put_a (h := h) (σ := σ) (σ' := sA σ 33 i v) hT (q := (33, 0, 120)) (by decide) rfl (fun r hr hne => twE_sA (q := (33, 0, 120)) (twArr_nd _ (by decide) r hr hne))
  rw [← e]
  congr 2
  try simp [twE, sA, va_up]
theorem tg34 : gf (tW h x A σ) x [(1, 34)] = some (.ref (A 34)) := gf1 tw_x
theorem tr34 (hT : TwOk Ω.sz x A) {i : Nat} (hi : i < 120) : gaL (tW h x A σ) (A 34) (nI i) = some (σ.2.2.2 34 i) := gaL1 (tw_a hT (q := (34, 2, 120)) (by decide)) hi (by decide)
theorem ts34 (hT : TwOk Ω.sz x A) {i : Nat} {v : Int64} (hi : i < 120) : saL Ω.sz (tW h x A σ) (A 34) (nI i) v = some (tW h x A (sL σ 34 i v)) := by
  rw [saL1 (tw_a hT (q := (34, 2, 120)) (by decide)) (hT.2 (34, 2, 120) (by decide)).1 hi (by decide)]
  have e := tw_put_a (h := h) (σ := σ) (σ' := sL σ 34 i v) hT (q := (34, 2, 120)) (by decide) rfl (fun r hr hne => twE_sL (q := (34, 2, 120)) (twArr_nd _ (by decide) r hr hne))
  rw [← e]
  congr 2
  try simp [twE, sL, va_up]
theorem tg35 : gf (tW h x A σ) x [(1, 35)] = some (.int (σ.1 35)) := gf1 tw_x
theorem tp35 (hT : TwOk Ω.sz x A) {v : Int32} : pf Ω.sz (tW h x A σ) x [(1, 35)] .int (.int v) = some (tW h x A (sI σ 35 v)) := by
  rw [pf1 tw_x hT.1 (by show _ < 59; decide) okv_int]; exact congrArg some (tw_put_x (σ := σ) (σ' := sI σ 35 v) rfl)
theorem tg36 : gf (tW h x A σ) x [(1, 36)] = some (.ref (A 36)) := gf1 tw_x
theorem tr36 (hT : TwOk Ω.sz x A) {i : Nat} (hi : i < 14) : gaI [.int] (tW h x A σ) (A 36) (nI i) = some (σ.2.2.1 36 i) := gaI1 (ty := .int) (tw_a hT (q := (36, 0, 14)) (by decide)) (by decide) hi (by decide)
theorem ts36 (hT : TwOk Ω.sz x A) {i : Nat} {v : Int32} (hi : i < 14) : saI [.int] Ω.sz (tW h x A σ) (A 36) (nI i) v = some (tW h x A (sA σ 36 i v)) := by
  rw [saI1 (ty := .int) (tw_a hT (q := (36, 0, 14)) (by decide)) (by decide) (hT.2 (36, 0, 14) (by decide)).1 hi (by decide) rfl]
  have e := tw_put_a (h := h) (σ := σ) (σ' := sA σ 36 i v) hT (q := (36, 0, 14)) (by decide) rfl (fun r hr hne => twE_sA (q := (36, 0, 14)) (twArr_nd _ (by decide) r hr hne))
  rw [← e]
  congr 2
  try simp [twE, sA, va_up]
theorem tg37 : gf (tW h x A σ) x [(1, 37)] = some (.ref (A 37)) := gf1 tw_x
theorem tr37 (hT : TwOk Ω.sz x A) {i : Nat} (hi : i < 14) : gaI [.int] (tW h x A σ) (A 37) (nI i) = some (σ.2.2.1 37 i) := gaI1 (ty := .int) (tw_a hT (q := (37, 0, 14)) (by decide)) (by decide) hi (by decide)
theorem ts37 (hT : TwOk Ω.sz x A) {i : Nat} {v : Int32} (hi : i < 14) : saI [.int] Ω.sz (tW h x A σ) (A 37) (nI i) v = some (tW h x A (sA σ 37 i v)) := by
  rw [saI1 (ty := .int) (tw_a hT (q := (37, 0, 14)) (by decide)) (by decide) (hT.2 (37, 0, 14) (by decide)).1 hi (by decide) rfl]
  have e := tw_put_a (h := h) (σ := σ) (σ' := sA σ 37 i v) hT (q := (37, 0, 14)) (by decide) rfl (fun r hr hne => twE_sA (q := (37, 0, 14)) (twArr_nd _ (by decide) r hr hne))
  rw [← e]
  congr 2
  try simp [twE, sA, va_up]
theorem tg38 : gf (tW h x A σ) x [(1, 38)] = some (.ref (A 38)) := gf1 tw_x
theorem tr38 (hT : TwOk Ω.sz x A) {i : Nat} (hi : i < 14) : gaI [.byte, .boolean] (tW h x A σ) (A 38) (nI i) = some (σ.2.2.1 38 i) := gaI1 (ty := .boolean) (tw_a hT (q := (38, 1, 14)) (by decide)) (by decide) hi (by decide)
theorem ts38 (hT : TwOk Ω.sz x A) {i : Nat} {v : Int32} (hi : i < 14) (hv : okv .boolean (.int v) = true) : saI [.byte, .boolean] Ω.sz (tW h x A σ) (A 38) (nI i) v = some (tW h x A (sA σ 38 i v)) := by
  rw [saI1 (ty := .boolean) (tw_a hT (q := (38, 1, 14)) (by decide)) (by decide) (hT.2 (38, 1, 14) (by decide)).1 hi (by decide) (okv_nar hv)]
  have e := tw_put_a (h := h) (σ := σ) (σ' := sA σ 38 i v) hT (q := (38, 1, 14)) (by decide) rfl (fun r hr hne => twE_sA (q := (38, 1, 14)) (twArr_nd _ (by decide) r hr hne))
  rw [← e]
  congr 2
  try simp [twE, sA, va_up]
theorem tg39 : gf (tW h x A σ) x [(1, 39)] = some (.int (σ.1 39)) := gf1 tw_x
theorem tp39 (hT : TwOk Ω.sz x A) {v : Int32} : pf Ω.sz (tW h x A σ) x [(1, 39)] .int (.int v) = some (tW h x A (sI σ 39 v)) := by
  rw [pf1 tw_x hT.1 (by show _ < 59; decide) okv_int]; exact congrArg some (tw_put_x (σ := σ) (σ' := sI σ 39 v) rfl)
theorem tg40 : gf (tW h x A σ) x [(1, 40)] = some (.ref (A 40)) := gf1 tw_x
theorem tr40 (hT : TwOk Ω.sz x A) {i : Nat} (hi : i < 80) : gaI [.int] (tW h x A σ) (A 40) (nI i) = some (σ.2.2.1 40 i) := gaI1 (ty := .int) (tw_a hT (q := (40, 0, 80)) (by decide)) (by decide) hi (by decide)
theorem ts40 (hT : TwOk Ω.sz x A) {i : Nat} {v : Int32} (hi : i < 80) : saI [.int] Ω.sz (tW h x A σ) (A 40) (nI i) v = some (tW h x A (sA σ 40 i v)) := by
  rw [saI1 (ty := .int) (tw_a hT (q := (40, 0, 80)) (by decide)) (by decide) (hT.2 (40, 0, 80) (by decide)).1 hi (by decide) rfl]
  have e := tw_put_a (h := h) (σ := σ) (σ' := sA σ 40 i v) hT (q := (40, 0, 80)) (by decide) rfl (fun r hr hne => twE_sA (q := (40, 0, 80)) (twArr_nd _ (by decide) r hr hne))
  rw [← e]
  congr 2
  try simp [twE, sA, va_up]
theorem tg41 : gf (tW h x A σ) x [(1, 41)] = some (.int (σ.1 41)) := gf1 tw_x
theorem tp41 (hT : TwOk Ω.sz x A) {v : Int32} : pf Ω.sz (tW h x A σ) x [(1, 41)] .int (.int v) = some (tW h x A (sI σ 41 v)) := by
  rw [pf1 tw_x hT.1 (by show _ < 59; decide) okv_int]; exact congrArg some (tw_put_x (σ := σ) (σ' := sI σ 41 v) rfl)
theorem tg42 : gf (tW h x A σ) x [(1, 42)] = some (.ref (A 42)) := gf1 tw_x
theorem tr42 (hT : TwOk Ω.sz x A) {i : Nat} (hi : i < 5) : gaI [.int] (tW h x A σ) (A 42) (nI i) = some (σ.2.2.1 42 i) := gaI1 (ty := .int) (tw_a hT (q := (42, 0, 5)) (by decide)) (by decide) hi (by decide)
theorem ts42 (hT : TwOk Ω.sz x A) {i : Nat} {v : Int32} (hi : i < 5) : saI [.int] Ω.sz (tW h x A σ) (A 42) (nI i) v = some (tW h x A (sA σ 42 i v)) := by
  rw [saI1 (ty := .int) (tw_a hT (q := (42, 0, 5)) (by decide)) (by decide) (hT.2 (42, 0, 5) (by decide)).1 hi (by decide) rfl]
  have e := tw_put_a (h := h) (σ := σ) (σ' := sA σ 42 i v) hT (q := (42, 0, 5)) (by decide) rfl (fun r hr hne => twE_sA (q := (42, 0, 5)) (twArr_nd _ (by decide) r hr hne))
  rw [← e]
  congr 2
  try simp [twE, sA, va_up]
theorem tg43 : gf (tW h x A σ) x [(1, 43)] = some (.int (σ.1 43)) := gf1 tw_x
theorem tp43 (hT : TwOk Ω.sz x A) {v : Int32} (hv : okv .boolean (.int v) = true) : pf Ω.sz (tW h x A σ) x [(1, 43)] .boolean (.int v) = some (tW h x A (sI σ 43 v)) := by
  rw [pf1 tw_x hT.1 (by show _ < 59; decide) hv]; exact congrArg some (tw_put_x (σ := σ) (σ' := sI σ 43 v) rfl)
theorem tg44 : gf (tW h x A σ) x [(1, 44)] = some (.int (σ.1 44)) := gf1 tw_x
theorem tp44 (hT : TwOk Ω.sz x A) {v : Int32} : pf Ω.sz (tW h x A σ) x [(1, 44)] .int (.int v) = some (tW h x A (sI σ 44 v)) := by
  rw [pf1 tw_x hT.1 (by show _ < 59; decide) okv_int]; exact congrArg some (tw_put_x (σ := σ) (σ' := sI σ 44 v) rfl)
theorem tg45 : gf (tW h x A σ) x [(1, 45)] = some (.int (σ.1 45)) := gf1 tw_x
theorem tp45 (hT : TwOk Ω.sz x A) {v : Int32} (hv : okv .boolean (.int v) = true) : pf Ω.sz (tW h x A σ) x [(1, 45)] .boolean (.int v) = some (tW h x A (sI σ 45 v)) := by
  rw [pf1 tw_x hT.1 (by show _ < 59; decide) hv]; exact congrArg some (tw_put_x (σ := σ) (σ' := sI σ 45 v) rfl)
theorem tg46 : gf (tW h x A σ) x [(1, 46)] = some (.int (σ.1 46)) := gf1 tw_x
theorem tp46 (hT : TwOk Ω.sz x A) {v : Int32} : pf Ω.sz (tW h x A σ) x [(1, 46)] .int (.int v) = some (tW h x A (sI σ 46 v)) := by
  rw [pf1 tw_x hT.1 (by show _ < 59; decide) okv_int]; exact congrArg some (tw_put_x (σ := σ) (σ' := sI σ 46 v) rfl)
theorem tg47 : gf (tW h x A σ) x [(1, 47)] = some (.ref (A 47)) := gf1 tw_x
theorem tr47 (hT : TwOk Ω.sz x A) {i : Nat} (hi : i < 9900) : gaL (tW h x A σ) (A 47) (nI i) = some (σ.2.2.2 47 i) := gaL1 (tw_a hT (q := (47, 2, 9900)) (by decide)) hi (by decide)
theorem ts47 (hT : TwOk Ω.sz x A) {i : Nat} {v : Int64} (hi : i < 9900) : saL Ω.sz (tW h x A σ) (A 47) (nI i) v = some (tW h x A (sL σ 47 i v)) := by
  rw [saL1 (tw_a hT (q := (47, 2, 9900)) (by decide)) (hT.2 (47, 2, 9900) (by decide)).1 hi (by decide)]
  have e := tw_put_a (h := h) (σ := σ) (σ' := sL σ 47 i v) hT (q := (47, 2, 9900)) (by decide) rfl (fun r hr hne => twE_sL (q := (47, 2, 9900)) (twArr_nd _ (by decide) r hr hne))
  rw [← e]
  congr 2
  try simp [twE, sL, va_up]
theorem tg48 : gf (tW h x A σ) x [(1, 48)] = some (.ref (A 48)) := gf1 tw_x
theorem tr48 (hT : TwOk Ω.sz x A) {i : Nat} (hi : i < 1650) : gaI [.int] (tW h x A σ) (A 48) (nI i) = some (σ.2.2.1 48 i) := gaI1 (ty := .int) (tw_a hT (q := (48, 0, 1650)) (by decide)) (by decide) hi (by decide)
theorem ts48 (hT : TwOk Ω.sz x A) {i : Nat} {v : Int32} (hi : i < 1650) : saI [.int] Ω.sz (tW h x A σ) (A 48) (nI i) v = some (tW h x A (sA σ 48 i v)) := by
  rw [saI1 (ty := .int) (tw_a hT (q := (48, 0, 1650)) (by decide)) (by decide) (hT.2 (48, 0, 1650) (by decide)).1 hi (by decide) rfl]
  have e := tw_put_a (h := h) (σ := σ) (σ' := sA σ 48 i v) hT (q := (48, 0, 1650)) (by decide) rfl (fun r hr hne => twE_sA (q := (48, 0, 1650)) (twArr_nd _ (by decide) r hr hne))
  rw [← e]
  congr 2
  try simp [twE, sA, va_up]
theorem tg49 : gf (tW h x A σ) x [(1, 49)] = some (.ref (A 49)) := gf1 tw_x
theorem tr49 (hT : TwOk Ω.sz x A) {i : Nat} (hi : i < 11) : gaI [.int] (tW h x A σ) (A 49) (nI i) = some (σ.2.2.1 49 i) := gaI1 (ty := .int) (tw_a hT (q := (49, 0, 11)) (by decide)) (by decide) hi (by decide)
theorem ts49 (hT : TwOk Ω.sz x A) {i : Nat} {v : Int32} (hi : i < 11) : saI [.int] Ω.sz (tW h x A σ) (A 49) (nI i) v = some (tW h x A (sA σ 49 i v)) := by
  rw [saI1 (ty := .int) (tw_a hT (q := (49, 0, 11)) (by decide)) (by decide) (hT.2 (49, 0, 11) (by decide)).1 hi (by decide) rfl]
  have e := tw_put_a (h := h) (σ := σ) (σ' := sA σ 49 i v) hT (q := (49, 0, 11)) (by decide) rfl (fun r hr hne => twE_sA (q := (49, 0, 11)) (twArr_nd _ (by decide) r hr hne))
  rw [← e]
  congr 2
  try simp [twE, sA, va_up]
theorem tg50 : gf (tW h x A σ) x [(1, 50)] = some (.int (σ.1 50)) := gf1 tw_x
theorem tp50 (hT : TwOk Ω.sz x A) {v : Int32} : pf Ω.sz (tW h x A σ) x [(1, 50)] .int (.int v) = some (tW h x A (sI σ 50 v)) := by
  rw [pf1 tw_x hT.1 (by show _ < 59; decide) okv_int]; exact congrArg some (tw_put_x (σ := σ) (σ' := sI σ 50 v) rfl)
theorem tg51 : gf (tW h x A σ) x [(1, 51)] = some (.int (σ.1 51)) := gf1 tw_x
theorem tp51 (hT : TwOk Ω.sz x A) {v : Int32} (hv : okv .boolean (.int v) = true) : pf Ω.sz (tW h x A σ) x [(1, 51)] .boolean (.int v) = some (tW h x A (sI σ 51 v)) := by
  rw [pf1 tw_x hT.1 (by show _ < 59; decide) hv]; exact congrArg some (tw_put_x (σ := σ) (σ' := sI σ 51 v) rfl)
theorem tg52 : gf (tW h x A σ) x [(1, 52)] = some (.ref (A 52)) := gf1 tw_x
theorem tr52 (hT : TwOk Ω.sz x A) {i : Nat} (hi : i < 900) : gaL (tW h x A σ) (A 52) (nI i) = some (σ.2.2.2 52 i) := gaL1 (tw_a hT (q := (52, 2, 900)) (by decide)) hi (by decide)
theorem ts52 (hT : TwOk Ω.sz x A) {i : Nat} {v : Int64} (hi : i < 900) : saL Ω.sz (tW h x A σ) (A 52) (nI i) v = some (tW h x A (sL σ 52 i v)) := by
  rw [saL1 (tw_a hT (q := (52, 2, 900)) (by decide)) (hT.2 (52, 2, 900) (by decide)).1 hi (by decide)]
  have e := tw_put_a (h := h) (σ := σ) (σ' := sL σ 52 i v) hT (q := (52, 2, 900)) (by decide) rfl (fun r hr hne => twE_sL (q := (52, 2, 900)) (twArr_nd _ (by decide) r hr hne))
  rw [← e]
  congr 2
  try simp [twE, sL, va_up]
theorem tg53 : gf (tW h x A σ) x [(1, 53)] = some (.ref (A 53)) := gf1 tw_x
theorem tr53 (hT : TwOk Ω.sz x A) {i : Nat} (hi : i < 150) : gaI [.int] (tW h x A σ) (A 53) (nI i) = some (σ.2.2.1 53 i) := gaI1 (ty := .int) (tw_a hT (q := (53, 0, 150)) (by decide)) (by decide) hi (by decide)
theorem ts53 (hT : TwOk Ω.sz x A) {i : Nat} {v : Int32} (hi : i < 150) : saI [.int] Ω.sz (tW h x A σ) (A 53) (nI i) v = some (tW h x A (sA σ 53 i v)) := by
  rw [saI1 (ty := .int) (tw_a hT (q := (53, 0, 150)) (by decide)) (by decide) (hT.2 (53, 0, 150) (by decide)).1 hi (by decide) rfl]
  have e := tw_put_a (h := h) (σ := σ) (σ' := sA σ 53 i v) hT (q := (53, 0, 150)) (by decide) rfl (fun r hr hne => twE_sA (q := (53, 0, 150)) (twArr_nd _ (by decide) r hr hne))
  rw [← e]
  congr 2
  try simp [twE, sA, va_up]
theorem tg54 : gf (tW h x A σ) x [(1, 54)] = some (.ref (A 54)) := gf1 tw_x
theorem tr54 (hT : TwOk Ω.sz x A) {i : Nat} (hi : i < 150) : gaI [.int] (tW h x A σ) (A 54) (nI i) = some (σ.2.2.1 54 i) := gaI1 (ty := .int) (tw_a hT (q := (54, 0, 150)) (by decide)) (by decide) hi (by decide)
theorem ts54 (hT : TwOk Ω.sz x A) {i : Nat} {v : Int32} (hi : i < 150) : saI [.int] Ω.sz (tW h x A σ) (A 54) (nI i) v = some (tW h x A (sA σ 54 i v)) := by
  rw [saI1 (ty := .int) (tw_a hT (q := (54, 0, 150)) (by decide)) (by decide) (hT.2 (54, 0, 150) (by decide)).1 hi (by decide) rfl]
  have e := tw_put_a (h := h) (σ := σ) (σ' := sA σ 54 i v) hT (q := (54, 0, 150)) (by decide) rfl (fun r hr hne => twE_sA (q := (54, 0, 150)) (twArr_nd _ (by decide) r hr hne))
  rw [← e]
  congr 2
  try simp [twE, sA, va_up]
theorem tg55 : gf (tW h x A σ) x [(1, 55)] = some (.int (σ.1 55)) := gf1 tw_x
theorem tp55 (hT : TwOk Ω.sz x A) {v : Int32} : pf Ω.sz (tW h x A σ) x [(1, 55)] .int (.int v) = some (tW h x A (sI σ 55 v)) := by
  rw [pf1 tw_x hT.1 (by show _ < 59; decide) okv_int]; exact congrArg some (tw_put_x (σ := σ) (σ' := sI σ 55 v) rfl)
theorem tg56 : gf (tW h x A σ) x [(1, 56)] = some (.ref (A 56)) := gf1 tw_x
theorem tr56 (hT : TwOk Ω.sz x A) {i : Nat} (hi : i < 80) : gaI [.int] (tW h x A σ) (A 56) (nI i) = some (σ.2.2.1 56 i) := gaI1 (ty := .int) (tw_a hT (q := (56, 0, 80)) (by decide)) (by decide) hi (by decide)
theorem ts56 (hT : TwOk Ω.sz x A) {i : Nat} {v : Int32} (hi : i < 80) : saI [.int] Ω.sz (tW h x A σ) (A 56) (nI i) v = some (tW h x A (sA σ 56 i v)) := by
  rw [saI1 (ty := .int) (tw_a hT (q := (56, 0, 80)) (by decide)) (by decide) (hT.2 (56, 0, 80) (by decide)).1 hi (by decide) rfl]
  have e := tw_put_a (h := h) (σ := σ) (σ' := sA σ 56 i v) hT (q := (56, 0, 80)) (by decide) rfl (fun r hr hne => twE_sA (q := (56, 0, 80)) (twArr_nd _ (by decide) r hr hne))
  rw [← e]
  congr 2
  try simp [twE, sA, va_up]
theorem tg57 : gf (tW h x A σ) x [(1, 57)] = some (.int (σ.1 57)) := gf1 tw_x
theorem tp57 (hT : TwOk Ω.sz x A) {v : Int32} : pf Ω.sz (tW h x A σ) x [(1, 57)] .int (.int v) = some (tW h x A (sI σ 57 v)) := by
  rw [pf1 tw_x hT.1 (by show _ < 59; decide) okv_int]; exact congrArg some (tw_put_x (σ := σ) (σ' := sI σ 57 v) rfl)
theorem tg58 : gf (tW h x A σ) x [(1, 58)] = some (.int (σ.1 58)) := gf1 tw_x
theorem tp58 (hT : TwOk Ω.sz x A) {v : Int32} : pf Ω.sz (tW h x A σ) x [(1, 58)] .int (.int v) = some (tW h x A (sI σ 58 v)) := by
  rw [pf1 tw_x hT.1 (by show _ < 59; decide) okv_int]; exact congrArg some (tw_put_x (σ := σ) (σ' := sI σ 58 v) rfl)
end TWR
