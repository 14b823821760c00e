/-! PLAIN: the order of rows -/
def okO (o : Option Int64) : Prop := ∀ y, o = some y → okT y
theorem okO.n : okO none := fun y q => nomatch q
theorem okO.s {x : Int64} (h : okT x) : okO (some x) := fun y q => by cases q; exact h
theorem ltT_tr {x y z : Int64} (h1 : ltT x y = true) (h2 : ltT y z = true) : ltT x z = true := by
  unfold ltT at h1 h2 ⊢
  by_cases a : x < 0
  · by_cases b : y < 0
    · by_cases c : z < 0
      · simp only [a, b, c, or_true, and_self, if_true, decide_eq_true_eq] at h1 h2 ⊢
        rw [Int64.lt_iff_toInt_lt] at *
        omega
      · simp only [a, c, true_or, or_false, and_false, if_true, if_false, decide_true]
    · by_cases c : z < 0
      · simp only [b, c, false_or, if_true, false_and, if_false, decide_false] at h2
        cases h2
      · simp only [a, c, true_or, or_false, and_false, if_true, if_false, decide_true]
  · by_cases b : y < 0
    · simp only [a, b, false_or, if_true, false_and, if_false, decide_false] at h1
      cases h1
    · by_cases c : z < 0
      · simp only [b, c, false_or, if_true, false_and, if_false, decide_false] at h2
        cases h2
      · simp only [a, b, c, or_self, if_false, decide_eq_true_eq] at h1 h2 ⊢
        omega
section ORD
variable {a b c : Option Int64} {xs ys zs : List (Option Int64)}
theorem i32n0 : ¬ (nI 0 < 0) := by decide
theorem i32p : ((0 : Int32) < nI 1) := by decide
theorem i32m : ((-1 : Int32) < 0) := by decide
theorem byV_z (ha : okO a) (hb : okO b) : byV a b = 0 ↔ a = b := by
  cases a with
  | none => cases b with
    | none => exact ⟨fun _ => rfl, fun _ => rfl⟩
    | some y => exact ⟨fun h => absurd (show (-1 : Int32) = 0 from h) (by decide), fun h => nomatch h⟩
  | some x => cases b with
    | none => exact ⟨fun h => absurd (show nI 1 = 0 from h) (by decide), fun h => nomatch h⟩
    | some y =>
      show cmpI x y = 0 ↔ _
      rw [cmpI_z]
      exact ⟨fun h => by rw [h], fun h => by cases h; rfl⟩
theorem byV_p (ha : okO a) (hb : okO b) : 0 < byV a b ↔ byV b a < 0 := by
  cases a with
  | none => cases b with
    | none => exact ⟨fun h => absurd (show (0 : Int32) < nI 0 from h) (by decide), fun h => absurd (show nI 0 < 0 from h) (by decide)⟩
    | some y => exact ⟨fun h => absurd (show (0 : Int32) < -1 from h) (by decide), fun h => absurd (show nI 1 < 0 from h) (by decide)⟩
  | some x => cases b with
    | none => exact ⟨fun _ => i32m, fun _ => i32p⟩
    | some y =>
      show 0 < cmpI x y ↔ cmpI y x < 0
      rw [cmpI_p (ha x rfl) (hb y rfl), cmpI_n (hb y rfl) (ha x rfl)]
theorem byV_irr (ha : okO a) : ¬ byV a a < 0 := by
  rw [(byV_z ha ha).mpr rfl]; decide
theorem byV_tr (ha : okO a) (hb : okO b) (hc : okO c) (h1 : byV a b < 0) (h2 : byV b c < 0) : byV a c < 0 := by
  cases a with
  | none => cases c with
    | none => cases b with
      | none => exact absurd h1 i32n0
      | some y => exact absurd (show nI 1 < 0 from h2) (by decide)
    | some z => exact i32m
  | some x => cases b with
    | none => exact absurd (show nI 1 < 0 from h1) (by decide)
    | some y => cases c with
      | none => exact absurd (show nI 1 < 0 from h2) (by decide)
      | some z =>
        have h1' : cmpI x y < 0 := h1
        have h2' : cmpI y z < 0 := h2
        show cmpI x z < 0
        rw [cmpI_n (ha x rfl) (hb y rfl)] at h1'
        rw [cmpI_n (hb y rfl) (hc z rfl)] at h2'
        rw [cmpI_n (ha x rfl) (hc z rfl)]
        exact ltT_tr h1' h2'
theorem i32tri (x : Int32) : x < 0 ∨ x = 0 ∨ 0 < x := by
  rw [Int32.lt_iff_toInt_lt, Int32.lt_iff_toInt_lt, ← Int32.toInt_inj]
  omega
theorem byV_tot (ha : okO a) (hb : okO b) : byV a b < 0 ∨ a = b ∨ byV b a < 0 := by
  rcases i32tri (byV a b) with h | h | h
  · exact .inl h
  · exact .inr (.inl ((byV_z ha hb).mp h))
  · exact .inr (.inr ((byV_p ha hb).mp h))
def okOs (xs : List (Option Int64)) : Prop := ∀ o ∈ xs, okO o
theorem okOs.h {x : Option Int64} (h : okOs (x :: xs)) : okO x := h x (List.mem_cons_self ..)
theorem okOs.t {x : Option Int64} (h : okOs (x :: xs)) : okOs xs := fun o ho => h o (List.mem_cons_of_mem _ ho)
theorem byL_z : ∀ {xs ys : List (Option Int64)}, xs.length = ys.length → okOs xs → okOs ys → (byL xs ys = 0 ↔ xs = ys) := by
  intro xs
  induction xs with
  | nil =>
    intro ys hl _ _
    cases ys with
    | nil => exact ⟨fun _ => rfl, fun _ => rfl⟩
    | cons y ys => cases hl
  | cons x xs ih =>
    intro ys hl hx hy
    cases ys with
    | nil => cases hl
    | cons y ys =>
      have z := byV_z hx.h hy.h
      have i := ih (ys := ys) (Nat.succ.inj hl) hx.t hy.t
      show (if byV x y = 0 then byL xs ys else byV x y) = 0 ↔ _
      by_cases h : byV x y = 0
      · rw [if_pos h, i, z.mp h]
        exact ⟨fun e => by rw [e], fun e => by cases e; rfl⟩
      · rw [if_neg h]
        exact ⟨fun e => absurd e h, fun e => absurd (z.mpr (by cases e; rfl)) h⟩
theorem byL_p : ∀ {xs ys : List (Option Int64)}, xs.length = ys.length → okOs xs → okOs ys → (0 < byL xs ys ↔ byL ys xs < 0) := by
  intro xs
  induction xs with
  | nil =>
    intro ys hl _ _
    cases ys with
    | nil => exact ⟨fun h => absurd (show (0 : Int32) < nI 0 from h) (by decide), fun h => absurd (show nI 0 < 0 from h) (by decide)⟩
    | cons y ys => cases hl
  | cons x xs ih =>
    intro ys hl hx hy
    cases ys with
    | nil => cases hl
    | cons y ys =>
      have z := byV_z hx.h hy.h
      have z' := byV_z hy.h hx.h
      have i := ih (ys := ys) (Nat.succ.inj hl) hx.t hy.t
      show 0 < (if byV x y = 0 then byL xs ys else byV x y) ↔ (if byV y x = 0 then byL ys xs else byV y x) < 0
      by_cases h : byV x y = 0
      · rw [if_pos h, if_pos (z'.mpr (z.mp h).symm)]; exact i
      · rw [if_neg h, if_neg (fun q => h (z.mpr (z'.mp q).symm))]; exact byV_p hx.h hy.h
theorem byL_irr (hx : okOs xs) : ¬ byL xs xs < 0 := by
  rw [(byL_z rfl hx hx).mpr rfl]; decide
theorem byL_tr : ∀ {xs ys zs : List (Option Int64)}, xs.length = ys.length → ys.length = zs.length → okOs xs → okOs ys → okOs zs → byL xs ys < 0 → byL ys zs < 0 → byL xs zs < 0 := by
  intro xs
  induction xs with
  | nil =>
    intro ys zs _ _ _ _ _ h1 _
    cases ys <;> exact absurd (show nI 0 < 0 from h1) (by decide)
  | cons x xs ih =>
    intro ys zs hl hl2 hx hy hz h1 h2
    cases ys with
    | nil => cases hl
    | cons y ys =>
      cases zs with
      | nil => cases hl2
      | cons z zs =>
        have h1' : (if byV x y = 0 then byL xs ys else byV x y) < 0 := h1
        have h2' : (if byV y z = 0 then byL ys zs else byV y z) < 0 := h2
        show (if byV x z = 0 then byL xs zs else byV x z) < 0
        have e1 := byV_z hx.h hy.h
        have e2 := byV_z hy.h hz.h
        have e3 := byV_z hx.h hz.h
        by_cases k1 : x = y
        · subst k1
          rw [if_pos (e1.mpr rfl)] at h1'
          by_cases k2 : x = z
          · subst k2
            rw [if_pos (e2.mpr rfl)] at h2'
            rw [if_pos (e3.mpr rfl)]
            exact ih (Nat.succ.inj hl) (Nat.succ.inj hl2) hx.t hy.t hz.t h1' h2'
          · rw [if_neg (fun q => k2 (e2.mp q))] at h2'
            rw [if_neg (fun q => k2 (e3.mp q))]
            exact h2'
        · rw [if_neg (fun q => k1 (e1.mp q))] at h1'
          by_cases k2 : y = z
          · subst k2
            rw [if_neg (fun q => k1 (e3.mp q))]
            exact h1'
          · rw [if_neg (fun q => k2 (e2.mp q))] at h2'
            have h3 := byV_tr hx.h hy.h hz.h h1' h2'
            rw [if_neg (fun q => by rw [q] at h3; exact absurd h3 (by decide))]
            exact h3
theorem byL_tot (hl : xs.length = ys.length) (hx : okOs xs) (hy : okOs ys) : byL xs ys < 0 ∨ xs = ys ∨ byL ys xs < 0 := by
  rcases i32tri (byL xs ys) with h | h | h
  · exact .inl h
  · exact .inr (.inl ((byL_z hl hx hy).mp h))
  · exact .inr (.inr ((byL_p hl hx hy).mp h))
/-- rows of one answer -/
def Dm (n : Nat) (r : Rw) : Prop := okO r.1 ∧ r.2.length = n ∧ okOs r.2
variable {n : Nat} {p q r : Rw} {fl : Bool}
def l1 (fl : Bool) (a b : Option Int64) : Prop := if fl = true then byV b a < 0 else byV a b < 0
theorem l1_irr (ha : okO a) : ¬ l1 fl a a := by unfold l1; cases fl <;> exact byV_irr ha
theorem l1_tr (ha : okO a) (hb : okO b) (hc : okO c) (h1 : l1 fl a b) (h2 : l1 fl b c) : l1 fl a c := by
  unfold l1 at *
  cases fl
  · exact byV_tr ha hb hc h1 h2
  · exact byV_tr hc hb ha h2 h1
theorem l1_tot (ha : okO a) (hb : okO b) : l1 fl a b ∨ a = b ∨ l1 fl b a := by
  unfold l1
  cases fl
  · exact byV_tot ha hb
  · rcases byV_tot ha hb with h | h | h
    · exact .inr (.inr h)
    · exact .inr (.inl h)
    · exact .inl h
theorem befR_iff (hp : Dm n p) (hq : Dm n q) : befR fl p q = true ↔ l1 fl p.1 q.1 ∨ (p.1 = q.1 ∧ byL p.2 q.2 < 0) := by
  have z := byV_z hp.1 hq.1
  unfold befR
  by_cases h : byV p.1 q.1 = 0
  · rw [if_pos h, decide_eq_true_eq]
    have e := z.mp h
    refine ⟨fun w => .inr ⟨e, w⟩, fun w => ?_⟩
    rcases w with w | w
    · rw [e] at w; exact absurd w (l1_irr hq.1)
    · exact w.2
  · rw [if_neg h]
    have ne : ¬ p.1 = q.1 := fun e => h (z.mpr e)
    unfold l1
    cases fl
    · rw [if_neg (by decide), if_neg (by decide), decide_eq_true_eq]
      exact ⟨fun w => .inl w, fun w => by rcases w with w | w; exact w; exact absurd w.1 ne⟩
    · rw [if_pos rfl, if_pos rfl, decide_eq_true_eq, byV_p hp.1 hq.1]
      exact ⟨fun w => .inl w, fun w => by rcases w with w | w; exact w; exact absurd w.1 ne⟩
theorem befR_irr (hp : Dm n p) : befR fl p p = false := by
  cases h : befR fl p p with
  | false => rfl
  | true =>
    rcases (befR_iff hp hp).mp h with w | w
    · exact absurd w (l1_irr hp.1)
    · exact absurd w.2 (byL_irr hp.2.2)
theorem befR_tr (hp : Dm n p) (hq : Dm n q) (hr : Dm n r) (h1 : befR fl p q = true) (h2 : befR fl q r = true) : befR fl p r = true := by
  rw [befR_iff hp hr]
  rcases (befR_iff hp hq).mp h1 with w | ⟨w1, w2⟩
  · rcases (befR_iff hq hr).mp h2 with u | ⟨u1, u2⟩
    · exact .inl (l1_tr hp.1 hq.1 hr.1 w u)
    · rw [u1] at w; exact .inl w
  · rcases (befR_iff hq hr).mp h2 with u | ⟨u1, u2⟩
    · rw [← w1] at u; exact .inl u
    · exact .inr ⟨w1.trans u1, byL_tr (hp.2.1.trans hq.2.1.symm) (hq.2.1.trans hr.2.1.symm) hp.2.2 hq.2.2 hr.2.2 w2 u2⟩
theorem befR_tot (hp : Dm n p) (hq : Dm n q) (h1 : befR fl p q = false) (h2 : befR fl q p = false) : p = q := by
  have k1 : ¬ befR fl p q = true := by rw [h1]; decide
  have k2 : ¬ befR fl q p = true := by rw [h2]; decide
  rw [befR_iff hp hq] at k1
  rw [befR_iff hq hp] at k2
  rcases l1_tot (fl := fl) hp.1 hq.1 with w | w | w
  · exact absurd (.inl w) k1
  · rcases byL_tot (hp.2.1.trans hq.2.1.symm) hp.2.2 hq.2.2 with u | u | u
    · exact absurd (.inr ⟨w, u⟩) k1
    · exact Prod.ext w u
    · exact absurd (.inr ⟨w.symm, u⟩) k2
  · exact absurd (.inl w) k2
/-- not before one that is not behind a third -/
theorem befR_le (hp : Dm n p) (hq : Dm n q) (hr : Dm n r) (h1 : befR fl p q = false) (h2 : befR fl q r = false) : befR fl p r = false := by
  cases h : befR fl p r with
  | false => rfl
  | true =>
    cases h3 : befR fl r q with
    | true => rw [befR_tr hp hr hq h h3] at h1; cases h1
    | false =>
      have := befR_tot hq hr h2 h3
      rw [← this, h1] at h; cases h
end ORD
