/-! PLAIN: what a query holds -/
section PQ
variable {cs : List Nat}
theorem pCols_6 : ∀ (k : Nat) {s s' : PS} {vs : List Nat}, pCols cs k s = .ok (vs, s') → (∀ v ∈ vs, v < 6) ∧ vs.length ≤ k := by
  intro k
  induction k with
  | zero => intro s s' vs hv; cases hv
  | succ k ih =>
    intro s s' vs hv
    unfold pCols at hv
    cases hq : pVar cs s with
    | error q => rw [hq] at hv; cases hv
    | ok r =>
      obtain ⟨v, s1⟩ := r
      rw [hq] at hv
      have m1 := pVar_6 hq
      dsimp only at hv
      split at hv
      · cases hu : pCols cs k s1 with
        | error q => rw [hu] at hv; cases hv
        | ok r2 =>
          obtain ⟨gs, s2⟩ := r2
          rw [hu] at hv
          cases hv
          have m2 := ih hu
          refine ⟨fun w hw => ?_, by rw [List.length_cons]; omega⟩
          rcases List.mem_cons.mp hw with rfl | hw
          · exact m1
          · exact m2.1 w hw
      · cases hv
        exact ⟨fun w hw => by rw [List.mem_singleton.mp hw]; exact m1, by rw [List.length_singleton]; omega⟩
theorem pOrd_6 {s s' : PS} {o : Option Nat × Bool} (hv : pOrd cs s = .ok (o, s')) : ∀ v, o.1 = some v → v < 6 := by
  unfold pOrd at hv
  split at hv
  · cases hq : pVar cs (nx cs s) with
    | error q => rw [hq] at hv; cases hv
    | ok r =>
      obtain ⟨v, s1⟩ := r
      rw [hq] at hv
      have m1 := pVar_6 hq
      dsimp only at hv
      split at hv <;> cases hv <;> intro w hw <;> cases hw <;> exact m1
  · cases hv; intro w hw; cases hw
theorem pOrd_mo {s s' : PS} {o : Option Nat × Bool} (hs : s.1 ≤ cs.length) (hv : pOrd cs s = .ok (o, s')) : s'.1 ≤ cs.length := by
  unfold pOrd at hv
  split at hv
  · have m0 := nx_mo (cs := cs) hs
    cases hq : pVar cs (nx cs s) with
    | error q => rw [hq] at hv; cases hv
    | ok r =>
      obtain ⟨v, s1⟩ := r
      rw [hq] at hv
      have m1 := pVar_mo m0.2.1 hq
      dsimp only at hv
      split at hv
      · cases hv; exact (nx_mo m1.2.1).2.1
      · cases hv; exact m1.2.1
  · cases hv; exact hs
theorem pLim_9 {s s' : PS} {l : Option Nat} (hs : s.1 ≤ cs.length) (hv : pLim cs s = .ok (l, s')) : l.getD 150 < 10000 ∧ ∀ n, l = some n → n < 10000 := by
  unfold pLim at hv
  split at hv
  · have m0 := nx_mo (cs := cs) hs
    split at hv
    · rename_i h2
      cases hv
      have hn := ((lex_w m0.2.1).1.2.1 h2).lt
      exact ⟨hn, fun n q => by cases q; exact hn⟩
    · cases hv
  · cases hv; exact ⟨by decide, fun n q => by cases q⟩
theorem pQ_K {y : Qry} (h : pQry cs = .ok y) : (∀ v ∈ y.2.1, v < 6) ∧ y.2.1.length ≤ 6 ∧ (∀ v, y.2.2.2.1.1 = some v → v < 6) ∧ y.2.2.2.2.getD 150 < 10000 ∧ (∀ n, y.2.2.2.2 = some n → n < 10000) ∧ GK 4 y.2.2.1 := by
  unfold pQry at h
  split at h
  · have key : ∀ (di : Bool) (s : PS), s.1 ≤ cs.length → pRest cs di s = .ok y → (∀ v ∈ y.2.1, v < 6) ∧ y.2.1.length ≤ 6 ∧ (∀ v, y.2.2.2.1.1 = some v → v < 6) ∧ y.2.2.2.2.getD 150 < 10000 ∧ (∀ n, y.2.2.2.2 = some n → n < 10000) ∧ GK 4 y.2.2.1 := by
      intro di s hs hr
      unfold pRest at hr
      cases h1 : pCols cs 6 s with
      | error q => rw [h1] at hr; cases hr
      | ok r1 =>
        obtain ⟨vs, s2⟩ := r1
        rw [h1] at hr
        dsimp only at hr
        have m1 := pCols_mo 6 hs h1
        have c1 := pCols_6 6 h1
        cases h2 : pG cs 4 s2 with
        | error q => rw [h2] at hr; cases hr
        | ok r2 =>
          obtain ⟨g, s3⟩ := r2
          rw [h2] at hr
          dsimp only at hr
          have m2 := pG_mo cs 4 _ _ _ m1.2.1 h2
          have c2 := pG_K 4 _ _ _ m1.2.1 h2
          cases h3 : pOrd cs s3 with
          | error q => rw [h3] at hr; cases hr
          | ok r3 =>
            obtain ⟨o, s4⟩ := r3
            rw [h3] at hr
            dsimp only at hr
            have c3 := pOrd_6 h3
            cases h4 : pLim cs s4 with
            | error q => rw [h4] at hr; cases hr
            | ok r4 =>
              obtain ⟨l, s5⟩ := r4
              rw [h4] at hr
              dsimp only at hr
              have c4 := pLim_9 (pOrd_mo m2.2.1 h3) h4
              split at hr
              · cases hr
                exact ⟨c1.1, c1.2, c3, c4.1, c4.2, c2⟩
              · cases hr
    have m0 := nx_mo (cs := cs) (s := (0, [], 0)) (Nat.zero_le _)
    have m1 := nx_mo (cs := cs) m0.2.1
    split at h
    · exact key _ _ m1.2.1 h
    · exact key _ _ m0.2.1 h
  · cases h
end PQ
theorem entR_len {di fa : Bool} {r : Rw} {R : List Rw} : (entR di fa r R).length ≤ R.length + 1 := by
  unfold entR
  split
  · split
    · split
      · rw [insR_len, List.length_eraseIdx]; split <;> omega
      · omega
    · rw [insR_len]; exact Nat.le_refl _
  · rw [insR_len]; exact Nat.le_refl _
theorem insR_mem {fa : Bool} {r x : Rw} {R : List Rw} : x ∈ insR fa r R ↔ x = r ∨ x ∈ R := by
  unfold insR
  rw [List.mem_append, List.mem_cons]
  have h : x ∈ R ↔ x ∈ R.take (insP fa r R R.length) ∨ x ∈ R.drop (insP fa r R R.length) := by
    rw [← List.mem_append, List.take_append_drop]
  rw [h]
  constructor
  · rintro (z | z | z)
    · exact .inr (.inl z)
    · exact .inl z
    · exact .inr (.inr z)
  · rintro (z | z | z)
    · exact .inr (.inl z)
    · exact .inl z
    · exact .inr (.inr z)
theorem entR_mem {di fa : Bool} {r x : Rw} {R : List Rw} (h : x ∈ entR di fa r R) : x = r ∨ x ∈ R := by
  unfold entR at h
  split at h
  · split at h
    · split at h
      · rcases insR_mem.mp h with z | z
        · exact .inl z
        · exact .inr (List.mem_of_mem_eraseIdx z)
      · exact .inr h
    · exact insR_mem.mp h
  · exact insR_mem.mp h
def etR (di fa : Bool) (rs : List Rw) (R : List Rw) : List Rw := rs.foldl (fun R r => entR di fa r R) R
theorem etR_snoc {di fa : Bool} {rs R : List Rw} {r : Rw} : etR di fa (rs ++ [r]) R = entR di fa r (etR di fa rs R) := by
  unfold etR; rw [List.foldl_append]; rfl
