/-! COMPONENT: reader, elements in a chain -/
def GrF (n lo hi : Nat) (h : AH) (u : Nat) (g : GT n) : Prop := ∀ h'', Agr lo hi h h'' → GrR h'' n u g
/-- all of it but cell a -/
def AgX (a lo hi : Nat) (h h' : AH) : Prop := ∀ q e, q ≠ a → h.1 q = some e → ((lo ≤ q ∧ q < hi) ∨ UsT e) → ∃ e', h'.1 q = some e' ∧ nrmC e' = nrmC e
/-- an element, whatever its next one will be -/
def ElS (n lo hi : Nat) (h : AH) (a : Nat) (nx : Value) (e : El (GT n)) : Prop := lo ≤ a ∧ a < hi ∧ ∃ ci rest, (ci = 10 ∨ ci = 15 ∨ ci = 16 ∨ ci = 17 ∨ ci = 18) ∧ h.1 a = some (.inr (ci, nx :: rest)) ∧ ∀ h'' nx', h''.1 a = some (.inr (ci, nx' :: rest)) → AgX a lo hi h h'' → ElR h'' (GrR h'' n) a nx' e
def nxI (L : List (Nat × Nat × Nat)) (i : Nat) : Value := match L[i]? with
  | some p => .ref p.1
  | none => .null
def ChI (n lo hi : Nat) (h : AH) (L : List (Nat × Nat × Nat)) (els : List (El (GT n))) : Prop := L.length = els.length ∧ (∀ i a l u e, L[i]? = some (a, l, u) → els[i]? = some e → lo ≤ l ∧ u ≤ hi ∧ ElS n l u h a (nxI L (i + 1)) e) ∧ ∀ (i j : Nat) (p q : Nat × Nat × Nat), i < j → L[i]? = some p → L[j]? = some q → p.2.2 ≤ q.2.1
section RD9
variable {Ω : Om} {n lo hi lo' hi' : Nat} {h h' h1 h2 : AH} {a b r c tx nm dp k m : Nat} {w cs : List Nat} {s s' : PS} {fs : List Value} {S : List Nat} {L : List (Nat × Nat × Nat)} {els : List (El (GT n))} {e : El (GT n)}
theorem GrF.to {g : GT n} (x : GrF n lo hi h a g) (y : Agr lo hi h h') : GrF n lo hi h' a g := fun h'' z => x h'' (y.trans z)
theorem GrF.mono {g : GT n} (x : GrF n lo hi h a g) (h1 : lo' ≤ lo) (h2 : hi ≤ hi') : GrF n lo' hi' h a g := fun h'' z => x h'' (z.mono h1 h2)
theorem Agr.x (y : Agr lo hi h h') : AgX a lo hi h h' := fun q e _ h1 h2 => y q e h1 h2
theorem AgX.tr (x : Agr lo hi h h1) (y : AgX a lo hi h1 h2) : AgX a lo hi h h2 := fun q e hq h3 h4 => by
  obtain ⟨e1, q1, q2⟩ := x q e h3 h4
  obtain ⟨e2, q3, q4⟩ := y q e1 hq q1 (by rcases h4 with z | z; exact .inl z; exact .inr (UsT_n q2 z))
  exact ⟨e2, q3, q4.trans q2⟩
theorem AgX.tr2 (x : AgX a lo hi h h1) (y : AgX a lo hi h1 h2) : AgX a lo hi h h2 := fun q e hq h3 h4 => by
  obtain ⟨e1, q1, q2⟩ := x q e hq h3 h4
  obtain ⟨e2, q3, q4⟩ := y q e1 hq q1 (by rcases h4 with z | z; exact .inl z; exact .inr (UsT_n q2 z))
  exact ⟨e2, q3, q4.trans q2⟩
theorem ElS.to {nx : Value} (x : ElS n lo hi h a nx e) (y : Agr lo hi h h') : ElS n lo hi h' a nx e := by
  obtain ⟨x1, x2, ci, rest, x3, x4, x5⟩ := x
  exact ⟨x1, x2, ci, rest, x3, y.ob x4 (by omega) ⟨x1, x2⟩, fun h'' nx' z1 z2 => x5 h'' nx' z1 (AgX.tr y z2)⟩
/-- its next one set -/
theorem ElS.nxt {nx nx' : Value} (x : ElS n lo hi h a nx e) : ∃ ci rest, (ci = 10 ∨ ci = 15 ∨ ci = 16 ∨ ci = 17 ∨ ci = 18) ∧ h.1 a = some (.inr (ci, nx :: rest)) ∧ ElS n lo hi (hput h a (.inr (ci, nx' :: rest))) a nx' e := by
  obtain ⟨x1, x2, ci, rest, x3, x4, x5⟩ := x
  refine ⟨ci, rest, x3, x4, x1, x2, ci, rest, x3, hput_e, fun h'' nx2 z1 z2 => x5 h'' nx2 z1 (AgX.tr2 (fun q e hq h1 _ => ⟨e, by rw [hput_n hq]; exact h1, rfl⟩) z2)⟩
theorem ChI.to (x : ChI n lo hi h L els) (y : Agr lo hi h h') : ChI n lo hi h' L els := ⟨x.1, fun i a l u e h1 h2 => by
  obtain ⟨z1, z2, z3⟩ := x.2.1 i a l u e h1 h2
  exact ⟨z1, z2, z3.to (y.mono z1 z2)⟩, x.2.2⟩
theorem ChI.mono (x : ChI n lo hi h L els) (h1 : lo' ≤ lo) (h2 : hi ≤ hi') : ChI n lo' hi' h L els := ⟨x.1, fun i a l u e q1 q2 => by
  obtain ⟨z1, z2, z3⟩ := x.2.1 i a l u e q1 q2
  exact ⟨by omega, by omega, z3⟩, x.2.2⟩
theorem ChI.nil : ChI n lo hi h [] [] := ⟨rfl, fun i a l u e q => by simp at q, fun i j p q _ z => by simp at z⟩
/-- the chain as it is read -/
theorem ChI.rd (x : ChI n lo hi h L els) (y : Agr lo hi h h') : ChR h' (GrR h' n) (nxI L 0) els := by
  have key : ∀ (m k : Nat), k + m = els.length → ChR h' (GrR h' n) (nxI L k) (els.drop k) := by
    intro m
    induction m with
    | zero =>
      intro k hk
      have : els.drop k = [] := List.drop_eq_nil_iff.mpr (by omega)
      rw [this]
      have hL : L[k]? = none := List.getElem?_eq_none (by rw [x.1]; omega)
      show nxI L k = .null
      unfold nxI
      rw [hL]
    | succ m ih =>
      intro k hk
      have hkl : k < els.length := by omega
      have hkL : k < L.length := by rw [x.1]; exact hkl
      have hg : els[k]? = some els[k] := List.getElem?_eq_getElem hkl
      have hdr : els.drop k = els[k] :: els.drop (k + 1) := List.drop_eq_getElem_cons hkl
      have hgL : L[k]? = some L[k] := List.getElem?_eq_getElem hkL
      generalize els[k] = e at hg hdr
      generalize hp : L[k] = p at hgL
      obtain ⟨a, l, u⟩ := p
      obtain ⟨z1, z2, x1, x2, ci, rest, x3, x4, x5⟩ := x.2.1 k a l u e hgL hg
      rw [hdr]
      have hv : nxI L k = .ref a := by unfold nxI; rw [hgL]
      rw [hv]
      have hc := (y.mono z1 z2).ob x4 (by omega) ⟨x1, x2⟩
      refine ⟨a, nxI L (k + 1), rfl, x5 h' _ hc (y.mono z1 z2).x, ih (k + 1) (by omega), ?_⟩
      unfold nxI
      cases L[k + 1]? with
      | none => exact .inl rfl
      | some p => exact .inr ⟨p.1, rfl⟩
  have := key els.length 0 (by omega)
  rw [List.drop_zero] at this
  exact this
/-- one more, where none was -/
theorem ChI.one (hl : lo ≤ lo') (hh : hi' ≤ hi) (x : ElS n lo' hi' h a .null e) : ChI n lo hi h [(a, lo', hi')] [e] := by
  refine ⟨rfl, fun i a' l u e' q1 q2 => ?_, fun i j p q hij q1 q2 => ?_⟩
  · have hi0 : i = 0 := by have := (List.getElem?_eq_some_iff.mp q1).1; simp at this; exact this
    subst hi0
    simp at q1 q2
    obtain ⟨rfl, rfl, rfl⟩ := q1
    subst q2
    exact ⟨hl, hh, x⟩
  · have := (List.getElem?_eq_some_iff.mp q2).1
    simp at this
    omega
/-- one more behind the last one -/
theorem ChI.snoc {l0 u0 a0 ci : Nat} {rest : List Value} (x : ChI n lo hi h L els) (hL : L.getLast? = some (a0, l0, u0)) (hc : h.1 a0 = some (.inr (ci, .null :: rest))) (hle : hi ≤ lo') (hhi : hi' ≤ k) (hkk : hi ≤ k) (y : ElS n lo' hi' h b .null e) : ChI n lo k (hput h a0 (.inr (ci, .ref b :: rest))) (L ++ [(b, lo', hi')]) (els ++ [e]) := by
  have hne : L ≠ [] := fun q => by rw [q] at hL; cases hL
  have hlen : 0 < L.length := List.length_pos_iff.mpr hne
  have hlast : L[L.length - 1]? = some (a0, l0, u0) := by rw [← List.getLast?_eq_getElem?]; exact hL
  obtain ⟨elast, hel⟩ : ∃ e0, els[L.length - 1]? = some e0 := ⟨_, List.getElem?_eq_getElem (by rw [← x.1]; omega)⟩
  obtain ⟨w1, w2, w3⟩ := x.2.1 _ _ _ _ _ hlast hel
  have hnl : nxI L (L.length - 1 + 1) = .null := by
    unfold nxI
    rw [List.getElem?_eq_none (by omega)]
  rw [hnl] at w3
  have a0r := w3.1
  have a0r2 := w3.2.1
  have hcl : ci = 10 ∨ ci = 15 ∨ ci = 16 ∨ ci = 17 ∨ ci = 18 := by
    obtain ⟨_, _, ci', rest', v1, v2, _⟩ := w3
    rw [hc] at v2; cases v2; exact v1
  have hn3 : ci ≠ 3 ∧ ci ≠ 4 ∧ ci ≠ 23 := by omega
  refine ⟨by rw [List.length_append, List.length_append, x.1]; rfl, fun i a l u e' q1 q2 => ?_, fun i j p q hij q1 q2 => ?_⟩
  · rcases getE_snoc q1 with q1' | ⟨hil, q1'⟩
    · have hil := (List.getElem?_eq_some_iff.mp q1').1
      have q2' : els[i]? = some e' := by
        rw [List.getElem?_append_left (by rw [← x.1]; exact hil)] at q2; exact q2
      obtain ⟨z1, z2, z3⟩ := x.2.1 i a l u e' q1' q2'
      by_cases hi1 : i = L.length - 1
      · subst hi1
        rw [hlast] at q1'
        cases q1'
        rw [hel] at q2'
        cases q2'
        have hnx : nxI (L ++ [(b, lo', hi')]) (L.length - 1 + 1) = .ref b := by
          unfold nxI
          rw [show L.length - 1 + 1 = L.length by omega, List.getElem?_append_right (Nat.le_refl _), Nat.sub_self]
          rfl
        rw [hnx]
        rw [hnl] at z3
        obtain ⟨ci2, rest2, v1, v2, v3⟩ := z3.nxt (nx' := .ref b)
        rw [hc] at v2
        cases v2
        exact ⟨z1, by omega, v3⟩
      · have hnx : nxI (L ++ [(b, lo', hi')]) (i + 1) = nxI L (i + 1) := by
          unfold nxI
          rw [List.getElem?_append_left (by omega)]
        rw [hnx]
        have hord := x.2.2 i (L.length - 1) _ _ (by omega) q1' hlast
        refine ⟨z1, by omega, z3.to (Agr.put hc hn3 (.inr ?_))⟩
        show u ≤ a0
        have : u ≤ l0 := hord
        omega
    · cases q1'
      rw [hil] at q2
      rw [List.getElem?_append_right (by rw [x.1]; exact Nat.le_refl _), x.1, Nat.sub_self] at q2
      simp at q2
      subst q2
      have hnx : nxI (L ++ [(b, lo', hi')]) (i + 1) = .null := by
        unfold nxI
        rw [List.getElem?_eq_none (by rw [List.length_append, List.length_singleton]; omega)]
      rw [hnx]
      exact ⟨by omega, hhi, y.to (Agr.put hc hn3 (.inl (by omega)))⟩
  · rcases getE_snoc q2 with q2' | ⟨hjl, q2'⟩
    · have hjl := (List.getElem?_eq_some_iff.mp q2').1
      rw [List.getElem?_append_left (by omega)] at q1
      exact x.2.2 i j p q hij q1 q2'
    · rw [q2']
      rw [List.getElem?_append_left (by omega)] at q1
      have hil := (List.getElem?_eq_some_iff.mp q1).1
      obtain ⟨e0, he0⟩ : ∃ e0, els[i]? = some e0 := ⟨_, List.getElem?_eq_getElem (by rw [← x.1]; exact hil)⟩
      obtain ⟨a1, l1, u1⟩ := p
      have := (x.2.1 i a1 l1 u1 e0 q1 he0).2.1
      show u1 ≤ lo'
      omega
end RD9
