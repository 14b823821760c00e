/-! WHAT IS READ is well made -/
def EK {G : Type} (P : G → Prop) (e : El G) : Prop := match e with
  | .inl p => SdK p.1 ∧ SdK p.2.1 ∧ SdK p.2.2
  | .inr (.inl t) => CoK t.2
  | .inr (.inr (.inl g)) => P g
  | .inr (.inr (.inr (.inl g))) => P g
  | .inr (.inr (.inr (.inr gs))) => (∀ g ∈ gs, P g) ∧ 1 ≤ gs.length ∧ gs.length ≤ 12
def GK : (n : Nat) → GT n → Prop
  | 0 => fun e => nomatch e
  | n + 1 => fun els => ∀ e ∈ (show List (El (GT n)) from els), EK (GK n) e
theorem okT_w {w : List Nat} (h : isW w) : okT (wcode w) := .inl ⟨w, h, rfl⟩
theorem okT_n {w : List Nat} (h : isNu w) : okT (-1 - ncode w) := .inr ⟨nN w, by have := h.lt; omega, by rw [ncode_n w h.2.2]⟩
section GKS
variable {cs : List Nat} {G : Type} {grp : PS → Rp G}
theorem pVar_6 {s s' : PS} {v : Nat} (h : pVar cs s = .ok (v, s')) : v < 6 := by
  unfold pVar at h
  split at h
  · dsimp only at h
    split at h
    · injection h with h; injection h with h1 h2; omega
    · cases h
  · cases h
theorem pSide_K {s s' : PS} {a : Sd} (hs : s.1 ≤ cs.length) (h : pSide cs s = .ok (a, s')) : SdK a := by
  have w := (lex_w hs).1
  unfold pSide at h
  split at h
  · cases hv : pVar cs s with
    | error q => rw [hv] at h; cases h
    | ok r => obtain ⟨v, s1⟩ := r; rw [hv] at h; cases h; exact pVar_6 hv
  · split at h
    · next h2 => cases h; exact okT_n (w.2.1 h2)
    · next h2 =>
      split at h
      · next h3 =>
        cases h
        have h4 := of_decide_eq_true h3
        rcases h4 with q | q
        · exact absurd q h2
        · exact okT_w (w.1 (.inl q.1))
      · cases h
theorem pCore_K {s s' : PS} {a : Tst} (hs : s.1 ≤ cs.length) (h : pCore cs s = .ok (a, s')) : CoK a.2 := by
  unfold pCore at h
  split at h
  · cases hv : pVar cs (nx cs s) with
    | error q => rw [hv] at h; cases h
    | ok r => obtain ⟨v, s1⟩ := r; rw [hv] at h; cases h; exact pVar_6 hv
  · cases hv : pSide cs s with
    | error q => rw [hv] at h; cases h
    | ok r =>
      obtain ⟨v, s1⟩ := r
      rw [hv] at h
      have m1 := pSide_mo hs hv
      dsimp only at h
      split at h
      · cases hw : pSide cs (nx cs s1) with
        | error q => rw [hw] at h; cases h
        | ok r2 =>
          obtain ⟨b, s2⟩ := r2
          rw [hw] at h
          cases h
          exact ⟨pSide_K hs hv, pSide_K (nx_mo m1.2.1).2.1 hw⟩
      · cases h
theorem pTest_K : ∀ {k : Nat} {s s' : PS} {a : Tst}, s.1 ≤ cs.length → pTest cs k s = .ok (a, s') → CoK a.2 := by
  intro k
  induction k with
  | zero =>
    intro s s' a hs h
    unfold pTest at h
    split at h
    · cases h
    · exact pCore_K hs h
  | succ k ih =>
    intro s s' a hs h
    unfold pTest at h
    split at h
    · cases hv : pTest cs k (nx cs s) with
      | error q => rw [hv] at h; cases h
      | ok r => obtain ⟨v, s1⟩ := r; rw [hv] at h; cases h; exact ih (a := v) (nx_mo hs).2.1 hv
    · exact pCore_K hs h
theorem pPat_K {s s' : PS} {a : Pat} (hs : s.1 ≤ cs.length) (h : pPat cs s = .ok (a, s')) : SdK a.1 ∧ SdK a.2.1 ∧ SdK a.2.2 := by
  unfold pPat at h
  cases hA : pSide cs s with
  | error q => rw [hA] at h; cases h
  | ok r =>
    obtain ⟨a1, s1⟩ := r
    rw [hA] at h
    dsimp only at h
    have m1 := pSide_mo hs hA
    cases hB : pSide cs s1 with
    | error q => rw [hB] at h; cases h
    | ok r =>
      obtain ⟨a2, s2⟩ := r
      rw [hB] at h
      dsimp only at h
      have m2 := pSide_mo m1.2.1 hB
      cases hC : pSide cs s2 with
      | error q => rw [hC] at h; cases h
      | ok r =>
        obtain ⟨a3, s3⟩ := r
        rw [hC] at h
        cases h
        exact ⟨pSide_K hs hA, pSide_K m1.2.1 hB, pSide_K m2.2.1 hC⟩
def KG (cs : List Nat) {G : Type} (P : G → Prop) (grp : PS → Rp G) : Prop := ∀ s g s', s.1 ≤ cs.length → grp s = .ok (g, s') → P g
variable {P : G → Prop}
theorem pUni_K (hg : Mo cs grp) (hP : KG cs P grp) : ∀ k s gs s', s.1 ≤ cs.length → pUni cs grp k s = .ok (gs, s') → (∀ g ∈ gs, P g) ∧ gs.length ≤ k := by
  intro k
  induction k with
  | zero =>
    intro s gs s' hs hv
    unfold pUni at hv
    split at hv
    · cases hv
    · cases hv; exact ⟨fun _ q => (nomatch q), Nat.le_refl _⟩
  | succ k ih =>
    intro s gs s' hs hv
    unfold pUni at hv
    split at hv
    · have m1 := nx_mol (cs := cs) hs
      cases hq : grp (nx cs s) with
      | error q => rw [hq] at hv; cases hv
      | ok r =>
        obtain ⟨g1, s1⟩ := r
        rw [hq] at hv
        have m2 := hg _ _ _ m1.2.1 hq
        dsimp only at hv
        cases hu : pUni cs grp k s1 with
        | error q => rw [hu] at hv; cases hv
        | ok r2 =>
          obtain ⟨gs', s2⟩ := r2
          rw [hu] at hv
          cases hv
          obtain ⟨i1, i2⟩ := ih _ _ _ m2.2.1 hu
          refine ⟨fun g hg' => ?_, by rw [List.length_cons]; omega⟩
          rcases List.mem_cons.mp hg' with rfl | q
          · exact hP _ _ _ m1.2.1 hq
          · exact i1 g q
    · cases hv; exact ⟨fun _ q => (nomatch q), Nat.zero_le _⟩
theorem pEl_K (hg : Mo cs grp) (hP : KG cs P grp) {s s' : PS} {e : El G} (hs : s.1 ≤ cs.length) (hv : pEl cs grp s = .ok (e, s')) : EK P e := by
  unfold pEl at hv
  split at hv
  · dsimp only at hv
    have hs1 : ((s.1, s.2.1, s.2.2 + 1) : PS).1 ≤ cs.length := hs
    have m1 := nx_mol (cs := cs) (s := (s.1, s.2.1, s.2.2 + 1)) hs1
    split at hv
    · cases hq : pTest cs 4 (nx cs (s.1, s.2.1, s.2.2 + 1)) with
      | error q => rw [hq] at hv; cases hv
      | ok r => obtain ⟨t, s1⟩ := r; rw [hq] at hv; cases hv; exact pTest_K (a := t) m1.2.1 hq
    · split at hv
      · cases hq : grp (nx cs (s.1, s.2.1, s.2.2 + 1)) with
        | error q => rw [hq] at hv; cases hv
        | ok r => obtain ⟨t, s1⟩ := r; rw [hq] at hv; cases hv; exact hP _ _ _ m1.2.1 hq
      · split at hv
        · cases hq : grp (nx cs (s.1, s.2.1, s.2.2 + 1)) with
          | error q => rw [hq] at hv; cases hv
          | ok r => obtain ⟨t, s1⟩ := r; rw [hq] at hv; cases hv; exact hP _ _ _ m1.2.1 hq
        · split at hv
          · cases hq : grp (s.1, s.2.1, s.2.2 + 1) with
            | error q => rw [hq] at hv; cases hv
            | ok r =>
              obtain ⟨t, s1⟩ := r
              rw [hq] at hv
              have m2 := hg _ _ _ hs1 hq
              dsimp only at hv
              cases hu : pUni cs grp 11 s1 with
              | error q => rw [hu] at hv; cases hv
              | ok r2 =>
                obtain ⟨gs, s2⟩ := r2
                rw [hu] at hv
                cases hv
                obtain ⟨i1, i2⟩ := pUni_K hg hP 11 _ _ _ m2.2.1 hu
                refine ⟨fun g hg' => ?_, by rw [List.length_cons]; omega, by rw [List.length_cons]; omega⟩
                rcases List.mem_cons.mp hg' with rfl | q
                · exact hP _ _ _ hs1 hq
                · exact i1 g q
          · cases hq : pPat cs (s.1, s.2.1, s.2.2 + 1) with
            | error q => rw [hq] at hv; cases hv
            | ok r => obtain ⟨t, s1⟩ := r; rw [hq] at hv; cases hv; exact pPat_K hs1 hq
  · cases hv
theorem pMore_K (hg : Mo cs grp) (hP : KG cs P grp) : ∀ k s es s', s.1 ≤ cs.length → pMore cs grp k s = .ok (es, s') → ∀ e ∈ es, EK P e := by
  intro k
  induction k with
  | zero =>
    intro s es s' hs hv
    unfold pMore at hv
    split at hv
    · cases hv; exact fun _ q => nomatch q
    · split at hv <;> cases hv
  | succ k ih =>
    intro s es s' hs hv
    unfold pMore at hv
    split at hv
    · cases hv; exact fun _ q => nomatch q
    · split at hv
      · have m1 := nx_mol (cs := cs) hs
        cases hq : pEl cs grp (nx cs s) with
        | error q => rw [hq] at hv; cases hv
        | ok r =>
          obtain ⟨e, s1⟩ := r
          rw [hq] at hv
          have m2 := pEl_mo hg m1.2.1 hq
          dsimp only at hv
          cases hu : pMore cs grp k s1 with
          | error q => rw [hu] at hv; cases hv
          | ok r2 =>
            obtain ⟨es', s2⟩ := r2
            rw [hu] at hv
            cases hv
            intro e' he'
            rcases List.mem_cons.mp he' with rfl | q
            · exact pEl_K hg hP m1.2.1 hq
            · exact ih _ _ _ m2.2.1 hu e' q
      · cases hv
theorem pGr_K (hg : Mo cs grp) (hP : KG cs P grp) : KG cs (fun els => ∀ e ∈ els, EK P e) (pGr cs grp) := by
  intro s els s' hs hv
  unfold pGr at hv
  split at hv
  · have m0 := nx_mol (cs := cs) hs
    unfold pBody at hv
    split at hv
    · cases hv; exact fun _ q => nomatch q
    · cases hq : pEl cs grp (nx cs s) with
      | error q => rw [hq] at hv; cases hv
      | ok r =>
        obtain ⟨e, s1⟩ := r
        rw [hq] at hv
        have m2 := pEl_mo hg m0.2.1 hq
        dsimp only at hv
        cases hu : pMore cs grp 12 s1 with
        | error q => rw [hu] at hv; cases hv
        | ok r2 =>
          obtain ⟨es', s2⟩ := r2
          rw [hu] at hv
          cases hv
          intro e' he'
          rcases List.mem_cons.mp he' with rfl | q
          · exact pEl_K hg hP m0.2.1 hq
          · exact pMore_K hg hP 12 _ _ _ m2.2.1 hu e' q
  · cases hv
theorem pG_K : ∀ n, KG cs (GK n) (pG cs n) := by
  intro n
  induction n with
  | zero => intro s g; exact nomatch g
  | succ n ih => exact pGr_K (pG_mo cs n) ih
end GKS
section GKC
variable {G : Type} {bod : G → Nat → C4 → C4} {P : G → Prop}
def TC (c : C4) : Prop := ∀ e ∈ c.2.2.1, CoK e.2.2
theorem cUni_TC (hb : ∀ g gid c, P g → TC c → TC (bod g gid c)) : ∀ (gs : List G) (c : C4), (∀ g ∈ gs, P g) → TC c → TC (cUni bod gs c) := by
  intro gs
  induction gs with
  | nil => intro c _ h; exact h
  | cons g gs ih => intro c hP h; exact ih _ (fun q hq => hP q (List.mem_cons_of_mem _ hq)) (hb g c.2.2.2 (cOp c) (hP g (List.mem_cons_self ..)) h)
theorem cEls_TC (hb : ∀ g gid c, P g → TC c → TC (bod g gid c)) {gid : Nat} : ∀ (els : List (El G)) (c : C4), (∀ e ∈ els, EK P e) → TC c → TC (cEls bod gid els c) := by
  intro els
  induction els with
  | nil => intro c _ h; exact h
  | cons e els ih =>
    intro c hE h
    refine ih _ (fun q hq => hE q (List.mem_cons_of_mem _ hq)) ?_
    have he := hE e (List.mem_cons_self ..)
    rcases e with p | t | g | g | gs
    · exact h
    · intro q hq
      rcases List.mem_append.mp hq with z | z
      · exact h q z
      · rw [List.mem_singleton.mp z]; exact he
    · exact hb g c.2.2.2 (cOp c) he h
    · exact hb g c.2.2.2 (cOp c) he h
    · exact cUni_TC hb gs (c.1 ++ [(6, 0)], c.2) he.1 h
end GKC
theorem cB_TC : ∀ (n : Nat) (g : GT n) (gid : Nat) (c : C4), GK n g → TC c → TC (cB n g gid c) := by
  intro n
  induction n with
  | zero => intro g; exact nomatch g
  | succ n ih => intro g gid c hg h; exact cEls_TC (P := GK n) ih g c hg h
/-- the whole query -/
theorem q_F {g : GT 4} (hg : GK 4 g) (hb : CBd (cWr (cB 4 g) [] c0)) : TeK (cWr (cB 4 g) [] c0).2.2.1 := by
  have w := cWr_W (tail := []) (c := c0) (cB_E 4 g)
  have ok0 : okC c0 := fun e he => nomatch he
  have ok1 := ok0.w w
  obtain ⟨b1, b2, b3⟩ := hb
  refine ⟨by omega, fun e he => ⟨by have := ok1 e he; omega, ?_⟩⟩
  exact cB_TC 4 g 0 (cOp c0) hg (fun e he => nomatch he) e he
