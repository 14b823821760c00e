/-! PLAIN: how much a query can hold -/
def MC (cs : List Nat) {G : Type} (cn : G → Nat × Nat) (grp : PS → Rp G) : Prop := ∀ s g s', s.1 ≤ cs.length → s.2.2 ≤ 12 → grp s = .ok (g, s') → s.1 + (cn g).2 ≤ s'.1 ∧ s'.1 ≤ cs.length ∧ s.2.2 + (cn g).1 ≤ s'.2.2 ∧ s'.2.2 ≤ 12
section MCN
variable {cs : List Nat} {G : Type} {grp : PS → Rp G} {cn : G → Nat × Nat}
theorem pUni_mc (hg : MC cs cn grp) : ∀ k, MC cs (cntL cn) (pUni cs grp k) := by
  intro k
  induction k with
  | zero =>
    intro s g s' hs h12 hv
    unfold pUni at hv
    split at hv
    · cases hv
    · cases hv; exact ⟨Nat.le_refl _, hs, Nat.le_refl _, h12⟩
  | succ k ih =>
    intro s g s' hs h12 hv
    unfold pUni at hv
    split at hv
    · have m1 := nx_mo (cs := cs) hs
      cases hq : grp (nx cs s) with
      | error q => rw [hq] at hv; cases hv
      | ok r =>
        obtain ⟨g1, s1⟩ := r
        rw [hq] at hv
        have m2 := hg _ _ _ m1.2.1 (by omega) hq
        dsimp only at hv
        cases hu : pUni cs grp k s1 with
        | error q => rw [hu] at hv; cases hv
        | ok r2 =>
          obtain ⟨gs, s2⟩ := r2
          rw [hu] at hv
          cases hv
          have m3 := ih _ _ _ m2.2.1 m2.2.2.2 hu
          have e : cntL cn (g1 :: gs) = ((cn g1).1 + (cntL cn gs).1, (cn g1).2 + (cntL cn gs).2) := rfl
          rw [e]
          exact ⟨by show _ + ((cn g1).2 + (cntL cn gs).2) ≤ _; omega, m3.2.1, by show _ + ((cn g1).1 + (cntL cn gs).1) ≤ _; omega, m3.2.2.2⟩
    · cases hv; exact ⟨Nat.le_refl _, hs, Nat.le_refl _, h12⟩
theorem pEl_mc (hg : MC cs cn grp) {s s' : PS} {e : El G} (hs : s.1 ≤ cs.length) (hv : pEl cs grp s = .ok (e, s')) : s.1 + (cntE cn e).2 ≤ s'.1 ∧ s'.1 ≤ cs.length ∧ s.2.2 + (cntE cn e).1 ≤ s'.2.2 ∧ s'.2.2 ≤ 12 := by
  unfold pEl at hv
  split at hv
  · rename_i hcond
    have h12 : s.2.2 < 12 := by
      rw [Bool.and_eq_true] at hcond
      exact of_decide_eq_true hcond.2
    dsimp only at hv
    have hs1 : ((s.1, s.2.1, s.2.2 + 1) : PS).1 ≤ cs.length := hs
    have m1 := nx_mo (cs := cs) (s := (s.1, s.2.1, s.2.2 + 1)) hs1
    have m1c : (nx cs (s.1, s.2.1, s.2.2 + 1)).2.2 = s.2.2 + 1 := m1.2.2
    have m1a : s.1 ≤ (nx cs (s.1, s.2.1, s.2.2 + 1)).1 := m1.1
    split at hv
    · cases hq : pTest cs 4 (nx cs (s.1, s.2.1, s.2.2 + 1)) with
      | error q => rw [hq] at hv; cases hv
      | ok r =>
        obtain ⟨t, s1⟩ := r; rw [hq] at hv; cases hv
        have m2 := pTest_mo m1.2.1 hq
        exact ⟨by show _ + 0 ≤ _; omega, m2.2.1, by show _ + 1 ≤ _; omega, by omega⟩
    · split at hv
      · cases hq : grp (nx cs (s.1, s.2.1, s.2.2 + 1)) with
        | error q => rw [hq] at hv; cases hv
        | ok r =>
          obtain ⟨t, s1⟩ := r; rw [hq] at hv; cases hv
          have m2 := hg _ _ _ m1.2.1 (by omega) hq
          exact ⟨by show _ + (cn t).2 ≤ _; omega, m2.2.1, by show _ + ((cn t).1 + 1) ≤ _; omega, m2.2.2.2⟩
      · split at hv
        · cases hq : grp (nx cs (s.1, s.2.1, s.2.2 + 1)) with
          | error q => rw [hq] at hv; cases hv
          | ok r =>
            obtain ⟨t, s1⟩ := r; rw [hq] at hv; cases hv
            have m2 := hg _ _ _ m1.2.1 (by omega) hq
            exact ⟨by show _ + (cn t).2 ≤ _; omega, m2.2.1, by show _ + ((cn t).1 + 1) ≤ _; omega, m2.2.2.2⟩
        · split at hv
          · cases hq : grp (s.1, s.2.1, s.2.2 + 1) with
            | error q => rw [hq] at hv; cases hv
            | ok r =>
              obtain ⟨t, s1⟩ := r
              rw [hq] at hv
              have m2 := hg _ _ _ hs1 (show s.2.2 + 1 ≤ 12 by omega) hq
              dsimp only at hv
              cases hu : pUni cs grp 11 s1 with
              | error q => rw [hu] at hv; cases hv
              | ok r2 =>
                obtain ⟨gs, s2⟩ := r2; rw [hu] at hv; cases hv
                have m3 := pUni_mc hg 11 _ _ _ m2.2.1 m2.2.2.2 hu
                have m2a : s.1 + (cn t).2 ≤ s1.1 := m2.1
                have m2b : s.2.2 + 1 + (cn t).1 ≤ s1.2.2 := m2.2.2.1
                exact ⟨by show _ + ((cn t).2 + (cntL cn gs).2) ≤ _; omega, m3.2.1, by show _ + ((cn t).1 + (cntL cn gs).1 + 1) ≤ _; omega, m3.2.2.2⟩
          · cases hq : pPat cs (s.1, s.2.1, s.2.2 + 1) with
            | error q => rw [hq] at hv; cases hv
            | ok r =>
              obtain ⟨t, s1⟩ := r; rw [hq] at hv; cases hv
              have m2 := pPat_mo hs1 hq
              have m2a : s.1 ≤ s'.1 := m2.1
              have m2b : s'.2.2 = s.2.2 + 1 := m2.2.2
              exact ⟨by show _ + 0 ≤ _; omega, m2.2.1, by show _ + 1 ≤ _; omega, by omega⟩
  · cases hv
theorem pMore_mc (hg : MC cs cn grp) : ∀ k, MC cs (cntL (cntE cn)) (pMore cs grp k) := by
  intro k
  induction k with
  | zero =>
    intro s g s' hs h12 hv
    unfold pMore at hv
    split at hv
    · cases hv
      have m1 := nx_mo (cs := cs) hs
      exact ⟨m1.1, m1.2.1, Nat.le_of_eq m1.2.2.symm, by omega⟩
    · split at hv <;> cases hv
  | succ k ih =>
    intro s g s' hs h12 hv
    have m1 := nx_mo (cs := cs) hs
    unfold pMore at hv
    split at hv
    · cases hv
      exact ⟨m1.1, m1.2.1, Nat.le_of_eq m1.2.2.symm, by omega⟩
    · split at hv
      · cases hq : pEl cs grp (nx cs s) with
        | error q => rw [hq] at hv; cases hv
        | ok r =>
          obtain ⟨g1, s1⟩ := r
          rw [hq] at hv
          have m2 := pEl_mc hg m1.2.1 hq
          dsimp only at hv
          cases hu : pMore cs grp k s1 with
          | error q => rw [hu] at hv; cases hv
          | ok r2 =>
            obtain ⟨gs, s2⟩ := r2
            rw [hu] at hv
            cases hv
            have m3 := ih _ _ _ m2.2.1 m2.2.2.2 hu
            exact ⟨by show _ + ((cntE cn g1).2 + (cntL (cntE cn) gs).2) ≤ _; omega, m3.2.1, by show _ + ((cntE cn g1).1 + (cntL (cntE cn) gs).1) ≤ _; omega, m3.2.2.2⟩
      · cases hv
theorem pBody_mc (hg : MC cs cn grp) : MC cs (cntL (cntE cn)) (pBody cs grp) := by
  intro s g s' hs h12 hv
  unfold pBody at hv
  split at hv
  · cases hv
    have m1 := nx_mo (cs := cs) hs
    exact ⟨m1.1, m1.2.1, Nat.le_of_eq m1.2.2.symm, by omega⟩
  · cases hq : pEl cs grp s with
    | error q => rw [hq] at hv; cases hv
    | ok r =>
      obtain ⟨g1, s1⟩ := r
      rw [hq] at hv
      have m2 := pEl_mc hg hs hq
      dsimp only at hv
      cases hu : pMore cs grp 12 s1 with
      | error q => rw [hu] at hv; cases hv
      | ok r2 =>
        obtain ⟨gs, s2⟩ := r2
        rw [hu] at hv
        cases hv
        have m3 := pMore_mc hg 12 _ _ _ m2.2.1 m2.2.2.2 hu
        exact ⟨by show _ + ((cntE cn g1).2 + (cntL (cntE cn) gs).2) ≤ _; omega, m3.2.1, by show _ + ((cntE cn g1).1 + (cntL (cntE cn) gs).1) ≤ _; omega, m3.2.2.2⟩
end MCN
theorem pG_mc (cs : List Nat) : ∀ n, MC cs (cnt n) (pG cs n) := by
  intro n
  induction n with
  | zero => intro s g; exact nomatch g
  | succ n ih =>
    intro s g s' hs h12 hv
    change pGr cs (pG cs n) s = _ at hv
    unfold pGr at hv
    split at hv
    · rename_i h123
      have m1 := nx_mo (cs := cs) hs
      have hlt := nx_lt hs (isSg_0 h123)
      have m2 := pBody_mc ih _ _ _ m1.2.1 (by omega) hv
      exact ⟨by show _ + ((cntL (cntE (cnt n)) g).2 + 1) ≤ _; omega, m2.2.1, by show _ + (cntL (cntE (cnt n)) g).1 ≤ _; omega, m2.2.2.2⟩
    · cases hv
theorem pCols_mo {cs : List Nat} : ∀ (k : Nat) {s s' : PS} {vs : List Nat}, s.1 ≤ cs.length → pCols cs k s = .ok (vs, s') → s.1 ≤ s'.1 ∧ s'.1 ≤ cs.length ∧ s'.2.2 = s.2.2 := by
  intro k
  induction k with
  | zero => intro s s' vs hs hv; cases hv
  | succ k ih =>
    intro s s' vs hs hv
    unfold pCols at hv
    cases hq : pVar cs s with
    | error q => rw [hq] at hv; cases hv
    | ok r =>
      obtain ⟨v, s1⟩ := r
      rw [hq] at hv
      have m1 := pVar_mo hs hq
      dsimp only at hv
      split at hv
      · cases hu : pCols cs k s1 with
        | error q => rw [hu] at hv; cases hv
        | ok r2 =>
          obtain ⟨gs, s2⟩ := r2
          rw [hu] at hv
          cases hv
          have m2 := ih m1.2.1 hu
          exact ⟨by omega, m2.2.1, by omega⟩
      · cases hv; exact m1
theorem pQ_cnt {cs : List Nat} {y : Qry} (h : pQry cs = .ok y) : (cnt 4 y.2.2.1).1 ≤ 12 ∧ (cnt 4 y.2.2.1).2 ≤ cs.length := by
  unfold pQry at h
  split at h
  · have key : ∀ (di : Bool) (s : PS), s.1 ≤ cs.length → s.2.2 ≤ 12 → pRest cs di s = .ok y → (cnt 4 y.2.2.1).1 ≤ 12 ∧ (cnt 4 y.2.2.1).2 ≤ cs.length := by
      intro di s hs h12 hr
      unfold pRest at hr
      cases h1 : pCols cs 6 s with
      | error q => rw [h1] at hr; cases hr
      | ok r1 =>
        obtain ⟨vs, s2⟩ := r1
        rw [h1] at hr
        dsimp only at hr
        have m1 := pCols_mo 6 hs h1
        cases h2 : pG cs 4 s2 with
        | error q => rw [h2] at hr; cases hr
        | ok r2 =>
          obtain ⟨g, s3⟩ := r2
          rw [h2] at hr
          dsimp only at hr
          have m2 := pG_mc cs 4 _ _ _ m1.2.1 (by omega) h2
          cases h3 : pOrd cs s3 with
          | error q => rw [h3] at hr; cases hr
          | ok r3 =>
            obtain ⟨o, s4⟩ := r3
            rw [h3] at hr
            dsimp only at hr
            cases h4 : pLim cs s4 with
            | error q => rw [h4] at hr; cases hr
            | ok r4 =>
              obtain ⟨l, s5⟩ := r4
              rw [h4] at hr
              dsimp only at hr
              split at hr
              · cases hr
                exact ⟨by show (cnt 4 g).1 ≤ 12; omega, by show (cnt 4 g).2 ≤ _; omega⟩
              · cases hr
    have m0 := nx_mo (cs := cs) (s := (0, [], 0)) (Nat.zero_le _)
    have m1 := nx_mo (cs := cs) m0.2.1
    split at h
    · exact key _ _ m1.2.1 (by rw [m1.2.2, m0.2.2]; exact Nat.zero_le _) h
    · exact key _ _ m0.2.1 (by rw [m0.2.2]; exact Nat.zero_le _) h
  · cases h
