/-! reading: positions and elements grow -/
def Mo (cs : List Nat) {G : Type} (grp : PS → Rp G) : Prop := ∀ s g s', s.1 ≤ cs.length → grp s = .ok (g, s') → s.1 ≤ s'.1 ∧ s'.1 ≤ cs.length ∧ s.2.2 ≤ s'.2.2
section MO
variable {cs : List Nat} {G : Type} {grp : PS → Rp G}
theorem mo_le {s s' : PS} (h : s.1 ≤ s'.1 ∧ s'.1 ≤ cs.length ∧ s'.2.2 = s.2.2) : s.1 ≤ s'.1 ∧ s'.1 ≤ cs.length ∧ s.2.2 ≤ s'.2.2 := ⟨h.1, h.2.1, Nat.le_of_eq h.2.2.symm⟩
theorem mo_trl {s s' s'' : PS} (h : s.1 ≤ s'.1 ∧ s'.1 ≤ cs.length ∧ s.2.2 ≤ s'.2.2) (h' : s'.1 ≤ s''.1 ∧ s''.1 ≤ cs.length ∧ s'.2.2 ≤ s''.2.2) : s.1 ≤ s''.1 ∧ s''.1 ≤ cs.length ∧ s.2.2 ≤ s''.2.2 := ⟨Nat.le_trans h.1 h'.1, h'.2.1, Nat.le_trans h.2.2 h'.2.2⟩
theorem nx_mol {s : PS} (hs : s.1 ≤ cs.length) : s.1 ≤ (nx cs s).1 ∧ (nx cs s).1 ≤ cs.length ∧ s.2.2 ≤ (nx cs s).2.2 := mo_le (nx_mo hs)
theorem pUni_mo (hg : Mo cs grp) : ∀ k, Mo cs (pUni cs grp k) := by
  intro k
  induction k with
  | zero =>
    intro s g s' hs hv
    unfold pUni at hv
    split at hv
    · cases hv
    · cases hv; exact ⟨Nat.le_refl _, hs, Nat.le_refl _⟩
  | succ k ih =>
    intro s g s' hs hv
    unfold pUni at hv
    split at hv
    · have m1 := nx_mol (cs := cs) hs
      cases hq : grp (nx cs s) with
      | error q => rw [hq] at hv; cases hv
      | ok r =>
        obtain ⟨g1, s1⟩ := r
        rw [hq] at hv
        have m2 := hg _ _ _ m1.2.1 hq
        dsimp only at hv
        cases hu : pUni cs grp k s1 with
        | error q => rw [hu] at hv; cases hv
        | ok r2 =>
          obtain ⟨gs, s2⟩ := r2
          rw [hu] at hv
          cases hv
          exact mo_trl (mo_trl m1 m2) (ih _ _ _ m2.2.1 hu)
    · cases hv; exact ⟨Nat.le_refl _, hs, Nat.le_refl _⟩
theorem pEl_mo (hg : Mo cs grp) {s s' : PS} {e : El G} (hs : s.1 ≤ cs.length) (hv : pEl cs grp s = .ok (e, s')) : s.1 ≤ s'.1 ∧ s'.1 ≤ cs.length ∧ s.2.2 + 1 ≤ s'.2.2 := by
  unfold pEl at hv
  split at hv
  · dsimp only at hv
    have hs1 : ((s.1, s.2.1, s.2.2 + 1) : PS).1 ≤ cs.length := hs
    have m1 := nx_mol (cs := cs) (s := (s.1, s.2.1, s.2.2 + 1)) hs1
    split at hv
    · cases hq : pTest cs 4 (nx cs (s.1, s.2.1, s.2.2 + 1)) with
      | error q => rw [hq] at hv; cases hv
      | ok r => obtain ⟨t, s1⟩ := r; rw [hq] at hv; cases hv; exact mo_trl m1 (mo_le (pTest_mo m1.2.1 hq))
    · split at hv
      · cases hq : grp (nx cs (s.1, s.2.1, s.2.2 + 1)) with
        | error q => rw [hq] at hv; cases hv
        | ok r => obtain ⟨t, s1⟩ := r; rw [hq] at hv; cases hv; exact mo_trl m1 (hg _ _ _ m1.2.1 hq)
      · split at hv
        · cases hq : grp (nx cs (s.1, s.2.1, s.2.2 + 1)) with
          | error q => rw [hq] at hv; cases hv
          | ok r => obtain ⟨t, s1⟩ := r; rw [hq] at hv; cases hv; exact mo_trl m1 (hg _ _ _ m1.2.1 hq)
        · split at hv
          · cases hq : grp (s.1, s.2.1, s.2.2 + 1) with
            | error q => rw [hq] at hv; cases hv
            | ok r =>
              obtain ⟨t, s1⟩ := r
              rw [hq] at hv
              have m2 := hg _ _ _ hs1 hq
              dsimp only at hv
              cases hu : pUni cs grp 11 s1 with
              | error q => rw [hu] at hv; cases hv
              | ok r2 => obtain ⟨gs, s2⟩ := r2; rw [hu] at hv; cases hv; exact mo_trl m2 (pUni_mo hg 11 _ _ _ m2.2.1 hu)
          · cases hq : pPat cs (s.1, s.2.1, s.2.2 + 1) with
            | error q => rw [hq] at hv; cases hv
            | ok r => obtain ⟨t, s1⟩ := r; rw [hq] at hv; cases hv; exact mo_le (pPat_mo hs1 hq)
  · cases hv
theorem pMore_mo (hg : Mo cs grp) : ∀ k, Mo cs (pMore cs grp k) := by
  intro k
  induction k with
  | zero =>
    intro s g s' hs hv
    unfold pMore at hv
    split at hv
    · cases hv; exact nx_mol hs
    · split at hv <;> cases hv
  | succ k ih =>
    intro s g s' hs hv
    unfold pMore at hv
    split at hv
    · cases hv; exact nx_mol hs
    · split at hv
      · have m1 := nx_mol (cs := cs) hs
        cases hq : pEl cs grp (nx cs s) with
        | error q => rw [hq] at hv; cases hv
        | ok r =>
          obtain ⟨g1, s1⟩ := r
          rw [hq] at hv
          have m2 := pEl_mo hg m1.2.1 hq
          dsimp only at hv
          cases hu : pMore cs grp k s1 with
          | error q => rw [hu] at hv; cases hv
          | ok r2 =>
            obtain ⟨gs, s2⟩ := r2
            rw [hu] at hv
            cases hv
            exact mo_trl (mo_trl m1 ⟨m2.1, m2.2.1, by omega⟩) (ih _ _ _ m2.2.1 hu)
      · cases hv
theorem pBody_mo (hg : Mo cs grp) : Mo cs (pBody cs grp) := by
  intro s g s' hs hv
  unfold pBody at hv
  split at hv
  · cases hv; exact nx_mol hs
  · cases hq : pEl cs grp s with
    | error q => rw [hq] at hv; cases hv
    | ok r =>
      obtain ⟨g1, s1⟩ := r
      rw [hq] at hv
      have m2 := pEl_mo hg hs hq
      dsimp only at hv
      cases hu : pMore cs grp 12 s1 with
      | error q => rw [hu] at hv; cases hv
      | ok r2 =>
        obtain ⟨gs, s2⟩ := r2
        rw [hu] at hv
        cases hv
        exact mo_trl ⟨m2.1, m2.2.1, by omega⟩ (pMore_mo hg 12 _ _ _ m2.2.1 hu)
end MO
theorem pG_mo (cs : List Nat) : ∀ n, Mo cs (pG cs n) := by
  intro n
  induction n with
  | zero => intro s g; exact nomatch g
  | succ n ih =>
    intro s g s' hs hv
    change pGr cs (pG cs n) s = _ at hv
    unfold pGr at hv
    split at hv
    · have m1 := nx_mol (cs := cs) hs
      exact mo_trl m1 (pBody_mo ih _ _ _ m1.2.1 hv)
    · cases hv
section TP9
variable {Ω : Om} {d : Nat} {h : AH} {x : Nat} {A : Nat → Nat} {σ σ' : Tw} {cs : List Nat} {s : PS}
theorem CI.elm {c : C4} {stk : Sk} (h : CI (wc c stk) s) : CI (wc c stk) (s.1, s.2.1, s.2.2 + 1) := by
  obtain ⟨a1, a2, a3, a4, a5⟩ := h
  exact ⟨by show _ ≤ 2 * s.1 + (s.2.2 + 1); omega, a2, by show _ ≤ s.2.2 + 1; omega, a4, a5⟩
set_option maxHeartbeats 1000000 in
theorem t_e (hT : TwOk Ω.sz x A) {n : Nat} (hB : ∀ m, n = m + 1 → RB Ω d h x A cs m) (hp : PL σ cs s) {c : C4} {st : Sk} {w g b : Nat} (hc : CR σ (wc c (st ++ [(w, g, b)]))) (hI : CI (wc c (st ++ [(w, g, b)])) s) (hl : st.length + 1 + n = 4) (h21 : σ.1 21 = nI 0) :
    (∀ e s', pEl cs (pG cs n) s = .ok (e, s') → ∃ σ1, gM PG Ω (d + 10) 71 [.ref x] (tW h x A σ) = some (.returned none, tW h x A σ1) ∧ Rok Ω d h x A cs (cont Ω d h x A σ1) σ s' (wc (cEl (cB n) g e c) (st ++ [(w, g, b)]))) ∧
    (∀ q, pEl cs (pG cs n) s = .error q → ∃ σ1, gM PG Ω (d + 10) 71 [.ref x] (tW h x A σ) = some (.returned none, tW h x A σ1) ∧ Rer h x A (cont Ω d h x A σ1) σ q) := by
  obtain ⟨ops, P, T, G⟩ := c
  have hlen : (st ++ [(w, g, b)]).length + n = 4 := by simp; omega
  have hI' := hI.elm
  by_cases hyes : (canS (tk cs s) && decide (s.2.2 < 12)) = true
  · by_cases h5 : isKy (tk cs s) 5 = true
    · have hpe : pEl cs (pG cs n) s = (match pTest cs 4 (nx cs (s.1, s.2.1, s.2.2 + 1)) with | .error q => .error q | .ok (t, s') => .ok (.inr (.inl t), s')) := by
        unfold pEl; rw [if_pos hyes]; dsimp only; rw [if_pos h5]; rfl
      have hq := t_el_f (d := d) (h := h) hT hp hyes h5 hc hI
      rw [hpe]
      cases hr : pTest cs 4 (nx cs (s.1, s.2.1, s.2.2 + 1)) with
      | error q0 =>
        refine ⟨fun e s' hv => (nomatch hv), fun q hv => ?_⟩
        cases hv
        obtain ⟨σ1, e1, e2, e3, e4⟩ := hq.2 q0 hr
        exact ⟨σ1, e1, σ1, cont_e hT e2 e3, e2, e3, e4⟩
      | ok r =>
        obtain ⟨t, s1⟩ := r
        refine ⟨fun e s' hv => ?_, fun q hv => (nomatch hv)⟩
        cases hv
        obtain ⟨σ1, e1, e2, e3, e4, e5, e6⟩ := hq.1 t s1 hr
        refine ⟨σ1, e1, σ1, cont_n e2.2.2.2.1 e4, e2, e3, ?_, e5.trans h21, e6⟩
        have m1 := nx_mo (cs := cs) (s := (s.1, s.2.1, s.2.2 + 1)) hp.2.2.1
        have m2 := mo_tr m1 (pTest_mo m1.2.1 hr)
        obtain ⟨m3, m4, m5⟩ := m2
        dsimp only at m3 m5
        obtain ⟨a1, a2, a3, a4, a5⟩ := hI
        unfold wc at *
        dsimp only [cEl] at *
        refine ⟨by dsimp only; omega, by dsimp only; omega, ?_, a4, a5⟩
        show P.length + (T ++ [(g, t)]).length ≤ s1.2.2
        simp; omega
    · have h5' := Bool.eq_false_iff.mpr h5
      by_cases hh : hoS (tk cs s) = true
      · obtain ⟨σ1, e1, e2, e3, e4, e5⟩ := t_el_h (d := d + 6) (h := h) hT hp hyes hh hc
        by_cases h6 : isKy (tk cs s) 6 = true
        · have hpe : pEl cs (pG cs n) s = (match pG cs n (nx cs (s.1, s.2.1, s.2.2 + 1)) with | .error q => .error q | .ok (g, s') => .ok (.inr (.inr (.inl g)), s')) := by
            unfold pEl; rw [if_pos hyes]; dsimp only; rw [if_neg h5, if_pos h6]; rcases pG cs n (nx cs (s.1, s.2.1, s.2.2 + 1)) with q | ⟨g1, s1⟩ <;> rfl
          have hg := t_gr (d := d) (h := h) hT hB e2 e3 hI' (w := 1) (Or.inl rfl) h6 hlen e4
          rw [hpe]
          cases hr : pG cs n (nx cs (s.1, s.2.1, s.2.2 + 1)) with
          | error q0 =>
            refine ⟨fun e s' hv => (nomatch hv), fun q hv => ?_⟩
            cases hv
            exact ⟨σ1, e1, (hg.2 q0 hr).step e5⟩
          | ok r =>
            obtain ⟨gg, s1⟩ := r
            refine ⟨fun e s' hv => ?_, fun q hv => (nomatch hv)⟩
            cases hv
            obtain ⟨σ2, f1, f2, f3, f4, f5, f6⟩ := hg.1 gg s1 hr
            exact ⟨σ1, e1, σ2, f1, f2, f3, f4, f5, e5.trans f6⟩
        · by_cases h7 : isKy (tk cs s) 7 = true
          · have hpe : pEl cs (pG cs n) s = (match pG cs n (nx cs (s.1, s.2.1, s.2.2 + 1)) with | .error q => .error q | .ok (g, s') => .ok (.inr (.inr (.inr (.inl g))), s')) := by
              unfold pEl; rw [if_pos hyes]; dsimp only; rw [if_neg h5, if_neg h6, if_pos h7]; rcases pG cs n (nx cs (s.1, s.2.1, s.2.2 + 1)) with q | ⟨g1, s1⟩ <;> rfl
            have hg := t_gr (d := d) (h := h) hT hB e2 e3 hI' (w := 2) (Or.inr rfl) h7 hlen e4
            rw [hpe]
            cases hr : pG cs n (nx cs (s.1, s.2.1, s.2.2 + 1)) with
            | error q0 =>
              refine ⟨fun e s' hv => (nomatch hv), fun q hv => ?_⟩
              cases hv
              exact ⟨σ1, e1, (hg.2 q0 hr).step e5⟩
            | ok r =>
              obtain ⟨gg, s1⟩ := r
              refine ⟨fun e s' hv => ?_, fun q hv => (nomatch hv)⟩
              cases hv
              obtain ⟨σ2, f1, f2, f3, f4, f5, f6⟩ := hg.1 gg s1 hr
              exact ⟨σ1, e1, σ2, f1, f2, f3, f4, f5, e5.trans f6⟩
          · have hsg : isSg (tk cs s) 123 = true := by
              unfold hoS at hh
              rw [Bool.eq_false_iff.mpr h6, Bool.eq_false_iff.mpr h7, Bool.false_or, Bool.false_or] at hh
              exact hh
            have hpe : pEl cs (pG cs n) s = (match pG cs n (s.1, s.2.1, s.2.2 + 1) with | .error q => .error q | .ok (g, s2) => (match pUni cs (pG cs n) 11 s2 with | .error q => .error q | .ok (gs, s') => .ok (.inr (.inr (.inr (.inr (g :: gs)))), s'))) := by
              unfold pEl; rw [if_pos hyes]; dsimp only; rw [if_neg h5, if_neg h6, if_neg h7, if_pos hsg]
              rcases pG cs n (s.1, s.2.1, s.2.2 + 1) with q | ⟨g1, s1⟩
              · rfl
              · dsimp only
                rcases pUni cs (pG cs n) 11 s1 with q | ⟨g2, s2⟩ <;> rfl
            have hI6 : CI (ops ++ [(6, 0)], P, T, G, st ++ [(w, g, b)]) (s.1, s.2.1, s.2.2 + 1) := by
              obtain ⟨a1, a2, a3, a4, a5⟩ := hI
              unfold wc at *
              dsimp only at *
              refine ⟨?_, a2, by show P.length + T.length ≤ s.2.2 + 1; omega, a4, a5⟩
              show (ops ++ [(6, 0)]).length + (st ++ [(w, g, b)]).length ≤ 2 * s.1 + (s.2.2 + 1)
              simp at a1 ⊢; omega
            rw [hpe]
            cases n with
            | zero =>
              have hpg : pG cs 0 (s.1, s.2.1, s.2.2 + 1) = .error (tk cs s).2.2.1 := rfl
              rw [hpg]
              refine ⟨fun e s' hv => (nomatch hv), fun q hv => ?_⟩
              injection hv with hv
              rw [← hv]
              obtain ⟨σ2, f1, f2, f3, f4⟩ := t_un_er (d := d + 2) (h := h) hT e2 e3 hI6 hsg (by show ¬ (st ++ [(w, g, b)]).length < 4; omega)
              refine ⟨σ1, e1, σ2, ?_, f2, f3, e5.trans f4⟩
              rw [cont_h e2.2.2.2.1 e4 f1, t_fin hT f2 f3]
            | succ m =>
              have hpg : pG cs (m + 1) (s.1, s.2.1, s.2.2 + 1) = pBody cs (pG cs m) (nx cs (s.1, s.2.1, s.2.2 + 1)) := by
                show pGr cs (pG cs m) _ = _
                unfold pGr
                rw [if_pos (show isSg (tk cs (s.1, s.2.1, s.2.2 + 1)) 123 = true from hsg)]
              have hd4 : (st ++ [(w, g, b)]).length < 4 := by omega
              obtain ⟨σ2, f1, f2, f3, f4, f5⟩ := t_un_ok (d := d + 2) (h := h) hT e2 e3 hI6 hsg hd4
              have hI7 : CI (wc ((ops ++ [(6, 0)]) ++ [(1, 0)], P, T, G + 1) ((st ++ [(w, g, b)]) ++ [(3, G, 1)])) (nx cs (s.1, s.2.1, s.2.2 + 1)) := hI6.opn hp.2.2.1 (by rw [show tk cs (s.1, s.2.1, s.2.2 + 1) = tk cs s from rfl, isSg_k hsg]; decide) (by decide) (by decide) hd4
              have hb1 := hB m rfl σ2 _ ((ops ++ [(6, 0)]) ++ [(1, 0)], P, T, G + 1) (st ++ [(w, g, b)]) 3 G 1 f2 f3 hI7 (by omega) f4
              have hco : cont Ω d h x A σ1 = LPt Ω d h x A σ2 := cont_h e2.2.2.2.1 e4 f1
              rw [hpg]
              cases hq : pBody cs (pG cs m) (nx cs (s.1, s.2.1, s.2.2 + 1)) with
              | error q0 =>
                refine ⟨fun gs s' hv => (nomatch hv), fun q hv => ?_⟩
                cases hv
                refine ⟨σ1, e1, ?_⟩
                rw [hco]
                exact (hb1.2 q0 hq).step (e5.trans f5)
              | ok r =>
                obtain ⟨els, s1⟩ := r
                obtain ⟨σ3, s2, i1, i2, i3, i4, i5, i6, i7⟩ := hb1.1 els s1 hq
                have hu := t_uc (d := d) (h := h) hT (hB m rfl) 11 σ3 s2 _ (st ++ [(w, g, b)]) G 1 i2 i5 i6 (by omega) (by decide) i3
                rw [← i4] at hu
                dsimp only
                cases hr : pUni cs (pG cs (m + 1)) 11 s1 with
                | error q0 =>
                  refine ⟨fun gs s' hv => (nomatch hv), fun q hv => ?_⟩
                  cases hv
                  refine ⟨σ1, e1, ?_⟩
                  rw [hco, i1]
                  exact (hu.2 q0 hr).step ((e5.trans f5).trans i7)
                | ok r2 =>
                  obtain ⟨gs, s3⟩ := r2
                  refine ⟨fun e s' hv => ?_, fun q hv => (nomatch hv)⟩
                  cases hv
                  obtain ⟨σ4, j1, j2, j3, j4, j5, j6⟩ := hu.1 gs s3 hr
                  exact ⟨σ1, e1, σ4, (hco.trans i1).trans j1, j2, j3, j4, j5, ((e5.trans f5).trans i7).trans j6⟩
      · have hh' := Bool.eq_false_iff.mpr hh
        have hho := hh'
        unfold hoS at hho
        simp only [Bool.or_eq_false_iff] at hho
        have hpe : pEl cs (pG cs n) s = (match pPat cs (s.1, s.2.1, s.2.2 + 1) with | .error q => .error q | .ok (p, s') => .ok (.inl p, s')) := by
          unfold pEl; rw [if_pos hyes]; dsimp only; rw [if_neg h5, if_neg (by rw [hho.1.1]; decide), if_neg (by rw [hho.1.2]; decide), if_neg (by rw [hho.2]; decide)]; rfl
        have hq := t_el_p (d := d) (h := h) hT hp hyes h5' hh' hc hI
        rw [hpe]
        cases hr : pPat cs (s.1, s.2.1, s.2.2 + 1) with
        | error q0 =>
          refine ⟨fun e s' hv => (nomatch hv), fun q hv => ?_⟩
          cases hv
          obtain ⟨σ1, e1, e2, e3, e4⟩ := hq.2 q0 hr
          exact ⟨σ1, e1, σ1, cont_e hT e2 e3, e2, e3, e4⟩
        | ok r =>
          obtain ⟨p, s1⟩ := r
          refine ⟨fun e s' hv => ?_, fun q hv => (nomatch hv)⟩
          cases hv
          obtain ⟨σ1, e1, e2, e3, e4, e5, e6⟩ := hq.1 p s1 hr
          refine ⟨σ1, e1, σ1, cont_n e2.2.2.2.1 e4, e2, e3, ?_, e5.trans h21, e6⟩
          obtain ⟨m3, m4, m5⟩ := pPat_mo (cs := cs) (s := (s.1, s.2.1, s.2.2 + 1)) hp.2.2.1 hr
          dsimp only at m3 m5
          obtain ⟨a1, a2, a3, a4, a5⟩ := hI
          unfold wc at *
          dsimp only [cEl] at *
          refine ⟨?_, by dsimp only; omega, ?_, a4, a5⟩
          · show (ops ++ [(2, 3 * P.length)]).length + (st ++ [(w, g, b)]).length ≤ 2 * s1.1 + s1.2.2
            simp at a1 ⊢; omega
          · show (P ++ [p]).length + T.length ≤ s1.2.2
            simp; omega
  · have hpe : pEl cs (pG cs n) s = .error (tk cs s).2.2.1 := by unfold pEl; rw [if_neg hyes]; rfl
    rw [hpe]
    refine ⟨fun e s' hv => (nomatch hv), fun q hv => ?_⟩
    injection hv with hv
    rw [← hv]
    have e1 := t_el_no (d := d + 6) (h := h) hT hp hyes
    exact ⟨_, e1, sI σ 20 (nI (tk cs s).2.2.1), cont_e hT rfl hp.q, rfl, hp.q, Fx.rfl'.sI (by decide)⟩
end TP9
