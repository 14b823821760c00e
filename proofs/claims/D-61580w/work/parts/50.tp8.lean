/-! TWIN, reading: unions, elements, bodies -/
section TP8
variable {Ω : Om} {d : Nat} {h : AH} {x : Nat} {A : Nat → Nat} {σ σ' : Tw} {cs : List Nat} {s : PS}
theorem t_uc (hT : TwOk Ω.sz x A) {m : Nat} (hB : RB Ω d h x A cs m) : ∀ (k : Nat) (σ : Tw) (s : PS) (c : C4) (st : Sk) (g b : Nat), PL σ cs s → CR σ (wc c (st ++ [(3, g, b)])) → CI (wc c (st ++ [(3, g, b)])) s → st.length + 1 + m = 4 → b + k = 12 → isSg (tk cs s) 125 = true → (∀ gs s', pUni cs (pG cs (m + 1)) k (nx cs s) = .ok (gs, s') → Rok Ω d h x A cs (CLt Ω d h x A σ) σ s' (wc ((cUni (cB (m + 1)) gs (c.1 ++ [(3, g)] ++ [(7, 0)], c.2)).1 ++ [(8, 0)], (cUni (cB (m + 1)) gs (c.1 ++ [(3, g)] ++ [(7, 0)], c.2)).2) st)) ∧ (∀ q, pUni cs (pG cs (m + 1)) k (nx cs s) = .error q → Rer h x A (CLt Ω d h x A σ) σ q) := by
  have hEnd : ∀ (σ : Tw) (s : PS) (c : C4) (st : Sk) (g b : Nat), PL σ cs s → CR σ (wc c (st ++ [(3, g, b)])) → CI (wc c (st ++ [(3, g, b)])) s → isSg (tk cs s) 125 = true → isKy (tk cs (nx cs s)) 8 = false → Rok Ω d h x A cs (CLt Ω d h x A σ) σ (nx cs s) (wc (c.1 ++ [(3, g)] ++ [(7, 0)] ++ [(8, 0)], c.2) st) := by
    intro σ s c st g b hp hc hI hsg hk
    have hf : Fx [21] [] [] σ (sI σ 21 (nI 0)) := Fx.rfl'.sI (by decide)
    have hp1 := hp.fx hf (by decide) (by decide) (by decide) rfl
    have hc1 := hc.fx hf (by decide) (by decide) (by decide)
    obtain ⟨σ1, e1, e2, e3, e4, e5⟩ := t_cl3 (d := d + 4) (h := h) hT hp1 hc1 hI hk
    refine ⟨σ1, ?_, e2, e3, ?_, by rw [e4]; rfl, (hf.mono (by decide) (by decide) (by decide) : FxQ _ _).trans e5⟩
    · unfold CLt LPt
      simp (disch := first | omega | decide) only [e_X2_readGroups_74, e_X2_readGroups_75, e_X2_readGroups_76, e_X2_readGroups_79, e_X2_readGroups_80, e_X2_readGroups_83, tw_cl, tg20, tg21, tg22, tg27, tp21 hT, cR_ref, cR_null, cR_rf, c1_int, c1_ref, c1_null, c1_rf, kz_int, kz_ref, kz_null, kz_rf, kz_U, kz_long, nB_null, nB_ref, rf_none, rf_some, bV_ret, bV_thr, bA_ret, bA_thr, bX_ret, bX_thr, len4_0, len4_1, len4_2, len4_3, len4_4, true_and, and_true, and_self, if_true, if_false, Option.bind_some, nR_b1, nR_b0, nR_bI, nI_1z, nI_0z, bI_z, if_nn, okv_b0, e1]
    · have n1 := nx_gt hp.2.2.1 (by rw [isSg_k hsg]; decide)
      obtain ⟨a1, a2, a3, a4, a5⟩ := hI
      unfold wc at *
      dsimp only at *
      refine ⟨?_, by show c.2.2.2 ≤ _; omega, a3, ?_, fun z hz => a5 z (List.mem_append_left _ hz)⟩
      · show (c.1 ++ [(3, g)] ++ [(7, 0)] ++ [(8, 0)]).length + st.length ≤ 2 * (nx cs s).1 + s.2.2
        simp at a1 ⊢; omega
      · show st.length ≤ 4
        simp at a4; omega
  have hBad : ∀ (σ : Tw) (s : PS) (c : C4) (st : Sk) (g b : Nat), PL σ cs s → CR σ (wc c (st ++ [(3, g, b)])) → CI (wc c (st ++ [(3, g, b)])) s → b ≤ 12 → isKy (tk cs (nx cs s)) 8 = true → ¬ (isSg (tk cs (nx cs (nx cs s))) 123 = true ∧ b < 12) → Rer h x A (CLt Ω d h x A σ) σ (tk cs (nx cs (nx cs s))).2.2.1 := by
    intro σ s c st g b hp hc hI hb hk hno
    have hf : Fx [21] [] [] σ (sI σ 21 (nI 0)) := Fx.rfl'.sI (by decide)
    have hp1 := hp.fx hf (by decide) (by decide) (by decide) rfl
    have hc1 := hc.fx hf (by decide) (by decide) (by decide)
    obtain ⟨σ1, e1, e2, e3, e4⟩ := t_cl5 (d := d + 2) (h := h) hT hp1 hc1 hI hk hno hb
    refine ⟨σ1, ?_, e2, e3, (hf.mono (by decide) (by decide) (by decide) : FxQ _ _).trans e4⟩
    unfold CLt
    simp (disch := first | omega | decide) only [e_X2_readGroups_74, e_X2_readGroups_75, e_X2_readGroups_76, e_X2_readGroups_79, e_X2_readGroups_80, e_X2_readGroups_83, tw_cl, tg20, tg21, tg22, tg27, tp21 hT, cR_ref, cR_null, cR_rf, c1_int, c1_ref, c1_null, c1_rf, kz_int, kz_ref, kz_null, kz_rf, kz_U, kz_long, nB_null, nB_ref, rf_none, rf_some, bV_ret, bV_thr, bA_ret, bA_thr, bX_ret, bX_thr, len4_0, len4_1, len4_2, len4_3, len4_4, true_and, and_true, and_self, if_true, if_false, Option.bind_some, nR_b1, nR_b0, nR_bI, nI_1z, nI_0z, bI_z, if_nn, okv_b0, e1, t_fin hT e2 e3]
  intro k
  induction k with
  | zero =>
    intro σ s c st g b hp hc hI hl hb hsg
    unfold pUni
    by_cases hk : isKy (tk cs (nx cs s)) 8 = true
    · rw [if_pos hk]
      refine ⟨fun gs s' hv => (nomatch hv), fun q hv => ?_⟩
      have : q = (tk cs (nx cs (nx cs s))).2.2.1 := by unfold er at hv; injection hv with hv; exact hv.symm
      rw [this]
      exact hBad σ s c st g b hp hc hI (by omega) hk (fun z => by omega)
    · rw [if_neg hk]
      refine ⟨fun gs s' hv => ?_, fun q hv => (nomatch hv)⟩
      cases hv
      exact hEnd σ s c st g b hp hc hI hsg (Bool.eq_false_iff.mpr hk)
  | succ k ih =>
    intro σ s c st g b hp hc hI hl hb hsg
    unfold pUni
    by_cases hk : isKy (tk cs (nx cs s)) 8 = true
    · rw [if_pos hk]
      by_cases hs3 : isSg (tk cs (nx cs (nx cs s))) 123 = true
      · have hf : Fx [21] [] [] σ (sI σ 21 (nI 0)) := Fx.rfl'.sI (by decide)
        have hp1 := hp.fx hf (by decide) (by decide) (by decide) rfl
        have hc1 := hc.fx hf (by decide) (by decide) (by decide)
        obtain ⟨σ1, e1, e2, e3, e4, e5⟩ := t_cl4 (d := d + 2) (h := h) hT hp1 hc1 hI (by rw [isSg_k hsg]; decide) hk hs3 (by omega)
        have hpg : pG cs (m + 1) (nx cs (nx cs s)) = pBody cs (pG cs m) (nx cs (nx cs (nx cs s))) := by
          show pGr cs (pG cs m) _ = _
          unfold pGr
          rw [if_pos hs3]
        have hE : CLt Ω d h x A σ = LPt Ω d h x A σ1 := by
          unfold CLt LPt
          simp (disch := first | omega | decide) only [e_X2_readGroups_74, e_X2_readGroups_75, e_X2_readGroups_76, e_X2_readGroups_79, e_X2_readGroups_80, e_X2_readGroups_83, tw_cl, tg20, tg21, tg22, tg27, tp21 hT, cR_ref, cR_null, cR_rf, c1_int, c1_ref, c1_null, c1_rf, kz_int, kz_ref, kz_null, kz_rf, kz_U, kz_long, nB_null, nB_ref, rf_none, rf_some, bV_ret, bV_thr, bA_ret, bA_thr, bX_ret, bX_thr, len4_0, len4_1, len4_2, len4_3, len4_4, true_and, and_true, and_self, if_true, if_false, Option.bind_some, nR_b1, nR_b0, nR_bI, nI_1z, nI_0z, bI_z, if_nn, okv_b0, e1]
        have hI1 : CI (wc ((c.1 ++ [(3, g)] ++ [(7, 0)]) ++ [(1, 0)], c.2.1, c.2.2.1, c.2.2.2 + 1) (st ++ [(3, c.2.2.2, b + 1)])) (nx cs (nx cs (nx cs s))) := by
          have n1 := nx_gt hp.2.2.1 (by rw [isSg_k hsg]; decide)
          have m1 := nx_mo hp.2.2.1
          have n2 := nx_gt m1.2.1 (by rw [isKy_k hk]; decide)
          have m2 := nx_mo m1.2.1
          refine CI.opn (s := nx cs (nx cs s)) ?_ m2.2.1 (by rw [isSg_k hs3]; decide) (by omega) (by omega) (by omega)
          obtain ⟨a1, a2, a3, a4, a5⟩ := hI
          unfold wc at *
          dsimp only at *
          refine ⟨?_, by show c.2.2.2 ≤ _; omega, a3, by show st.length ≤ 4; omega, fun z hz => a5 z (List.mem_append_left _ hz)⟩
          show (c.1 ++ [(3, g)] ++ [(7, 0)]).length + st.length ≤ 2 * (nx cs (nx cs s)).1 + s.2.2
          simp at a1 ⊢; omega
        have hb1 := hB σ1 (nx cs (nx cs (nx cs s))) ((c.1 ++ [(3, g)] ++ [(7, 0)]) ++ [(1, 0)], c.2.1, c.2.2.1, c.2.2.2 + 1) st 3 c.2.2.2 (b + 1) e2 e3 hI1 hl e4
        have hF : FxQ σ σ1 := (hf.mono (by decide) (by decide) (by decide) : FxQ _ _).trans e5
        rw [hpg, hE]
        cases hq : pBody cs (pG cs m) (nx cs (nx cs (nx cs s))) with
        | error q0 =>
          refine ⟨fun gs s' hv => (nomatch hv), fun q hv => ?_⟩
          cases hv
          exact (hb1.2 q0 hq).step hF
        | ok r =>
          obtain ⟨els, s1⟩ := r
          obtain ⟨σ2, s2, f1, f2, f3, f4, f5, f6, f7⟩ := hb1.1 els s1 hq
          have hih := ih σ2 s2 _ st c.2.2.2 (b + 1) f2 f5 f6 hl (by omega) f3
          rw [f1]
          dsimp only
          rw [← f4] at hih
          cases hu : pUni cs (pG cs (m + 1)) k s1 with
          | error q0 =>
            refine ⟨fun gs s' hv => (nomatch hv), fun q hv => ?_⟩
            cases hv
            exact (hih.2 q0 hu).step (hF.trans f7)
          | ok r2 =>
            obtain ⟨gs0, s3⟩ := r2
            refine ⟨fun gs s' hv => ?_, fun q hv => (nomatch hv)⟩
            cases hv
            obtain ⟨σ3, g1, g2, g3, g4, g5, g6⟩ := hih.1 gs0 s3 hu
            exact ⟨σ3, g1, g2, g3, g4, g5, (hF.trans f7).trans g6⟩
      · have hpg : pG cs (m + 1) (nx cs (nx cs s)) = .error (tk cs (nx cs (nx cs s))).2.2.1 := by
          show pGr cs (pG cs m) _ = _
          unfold pGr
          rw [if_neg hs3]
          rfl
        rw [hpg]
        refine ⟨fun gs s' hv => (nomatch hv), fun q hv => ?_⟩
        injection hv with hv
        rw [← hv]
        exact hBad σ s c st g b hp hc hI (by omega) hk (fun z => hs3 z.1)
    · rw [if_neg hk]
      refine ⟨fun gs s' hv => ?_, fun q hv => (nomatch hv)⟩
      cases hv
      exact hEnd σ s c st g b hp hc hI hsg (Bool.eq_false_iff.mpr hk)
end TP8
