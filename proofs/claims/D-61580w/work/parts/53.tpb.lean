/-! TWIN, reading: all groups, the query -/
section TPB
variable {Ω : Om} {d : Nat} {h : AH} {x : Nat} {A : Nat → Nat} {σ σ' : Tw} {cs : List Nat} {s : PS}
def c0 : C4 := ([], [], [], 0)
/-- bounds of what is compiled -/
def CBd (c : C4) : Prop := c.1.length ≤ 400 ∧ c.2.2.2 ≤ 160 ∧ c.2.1.length + c.2.2.1.length ≤ 12
theorem c0_I : CI (wc c0 []) s := ⟨Nat.zero_le _, Nat.zero_le _, Nat.zero_le _, Nat.zero_le _, fun z hz => (nomatch hz)⟩
theorem t_gs_ok (hT : TwOk Ω.sz x A) (hp : PL σ cs s) (hc : CR σ (wc c0 [])) {g : GT 4} {s' : PS} (hv : pG cs 4 s = .ok (g, s')) : ∃ σ', gM PG Ω (d + 11) 67 [.ref x] (tW h x A σ) = some (.returned none, tW h x A σ') ∧ PL σ' cs s' ∧ CR σ' (wc (cWr (cB 4 g) [] c0) []) ∧ FxQ σ σ' ∧ CBd (cWr (cB 4 g) [] c0) := by
  change pGr cs (pG cs 3) s = _ at hv
  unfold pGr at hv
  by_cases hsg : isSg (tk cs s) 123 = true
  · rw [if_pos hsg] at hv
    obtain ⟨σ1, e1, e2, e3, e4, e5⟩ := t_st_ok (d := d + 3) (h := h) (b := 0) hT hp hc c0_I (w := 0) (by decide) hsg (by decide) (fun q => by omega)
    have hI1 : CI (wc (c0.1 ++ [(1, 0)], c0.2.1, c0.2.2.1, c0.2.2.2 + 1) ([] ++ [(0, c0.2.2.2, 1)])) (nx cs s) := CI.opn (ops := []) (P := []) (T := []) (G := 0) (stk := []) c0_I hp.2.2.1 (by rw [isSg_k hsg]; decide) (by decide) (by decide) (by decide)
    obtain ⟨σ2, s2, f1, f2, f3, f4, f5, f6, f7⟩ := (t_b (d := d) (h := h) (cs := cs) hT 3 σ1 (nx cs s) (c0.1 ++ [(1, 0)], c0.2.1, c0.2.2.1, c0.2.2.2 + 1) [] 0 c0.2.2.2 1 e2 e3 hI1 (by decide) e4).1 g s' hv
    obtain ⟨σ3, g1, g2, g3, g4, g5, g6⟩ := t_c2 (d := d) (h := h) hT f2 f5 f6 (by decide) f3
    have hbd : CBd (cWr (cB 4 g) [] c0) := by
      obtain ⟨b1, b2, b3, _⟩ := f6
      have u1 : s2.1 ≤ cs.length := f2.2.2.1
      have u2 : cs.length ≤ 160 := f2.1.2.1
      have u3 : s2.2.2 ≤ 12 := f2.2.2.2.2.2.2
      have w1 : (cWr (cB 4 g) [] c0).1.length = (cEls (cB 3) c0.2.2.2 g (c0.1 ++ [(1, 0)], c0.2.1, c0.2.2.1, c0.2.2.2 + 1)).1.length + 1 := by
        show ((cEls (cB 3) c0.2.2.2 g (c0.1 ++ [(1, 0)], c0.2.1, c0.2.2.1, c0.2.2.2 + 1)).1 ++ [(3, c0.2.2.2)] ++ []).length = _
        rw [List.append_nil, List.length_append]; rfl
      have v1 : (cEls (cB 3) c0.2.2.2 g (c0.1 ++ [(1, 0)], c0.2.1, c0.2.2.1, c0.2.2.2 + 1)).1.length + 1 ≤ 2 * s2.1 + s2.2.2 := b1
      have v2 : (cEls (cB 3) c0.2.2.2 g (c0.1 ++ [(1, 0)], c0.2.1, c0.2.2.1, c0.2.2.2 + 1)).2.2.2 ≤ s2.1 := b2
      have v3 : (cEls (cB 3) c0.2.2.2 g (c0.1 ++ [(1, 0)], c0.2.1, c0.2.2.1, c0.2.2.2 + 1)).2.1.length + (cEls (cB 3) c0.2.2.2 g (c0.1 ++ [(1, 0)], c0.2.1, c0.2.2.1, c0.2.2.2 + 1)).2.2.1.length ≤ s2.2.2 := b3
      refine ⟨by omega, ?_, ?_⟩
      · show (cEls (cB 3) c0.2.2.2 g (c0.1 ++ [(1, 0)], c0.2.1, c0.2.2.1, c0.2.2.2 + 1)).2.2.2 ≤ 160
        omega
      · show (cEls (cB 3) c0.2.2.2 g (c0.1 ++ [(1, 0)], c0.2.1, c0.2.2.1, c0.2.2.2 + 1)).2.1.length + (cEls (cB 3) c0.2.2.2 g (c0.1 ++ [(1, 0)], c0.2.1, c0.2.2.1, c0.2.2.2 + 1)).2.2.1.length ≤ 12
        omega
    refine ⟨σ3, ?_, by rw [f4]; exact g2, g3, (e5.trans f7).trans g6, hbd⟩
    have hw := g2.2.2.2.1
    have hm1 : (-1 : Int32) < 0 := by decide
    have h27 : σ3.1 27 = nI 0 := g3.2.2.2.2.1
    have hz : ¬ (0 : Int32) < nI 0 := by decide
    simp (disch := first | omega | decide) only [n_X2_readGroups, e_X2_readGroups_0, e_X2_readGroups_1, e_X2_readGroups_2, tw_cl, tg20, tg21, tg22, tg27, tp21 hT, cR_ref, cR_null, cR_rf, c1_int, c1_ref, c1_null, c1_rf, kz_int, kz_ref, kz_null, kz_rf, kz_U, kz_long, nB_null, nB_ref, rf_none, rf_some, bV_ret, bV_thr, bA_ret, bA_thr, bX_ret, bX_thr, len4_0, len4_1, len4_2, len4_3, len4_4, true_and, and_true, and_self, if_true, if_false, Option.bind_some, nR_b1, nR_b0, nR_bI, nI_1z, nI_0z, bI_z, if_nn, e1]
    have e : gO PG Ω (d + 10) 67 5 [.ref x] [] (tW h x A σ1) = gO PG Ω (d + 10) 67 5 [.ref x] [] (tW h x A σ3) := f1.trans g1
    rw [e, e_X2_readGroups_5]
    simp (disch := first | omega | decide) only [e_X2_readGroups_6, e_X2_readGroups_9, e_X2_readGroups_12, e_X2_readGroups_13, e_X2_readGroups_16, e_X2_readGroups_125, tw_cl, tg20, tg21, tg22, tg27, tp21 hT, cR_ref, cR_null, cR_rf, c1_int, c1_ref, c1_null, c1_rf, kz_int, kz_ref, kz_null, kz_rf, kz_U, kz_long, nB_null, nB_ref, rf_none, rf_some, bV_ret, bV_thr, bA_ret, bA_thr, bX_ret, bX_thr, len4_0, len4_1, len4_2, len4_3, len4_4, true_and, and_true, and_self, if_true, if_false, Option.bind_some, nR_b1, nR_b0, nR_bI, nI_1z, nI_0z, bI_z, if_nn, hw, hm1, h27, hz]
  · rw [if_neg hsg] at hv; cases hv
theorem t_gs_er (hT : TwOk Ω.sz x A) (hp : PL σ cs s) (hc : CR σ (wc c0 [])) {q : Nat} (hv : pG cs 4 s = .error q) : ∃ σ', gM PG Ω (d + 11) 67 [.ref x] (tW h x A σ) = some (.returned none, tW h x A σ') ∧ σ'.1 20 = nI q ∧ q ≤ 160 ∧ FxQ σ σ' := by
  change pGr cs (pG cs 3) s = _ at hv
  unfold pGr at hv
  by_cases hsg : isSg (tk cs s) 123 = true
  · rw [if_pos hsg] at hv
    obtain ⟨σ1, e1, e2, e3, e4, e5⟩ := t_st_ok (d := d + 3) (h := h) (b := 0) hT hp hc c0_I (w := 0) (by decide) hsg (by decide) (fun q => by omega)
    have hI1 : CI (wc (c0.1 ++ [(1, 0)], c0.2.1, c0.2.2.1, c0.2.2.2 + 1) ([] ++ [(0, c0.2.2.2, 1)])) (nx cs s) := CI.opn (ops := []) (P := []) (T := []) (G := 0) (stk := []) c0_I hp.2.2.1 (by rw [isSg_k hsg]; decide) (by decide) (by decide) (by decide)
    obtain ⟨σ2, f1, f2, f3, f4⟩ := (t_b (d := d) (h := h) (cs := cs) hT 3 σ1 (nx cs s) (c0.1 ++ [(1, 0)], c0.2.1, c0.2.2.1, c0.2.2.2 + 1) [] 0 c0.2.2.2 1 e2 e3 hI1 (by decide) e4).2 q hv
    refine ⟨σ2, ?_, f2, f3, e5.trans f4⟩
    simp (disch := first | omega | decide) only [n_X2_readGroups, e_X2_readGroups_0, e_X2_readGroups_1, e_X2_readGroups_2, tw_cl, tg20, tg21, tg22, tg27, tp21 hT, cR_ref, cR_null, cR_rf, c1_int, c1_ref, c1_null, c1_rf, kz_int, kz_ref, kz_null, kz_rf, kz_U, kz_long, nB_null, nB_ref, rf_none, rf_some, bV_ret, bV_thr, bA_ret, bA_thr, bX_ret, bX_thr, len4_0, len4_1, len4_2, len4_3, len4_4, true_and, and_true, and_self, if_true, if_false, Option.bind_some, nR_b1, nR_b0, nR_bI, nI_1z, nI_0z, bI_z, if_nn, e1]
    exact f1
  · rw [if_neg hsg] at hv
    have hq : q = (tk cs s).2.2.1 := by unfold er at hv; injection hv with hv; exact hv.symm
    rw [hq]
    have e1 := t_st_er (d := d + 3) (h := h) (b := 0) hT hp hc (by decide) (w := 0) (by decide) (fun q => by omega) (fun z => hsg z.1)
    refine ⟨sI σ 20 (nI (tk cs s).2.2.1), ?_, rfl, hp.q, Fx.rfl'.sI (by decide)⟩
    simp (disch := first | omega | decide) only [n_X2_readGroups, e_X2_readGroups_0, e_X2_readGroups_1, e_X2_readGroups_2, tw_cl, tg20, tg21, tg22, tg27, tp21 hT, cR_ref, cR_null, cR_rf, c1_int, c1_ref, c1_null, c1_rf, kz_int, kz_ref, kz_null, kz_rf, kz_U, kz_long, nB_null, nB_ref, rf_none, rf_some, bV_ret, bV_thr, bA_ret, bA_thr, bX_ret, bX_thr, len4_0, len4_1, len4_2, len4_3, len4_4, true_and, and_true, and_self, if_true, if_false, Option.bind_some, nR_b1, nR_b0, nR_bI, nI_1z, nI_0z, bI_z, if_nn, e1]
    exact t_fin hT rfl hp.q
end TPB
