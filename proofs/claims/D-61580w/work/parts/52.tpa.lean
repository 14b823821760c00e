/-! TWIN, reading: groups, whole -/
section TPA
variable {Ω : Om} {d : Nat} {h : AH} {x : Nat} {A : Nat → Nat} {σ σ' : Tw} {cs : List Nat} {s : PS}
theorem t_l0 (hT : TwOk Ω.sz x A) (hp : PL σ cs s) {m : Nat} (h27 : σ.1 27 = nI (m + 1)) (hm : m < 100) (h21 : σ.1 21 = nI 0) : LPt Ω d h x A σ = gO PG Ω (d + 10) 67 65 [.ref x] [] (tW h x A σ) := by
  have hw := hp.2.2.2.1
  have hm1 : (-1 : Int32) < 0 := by decide
  have hpos : (0 : Int32) < nI (m + 1) := by rw [← nI_0]; exact (nI_ltI (by decide) (by omega)).mpr (by omega)
  unfold LPt
  rw [e_X2_readGroups_5]
  simp (disch := first | omega | decide) only [e_X2_readGroups_6, e_X2_readGroups_9, e_X2_readGroups_12, e_X2_readGroups_13, e_X2_readGroups_16, e_X2_readGroups_19, e_X2_readGroups_20, e_X2_readGroups_23, tw_cl, tg20, tg21, tg22, tg27, tp21 hT, cR_ref, cR_null, cR_rf, c1_int, c1_ref, c1_null, c1_rf, kz_int, kz_ref, kz_null, kz_rf, kz_U, kz_long, nB_null, nB_ref, rf_none, rf_some, bV_ret, bV_thr, bA_ret, bA_thr, bX_ret, bX_thr, len4_0, len4_1, len4_2, len4_3, len4_4, true_and, and_true, and_self, if_true, if_false, Option.bind_some, nR_b1, nR_b0, nR_bI, nI_1z, nI_0z, bI_z, if_nn, hw, hm1, h27, hpos, h21]
theorem t_la (hT : TwOk Ω.sz x A) (hp : PL σ cs s) (hsg : isSg (tk cs s) 125 = true) : gO PG Ω (d + 10) 67 65 [.ref x] [] (tW h x A σ) = CLt Ω d h x A σ := by
  have ks := t_isSign (d := d + 9) (h := h) hT hp.2.1 hp.w (c := 125) (by decide)
  rw [hsg] at ks
  unfold CLt
  simp (disch := first | omega | decide) only [e_X2_readGroups_65, e_X2_readGroups_66, e_X2_readGroups_68, e_X2_readGroups_71, tw_cl, tg20, tg21, tg22, tg27, tp21 hT, cR_ref, cR_null, cR_rf, c1_int, c1_ref, c1_null, c1_rf, kz_int, kz_ref, kz_null, kz_rf, kz_U, kz_long, nB_null, nB_ref, rf_none, rf_some, bV_ret, bV_thr, bA_ret, bA_thr, bX_ret, bX_thr, len4_0, len4_1, len4_2, len4_3, len4_4, true_and, and_true, and_self, if_true, if_false, Option.bind_some, nR_b1, nR_b0, nR_bI, nI_1z, nI_0z, bI_z, if_nn, ks, bI_t]
theorem t_lb (hT : TwOk Ω.sz x A) (hp : PL σ cs s) (hsg : ¬ isSg (tk cs s) 125 = true) (h46 : isSg (tk cs s) 46 = true) : ∃ σ', gO PG Ω (d + 10) 67 65 [.ref x] [] (tW h x A σ) = gO PG Ω (d + 10) 67 100 [.ref x] [] (tW h x A σ') ∧ PL σ' cs (nx cs s) ∧ Fx [15, 17, 18, 19] [] [] σ σ' := by
  have ks := t_isSign (d := d + 9) (h := h) hT hp.2.1 hp.w (c := 125) (by decide)
  have k2' := t_isSign (d := d + 9) (h := h) hT hp.2.1 hp.w (c := 46) (by decide)
  rw [Bool.eq_false_iff.mpr hsg] at ks
  rw [h46] at k2'
  obtain ⟨σ1, e1, e2, e3⟩ := t_goOn1 (d := d + 4) (h := h) hT hp
  refine ⟨σ1, ?_, e2, e3⟩
  simp (disch := first | omega | decide) only [e_X2_readGroups_65, e_X2_readGroups_66, e_X2_readGroups_68, e_X2_readGroups_71, e_X2_readGroups_74, e_X2_readGroups_75, e_X2_readGroups_76, e_X2_readGroups_79, e_X2_readGroups_80, e_X2_readGroups_83, e_X2_readGroups_86, e_X2_readGroups_87, e_X2_readGroups_88, e_X2_readGroups_90, e_X2_readGroups_93, e_X2_readGroups_96, e_X2_readGroups_99, tw_cl, tg20, tg21, tg22, tg27, tp21 hT, cR_ref, cR_null, cR_rf, c1_int, c1_ref, c1_null, c1_rf, kz_int, kz_ref, kz_null, kz_rf, kz_U, kz_long, nB_null, nB_ref, rf_none, rf_some, bV_ret, bV_thr, bA_ret, bA_thr, bX_ret, bX_thr, len4_0, len4_1, len4_2, len4_3, len4_4, true_and, and_true, and_self, if_true, if_false, Option.bind_some, nR_b1, nR_b0, nR_bI, nI_1z, nI_0z, bI_z, if_nn, ks, k2', bI_t, bI_f, e1]
theorem t_lx (hT : TwOk Ω.sz x A) (hp : PL σ cs s) (hsg : ¬ isSg (tk cs s) 125 = true) (h46 : ¬ isSg (tk cs s) 46 = true) : Rer h x A (gO PG Ω (d + 10) 67 65 [.ref x] [] (tW h x A σ)) σ (tk cs s).2.2.1 := by
  have ks := t_isSign (d := d + 9) (h := h) hT hp.2.1 hp.w (c := 125) (by decide)
  have k2' := t_isSign (d := d + 9) (h := h) hT hp.2.1 hp.w (c := 46) (by decide)
  rw [Bool.eq_false_iff.mpr hsg] at ks
  rw [Bool.eq_false_iff.mpr h46] at k2'
  have e1 := t_goOn0 (d := d + 8) (h := h) hT hp
  refine ⟨sI σ 20 (nI (tk cs s).2.2.1), ?_, rfl, hp.q, Fx.rfl'.sI (by decide)⟩
  simp (disch := first | omega | decide) only [e_X2_readGroups_65, e_X2_readGroups_66, e_X2_readGroups_68, e_X2_readGroups_71, e_X2_readGroups_74, e_X2_readGroups_75, e_X2_readGroups_76, e_X2_readGroups_79, e_X2_readGroups_80, e_X2_readGroups_83, e_X2_readGroups_86, e_X2_readGroups_87, e_X2_readGroups_88, e_X2_readGroups_90, e_X2_readGroups_93, e_X2_readGroups_96, e_X2_readGroups_99, tw_cl, tg20, tg21, tg22, tg27, tp21 hT, cR_ref, cR_null, cR_rf, c1_int, c1_ref, c1_null, c1_rf, kz_int, kz_ref, kz_null, kz_rf, kz_U, kz_long, nB_null, nB_ref, rf_none, rf_some, bV_ret, bV_thr, bA_ret, bA_thr, bX_ret, bX_thr, len4_0, len4_1, len4_2, len4_3, len4_4, true_and, and_true, and_self, if_true, if_false, Option.bind_some, nR_b1, nR_b0, nR_bI, nI_1z, nI_0z, bI_z, if_nn, ks, k2', bI_f, e1]
theorem sk27 {c : C4} {st : Sk} {e : Nat × Nat × Nat} (hc : CR σ (wc c (st ++ [e]))) : σ.1 27 = nI (st.length + 1) := by
  have : σ.1 27 = nI (st ++ [e]).length := hc.2.2.2.2.1
  simpa using this
theorem t_m (hT : TwOk Ω.sz x A) {n : Nat} (hB : ∀ m, n = m + 1 → RB Ω d h x A cs m) {st : Sk} {w g b : Nat} (hl : st.length + 1 + n = 4) : ∀ (k : Nat) (σ : Tw) (s : PS) (c : C4), PL σ cs s → CR σ (wc c (st ++ [(w, g, b)])) → CI (wc c (st ++ [(w, g, b)])) s → σ.1 21 = nI 0 → 12 ≤ k + s.2.2 → (∀ els s', pMore cs (pG cs n) k s = .ok (els, s') → Rcl Ω d h x A cs (LPt Ω d h x A σ) σ s' (wc (cEls (cB n) g els c) (st ++ [(w, g, b)]))) ∧ (∀ q, pMore cs (pG cs n) k s = .error q → Rer h x A (LPt Ω d h x A σ) σ q) := by
  intro k
  induction k with
  | zero =>
    intro σ s c hp hc hI h21 hk
    rw [t_l0 hT hp (sk27 hc) (by omega) h21]
    unfold pMore
    by_cases h125 : isSg (tk cs s) 125 = true
    · rw [if_pos h125, t_la hT hp h125]
      refine ⟨fun els s' hv => ?_, fun q hv => (nomatch hv)⟩
      cases hv
      exact ⟨σ, s, rfl, hp, h125, rfl, hc, hI, Fx.rfl'⟩
    · rw [if_neg h125]
      by_cases h46 : isSg (tk cs s) 46 = true
      · rw [if_pos h46]
        refine ⟨fun els s' hv => (nomatch hv), fun q hv => ?_⟩
        have hq : q = (tk cs (nx cs s)).2.2.1 := by unfold er at hv; injection hv with hv; exact hv.symm
        rw [hq]
        obtain ⟨σ1, e1, e2, e3⟩ := t_lb (d := d) (h := h) hT hp h125 h46
        have f1 := t_el_no (d := d + 6) (h := h) hT e2 (by
          have : (nx cs s).2.2 = s.2.2 := rfl
          simp; omega)
        refine ⟨sI σ1 20 (nI (tk cs (nx cs s)).2.2.1), ?_, rfl, e2.q, e3.Q4.sI (by decide)⟩
        rw [e1, t_si2 hT f1, cont_e hT rfl e2.q]
      · rw [if_neg h46]
        refine ⟨fun els s' hv => (nomatch hv), fun q hv => ?_⟩
        have hq : q = (tk cs s).2.2.1 := by unfold er at hv; injection hv with hv; exact hv.symm
        rw [hq]
        exact t_lx hT hp h125 h46
  | succ k ih =>
    intro σ s c hp hc hI h21 hk
    rw [t_l0 hT hp (sk27 hc) (by omega) h21]
    unfold pMore
    by_cases h125 : isSg (tk cs s) 125 = true
    · rw [if_pos h125, t_la hT hp h125]
      refine ⟨fun els s' hv => ?_, fun q hv => (nomatch hv)⟩
      cases hv
      exact ⟨σ, s, rfl, hp, h125, rfl, hc, hI, Fx.rfl'⟩
    · rw [if_neg h125]
      by_cases h46 : isSg (tk cs s) 46 = true
      · rw [if_pos h46]
        obtain ⟨σ1, e1, e2, e3⟩ := t_lb (d := d) (h := h) hT hp h125 h46
        have hc1 := hc.fx e3 (by decide) (by decide) (by decide)
        have hI1 := hI.go (cs := cs) hp.2.2.1
        have he := t_e (d := d) (h := h) hT hB e2 hc1 hI1 hl (by rw [e3.1 21 (by decide)]; exact h21)
        cases hr : pEl cs (pG cs n) (nx cs s) with
        | error q0 =>
          refine ⟨fun els s' hv => (nomatch hv), fun q hv => ?_⟩
          cases hv
          obtain ⟨σ2, f1, f2⟩ := he.2 q0 hr
          rw [e1, t_si2 hT f1]
          exact f2.step e3.Q4
        | ok r =>
          obtain ⟨e, s1⟩ := r
          obtain ⟨σ2, f1, σ3, g1, g2, g3, g4, g5, g6⟩ := he.1 e s1 hr
          have hmo := pEl_mo (pG_mo cs n) e2.2.2.1 hr
          have hel : (nx cs s).2.2 = s.2.2 := rfl
          have hih := ih σ3 s1 _ g2 g3 g4 g5 (by omega)
          rw [e1, t_si2 hT f1, g1]
          dsimp only
          cases hu : pMore cs (pG cs n) k s1 with
          | error q0 =>
            refine ⟨fun els s' hv => (nomatch hv), fun q hv => ?_⟩
            cases hv
            exact (hih.2 q0 hu).step (e3.Q4.trans g6)
          | ok r2 =>
            obtain ⟨es, s2⟩ := r2
            refine ⟨fun els s' hv => ?_, fun q hv => (nomatch hv)⟩
            cases hv
            obtain ⟨σ4, s4, i1, i2, i3, i4, i5, i6, i7⟩ := hih.1 es s2 hu
            exact ⟨σ4, s4, i1, i2, i3, i4, i5, i6, (e3.Q4.trans g6).trans i7⟩
      · rw [if_neg h46]
        refine ⟨fun els s' hv => (nomatch hv), fun q hv => ?_⟩
        have hq : q = (tk cs s).2.2.1 := by unfold er at hv; injection hv with hv; exact hv.symm
        rw [hq]
        exact t_lx hT hp h125 h46
theorem t_b1 (hT : TwOk Ω.sz x A) {n : Nat} (hB : ∀ m, n = m + 1 → RB Ω d h x A cs m) : RB Ω d h x A cs n := by
  intro σ s c st w g b hp hc hI hl h21
  have hw := hp.2.2.2.1
  have hm1 : (-1 : Int32) < 0 := by decide
  have h27 := sk27 hc
  have hpos : (0 : Int32) < nI (st.length + 1) := by rw [← nI_0]; exact (nI_ltI (by decide) (by omega)).mpr (by omega)
  have ks := t_isSign (d := d + 9) (h := h) hT hp.2.1 hp.w (c := 125) (by decide)
  unfold pBody
  by_cases h125 : isSg (tk cs s) 125 = true
  · rw [if_pos h125]
    rw [h125] at ks
    have hE : LPt Ω d h x A σ = gO PG Ω (d + 10) 67 65 [.ref x] [] (tW h x A σ) := by
      unfold LPt
      rw [e_X2_readGroups_5]
      simp (disch := first | omega | decide) only [e_X2_readGroups_6, e_X2_readGroups_9, e_X2_readGroups_12, e_X2_readGroups_13, e_X2_readGroups_16, e_X2_readGroups_19, e_X2_readGroups_20, e_X2_readGroups_23, e_X2_readGroups_26, e_X2_readGroups_27, e_X2_readGroups_29, e_X2_readGroups_32, tw_cl, tg20, tg21, tg22, tg27, tp21 hT, cR_ref, cR_null, cR_rf, c1_int, c1_ref, c1_null, c1_rf, kz_int, kz_ref, kz_null, kz_rf, kz_U, kz_long, nB_null, nB_ref, rf_none, rf_some, bV_ret, bV_thr, bA_ret, bA_thr, bX_ret, bX_thr, len4_0, len4_1, len4_2, len4_3, len4_4, true_and, and_true, and_self, if_true, if_false, Option.bind_some, nR_b1, nR_b0, nR_bI, nI_1z, nI_0z, bI_z, if_nn, hw, hm1, h27, hpos, h21, ks, bI_t]
    rw [hE, t_la hT hp h125]
    refine ⟨fun els s' hv => ?_, fun q hv => (nomatch hv)⟩
    cases hv
    exact ⟨σ, s, rfl, hp, h125, rfl, hc, hI, Fx.rfl'⟩
  · rw [if_neg h125]
    rw [Bool.eq_false_iff.mpr h125] at ks
    have hE : LPt Ω d h x A σ = gO PG Ω (d + 10) 67 40 [.ref x] [] (tW h x A (sI σ 21 (nI 0))) := by
      unfold LPt
      rw [e_X2_readGroups_5]
      simp (disch := first | omega | decide) only [e_X2_readGroups_6, e_X2_readGroups_9, e_X2_readGroups_12, e_X2_readGroups_13, e_X2_readGroups_16, e_X2_readGroups_19, e_X2_readGroups_20, e_X2_readGroups_23, e_X2_readGroups_26, e_X2_readGroups_27, e_X2_readGroups_29, e_X2_readGroups_32, e_X2_readGroups_35, e_X2_readGroups_36, e_X2_readGroups_37, tw_cl, tg20, tg21, tg22, tg27, tp21 hT, cR_ref, cR_null, cR_rf, c1_int, c1_ref, c1_null, c1_rf, kz_int, kz_ref, kz_null, kz_rf, kz_U, kz_long, nB_null, nB_ref, rf_none, rf_some, bV_ret, bV_thr, bA_ret, bA_thr, bX_ret, bX_thr, len4_0, len4_1, len4_2, len4_3, len4_4, true_and, and_true, and_self, if_true, if_false, Option.bind_some, nR_b1, nR_b0, nR_bI, nI_1z, nI_0z, bI_z, if_nn, hw, hm1, h27, hpos, h21, ks, bI_f, okv_b0]
    have hf : Fx [21] [] [] σ (sI σ 21 (nI 0)) := Fx.rfl'.sI (by decide)
    have hfQ : FxQ σ (sI σ 21 (nI 0)) := hf.mono (by decide) (by decide) (by decide)
    have hp1 := hp.fx hf (by decide) (by decide) (by decide) rfl
    have hc1 := hc.fx hf (by decide) (by decide) (by decide)
    have he := t_e (d := d) (h := h) hT hB hp1 hc1 hI hl rfl
    cases hr : pEl cs (pG cs n) s with
    | error q0 =>
      refine ⟨fun els s' hv => (nomatch hv), fun q hv => ?_⟩
      cases hv
      obtain ⟨σ2, f1, f2⟩ := he.2 q0 hr
      rw [hE, t_si1 hT f1]
      exact f2.step hfQ
    | ok r =>
      obtain ⟨e, s1⟩ := r
      obtain ⟨σ2, f1, σ3, g1, g2, g3, g4, g5, g6⟩ := he.1 e s1 hr
      have hmo := pEl_mo (pG_mo cs n) hp.2.2.1 hr
      have hih := t_m hT hB hl 12 σ3 s1 _ g2 g3 g4 g5 (by omega)
      rw [hE, t_si1 hT f1, g1]
      dsimp only
      cases hu : pMore cs (pG cs n) 12 s1 with
      | error q0 =>
        refine ⟨fun els s' hv => (nomatch hv), fun q hv => ?_⟩
        cases hv
        exact (hih.2 q0 hu).step (hfQ.trans g6)
      | ok r2 =>
        obtain ⟨es, s2⟩ := r2
        refine ⟨fun els s' hv => ?_, fun q hv => (nomatch hv)⟩
        cases hv
        obtain ⟨σ4, s4, i1, i2, i3, i4, i5, i6, i7⟩ := hih.1 es s2 hu
        exact ⟨σ4, s4, i1, i2, i3, i4, i5, i6, (hfQ.trans g6).trans i7⟩
theorem t_b (hT : TwOk Ω.sz x A) : ∀ n, RB Ω d h x A cs n := by
  intro n
  induction n with
  | zero => exact t_b1 hT (fun m hm => by omega)
  | succ n ih => exact t_b1 hT (fun m hm => by rw [show m = n by omega]; exact ih)
end TPA
