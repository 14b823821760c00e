/-! TWIN, reading: the query -/
def WaR (σ : Tw) (vs : List Nat) : Prop := σ.1 41 = nI vs.length ∧ ∀ i v, vs[i]? = some v → v < 6 ∧ σ.2.2.1 40 i = nI v
def FxW (σ σ' : Tw) : Prop := Fx [15, 17, 18, 19, 20, 24, 41] [40] [23] σ σ'
section TPC
variable {Ω : Om} {d : Nat} {h : AH} {x : Nat} {A : Nat → Nat} {σ σ' : Tw} {cs : List Nat} {s : PS}
theorem WaR.push {vs : List Nat} {v : Nat} (hw : WaR σ vs) (hf : FxV σ σ') (hv : v < 6) : WaR (sI (sA σ' 40 vs.length (nI v)) 41 (nI (vs.length + 1))) (vs ++ [v]) := by
  refine ⟨by simp [sI_1], fun i w q => ?_⟩
  rw [sI_2, sA_221, if_pos rfl]
  unfold va_up
  rcases getE_snoc q with q | ⟨rfl, q2⟩
  · have hi := (List.getElem?_eq_some_iff.mp q).1
    rw [if_neg (by omega), hf.2.1 40 (by decide)]
    exact hw.2 i w q
  · subst q2
    rw [if_pos rfl]
    exact ⟨hv, rfl⟩
theorem t_co (hT : TwOk Ω.sz x A) : ∀ (n : Nat) (σ : Tw) (s : PS) (v0 : List Nat), PL σ cs s → WaR σ v0 → v0.length + n = 6 →
    (∀ vs s', pCols cs n s = .ok (vs, s') → ∃ σ', gO PG Ω (d + 11) 62 35 [.ref x, .int (nI 1)] [] (tW h x A σ) = gO PG Ω (d + 11) 62 108 [.ref x, .int (nI 0)] [] (tW h x A σ') ∧ PL σ' cs s' ∧ WaR σ' (v0 ++ vs) ∧ (v0 ++ vs).length ≤ 6 ∧ FxW σ σ') ∧
    (∀ q, pCols cs n s = .error q → ∃ σ', gO PG Ω (d + 11) 62 35 [.ref x, .int (nI 1)] [] (tW h x A σ) = some (.returned none, tW h x A σ') ∧ σ'.1 20 = nI q ∧ q ≤ 160 ∧ FxW σ σ') := by
  intro n
  induction n with
  | zero =>
    intro σ s v0 hp hw hl
    unfold pCols
    refine ⟨fun vs s' hv => (nomatch hv), fun q hv => ?_⟩
    have hq : q = (tk cs s).2.2.1 := by unfold er at hv; injection hv with hv; exact hv.symm
    rw [hq]
    have e1 := t_stop (d := d + 10) (h := h) hT hp
    have hm1 : ¬ nI (tk cs s).2.2.1 < 0 := nI_pos (by have := hp.q; omega)
    refine ⟨sI σ 20 (nI (tk cs s).2.2.1), ?_, rfl, hp.q, Fx.rfl'.sI (by decide)⟩
    have h6 : v0.length = 6 := by omega
    have h41 : σ.1 41 = nI 6 := by rw [hw.1, h6]
    rw [e_X2_readQuery_35]
    simp (disch := first | omega | decide) only [e_X2_readQuery_36, e_X2_readQuery_39, e_X2_readQuery_40, e_X2_readQuery_43, e_X2_readQuery_45, e_X2_readQuery_48, e_X2_readQuery_49, e_X2_readQuery_52, e_X2_readQuery_53, e_X2_readQuery_56, e_X2_readQuery_59, tw_cl, tg15, tg16, tg20, tg40, tg41, tg43, tg45, tp41 hT, tp43 hT, tp44 hT, tp45 hT, tp46 hT, tr40 hT, ts40 hT, cR_ref, cR_null, cR_rf, c1_int, c1_ref, c1_null, c1_rf, kz_int, kz_ref, kz_null, kz_rf, kz_U, kz_long, nB_null, nB_ref, rf_none, rf_some, bV_ret, bV_thr, bA_ret, bA_thr, bX_ret, bX_thr, len4_0, len4_1, len4_2, len4_3, len4_4, true_and, and_true, and_self, if_true, if_false, Option.bind_some, nR_b1, nR_b0, nR_bI, nI_1z, nI_0z, bI_z, if_nn, sI_1, sI_2, sT_1, sT_21, sT_22, sA_1, sA_21, sA_221, sA_222, sL_1, sL_21, sL_221, sL_222, Nat.reduceEqDiff, ↓reduceIte, h41, ↓nI_eq_if, e1, hm1]
  | succ n ih =>
    intro σ s v0 hp hw hl
    unfold pCols
    have hw20 := hp.2.2.2.1
    have hm1 : (-1 : Int32) < 0 := by decide
    have h6 : ¬ v0.length = 6 := by omega
    have h80 : v0.length < 80 := by omega
    have h41 := hw.1
    cases hr : pVar cs s with
    | error q0 =>
      refine ⟨fun vs s' hv => (nomatch hv), fun q hv => ?_⟩
      cases hv
      have e1 := t_rv_er (d := d + 4) (h := h) hT hp hr
      have hq := (pVar_er hr).1
      have hq2 : q0 ≤ 160 := by rw [hq]; exact hp.q
      have hm2 : ¬ nI q0 < 0 := nI_pos (by omega)
      refine ⟨sI (sA (sI σ 20 (nI q0)) 40 v0.length (-1)) 41 (nI (v0.length + 1)), ?_, rfl, hq2, ((Fx.rfl'.sI (by decide)).sA (by decide)).sI (by decide)⟩
      rw [e_X2_readQuery_35]
      simp (disch := first | omega | decide) only [e_X2_readQuery_36, e_X2_readQuery_39, e_X2_readQuery_40, e_X2_readQuery_43, e_X2_readQuery_45, e_X2_readQuery_48, e_X2_readQuery_49, e_X2_readQuery_52, e_X2_readQuery_53, e_X2_readQuery_56, e_X2_readQuery_59, e_X2_readQuery_60, e_X2_readQuery_61, e_X2_readQuery_64, e_X2_readQuery_65, e_X2_readQuery_68, e_X2_readQuery_69, e_X2_readQuery_72, e_X2_readQuery_73, e_X2_readQuery_74, e_X2_readQuery_75, e_X2_readQuery_78, e_X2_readQuery_79, e_X2_readQuery_80, e_X2_readQuery_83, e_X2_readQuery_84, e_X2_readQuery_87, e_X2_readQuery_90, e_X2_readQuery_91, e_X2_readQuery_92, e_X2_readQuery_95, e_X2_readQuery_96, e_X2_readQuery_99, e_X2_readQuery_100, e_X2_readQuery_103, e_X2_readQuery_104, e_X2_readQuery_105, tw_cl, tg15, tg16, tg20, tg40, tg41, tg43, tg45, tp41 hT, tp43 hT, tp44 hT, tp45 hT, tp46 hT, tr40 hT, ts40 hT, cR_ref, cR_null, cR_rf, c1_int, c1_ref, c1_null, c1_rf, kz_int, kz_ref, kz_null, kz_rf, kz_U, kz_long, nB_null, nB_ref, rf_none, rf_some, bV_ret, bV_thr, bA_ret, bA_thr, bX_ret, bX_thr, len4_0, len4_1, len4_2, len4_3, len4_4, true_and, and_true, and_self, if_true, if_false, Option.bind_some, nR_b1, nR_b0, nR_bI, nI_1z, nI_0z, bI_z, if_nn, sI_1, sI_2, sT_1, sT_21, sT_22, sA_1, sA_21, sA_221, sA_222, sL_1, sL_21, sL_221, sL_222, Nat.reduceEqDiff, ↓reduceIte, nI_add, pk_mul, h41, ↓nI_eq_if, h6, hw20, hm1, e1, hm2]
    | ok r =>
      obtain ⟨v, s1⟩ := r
      obtain ⟨σ1, e1, e2, e3⟩ := t_rv_ok (d := d + 4) (h := h) hT hp hr
      have hf : Fx [41] [40] [] σ1 (sI (sA σ1 40 v0.length (nI v)) 41 (nI (v0.length + 1))) := (Fx.rfl'.sA (by decide)).sI (by decide)
      have hp2 := e2.fx hf (by decide) (by decide) (by decide) rfl
      have hw2 := hw.push e3 (pVar_ok hr).2.2.1
      have hF : FxW σ (sI (sA σ1 40 v0.length (nI v)) 41 (nI (v0.length + 1))) := (e3.mono (by decide) (by decide) (by decide) : FxW _ _).trans (hf.mono (by decide) (by decide) (by decide))
      have h411 : σ1.1 41 = nI v0.length := by rw [e3.1 41 (by decide)]; exact h41
      have hw1 := e2.2.2.2.1
      have hk1 := e2.2.1.1
      have h5 := e2.w.2.2.2
      have key : gO PG Ω (d + 11) 62 35 [.ref x, .int (nI 1)] [] (tW h x A σ) = gO PG Ω (d + 11) 62 35 [.ref x, .int (if (tk cs s1).1 = 3 then nI 1 else nI 0)] [] (tW h x A (sI (sA σ1 40 v0.length (nI v)) 41 (nI (v0.length + 1)))) := by
        rw [e_X2_readQuery_35]
        simp (disch := first | omega | decide) only [e_X2_readQuery_36, e_X2_readQuery_39, e_X2_readQuery_40, e_X2_readQuery_43, e_X2_readQuery_45, e_X2_readQuery_48, e_X2_readQuery_49, e_X2_readQuery_52, e_X2_readQuery_53, e_X2_readQuery_56, e_X2_readQuery_59, e_X2_readQuery_60, e_X2_readQuery_61, e_X2_readQuery_64, e_X2_readQuery_65, e_X2_readQuery_68, e_X2_readQuery_69, e_X2_readQuery_72, e_X2_readQuery_73, e_X2_readQuery_74, e_X2_readQuery_75, e_X2_readQuery_78, e_X2_readQuery_79, e_X2_readQuery_80, e_X2_readQuery_83, e_X2_readQuery_84, e_X2_readQuery_87, e_X2_readQuery_90, e_X2_readQuery_91, e_X2_readQuery_92, e_X2_readQuery_95, e_X2_readQuery_96, e_X2_readQuery_99, e_X2_readQuery_100, e_X2_readQuery_103, e_X2_readQuery_104, e_X2_readQuery_105, tw_cl, tg15, tg16, tg20, tg40, tg41, tg43, tg45, tp41 hT, tp43 hT, tp44 hT, tp45 hT, tp46 hT, tr40 hT, ts40 hT, cR_ref, cR_null, cR_rf, c1_int, c1_ref, c1_null, c1_rf, kz_int, kz_ref, kz_null, kz_rf, kz_U, kz_long, nB_null, nB_ref, rf_none, rf_some, bV_ret, bV_thr, bA_ret, bA_thr, bX_ret, bX_thr, len4_0, len4_1, len4_2, len4_3, len4_4, true_and, and_true, and_self, if_true, if_false, Option.bind_some, nR_b1, nR_b0, nR_bI, nI_1z, nI_0z, bI_z, if_nn, sI_1, sI_2, sT_1, sT_21, sT_22, sA_1, sA_21, sA_221, sA_222, sL_1, sL_21, sL_221, sL_222, Nat.reduceEqDiff, ↓reduceIte, nI_add, pk_mul, h41, h411, ↓nI_eq_if, h6, hw20, hm1, e1, hw1, hk1]
        by_cases h3 : (tk cs s1).1 = 3 <;> simp only [h3, if_true, if_false]
      rw [key]
      dsimp only
      by_cases h3 : (tk cs s1).1 = 3
      · rw [if_pos h3, if_pos h3]
        have hih := ih _ s1 (v0 ++ [v]) hp2 hw2 (by simp; omega)
        cases hu : pCols cs n s1 with
        | error q0 =>
          refine ⟨fun els s' hv => (nomatch hv), fun q hv => ?_⟩
          cases hv
          obtain ⟨σ2, f1, f2, f3, f4⟩ := hih.2 q0 hu
          exact ⟨σ2, f1, f2, f3, hF.trans f4⟩
        | ok r2 =>
          obtain ⟨vs, s2⟩ := r2
          refine ⟨fun els s' hv => ?_, fun q hv => (nomatch hv)⟩
          cases hv
          obtain ⟨σ2, f1, f2, f3, f4, f5⟩ := hih.1 vs s2 hu
          rw [List.append_assoc] at f3 f4
          exact ⟨σ2, f1, f2, f3, f4, hF.trans f5⟩
      · rw [if_neg h3, if_neg h3]
        refine ⟨fun els s' hv => ?_, fun q hv => (nomatch hv)⟩
        cases hv
        refine ⟨_, ?_, hp2, hw2, by simp; omega, hF⟩
        rw [e_X2_readQuery_35]
        simp (disch := first | omega | decide) only [e_X2_readQuery_36, cR_ref, cR_null, cR_rf, c1_int, c1_ref, c1_null, c1_rf, kz_int, kz_ref, kz_null, kz_rf, kz_U, kz_long, nB_null, nB_ref, rf_none, rf_some, bV_ret, bV_thr, bA_ret, bA_thr, bX_ret, bX_thr, len4_0, len4_1, len4_2, len4_3, len4_4, true_and, and_true, and_self, if_true, if_false, Option.bind_some, nR_b1, nR_b0, nR_bI, nI_1z, nI_0z, bI_z, if_nn]
/-- order; limit: fields that are written -/
def FxO (σ σ' : Tw) : Prop := Fx [15, 17, 18, 19, 20, 24, 44, 45, 46] [] [23] σ σ'
def orF (σ : Tw) (o : Option Nat × Bool) : Prop := σ.1 45 = bI o.2 ∧ match o.1 with
  | none => σ.1 44 = -1
  | some v => v < 6 ∧ σ.1 44 = nI v
theorem t_or (hT : TwOk Ω.sz x A) (hp : PL σ cs s) (h44 : σ.1 44 = -1) (h45 : σ.1 45 = nI 0) {l1 : Value} :
    (∀ o s', pOrd cs s = .ok (o, s') → ∃ σ', gO PG Ω (d + 11) 62 120 [.ref x, l1] [] (tW h x A σ) = gO PG Ω (d + 11) 62 168 [.ref x, l1] [] (tW h x A σ') ∧ PL σ' cs s' ∧ orF σ' o ∧ σ'.1 46 = σ.1 46 ∧ FxO σ σ') ∧
    (∀ q, pOrd cs s = .error q → ∃ σ', gO PG Ω (d + 11) 62 120 [.ref x, l1] [] (tW h x A σ) = some (.returned none, tW h x A σ') ∧ σ'.1 20 = nI q ∧ q ≤ 160 ∧ FxO σ σ') := by
  have k2' := t_isKey (d := d + 10) (h := h) hT hp.2.1 hp.w (i := 2) (by decide)
  have hm1 : (-1 : Int32) < 0 := by decide
  unfold pOrd
  by_cases h2 : isKy (tk cs s) 2 = true
  · rw [if_pos h2]
    rw [h2] at k2'
    obtain ⟨σ1, e1, e2, e3⟩ := t_go (d := d + 6) (h := h) hT hp
    cases hr : pVar cs (nx cs s) with
    | error q0 =>
      refine ⟨fun vs s' hv => (nomatch hv), fun q hv => ?_⟩
      cases hv
      have f1 := t_rv_er (d := d + 4) (h := h) hT e2 hr
      have hq2 : q0 ≤ 160 := by rw [(pVar_er hr).1]; exact e2.q
      have hm2 : ¬ nI q0 < 0 := nI_pos (by omega)
      refine ⟨sI (sI σ1 20 (nI q0)) 44 (-1), ?_, rfl, hq2, ((e3.mono (by decide) (by decide) (by decide) : FxO _ _).sI (by decide)).sI (by decide)⟩
      simp (disch := first | omega | decide) only [e_X2_readQuery_120, e_X2_readQuery_121, e_X2_readQuery_122, e_X2_readQuery_125, e_X2_readQuery_128, e_X2_readQuery_129, e_X2_readQuery_132, e_X2_readQuery_133, e_X2_readQuery_134, e_X2_readQuery_137, e_X2_readQuery_140, e_X2_readQuery_141, e_X2_readQuery_144, e_X2_readQuery_147, tw_cl, tg15, tg16, tg20, tg40, tg41, tg43, tg45, tp41 hT, tp43 hT, tp44 hT, tp45 hT, tp46 hT, tr40 hT, ts40 hT, cR_ref, cR_null, cR_rf, c1_int, c1_ref, c1_null, c1_rf, kz_int, kz_ref, kz_null, kz_rf, kz_U, kz_long, nB_null, nB_ref, rf_none, rf_some, bV_ret, bV_thr, bA_ret, bA_thr, bX_ret, bX_thr, len4_0, len4_1, len4_2, len4_3, len4_4, true_and, and_true, and_self, if_true, if_false, Option.bind_some, nR_b1, nR_b0, nR_bI, nI_1z, nI_0z, bI_z, if_nn, sI_1, sI_2, sT_1, sT_21, sT_22, sA_1, sA_21, sA_221, sA_222, sL_1, sL_21, sL_221, sL_222, Nat.reduceEqDiff, ↓reduceIte, k2', bI_t, e1, f1, hm2]
    | ok r =>
      obtain ⟨v, s1⟩ := r
      obtain ⟨σ2, f1, f2, f3⟩ := t_rv_ok (d := d + 4) (h := h) hT e2 hr
      have hf : Fx [44] [] [] σ2 (sI σ2 44 (nI v)) := Fx.rfl'.sI (by decide)
      have hp2 := f2.fx hf (by decide) (by decide) (by decide) rfl
      have k3 := t_isKey (d := d + 10) (h := h) hT hp2.2.1 hp2.w (i := 3) (by decide)
      have hw2 := f2.2.2.2.1
      have hv6 := (pVar_ok hr).2.2.1
      have h46' : σ2.1 46 = σ.1 46 := by rw [f3.1 46 (by decide), e3.1 46 (by decide)]
      have hF : FxO σ (sI σ2 44 (nI v)) := ((e3.mono (by decide) (by decide) (by decide) : FxO _ _).trans (f3.mono (by decide) (by decide) (by decide))).trans (hf.mono (by decide) (by decide) (by decide))
      dsimp only
      by_cases h3 : isKy (tk cs s1) 3 = true
      · rw [if_pos h3]
        rw [h3] at k3
        have hf3 : Fx [45] [] [] (sI σ2 44 (nI v)) (sI (sI σ2 44 (nI v)) 45 (nI 1)) := Fx.rfl'.sI (by decide)
        have hp3 := hp2.fx hf3 (by decide) (by decide) (by decide) rfl
        obtain ⟨σ3, g1, g2, g3⟩ := t_go (d := d + 6) (h := h) hT hp3
        refine ⟨fun els s' hv => ?_, fun q hv => (nomatch hv)⟩
        cases hv
        refine ⟨σ3, ?_, g2, ⟨by rw [g3.1 45 (by decide)]; rfl, hv6, by rw [g3.1 44 (by decide)]; rfl⟩, by rw [g3.1 46 (by decide)]; exact h46', (hF.trans (hf3.mono (by decide) (by decide) (by decide))).trans (g3.mono (by decide) (by decide) (by decide))⟩
        simp (disch := first | omega | decide) only [e_X2_readQuery_120, e_X2_readQuery_121, e_X2_readQuery_122, e_X2_readQuery_125, e_X2_readQuery_128, e_X2_readQuery_129, e_X2_readQuery_132, e_X2_readQuery_133, e_X2_readQuery_134, e_X2_readQuery_137, e_X2_readQuery_140, e_X2_readQuery_141, e_X2_readQuery_144, e_X2_readQuery_147, e_X2_readQuery_148, e_X2_readQuery_149, e_X2_readQuery_150, e_X2_readQuery_151, e_X2_readQuery_154, e_X2_readQuery_157, e_X2_readQuery_158, e_X2_readQuery_161, e_X2_readQuery_164, e_X2_readQuery_165, tw_cl, tg15, tg16, tg20, tg40, tg41, tg43, tg45, tp41 hT, tp43 hT, tp44 hT, tp45 hT, tp46 hT, tr40 hT, ts40 hT, cR_ref, cR_null, cR_rf, c1_int, c1_ref, c1_null, c1_rf, kz_int, kz_ref, kz_null, kz_rf, kz_U, kz_long, nB_null, nB_ref, rf_none, rf_some, bV_ret, bV_thr, bA_ret, bA_thr, bX_ret, bX_thr, len4_0, len4_1, len4_2, len4_3, len4_4, true_and, and_true, and_self, if_true, if_false, Option.bind_some, nR_b1, nR_b0, nR_bI, nI_1z, nI_0z, bI_z, if_nn, sI_1, sI_2, sT_1, sT_21, sT_22, sA_1, sA_21, sA_221, sA_222, sL_1, sL_21, sL_221, sL_222, Nat.reduceEqDiff, ↓reduceIte, k2', bI_t, e1, f1, hw2, hm1, k3, okv_b1, g1]
      · rw [if_neg h3]
        rw [Bool.eq_false_iff.mpr h3] at k3
        have hf3 : Fx [45] [] [] (sI σ2 44 (nI v)) (sI (sI σ2 44 (nI v)) 45 (nI 0)) := Fx.rfl'.sI (by decide)
        have hp3 := hp2.fx hf3 (by decide) (by decide) (by decide) rfl
        refine ⟨fun els s' hv => ?_, fun q hv => (nomatch hv)⟩
        cases hv
        refine ⟨sI (sI σ2 44 (nI v)) 45 (nI 0), ?_, hp3, ⟨rfl, hv6, rfl⟩, h46', hF.trans (hf3.mono (by decide) (by decide) (by decide))⟩
        simp (disch := first | omega | decide) only [e_X2_readQuery_120, e_X2_readQuery_121, e_X2_readQuery_122, e_X2_readQuery_125, e_X2_readQuery_128, e_X2_readQuery_129, e_X2_readQuery_132, e_X2_readQuery_133, e_X2_readQuery_134, e_X2_readQuery_137, e_X2_readQuery_140, e_X2_readQuery_141, e_X2_readQuery_144, e_X2_readQuery_147, e_X2_readQuery_148, e_X2_readQuery_149, e_X2_readQuery_150, e_X2_readQuery_151, e_X2_readQuery_154, e_X2_readQuery_157, e_X2_readQuery_158, e_X2_readQuery_161, e_X2_readQuery_164, e_X2_readQuery_165, tw_cl, tg15, tg16, tg20, tg40, tg41, tg43, tg45, tp41 hT, tp43 hT, tp44 hT, tp45 hT, tp46 hT, tr40 hT, ts40 hT, cR_ref, cR_null, cR_rf, c1_int, c1_ref, c1_null, c1_rf, kz_int, kz_ref, kz_null, kz_rf, kz_U, kz_long, nB_null, nB_ref, rf_none, rf_some, bV_ret, bV_thr, bA_ret, bA_thr, bX_ret, bX_thr, len4_0, len4_1, len4_2, len4_3, len4_4, true_and, and_true, and_self, if_true, if_false, Option.bind_some, nR_b1, nR_b0, nR_bI, nI_1z, nI_0z, bI_z, if_nn, sI_1, sI_2, sT_1, sT_21, sT_22, sA_1, sA_21, sA_221, sA_222, sL_1, sL_21, sL_221, sL_222, Nat.reduceEqDiff, ↓reduceIte, k2', bI_t, bI_f, e1, f1, hw2, hm1, k3, okv_b0]
  · rw [if_neg h2]
    rw [Bool.eq_false_iff.mpr h2] at k2'
    refine ⟨fun els s' hv => ?_, fun q hv => (nomatch hv)⟩
    cases hv
    refine ⟨σ, ?_, hp, ⟨h45, h44⟩, rfl, Fx.rfl'⟩
    simp (disch := first | omega | decide) only [e_X2_readQuery_120, e_X2_readQuery_121, e_X2_readQuery_122, e_X2_readQuery_125, tw_cl, tg15, tg16, tg20, tg40, tg41, tg43, tg45, tp41 hT, tp43 hT, tp44 hT, tp45 hT, tp46 hT, tr40 hT, ts40 hT, cR_ref, cR_null, cR_rf, c1_int, c1_ref, c1_null, c1_rf, kz_int, kz_ref, kz_null, kz_rf, kz_U, kz_long, nB_null, nB_ref, rf_none, rf_some, bV_ret, bV_thr, bA_ret, bA_thr, bX_ret, bX_thr, len4_0, len4_1, len4_2, len4_3, len4_4, true_and, and_true, and_self, if_true, if_false, Option.bind_some, nR_b1, nR_b0, nR_bI, nI_1z, nI_0z, bI_z, if_nn, k2', bI_f]
theorem t_li (hT : TwOk Ω.sz x A) (hp : PL σ cs s) (h46 : σ.1 46 = nI 10000) {l1 : Value} :
    (∀ l s', pLim cs s = .ok (l, s') → ∃ σ', gO PG Ω (d + 11) 62 168 [.ref x, l1] [] (tW h x A σ) = gO PG Ω (d + 11) 62 210 [.ref x, l1] [] (tW h x A σ') ∧ PL σ' cs s' ∧ σ'.1 46 = nI (l.getD 10000) ∧ l.getD 10000 ≤ 10000 ∧ Fx [15, 17, 18, 19, 20, 46] [] [] σ σ') ∧
    (∀ q, pLim cs s = .error q → ∃ σ', gO PG Ω (d + 11) 62 168 [.ref x, l1] [] (tW h x A σ) = some (.returned none, tW h x A σ') ∧ σ'.1 20 = nI q ∧ q ≤ 160 ∧ Fx [15, 17, 18, 19, 20, 46] [] [] σ σ') := by
  have k4 := t_isKey (d := d + 10) (h := h) hT hp.2.1 hp.w (i := 4) (by decide)
  unfold pLim
  by_cases h4 : isKy (tk cs s) 4 = true
  · rw [if_pos h4]
    rw [h4] at k4
    obtain ⟨σ1, e1, e2, e3⟩ := t_go (d := d + 6) (h := h) hT hp
    have hf : Fx [46] [] [] σ1 (sI σ1 46 σ1.2.1.toInt32) := Fx.rfl'.sI (by decide)
    have hp2 := e2.fx hf (by decide) (by decide) (by decide) rfl
    have h15 := e2.2.1.1
    have h5 := e2.w.2.2.2
    by_cases h2 : (tk cs (nx cs s)).1 = 2
    · rw [if_pos h2]
      obtain ⟨σ2, f1, f2, f3⟩ := t_goOn1 (d := d + 5) (h := h) hT hp2
      have hnu := e2.w.2.1 h2
      have htk := e2.2.1.2.2.1 h2
      have hlt := hnu.lt
      refine ⟨fun els s' hv => ?_, fun q hv => (nomatch hv)⟩
      cases hv
      refine ⟨σ2, ?_, f2, ?_, by show nN _ ≤ 10000; omega, ((e3.mono (by decide) (by decide) (by decide)).trans (hf.mono (by decide) (by decide) (by decide))).trans (f3.mono (by decide) (by decide) (by decide))⟩
      · simp (disch := first | omega | decide) only [e_X2_readQuery_168, e_X2_readQuery_169, e_X2_readQuery_170, e_X2_readQuery_173, e_X2_readQuery_176, e_X2_readQuery_177, e_X2_readQuery_180, e_X2_readQuery_181, e_X2_readQuery_182, e_X2_readQuery_185, e_X2_readQuery_186, e_X2_readQuery_189, e_X2_readQuery_190, e_X2_readQuery_191, e_X2_readQuery_194, e_X2_readQuery_195, e_X2_readQuery_198, e_X2_readQuery_199, e_X2_readQuery_202, e_X2_readQuery_203, e_X2_readQuery_206, tw_cl, tg15, tg16, tg20, tg40, tg41, tg43, tg45, tp41 hT, tp43 hT, tp44 hT, tp45 hT, tp46 hT, tr40 hT, ts40 hT, cR_ref, cR_null, cR_rf, c1_int, c1_ref, c1_null, c1_rf, kz_int, kz_ref, kz_null, kz_rf, kz_U, kz_long, nB_null, nB_ref, rf_none, rf_some, bV_ret, bV_thr, bA_ret, bA_thr, bX_ret, bX_thr, len4_0, len4_1, len4_2, len4_3, len4_4, true_and, and_true, and_self, if_true, if_false, Option.bind_some, nR_b1, nR_b0, nR_bI, nI_1z, nI_0z, bI_z, if_nn, sI_1, sI_2, sT_1, sT_21, sT_22, sA_1, sA_21, sA_221, sA_222, sL_1, sL_21, sL_221, sL_222, Nat.reduceEqDiff, ↓reduceIte, k4, bI_t, e1, h15, h2, ↓nI_eq_if, f1]
      · rw [f3.1 46 (by decide)]
        show σ1.2.1.toInt32 = nI (nN _)
        rw [htk, ncode_n _ hnu.2.2, lN_i]
    · rw [if_neg h2]
      have f1 := t_goOn0 (d := d + 9) (h := h) hT hp2
      refine ⟨fun els s' hv => (nomatch hv), fun q hv => ?_⟩
      have hq : q = (tk cs (nx cs s)).2.2.1 := by unfold er at hv; injection hv with hv; exact hv.symm
      rw [hq]
      refine ⟨sI (sI σ1 46 σ1.2.1.toInt32) 20 (nI (tk cs (nx cs s)).2.2.1), ?_, rfl, e2.q, ((e3.mono (by decide) (by decide) (by decide)).trans (hf.mono (by decide) (by decide) (by decide))).sI (by decide)⟩
      simp (disch := first | omega | decide) only [e_X2_readQuery_168, e_X2_readQuery_169, e_X2_readQuery_170, e_X2_readQuery_173, e_X2_readQuery_176, e_X2_readQuery_177, e_X2_readQuery_180, e_X2_readQuery_181, e_X2_readQuery_182, e_X2_readQuery_185, e_X2_readQuery_186, e_X2_readQuery_189, e_X2_readQuery_190, e_X2_readQuery_191, e_X2_readQuery_194, e_X2_readQuery_195, e_X2_readQuery_198, e_X2_readQuery_199, e_X2_readQuery_202, e_X2_readQuery_203, e_X2_readQuery_206, e_X2_readQuery_209, tw_cl, tg15, tg16, tg20, tg40, tg41, tg43, tg45, tp41 hT, tp43 hT, tp44 hT, tp45 hT, tp46 hT, tr40 hT, ts40 hT, cR_ref, cR_null, cR_rf, c1_int, c1_ref, c1_null, c1_rf, kz_int, kz_ref, kz_null, kz_rf, kz_U, kz_long, nB_null, nB_ref, rf_none, rf_some, bV_ret, bV_thr, bA_ret, bA_thr, bX_ret, bX_thr, len4_0, len4_1, len4_2, len4_3, len4_4, true_and, and_true, and_self, if_true, if_false, Option.bind_some, nR_b1, nR_b0, nR_bI, nI_1z, nI_0z, bI_z, if_nn, sI_1, sI_2, sT_1, sT_21, sT_22, sA_1, sA_21, sA_221, sA_222, sL_1, sL_21, sL_221, sL_222, Nat.reduceEqDiff, ↓reduceIte, k4, bI_t, e1, h15, h2, ↓nI_eq_if, f1]
  · rw [if_neg h4]
    rw [Bool.eq_false_iff.mpr h4] at k4
    refine ⟨fun els s' hv => ?_, fun q hv => (nomatch hv)⟩
    cases hv
    refine ⟨σ, ?_, hp, h46, Nat.le_refl _, Fx.rfl'⟩
    simp (disch := first | omega | decide) only [e_X2_readQuery_168, e_X2_readQuery_169, e_X2_readQuery_170, e_X2_readQuery_173, tw_cl, tg15, tg16, tg20, tg40, tg41, tg43, tg45, tp41 hT, tp43 hT, tp44 hT, tp45 hT, tp46 hT, tr40 hT, ts40 hT, cR_ref, cR_null, cR_rf, c1_int, c1_ref, c1_null, c1_rf, kz_int, kz_ref, kz_null, kz_rf, kz_U, kz_long, nB_null, nB_ref, rf_none, rf_some, bV_ret, bV_thr, bA_ret, bA_thr, bX_ret, bX_thr, len4_0, len4_1, len4_2, len4_3, len4_4, true_and, and_true, and_self, if_true, if_false, Option.bind_some, nR_b1, nR_b0, nR_bI, nI_1z, nI_0z, bI_z, if_nn, k4, bI_f]
end TPC
