/-! TWIN, reading: the query, whole -/
def FxR (σ σ' : Tw) : Prop := Fx [15, 17, 18, 19, 20, 21, 22, 24, 25, 26, 27, 32, 35, 39, 41, 43, 44, 45, 46] [28, 29, 30, 31, 33, 36, 37, 38, 40, 42] [23, 34] σ σ'
def QyR (σ : Tw) (q : Qry) : Prop := σ.1 20 = -1 ∧ σ.1 43 = bI q.1 ∧ WaR σ q.2.1 ∧ q.2.1.length ≤ 6 ∧ CR σ (wc (cWr (cB 4 q.2.2.1) [] c0) []) ∧ orF σ q.2.2.2.1 ∧ σ.1 46 = nI (q.2.2.2.2.getD 10000) ∧ q.2.2.2.2.getD 10000 ≤ 10000 ∧ CBd (cWr (cB 4 q.2.2.1) [] c0)
section TPD
variable {Ω : Om} {d : Nat} {h : AH} {x : Nat} {A : Nat → Nat} {σ σ' : Tw} {cs : List Nat} {s : PS}
theorem WaR.fx {I AI AL vs : List Nat} (hw : WaR σ vs) (hf : Fx I AI AL σ σ') (h1 : 41 ∉ I) (h2 : 40 ∉ AI) : WaR σ' vs := ⟨by rw [hf.1 41 h1]; exact hw.1, fun i v q => by rw [hf.2.1 40 h2]; exact hw.2 i v q⟩
theorem orF.fx {I AI AL : List Nat} {o : Option Nat × Bool} (hw : orF σ o) (hf : Fx I AI AL σ σ') (h1 : 44 ∉ I) (h2 : 45 ∉ I) : orF σ' o := by
  unfold orF at *
  rw [hf.1 44 h1, hf.1 45 h2]
  exact hw
/-- from the columns on -/
theorem t_q1 (hT : TwOk Ω.sz x A) (hp : PL σ cs s) (hc : CR σ (wc c0 [])) (hw : WaR σ []) (h44 : σ.1 44 = -1) (h45 : σ.1 45 = nI 0) (h46 : σ.1 46 = nI 10000) {di : Bool} (h43 : σ.1 43 = bI di) :
    ∃ σ', gO PG Ω (d + 11) 62 35 [.ref x, .int (nI 1)] [] (tW h x A σ) = some (.returned none, tW h x A σ') ∧ FxR σ σ' ∧ (∀ y, pRest cs di s = .ok y → QyR σ' y) ∧ (∀ q, pRest cs di s = .error q → σ'.1 20 = nI q ∧ q ≤ 160) := by
  unfold pRest
  have hm1 : (-1 : Int32) < 0 := by decide
  have h0 := t_co (d := d) (h := h) (cs := cs) hT 6 σ s [] hp hw rfl
  cases q1 : pCols cs 6 s with
  | error q0 =>
    obtain ⟨σ1, e1, e2, e3, e4⟩ := h0.2 q0 q1
    exact ⟨σ1, e1, e4.mono (by decide) (by decide) (by decide), fun y hy => (nomatch hy), fun q hq => by cases hq; exact ⟨e2, e3⟩⟩
  | ok r1 =>
    obtain ⟨vs, s2⟩ := r1
    obtain ⟨σ1, e1, e2, e3, e4, e5⟩ := h0.1 vs s2 q1
    rw [List.nil_append] at e3 e4
    have hc1 := hc.fx e5 (by decide) (by decide) (by decide)
    have hF1 : FxR σ σ1 := e5.mono (by decide) (by decide) (by decide)
    dsimp only
    cases q2 : pG cs 4 s2 with
    | error q0 =>
      obtain ⟨σ2, f1, f2, f3, f4⟩ := t_gs_er (d := d) (h := h) hT e2 hc1 q2
      have hm2 : ¬ nI q0 < 0 := nI_pos (by omega)
      refine ⟨σ2, ?_, hF1.trans (f4.mono (by decide) (by decide) (by decide)), fun y hy => (nomatch hy), fun q hq => by cases hq; exact ⟨f2, f3⟩⟩
      rw [e1]
      simp (disch := first | omega | decide) only [e_X2_readQuery_108, e_X2_readQuery_109, e_X2_readQuery_112, e_X2_readQuery_113, e_X2_readQuery_116, e_X2_readQuery_119, tw_cl, tg15, tg16, tg20, tg40, tg41, tg43, tg45, tp41 hT, tp43 hT, tp44 hT, tp45 hT, tp46 hT, tr40 hT, ts40 hT, cR_ref, cR_null, cR_rf, c1_int, c1_ref, c1_null, c1_rf, kz_int, kz_ref, kz_null, kz_rf, kz_U, kz_long, nB_null, nB_ref, rf_none, rf_some, bV_ret, bV_thr, bA_ret, bA_thr, bX_ret, bX_thr, len4_0, len4_1, len4_2, len4_3, len4_4, true_and, and_true, and_self, if_true, if_false, Option.bind_some, nR_b1, nR_b0, nR_bI, nI_1z, nI_0z, bI_z, if_nn, f1, f2, hm2]
    | ok r2 =>
      obtain ⟨g, s3⟩ := r2
      obtain ⟨σ2, f1, f2, f3, f4, hbd⟩ := t_gs_ok (d := d) (h := h) hT e2 hc1 q2
      have hF2 : FxR σ σ2 := hF1.trans (f4.mono (by decide) (by decide) (by decide))
      have hw2 := e3.fx f4 (by decide) (by decide)
      have g20 := f2.2.2.2.1
      have key : gO PG Ω (d + 11) 62 35 [.ref x, .int (nI 1)] [] (tW h x A σ) = gO PG Ω (d + 11) 62 120 [.ref x, .int (nI 0)] [] (tW h x A σ2) := by
        rw [e1]
        simp (disch := first | omega | decide) only [e_X2_readQuery_108, e_X2_readQuery_109, e_X2_readQuery_112, e_X2_readQuery_113, e_X2_readQuery_116, e_X2_readQuery_119, tw_cl, tg15, tg16, tg20, tg40, tg41, tg43, tg45, tp41 hT, tp43 hT, tp44 hT, tp45 hT, tp46 hT, tr40 hT, ts40 hT, cR_ref, cR_null, cR_rf, c1_int, c1_ref, c1_null, c1_rf, kz_int, kz_ref, kz_null, kz_rf, kz_U, kz_long, nB_null, nB_ref, rf_none, rf_some, bV_ret, bV_thr, bA_ret, bA_thr, bX_ret, bX_thr, len4_0, len4_1, len4_2, len4_3, len4_4, true_and, and_true, and_self, if_true, if_false, Option.bind_some, nR_b1, nR_b0, nR_bI, nI_1z, nI_0z, bI_z, if_nn, f1, g20, hm1]
      have ho := t_or (d := d) (h := h) (l1 := .int (nI 0)) hT f2 (by rw [f4.1 44 (by decide), e5.1 44 (by decide)]; exact h44) (by rw [f4.1 45 (by decide), e5.1 45 (by decide)]; exact h45)
      have i46 : σ2.1 46 = nI 10000 := by rw [f4.1 46 (by decide), e5.1 46 (by decide)]; exact h46
      have i43 : σ2.1 43 = bI di := by rw [f4.1 43 (by decide), e5.1 43 (by decide)]; exact h43
      dsimp only
      rw [key]
      cases q3 : pOrd cs s3 with
      | error q0 =>
        obtain ⟨σ3, g1, g2, g3, g4⟩ := ho.2 q0 q3
        exact ⟨σ3, g1, hF2.trans (g4.mono (by decide) (by decide) (by decide)), fun y hy => (nomatch hy), fun q hq => by cases hq; exact ⟨g2, g3⟩⟩
      | ok r3 =>
        obtain ⟨o, s4⟩ := r3
        obtain ⟨σ3, g1, g2, g3, g4, g5⟩ := ho.1 o s4 q3
        have hF3 : FxR σ σ3 := hF2.trans (g5.mono (by decide) (by decide) (by decide))
        have hl := t_li (d := d) (h := h) (l1 := .int (nI 0)) hT g2 (g4.trans i46)
        dsimp only
        rw [g1]
        cases q4 : pLim cs s4 with
        | error q0 =>
          obtain ⟨σ4, j1, j2, j3, j4⟩ := hl.2 q0 q4
          exact ⟨σ4, j1, hF3.trans (j4.mono (by decide) (by decide) (by decide)), fun y hy => (nomatch hy), fun q hq => by cases hq; exact ⟨j2, j3⟩⟩
        | ok r4 =>
          obtain ⟨l, s5⟩ := r4
          obtain ⟨σ4, j1, j2, j3, j4, j5⟩ := hl.1 l s5 q4
          have hF4 : FxR σ σ4 := hF3.trans (j5.mono (by decide) (by decide) (by decide))
          have h5 := j2.w.2.2.2
          have h15 := j2.2.1.1
          dsimp only
          rw [j1]
          by_cases h0 : (tk cs s5).1 = 0
          · rw [if_pos h0]
            refine ⟨σ4, ?_, hF4, fun y hy => ?_, fun q hq => (nomatch hq)⟩
            · simp (disch := first | omega | decide) only [e_X2_readQuery_210, e_X2_readQuery_211, e_X2_readQuery_214, e_X2_readQuery_217, e_X2_readQuery_218, e_X2_readQuery_221, tw_cl, tg15, tg16, tg20, tg40, tg41, tg43, tg45, tp41 hT, tp43 hT, tp44 hT, tp45 hT, tp46 hT, tr40 hT, ts40 hT, cR_ref, cR_null, cR_rf, c1_int, c1_ref, c1_null, c1_rf, kz_int, kz_ref, kz_null, kz_rf, kz_U, kz_long, nB_null, nB_ref, rf_none, rf_some, bV_ret, bV_thr, bA_ret, bA_thr, bX_ret, bX_thr, len4_0, len4_1, len4_2, len4_3, len4_4, true_and, and_true, and_self, if_true, if_false, Option.bind_some, nR_b1, nR_b0, nR_bI, nI_1z, nI_0z, bI_z, if_nn, h15, nI_eq0, h0]
            · cases hy
              exact ⟨j2.2.2.2.1, by rw [j5.1 43 (by decide), g5.1 43 (by decide)]; exact i43, (hw2.fx g5 (by decide) (by decide)).fx j5 (by decide) (by decide), e4, (f3.fx g5 (by decide) (by decide) (by decide)).fx j5 (by decide) (by decide) (by decide), g3.fx j5 (by decide) (by decide), j3, j4, hbd⟩
          · rw [if_neg h0]
            have k1 := t_stop (d := d + 10) (h := h) hT j2
            refine ⟨sI σ4 20 (nI (tk cs s5).2.2.1), ?_, hF4.sI (by decide), fun y hy => (nomatch hy), fun q hq => by cases hq; exact ⟨rfl, j2.q⟩⟩
            simp (disch := first | omega | decide) only [e_X2_readQuery_210, e_X2_readQuery_211, e_X2_readQuery_214, e_X2_readQuery_217, e_X2_readQuery_218, e_X2_readQuery_221, tw_cl, tg15, tg16, tg20, tg40, tg41, tg43, tg45, tp41 hT, tp43 hT, tp44 hT, tp45 hT, tp46 hT, tr40 hT, ts40 hT, cR_ref, cR_null, cR_rf, c1_int, c1_ref, c1_null, c1_rf, kz_int, kz_ref, kz_null, kz_rf, kz_U, kz_long, nB_null, nB_ref, rf_none, rf_some, bV_ret, bV_thr, bA_ret, bA_thr, bX_ret, bX_thr, len4_0, len4_1, len4_2, len4_3, len4_4, true_and, and_true, and_self, if_true, if_false, Option.bind_some, nR_b1, nR_b0, nR_bI, nI_1z, nI_0z, bI_z, if_nn, h15, nI_eq0, h0, k1]
theorem t_q (hT : TwOk Ω.sz x A) (hp : PL σ cs (0, [], 0)) (hc : CR σ (wc c0 [])) (hw : WaR σ []) (h44 : σ.1 44 = -1) (h45 : σ.1 45 = nI 0) (h46 : σ.1 46 = nI 10000) : ∃ σ', gM PG Ω (d + 12) 62 [.ref x] (tW h x A σ) = some (.returned none, tW h x A σ') ∧ FxR σ σ' ∧ (∀ y, pQry cs = .ok y → QyR σ' y) ∧ (∀ q, pQry cs = .error q → σ'.1 20 = nI q ∧ q ≤ 160) := by
  have k0 := t_isKey (d := d + 10) (h := h) hT hp.2.1 hp.w (i := 0) (by decide)
  by_cases h0 : isKy (tk cs (0, [], 0)) 0 = true
  · rw [h0] at k0
    obtain ⟨σ1, e1, e2, e3⟩ := t_goOn1 (d := d + 5) (h := h) hT hp
    have k1 := t_isKey (d := d + 10) (h := h) hT e2.2.1 e2.w (i := 1) (by decide)
    have hf : Fx [43] [] [] σ1 (sI σ1 43 (bI (isKy (tk cs (nx cs (0, [], 0))) 1))) := Fx.rfl'.sI (by decide)
    have hp2 := e2.fx hf (by decide) (by decide) (by decide) rfl
    have hF2 : FxR σ (sI σ1 43 (bI (isKy (tk cs (nx cs (0, [], 0))) 1))) := (e3.mono (by decide) (by decide) (by decide) : FxR _ _).trans (hf.mono (by decide) (by decide) (by decide))
    have hc2 := (hc.fx e3 (by decide) (by decide) (by decide)).fx hf (by decide) (by decide) (by decide)
    have hw2 := (hw.fx e3 (by decide) (by decide)).fx hf (by decide) (by decide)
    have z44 : σ1.1 44 = -1 := by rw [e3.1 44 (by decide)]; exact h44
    have z45 : σ1.1 45 = nI 0 := by rw [e3.1 45 (by decide)]; exact h45
    have z46 : σ1.1 46 = nI 10000 := by rw [e3.1 46 (by decide)]; exact h46
    cases hd : isKy (tk cs (nx cs (0, [], 0))) 1 with
    | true =>
      rw [hd] at k1 hp2 hF2 hc2 hw2
      obtain ⟨σ2, f1, f2, f3⟩ := t_go (d := d + 6) (h := h) hT hp2
      obtain ⟨σ3, g1, g2, g3, g4⟩ := t_q1 (d := d) (h := h) (di := true) hT f2 (hc2.fx f3 (by decide) (by decide) (by decide)) (hw2.fx f3 (by decide) (by decide)) (by rw [f3.1 44 (by decide)]; exact z44) (by rw [f3.1 45 (by decide)]; exact z45) (by rw [f3.1 46 (by decide)]; exact z46) (by rw [f3.1 43 (by decide)]; rfl)
      have hQ : pQry cs = pRest cs true (nx cs (nx cs (0, [], 0))) := by
        unfold pQry
        rw [if_pos h0, hd, if_pos rfl]
      refine ⟨σ3, ?_, (hF2.trans (f3.mono (by decide) (by decide) (by decide))).trans g2, fun y hy => g3 y (hQ.symm.trans hy), fun q hq => g4 q (hQ.symm.trans hq)⟩
      simp (disch := first | omega | decide) only [n_X2_readQuery, e_X2_readQuery_0, e_X2_readQuery_1, e_X2_readQuery_2, e_X2_readQuery_3, e_X2_readQuery_6, e_X2_readQuery_9, e_X2_readQuery_12, e_X2_readQuery_13, e_X2_readQuery_14, e_X2_readQuery_15, e_X2_readQuery_16, e_X2_readQuery_19, e_X2_readQuery_22, e_X2_readQuery_23, e_X2_readQuery_26, e_X2_readQuery_29, e_X2_readQuery_30, e_X2_readQuery_33, e_X2_readQuery_34, tw_cl, tg15, tg16, tg20, tg40, tg41, tg43, tg45, tp41 hT, tp43 hT, tp44 hT, tp45 hT, tp46 hT, tr40 hT, ts40 hT, cR_ref, cR_null, cR_rf, c1_int, c1_ref, c1_null, c1_rf, kz_int, kz_ref, kz_null, kz_rf, kz_U, kz_long, nB_null, nB_ref, rf_none, rf_some, bV_ret, bV_thr, bA_ret, bA_thr, bX_ret, bX_thr, len4_0, len4_1, len4_2, len4_3, len4_4, true_and, and_true, and_self, if_true, if_false, Option.bind_some, nR_b1, nR_b0, nR_bI, nI_1z, nI_0z, bI_z, if_nn, sI_1, sI_2, sT_1, sT_21, sT_22, sA_1, sA_21, sA_221, sA_222, sL_1, sL_21, sL_221, sL_222, Nat.reduceEqDiff, ↓reduceIte, k0, bI_t, e1, k1, okv_b1, (show bI true = nI 1 from rfl) ▸ f1, g1]
    | false =>
      rw [hd] at k1 hp2 hF2 hc2 hw2
      obtain ⟨σ3, g1, g2, g3, g4⟩ := t_q1 (d := d) (h := h) (di := false) hT hp2 hc2 hw2 z44 z45 z46 rfl
      have hQ : pQry cs = pRest cs false (nx cs (0, [], 0)) := by
        unfold pQry
        rw [if_pos h0, hd, if_neg (by decide)]
      refine ⟨σ3, ?_, hF2.trans g2, fun y hy => g3 y (hQ.symm.trans hy), fun q hq => g4 q (hQ.symm.trans hq)⟩
      simp (disch := first | omega | decide) only [n_X2_readQuery, e_X2_readQuery_0, e_X2_readQuery_1, e_X2_readQuery_2, e_X2_readQuery_3, e_X2_readQuery_6, e_X2_readQuery_9, e_X2_readQuery_12, e_X2_readQuery_13, e_X2_readQuery_14, e_X2_readQuery_15, e_X2_readQuery_16, e_X2_readQuery_19, e_X2_readQuery_22, e_X2_readQuery_23, e_X2_readQuery_26, e_X2_readQuery_29, e_X2_readQuery_30, e_X2_readQuery_33, e_X2_readQuery_34, tw_cl, tg15, tg16, tg20, tg40, tg41, tg43, tg45, tp41 hT, tp43 hT, tp44 hT, tp45 hT, tp46 hT, tr40 hT, ts40 hT, cR_ref, cR_null, cR_rf, c1_int, c1_ref, c1_null, c1_rf, kz_int, kz_ref, kz_null, kz_rf, kz_U, kz_long, nB_null, nB_ref, rf_none, rf_some, bV_ret, bV_thr, bA_ret, bA_thr, bX_ret, bX_thr, len4_0, len4_1, len4_2, len4_3, len4_4, true_and, and_true, and_self, if_true, if_false, Option.bind_some, nR_b1, nR_b0, nR_bI, nI_1z, nI_0z, bI_z, if_nn, sI_1, sI_2, sT_1, sT_21, sT_22, sA_1, sA_21, sA_221, sA_222, sL_1, sL_21, sL_221, sL_222, Nat.reduceEqDiff, ↓reduceIte, k0, bI_t, bI_f, e1, k1, okv_b0, (show bI false = nI 0 from rfl) ▸ g1]
  · rw [Bool.eq_false_iff.mpr h0] at k0
    have e1 := t_goOn0 (d := d + 9) (h := h) hT hp
    have hQ : pQry cs = .error (tk cs (0, [], 0)).2.2.1 := by unfold pQry; rw [if_neg h0]
    refine ⟨sI σ 20 (nI (tk cs (0, [], 0)).2.2.1), ?_, Fx.rfl'.sI (by decide), fun y hy => (by rw [hQ] at hy; cases hy), fun q hq => by rw [hQ] at hq; cases hq; exact ⟨rfl, hp.q⟩⟩
    simp (disch := first | omega | decide) only [n_X2_readQuery, e_X2_readQuery_0, e_X2_readQuery_1, e_X2_readQuery_2, e_X2_readQuery_3, e_X2_readQuery_6, e_X2_readQuery_9, e_X2_readQuery_12, tw_cl, tg15, tg16, tg20, tg40, tg41, tg43, tg45, tp41 hT, tp43 hT, tp44 hT, tp45 hT, tp46 hT, tr40 hT, ts40 hT, cR_ref, cR_null, cR_rf, c1_int, c1_ref, c1_null, c1_rf, kz_int, kz_ref, kz_null, kz_rf, kz_U, kz_long, nB_null, nB_ref, rf_none, rf_some, bV_ret, bV_thr, bA_ret, bA_thr, bX_ret, bX_thr, len4_0, len4_1, len4_2, len4_3, len4_4, true_and, and_true, and_self, if_true, if_false, Option.bind_some, nR_b1, nR_b0, nR_bI, nI_1z, nI_0z, bI_z, if_nn, k0, bI_f, e1]
end TPD
