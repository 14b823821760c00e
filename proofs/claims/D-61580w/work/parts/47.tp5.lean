/-! TWIN, reading: groups -/
section TP5
variable {Ω : Om} {d : Nat} {h : AH} {x : Nat} {A : Nat → Nat} {σ σ' : Tw} {cs : List Nat} {s : PS}
theorem nx_ge (hs : s.1 ≤ cs.length) : s.1 ≤ (nx cs s).1 := by
  have := lex_w hs
  show s.1 ≤ (tk cs s).2.2.2
  unfold tk
  omega
theorem nx_gt (hs : s.1 ≤ cs.length) (h0 : (tk cs s).1 ≠ 0) : s.1 + 1 ≤ (nx cs s).1 := by
  have := lex_w hs
  have h2 := this.2.2.2.2 h0
  show s.1 + 1 ≤ (tk cs s).2.2.2
  unfold tk at *
  omega
theorem isSg_k {t : Tok} {c : Nat} (h : isSg t c = true) : t.1 = 4 := (of_decide_eq_true h).1
theorem isKy_k {t : Tok} {c : Nat} (h : isKy t c = true) : t.1 = 1 := (of_decide_eq_true h).1
theorem CI.go {c : CSt} (h : CI c s) (hs : s.1 ≤ cs.length) : CI c (nx cs s) := by
  have h1 := nx_ge hs
  obtain ⟨a, b, e, f, g⟩ := h
  exact ⟨by show _ ≤ 2 * (nx cs s).1 + s.2.2; omega, by omega, e, f, g⟩
theorem CI.opn {ops : List (Nat × Nat)} {P : List Pat} {T : List (Nat × Tst)} {G : Nat} {stk : List (Nat × Nat × Nat)} {w b : Nat} (h : CI (ops, P, T, G, stk) s) (hs : s.1 ≤ cs.length) (h0 : (tk cs s).1 ≠ 0) (hw : w ≤ 3) (hb : b ≤ 12) (hd : stk.length < 4) : CI (ops ++ [(1, 0)], P, T, G + 1, stk ++ [(w, G, b)]) (nx cs s) := by
  have h1 := nx_gt hs h0
  obtain ⟨a, b', e, f, g⟩ := h
  dsimp only at *
  refine ⟨?_, ?_, e, ?_, fun z hz => ?_⟩
  · show (ops ++ [(1, 0)]).length + (stk ++ [(w, G, b)]).length ≤ 2 * (nx cs s).1 + s.2.2
    simp; omega
  · show G + 1 ≤ _; omega
  · show (stk ++ [(w, G, b)]).length ≤ 4
    simp; omega
  · show z.1 ≤ 3 ∧ z.2.1 < G + 1 ∧ z.2.2 ≤ 12
    rcases List.mem_append.mp hz with q | q
    · have := g z q; exact ⟨this.1, by omega, this.2.2⟩
    · rw [List.mem_singleton.mp q]; exact ⟨hw, by show G < G + 1; omega, hb⟩
/-- an element that holds a group begins -/
theorem t_on_ok (hT : TwOk Ω.sz x A) (hp : PL σ cs s) {c : CSt} (hc : CR σ c) (hI : CI c s) {w : Nat} (hw : w = 1 ∨ w = 2) (hk : isKy (tk cs s) (w + 5) = true) (hsg : isSg (tk cs (nx cs s)) 123 = true) (hd : c.2.2.2.2.length < 4) : ∃ σ' b, gM PG Ω (d + 8) 75 [.ref x] (tW h x A σ) = some (.returned none, tW h x A σ') ∧ PL σ' cs (nx cs (nx cs s)) ∧ b ≤ 12 ∧ CR σ' (c.1 ++ [(1, 0)], c.2.1, c.2.2.1, c.2.2.2.1 + 1, c.2.2.2.2 ++ [(w, c.2.2.2.1, b)]) ∧ σ'.1 21 = nI 1 ∧ FxQ σ σ' := by
  obtain ⟨σ1, e1, e2, e3⟩ := t_go (d := d + 2) (h := h) hT hp
  have hc1 := hc.fx e3 (by decide) (by decide) (by decide)
  obtain ⟨σ2, f1, f2, f3, f4, f5⟩ := t_st_ok (d := d) (h := h) (b := 0) hT e2 hc1 (hI.go hp.2.2.1) (w := w) (by omega) hsg hd (fun q => by omega)
  refine ⟨σ2, 1, ?_, f2, by decide, f3, f4, e3.Q4.trans f5⟩
  have k6 := t_isKey (d := d + 6) (h := h) hT hp.2.1 hp.w (i := 6) (by decide)
  have k7 := t_isKey (d := d + 6) (h := h) hT hp.2.1 hp.w (i := 7) (by decide)
  rcases hw with rfl | rfl
  · rw [show isKy (tk cs s) 6 = true from hk] at k6
    simp (disch := first | omega | decide) only [n_X2_readOn, e_X2_readOn_0, e_X2_readOn_1, e_X2_readOn_3, e_X2_readOn_6, e_X2_readOn_9, e_X2_readOn_10, e_X2_readOn_12, e_X2_readOn_15, e_X2_readOn_18, e_X2_readOn_19, e_X2_readOn_21, e_X2_readOn_24, e_X2_readOn_27, e_X2_readOn_28, e_X2_readOn_31, e_X2_readOn_32, e_X2_readOn_33, e_X2_readOn_34, e_X2_readOn_37, e_X2_readOn_38, e_X2_readOn_39, e_X2_readOn_42, e_X2_readOn_45, e_X2_readOn_46, e_X2_readOn_48, e_X2_readOn_51, e_X2_readOn_54, e_X2_readOn_55, e_X2_readOn_57, e_X2_readOn_58, e_X2_readOn_61, e_X2_readOn_62, e_X2_readOn_65, e_X2_readOn_66, e_X2_readOn_69, e_X2_readOn_70, e_X2_readOn_71, e_X2_readOn_72, e_X2_readOn_73, e_X2_readOn_76, tw_cl, tg27, tg42, tr42 hT, ts42 hT, cR_ref, cR_null, cR_rf, c1_int, c1_ref, c1_null, c1_rf, kz_int, kz_ref, kz_null, kz_rf, kz_U, kz_long, nB_null, nB_ref, rf_none, rf_some, bV_ret, bV_thr, bA_ret, bA_thr, bX_ret, bX_thr, len4_0, len4_1, len4_2, len4_3, len4_4, true_and, and_true, and_self, if_true, if_false, Option.bind_some, nR_b1, nR_b0, nR_bI, nI_1z, nI_0z, bI_z, if_nn, k6, bI_t, e1, f1]
  · have h6 : isKy (tk cs s) 6 = false := by
      have z := of_decide_eq_true hk
      unfold isKy
      refine decide_eq_false (fun q => ?_)
      rw [q.2] at z
      exact absurd z.2 (by decide)
    rw [h6] at k6
    rw [show isKy (tk cs s) 7 = true from hk] at k7
    simp (disch := first | omega | decide) only [n_X2_readOn, e_X2_readOn_0, e_X2_readOn_1, e_X2_readOn_3, e_X2_readOn_6, e_X2_readOn_9, e_X2_readOn_10, e_X2_readOn_12, e_X2_readOn_15, e_X2_readOn_18, e_X2_readOn_19, e_X2_readOn_21, e_X2_readOn_24, e_X2_readOn_27, e_X2_readOn_28, e_X2_readOn_31, e_X2_readOn_32, e_X2_readOn_33, e_X2_readOn_34, e_X2_readOn_37, e_X2_readOn_38, e_X2_readOn_39, e_X2_readOn_42, e_X2_readOn_45, e_X2_readOn_46, e_X2_readOn_48, e_X2_readOn_51, e_X2_readOn_54, e_X2_readOn_55, e_X2_readOn_57, e_X2_readOn_58, e_X2_readOn_61, e_X2_readOn_62, e_X2_readOn_65, e_X2_readOn_66, e_X2_readOn_69, e_X2_readOn_70, e_X2_readOn_71, e_X2_readOn_72, e_X2_readOn_73, e_X2_readOn_76, tw_cl, tg27, tg42, tr42 hT, ts42 hT, cR_ref, cR_null, cR_rf, c1_int, c1_ref, c1_null, c1_rf, kz_int, kz_ref, kz_null, kz_rf, kz_U, kz_long, nB_null, nB_ref, rf_none, rf_some, bV_ret, bV_thr, bA_ret, bA_thr, bX_ret, bX_thr, len4_0, len4_1, len4_2, len4_3, len4_4, true_and, and_true, and_self, if_true, if_false, Option.bind_some, nR_b1, nR_b0, nR_bI, nI_1z, nI_0z, bI_z, if_nn, k6, k7, bI_t, bI_f, e1, f1]
theorem t_on_er (hT : TwOk Ω.sz x A) (hp : PL σ cs s) {c : CSt} (hc : CR σ c) (hI : CI c s) {w : Nat} (hw : w = 1 ∨ w = 2) (hk : isKy (tk cs s) (w + 5) = true) (hno : ¬ (isSg (tk cs (nx cs s)) 123 = true ∧ c.2.2.2.2.length < 4)) : ∃ σ', gM PG Ω (d + 8) 75 [.ref x] (tW h x A σ) = some (.returned none, tW h x A σ') ∧ σ'.1 20 = nI (tk cs (nx cs s)).2.2.1 ∧ (tk cs (nx cs s)).2.2.1 ≤ 160 ∧ FxQ σ σ' := by
  obtain ⟨σ1, e1, e2, e3⟩ := t_go (d := d + 2) (h := h) hT hp
  have hc1 := hc.fx e3 (by decide) (by decide) (by decide)
  have f1 := t_st_er (d := d) (h := h) (b := 0) hT e2 hc1 hI.2.2.2.1 (w := w) (by omega) (fun q => by omega) (fun q => hno ⟨q.1, q.2.1⟩)
  refine ⟨sI σ1 20 (nI (tk cs (nx cs s)).2.2.1), ?_, rfl, e2.q, e3.Q4.sI (by decide)⟩
  have k6 := t_isKey (d := d + 6) (h := h) hT hp.2.1 hp.w (i := 6) (by decide)
  have k7 := t_isKey (d := d + 6) (h := h) hT hp.2.1 hp.w (i := 7) (by decide)
  rcases hw with rfl | rfl
  · rw [show isKy (tk cs s) 6 = true from hk] at k6
    simp (disch := first | omega | decide) only [n_X2_readOn, e_X2_readOn_0, e_X2_readOn_1, e_X2_readOn_3, e_X2_readOn_6, e_X2_readOn_9, e_X2_readOn_10, e_X2_readOn_12, e_X2_readOn_15, e_X2_readOn_18, e_X2_readOn_19, e_X2_readOn_21, e_X2_readOn_24, e_X2_readOn_27, e_X2_readOn_28, e_X2_readOn_31, e_X2_readOn_32, e_X2_readOn_33, e_X2_readOn_34, e_X2_readOn_37, e_X2_readOn_38, e_X2_readOn_39, e_X2_readOn_42, e_X2_readOn_45, e_X2_readOn_46, e_X2_readOn_48, e_X2_readOn_51, e_X2_readOn_54, e_X2_readOn_55, e_X2_readOn_57, e_X2_readOn_58, e_X2_readOn_61, e_X2_readOn_62, e_X2_readOn_65, e_X2_readOn_66, e_X2_readOn_69, e_X2_readOn_70, e_X2_readOn_71, e_X2_readOn_72, e_X2_readOn_73, e_X2_readOn_76, tw_cl, tg27, tg42, tr42 hT, ts42 hT, cR_ref, cR_null, cR_rf, c1_int, c1_ref, c1_null, c1_rf, kz_int, kz_ref, kz_null, kz_rf, kz_U, kz_long, nB_null, nB_ref, rf_none, rf_some, bV_ret, bV_thr, bA_ret, bA_thr, bX_ret, bX_thr, len4_0, len4_1, len4_2, len4_3, len4_4, true_and, and_true, and_self, if_true, if_false, Option.bind_some, nR_b1, nR_b0, nR_bI, nI_1z, nI_0z, bI_z, if_nn, k6, bI_t, e1, f1]
  · have h6 : isKy (tk cs s) 6 = false := by
      have z := of_decide_eq_true hk
      unfold isKy
      refine decide_eq_false (fun q => ?_)
      rw [q.2] at z
      exact absurd z.2 (by decide)
    rw [h6] at k6
    rw [show isKy (tk cs s) 7 = true from hk] at k7
    simp (disch := first | omega | decide) only [n_X2_readOn, e_X2_readOn_0, e_X2_readOn_1, e_X2_readOn_3, e_X2_readOn_6, e_X2_readOn_9, e_X2_readOn_10, e_X2_readOn_12, e_X2_readOn_15, e_X2_readOn_18, e_X2_readOn_19, e_X2_readOn_21, e_X2_readOn_24, e_X2_readOn_27, e_X2_readOn_28, e_X2_readOn_31, e_X2_readOn_32, e_X2_readOn_33, e_X2_readOn_34, e_X2_readOn_37, e_X2_readOn_38, e_X2_readOn_39, e_X2_readOn_42, e_X2_readOn_45, e_X2_readOn_46, e_X2_readOn_48, e_X2_readOn_51, e_X2_readOn_54, e_X2_readOn_55, e_X2_readOn_57, e_X2_readOn_58, e_X2_readOn_61, e_X2_readOn_62, e_X2_readOn_65, e_X2_readOn_66, e_X2_readOn_69, e_X2_readOn_70, e_X2_readOn_71, e_X2_readOn_72, e_X2_readOn_73, e_X2_readOn_76, tw_cl, tg27, tg42, tr42 hT, ts42 hT, cR_ref, cR_null, cR_rf, c1_int, c1_ref, c1_null, c1_rf, kz_int, kz_ref, kz_null, kz_rf, kz_U, kz_long, nB_null, nB_ref, rf_none, rf_some, bV_ret, bV_thr, bA_ret, bA_thr, bX_ret, bX_thr, len4_0, len4_1, len4_2, len4_3, len4_4, true_and, and_true, and_self, if_true, if_false, Option.bind_some, nR_b1, nR_b0, nR_bI, nI_1z, nI_0z, bI_z, if_nn, k6, k7, bI_t, bI_f, e1, f1]
theorem no_key {t : Tok} {c i : Nat} (h : isSg t c = true) : isKy t i = false := by
  unfold isKy
  refine decide_eq_false (fun q => ?_)
  have := isSg_k h
  omega
/-- a union begins -/
theorem t_un_ok (hT : TwOk Ω.sz x A) (hp : PL σ cs s) {c : CSt} (hc : CR σ c) (hI : CI (c.1 ++ [(6, 0)], c.2) s) (hsg : isSg (tk cs s) 123 = true) (hd : c.2.2.2.2.length < 4) : ∃ σ', gM PG Ω (d + 8) 75 [.ref x] (tW h x A σ) = some (.returned none, tW h x A σ') ∧ PL σ' cs (nx cs s) ∧ CR σ' (c.1 ++ [(6, 0)] ++ [(1, 0)], c.2.1, c.2.2.1, c.2.2.2.1 + 1, c.2.2.2.2 ++ [(3, c.2.2.2.1, 1)]) ∧ σ'.1 21 = nI 1 ∧ FxQ σ σ' := by
  have hro := hp.room hI
  obtain ⟨σ1, e1, e2, e3, e4⟩ := t_em (d := d + 6) (h := h) hT hc (by simp at hro; omega) (o := 6) (a := 0) hp
  have h27 := e2.2.2.2.2.1
  have hf : Fx [] [42] [] σ1 (sA σ1 42 c.2.2.2.2.length (nI 0)) := Fx.rfl'.sA (by decide)
  have hp2 := e3.fx hf (by decide) (by decide) (by decide) rfl
  have hc2 : CR (sA σ1 42 c.2.2.2.2.length (nI 0)) (c.1 ++ [(6, 0)], c.2) := by
    refine ⟨e2.1.fx hf (by decide) (by decide) (by decide), e2.2.1.fx hf (by decide) (by decide) (by decide), e2.2.2.1.fx hf (by decide) (by decide) (by decide), e2.2.2.2.1, e2.2.2.2.2.1, fun j w g b q => ?_⟩
    have hj := (List.getElem?_eq_some_iff.mp q).1
    have z := e2.2.2.2.2.2 j w g b q
    refine ⟨z.1, z.2.1, fun w3 => ?_⟩
    rw [sA_221, if_pos rfl]
    unfold va_up
    rw [if_neg (by show ¬ j = c.2.2.2.2.length; have : j < c.2.2.2.2.length := hj; omega)]
    exact z.2.2 w3
  obtain ⟨σ2, f1, f2, f3, f4, f5⟩ := t_st_ok (d := d) (h := h) (b := 0) hT hp2 hc2 hI (w := 3) (by decide) hsg hd (fun q => ⟨by rw [sA_221, if_pos rfl]; simp [va_up], by decide⟩)
  refine ⟨σ2, ?_, f2, f3, f4, ((e4.mono (by decide) (by decide) (by decide)).trans (hf.mono (by decide) (by decide) (by decide))).trans f5⟩
  have k6 := t_isKey (d := d + 6) (h := h) hT hp.2.1 hp.w (i := 6) (by decide)
  have k7 := t_isKey (d := d + 6) (h := h) hT hp.2.1 hp.w (i := 7) (by decide)
  have ks := t_isSign (d := d + 6) (h := h) hT hp.2.1 hp.w (c := 123) (by decide)
  rw [no_key hsg] at k6 k7
  rw [hsg] at ks
  have h5 : c.2.2.2.2.length < 5 := by omega
  simp (disch := first | omega | decide) only [n_X2_readOn, e_X2_readOn_0, e_X2_readOn_1, e_X2_readOn_3, e_X2_readOn_6, e_X2_readOn_9, e_X2_readOn_10, e_X2_readOn_12, e_X2_readOn_15, e_X2_readOn_18, e_X2_readOn_19, e_X2_readOn_21, e_X2_readOn_24, e_X2_readOn_27, e_X2_readOn_28, e_X2_readOn_31, e_X2_readOn_32, e_X2_readOn_33, e_X2_readOn_34, e_X2_readOn_37, e_X2_readOn_38, e_X2_readOn_39, e_X2_readOn_42, e_X2_readOn_45, e_X2_readOn_46, e_X2_readOn_48, e_X2_readOn_51, e_X2_readOn_54, e_X2_readOn_55, e_X2_readOn_57, e_X2_readOn_58, e_X2_readOn_61, e_X2_readOn_62, e_X2_readOn_65, e_X2_readOn_66, e_X2_readOn_69, e_X2_readOn_70, e_X2_readOn_71, e_X2_readOn_72, e_X2_readOn_73, e_X2_readOn_76, tw_cl, tg27, tg42, tr42 hT, ts42 hT, cR_ref, cR_null, cR_rf, c1_int, c1_ref, c1_null, c1_rf, kz_int, kz_ref, kz_null, kz_rf, kz_U, kz_long, nB_null, nB_ref, rf_none, rf_some, bV_ret, bV_thr, bA_ret, bA_thr, bX_ret, bX_thr, len4_0, len4_1, len4_2, len4_3, len4_4, true_and, and_true, and_self, if_true, if_false, Option.bind_some, nR_b1, nR_b0, nR_bI, nI_1z, nI_0z, bI_z, if_nn, k6, k7, ks, bI_t, bI_f, e1, h27, f1]
theorem t_un_er (hT : TwOk Ω.sz x A) (hp : PL σ cs s) {c : CSt} (hc : CR σ c) (hI : CI (c.1 ++ [(6, 0)], c.2) s) (hsg : isSg (tk cs s) 123 = true) (hd : ¬ c.2.2.2.2.length < 4) : ∃ σ', gM PG Ω (d + 8) 75 [.ref x] (tW h x A σ) = some (.returned none, tW h x A σ') ∧ σ'.1 20 = nI (tk cs s).2.2.1 ∧ (tk cs s).2.2.1 ≤ 160 ∧ FxQ σ σ' := by
  have hro := hp.room hI
  obtain ⟨σ1, e1, e2, e3, e4⟩ := t_em (d := d + 6) (h := h) hT hc (by simp at hro; omega) (o := 6) (a := 0) hp
  have h27 := e2.2.2.2.2.1
  have h4 : c.2.2.2.2.length ≤ 4 := hI.2.2.2.1
  have hf : Fx [] [42] [] σ1 (sA σ1 42 c.2.2.2.2.length (nI 0)) := Fx.rfl'.sA (by decide)
  have hp2 := e3.fx hf (by decide) (by decide) (by decide) rfl
  have hc2 : CR (sA σ1 42 c.2.2.2.2.length (nI 0)) (c.1 ++ [(6, 0)], c.2) := by
    refine ⟨e2.1.fx hf (by decide) (by decide) (by decide), e2.2.1.fx hf (by decide) (by decide) (by decide), e2.2.2.1.fx hf (by decide) (by decide) (by decide), e2.2.2.2.1, e2.2.2.2.2.1, fun j w g b q => ?_⟩
    have hj := (List.getElem?_eq_some_iff.mp q).1
    have z := e2.2.2.2.2.2 j w g b q
    refine ⟨z.1, z.2.1, fun w3 => ?_⟩
    rw [sA_221, if_pos rfl]
    unfold va_up
    rw [if_neg (by show ¬ j = c.2.2.2.2.length; have : j < c.2.2.2.2.length := hj; omega)]
    exact z.2.2 w3
  have f1 := t_st_er (d := d) (h := h) (b := 0) hT hp2 hc2 h4 (w := 3) (by decide) (fun q => ⟨by rw [sA_221, if_pos rfl]; simp [va_up], by decide⟩) (fun q => hd q.2.1)
  refine ⟨sI (sA σ1 42 c.2.2.2.2.length (nI 0)) 20 (nI (tk cs s).2.2.1), ?_, rfl, hp.q, ((e4.mono (by decide) (by decide) (by decide)).trans (hf.mono (by decide) (by decide) (by decide))).sI (by decide)⟩
  have k6 := t_isKey (d := d + 6) (h := h) hT hp.2.1 hp.w (i := 6) (by decide)
  have k7 := t_isKey (d := d + 6) (h := h) hT hp.2.1 hp.w (i := 7) (by decide)
  have ks := t_isSign (d := d + 6) (h := h) hT hp.2.1 hp.w (c := 123) (by decide)
  rw [no_key hsg] at k6 k7
  rw [hsg] at ks
  have h5 : c.2.2.2.2.length < 5 := by omega
  simp (disch := first | omega | decide) only [n_X2_readOn, e_X2_readOn_0, e_X2_readOn_1, e_X2_readOn_3, e_X2_readOn_6, e_X2_readOn_9, e_X2_readOn_10, e_X2_readOn_12, e_X2_readOn_15, e_X2_readOn_18, e_X2_readOn_19, e_X2_readOn_21, e_X2_readOn_24, e_X2_readOn_27, e_X2_readOn_28, e_X2_readOn_31, e_X2_readOn_32, e_X2_readOn_33, e_X2_readOn_34, e_X2_readOn_37, e_X2_readOn_38, e_X2_readOn_39, e_X2_readOn_42, e_X2_readOn_45, e_X2_readOn_46, e_X2_readOn_48, e_X2_readOn_51, e_X2_readOn_54, e_X2_readOn_55, e_X2_readOn_57, e_X2_readOn_58, e_X2_readOn_61, e_X2_readOn_62, e_X2_readOn_65, e_X2_readOn_66, e_X2_readOn_69, e_X2_readOn_70, e_X2_readOn_71, e_X2_readOn_72, e_X2_readOn_73, e_X2_readOn_76, tw_cl, tg27, tg42, tr42 hT, ts42 hT, cR_ref, cR_null, cR_rf, c1_int, c1_ref, c1_null, c1_rf, kz_int, kz_ref, kz_null, kz_rf, kz_U, kz_long, nB_null, nB_ref, rf_none, rf_some, bV_ret, bV_thr, bA_ret, bA_thr, bX_ret, bX_thr, len4_0, len4_1, len4_2, len4_3, len4_4, true_and, and_true, and_self, if_true, if_false, Option.bind_some, nR_b1, nR_b0, nR_bI, nI_1z, nI_0z, bI_z, if_nn, k6, k7, ks, bI_t, bI_f, e1, h27, f1]
theorem SkR.pop {G : Nat} {st : List (Nat × Nat × Nat)} {e : Nat × Nat × Nat} (h : SkR σ G (st ++ [e])) : SkR (sI σ 27 (nI st.length)) G st := ⟨h.1, by simp [sI_1], fun j w g c q => h.2.2 j w g c (by rw [List.getElem?_append_left (List.getElem?_eq_some_iff.mp q).1]; exact q)⟩
/-- a group is closed, first part -/
theorem t_cl1 (hT : TwOk Ω.sz x A) (hp : PL σ cs s) {ops : List (Nat × Nat)} {P : List Pat} {T : List (Nat × Tst)} {G : Nat} {st : List (Nat × Nat × Nat)} {w g b : Nat} (hc : CR σ (ops, P, T, G, st ++ [(w, g, b)])) (hI : CI (ops, P, T, G, st ++ [(w, g, b)]) s) : ∃ σ', gM PG Ω (d + 6) 76 [.ref x] (tW h x A σ) = gO PG Ω (d + 5) 76 38 [.ref x, .int (nI w)] [] (tW h x A σ') ∧ PL σ' cs (nx cs s) ∧ CR σ' (ops ++ [(3, g)], P, T, G, st) ∧ σ'.1 21 = σ.1 21 ∧ (w = 3 → σ'.2.2.1 42 st.length = nI b) ∧ FxQ σ σ' := by
  have hro := hp.room hI
  dsimp only at hro
  have hl4 : st.length < 5 := by have := hI.2.2.2.1; simp at this; omega
  obtain ⟨σ1, e1, e2, e3⟩ := t_go (d := d) (h := h) hT hp
  have hc1 := hc.fx e3 (by decide) (by decide) (by decide)
  have hen := hc1.2.2.2.2.2 st.length w g b (by simp)
  have h27 : σ1.1 27 = nI (st.length + 1) := by have := hc1.2.2.2.2.1; simpa using this
  have hf : Fx [27] [] [] σ1 (sI σ1 27 (nI st.length)) := Fx.rfl'.sI (by decide)
  have hc2 : CR (sI σ1 27 (nI st.length)) (ops, P, T, G, st) := ⟨hc1.1.fx hf (by decide) (by decide) (by decide), hc1.2.1.fx hf (by decide) (by decide) (by decide), hc1.2.2.1.fx hf (by decide) (by decide) (by decide), hc1.2.2.2.pop⟩
  have hp2 := e2.fx hf (by decide) (by decide) (by decide) rfl
  obtain ⟨σ3, g1, g2, g3, g4⟩ := t_em (d := d + 4) (h := h) hT hc2 (by dsimp only; omega) (o := 3) (a := g) hp2
  have k28 : σ3.2.2.1 28 st.length = nI w := by rw [g4.2.1 28 (by decide)]; exact hen.1
  have k27 : σ3.1 27 = nI st.length := by rw [g4.1 27 (by decide)]; simp [sI_1]
  refine ⟨σ3, ?_, g3, g2, ?_, fun q => ?_, (e3.Q4.trans (hf.mono (by decide) (by decide) (by decide))).trans (g4.mono (by decide) (by decide) (by decide))⟩
  · simp (disch := first | omega | decide) only [n_X2_readClose, e_X2_readClose_0, e_X2_readClose_1, e_X2_readClose_4, e_X2_readClose_5, e_X2_readClose_6, e_X2_readClose_9, e_X2_readClose_10, e_X2_readClose_11, e_X2_readClose_14, e_X2_readClose_15, e_X2_readClose_16, e_X2_readClose_17, e_X2_readClose_20, e_X2_readClose_21, e_X2_readClose_24, e_X2_readClose_25, e_X2_readClose_28, e_X2_readClose_29, e_X2_readClose_32, e_X2_readClose_33, e_X2_readClose_36, e_X2_readClose_37, tw_cl, tg27, tg28, tg29, tp27 hT, tr28 hT, tr29 hT, ts28 hT, ts29 hT, cR_ref, cR_null, cR_rf, c1_int, c1_ref, c1_null, c1_rf, kz_int, kz_ref, kz_null, kz_rf, kz_U, kz_long, nB_null, nB_ref, rf_none, rf_some, bV_ret, bV_thr, bA_ret, bA_thr, bX_ret, bX_thr, len4_0, len4_1, len4_2, len4_3, len4_4, true_and, and_true, and_self, if_true, if_false, Option.bind_some, nR_b1, nR_b0, nR_bI, nI_1z, nI_0z, bI_z, if_nn, sI_1, sI_2, sT_1, sT_21, sT_22, sA_1, sA_21, sA_221, sA_222, sL_1, sL_21, sL_221, sL_222, Nat.reduceEqDiff, ↓reduceIte, e1, h27, pk_pred, hen.2.1, g1, k27, k28]
  · rw [g4.1 21 (by decide)]; show σ1.1 21 = _; rw [e3.1 21 (by decide)]
  · rw [g4.2.1 42 (by decide)]; exact hen.2.2 q
/-- what follows the end of a group: for the outermost, an optional one, one taken away -/
def clO (w : Nat) : List (Nat × Nat) := if w = 1 then [(4, 0)] else if w = 2 then [(5, 0)] else []
theorem t_cl2 (hT : TwOk Ω.sz x A) (hp : PL σ cs s) {ops : List (Nat × Nat)} {P : List Pat} {T : List (Nat × Tst)} {G : Nat} {st : List (Nat × Nat × Nat)} {w g b : Nat} (hc : CR σ (ops, P, T, G, st ++ [(w, g, b)])) (hI : CI (ops, P, T, G, st ++ [(w, g, b)]) s) (hw : w ≤ 2) : ∃ σ', gM PG Ω (d + 6) 76 [.ref x] (tW h x A σ) = some (.returned none, tW h x A σ') ∧ PL σ' cs (nx cs s) ∧ CR σ' (ops ++ [(3, g)] ++ clO w, P, T, G, st) ∧ σ'.1 21 = σ.1 21 ∧ FxQ σ σ' := by
  have hro := hp.room hI
  dsimp only at hro
  obtain ⟨σ1, e1, e2, e3, e4, e5, e6⟩ := t_cl1 (d := d) (h := h) hT hp hc hI
  have hcase : w = 0 ∨ w = 1 ∨ w = 2 := by omega
  rcases hcase with rfl | rfl | rfl
  · refine ⟨σ1, ?_, e2, by simpa [clO] using e3, e4, e6⟩
    rw [e1]
    simp (disch := first | omega | decide) only [e_X2_readClose_38, e_X2_readClose_39, e_X2_readClose_40, e_X2_readClose_43, e_X2_readClose_44, e_X2_readClose_45, e_X2_readClose_46, e_X2_readClose_49, e_X2_readClose_52, e_X2_readClose_53, e_X2_readClose_54, e_X2_readClose_57, e_X2_readClose_58, e_X2_readClose_59, e_X2_readClose_60, e_X2_readClose_63, e_X2_readClose_66, e_X2_readClose_67, e_X2_readClose_68, e_X2_readClose_71, e_X2_readClose_72, e_X2_readClose_74, e_X2_readClose_75, e_X2_readClose_78, e_X2_readClose_79, e_X2_readClose_81, e_X2_readClose_84, e_X2_readClose_87, e_X2_readClose_88, e_X2_readClose_91, e_X2_readClose_92, e_X2_readClose_93, e_X2_readClose_96, e_X2_readClose_99, e_X2_readClose_100, e_X2_readClose_102, e_X2_readClose_103, e_X2_readClose_106, tw_cl, tg27, tg28, tg29, tp27 hT, tr28 hT, tr29 hT, ts28 hT, ts29 hT, cR_ref, cR_null, cR_rf, c1_int, c1_ref, c1_null, c1_rf, kz_int, kz_ref, kz_null, kz_rf, kz_U, kz_long, nB_null, nB_ref, rf_none, rf_some, bV_ret, bV_thr, bA_ret, bA_thr, bX_ret, bX_thr, len4_0, len4_1, len4_2, len4_3, len4_4, true_and, and_true, and_self, if_true, if_false, Option.bind_some, nR_b1, nR_b0, nR_bI, nI_1z, nI_0z, bI_z, if_nn, ↓nI_eq_if, Nat.reduceEqDiff]
  · obtain ⟨σ2, f1, f2, f3, f4⟩ := t_em (d := d + 4) (h := h) hT e3 (by simp; omega) (o := 4) (a := 0) e2
    refine ⟨σ2, ?_, f3, by simpa [clO] using f2, by rw [f4.1 21 (by decide)]; exact e4, e6.trans (f4.mono (by decide) (by decide) (by decide))⟩
    rw [e1]
    simp (disch := first | omega | decide) only [e_X2_readClose_38, e_X2_readClose_39, e_X2_readClose_40, e_X2_readClose_43, e_X2_readClose_44, e_X2_readClose_45, e_X2_readClose_46, e_X2_readClose_49, e_X2_readClose_52, e_X2_readClose_53, e_X2_readClose_54, e_X2_readClose_57, e_X2_readClose_58, e_X2_readClose_59, e_X2_readClose_60, e_X2_readClose_63, e_X2_readClose_66, e_X2_readClose_67, e_X2_readClose_68, e_X2_readClose_71, e_X2_readClose_72, e_X2_readClose_74, e_X2_readClose_75, e_X2_readClose_78, e_X2_readClose_79, e_X2_readClose_81, e_X2_readClose_84, e_X2_readClose_87, e_X2_readClose_88, e_X2_readClose_91, e_X2_readClose_92, e_X2_readClose_93, e_X2_readClose_96, e_X2_readClose_99, e_X2_readClose_100, e_X2_readClose_102, e_X2_readClose_103, e_X2_readClose_106, tw_cl, tg27, tg28, tg29, tp27 hT, tr28 hT, tr29 hT, ts28 hT, ts29 hT, cR_ref, cR_null, cR_rf, c1_int, c1_ref, c1_null, c1_rf, kz_int, kz_ref, kz_null, kz_rf, kz_U, kz_long, nB_null, nB_ref, rf_none, rf_some, bV_ret, bV_thr, bA_ret, bA_thr, bX_ret, bX_thr, len4_0, len4_1, len4_2, len4_3, len4_4, true_and, and_true, and_self, if_true, if_false, Option.bind_some, nR_b1, nR_b0, nR_bI, nI_1z, nI_0z, bI_z, if_nn, ↓nI_eq_if, Nat.reduceEqDiff, f1]
  · obtain ⟨σ2, f1, f2, f3, f4⟩ := t_em (d := d + 4) (h := h) hT e3 (by simp; omega) (o := 5) (a := 0) e2
    refine ⟨σ2, ?_, f3, by simpa [clO] using f2, by rw [f4.1 21 (by decide)]; exact e4, e6.trans (f4.mono (by decide) (by decide) (by decide))⟩
    rw [e1]
    simp (disch := first | omega | decide) only [e_X2_readClose_38, e_X2_readClose_39, e_X2_readClose_40, e_X2_readClose_43, e_X2_readClose_44, e_X2_readClose_45, e_X2_readClose_46, e_X2_readClose_49, e_X2_readClose_52, e_X2_readClose_53, e_X2_readClose_54, e_X2_readClose_57, e_X2_readClose_58, e_X2_readClose_59, e_X2_readClose_60, e_X2_readClose_63, e_X2_readClose_66, e_X2_readClose_67, e_X2_readClose_68, e_X2_readClose_71, e_X2_readClose_72, e_X2_readClose_74, e_X2_readClose_75, e_X2_readClose_78, e_X2_readClose_79, e_X2_readClose_81, e_X2_readClose_84, e_X2_readClose_87, e_X2_readClose_88, e_X2_readClose_91, e_X2_readClose_92, e_X2_readClose_93, e_X2_readClose_96, e_X2_readClose_99, e_X2_readClose_100, e_X2_readClose_102, e_X2_readClose_103, e_X2_readClose_106, tw_cl, tg27, tg28, tg29, tp27 hT, tr28 hT, tr29 hT, ts28 hT, ts29 hT, cR_ref, cR_null, cR_rf, c1_int, c1_ref, c1_null, c1_rf, kz_int, kz_ref, kz_null, kz_rf, kz_U, kz_long, nB_null, nB_ref, rf_none, rf_some, bV_ret, bV_thr, bA_ret, bA_thr, bX_ret, bX_thr, len4_0, len4_1, len4_2, len4_3, len4_4, true_and, and_true, and_self, if_true, if_false, Option.bind_some, nR_b1, nR_b0, nR_bI, nI_1z, nI_0z, bI_z, if_nn, ↓nI_eq_if, Nat.reduceEqDiff, f1]
/-- a union ends -/
theorem t_cl3 (hT : TwOk Ω.sz x A) (hp : PL σ cs s) {ops : List (Nat × Nat)} {P : List Pat} {T : List (Nat × Tst)} {G : Nat} {st : List (Nat × Nat × Nat)} {g b : Nat} (hc : CR σ (ops, P, T, G, st ++ [(3, g, b)])) (hI : CI (ops, P, T, G, st ++ [(3, g, b)]) s) (hk : isKy (tk cs (nx cs s)) 8 = false) : ∃ σ', gM PG Ω (d + 6) 76 [.ref x] (tW h x A σ) = some (.returned none, tW h x A σ') ∧ PL σ' cs (nx cs s) ∧ CR σ' (ops ++ [(3, g)] ++ [(7, 0)] ++ [(8, 0)], P, T, G, st) ∧ σ'.1 21 = σ.1 21 ∧ FxQ σ σ' := by
  have hro := hp.room hI
  dsimp only at hro
  obtain ⟨σ1, e1, e2, e3, e4, e5, e6⟩ := t_cl1 (d := d) (h := h) hT hp hc hI
  obtain ⟨σ2, f1, f2, f3, f4⟩ := t_em (d := d + 4) (h := h) hT e3 (by simp; omega) (o := 7) (a := 0) e2
  obtain ⟨σ3, g1, g2, g3, g4⟩ := t_em (d := d + 4) (h := h) hT f2 (by simp; omega) (o := 8) (a := 0) f3
  have k8 := t_isKey (d := d + 4) (h := h) hT f3.2.1 f3.w (i := 8) (by decide)
  rw [hk] at k8
  refine ⟨σ3, ?_, g3, g2, by rw [g4.1 21 (by decide), f4.1 21 (by decide)]; exact e4, (e6.trans (f4.mono (by decide) (by decide) (by decide))).trans (g4.mono (by decide) (by decide) (by decide))⟩
  rw [e1]
  simp (disch := first | omega | decide) only [e_X2_readClose_38, e_X2_readClose_39, e_X2_readClose_40, e_X2_readClose_43, e_X2_readClose_44, e_X2_readClose_45, e_X2_readClose_46, e_X2_readClose_49, e_X2_readClose_52, e_X2_readClose_53, e_X2_readClose_54, e_X2_readClose_57, e_X2_readClose_58, e_X2_readClose_59, e_X2_readClose_60, e_X2_readClose_63, e_X2_readClose_66, e_X2_readClose_67, e_X2_readClose_68, e_X2_readClose_71, e_X2_readClose_72, e_X2_readClose_74, e_X2_readClose_75, e_X2_readClose_78, e_X2_readClose_79, e_X2_readClose_81, e_X2_readClose_84, e_X2_readClose_87, e_X2_readClose_88, e_X2_readClose_91, e_X2_readClose_92, e_X2_readClose_93, e_X2_readClose_96, e_X2_readClose_99, e_X2_readClose_100, e_X2_readClose_102, e_X2_readClose_103, e_X2_readClose_106, tw_cl, tg27, tg28, tg29, tp27 hT, tr28 hT, tr29 hT, ts28 hT, ts29 hT, cR_ref, cR_null, cR_rf, c1_int, c1_ref, c1_null, c1_rf, kz_int, kz_ref, kz_null, kz_rf, kz_U, kz_long, nB_null, nB_ref, rf_none, rf_some, bV_ret, bV_thr, bA_ret, bA_thr, bX_ret, bX_thr, len4_0, len4_1, len4_2, len4_3, len4_4, true_and, and_true, and_self, if_true, if_false, Option.bind_some, nR_b1, nR_b0, nR_bI, nI_1z, nI_0z, bI_z, if_nn, ↓nI_eq_if, Nat.reduceEqDiff, f1, k8, bI_f, g1]
/-- a union goes on -/
theorem t_cl4 (hT : TwOk Ω.sz x A) (hp : PL σ cs s) {ops : List (Nat × Nat)} {P : List Pat} {T : List (Nat × Tst)} {G : Nat} {st : List (Nat × Nat × Nat)} {g b : Nat} (hc : CR σ (ops, P, T, G, st ++ [(3, g, b)])) (hI : CI (ops, P, T, G, st ++ [(3, g, b)]) s) (hsg0 : (tk cs s).1 ≠ 0) (hk : isKy (tk cs (nx cs s)) 8 = true) (hsg : isSg (tk cs (nx cs (nx cs s))) 123 = true) (hb : b < 12) : ∃ σ', gM PG Ω (d + 8) 76 [.ref x] (tW h x A σ) = some (.returned none, tW h x A σ') ∧ PL σ' cs (nx cs (nx cs (nx cs s))) ∧ CR σ' (ops ++ [(3, g)] ++ [(7, 0)] ++ [(1, 0)], P, T, G + 1, st ++ [(3, G, b + 1)]) ∧ σ'.1 21 = nI 1 ∧ FxQ σ σ' := by
  have hro := hp.room hI
  dsimp only at hro
  obtain ⟨σ1, e1, e2, e3, e4, e5, e6⟩ := t_cl1 (d := d + 2) (h := h) hT hp hc hI
  obtain ⟨σ2, f1, f2, f3, f4⟩ := t_em (d := d + 6) (h := h) hT e3 (by simp; omega) (o := 7) (a := 0) e2
  have k8 := t_isKey (d := d + 6) (h := h) hT f3.2.1 f3.w (i := 8) (by decide)
  rw [hk] at k8
  obtain ⟨σ3, g1, g2, g3⟩ := t_go (d := d + 2) (h := h) hT f3
  have hc3 := f2.fx g3 (by decide) (by decide) (by decide)
  have hl : (st ++ [(3, g, b)]).length ≤ 4 := hI.2.2.2.1
  have hst : st.length < 4 := by simp at hl; omega
  have hI3 : CI (ops ++ [(3, g)] ++ [(7, 0)], P, T, G, st) (nx cs (nx cs s)) := by
    have n1 := nx_gt hp.2.2.1 hsg0
    have n2 := nx_gt e2.2.2.1 (by rw [isKy_k hk]; decide)
    obtain ⟨a1, a2, a3, a4, a5⟩ := hI
    dsimp only at *
    refine ⟨?_, by show G ≤ _; omega, a3, by show st.length ≤ 4; omega, fun z hz => a5 z (List.mem_append_left _ hz)⟩
    show (ops ++ [(3, g)] ++ [(7, 0)]).length + st.length ≤ 2 * (nx cs (nx cs s)).1 + s.2.2
    simp at a1 ⊢; omega
  obtain ⟨σ4, i1, i2, i3, i4, i5⟩ := t_st_ok (d := d) (h := h) (b := b) hT g2 hc3 hI3 (w := 3) (by decide) hsg hst (fun _ => ⟨by rw [g3.2.1 42 (by decide), f4.2.1 42 (by decide)]; exact e5 rfl, hb⟩)
  refine ⟨σ4, ?_, i2, i3, i4, ((e6.trans (f4.mono (by decide) (by decide) (by decide))).trans g3.Q4).trans i5⟩
  rw [e1]
  simp (disch := first | omega | decide) only [e_X2_readClose_38, e_X2_readClose_39, e_X2_readClose_40, e_X2_readClose_43, e_X2_readClose_44, e_X2_readClose_45, e_X2_readClose_46, e_X2_readClose_49, e_X2_readClose_52, e_X2_readClose_53, e_X2_readClose_54, e_X2_readClose_57, e_X2_readClose_58, e_X2_readClose_59, e_X2_readClose_60, e_X2_readClose_63, e_X2_readClose_66, e_X2_readClose_67, e_X2_readClose_68, e_X2_readClose_71, e_X2_readClose_72, e_X2_readClose_74, e_X2_readClose_75, e_X2_readClose_78, e_X2_readClose_79, e_X2_readClose_81, e_X2_readClose_84, e_X2_readClose_87, e_X2_readClose_88, e_X2_readClose_91, e_X2_readClose_92, e_X2_readClose_93, e_X2_readClose_96, e_X2_readClose_99, e_X2_readClose_100, e_X2_readClose_102, e_X2_readClose_103, e_X2_readClose_106, tw_cl, tg27, tg28, tg29, tp27 hT, tr28 hT, tr29 hT, ts28 hT, ts29 hT, cR_ref, cR_null, cR_rf, c1_int, c1_ref, c1_null, c1_rf, kz_int, kz_ref, kz_null, kz_rf, kz_U, kz_long, nB_null, nB_ref, rf_none, rf_some, bV_ret, bV_thr, bA_ret, bA_thr, bX_ret, bX_thr, len4_0, len4_1, len4_2, len4_3, len4_4, true_and, and_true, and_self, if_true, if_false, Option.bind_some, nR_b1, nR_b0, nR_bI, nI_1z, nI_0z, bI_z, if_nn, ↓nI_eq_if, Nat.reduceEqDiff, f1, k8, bI_t, g1, i1]
theorem t_cl5 (hT : TwOk Ω.sz x A) (hp : PL σ cs s) {ops : List (Nat × Nat)} {P : List Pat} {T : List (Nat × Tst)} {G : Nat} {st : List (Nat × Nat × Nat)} {g b : Nat} (hc : CR σ (ops, P, T, G, st ++ [(3, g, b)])) (hI : CI (ops, P, T, G, st ++ [(3, g, b)]) s) (hk : isKy (tk cs (nx cs s)) 8 = true) (hno : ¬ (isSg (tk cs (nx cs (nx cs s))) 123 = true ∧ b < 12)) (hb : b ≤ 12) : ∃ σ', gM PG Ω (d + 8) 76 [.ref x] (tW h x A σ) = some (.returned none, tW h x A σ') ∧ σ'.1 20 = nI (tk cs (nx cs (nx cs s))).2.2.1 ∧ (tk cs (nx cs (nx cs s))).2.2.1 ≤ 160 ∧ FxQ σ σ' := by
  have hro := hp.room hI
  dsimp only at hro
  obtain ⟨σ1, e1, e2, e3, e4, e5, e6⟩ := t_cl1 (d := d + 2) (h := h) hT hp hc hI
  obtain ⟨σ2, f1, f2, f3, f4⟩ := t_em (d := d + 6) (h := h) hT e3 (by simp; omega) (o := 7) (a := 0) e2
  have k8 := t_isKey (d := d + 6) (h := h) hT f3.2.1 f3.w (i := 8) (by decide)
  rw [hk] at k8
  obtain ⟨σ3, g1, g2, g3⟩ := t_go (d := d + 2) (h := h) hT f3
  have hc3 := f2.fx g3 (by decide) (by decide) (by decide)
  have hl : (st ++ [(3, g, b)]).length ≤ 4 := hI.2.2.2.1
  have hst : st.length < 4 := by simp at hl; omega
  have i1 := t_st_er (d := d) (h := h) (b := b) hT g2 hc3 (by show st.length ≤ 4; omega) (w := 3) (by decide) (fun _ => ⟨by rw [g3.2.1 42 (by decide), f4.2.1 42 (by decide)]; exact e5 rfl, hb⟩) (fun q => hno ⟨q.1, by have := q.2.2; omega⟩)
  refine ⟨sI σ3 20 (nI (tk cs (nx cs (nx cs s))).2.2.1), ?_, rfl, g2.q, ((e6.trans (f4.mono (by decide) (by decide) (by decide))).trans g3.Q4).sI (by decide)⟩
  rw [e1]
  simp (disch := first | omega | decide) only [e_X2_readClose_38, e_X2_readClose_39, e_X2_readClose_40, e_X2_readClose_43, e_X2_readClose_44, e_X2_readClose_45, e_X2_readClose_46, e_X2_readClose_49, e_X2_readClose_52, e_X2_readClose_53, e_X2_readClose_54, e_X2_readClose_57, e_X2_readClose_58, e_X2_readClose_59, e_X2_readClose_60, e_X2_readClose_63, e_X2_readClose_66, e_X2_readClose_67, e_X2_readClose_68, e_X2_readClose_71, e_X2_readClose_72, e_X2_readClose_74, e_X2_readClose_75, e_X2_readClose_78, e_X2_readClose_79, e_X2_readClose_81, e_X2_readClose_84, e_X2_readClose_87, e_X2_readClose_88, e_X2_readClose_91, e_X2_readClose_92, e_X2_readClose_93, e_X2_readClose_96, e_X2_readClose_99, e_X2_readClose_100, e_X2_readClose_102, e_X2_readClose_103, e_X2_readClose_106, tw_cl, tg27, tg28, tg29, tp27 hT, tr28 hT, tr29 hT, ts28 hT, ts29 hT, cR_ref, cR_null, cR_rf, c1_int, c1_ref, c1_null, c1_rf, kz_int, kz_ref, kz_null, kz_rf, kz_U, kz_long, nB_null, nB_ref, rf_none, rf_some, bV_ret, bV_thr, bA_ret, bA_thr, bX_ret, bX_thr, len4_0, len4_1, len4_2, len4_3, len4_4, true_and, and_true, and_self, if_true, if_false, Option.bind_some, nR_b1, nR_b0, nR_bI, nI_1z, nI_0z, bI_z, if_nn, ↓nI_eq_if, Nat.reduceEqDiff, f1, k8, bI_t, g1, i1]
end TP5
