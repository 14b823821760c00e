/-! TWIN, reading: an element -/
section TP6
variable {Ω : Om} {d : Nat} {h : AH} {x : Nat} {A : Nat → Nat} {σ σ' : Tw} {cs : List Nat} {s : PS}
set_option maxHeartbeats 2000000 in
theorem t_el_can (hT : TwOk Ω.sz x A) (hp : PL σ cs s) : gM PG Ω (d + 4) 71 [.ref x] (tW h x A σ) = gO PG Ω (d + 3) 71 56 [.ref x, .int (bI (canS (tk cs s))), U, U] [] (tW h x A σ) := by
  have h5 := hp.w.2.2.2
  have k5 := t_isKey (d := d + 2) (h := h) hT hp.2.1 hp.w (i := 5) (by decide)
  have k6 := t_isKey (d := d + 2) (h := h) hT hp.2.1 hp.w (i := 6) (by decide)
  have k7 := t_isKey (d := d + 2) (h := h) hT hp.2.1 hp.w (i := 7) (by decide)
  have ks := t_isSign (d := d + 2) (h := h) hT hp.2.1 hp.w (c := 123) (by decide)
  have kt := t_isTerm (d := d + 1) (h := h) hT hp.2.1 hp.w
  unfold canS
  have hk := hp.2.1.1
  cases q5 : isKy (tk cs s) 5 with
  | true => simp (disch := first | omega | decide) only [n_X2_readElement, e_X2_readElement_0, e_X2_readElement_1, e_X2_readElement_2, e_X2_readElement_5, e_X2_readElement_8, e_X2_readElement_9, e_X2_readElement_11, e_X2_readElement_14, e_X2_readElement_17, e_X2_readElement_18, e_X2_readElement_20, e_X2_readElement_23, e_X2_readElement_26, e_X2_readElement_27, e_X2_readElement_29, e_X2_readElement_32, e_X2_readElement_35, e_X2_readElement_36, e_X2_readElement_39, e_X2_readElement_40, e_X2_readElement_43, e_X2_readElement_44, e_X2_readElement_47, e_X2_readElement_50, e_X2_readElement_51, e_X2_readElement_54, e_X2_readElement_55, tw_cl, tg15, tg20, tg25, tg35, tp22 hT, tp25 hT, tp35 hT, cR_ref, cR_null, cR_rf, c1_int, c1_ref, c1_null, c1_rf, kz_int, kz_ref, kz_null, kz_rf, kz_U, kz_long, nB_null, nB_ref, rf_none, rf_some, bV_ret, bV_thr, bA_ret, bA_thr, bX_ret, bX_thr, len4_0, len4_1, len4_2, len4_3, len4_4, true_and, and_true, and_self, if_true, if_false, Option.bind_some, nR_b1, nR_b0, nR_bI, nI_1z, nI_0z, bI_z, if_nn, k5, q5, bI_t, Bool.true_or]
  | false =>
    cases q6 : isKy (tk cs s) 6 with
    | true => simp (disch := first | omega | decide) only [n_X2_readElement, e_X2_readElement_0, e_X2_readElement_1, e_X2_readElement_2, e_X2_readElement_5, e_X2_readElement_8, e_X2_readElement_9, e_X2_readElement_11, e_X2_readElement_14, e_X2_readElement_17, e_X2_readElement_18, e_X2_readElement_20, e_X2_readElement_23, e_X2_readElement_26, e_X2_readElement_27, e_X2_readElement_29, e_X2_readElement_32, e_X2_readElement_35, e_X2_readElement_36, e_X2_readElement_39, e_X2_readElement_40, e_X2_readElement_43, e_X2_readElement_44, e_X2_readElement_47, e_X2_readElement_50, e_X2_readElement_51, e_X2_readElement_54, e_X2_readElement_55, tw_cl, tg15, tg20, tg25, tg35, tp22 hT, tp25 hT, tp35 hT, cR_ref, cR_null, cR_rf, c1_int, c1_ref, c1_null, c1_rf, kz_int, kz_ref, kz_null, kz_rf, kz_U, kz_long, nB_null, nB_ref, rf_none, rf_some, bV_ret, bV_thr, bA_ret, bA_thr, bX_ret, bX_thr, len4_0, len4_1, len4_2, len4_3, len4_4, true_and, and_true, and_self, if_true, if_false, Option.bind_some, nR_b1, nR_b0, nR_bI, nI_1z, nI_0z, bI_z, if_nn, k5, q5, k6, q6, bI_t, bI_f, Bool.true_or, Bool.or_true]
    | false =>
      cases q7 : isKy (tk cs s) 7 with
      | true => simp (disch := first | omega | decide) only [n_X2_readElement, e_X2_readElement_0, e_X2_readElement_1, e_X2_readElement_2, e_X2_readElement_5, e_X2_readElement_8, e_X2_readElement_9, e_X2_readElement_11, e_X2_readElement_14, e_X2_readElement_17, e_X2_readElement_18, e_X2_readElement_20, e_X2_readElement_23, e_X2_readElement_26, e_X2_readElement_27, e_X2_readElement_29, e_X2_readElement_32, e_X2_readElement_35, e_X2_readElement_36, e_X2_readElement_39, e_X2_readElement_40, e_X2_readElement_43, e_X2_readElement_44, e_X2_readElement_47, e_X2_readElement_50, e_X2_readElement_51, e_X2_readElement_54, e_X2_readElement_55, tw_cl, tg15, tg20, tg25, tg35, tp22 hT, tp25 hT, tp35 hT, cR_ref, cR_null, cR_rf, c1_int, c1_ref, c1_null, c1_rf, kz_int, kz_ref, kz_null, kz_rf, kz_U, kz_long, nB_null, nB_ref, rf_none, rf_some, bV_ret, bV_thr, bA_ret, bA_thr, bX_ret, bX_thr, len4_0, len4_1, len4_2, len4_3, len4_4, true_and, and_true, and_self, if_true, if_false, Option.bind_some, nR_b1, nR_b0, nR_bI, nI_1z, nI_0z, bI_z, if_nn, k5, q5, k6, q6, k7, q7, bI_t, bI_f, Bool.true_or, Bool.or_true]
      | false =>
        cases qs : isSg (tk cs s) 123 with
        | true => simp (disch := first | omega | decide) only [n_X2_readElement, e_X2_readElement_0, e_X2_readElement_1, e_X2_readElement_2, e_X2_readElement_5, e_X2_readElement_8, e_X2_readElement_9, e_X2_readElement_11, e_X2_readElement_14, e_X2_readElement_17, e_X2_readElement_18, e_X2_readElement_20, e_X2_readElement_23, e_X2_readElement_26, e_X2_readElement_27, e_X2_readElement_29, e_X2_readElement_32, e_X2_readElement_35, e_X2_readElement_36, e_X2_readElement_39, e_X2_readElement_40, e_X2_readElement_43, e_X2_readElement_44, e_X2_readElement_47, e_X2_readElement_50, e_X2_readElement_51, e_X2_readElement_54, e_X2_readElement_55, tw_cl, tg15, tg20, tg25, tg35, tp22 hT, tp25 hT, tp35 hT, cR_ref, cR_null, cR_rf, c1_int, c1_ref, c1_null, c1_rf, kz_int, kz_ref, kz_null, kz_rf, kz_U, kz_long, nB_null, nB_ref, rf_none, rf_some, bV_ret, bV_thr, bA_ret, bA_thr, bX_ret, bX_thr, len4_0, len4_1, len4_2, len4_3, len4_4, true_and, and_true, and_self, if_true, if_false, Option.bind_some, nR_b1, nR_b0, nR_bI, nI_1z, nI_0z, bI_z, if_nn, k5, q5, k6, q6, k7, q7, ks, qs, bI_t, bI_f, Bool.true_or, Bool.or_true]
        | false =>
          by_cases h3 : (tk cs s).1 = 3
          · simp (disch := first | omega | decide) only [n_X2_readElement, e_X2_readElement_0, e_X2_readElement_1, e_X2_readElement_2, e_X2_readElement_5, e_X2_readElement_8, e_X2_readElement_9, e_X2_readElement_11, e_X2_readElement_14, e_X2_readElement_17, e_X2_readElement_18, e_X2_readElement_20, e_X2_readElement_23, e_X2_readElement_26, e_X2_readElement_27, e_X2_readElement_29, e_X2_readElement_32, e_X2_readElement_35, e_X2_readElement_36, e_X2_readElement_39, e_X2_readElement_40, e_X2_readElement_43, e_X2_readElement_44, e_X2_readElement_47, e_X2_readElement_50, e_X2_readElement_51, e_X2_readElement_54, e_X2_readElement_55, tw_cl, tg15, tg20, tg25, tg35, tp22 hT, tp25 hT, tp35 hT, cR_ref, cR_null, cR_rf, c1_int, c1_ref, c1_null, c1_rf, kz_int, kz_ref, kz_null, kz_rf, kz_U, kz_long, nB_null, nB_ref, rf_none, rf_some, bV_ret, bV_thr, bA_ret, bA_thr, bX_ret, bX_thr, len4_0, len4_1, len4_2, len4_3, len4_4, true_and, and_true, and_self, if_true, if_false, Option.bind_some, nR_b1, nR_b0, nR_bI, nI_1z, nI_0z, bI_z, if_nn, k5, q5, k6, q6, k7, q7, ks, qs, bI_t, bI_f, Bool.true_or, Bool.or_true, hk, h3, ↓nI_eq_if, decide_true]
          · cases qt : isTm (tk cs s) with
            | true => simp (disch := first | omega | decide) only [n_X2_readElement, e_X2_readElement_0, e_X2_readElement_1, e_X2_readElement_2, e_X2_readElement_5, e_X2_readElement_8, e_X2_readElement_9, e_X2_readElement_11, e_X2_readElement_14, e_X2_readElement_17, e_X2_readElement_18, e_X2_readElement_20, e_X2_readElement_23, e_X2_readElement_26, e_X2_readElement_27, e_X2_readElement_29, e_X2_readElement_32, e_X2_readElement_35, e_X2_readElement_36, e_X2_readElement_39, e_X2_readElement_40, e_X2_readElement_43, e_X2_readElement_44, e_X2_readElement_47, e_X2_readElement_50, e_X2_readElement_51, e_X2_readElement_54, e_X2_readElement_55, tw_cl, tg15, tg20, tg25, tg35, tp22 hT, tp25 hT, tp35 hT, cR_ref, cR_null, cR_rf, c1_int, c1_ref, c1_null, c1_rf, kz_int, kz_ref, kz_null, kz_rf, kz_U, kz_long, nB_null, nB_ref, rf_none, rf_some, bV_ret, bV_thr, bA_ret, bA_thr, bX_ret, bX_thr, len4_0, len4_1, len4_2, len4_3, len4_4, true_and, and_true, and_self, if_true, if_false, Option.bind_some, nR_b1, nR_b0, nR_bI, nI_1z, nI_0z, bI_z, if_nn, k5, q5, k6, q6, k7, q7, ks, qs, kt, qt, bI_t, bI_f, Bool.true_or, Bool.or_true, hk, h3, ↓nI_eq_if, decide_false]
            | false => simp (disch := first | omega | decide) only [n_X2_readElement, e_X2_readElement_0, e_X2_readElement_1, e_X2_readElement_2, e_X2_readElement_5, e_X2_readElement_8, e_X2_readElement_9, e_X2_readElement_11, e_X2_readElement_14, e_X2_readElement_17, e_X2_readElement_18, e_X2_readElement_20, e_X2_readElement_23, e_X2_readElement_26, e_X2_readElement_27, e_X2_readElement_29, e_X2_readElement_32, e_X2_readElement_35, e_X2_readElement_36, e_X2_readElement_39, e_X2_readElement_40, e_X2_readElement_43, e_X2_readElement_44, e_X2_readElement_47, e_X2_readElement_50, e_X2_readElement_51, e_X2_readElement_54, e_X2_readElement_55, tw_cl, tg15, tg20, tg25, tg35, tp22 hT, tp25 hT, tp35 hT, cR_ref, cR_null, cR_rf, c1_int, c1_ref, c1_null, c1_rf, kz_int, kz_ref, kz_null, kz_rf, kz_U, kz_long, nB_null, nB_ref, rf_none, rf_some, bV_ret, bV_thr, bA_ret, bA_thr, bX_ret, bX_thr, len4_0, len4_1, len4_2, len4_3, len4_4, true_and, and_true, and_self, if_true, if_false, Option.bind_some, nR_b1, nR_b0, nR_bI, nI_1z, nI_0z, bI_z, if_nn, k5, q5, k6, q6, k7, q7, ks, qs, kt, qt, bI_t, bI_f, Bool.or_false, hk, h3, ↓nI_eq_if, decide_false]
theorem t_el_no (hT : TwOk Ω.sz x A) (hp : PL σ cs s) (hno : ¬ (canS (tk cs s) && decide (s.2.2 < 12)) = true) : gM PG Ω (d + 4) 71 [.ref x] (tW h x A σ) = some (.returned none, tW h x A (sI σ 20 (nI (tk cs s).2.2.1))) := by
  rw [t_el_can hT hp]
  have e1 := t_stop (d := d + 2) (h := h) hT hp
  have h25 := hp.2.2.2.2.2.1
  have h12 := hp.2.2.2.2.2.2
  cases hq : canS (tk cs s) with
  | false => simp (disch := first | omega | decide) only [e_X2_readElement_56, e_X2_readElement_57, e_X2_readElement_60, e_X2_readElement_61, e_X2_readElement_64, e_X2_readElement_66, e_X2_readElement_69, e_X2_readElement_70, e_X2_readElement_73, tw_cl, tg15, tg20, tg25, tg35, tp22 hT, tp25 hT, tp35 hT, cR_ref, cR_null, cR_rf, c1_int, c1_ref, c1_null, c1_rf, kz_int, kz_ref, kz_null, kz_rf, kz_U, kz_long, nB_null, nB_ref, rf_none, rf_some, bV_ret, bV_thr, bA_ret, bA_thr, bX_ret, bX_thr, len4_0, len4_1, len4_2, len4_3, len4_4, true_and, and_true, and_self, if_true, if_false, Option.bind_some, nR_b1, nR_b0, nR_bI, nI_1z, nI_0z, bI_z, if_nn, bI_f, e1]
  | true =>
    rw [hq, Bool.true_and, decide_eq_true_iff] at hno
    have h12' : s.2.2 = 12 := by omega
    simp (disch := first | omega | decide) only [e_X2_readElement_56, e_X2_readElement_57, e_X2_readElement_60, e_X2_readElement_61, e_X2_readElement_64, e_X2_readElement_66, e_X2_readElement_69, e_X2_readElement_70, e_X2_readElement_73, tw_cl, tg15, tg20, tg25, tg35, tp22 hT, tp25 hT, tp35 hT, cR_ref, cR_null, cR_rf, c1_int, c1_ref, c1_null, c1_rf, kz_int, kz_ref, kz_null, kz_rf, kz_U, kz_long, nB_null, nB_ref, rf_none, rf_some, bV_ret, bV_thr, bA_ret, bA_thr, bX_ret, bX_thr, len4_0, len4_1, len4_2, len4_3, len4_4, true_and, and_true, and_self, if_true, if_false, Option.bind_some, nR_b1, nR_b0, nR_bI, nI_1z, nI_0z, bI_z, if_nn, bI_t, e1, h25, h12', ↓nI_eq_if]
/-- an element that holds a group -/
def hoS (t : Tok) : Bool := isKy t 6 || isKy t 7 || isSg t 123
theorem PL.el (hp : PL σ cs s) (h12 : s.2.2 < 12) {v : Int32} : PL (sI (sI σ 25 (nI (s.2.2 + 1))) 22 v) cs (s.1, s.2.1, s.2.2 + 1) := by
  obtain ⟨h1, h2, h3, h4, h5, h6, h7⟩ := hp
  refine ⟨h1, h2, h3, h4, h5, by simp [sI_1], ?_⟩
  show s.2.2 + 1 ≤ 12
  omega
theorem t_el1 (hT : TwOk Ω.sz x A) (hp : PL σ cs s) (hyes : (canS (tk cs s) && decide (s.2.2 < 12)) = true) : gM PG Ω (d + 4) 71 [.ref x] (tW h x A σ) = gO PG Ω (d + 3) 71 120 [.ref x, .int (nI 1), U, U] [] (tW h x A (sI (sI σ 25 (nI (s.2.2 + 1))) 22 (bI (hoS (tk cs s))))) := by
  rw [t_el_can hT hp]
  rw [Bool.and_eq_true, decide_eq_true_iff] at hyes
  obtain ⟨hq, h12⟩ := hyes
  have h25 := hp.2.2.2.2.2.1
  have hp1 : PL (sI σ 25 (nI (s.2.2 + 1))) cs (s.1, s.2.1, s.2.2 + 1) := by
    obtain ⟨h1, h2, h3, h4, h5, h6, h7⟩ := hp
    refine ⟨h1, h2, h3, h4, h5, by simp [sI_1], ?_⟩
    show s.2.2 + 1 ≤ 12
    omega
  have hw : TkW (tk cs (s.1, s.2.1, s.2.2 + 1)) := hp1.w
  have k6 := t_isKey (d := d + 2) (h := h) hT hp1.2.1 hw (i := 6) (by decide)
  have k7 := t_isKey (d := d + 2) (h := h) hT hp1.2.1 hw (i := 7) (by decide)
  have ks := t_isSign (d := d + 2) (h := h) hT hp1.2.1 hw (c := 123) (by decide)
  change gM PG Ω (d + 3) _ _ _ = some (.returned (some (.int (bI (isKy (tk cs s) 6)))), _) at k6
  change gM PG Ω (d + 3) _ _ _ = some (.returned (some (.int (bI (isKy (tk cs s) 7)))), _) at k7
  change gM PG Ω (d + 3) _ _ _ = some (.returned (some (.int (bI (isSg (tk cs s) 123)))), _) at ks
  have hne : ¬ s.2.2 = 12 := by omega
  rw [hq]
  unfold hoS
  cases q6 : isKy (tk cs s) 6 with
  | true => simp (disch := first | omega | decide) only [e_X2_readElement_56, e_X2_readElement_57, e_X2_readElement_60, e_X2_readElement_61, e_X2_readElement_64, e_X2_readElement_66, e_X2_readElement_69, e_X2_readElement_70, e_X2_readElement_73, e_X2_readElement_74, e_X2_readElement_75, e_X2_readElement_76, e_X2_readElement_79, e_X2_readElement_80, e_X2_readElement_81, e_X2_readElement_84, e_X2_readElement_85, e_X2_readElement_86, e_X2_readElement_88, e_X2_readElement_91, e_X2_readElement_94, e_X2_readElement_95, e_X2_readElement_97, e_X2_readElement_100, e_X2_readElement_103, e_X2_readElement_104, e_X2_readElement_106, e_X2_readElement_109, e_X2_readElement_112, e_X2_readElement_113, e_X2_readElement_116, e_X2_readElement_117, tw_cl, tg15, tg20, tg25, tg35, tp22 hT, tp25 hT, tp35 hT, cR_ref, cR_null, cR_rf, c1_int, c1_ref, c1_null, c1_rf, kz_int, kz_ref, kz_null, kz_rf, kz_U, kz_long, nB_null, nB_ref, rf_none, rf_some, bV_ret, bV_thr, bA_ret, bA_thr, bX_ret, bX_thr, len4_0, len4_1, len4_2, len4_3, len4_4, true_and, and_true, and_self, if_true, if_false, Option.bind_some, nR_b1, nR_b0, nR_bI, nI_1z, nI_0z, bI_z, if_nn, nI_add, pk_mul, bI_t, h25, hne, ↓nI_eq_if, k6, q6, Bool.true_or, okv_b1]
  | false =>
    cases q7 : isKy (tk cs s) 7 with
    | true => simp (disch := first | omega | decide) only [e_X2_readElement_56, e_X2_readElement_57, e_X2_readElement_60, e_X2_readElement_61, e_X2_readElement_64, e_X2_readElement_66, e_X2_readElement_69, e_X2_readElement_70, e_X2_readElement_73, e_X2_readElement_74, e_X2_readElement_75, e_X2_readElement_76, e_X2_readElement_79, e_X2_readElement_80, e_X2_readElement_81, e_X2_readElement_84, e_X2_readElement_85, e_X2_readElement_86, e_X2_readElement_88, e_X2_readElement_91, e_X2_readElement_94, e_X2_readElement_95, e_X2_readElement_97, e_X2_readElement_100, e_X2_readElement_103, e_X2_readElement_104, e_X2_readElement_106, e_X2_readElement_109, e_X2_readElement_112, e_X2_readElement_113, e_X2_readElement_116, e_X2_readElement_117, tw_cl, tg15, tg20, tg25, tg35, tp22 hT, tp25 hT, tp35 hT, cR_ref, cR_null, cR_rf, c1_int, c1_ref, c1_null, c1_rf, kz_int, kz_ref, kz_null, kz_rf, kz_U, kz_long, nB_null, nB_ref, rf_none, rf_some, bV_ret, bV_thr, bA_ret, bA_thr, bX_ret, bX_thr, len4_0, len4_1, len4_2, len4_3, len4_4, true_and, and_true, and_self, if_true, if_false, Option.bind_some, nR_b1, nR_b0, nR_bI, nI_1z, nI_0z, bI_z, if_nn, nI_add, pk_mul, bI_t, bI_f, h25, hne, ↓nI_eq_if, k6, q6, k7, q7, Bool.true_or, Bool.or_true, okv_b1]
    | false =>
      cases qs : isSg (tk cs s) 123 with
      | true => simp (disch := first | omega | decide) only [e_X2_readElement_56, e_X2_readElement_57, e_X2_readElement_60, e_X2_readElement_61, e_X2_readElement_64, e_X2_readElement_66, e_X2_readElement_69, e_X2_readElement_70, e_X2_readElement_73, e_X2_readElement_74, e_X2_readElement_75, e_X2_readElement_76, e_X2_readElement_79, e_X2_readElement_80, e_X2_readElement_81, e_X2_readElement_84, e_X2_readElement_85, e_X2_readElement_86, e_X2_readElement_88, e_X2_readElement_91, e_X2_readElement_94, e_X2_readElement_95, e_X2_readElement_97, e_X2_readElement_100, e_X2_readElement_103, e_X2_readElement_104, e_X2_readElement_106, e_X2_readElement_109, e_X2_readElement_112, e_X2_readElement_113, e_X2_readElement_116, e_X2_readElement_117, tw_cl, tg15, tg20, tg25, tg35, tp22 hT, tp25 hT, tp35 hT, cR_ref, cR_null, cR_rf, c1_int, c1_ref, c1_null, c1_rf, kz_int, kz_ref, kz_null, kz_rf, kz_U, kz_long, nB_null, nB_ref, rf_none, rf_some, bV_ret, bV_thr, bA_ret, bA_thr, bX_ret, bX_thr, len4_0, len4_1, len4_2, len4_3, len4_4, true_and, and_true, and_self, if_true, if_false, Option.bind_some, nR_b1, nR_b0, nR_bI, nI_1z, nI_0z, bI_z, if_nn, nI_add, pk_mul, bI_t, bI_f, h25, hne, ↓nI_eq_if, k6, q6, k7, q7, ks, qs, Bool.or_true, okv_b1]
      | false => simp (disch := first | omega | decide) only [e_X2_readElement_56, e_X2_readElement_57, e_X2_readElement_60, e_X2_readElement_61, e_X2_readElement_64, e_X2_readElement_66, e_X2_readElement_69, e_X2_readElement_70, e_X2_readElement_73, e_X2_readElement_74, e_X2_readElement_75, e_X2_readElement_76, e_X2_readElement_79, e_X2_readElement_80, e_X2_readElement_81, e_X2_readElement_84, e_X2_readElement_85, e_X2_readElement_86, e_X2_readElement_88, e_X2_readElement_91, e_X2_readElement_94, e_X2_readElement_95, e_X2_readElement_97, e_X2_readElement_100, e_X2_readElement_103, e_X2_readElement_104, e_X2_readElement_106, e_X2_readElement_109, e_X2_readElement_112, e_X2_readElement_113, e_X2_readElement_116, e_X2_readElement_117, tw_cl, tg15, tg20, tg25, tg35, tp22 hT, tp25 hT, tp35 hT, cR_ref, cR_null, cR_rf, c1_int, c1_ref, c1_null, c1_rf, kz_int, kz_ref, kz_null, kz_rf, kz_U, kz_long, nB_null, nB_ref, rf_none, rf_some, bV_ret, bV_thr, bA_ret, bA_thr, bX_ret, bX_thr, len4_0, len4_1, len4_2, len4_3, len4_4, true_and, and_true, and_self, if_true, if_false, Option.bind_some, nR_b1, nR_b0, nR_bI, nI_1z, nI_0z, bI_z, if_nn, nI_add, pk_mul, bI_t, bI_f, h25, hne, ↓nI_eq_if, k6, q6, k7, q7, ks, qs, Bool.or_false, okv_b0]
theorem ky_tm {t : Tok} {i : Nat} (hi : i < 11) (h : isKy t i = true) : isTm t = false := by
  have z := of_decide_eq_true h
  unfold isTm
  refine decide_eq_false (fun q => ?_)
  rcases q with q | q
  · omega
  · refine q.2 ?_
    rw [z.2]
    have hc : i = 0 ∨ i = 1 ∨ i = 2 ∨ i = 3 ∨ i = 4 ∨ i = 5 ∨ i = 6 ∨ i = 7 ∨ i = 8 ∨ i = 9 ∨ i = 10 := by omega
    rcases hc with rfl | rfl | rfl | rfl | rfl | rfl | rfl | rfl | rfl | rfl | rfl <;> decide
theorem ky_ne {t : Tok} {i j : Nat} (h : isKy t i = true) (hij : keyW i ≠ keyW j) : isKy t j = false := by
  have z := of_decide_eq_true h
  unfold isKy
  exact decide_eq_false (fun q => hij (z.2.symm.trans q.2))
theorem sg_tm {t : Tok} {c : Nat} (h : isSg t c = true) : isTm t = false := by
  have z := isSg_k h
  unfold isTm
  refine decide_eq_false (fun q => ?_)
  omega
theorem hoS_f {t : Tok} (h : hoS t = true) : isKy t 5 = false ∧ t.1 ≠ 3 ∧ isTm t = false := by
  unfold hoS at h
  simp only [Bool.or_eq_true] at h
  rcases h with (q | q) | q
  · exact ⟨ky_ne q (by decide), by have := isKy_k q; omega, ky_tm (by decide) q⟩
  · exact ⟨ky_ne q (by decide), by have := isKy_k q; omega, ky_tm (by decide) q⟩
  · exact ⟨no_key q, by have := isSg_k q; omega, sg_tm q⟩
/-- it holds a group: no more is done -/
theorem t_el_h (hT : TwOk Ω.sz x A) (hp : PL σ cs s) (hyes : (canS (tk cs s) && decide (s.2.2 < 12)) = true) (hh : hoS (tk cs s) = true) {c : CSt} (hc : CR σ c) : ∃ σ', gM PG Ω (d + 4) 71 [.ref x] (tW h x A σ) = some (.returned none, tW h x A σ') ∧ PL σ' cs (s.1, s.2.1, s.2.2 + 1) ∧ CR σ' c ∧ σ'.1 22 = nI 1 ∧ FxQ σ σ' := by
  have h12 : s.2.2 < 12 := by rw [Bool.and_eq_true, decide_eq_true_iff] at hyes; exact hyes.2
  obtain ⟨f1, f2, f3⟩ := hoS_f hh
  have hf : Fx [22, 25] [] [] σ (sI (sI σ 25 (nI (s.2.2 + 1))) 22 (bI (hoS (tk cs s)))) := (Fx.rfl'.sI (by decide)).sI (by decide)
  have hp1 := hp.el h12 (v := bI (hoS (tk cs s)))
  have h5 := hp.w.2.2.2
  have k5 := t_isKey (d := d + 2) (h := h) hT hp1.2.1 hp1.w (i := 5) (by decide)
  have kt := t_isTerm (d := d + 1) (h := h) hT hp1.2.1 hp1.w
  change gM PG Ω (d + 3) _ _ _ = some (.returned (some (.int (bI (isKy (tk cs s) 5)))), _) at k5
  change gM PG Ω (d + 3) _ _ _ = some (.returned (some (.int (bI (isTm (tk cs s))))), _) at kt
  have hk := hp1.2.1.1
  change _ = nI (tk cs s).1 at hk
  refine ⟨_, ?_, hp1, hc.fx hf (by decide) (by decide) (by decide), by rw [hh]; rfl, hf.mono (by decide) (by decide) (by decide)⟩
  rw [t_el1 hT hp hyes]
  simp (disch := first | omega | decide) only [e_X2_readElement_120, e_X2_readElement_121, e_X2_readElement_122, e_X2_readElement_125, e_X2_readElement_128, e_X2_readElement_129, e_X2_readElement_132, e_X2_readElement_133, e_X2_readElement_136, e_X2_readElement_139, e_X2_readElement_140, e_X2_readElement_143, e_X2_readElement_144, e_X2_readElement_147, e_X2_readElement_148, e_X2_readElement_151, e_X2_readElement_204, tw_cl, tg15, tg20, tg25, tg35, tp22 hT, tp25 hT, tp35 hT, cR_ref, cR_null, cR_rf, c1_int, c1_ref, c1_null, c1_rf, kz_int, kz_ref, kz_null, kz_rf, kz_U, kz_long, nB_null, nB_ref, rf_none, rf_some, bV_ret, bV_thr, bA_ret, bA_thr, bX_ret, bX_thr, len4_0, len4_1, len4_2, len4_3, len4_4, true_and, and_true, and_self, if_true, if_false, Option.bind_some, nR_b1, nR_b0, nR_bI, nI_1z, nI_0z, bI_z, if_nn, k5, kt, f1, f3, bI_f, hk, f2, ↓nI_eq_if]
/-- a filter -/
theorem TeR.push {T : List (Nat × Tst)} {g : Nat} {t : Tst} (hr : TeR σ T) (hf : FxU T.length σ σ') (h39 : σ'.1 39 = nI (T.length + 1)) (h36 : σ'.2.2.1 36 T.length = nI g) (h38 : σ'.2.2.1 38 T.length = bI t.1) (hco : CoS σ' T.length t.2) : TeR σ' (T ++ [(g, t)]) := by
  refine ⟨by simpa using h39, fun i g' t' q => ?_⟩
  rcases getE_snoc q with q | ⟨rfl, q2⟩
  · have hi := (List.getElem?_eq_some_iff.mp q).1
    obtain ⟨a1, a2, a3⟩ := hr.2 i g' t' q
    obtain ⟨b1, b2, b3⟩ := hf.2.2 i (by omega)
    exact ⟨b1.trans a1, b3.trans a2, a3.eq b2 (fun j h1 h2 => hf.2.1 j (by omega))⟩
  · cases q2
    exact ⟨h36, h38, hco⟩
theorem FxU.Q {n : Nat} (h : FxU n σ σ') : FxQ σ σ' := h.1.mono (by decide) (by decide) (by decide)
theorem CR.test {ops : List (Nat × Nat)} {P : List Pat} {T : List (Nat × Tst)} {G g : Nat} {stk : List (Nat × Nat × Nat)} {t : Tst} (hc : CR σ (ops, P, T, G, stk)) (hP : P.length ≤ 12) (hf : FxU T.length σ σ') (h39 : σ'.1 39 = nI (T.length + 1)) (h36 : σ'.2.2.1 36 T.length = nI g) (h38 : σ'.2.2.1 38 T.length = bI t.1) (hco : CoS σ' T.length t.2) : CR σ' (ops, P, T ++ [(g, t)], G, stk) := by
  refine ⟨hc.1.fx hf.1 (by decide) (by decide) (by decide), ⟨by rw [hf.1.1 35 (by decide)]; exact hc.2.1.1, fun i p q => ?_⟩, hc.2.2.1.push hf h39 h36 h38 hco, hc.2.2.2.fx hf.1 (by decide) (by decide) (by decide)⟩
  have hi := (List.getElem?_eq_some_iff.mp q).1
  dsimp only at hi
  obtain ⟨a, b, c⟩ := hc.2.1.2 i p q
  have z := fun j (hj : j < 60) => hf.2.1 j (by omega)
  exact ⟨a.eq (z _ (by omega)).1 (z _ (by omega)).2, b.eq (z _ (by omega)).1 (z _ (by omega)).2, c.eq (z _ (by omega)).1 (z _ (by omega)).2⟩
theorem ky5_h {t : Tok} (h : isKy t 5 = true) : hoS t = false := by
  unfold hoS
  rw [ky_ne h (j := 6) (by decide), ky_ne h (j := 7) (by decide)]
  cases q : isSg t 123 with
  | false => rfl
  | true => have := isSg_k q; have := isKy_k h; omega
theorem t_el_f (hT : TwOk Ω.sz x A) (hp : PL σ cs s) (hyes : (canS (tk cs s) && decide (s.2.2 < 12)) = true) (hk5 : isKy (tk cs s) 5 = true) {ops : List (Nat × Nat)} {P : List Pat} {T : List (Nat × Tst)} {G : Nat} {st : List (Nat × Nat × Nat)} {w g b : Nat} (hc : CR σ (ops, P, T, G, st ++ [(w, g, b)])) (hI : CI (ops, P, T, G, st ++ [(w, g, b)]) s) :
    (∀ t s', pTest cs 4 (nx cs (s.1, s.2.1, s.2.2 + 1)) = .ok (t, s') → ∃ σ', gM PG Ω (d + 10) 71 [.ref x] (tW h x A σ) = some (.returned none, tW h x A σ') ∧ PL σ' cs s' ∧ CR σ' (ops, P, T ++ [(g, t)], G, st ++ [(w, g, b)]) ∧ σ'.1 22 = nI 0 ∧ σ'.1 21 = σ.1 21 ∧ FxQ σ σ') ∧
    (∀ q, pTest cs 4 (nx cs (s.1, s.2.1, s.2.2 + 1)) = .error q → ∃ σ', gM PG Ω (d + 10) 71 [.ref x] (tW h x A σ) = some (.returned none, tW h x A σ') ∧ σ'.1 20 = nI q ∧ q ≤ 160 ∧ FxQ σ σ') := by
  have h12 : s.2.2 < 12 := by rw [Bool.and_eq_true, decide_eq_true_iff] at hyes; exact hyes.2
  have hf : Fx [22, 25] [] [] σ (sI (sI σ 25 (nI (s.2.2 + 1))) 22 (bI (hoS (tk cs s)))) := (Fx.rfl'.sI (by decide)).sI (by decide)
  have hp1 := hp.el h12 (v := bI (hoS (tk cs s)))
  have hc1 := hc.fx hf (by decide) (by decide) (by decide)
  have k5 := t_isKey (d := d + 8) (h := h) hT hp1.2.1 hp1.w (i := 5) (by decide)
  change gM PG Ω (d + 9) _ _ _ = some (.returned (some (.int (bI (isKy (tk cs s) 5)))), _) at k5
  rw [hk5] at k5
  obtain ⟨σ2, e1, e2, e3⟩ := t_go (d := d + 4) (h := h) hT hp1
  have hc2 := hc1.fx e3 (by decide) (by decide) (by decide)
  have hPT : P.length + T.length ≤ s.2.2 := hI.2.2.1
  have hlen : (st ++ [(w, g, b)]).length ≤ 4 := hI.2.2.2.1
  have hl5 : st.length < 5 := by simp at hlen; omega
  have h27 : σ2.1 27 = nI (st.length + 1) := by have := hc2.2.2.2.2.1; simpa using this
  have hen := hc2.2.2.2.2.2 st.length w g b (by simp)
  have hh22 : σ2.1 22 = nI 0 := by rw [e3.1 22 (by decide), ky5_h hk5]; rfl
  refine ⟨fun t s' hv => ?_, fun q hv => ?_⟩
  · obtain ⟨σ3, g1, g2, g3, g4, g5, g6, g7⟩ := t_rt_ok (d := d) (h := h) hT e2 hc2.2.2.1.1 (by dsimp only; omega) h27 hl5 hen.2.1 hv
    refine ⟨σ3, ?_, g2, hc2.test (by omega) g7 g3 g4 g5 g6, by rw [g7.1.1 22 (by decide)]; exact hh22, ?_, ((hf.mono (by decide) (by decide) (by decide) : FxQ _ _).trans e3.Q4).trans g7.Q⟩
    · rw [t_el1 hT hp hyes]
      simp (disch := first | omega | decide) only [e_X2_readElement_120, e_X2_readElement_121, e_X2_readElement_122, e_X2_readElement_125, e_X2_readElement_128, e_X2_readElement_129, e_X2_readElement_132, e_X2_readElement_133, e_X2_readElement_136, e_X2_readElement_204, tw_cl, tg15, tg20, tg25, tg35, tp22 hT, tp25 hT, tp35 hT, cR_ref, cR_null, cR_rf, c1_int, c1_ref, c1_null, c1_rf, kz_int, kz_ref, kz_null, kz_rf, kz_U, kz_long, nB_null, nB_ref, rf_none, rf_some, bV_ret, bV_thr, bA_ret, bA_thr, bX_ret, bX_thr, len4_0, len4_1, len4_2, len4_3, len4_4, true_and, and_true, and_self, if_true, if_false, Option.bind_some, nR_b1, nR_b0, nR_bI, nI_1z, nI_0z, bI_z, if_nn, k5, bI_t, e1, g1]
    · rw [g7.1.1 21 (by decide), e3.1 21 (by decide), hf.1 21 (by decide)]
  · obtain ⟨σ3, g1, g2, g3, g4⟩ := t_rt_er (d := d) (h := h) hT e2 hc2.2.2.1.1 (by dsimp only; omega) h27 hl5 hen.2.1 hv
    refine ⟨σ3, ?_, g2, g3, ((hf.mono (by decide) (by decide) (by decide) : FxQ _ _).trans e3.Q4).trans g4.Q⟩
    rw [t_el1 hT hp hyes]
    simp (disch := first | omega | decide) only [e_X2_readElement_120, e_X2_readElement_121, e_X2_readElement_122, e_X2_readElement_125, e_X2_readElement_128, e_X2_readElement_129, e_X2_readElement_132, e_X2_readElement_133, e_X2_readElement_136, e_X2_readElement_204, tw_cl, tg15, tg20, tg25, tg35, tp22 hT, tp25 hT, tp35 hT, cR_ref, cR_null, cR_rf, c1_int, c1_ref, c1_null, c1_rf, kz_int, kz_ref, kz_null, kz_rf, kz_U, kz_long, nB_null, nB_ref, rf_none, rf_some, bV_ret, bV_thr, bA_ret, bA_thr, bX_ret, bX_thr, len4_0, len4_1, len4_2, len4_3, len4_4, true_and, and_true, and_self, if_true, if_false, Option.bind_some, nR_b1, nR_b0, nR_bI, nI_1z, nI_0z, bI_z, if_nn, k5, bI_t, e1, g1]
theorem t_el_s (hT : TwOk Ω.sz x A) (hp : PL σ cs s) {a i : Nat} (hi : i < 3) (ha : a + i < 120) {sd : Sd} {s' : PS} (hv : pSide cs s = .ok (sd, s')) : ∃ σ', gO PG Ω (d + 9) 71 173 [.ref x, .int (nI 1), .int (nI a), .int (nI i)] [] (tW h x A σ) = gO PG Ω (d + 9) 71 173 [.ref x, .int (nI 1), .int (nI a), .int (nI (i + 1))] [] (tW h x A σ') ∧ PL σ' cs s' ∧ SdS σ' (a + i) sd ∧ FxD (a + i) (a + i + 1) σ σ' := by
  obtain ⟨σ1, e1, e2, e3, e4⟩ := t_rs_ok (d := d + 1) (h := h) hT hp ha hv
  refine ⟨σ1, ?_, e2, e3, e4⟩
  have hw := hp.2.2.2.1
  have hm1 : (-1 : Int32) < 0 := by decide
  rw [e_X2_readElement_173]
  simp (disch := first | omega | decide) only [e_X2_readElement_174, e_X2_readElement_175, e_X2_readElement_178, e_X2_readElement_179, e_X2_readElement_182, e_X2_readElement_185, e_X2_readElement_186, e_X2_readElement_187, e_X2_readElement_188, e_X2_readElement_189, e_X2_readElement_192, e_X2_readElement_195, tw_cl, tg15, tg20, tg25, tg35, tp22 hT, tp25 hT, tp35 hT, cR_ref, cR_null, cR_rf, c1_int, c1_ref, c1_null, c1_rf, kz_int, kz_ref, kz_null, kz_rf, kz_U, kz_long, nB_null, nB_ref, rf_none, rf_some, bV_ret, bV_thr, bA_ret, bA_thr, bX_ret, bX_thr, len4_0, len4_1, len4_2, len4_3, len4_4, true_and, and_true, and_self, if_true, if_false, Option.bind_some, nR_b1, nR_b0, nR_bI, nI_1z, nI_0z, bI_z, if_nn, nI_add, pk_mul, ↓nI_lt_if, hi, hw, hm1, e1]
theorem t_el_x (hT : TwOk Ω.sz x A) {q : Nat} (hw : σ.1 20 = nI q) (hq : q ≤ 160) {n a i : Nat} (hn : σ.1 32 = nI n) (hn4 : n < 400) (hi : i < 120) : ∃ σ', gO PG Ω (d + 9) 71 173 [.ref x, .int (nI 1), .int (nI a), .int (nI i)] [] (tW h x A σ) = some (.returned none, tW h x A σ') ∧ σ'.1 20 = nI q ∧ Fx [32] [30, 31] [] σ σ' := by
  have hf : Fx [32] [30, 31] [] σ (sI (sA (sA σ 30 n (nI 2)) 31 n (nI a)) 32 (nI (n + 1))) := ((Fx.rfl'.sA (by decide)).sA (by decide)).sI (by decide)
  refine ⟨_, ?_, by rw [hf.1 20 (by decide)]; exact hw, hf⟩
  have hm1 : ¬ nI q < 0 := nI_pos (by omega)
  have e1 := t_emit (d := d + 8) (h := h) hT hn hn4 (o := nI 2) (a := nI a)
  rw [e_X2_readElement_173]
  by_cases h3 : i < 3
  · simp (disch := first | omega | decide) only [e_X2_readElement_174, e_X2_readElement_175, e_X2_readElement_178, e_X2_readElement_179, e_X2_readElement_182, e_X2_readElement_185, e_X2_readElement_186, e_X2_readElement_187, e_X2_readElement_188, e_X2_readElement_189, e_X2_readElement_192, e_X2_readElement_195, e_X2_readElement_198, e_X2_readElement_199, e_X2_readElement_200, e_X2_readElement_201, e_X2_readElement_204, tw_cl, tg15, tg20, tg25, tg35, tp22 hT, tp25 hT, tp35 hT, cR_ref, cR_null, cR_rf, c1_int, c1_ref, c1_null, c1_rf, kz_int, kz_ref, kz_null, kz_rf, kz_U, kz_long, nB_null, nB_ref, rf_none, rf_some, bV_ret, bV_thr, bA_ret, bA_thr, bX_ret, bX_thr, len4_0, len4_1, len4_2, len4_3, len4_4, true_and, and_true, and_self, if_true, if_false, Option.bind_some, nR_b1, nR_b0, nR_bI, nI_1z, nI_0z, bI_z, if_nn, nI_add, pk_mul, ↓nI_lt_if, h3, hw, hm1, e1]
  · simp (disch := first | omega | decide) only [e_X2_readElement_174, e_X2_readElement_175, e_X2_readElement_178, e_X2_readElement_179, e_X2_readElement_182, e_X2_readElement_185, e_X2_readElement_186, e_X2_readElement_187, e_X2_readElement_188, e_X2_readElement_189, e_X2_readElement_192, e_X2_readElement_195, e_X2_readElement_198, e_X2_readElement_199, e_X2_readElement_200, e_X2_readElement_201, e_X2_readElement_204, tw_cl, tg15, tg20, tg25, tg35, tp22 hT, tp25 hT, tp35 hT, cR_ref, cR_null, cR_rf, c1_int, c1_ref, c1_null, c1_rf, kz_int, kz_ref, kz_null, kz_rf, kz_U, kz_long, nB_null, nB_ref, rf_none, rf_some, bV_ret, bV_thr, bA_ret, bA_thr, bX_ret, bX_thr, len4_0, len4_1, len4_2, len4_3, len4_4, true_and, and_true, and_self, if_true, if_false, Option.bind_some, nR_b1, nR_b0, nR_bI, nI_1z, nI_0z, bI_z, if_nn, nI_add, pk_mul, ↓nI_lt_if, h3, e1]
theorem t_el_e (hT : TwOk Ω.sz x A) (hp : PL σ cs s) {a i : Nat} (hi : i < 3) (ha : a + i < 117) {n : Nat} (hn : σ.1 32 = nI n) (hn4 : n < 400) {q : Nat} (hv : pSide cs s = .error q) : ∃ σ', gO PG Ω (d + 9) 71 173 [.ref x, .int (nI 1), .int (nI a), .int (nI i)] [] (tW h x A σ) = some (.returned none, tW h x A σ') ∧ σ'.1 20 = nI q ∧ q ≤ 160 ∧ FxQ σ σ' := by
  obtain ⟨σ1, e1, e2, e3, e4⟩ := t_rs_er (d := d + 1) (h := h) hT hp (i := a + i) (by omega) hv
  obtain ⟨σ2, f1, f2, f3⟩ := t_el_x (d := d) (h := h) (a := a) (i := i + 1) hT e2 e3 (by rw [e4.1.1 32 (by decide)]; exact hn) hn4 (by omega)
  refine ⟨σ2, ?_, f2, e3, (e4.1.mono (by decide) (by decide) (by decide) : FxQ _ _).trans (f3.mono (by decide) (by decide) (by decide))⟩
  have hw := hp.2.2.2.1
  have hm1 : (-1 : Int32) < 0 := by decide
  rw [← f1, e_X2_readElement_173]
  simp (disch := first | omega | decide) only [e_X2_readElement_174, e_X2_readElement_175, e_X2_readElement_178, e_X2_readElement_179, e_X2_readElement_182, e_X2_readElement_185, e_X2_readElement_186, e_X2_readElement_187, e_X2_readElement_188, e_X2_readElement_189, e_X2_readElement_192, e_X2_readElement_195, tw_cl, tg15, tg20, tg25, tg35, tp22 hT, tp25 hT, tp35 hT, cR_ref, cR_null, cR_rf, c1_int, c1_ref, c1_null, c1_rf, kz_int, kz_ref, kz_null, kz_rf, kz_U, kz_long, nB_null, nB_ref, rf_none, rf_some, bV_ret, bV_thr, bA_ret, bA_thr, bX_ret, bX_thr, len4_0, len4_1, len4_2, len4_3, len4_4, true_and, and_true, and_self, if_true, if_false, Option.bind_some, nR_b1, nR_b0, nR_bI, nI_1z, nI_0z, bI_z, if_nn, nI_add, pk_mul, ↓nI_lt_if, hi, hw, hm1, e1]
theorem pat_f {t : Tok} (hc : canS t = true) (h5 : isKy t 5 = false) (hh : hoS t = false) : t.1 = 3 ∨ isTm t = true := by
  unfold canS at hc
  unfold hoS at hh
  simp only [Bool.or_eq_true, Bool.or_eq_false_iff, decide_eq_true_eq] at hc hh
  rcases hc with ((((q | q) | q) | q) | q) | q
  · rw [h5] at q; cases q
  · rw [hh.1.1] at q; cases q
  · rw [hh.1.2] at q; cases q
  · rw [hh.2] at q; cases q
  · exact Or.inl q
  · exact Or.inr q
set_option maxHeartbeats 1000000 in
theorem t_el_p0 (hT : TwOk Ω.sz x A) (hp : PL σ cs s) (hyes : (canS (tk cs s) && decide (s.2.2 < 12)) = true) (hk5 : isKy (tk cs s) 5 = false) (hh : hoS (tk cs s) = false) {n : Nat} (h35 : σ.1 35 = nI n) (hn : n < 12) : gM PG Ω (d + 10) 71 [.ref x] (tW h x A σ) = gO PG Ω (d + 9) 71 173 [.ref x, .int (nI 1), .int (nI (3 * n)), .int (nI 0)] [] (tW h x A (sI (sI (sI σ 25 (nI (s.2.2 + 1))) 22 (nI 0)) 35 (nI (n + 1)))) := by
  have h12 : canS (tk cs s) = true ∧ s.2.2 < 12 := by rwa [Bool.and_eq_true, decide_eq_true_iff] at hyes
  have hp1 := hp.el h12.2 (v := bI (hoS (tk cs s)))
  have k5 := t_isKey (d := d + 8) (h := h) hT hp1.2.1 hp1.w (i := 5) (by decide)
  have kt := t_isTerm (d := d + 7) (h := h) hT hp1.2.1 hp1.w
  change gM PG Ω (d + 9) _ _ _ = some (.returned (some (.int (bI (isKy (tk cs s) 5)))), _) at k5
  change gM PG Ω (d + 9) _ _ _ = some (.returned (some (.int (bI (isTm (tk cs s))))), _) at kt
  have hk := hp1.2.1.1
  change _ = nI (tk cs s).1 at hk
  have h5 := hp.w.2.2.2
  rw [hk5, hh] at k5
  rw [hh] at kt
  rw [t_el1 hT hp hyes, hh]
  simp only [bI_f] at k5 kt
  have hk' : σ.1 15 = nI (tk cs s).1 := hp.2.1.1
  rcases pat_f h12.1 hk5 hh with h3 | ht
  · simp (disch := first | omega | decide) only [e_X2_readElement_120, e_X2_readElement_121, e_X2_readElement_122, e_X2_readElement_125, e_X2_readElement_128, e_X2_readElement_129, e_X2_readElement_132, e_X2_readElement_133, e_X2_readElement_136, e_X2_readElement_139, e_X2_readElement_140, e_X2_readElement_143, e_X2_readElement_144, e_X2_readElement_147, e_X2_readElement_148, e_X2_readElement_151, e_X2_readElement_154, e_X2_readElement_155, e_X2_readElement_156, e_X2_readElement_159, e_X2_readElement_160, e_X2_readElement_161, e_X2_readElement_162, e_X2_readElement_163, e_X2_readElement_166, e_X2_readElement_167, e_X2_readElement_168, e_X2_readElement_171, e_X2_readElement_172, tw_cl, tg15, tg20, tg25, tg35, tp22 hT, tp25 hT, tp35 hT, cR_ref, cR_null, cR_rf, c1_int, c1_ref, c1_null, c1_rf, kz_int, kz_ref, kz_null, kz_rf, kz_U, kz_long, nB_null, nB_ref, rf_none, rf_some, bV_ret, bV_thr, bA_ret, bA_thr, bX_ret, bX_thr, len4_0, len4_1, len4_2, len4_3, len4_4, true_and, and_true, and_self, if_true, if_false, Option.bind_some, nR_b1, nR_b0, nR_bI, nI_1z, nI_0z, bI_z, if_nn, sI_1, sI_2, sT_1, sT_21, sT_22, sA_1, sA_21, sA_221, sA_222, sL_1, sL_21, sL_221, sL_222, Nat.reduceEqDiff, ↓reduceIte, nI_add, pk_mul, k5, hk', h3, ↓nI_eq_if, h35, bI_f]
  · rw [ht] at kt
    by_cases h3 : (tk cs s).1 = 3
    · simp (disch := first | omega | decide) only [e_X2_readElement_120, e_X2_readElement_121, e_X2_readElement_122, e_X2_readElement_125, e_X2_readElement_128, e_X2_readElement_129, e_X2_readElement_132, e_X2_readElement_133, e_X2_readElement_136, e_X2_readElement_139, e_X2_readElement_140, e_X2_readElement_143, e_X2_readElement_144, e_X2_readElement_147, e_X2_readElement_148, e_X2_readElement_151, e_X2_readElement_154, e_X2_readElement_155, e_X2_readElement_156, e_X2_readElement_159, e_X2_readElement_160, e_X2_readElement_161, e_X2_readElement_162, e_X2_readElement_163, e_X2_readElement_166, e_X2_readElement_167, e_X2_readElement_168, e_X2_readElement_171, e_X2_readElement_172, tw_cl, tg15, tg20, tg25, tg35, tp22 hT, tp25 hT, tp35 hT, cR_ref, cR_null, cR_rf, c1_int, c1_ref, c1_null, c1_rf, kz_int, kz_ref, kz_null, kz_rf, kz_U, kz_long, nB_null, nB_ref, rf_none, rf_some, bV_ret, bV_thr, bA_ret, bA_thr, bX_ret, bX_thr, len4_0, len4_1, len4_2, len4_3, len4_4, true_and, and_true, and_self, if_true, if_false, Option.bind_some, nR_b1, nR_b0, nR_bI, nI_1z, nI_0z, bI_z, if_nn, sI_1, sI_2, sT_1, sT_21, sT_22, sA_1, sA_21, sA_221, sA_222, sL_1, sL_21, sL_221, sL_222, Nat.reduceEqDiff, ↓reduceIte, nI_add, pk_mul, k5, hk', h3, ↓nI_eq_if, h35, bI_f]
    · simp (disch := first | omega | decide) only [e_X2_readElement_120, e_X2_readElement_121, e_X2_readElement_122, e_X2_readElement_125, e_X2_readElement_128, e_X2_readElement_129, e_X2_readElement_132, e_X2_readElement_133, e_X2_readElement_136, e_X2_readElement_139, e_X2_readElement_140, e_X2_readElement_143, e_X2_readElement_144, e_X2_readElement_147, e_X2_readElement_148, e_X2_readElement_151, e_X2_readElement_154, e_X2_readElement_155, e_X2_readElement_156, e_X2_readElement_159, e_X2_readElement_160, e_X2_readElement_161, e_X2_readElement_162, e_X2_readElement_163, e_X2_readElement_166, e_X2_readElement_167, e_X2_readElement_168, e_X2_readElement_171, e_X2_readElement_172, tw_cl, tg15, tg20, tg25, tg35, tp22 hT, tp25 hT, tp35 hT, cR_ref, cR_null, cR_rf, c1_int, c1_ref, c1_null, c1_rf, kz_int, kz_ref, kz_null, kz_rf, kz_U, kz_long, nB_null, nB_ref, rf_none, rf_some, bV_ret, bV_thr, bA_ret, bA_thr, bX_ret, bX_thr, len4_0, len4_1, len4_2, len4_3, len4_4, true_and, and_true, and_self, if_true, if_false, Option.bind_some, nR_b1, nR_b0, nR_bI, nI_1z, nI_0z, bI_z, if_nn, sI_1, sI_2, sT_1, sT_21, sT_22, sA_1, sA_21, sA_221, sA_222, sL_1, sL_21, sL_221, sL_222, Nat.reduceEqDiff, ↓reduceIte, nI_add, pk_mul, k5, hk', h3, ↓nI_eq_if, h35, bI_f, kt, bI_t]
theorem PaR.push {P : List Pat} {a b c : Sd} {lo : Nat} (hr : PaR σ P) (hf : FxD (3 * P.length) (3 * P.length + 3) (sI σ 35 (nI (P.length + 1))) σ') (h35 : σ'.1 35 = nI (P.length + 1)) (h0 : SdS σ' (3 * P.length) a) (h1 : SdS σ' (3 * P.length + 1) b) (h2 : SdS σ' (3 * P.length + 2) c) : PaR σ' (P ++ [(a, b, c)]) := by
  refine ⟨by simpa using h35, fun i p q => ?_⟩
  rcases getE_snoc q with q | ⟨rfl, q2⟩
  · have hi := (List.getElem?_eq_some_iff.mp q).1
    obtain ⟨a1, a2, a3⟩ := hr.2 i p q
    have z := fun j (hj : j < 3 * P.length) => hf.2 j (Or.inl hj)
    exact ⟨a1.eq (z _ (by omega)).1 (z _ (by omega)).2, a2.eq (z _ (by omega)).1 (z _ (by omega)).2, a3.eq (z _ (by omega)).1 (z _ (by omega)).2⟩
  · cases q2
    exact ⟨h0, h1, h2⟩
set_option maxHeartbeats 1000000 in
theorem t_el_p (hT : TwOk Ω.sz x A) (hp : PL σ cs s) (hyes : (canS (tk cs s) && decide (s.2.2 < 12)) = true) (hk5 : isKy (tk cs s) 5 = false) (hh : hoS (tk cs s) = false) {ops : List (Nat × Nat)} {P : List Pat} {T : List (Nat × Tst)} {G : Nat} {stk : List (Nat × Nat × Nat)} (hc : CR σ (ops, P, T, G, stk)) (hI : CI (ops, P, T, G, stk) s) :
    (∀ p s', pPat cs (s.1, s.2.1, s.2.2 + 1) = .ok (p, s') → ∃ σ', gM PG Ω (d + 10) 71 [.ref x] (tW h x A σ) = some (.returned none, tW h x A σ') ∧ PL σ' cs s' ∧ CR σ' (ops ++ [(2, 3 * P.length)], P ++ [p], T, G, stk) ∧ σ'.1 22 = nI 0 ∧ σ'.1 21 = σ.1 21 ∧ FxQ σ σ') ∧
    (∀ q, pPat cs (s.1, s.2.1, s.2.2 + 1) = .error q → ∃ σ', gM PG Ω (d + 10) 71 [.ref x] (tW h x A σ) = some (.returned none, tW h x A σ') ∧ σ'.1 20 = nI q ∧ q ≤ 160 ∧ FxQ σ σ') := by
  have hro := hp.room hI
  dsimp only at hro
  have h12 : s.2.2 < 12 := by rw [Bool.and_eq_true, decide_eq_true_iff] at hyes; exact hyes.2
  have hPT : P.length + T.length ≤ s.2.2 := hI.2.2.1
  have hf : Fx [22, 25, 35] [] [] σ (sI (sI (sI σ 25 (nI (s.2.2 + 1))) 22 (nI 0)) 35 (nI (P.length + 1))) := ((Fx.rfl'.sI (by decide)).sI (by decide)).sI (by decide)
  have hf1 : Fx [35] [] [] (sI (sI σ 25 (nI (s.2.2 + 1))) 22 (nI 0)) (sI (sI (sI σ 25 (nI (s.2.2 + 1))) 22 (nI 0)) 35 (nI (P.length + 1))) := Fx.rfl'.sI (by decide)
  have hp1 := (hp.el h12 (v := nI 0)).fx hf1 (by decide) (by decide) (by decide) rfl
  have h32 : σ.1 32 = nI ops.length := hc.1.1
  have e0 := t_el_p0 (d := d) (h := h) hT hp hyes hk5 hh hc.2.1.1 (by dsimp only; omega)
  dsimp only at e0
  have hr0 : PaR (sI (sI σ 25 (nI (s.2.2 + 1))) 22 (nI 0)) P := hc.2.1
  have hfQ : FxQ σ (sI (sI (sI σ 25 (nI (s.2.2 + 1))) 22 (nI 0)) 35 (nI (P.length + 1))) := hf.mono (by decide) (by decide) (by decide)
  generalize hσ0 : sI (sI (sI σ 25 (nI (s.2.2 + 1))) 22 (nI 0)) 35 (nI (P.length + 1)) = σ0 at *
  have h320 : σ0.1 32 = nI ops.length := by rw [hf.1 32 (by decide)]; exact h32
  unfold pPat
  cases hA : pSide cs (s.1, s.2.1, s.2.2 + 1) with
  | error q0 =>
    refine ⟨fun p s' hv => (nomatch hv), fun q hv => ?_⟩
    cases hv
    obtain ⟨σ1, a1, a2, a3, a4⟩ := t_el_e (d := d) (h := h) (a := 3 * P.length) (i := 0) hT hp1 (by decide) (by omega) h320 (by omega) hA
    exact ⟨σ1, e0.trans a1, a2, a3, hfQ.trans a4⟩
  | ok ra =>
    obtain ⟨a, s1⟩ := ra
    obtain ⟨σ1, a1, a2, a3, a4⟩ := t_el_s (d := d) (h := h) (a := 3 * P.length) (i := 0) hT hp1 (by decide) (by omega) hA
    have h321 : σ1.1 32 = nI ops.length := by rw [a4.1.1 32 (by decide)]; exact h320
    dsimp only
    cases hB : pSide cs s1 with
    | error q0 =>
      refine ⟨fun p s' hv => (nomatch hv), fun q hv => ?_⟩
      cases hv
      obtain ⟨σ2, b1, b2, b3, b4⟩ := t_el_e (d := d) (h := h) (a := 3 * P.length) (i := 1) hT a2 (by decide) (by omega) h321 (by omega) hB
      exact ⟨σ2, (e0.trans a1).trans b1, b2, b3, (hfQ.trans (a4.1.mono (by decide) (by decide) (by decide))).trans b4⟩
    | ok rb =>
      obtain ⟨b, s2⟩ := rb
      obtain ⟨σ2, b1, b2, b3, b4⟩ := t_el_s (d := d) (h := h) (a := 3 * P.length) (i := 1) hT a2 (by decide) (by omega) hB
      have h322 : σ2.1 32 = nI ops.length := by rw [b4.1.1 32 (by decide)]; exact h321
      dsimp only
      cases hC : pSide cs s2 with
      | error q0 =>
        refine ⟨fun p s' hv => (nomatch hv), fun q hv => ?_⟩
        cases hv
        obtain ⟨σ3, c1, c2, c3, c4⟩ := t_el_e (d := d) (h := h) (a := 3 * P.length) (i := 2) hT b2 (by decide) (by omega) h322 (by omega) hC
        exact ⟨σ3, ((e0.trans a1).trans b1).trans c1, c2, c3, ((hfQ.trans (a4.1.mono (by decide) (by decide) (by decide))).trans (b4.1.mono (by decide) (by decide) (by decide))).trans c4⟩
      | ok rc =>
        obtain ⟨c, s3⟩ := rc
        obtain ⟨σ3, c1, c2, c3, c4⟩ := t_el_s (d := d) (h := h) (a := 3 * P.length) (i := 2) hT b2 (by decide) (by omega) hC
        refine ⟨fun p s' hv => ?_, fun q hv => nomatch hv⟩
        cases hv
        have hD : FxD (3 * P.length) (3 * P.length + 3) σ0 σ3 := ((a4.mono (by omega) (by omega)).trans (b4.mono (by omega) (by omega))).trans (c4.mono (by omega) (by omega))
        have ha3 : SdS σ3 (3 * P.length) a := (SdS.keep (a3 : SdS σ1 (3 * P.length + 0) a) b4 (by omega)).keep c4 (by omega)
        have hb3 : SdS σ3 (3 * P.length + 1) b := b3.keep c4 (by omega)
        have hpa : PaR σ3 (P ++ [(a, b, c)]) := by
          refine PaR.push (lo := 0) hr0 (by rw [hσ0]; exact hD) ?_ ha3 hb3 c3
          rw [hD.1.1 35 (by decide), ← hσ0]; simp [sI_1]
        have hc0 : CR σ3 (ops, P ++ [(a, b, c)], T, G, stk) := by
          have hop : OpR σ3 ops := (hc.1.fx hf (by decide) (by decide) (by decide)).fx hD.1 (by decide) (by decide) (by decide)
          have hsk : SkR σ3 G stk := (hc.2.2.2.fx hf (by decide) (by decide) (by decide)).fx hD.1 (by decide) (by decide) (by decide)
          refine ⟨hop, hpa, ⟨?_, fun i g t q => ?_⟩, hsk⟩
          · rw [hD.1.1 39 (by decide), hf.1 39 (by decide)]; exact hc.2.2.1.1
          · obtain ⟨t1, t2, t3⟩ := (hc.2.2.1.fx hf (by decide) (by decide) (by decide)).2 i g t q
            exact ⟨by rw [hD.1.2.1 36 (by decide)]; exact t1, by rw [hD.1.2.1 38 (by decide)]; exact t2, t3.eq (by rw [hD.1.2.1 37 (by decide)]) (fun j h1 h2 => hD.2 j (by omega))⟩
        have h323 : σ3.1 32 = nI ops.length := hc0.1.1
        obtain ⟨σ4, d1, d2, d3, d4⟩ := t_em (d := d + 8) (h := h) hT hc0 (by dsimp only; omega) (o := 2) (a := 3 * P.length) c2
        refine ⟨σ4, ?_, d3, d2, ?_, ?_, (hfQ.trans (hD.1.mono (by decide) (by decide) (by decide))).trans (d4.mono (by decide) (by decide) (by decide))⟩
        · rw [e0, a1, b1, c1, e_X2_readElement_173]
          simp (disch := first | omega | decide) only [e_X2_readElement_174, e_X2_readElement_175, e_X2_readElement_178, e_X2_readElement_179, e_X2_readElement_182, e_X2_readElement_185, e_X2_readElement_186, e_X2_readElement_187, e_X2_readElement_188, e_X2_readElement_189, e_X2_readElement_192, e_X2_readElement_195, e_X2_readElement_198, e_X2_readElement_199, e_X2_readElement_200, e_X2_readElement_201, e_X2_readElement_204, tw_cl, tg15, tg20, tg25, tg35, tp22 hT, tp25 hT, tp35 hT, cR_ref, cR_null, cR_rf, c1_int, c1_ref, c1_null, c1_rf, kz_int, kz_ref, kz_null, kz_rf, kz_U, kz_long, nB_null, nB_ref, rf_none, rf_some, bV_ret, bV_thr, bA_ret, bA_thr, bX_ret, bX_thr, len4_0, len4_1, len4_2, len4_3, len4_4, true_and, and_true, and_self, if_true, if_false, Option.bind_some, nR_b1, nR_b0, nR_bI, nI_1z, nI_0z, bI_z, if_nn, nI_add, pk_mul, ↓nI_lt_if, Nat.reduceAdd, Nat.lt_irrefl, d1]
        · rw [d4.1 22 (by decide), hD.1.1 22 (by decide), ← hσ0]; rfl
        · rw [d4.1 21 (by decide), hD.1.1 21 (by decide), ← hσ0]; rfl
end TP6
