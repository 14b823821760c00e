/-! TWIN, reading: tokens -/
theorem keyW_w : ∀ i, i < 11 → isW (keyW i) := by
  intro i hi
  have : i = 0 ∨ i = 1 ∨ i = 2 ∨ i = 3 ∨ i = 4 ∨ i = 5 ∨ i = 6 ∨ i = 7 ∨ i = 8 ∨ i = 9 ∨ i = 10 := by omega
  unfold isW
  rcases this with rfl | rfl | rfl | rfl | rfl | rfl | rfl | rfl | rfl | rfl | rfl <;> decide
theorem key_code {t : Tok} {i : Nat} (hi : i < 11) (hw : TkW t) (h1 : t.1 = 1) {v : Int64} (hv : wcode (keyW i) = v) : (wcode t.2.1 = v) = (isKy t i = true) := by
  unfold isKy
  rw [decide_eq_true_iff]
  refine propext ⟨fun q => ⟨h1, wcode_inj (hw.1 (Or.inl h1)) (keyW_w i hi) (q.trans hv.symm)⟩, fun q => by rw [q.2]; exact hv⟩
theorem key_fin {t : Tok} {i : Nat} (hi : i < 11) (hw : TkW t) (h1 : t.1 = 1) {v : Int64} (hv : wcode (keyW i) = v) {H : AH} : (if wcode t.2.1 = v then some (Outcome.returned (some (Value.int (nI 1))), H) else some (Outcome.returned (some (Value.int (nI 0))), H)) = some (Outcome.returned (some (Value.int (bI (isKy t i)))), H) := by
  have e := key_code hi hw h1 hv
  cases hq : isKy t i with
  | true => rw [hq] at e; rw [if_pos (by rw [e])]; rfl
  | false => rw [hq] at e; rw [if_neg (by rw [e]; decide)]; rfl
section TP1
variable {Ω : Om} {d : Nat} {h : AH} {x : Nat} {A : Nat → Nat} {σ : Tw} {cs : List Nat} {t : Tok}
set_option maxHeartbeats 2000000 in
theorem t_isKey (hT : TwOk Ω.sz x A) (hk : TkS σ t) (hw : TkW t) {i : Nat} (hi : i < 11) : gM PG Ω (d + 1) 63 [.ref x, .int (nI i)] (tW h x A σ) = some (.returned (some (.int (bI (isKy t i)))), tW h x A σ) := by
  have h5 := hw.2.2.2
  by_cases h1 : t.1 = 1
  · have e := hk.2.1 (Or.inl h1)
    have hc : i = 0 ∨ i = 1 ∨ i = 2 ∨ i = 3 ∨ i = 4 ∨ i = 5 ∨ i = 6 ∨ i = 7 ∨ i = 8 ∨ i = 9 ∨ i = 10 := by omega
    rcases hc with rfl | rfl | rfl | rfl | rfl | rfl | rfl | rfl | rfl | rfl | rfl <;>
      (simp (disch := first | omega | decide) only [n_X2_isKey, e_X2_isKey_0, e_X2_isKey_1, e_X2_isKey_4, e_X2_isKey_5, e_X2_isKey_8, e_X2_isKey_9, e_X2_isKey_10, e_X2_isKey_11, e_X2_isKey_14, e_X2_isKey_17, e_X2_isKey_20, e_X2_isKey_21, e_X2_isKey_22, e_X2_isKey_25, e_X2_isKey_28, e_X2_isKey_31, e_X2_isKey_32, e_X2_isKey_33, e_X2_isKey_36, e_X2_isKey_39, e_X2_isKey_42, e_X2_isKey_43, e_X2_isKey_44, e_X2_isKey_47, e_X2_isKey_50, e_X2_isKey_53, e_X2_isKey_54, e_X2_isKey_55, e_X2_isKey_58, e_X2_isKey_61, e_X2_isKey_64, e_X2_isKey_65, e_X2_isKey_66, e_X2_isKey_69, e_X2_isKey_72, e_X2_isKey_75, e_X2_isKey_76, e_X2_isKey_78, e_X2_isKey_81, e_X2_isKey_84, e_X2_isKey_87, e_X2_isKey_88, e_X2_isKey_90, e_X2_isKey_93, e_X2_isKey_96, e_X2_isKey_99, e_X2_isKey_100, e_X2_isKey_102, e_X2_isKey_105, e_X2_isKey_108, e_X2_isKey_111, e_X2_isKey_112, e_X2_isKey_114, e_X2_isKey_117, e_X2_isKey_120, e_X2_isKey_123, e_X2_isKey_126, e_X2_isKey_127, e_X2_isKey_128, e_X2_isKey_131, e_X2_isKey_132, e_X2_isKey_133, e_X2_isKey_136, e_X2_isKey_137, e_X2_isKey_140, e_X2_isKey_141, tw_cl, tg15, tg16, cR_ref, cR_null, cR_rf, c1_int, c1_ref, c1_null, c1_rf, kz_int, kz_ref, kz_null, kz_rf, kz_U, kz_long, nB_null, nB_ref, rf_none, rf_some, bV_ret, bV_thr, bA_ret, bA_thr, bX_ret, bX_thr, len4_0, len4_1, len4_2, len4_3, len4_4, true_and, and_true, and_self, if_true, if_false, Option.bind_some, nR_b1, nR_b0, nR_bI, nI_1z, nI_0z, bI_z, if_nn, hk.1, h1, ↓nI_eq_if, ↓nI_eq0, Nat.reduceEqDiff, ↓reduceIte, lg_cmp_z, e]
       exact key_fin hi hw h1 (by decide))
  · have e : isKy t i = false := by unfold isKy; exact decide_eq_false (fun q => h1 q.1)
    simp (disch := first | omega | decide) only [n_X2_isKey, e_X2_isKey_0, e_X2_isKey_1, e_X2_isKey_4, e_X2_isKey_5, e_X2_isKey_8, e_X2_isKey_9, tw_cl, tg15, tg16, cR_ref, cR_null, cR_rf, c1_int, c1_ref, c1_null, c1_rf, kz_int, kz_ref, kz_null, kz_rf, kz_U, kz_long, nB_null, nB_ref, rf_none, rf_some, bV_ret, bV_thr, bA_ret, bA_thr, bX_ret, bX_thr, len4_0, len4_1, len4_2, len4_3, len4_4, true_and, and_true, and_self, if_true, if_false, Option.bind_some, nR_b1, nR_b0, nR_bI, nI_1z, nI_0z, bI_z, if_nn, hk.1, h1, ↓nI_eq_if, e]
    rfl
/-- the reader stands at s -/
def NmS (σ : Tw) (nm : List (List Nat)) : Prop := σ.1 24 = nI nm.length ∧ nm.length ≤ 6 ∧ (∀ i w, nm[i]? = some w → σ.2.2.2 23 i = wcode w ∧ isW w) ∧ nm.Nodup
def PL (σ : Tw) (cs : List Nat) (s : PS) : Prop := TxL σ cs ∧ TkS σ (tk cs s) ∧ s.1 ≤ cs.length ∧ σ.1 20 = -1 ∧ NmS σ s.2.1 ∧ σ.1 25 = nI s.2.2 ∧ s.2.2 ≤ 12
theorem PL.w {s : PS} (hp : PL σ cs s) : TkW (tk cs s) := (lex_w hp.2.2.1).1
theorem t_isSign (hT : TwOk Ω.sz x A) (hk : TkS σ t) (hw : TkW t) {c : Nat} (hc : c < 256) : gM PG Ω (d + 1) 69 [.ref x, .int (nI c)] (tW h x A σ) = some (.returned (some (.int (bI (isSg t c)))), tW h x A σ) := by
  have h5 := hw.2.2.2
  by_cases h1 : t.1 = 4
  · obtain ⟨c', e1, e2, e3⟩ := hk.2.2.2.1 h1
    simp (disch := first | omega | decide) only [n_X2_isSign, e_X2_isSign_0, e_X2_isSign_1, e_X2_isSign_4, e_X2_isSign_5, e_X2_isSign_8, e_X2_isSign_9, e_X2_isSign_12, e_X2_isSign_13, e_X2_isSign_14, e_X2_isSign_15, e_X2_isSign_18, e_X2_isSign_19, e_X2_isSign_22, e_X2_isSign_23, tw_cl, tg15, tg16, cR_ref, cR_null, cR_rf, c1_int, c1_ref, c1_null, c1_rf, kz_int, kz_ref, kz_null, kz_rf, kz_U, kz_long, nB_null, nB_ref, rf_none, rf_some, bV_ret, bV_thr, bA_ret, bA_thr, bX_ret, bX_thr, len4_0, len4_1, len4_2, len4_3, len4_4, true_and, and_true, and_self, if_true, if_false, Option.bind_some, nR_b1, nR_b0, nR_bI, nI_1z, nI_0z, bI_z, if_nn, hk.1, h1, ↓nI_eq_if, lg_cmp_z, e3]
    have e : isSg t c = decide (c' = c) := by
      unfold isSg; rw [decide_eq_decide, h1, e1]; simp
    rw [e]
    by_cases hcc : c' = c
    · subst hcc; simp [bI]
    · have hn : ¬ (nI c').toInt64 = (nI c).toInt64 := by
        rw [nI_L (by omega), nI_L (by omega)]
        exact fun q => hcc ((lN_eq (by omega) (by omega)).mp q)
      simp [hn, hcc, bI]
  · have e : isSg t c = false := by unfold isSg; exact decide_eq_false (fun q => h1 q.1)
    simp (disch := first | omega | decide) only [n_X2_isSign, e_X2_isSign_0, e_X2_isSign_1, e_X2_isSign_4, e_X2_isSign_5, e_X2_isSign_8, e_X2_isSign_9, e_X2_isSign_12, e_X2_isSign_13, e_X2_isSign_14, e_X2_isSign_15, e_X2_isSign_18, e_X2_isSign_19, e_X2_isSign_22, e_X2_isSign_23, tw_cl, tg15, tg16, cR_ref, cR_null, cR_rf, c1_int, c1_ref, c1_null, c1_rf, kz_int, kz_ref, kz_null, kz_rf, kz_U, kz_long, nB_null, nB_ref, rf_none, rf_some, bV_ret, bV_thr, bA_ret, bA_thr, bX_ret, bX_thr, len4_0, len4_1, len4_2, len4_3, len4_4, true_and, and_true, and_self, if_true, if_false, Option.bind_some, nR_b1, nR_b0, nR_bI, nI_1z, nI_0z, bI_z, if_nn, hk.1, h1, ↓nI_eq_if, e]
    rfl
set_option maxHeartbeats 2000000 in
theorem t_isTerm (hT : TwOk Ω.sz x A) (hk : TkS σ t) (hw : TkW t) : gM PG Ω (d + 2) 72 [.ref x] (tW h x A σ) = some (.returned (some (.int (bI (isTm t)))), tW h x A σ) := by
  have h5 := hw.2.2.2
  by_cases h2 : t.1 = 2
  · have e : isTm t = true := by unfold isTm; exact decide_eq_true (Or.inl h2)
    simp (disch := first | omega | decide) only [n_X2_isTerm, e_X2_isTerm_0, e_X2_isTerm_1, e_X2_isTerm_4, e_X2_isTerm_5, e_X2_isTerm_8, e_X2_isTerm_9, e_X2_isTerm_10, e_X2_isTerm_11, tw_cl, tg15, cR_ref, cR_null, cR_rf, c1_int, c1_ref, c1_null, c1_rf, kz_int, kz_ref, kz_null, kz_rf, kz_U, kz_long, nB_null, nB_ref, rf_none, rf_some, bV_ret, bV_thr, bA_ret, bA_thr, bX_ret, bX_thr, len4_0, len4_1, len4_2, len4_3, len4_4, true_and, and_true, and_self, if_true, if_false, Option.bind_some, nR_b1, nR_b0, nR_bI, nI_1z, nI_0z, bI_z, if_nn, hk.1, h2, ↓nI_eq_if, e]
    rfl
  · have key : ∀ (m i : Nat) (b : Bool), i + m = 11 → gO PG Ω (d + 1) 72 14 [.ref x, .int (bI b), .int (nI i)] [] (tW h x A σ) = gO PG Ω (d + 1) 72 36 [.ref x, .int (bI (b || (List.range' i m).any (fun j => isKy t j))), .int (nI 11)] [] (tW h x A σ) := by
      intro m
      induction m with
      | zero =>
        intro i b hi
        have : i = 11 := by omega
        subst this
        rw [e_X2_isTerm_14]
        simp (disch := omega) only [e_X2_isTerm_15, e_X2_isTerm_17, e_X2_isTerm_20, e_X2_isTerm_21, e_X2_isTerm_22, e_X2_isTerm_25, e_X2_isTerm_28, e_X2_isTerm_29, e_X2_isTerm_30, e_X2_isTerm_33, tw_cl, tg15, cR_ref, cR_null, cR_rf, c1_int, c1_ref, c1_null, c1_rf, kz_int, kz_ref, kz_null, kz_rf, kz_U, kz_long, nB_null, nB_ref, rf_none, rf_some, bV_ret, bV_thr, bA_ret, bA_thr, bX_ret, bX_thr, len4_0, len4_1, len4_2, len4_3, len4_4, true_and, and_true, and_self, if_true, if_false, Option.bind_some, nR_b1, nR_b0, nR_bI, nI_1z, nI_0z, bI_z, if_nn, nI_add, pk_mul, ↓nI_lt_if, Nat.lt_irrefl, List.range'_zero, List.any_nil, Bool.or_false]
      | succ m ih =>
        intro i b hi
        have hil : i < 11 := by omega
        rw [e_X2_isTerm_14]
        simp (disch := omega) only [e_X2_isTerm_15, e_X2_isTerm_17, e_X2_isTerm_20, e_X2_isTerm_21, e_X2_isTerm_22, e_X2_isTerm_25, e_X2_isTerm_28, e_X2_isTerm_29, e_X2_isTerm_30, e_X2_isTerm_33, tw_cl, tg15, cR_ref, cR_null, cR_rf, c1_int, c1_ref, c1_null, c1_rf, kz_int, kz_ref, kz_null, kz_rf, kz_U, kz_long, nB_null, nB_ref, rf_none, rf_some, bV_ret, bV_thr, bA_ret, bA_thr, bX_ret, bX_thr, len4_0, len4_1, len4_2, len4_3, len4_4, true_and, and_true, and_self, if_true, if_false, Option.bind_some, nR_b1, nR_b0, nR_bI, nI_1z, nI_0z, bI_z, if_nn, nI_add, pk_mul, ↓nI_lt_if, hil, t_isKey hT hk hw]
        cases hq : isKy t i with
        | true =>
          have e := ih (i + 1) true (by omega)
          simp only [Bool.true_eq_false, if_false, List.range'_succ, List.any_cons, hq, Bool.true_or, Bool.or_true]
          simp only [Bool.true_or] at e
          exact e
        | false =>
          have e := ih (i + 1) b (by omega)
          simp only [if_true, List.range'_succ, List.any_cons, hq, Bool.false_or]
          exact e
    have k0 := key 11 0 false (by omega)
    have hany : (List.range' 0 11).any (fun j => isKy t j) = isAK t := by
      unfold isAK isKy
      by_cases h1 : t.1 = 1
      · simp only [h1, true_and]
        rw [show List.range' 0 11 = [0, 1, 2, 3, 4, 5, 6, 7, 8, 9, 10] from rfl]
        simp [List.any_cons, keyW, keyWs]
      · simp [h1]
    rw [hany, Bool.false_or] at k0
    change gO PG Ω (d + 1) _ 14 [.ref x, .int (nI 0), .int (nI 0)] [] _ = _ at k0
    simp (disch := first | omega | decide) only [n_X2_isTerm, e_X2_isTerm_0, e_X2_isTerm_1, e_X2_isTerm_4, e_X2_isTerm_5, e_X2_isTerm_8, e_X2_isTerm_9, e_X2_isTerm_10, e_X2_isTerm_11, e_X2_isTerm_12, e_X2_isTerm_13, tw_cl, tg15, cR_ref, cR_null, cR_rf, c1_int, c1_ref, c1_null, c1_rf, kz_int, kz_ref, kz_null, kz_rf, kz_U, kz_long, nB_null, nB_ref, rf_none, rf_some, bV_ret, bV_thr, bA_ret, bA_thr, bX_ret, bX_thr, len4_0, len4_1, len4_2, len4_3, len4_4, true_and, and_true, and_self, if_true, if_false, Option.bind_some, nR_b1, nR_b0, nR_bI, nI_1z, nI_0z, bI_z, if_nn, hk.1, h2, ↓nI_eq_if]
    rw [k0]
    simp (disch := first | omega | decide) only [e_X2_isTerm_36, e_X2_isTerm_37, e_X2_isTerm_40, e_X2_isTerm_41, e_X2_isTerm_44, e_X2_isTerm_45, e_X2_isTerm_48, e_X2_isTerm_49, e_X2_isTerm_52, e_X2_isTerm_53, tw_cl, tg15, cR_ref, cR_null, cR_rf, c1_int, c1_ref, c1_null, c1_rf, kz_int, kz_ref, kz_null, kz_rf, kz_U, kz_long, nB_null, nB_ref, rf_none, rf_some, bV_ret, bV_thr, bA_ret, bA_thr, bX_ret, bX_thr, len4_0, len4_1, len4_2, len4_3, len4_4, true_and, and_true, and_self, if_true, if_false, Option.bind_some, nR_b1, nR_b0, nR_bI, nI_1z, nI_0z, bI_z, if_nn, hk.1, ↓nI_eq_if]
    by_cases h1 : t.1 = 1
    · have e : isTm t = !(isAK t) := by unfold isTm isAK; simp [h1]
      rw [if_pos h1, e]
      cases isAK t <;> rfl
    · have e : isTm t = false := by unfold isTm; exact decide_eq_false (fun q => by rcases q with q | q; exact h2 q; exact h1 q.1)
      rw [if_neg h1, e]
      rfl
theorem t_stop (hT : TwOk Ω.sz x A) {s : PS} (hp : PL σ cs s) : gM PG Ω (d + 1) 65 [.ref x] (tW h x A σ) = some (.returned none, tW h x A (sI σ 20 (nI (tk cs s).2.2.1))) := by
  have h5 := hp.w.2.2.2
  have e6 := hp.2.1.2.2.2.2.2
  have hm : (-1 : Int32) < 0 := by decide
  by_cases h0 : (tk cs s).1 = 0
  · rw [if_pos h0] at e6
    simp (disch := first | omega | decide) only [n_X2_stop, e_X2_stop_0, e_X2_stop_1, e_X2_stop_4, e_X2_stop_7, e_X2_stop_8, e_X2_stop_9, e_X2_stop_12, e_X2_stop_15, e_X2_stop_16, e_X2_stop_19, e_X2_stop_22, e_X2_stop_23, e_X2_stop_26, e_X2_stop_29, tw_cl, tg15, tg17, tg19, tg20, tp20 hT, cR_ref, cR_null, cR_rf, c1_int, c1_ref, c1_null, c1_rf, kz_int, kz_ref, kz_null, kz_rf, kz_U, kz_long, nB_null, nB_ref, rf_none, rf_some, bV_ret, bV_thr, bA_ret, bA_thr, bX_ret, bX_thr, len4_0, len4_1, len4_2, len4_3, len4_4, true_and, and_true, and_self, if_true, if_false, Option.bind_some, nR_b1, nR_b0, nR_bI, nI_1z, nI_0z, bI_z, if_nn, hp.2.2.2.1, hm, hp.2.1.1, nI_eq0, h0, e6]
  · rw [if_neg h0] at e6
    simp (disch := first | omega | decide) only [n_X2_stop, e_X2_stop_0, e_X2_stop_1, e_X2_stop_4, e_X2_stop_7, e_X2_stop_8, e_X2_stop_9, e_X2_stop_12, e_X2_stop_15, e_X2_stop_16, e_X2_stop_19, e_X2_stop_22, e_X2_stop_23, e_X2_stop_26, e_X2_stop_29, tw_cl, tg15, tg17, tg19, tg20, tp20 hT, cR_ref, cR_null, cR_rf, c1_int, c1_ref, c1_null, c1_rf, kz_int, kz_ref, kz_null, kz_rf, kz_U, kz_long, nB_null, nB_ref, rf_none, rf_some, bV_ret, bV_thr, bA_ret, bA_thr, bX_ret, bX_thr, len4_0, len4_1, len4_2, len4_3, len4_4, true_and, and_true, and_self, if_true, if_false, Option.bind_some, nR_b1, nR_b0, nR_bI, nI_1z, nI_0z, bI_z, if_nn, hp.2.2.2.1, hm, hp.2.1.1, nI_eq0, h0, e6]
theorem PL.next {s : PS} {σ' : Tw} (hp : PL σ cs s) (hk : TkS σ' (lexT cs (tk cs s).2.2.2)) (hf : Fx [15, 17, 18, 19] [] [] σ σ') : PL σ' cs (nx cs s) := by
  obtain ⟨h1, h2, h3, h4, h5, h6, h7⟩ := hp
  refine ⟨h1.fx hf (by decide) (by decide), hk, (lex_w h3).2.2.2.1, by rw [hf.1 20 (by decide)]; exact h4, ⟨by rw [hf.1 24 (by decide)]; exact h5.1, h5.2.1, fun i w hw => by rw [hf.2.2 23 (by decide)]; exact h5.2.2.1 i w hw, h5.2.2.2⟩, by rw [hf.1 25 (by decide)]; exact h6, h7⟩
theorem t_go (hT : TwOk Ω.sz x A) {s : PS} (hp : PL σ cs s) : ∃ σ', gM PG Ω (d + 5) 58 [.ref x] (tW h x A σ) = some (.returned none, tW h x A σ') ∧ PL σ' cs (nx cs s) ∧ Fx [15, 17, 18, 19] [] [] σ σ' := by
  obtain ⟨σ', e1, e2, e3⟩ := t_next (d := d) (h := h) hT hp.1 hp.2.1.2.2.2.2.1 (lex_w hp.2.2.1).2.2.2.1
  exact ⟨σ', e1, hp.next e2 e3, e3⟩
theorem t_goOn1 (hT : TwOk Ω.sz x A) {s : PS} (hp : PL σ cs s) : ∃ σ', gM PG Ω (d + 6) 64 [.ref x, .int (nI 1)] (tW h x A σ) = some (.returned (some (.int (nI 1))), tW h x A σ') ∧ PL σ' cs (nx cs s) ∧ Fx [15, 17, 18, 19] [] [] σ σ' := by
  obtain ⟨σ', e1, e2, e3⟩ := t_go (d := d) (h := h) hT hp
  refine ⟨σ', ?_, e2, e3⟩
  have hm : (-1 : Int32) < 0 := by decide
  simp (disch := first | omega | decide) only [n_X2_goOn, e_X2_goOn_0, e_X2_goOn_1, e_X2_goOn_4, e_X2_goOn_5, e_X2_goOn_8, e_X2_goOn_9, e_X2_goOn_12, e_X2_goOn_15, e_X2_goOn_16, e_X2_goOn_17, e_X2_goOn_18, e_X2_goOn_21, e_X2_goOn_22, tw_cl, tg20, cR_ref, cR_null, cR_rf, c1_int, c1_ref, c1_null, c1_rf, kz_int, kz_ref, kz_null, kz_rf, kz_U, kz_long, nB_null, nB_ref, rf_none, rf_some, bV_ret, bV_thr, bA_ret, bA_thr, bX_ret, bX_thr, len4_0, len4_1, len4_2, len4_3, len4_4, true_and, and_true, and_self, if_true, if_false, Option.bind_some, nR_b1, nR_b0, nR_bI, nI_1z, nI_0z, bI_z, if_nn, hp.2.2.2.1, hm, e1]
theorem t_goOn0 (hT : TwOk Ω.sz x A) {s : PS} (hp : PL σ cs s) : gM PG Ω (d + 2) 64 [.ref x, .int (nI 0)] (tW h x A σ) = some (.returned (some (.int (nI 0))), tW h x A (sI σ 20 (nI (tk cs s).2.2.1))) := by
  have h2 := (lex_w hp.2.2.1).2.2
  have h3 := hp.1.2.1
  change _ ≤ _ ∧ _ ≤ _ ∧ _ at h2
  have hm : ¬ nI (tk cs s).2.2.1 < 0 := nI_pos (by unfold tk; omega)
  simp (disch := first | omega | decide) only [n_X2_goOn, e_X2_goOn_0, e_X2_goOn_1, e_X2_goOn_4, e_X2_goOn_5, e_X2_goOn_8, e_X2_goOn_9, e_X2_goOn_12, e_X2_goOn_15, e_X2_goOn_16, e_X2_goOn_17, e_X2_goOn_18, e_X2_goOn_21, e_X2_goOn_22, tw_cl, tg20, cR_ref, cR_null, cR_rf, c1_int, c1_ref, c1_null, c1_rf, kz_int, kz_ref, kz_null, kz_rf, kz_U, kz_long, nB_null, nB_ref, rf_none, rf_some, bV_ret, bV_thr, bA_ret, bA_thr, bX_ret, bX_thr, len4_0, len4_1, len4_2, len4_3, len4_4, true_and, and_true, and_self, if_true, if_false, Option.bind_some, nR_b1, nR_b0, nR_bI, nI_1z, nI_0z, bI_z, if_nn, sI_1, sI_2, sT_1, sT_21, sT_22, sA_1, sA_21, sA_221, sA_222, sL_1, sL_21, sL_221, sL_222, Nat.reduceEqDiff, ↓reduceIte, t_stop hT hp, hm]
end TP1
