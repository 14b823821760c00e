/-! COMPONENT: a row is entered, whole -/
section ENT2
variable {Ω : Om} {d : Nat} {h h' h0 h1 h2 : AH} {b c q ra N : Nat} {r : Rw} {R : List Rw} {v0 v1 v2 v3 v4 v5 v6 v7 v8 v9 v10 v13 q1 q2 q3 q4 q6 l3 l4 : Value} {di fa : Bool} {f : Nat → Option Nat}
theorem c_fnd (hR : RwsF h N R f) (hra : h.1 ra = some (arR "TripleStore$Row" N f)) (hc0 : h.1 c = some (ccE v0 v1 v2 v3 v4 v5 v6 v7 v8 v9 v10 v13 ra (nI R.length))) (hN2 : N ≤ 150) (hr : RowR h b r) (hlen : ∀ x ∈ R, x.2.length = r.2.length) : ∀ (m k : Nat), k + m = R.length → (∀ j x, j < k → R[j]? = some x → ¬ byL x.2 r.2 = 0) → gO PG Ω (d + 8) 33 9 [.ref c, .ref b, .ref q, .int (nI k), l4] [] h = (match R[fiR r R]? with
    | some _ => gO PG Ω (d + 8) 33 33 [.ref c, .ref b, .ref q, .int (nI (fiR r R)), l4] [] h
    | none => gO PG Ω (d + 8) 33 104 [.ref c, .ref b, .ref q, .int (nI R.length), l4] [] h) := by
  have hRN := hR.1
  intro m
  induction m with
  | zero =>
    intro k hk hno
    have hkl : k = R.length := by omega
    have hfi : fiR r R = R.length := List.findIdx_eq_length.mpr (fun x hx => by
      obtain ⟨j, hj, rfl⟩ := List.mem_iff_getElem.mp hx
      exact decide_eq_false (hno j _ (by omega) (List.getElem?_eq_getElem hj)))
    rw [hfi, List.getElem?_eq_none (Nat.le_refl _)]
    dsimp only
    rw [e_X1_enter_9, hkl]
    simp (disch := first | omega | (simp only [hnew_21, hput_21, hnew_22, hput_22]; omega) | exact isR_ref | exact isR_null | exact isR_rf | exact isR_fmt | assumption | decide) only [e_X1_enter_10, e_X1_enter_11, e_X1_enter_14, cR_ref, cR_null, cR_rf, c1_int, c1_ref, c1_null, c1_rf, kz_int, kz_ref, kz_null, kz_rf, kz_U, kz_long, nB_null, nB_ref, rf_none, rf_some, bV_ret, bV_thr, bA_ret, bA_thr, bX_ret, bX_thr, len4_0, len4_1, len4_2, len4_3, len4_4, true_and, and_true, and_self, if_true, if_false, Option.bind_some, nR_b1, nR_b0, nR_bI, nI_1z, nI_0z, bI_z, if_nn, gf, pf, clN, aln, gaI, gaL, gaR, saI, saR, isI, ctB, isB, gB, hput_n, hput_e, hput_21, hput_22, hnew_n, hnew_e, hnew_21, hnew_22, Option.bind_some, Option.map_some, List.lookup_cons, List.lookup_nil, beq_self_eq_true, List.getElem?_cons_zero, List.getElem?_cons_succ, List.set_cons_zero, List.set_cons_succ, List.length_cons, List.length_nil, Nat.reduceAdd, Nat.reduceLT, Nat.reduceLeDiff, Nat.reduceBEq, Nat.reduceEqDiff, okv_int, okv_oref, okv_onull, okv_orf, okv_aref, okv_b0, okv_b1, okv_z0, okv_bI, ckI_nI, lt31, leT, reduceCtorEq, List.mem_cons, List.mem_singleton, List.not_mem_nil, or_true, true_or, or_false, false_or, toR_ref, toR_null, ↓reduceIte, hc0, ↓nI_lt_if, Nat.lt_irrefl]
  | succ m ih =>
    intro k hk hno
    have hkl : k < R.length := by omega
    have hg : R[k]? = some R[k] := List.getElem?_eq_getElem hkl
    have hl := hlen R[k] (List.getElem_mem hkl)
    have hfk : fiR r R = k ↔ byL R[k].2 r.2 = 0 := by
      unfold fiR
      rw [List.findIdx_eq hkl]
      refine ⟨fun z => of_decide_eq_true z.1, fun z => ⟨decide_eq_true z, fun j hj => decide_eq_false (hno j _ hj (List.getElem?_eq_getElem (by omega)))⟩⟩
    generalize R[k] = x at hg hl hfk
    obtain ⟨w, w1, w2⟩ := hR.2 k x hg
    have ec := c_cells (Ω := Ω) (d := d + 1) w2 hr hl
    obtain ⟨o, gg, ff, wc, _⟩ := w2
    by_cases h0 : byL x.2 r.2 = 0
    · have e := hfk.mpr h0
      rw [e, hg]
      dsimp only
      rw [e_X1_enter_9]
      simp (disch := first | omega | (simp only [hnew_21, hput_21, hnew_22, hput_22]; omega) | exact isR_ref | exact isR_null | exact isR_rf | exact isR_fmt | assumption | decide) only [e_X1_enter_10, e_X1_enter_11, e_X1_enter_14, e_X1_enter_17, e_X1_enter_18, e_X1_enter_21, e_X1_enter_22, e_X1_enter_23, e_X1_enter_24, e_X1_enter_27, cR_ref, cR_null, cR_rf, c1_int, c1_ref, c1_null, c1_rf, kz_int, kz_ref, kz_null, kz_rf, kz_U, kz_long, nB_null, nB_ref, rf_none, rf_some, bV_ret, bV_thr, bA_ret, bA_thr, bX_ret, bX_thr, len4_0, len4_1, len4_2, len4_3, len4_4, true_and, and_true, and_self, if_true, if_false, Option.bind_some, nR_b1, nR_b0, nR_bI, nI_1z, nI_0z, bI_z, if_nn, gf, pf, clN, aln, gaI, gaL, gaR, saI, saR, isI, ctB, isB, gB, hput_n, hput_e, hput_21, hput_22, hnew_n, hnew_e, hnew_21, hnew_22, Option.bind_some, Option.map_some, List.lookup_cons, List.lookup_nil, beq_self_eq_true, List.getElem?_cons_zero, List.getElem?_cons_succ, List.set_cons_zero, List.set_cons_succ, List.length_cons, List.length_nil, Nat.reduceAdd, Nat.reduceLT, Nat.reduceLeDiff, Nat.reduceBEq, Nat.reduceEqDiff, okv_int, okv_oref, okv_onull, okv_orf, okv_aref, okv_b0, okv_b1, okv_z0, okv_bI, ckI_nI, lt31, leT, reduceCtorEq, List.mem_cons, List.mem_singleton, List.not_mem_nil, or_true, true_or, or_false, false_or, toR_ref, toR_null, ↓reduceIte, hc0, hra, w1, wc, ↓nI_lt_if, hkl, ec, h0]
    · rw [← ih (k + 1) (by omega) (fun j y hj hy => by
        by_cases hjk : j = k
        · subst hjk; rw [hg] at hy; cases hy; exact h0
        · exact hno j y (by omega) hy)]
      rw [e_X1_enter_9]
      simp (disch := first | omega | (simp only [hnew_21, hput_21, hnew_22, hput_22]; omega) | exact isR_ref | exact isR_null | exact isR_rf | exact isR_fmt | assumption | decide) only [e_X1_enter_10, e_X1_enter_11, e_X1_enter_14, e_X1_enter_17, e_X1_enter_18, e_X1_enter_21, e_X1_enter_22, e_X1_enter_23, e_X1_enter_24, e_X1_enter_27, e_X1_enter_30, e_X1_enter_98, e_X1_enter_101, cR_ref, cR_null, cR_rf, c1_int, c1_ref, c1_null, c1_rf, kz_int, kz_ref, kz_null, kz_rf, kz_U, kz_long, nB_null, nB_ref, rf_none, rf_some, bV_ret, bV_thr, bA_ret, bA_thr, bX_ret, bX_thr, len4_0, len4_1, len4_2, len4_3, len4_4, true_and, and_true, and_self, if_true, if_false, Option.bind_some, nR_b1, nR_b0, nR_bI, nI_1z, nI_0z, bI_z, if_nn, gf, pf, clN, aln, gaI, gaL, gaR, saI, saR, isI, ctB, isB, gB, hput_n, hput_e, hput_21, hput_22, hnew_n, hnew_e, hnew_21, hnew_22, Option.bind_some, Option.map_some, List.lookup_cons, List.lookup_nil, beq_self_eq_true, List.getElem?_cons_zero, List.getElem?_cons_succ, List.set_cons_zero, List.set_cons_succ, List.length_cons, List.length_nil, Nat.reduceAdd, Nat.reduceLT, Nat.reduceLeDiff, Nat.reduceBEq, Nat.reduceEqDiff, okv_int, okv_oref, okv_onull, okv_orf, okv_aref, okv_b0, okv_b1, okv_z0, okv_bI, ckI_nI, lt31, leT, reduceCtorEq, List.mem_cons, List.mem_singleton, List.not_mem_nil, or_true, true_or, or_false, false_or, toR_ref, toR_null, ↓reduceIte, nI_add, pk_mul, hc0, hra, w1, wc, ↓nI_lt_if, hkl, ec, h0]
/-- the rows behind move up -/
theorem c_shf (hR : RwsF h N R f) (hra : h.1 ra = some (arR "TripleStore$Row" N f)) (hN2 : N ≤ 150) (hFS : FS h [c, ra]) (hne : ra ≠ c) (hzr : Ω.sz ≤ ra) {k : Nat} (hk : k < R.length) : ∀ (m i : Nat) (H : AH) (F : Nat → Option Nat), i + m + 1 = R.length → k ≤ i → Nx [c, ra] 0 0 h H → H.1 c = some (ccE v0 v1 v2 v3 v4 v5 v6 v7 v8 v9 v10 v13 ra (nI (R.length - 1))) → H.1 ra = some (arR "TripleStore$Row" N F) → (∀ j, j < k → F j = f j) → (∀ j, k ≤ j → j < i → F j = f (j + 1)) → (∀ j, i ≤ j → F j = f j) → ∃ H' F', gO PG Ω (d + 8) 33 64 [.ref c, .ref b, .ref q, .int (nI k), .int (nI i)] [] H = gO PG Ω (d + 8) 33 104 [.ref c, .ref b, .ref q, .int (nI k), .int (nI (R.length - 1))] [] H' ∧ Nx [c, ra] 0 0 h H' ∧ H'.1 c = some (ccE v0 v1 v2 v3 v4 v5 v6 v7 v8 v9 v10 v13 ra (nI (R.length - 1))) ∧ H'.1 ra = some (arR "TripleStore$Row" N F') ∧ (∀ j, j < k → F' j = f j) ∧ (∀ j, k ≤ j → j < R.length - 1 → F' j = f (j + 1)) := by
  have hRN := hR.1
  intro m
  induction m with
  | zero =>
    intro i H F hi hki nn c1 c2 c3 c4 c5
    have hie : i = R.length - 1 := by omega
    subst hie
    refine ⟨H, F, ?_, nn, c1, c2, c3, c4⟩
    rw [e_X1_enter_64]
    simp (disch := first | omega | (simp only [hnew_21, hput_21, hnew_22, hput_22]; omega) | exact isR_ref | exact isR_null | exact isR_rf | exact isR_fmt | assumption | decide) only [e_X1_enter_66, e_X1_enter_67, e_X1_enter_70, e_X1_enter_95, cR_ref, cR_null, cR_rf, c1_int, c1_ref, c1_null, c1_rf, kz_int, kz_ref, kz_null, kz_rf, kz_U, kz_long, nB_null, nB_ref, rf_none, rf_some, bV_ret, bV_thr, bA_ret, bA_thr, bX_ret, bX_thr, len4_0, len4_1, len4_2, len4_3, len4_4, true_and, and_true, and_self, if_true, if_false, Option.bind_some, nR_b1, nR_b0, nR_bI, nI_1z, nI_0z, bI_z, if_nn, gf, pf, clN, aln, gaI, gaL, gaR, saI, saR, isI, ctB, isB, gB, hput_n, hput_e, hput_21, hput_22, hnew_n, hnew_e, hnew_21, hnew_22, Option.bind_some, Option.map_some, List.lookup_cons, List.lookup_nil, beq_self_eq_true, List.getElem?_cons_zero, List.getElem?_cons_succ, List.set_cons_zero, List.set_cons_succ, List.length_cons, List.length_nil, Nat.reduceAdd, Nat.reduceLT, Nat.reduceLeDiff, Nat.reduceBEq, Nat.reduceEqDiff, okv_int, okv_oref, okv_onull, okv_orf, okv_aref, okv_b0, okv_b1, okv_z0, okv_bI, ckI_nI, lt31, leT, reduceCtorEq, List.mem_cons, List.mem_singleton, List.not_mem_nil, or_true, true_or, or_false, false_or, toR_ref, toR_null, ↓reduceIte, c1, ↓nI_lt_if, Nat.lt_irrefl]
  | succ m ih =>
    intro i H F hi hki nn c1 c2 c3 c4 c5
    have hil : i < R.length - 1 := by omega
    have hg : R[i + 1]? = some R[i + 1] := List.getElem?_eq_getElem (by omega)
    generalize R[i + 1]'(by omega) = x at hg
    obtain ⟨w, w1, w2⟩ := hR.2 (i + 1) x hg
    have hFi : F (i + 1) = some w := by rw [c5 (i + 1) (by omega)]; exact w1
    obtain ⟨o, gg, ff, wc, _⟩ := w2.fs nn hFS
    obtain ⟨H', F', g1, g2, g3, g4, g5, g6⟩ := ih (i + 1) (hput H ra (arR "TripleStore$Row" N (va_up F i (some w)))) (va_up F i (some w)) (by omega) (by omega) (nn.put (.inl (by simp)) (nn.2.1.lt c2)) (by rw [hput_n (Ne.symm hne)]; exact c1) hput_e (fun j hj => by unfold va_up; rw [if_neg (by omega)]; exact c3 j hj) (fun j h1 h2 => by
      unfold va_up
      by_cases hjk : j = i
      · subst hjk; rw [if_pos rfl]; exact w1.symm
      · rw [if_neg hjk]; exact c4 j h1 (by omega)) (fun j hj => by unfold va_up; rw [if_neg (by omega)]; exact c5 j (by omega))
    refine ⟨H', F', ?_, g2, g3, g4, g5, g6⟩
    rw [← g1, e_X1_enter_64]
    simp (disch := first | omega | (simp only [hnew_21, hput_21, hnew_22, hput_22]; omega) | exact isR_ref | exact isR_null | exact isR_rf | exact isR_fmt | assumption | decide) only [e_X1_enter_66, e_X1_enter_67, e_X1_enter_70, e_X1_enter_73, e_X1_enter_74, e_X1_enter_77, e_X1_enter_79, e_X1_enter_80, e_X1_enter_83, e_X1_enter_85, e_X1_enter_86, e_X1_enter_87, e_X1_enter_88, e_X1_enter_89, e_X1_enter_92, cR_ref, cR_null, cR_rf, c1_int, c1_ref, c1_null, c1_rf, kz_int, kz_ref, kz_null, kz_rf, kz_U, kz_long, nB_null, nB_ref, rf_none, rf_some, bV_ret, bV_thr, bA_ret, bA_thr, bX_ret, bX_thr, len4_0, len4_1, len4_2, len4_3, len4_4, true_and, and_true, and_self, if_true, if_false, Option.bind_some, nR_b1, nR_b0, nR_bI, nI_1z, nI_0z, bI_z, if_nn, gf, pf, clN, aln, gaI, gaL, gaR, saI, saR, isI, ctB, isB, gB, hput_n, hput_e, hput_21, hput_22, hnew_n, hnew_e, hnew_21, hnew_22, Option.bind_some, Option.map_some, List.lookup_cons, List.lookup_nil, beq_self_eq_true, List.getElem?_cons_zero, List.getElem?_cons_succ, List.set_cons_zero, List.set_cons_succ, List.length_cons, List.length_nil, Nat.reduceAdd, Nat.reduceLT, Nat.reduceLeDiff, Nat.reduceBEq, Nat.reduceEqDiff, okv_int, okv_oref, okv_onull, okv_orf, okv_aref, okv_b0, okv_b1, okv_z0, okv_bI, ckI_nI, lt31, leT, reduceCtorEq, List.mem_cons, List.mem_singleton, List.not_mem_nil, or_true, true_or, or_false, false_or, toR_ref, toR_null, ↓reduceIte, nI_add, pk_mul, c1, c2, hFi, wc, ↓nI_lt_if, hil]
theorem c_enter (hR : RwsF h N R f) (hra : h.1 ra = some (arR "TripleStore$Row" N f)) (hc0 : h.1 c = some (ccE v0 v1 v2 v3 v4 v5 v6 v7 v8 v9 v10 v13 ra (nI R.length))) (hN : R.length < N) (hN2 : N ≤ 150) (hr : RowR h b r) (hlen : ∀ x ∈ R, x.2.length = r.2.length) (hq : h.1 q = some (.inr (8, [.int (bI di), q1, q2, q3, q4, .int (bI fa), q6]))) (hFe : Fe h) (hzc : Ω.sz ≤ c) (hzr : Ω.sz ≤ ra) : ∃ h' f', gM PG Ω (d + 9) 33 [.ref c, .ref b, .ref q] h = some (.returned none, h') ∧ h'.1 c = some (ccE v0 v1 v2 v3 v4 v5 v6 v7 v8 v9 v10 v13 ra (nI (entR di fa r R).length)) ∧ h'.1 ra = some (arR "TripleStore$Row" N f') ∧ RwsF h' N (entR di fa r R) f' ∧ Nx [c, ra] 0 0 h h' := by
  have hFS := FS.cr hc0 hra
  have hne : ra ≠ c := fun z => by rw [z, hc0] at hra; cases hra
  have hnq : q ∉ [c, ra] := fun z => by
    rcases List.mem_cons.mp z with rfl | z
    · rw [hc0] at hq; cases hq
    · rw [List.mem_singleton.mp z, hra] at hq; cases hq
  unfold entR
  cases di with
  | false =>
    rw [if_neg (by decide)]
    obtain ⟨h', f', g1, g2, g3, g4, g5⟩ := c_ins (Ω := Ω) (d := d) (l3 := U) (l4 := U) hR hra hc0 hN hN2 hr hlen hq hFe hzc hzr
    refine ⟨h', f', ?_, g2, g3, g4, g5⟩
    rw [← g1]
    rw [bI_f] at hq
    simp (disch := first | omega | (simp only [hnew_21, hput_21, hnew_22, hput_22]; omega) | exact isR_ref | exact isR_null | exact isR_rf | exact isR_fmt | assumption | decide) only [n_X1_enter, e_X1_enter_0, e_X1_enter_1, e_X1_enter_4, cR_ref, cR_null, cR_rf, c1_int, c1_ref, c1_null, c1_rf, kz_int, kz_ref, kz_null, kz_rf, kz_U, kz_long, nB_null, nB_ref, rf_none, rf_some, bV_ret, bV_thr, bA_ret, bA_thr, bX_ret, bX_thr, len4_0, len4_1, len4_2, len4_3, len4_4, true_and, and_true, and_self, if_true, if_false, Option.bind_some, nR_b1, nR_b0, nR_bI, nI_1z, nI_0z, bI_z, if_nn, gf, pf, clN, aln, gaI, gaL, gaR, saI, saR, isI, ctB, isB, gB, hput_n, hput_e, hput_21, hput_22, hnew_n, hnew_e, hnew_21, hnew_22, Option.bind_some, Option.map_some, List.lookup_cons, List.lookup_nil, beq_self_eq_true, List.getElem?_cons_zero, List.getElem?_cons_succ, List.set_cons_zero, List.set_cons_succ, List.length_cons, List.length_nil, Nat.reduceAdd, Nat.reduceLT, Nat.reduceLeDiff, Nat.reduceBEq, Nat.reduceEqDiff, okv_int, okv_oref, okv_onull, okv_orf, okv_aref, okv_b0, okv_b1, okv_z0, okv_bI, ckI_nI, lt31, leT, reduceCtorEq, List.mem_cons, List.mem_singleton, List.not_mem_nil, or_true, true_or, or_false, false_or, toR_ref, toR_null, ↓reduceIte, hq]
  | true =>
    rw [if_pos rfl]
    have ef := c_fnd (Ω := Ω) (d := d) (q := q) (l4 := U) hR hra hc0 hN2 hr hlen R.length 0 (by omega) (fun j x hj => absurd hj (Nat.not_lt_zero _))
    have pre : gM PG Ω (d + 9) 33 [.ref c, .ref b, .ref q] h = gO PG Ω (d + 8) 33 9 [.ref c, .ref b, .ref q, .int (nI 0), U] [] h := by
      have hq' := hq
      rw [bI_t] at hq'
      simp (disch := first | omega | (simp only [hnew_21, hput_21, hnew_22, hput_22]; omega) | exact isR_ref | exact isR_null | exact isR_rf | exact isR_fmt | assumption | decide) only [n_X1_enter, e_X1_enter_0, e_X1_enter_1, e_X1_enter_4, e_X1_enter_7, e_X1_enter_8, cR_ref, cR_null, cR_rf, c1_int, c1_ref, c1_null, c1_rf, kz_int, kz_ref, kz_null, kz_rf, kz_U, kz_long, nB_null, nB_ref, rf_none, rf_some, bV_ret, bV_thr, bA_ret, bA_thr, bX_ret, bX_thr, len4_0, len4_1, len4_2, len4_3, len4_4, true_and, and_true, and_self, if_true, if_false, Option.bind_some, nR_b1, nR_b0, nR_bI, nI_1z, nI_0z, bI_z, if_nn, gf, pf, clN, aln, gaI, gaL, gaR, saI, saR, isI, ctB, isB, gB, hput_n, hput_e, hput_21, hput_22, hnew_n, hnew_e, hnew_21, hnew_22, Option.bind_some, Option.map_some, List.lookup_cons, List.lookup_nil, beq_self_eq_true, List.getElem?_cons_zero, List.getElem?_cons_succ, List.set_cons_zero, List.set_cons_succ, List.length_cons, List.length_nil, Nat.reduceAdd, Nat.reduceLT, Nat.reduceLeDiff, Nat.reduceBEq, Nat.reduceEqDiff, okv_int, okv_oref, okv_onull, okv_orf, okv_aref, okv_b0, okv_b1, okv_z0, okv_bI, ckI_nI, lt31, leT, reduceCtorEq, List.mem_cons, List.mem_singleton, List.not_mem_nil, or_true, true_or, or_false, false_or, toR_ref, toR_null, ↓reduceIte, hq']
    rw [pre, ef]
    cases hg : R[fiR r R]? with
    | none =>
      dsimp only
      exact c_ins (Ω := Ω) (d := d) hR hra hc0 hN hN2 hr hlen hq hFe hzc hzr
    | some x =>
      dsimp only
      have hkl := (List.getElem?_eq_some_iff.mp hg).1
      have hxm : x ∈ R := List.mem_of_getElem? hg
      have hl := hlen x hxm
      obtain ⟨w, w1, w2⟩ := hR.2 _ x hg
      have eb := c_bef (Ω := Ω) (d := d) (fa := fa) hr w2 hl.symm
      obtain ⟨o', gg', ff', bc, _⟩ := id hr
      generalize fiR r R = k at hg hkl w1
      have hRN := hR.1
      cases hb : befR fa r x with
      | false =>
        rw [if_neg (by decide)]
        rw [hb] at eb
        refine ⟨h, f, ?_, hc0, hra, hR, Nx.rfl' hFe⟩
        simp (disch := first | omega | (simp only [hnew_21, hput_21, hnew_22, hput_22]; omega) | exact isR_ref | exact isR_null | exact isR_rf | exact isR_fmt | assumption | decide) only [e_X1_enter_33, e_X1_enter_34, e_X1_enter_35, e_X1_enter_38, e_X1_enter_39, e_X1_enter_40, e_X1_enter_41, e_X1_enter_44, e_X1_enter_47, e_X1_enter_50, cR_ref, cR_null, cR_rf, c1_int, c1_ref, c1_null, c1_rf, kz_int, kz_ref, kz_null, kz_rf, kz_U, kz_long, nB_null, nB_ref, rf_none, rf_some, bV_ret, bV_thr, bA_ret, bA_thr, bX_ret, bX_thr, len4_0, len4_1, len4_2, len4_3, len4_4, true_and, and_true, and_self, if_true, if_false, Option.bind_some, nR_b1, nR_b0, nR_bI, nI_1z, nI_0z, bI_z, if_nn, gf, pf, clN, aln, gaI, gaL, gaR, saI, saR, isI, ctB, isB, gB, hput_n, hput_e, hput_21, hput_22, hnew_n, hnew_e, hnew_21, hnew_22, Option.bind_some, Option.map_some, List.lookup_cons, List.lookup_nil, beq_self_eq_true, List.getElem?_cons_zero, List.getElem?_cons_succ, List.set_cons_zero, List.set_cons_succ, List.length_cons, List.length_nil, Nat.reduceAdd, Nat.reduceLT, Nat.reduceLeDiff, Nat.reduceBEq, Nat.reduceEqDiff, okv_int, okv_oref, okv_onull, okv_orf, okv_aref, okv_b0, okv_b1, okv_z0, okv_bI, ckI_nI, lt31, leT, reduceCtorEq, List.mem_cons, List.mem_singleton, List.not_mem_nil, or_true, true_or, or_false, false_or, toR_ref, toR_null, ↓reduceIte, hc0, hra, w1, bc, hq, eb, bI_f]
      | true =>
        rw [if_pos rfl]
        rw [hb] at eb
        obtain ⟨n, hn⟩ : ∃ n, R.length = n + 1 := ⟨R.length - 1, by omega⟩
        have n1 : Nx [c, ra] 0 0 h (hput h c (ccE v0 v1 v2 v3 v4 v5 v6 v7 v8 v9 v10 v13 ra (nI (R.length - 1)))) := (Nx.rfl' hFe).put (.inl (by simp)) (hFe.lt hc0)
        obtain ⟨H, F, g1, g2, g3, g4, g5, g6⟩ := c_shf (Ω := Ω) (d := d) (b := b) (q := q) (c := c) hR hra hN2 hFS hne hzr hkl (R.length - 1 - k) k _ f (by omega) (Nat.le_refl _) n1 hput_e (by rw [hput_n hne]; exact hra) (fun _ _ => rfl) (fun j z1 z2 => by omega) (fun _ _ => rfl)
        have hlE : (R.eraseIdx k).length = R.length - 1 := by rw [List.length_eraseIdx, if_pos hkl]
        have hR2 : RwsF H N (R.eraseIdx k) F := ⟨by omega, fun i y hy => by
          rw [List.getElem?_eraseIdx] at hy
          by_cases hik : i < k
          · rw [if_pos hik] at hy
            rw [g5 i hik]
            obtain ⟨w', w1', w2'⟩ := hR.2 i y hy
            exact ⟨w', w1', w2'.fs g2 hFS⟩
          · rw [if_neg hik] at hy
            have := (List.getElem?_eq_some_iff.mp hy).1
            rw [g6 i (by omega) (by omega)]
            obtain ⟨w', w1', w2'⟩ := hR.2 (i + 1) y hy
            exact ⟨w', w1', w2'.fs g2 hFS⟩⟩
        obtain ⟨h', f', k1, k2', k3, k4, k5⟩ := c_ins (Ω := Ω) (d := d) (l3 := .int (nI k)) (l4 := .int (nI (R.length - 1))) (fa := fa) hR2 g4 (by rw [hlE]; exact g3) (by omega) hN2 (hr.fs g2 hFS) (fun y hy => hlen y (List.mem_of_mem_eraseIdx hy)) (g2.ob hq (by decide) hnq) g2.2.1 hzc hzr
        refine ⟨h', f', ?_, k2', k3, k4, (g2.trans k5).mono (fun _ z => z) (Nat.le_refl _) (Nat.le_refl _)⟩
        rw [← k1, ← g1, hn]
        rw [hn] at hc0
        simp (disch := first | omega | (simp only [hnew_21, hput_21, hnew_22, hput_22]; omega) | exact isR_ref | exact isR_null | exact isR_rf | exact isR_fmt | assumption | decide) only [e_X1_enter_33, e_X1_enter_34, e_X1_enter_35, e_X1_enter_38, e_X1_enter_39, e_X1_enter_40, e_X1_enter_41, e_X1_enter_44, e_X1_enter_47, e_X1_enter_50, e_X1_enter_51, e_X1_enter_52, e_X1_enter_53, e_X1_enter_56, e_X1_enter_57, e_X1_enter_58, e_X1_enter_61, e_X1_enter_62, cR_ref, cR_null, cR_rf, c1_int, c1_ref, c1_null, c1_rf, kz_int, kz_ref, kz_null, kz_rf, kz_U, kz_long, nB_null, nB_ref, rf_none, rf_some, bV_ret, bV_thr, bA_ret, bA_thr, bX_ret, bX_thr, len4_0, len4_1, len4_2, len4_3, len4_4, true_and, and_true, and_self, if_true, if_false, Option.bind_some, nR_b1, nR_b0, nR_bI, nI_1z, nI_0z, bI_z, if_nn, gf, pf, clN, aln, gaI, gaL, gaR, saI, saR, isI, ctB, isB, gB, hput_n, hput_e, hput_21, hput_22, hnew_n, hnew_e, hnew_21, hnew_22, Option.bind_some, Option.map_some, List.lookup_cons, List.lookup_nil, beq_self_eq_true, List.getElem?_cons_zero, List.getElem?_cons_succ, List.set_cons_zero, List.set_cons_succ, List.length_cons, List.length_nil, Nat.reduceAdd, Nat.reduceLT, Nat.reduceLeDiff, Nat.reduceBEq, Nat.reduceEqDiff, okv_int, okv_oref, okv_onull, okv_orf, okv_aref, okv_b0, okv_b1, okv_z0, okv_bI, ckI_nI, lt31, leT, reduceCtorEq, List.mem_cons, List.mem_singleton, List.not_mem_nil, or_true, true_or, or_false, false_or, toR_ref, toR_null, ↓reduceIte, hc0, hra, w1, bc, hq, eb, bI_t, pk_pred, Nat.add_sub_cancel]
end ENT2
