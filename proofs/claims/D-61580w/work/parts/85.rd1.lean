/-! COMPONENT: reader, letters and keys -/
theorem LitR.nx {Ω : Om} {h h' : AH} {k m : Nat} (hL : LitR Ω h) (n : Nx [] k m h h') : LitR Ω h' := fun i w q => (hL i w q).nx0 n
theorem hk_0 : hsh (keyW 0) = (-906021636) := by decide
theorem hk_1 : hsh (keyW 1) = (nI 288698108) := by decide
theorem hk_2 : hsh (keyW 2) = (nI 106006350) := by decide
theorem hk_3 : hsh (keyW 3) = (nI 3079825) := by decide
theorem hk_4 : hsh (keyW 4) = (nI 102976443) := by decide
theorem hk_5 : hsh (keyW 5) = (-1274492040) := by decide
theorem hk_6 : hsh (keyW 6) = (-79017120) := by decide
theorem hk_7 : hsh (keyW 7) = (nI 103901296) := by decide
theorem hk_8 : hsh (keyW 8) = (nI 111433423) := by decide
theorem hk_9 : hsh (keyW 9) = (nI 109267) := by decide
theorem hk_10 : hsh (keyW 10) = (nI 93927806) := by decide
section RD1
variable {Ω : Om} {d : Nat} {h h' : AH} {a b c r : Nat} {w cs : List Nat}
theorem key_mem {w : List Nat} : w ∈ keyWs ↔ ∃ i, i < 11 ∧ w = keyW i := by
  constructor
  · intro h
    obtain ⟨i, hi⟩ := List.mem_iff_getElem?.mp h
    have hl := (List.getElem?_eq_some_iff.mp hi).1
    exact ⟨i, hl, by unfold keyW; rw [List.getD_eq_getElem?_getD, hi]; rfl⟩
  · intro ⟨i, hi, e⟩
    have hl : i < keyWs.length := hi
    rw [e]
    unfold keyW
    rw [List.getD_eq_getElem?_getD, List.getElem?_eq_getElem hl]
    exact List.getElem_mem hl
theorem c_kt {l0 l1 : Value} {i : Nat} (hi : i < 11) : gO PG Ω d 112 264 [l0, l1, .int (nI i)] [] h = some (.returned (some (.int (nI 1))), h) := by
  have : i = 0 ∨ i = 1 ∨ i = 2 ∨ i = 3 ∨ i = 4 ∨ i = 5 ∨ i = 6 ∨ i = 7 ∨ i = 8 ∨ i = 9 ∨ i = 10 := by omega
  rcases this with rfl | rfl | rfl | rfl | rfl | rfl | rfl | rfl | rfl | rfl | rfl <;> simp (disch := first | omega | (simp only [hnew_21, hput_21, hnew_22, hput_22]; omega) | exact isR_ref | exact isR_null | exact isR_rf | exact isR_fmt | assumption | decide) only [e_X9_key_264, e_X9_key_265, e_X9_key_324, e_X9_key_325, e_X9_key_326, e_X9_key_327, cR_ref, cR_null, cR_rf, c1_int, c1_ref, c1_null, c1_rf, kz_int, kz_ref, kz_null, kz_rf, kz_U, kz_long, nB_null, nB_ref, rf_none, rf_some, bV_ret, bV_thr, bA_ret, bA_thr, bX_ret, bX_thr, len4_0, len4_1, len4_2, len4_3, len4_4, true_and, and_true, and_self, if_true, if_false, Option.bind_some, nR_b1, nR_b0, nR_bI, nI_1z, nI_0z, bI_z, if_nn, ↓nI_eq_if, Nat.reduceEqDiff, ↓reduceIte]
theorem c_kf {l0 l1 : Value} : gO PG Ω d 112 264 [l0, l1, .int (-1)] [] h = some (.returned (some (.int (nI 0))), h) := by
  simp (disch := first | omega | (simp only [hnew_21, hput_21, hnew_22, hput_22]; omega) | exact isR_ref | exact isR_null | exact isR_rf | exact isR_fmt | assumption | decide) only [e_X9_key_264, e_X9_key_265, e_X9_key_324, e_X9_key_325, e_X9_key_326, e_X9_key_327, cR_ref, cR_null, cR_rf, c1_int, c1_ref, c1_null, c1_rf, kz_int, kz_ref, kz_null, kz_rf, kz_U, kz_long, nB_null, nB_ref, rf_none, rf_some, bV_ret, bV_thr, bA_ret, bA_thr, bX_ret, bX_thr, len4_0, len4_1, len4_2, len4_3, len4_4, true_and, and_true, and_self, if_true, if_false, Option.bind_some, nR_b1, nR_b0, nR_bI, nI_1z, nI_0z, bI_z, if_nn, show ((-1 : Int32) = nI 0) = False by decide, show ((-1 : Int32) = nI 1) = False by decide, show ((-1 : Int32) = nI 2) = False by decide, show ((-1 : Int32) = nI 3) = False by decide, show ((-1 : Int32) = nI 4) = False by decide, show ((-1 : Int32) = nI 5) = False by decide, show ((-1 : Int32) = nI 6) = False by decide, show ((-1 : Int32) = nI 7) = False by decide, show ((-1 : Int32) = nI 8) = False by decide, show ((-1 : Int32) = nI 9) = False by decide, show ((-1 : Int32) = nI 10) = False by decide, ↓reduceIte]
set_option maxHeartbeats 2000000 in
theorem c_key (hL : LitR Ω h) (hsz : Ω.sz ≤ a) (hFe : Fe h) (hs : StrH h a w) : ∃ h', gM PG Ω (d + 5) 112 [.ref a] h = some (.returned (some (.int (bI (decide (w ∈ keyWs))))), h') ∧ StrH h' a w ∧ Nx [] 0 0 h h' ∧ (∀ q, q ≠ a → h'.1 q = h.1 q) ∧ h'.2 = h.2 := by
  have hs0 := hs
  obtain ⟨h', e1, e2, e3, e4, e5⟩ := j_hash (Ω := Ω) (d := d) hsz hFe hs
  have hL' := hL.nx e3
  obtain ⟨b0, z1, z2, f0, g1, _⟩ := hs
  have e2c := e2
  obtain ⟨b0', z1', z2', f0', g1', _⟩ := e2c
  refine ⟨h', ?_, e2, e3, e4, e5⟩
  have e0 : gM PG Ω (d + 5) 112 [.ref a] h = gO PG Ω (d + 4) 112 8 [.ref a, .ref a, .int (-1)] [.int (hsh w)] h' := by
    simp (disch := first | omega | (simp only [hnew_21, hput_21, hnew_22, hput_22]; omega) | exact isR_ref | exact isR_null | exact isR_rf | exact isR_fmt | assumption | decide) only [n_X9_key, e_X9_key_0, e_X9_key_1, e_X9_key_2, e_X9_key_3, e_X9_key_4, e_X9_key_5, cR_ref, cR_null, cR_rf, c1_int, c1_ref, c1_null, c1_rf, kz_int, kz_ref, kz_null, kz_rf, kz_U, kz_long, nB_null, nB_ref, rf_none, rf_some, bV_ret, bV_thr, bA_ret, bA_thr, bX_ret, bX_thr, len4_0, len4_1, len4_2, len4_3, len4_4, true_and, and_true, and_self, if_true, if_false, Option.bind_some, nR_b1, nR_b0, nR_bI, nI_1z, nI_0z, bI_z, if_nn, gf, pf, clN, aln, gaI, gaL, gaR, saI, saR, isI, ctB, isB, gB, hput_n, hput_e, hput_21, hput_22, hnew_n, hnew_e, hnew_21, hnew_22, Option.bind_some, Option.map_some, List.lookup_cons, List.lookup_nil, beq_self_eq_true, List.getElem?_cons_zero, List.getElem?_cons_succ, List.set_cons_zero, List.set_cons_succ, List.length_cons, List.length_nil, Nat.reduceAdd, Nat.reduceLT, Nat.reduceLeDiff, Nat.reduceBEq, Nat.reduceEqDiff, okv_int, okv_oref, okv_onull, okv_orf, okv_aref, okv_b0, okv_b1, okv_z0, okv_bI, ckI_nI, lt31, leT, reduceCtorEq, List.mem_cons, List.mem_singleton, List.not_mem_nil, or_true, true_or, or_false, false_or, toR_ref, toR_null, ↓reduceIte, g1, e1]
  rw [e0]
  by_cases c0 : hsh w = (-1274492040)
  · have eq := j_equals (Ω := Ω) (d := d + 2) e2.r (hL' 7 (keyW 5) rfl)
    by_cases hw : w = keyW 5
    · rw [decide_eq_true hw] at eq
      rw [decide_eq_true (key_mem.mpr ⟨5, by decide, hw⟩)]
      simp (disch := first | omega | (simp only [hnew_21, hput_21, hnew_22, hput_22]; omega) | exact isR_ref | exact isR_null | exact isR_rf | exact isR_fmt | assumption | decide) only [e_X9_key_8, ↓reduceIte, c0]
      simp (disch := first | omega | (simp only [hnew_21, hput_21, hnew_22, hput_22]; omega) | exact isR_ref | exact isR_null | exact isR_rf | exact isR_fmt | assumption | decide) only [e_X9_key_178, e_X9_key_179, e_X9_key_181, e_X9_key_184, e_X9_key_187, e_X9_key_188, e_X9_key_189, cR_ref, cR_null, cR_rf, c1_int, c1_ref, c1_null, c1_rf, kz_int, kz_ref, kz_null, kz_rf, kz_U, kz_long, nB_null, nB_ref, rf_none, rf_some, bV_ret, bV_thr, bA_ret, bA_thr, bX_ret, bX_thr, len4_0, len4_1, len4_2, len4_3, len4_4, true_and, and_true, and_self, if_true, if_false, Option.bind_some, nR_b1, nR_b0, nR_bI, nI_1z, nI_0z, bI_z, if_nn, gf, pf, clN, aln, gaI, gaL, gaR, saI, saR, isI, ctB, isB, gB, hput_n, hput_e, hput_21, hput_22, hnew_n, hnew_e, hnew_21, hnew_22, Option.bind_some, Option.map_some, List.lookup_cons, List.lookup_nil, beq_self_eq_true, List.getElem?_cons_zero, List.getElem?_cons_succ, List.set_cons_zero, List.set_cons_succ, List.length_cons, List.length_nil, Nat.reduceAdd, Nat.reduceLT, Nat.reduceLeDiff, Nat.reduceBEq, Nat.reduceEqDiff, okv_int, okv_oref, okv_onull, okv_orf, okv_aref, okv_b0, okv_b1, okv_z0, okv_bI, ckI_nI, lt31, leT, reduceCtorEq, List.mem_cons, List.mem_singleton, List.not_mem_nil, or_true, true_or, or_false, false_or, toR_ref, toR_null, ↓reduceIte, g1', eq, c_kt, bI_t]
    · rw [decide_eq_false hw] at eq
      have hn : ¬ w ∈ keyWs := fun q => by
        obtain ⟨j, hj, ej⟩ := key_mem.mp q
        have : j = 0 ∨ j = 1 ∨ j = 2 ∨ j = 3 ∨ j = 4 ∨ j = 5 ∨ j = 6 ∨ j = 7 ∨ j = 8 ∨ j = 9 ∨ j = 10 := by omega
        rcases this with rfl | rfl | rfl | rfl | rfl | rfl | rfl | rfl | rfl | rfl | rfl
        · rw [ej, hk_0] at c0; exact absurd c0 (by decide)
        · rw [ej, hk_1] at c0; exact absurd c0 (by decide)
        · rw [ej, hk_2] at c0; exact absurd c0 (by decide)
        · rw [ej, hk_3] at c0; exact absurd c0 (by decide)
        · rw [ej, hk_4] at c0; exact absurd c0 (by decide)
        · exact hw ej
        · rw [ej, hk_6] at c0; exact absurd c0 (by decide)
        · rw [ej, hk_7] at c0; exact absurd c0 (by decide)
        · rw [ej, hk_8] at c0; exact absurd c0 (by decide)
        · rw [ej, hk_9] at c0; exact absurd c0 (by decide)
        · rw [ej, hk_10] at c0; exact absurd c0 (by decide)
      rw [decide_eq_false hn]
      simp (disch := first | omega | (simp only [hnew_21, hput_21, hnew_22, hput_22]; omega) | exact isR_ref | exact isR_null | exact isR_rf | exact isR_fmt | assumption | decide) only [e_X9_key_8, ↓reduceIte, c0]
      simp (disch := first | omega | (simp only [hnew_21, hput_21, hnew_22, hput_22]; omega) | exact isR_ref | exact isR_null | exact isR_rf | exact isR_fmt | assumption | decide) only [e_X9_key_178, e_X9_key_179, e_X9_key_181, e_X9_key_184, e_X9_key_187, e_X9_key_188, e_X9_key_189, cR_ref, cR_null, cR_rf, c1_int, c1_ref, c1_null, c1_rf, kz_int, kz_ref, kz_null, kz_rf, kz_U, kz_long, nB_null, nB_ref, rf_none, rf_some, bV_ret, bV_thr, bA_ret, bA_thr, bX_ret, bX_thr, len4_0, len4_1, len4_2, len4_3, len4_4, true_and, and_true, and_self, if_true, if_false, Option.bind_some, nR_b1, nR_b0, nR_bI, nI_1z, nI_0z, bI_z, if_nn, gf, pf, clN, aln, gaI, gaL, gaR, saI, saR, isI, ctB, isB, gB, hput_n, hput_e, hput_21, hput_22, hnew_n, hnew_e, hnew_21, hnew_22, Option.bind_some, Option.map_some, List.lookup_cons, List.lookup_nil, beq_self_eq_true, List.getElem?_cons_zero, List.getElem?_cons_succ, List.set_cons_zero, List.set_cons_succ, List.length_cons, List.length_nil, Nat.reduceAdd, Nat.reduceLT, Nat.reduceLeDiff, Nat.reduceBEq, Nat.reduceEqDiff, okv_int, okv_oref, okv_onull, okv_orf, okv_aref, okv_b0, okv_b1, okv_z0, okv_bI, ckI_nI, lt31, leT, reduceCtorEq, List.mem_cons, List.mem_singleton, List.not_mem_nil, or_true, true_or, or_false, false_or, toR_ref, toR_null, ↓reduceIte, g1', eq, c_kf, bI_f]
  by_cases c1 : hsh w = (-906021636)
  · have eq := j_equals (Ω := Ω) (d := d + 2) e2.r (hL' 2 (keyW 0) rfl)
    by_cases hw : w = keyW 0
    · rw [decide_eq_true hw] at eq
      rw [decide_eq_true (key_mem.mpr ⟨0, by decide, hw⟩)]
      simp (disch := first | omega | (simp only [hnew_21, hput_21, hnew_22, hput_22]; omega) | exact isR_ref | exact isR_null | exact isR_rf | exact isR_fmt | assumption | decide) only [e_X9_key_8, ↓reduceIte, c1, show (((-906021636) : Int32) = (-1274492040)) = False by decide]
      simp (disch := first | omega | (simp only [hnew_21, hput_21, hnew_22, hput_22]; omega) | exact isR_ref | exact isR_null | exact isR_rf | exact isR_fmt | assumption | decide) only [e_X9_key_108, e_X9_key_109, e_X9_key_111, e_X9_key_114, e_X9_key_117, e_X9_key_118, e_X9_key_119, cR_ref, cR_null, cR_rf, c1_int, c1_ref, c1_null, c1_rf, kz_int, kz_ref, kz_null, kz_rf, kz_U, kz_long, nB_null, nB_ref, rf_none, rf_some, bV_ret, bV_thr, bA_ret, bA_thr, bX_ret, bX_thr, len4_0, len4_1, len4_2, len4_3, len4_4, true_and, and_true, and_self, if_true, if_false, Option.bind_some, nR_b1, nR_b0, nR_bI, nI_1z, nI_0z, bI_z, if_nn, gf, pf, clN, aln, gaI, gaL, gaR, saI, saR, isI, ctB, isB, gB, hput_n, hput_e, hput_21, hput_22, hnew_n, hnew_e, hnew_21, hnew_22, Option.bind_some, Option.map_some, List.lookup_cons, List.lookup_nil, beq_self_eq_true, List.getElem?_cons_zero, List.getElem?_cons_succ, List.set_cons_zero, List.set_cons_succ, List.length_cons, List.length_nil, Nat.reduceAdd, Nat.reduceLT, Nat.reduceLeDiff, Nat.reduceBEq, Nat.reduceEqDiff, okv_int, okv_oref, okv_onull, okv_orf, okv_aref, okv_b0, okv_b1, okv_z0, okv_bI, ckI_nI, lt31, leT, reduceCtorEq, List.mem_cons, List.mem_singleton, List.not_mem_nil, or_true, true_or, or_false, false_or, toR_ref, toR_null, ↓reduceIte, g1', eq, c_kt, bI_t]
    · rw [decide_eq_false hw] at eq
      have hn : ¬ w ∈ keyWs := fun q => by
        obtain ⟨j, hj, ej⟩ := key_mem.mp q
        have : j = 0 ∨ j = 1 ∨ j = 2 ∨ j = 3 ∨ j = 4 ∨ j = 5 ∨ j = 6 ∨ j = 7 ∨ j = 8 ∨ j = 9 ∨ j = 10 := by omega
        rcases this with rfl | rfl | rfl | rfl | rfl | rfl | rfl | rfl | rfl | rfl | rfl
        · exact hw ej
        · rw [ej, hk_1] at c1; exact absurd c1 (by decide)
        · rw [ej, hk_2] at c1; exact absurd c1 (by decide)
        · rw [ej, hk_3] at c1; exact absurd c1 (by decide)
        · rw [ej, hk_4] at c1; exact absurd c1 (by decide)
        · rw [ej, hk_5] at c1; exact absurd c1 (by decide)
        · rw [ej, hk_6] at c1; exact absurd c1 (by decide)
        · rw [ej, hk_7] at c1; exact absurd c1 (by decide)
        · rw [ej, hk_8] at c1; exact absurd c1 (by decide)
        · rw [ej, hk_9] at c1; exact absurd c1 (by decide)
        · rw [ej, hk_10] at c1; exact absurd c1 (by decide)
      rw [decide_eq_false hn]
      simp (disch := first | omega | (simp only [hnew_21, hput_21, hnew_22, hput_22]; omega) | exact isR_ref | exact isR_null | exact isR_rf | exact isR_fmt | assumption | decide) only [e_X9_key_8, ↓reduceIte, c1, show (((-906021636) : Int32) = (-1274492040)) = False by decide]
      simp (disch := first | omega | (simp only [hnew_21, hput_21, hnew_22, hput_22]; omega) | exact isR_ref | exact isR_null | exact isR_rf | exact isR_fmt | assumption | decide) only [e_X9_key_108, e_X9_key_109, e_X9_key_111, e_X9_key_114, e_X9_key_117, e_X9_key_118, e_X9_key_119, cR_ref, cR_null, cR_rf, c1_int, c1_ref, c1_null, c1_rf, kz_int, kz_ref, kz_null, kz_rf, kz_U, kz_long, nB_null, nB_ref, rf_none, rf_some, bV_ret, bV_thr, bA_ret, bA_thr, bX_ret, bX_thr, len4_0, len4_1, len4_2, len4_3, len4_4, true_and, and_true, and_self, if_true, if_false, Option.bind_some, nR_b1, nR_b0, nR_bI, nI_1z, nI_0z, bI_z, if_nn, gf, pf, clN, aln, gaI, gaL, gaR, saI, saR, isI, ctB, isB, gB, hput_n, hput_e, hput_21, hput_22, hnew_n, hnew_e, hnew_21, hnew_22, Option.bind_some, Option.map_some, List.lookup_cons, List.lookup_nil, beq_self_eq_true, List.getElem?_cons_zero, List.getElem?_cons_succ, List.set_cons_zero, List.set_cons_succ, List.length_cons, List.length_nil, Nat.reduceAdd, Nat.reduceLT, Nat.reduceLeDiff, Nat.reduceBEq, Nat.reduceEqDiff, okv_int, okv_oref, okv_onull, okv_orf, okv_aref, okv_b0, okv_b1, okv_z0, okv_bI, ckI_nI, lt31, leT, reduceCtorEq, List.mem_cons, List.mem_singleton, List.not_mem_nil, or_true, true_or, or_false, false_or, toR_ref, toR_null, ↓reduceIte, g1', eq, c_kf, bI_f]
  by_cases c2 : hsh w = (-79017120)
  · have eq := j_equals (Ω := Ω) (d := d + 2) e2.r (hL' 8 (keyW 6) rfl)
    by_cases hw : w = keyW 6
    · rw [decide_eq_true hw] at eq
      rw [decide_eq_true (key_mem.mpr ⟨6, by decide, hw⟩)]
      simp (disch := first | omega | (simp only [hnew_21, hput_21, hnew_22, hput_22]; omega) | exact isR_ref | exact isR_null | exact isR_rf | exact isR_fmt | assumption | decide) only [e_X9_key_8, ↓reduceIte, c2, show (((-79017120) : Int32) = (-1274492040)) = False by decide, show (((-79017120) : Int32) = (-906021636)) = False by decide]
      simp (disch := first | omega | (simp only [hnew_21, hput_21, hnew_22, hput_22]; omega) | exact isR_ref | exact isR_null | exact isR_rf | exact isR_fmt | assumption | decide) only [e_X9_key_192, e_X9_key_193, e_X9_key_195, e_X9_key_198, e_X9_key_201, e_X9_key_203, e_X9_key_204, cR_ref, cR_null, cR_rf, c1_int, c1_ref, c1_null, c1_rf, kz_int, kz_ref, kz_null, kz_rf, kz_U, kz_long, nB_null, nB_ref, rf_none, rf_some, bV_ret, bV_thr, bA_ret, bA_thr, bX_ret, bX_thr, len4_0, len4_1, len4_2, len4_3, len4_4, true_and, and_true, and_self, if_true, if_false, Option.bind_some, nR_b1, nR_b0, nR_bI, nI_1z, nI_0z, bI_z, if_nn, gf, pf, clN, aln, gaI, gaL, gaR, saI, saR, isI, ctB, isB, gB, hput_n, hput_e, hput_21, hput_22, hnew_n, hnew_e, hnew_21, hnew_22, Option.bind_some, Option.map_some, List.lookup_cons, List.lookup_nil, beq_self_eq_true, List.getElem?_cons_zero, List.getElem?_cons_succ, List.set_cons_zero, List.set_cons_succ, List.length_cons, List.length_nil, Nat.reduceAdd, Nat.reduceLT, Nat.reduceLeDiff, Nat.reduceBEq, Nat.reduceEqDiff, okv_int, okv_oref, okv_onull, okv_orf, okv_aref, okv_b0, okv_b1, okv_z0, okv_bI, ckI_nI, lt31, leT, reduceCtorEq, List.mem_cons, List.mem_singleton, List.not_mem_nil, or_true, true_or, or_false, false_or, toR_ref, toR_null, ↓reduceIte, g1', eq, c_kt, bI_t]
    · rw [decide_eq_false hw] at eq
      have hn : ¬ w ∈ keyWs := fun q => by
        obtain ⟨j, hj, ej⟩ := key_mem.mp q
        have : j = 0 ∨ j = 1 ∨ j = 2 ∨ j = 3 ∨ j = 4 ∨ j = 5 ∨ j = 6 ∨ j = 7 ∨ j = 8 ∨ j = 9 ∨ j = 10 := by omega
        rcases this with rfl | rfl | rfl | rfl | rfl | rfl | rfl | rfl | rfl | rfl | rfl
        · rw [ej, hk_0] at c2; exact absurd c2 (by decide)
        · rw [ej, hk_1] at c2; exact absurd c2 (by decide)
        · rw [ej, hk_2] at c2; exact absurd c2 (by decide)
        · rw [ej, hk_3] at c2; exact absurd c2 (by decide)
        · rw [ej, hk_4] at c2; exact absurd c2 (by decide)
        · rw [ej, hk_5] at c2; exact absurd c2 (by decide)
        · exact hw ej
        · rw [ej, hk_7] at c2; exact absurd c2 (by decide)
        · rw [ej, hk_8] at c2; exact absurd c2 (by decide)
        · rw [ej, hk_9] at c2; exact absurd c2 (by decide)
        · rw [ej, hk_10] at c2; exact absurd c2 (by decide)
      rw [decide_eq_false hn]
      simp (disch := first | omega | (simp only [hnew_21, hput_21, hnew_22, hput_22]; omega) | exact isR_ref | exact isR_null | exact isR_rf | exact isR_fmt | assumption | decide) only [e_X9_key_8, ↓reduceIte, c2, show (((-79017120) : Int32) = (-1274492040)) = False by decide, show (((-79017120) : Int32) = (-906021636)) = False by decide]
      simp (disch := first | omega | (simp only [hnew_21, hput_21, hnew_22, hput_22]; omega) | exact isR_ref | exact isR_null | exact isR_rf | exact isR_fmt | assumption | decide) only [e_X9_key_192, e_X9_key_193, e_X9_key_195, e_X9_key_198, e_X9_key_201, e_X9_key_203, e_X9_key_204, cR_ref, cR_null, cR_rf, c1_int, c1_ref, c1_null, c1_rf, kz_int, kz_ref, kz_null, kz_rf, kz_U, kz_long, nB_null, nB_ref, rf_none, rf_some, bV_ret, bV_thr, bA_ret, bA_thr, bX_ret, bX_thr, len4_0, len4_1, len4_2, len4_3, len4_4, true_and, and_true, and_self, if_true, if_false, Option.bind_some, nR_b1, nR_b0, nR_bI, nI_1z, nI_0z, bI_z, if_nn, gf, pf, clN, aln, gaI, gaL, gaR, saI, saR, isI, ctB, isB, gB, hput_n, hput_e, hput_21, hput_22, hnew_n, hnew_e, hnew_21, hnew_22, Option.bind_some, Option.map_some, List.lookup_cons, List.lookup_nil, beq_self_eq_true, List.getElem?_cons_zero, List.getElem?_cons_succ, List.set_cons_zero, List.set_cons_succ, List.length_cons, List.length_nil, Nat.reduceAdd, Nat.reduceLT, Nat.reduceLeDiff, Nat.reduceBEq, Nat.reduceEqDiff, okv_int, okv_oref, okv_onull, okv_orf, okv_aref, okv_b0, okv_b1, okv_z0, okv_bI, ckI_nI, lt31, leT, reduceCtorEq, List.mem_cons, List.mem_singleton, List.not_mem_nil, or_true, true_or, or_false, false_or, toR_ref, toR_null, ↓reduceIte, g1', eq, c_kf, bI_f]
  by_cases c3 : hsh w = (nI 109267)
  · have eq := j_equals (Ω := Ω) (d := d + 2) e2.r (hL' 11 (keyW 9) rfl)
    by_cases hw : w = keyW 9
    · rw [decide_eq_true hw] at eq
      rw [decide_eq_true (key_mem.mpr ⟨9, by decide, hw⟩)]
      simp (disch := first | omega | (simp only [hnew_21, hput_21, hnew_22, hput_22]; omega) | exact isR_ref | exact isR_null | exact isR_rf | exact isR_fmt | assumption | decide) only [e_X9_key_8, ↓reduceIte, c3, show (((nI 109267) : Int32) = (-1274492040)) = False by decide, show (((nI 109267) : Int32) = (-906021636)) = False by decide, show (((nI 109267) : Int32) = (-79017120)) = False by decide]
      simp (disch := first | omega | (simp only [hnew_21, hput_21, hnew_22, hput_22]; omega) | exact isR_ref | exact isR_null | exact isR_rf | exact isR_fmt | assumption | decide) only [e_X9_key_237, e_X9_key_238, e_X9_key_240, e_X9_key_243, e_X9_key_246, e_X9_key_248, e_X9_key_249, cR_ref, cR_null, cR_rf, c1_int, c1_ref, c1_null, c1_rf, kz_int, kz_ref, kz_null, kz_rf, kz_U, kz_long, nB_null, nB_ref, rf_none, rf_some, bV_ret, bV_thr, bA_ret, bA_thr, bX_ret, bX_thr, len4_0, len4_1, len4_2, len4_3, len4_4, true_and, and_true, and_self, if_true, if_false, Option.bind_some, nR_b1, nR_b0, nR_bI, nI_1z, nI_0z, bI_z, if_nn, gf, pf, clN, aln, gaI, gaL, gaR, saI, saR, isI, ctB, isB, gB, hput_n, hput_e, hput_21, hput_22, hnew_n, hnew_e, hnew_21, hnew_22, Option.bind_some, Option.map_some, List.lookup_cons, List.lookup_nil, beq_self_eq_true, List.getElem?_cons_zero, List.getElem?_cons_succ, List.set_cons_zero, List.set_cons_succ, List.length_cons, List.length_nil, Nat.reduceAdd, Nat.reduceLT, Nat.reduceLeDiff, Nat.reduceBEq, Nat.reduceEqDiff, okv_int, okv_oref, okv_onull, okv_orf, okv_aref, okv_b0, okv_b1, okv_z0, okv_bI, ckI_nI, lt31, leT, reduceCtorEq, List.mem_cons, List.mem_singleton, List.not_mem_nil, or_true, true_or, or_false, false_or, toR_ref, toR_null, ↓reduceIte, g1', eq, c_kt, bI_t]
    · rw [decide_eq_false hw] at eq
      have hn : ¬ w ∈ keyWs := fun q => by
        obtain ⟨j, hj, ej⟩ := key_mem.mp q
        have : j = 0 ∨ j = 1 ∨ j = 2 ∨ j = 3 ∨ j = 4 ∨ j = 5 ∨ j = 6 ∨ j = 7 ∨ j = 8 ∨ j = 9 ∨ j = 10 := by omega
        rcases this with rfl | rfl | rfl | rfl | rfl | rfl | rfl | rfl | rfl | rfl | rfl
        · rw [ej, hk_0] at c3; exact absurd c3 (by decide)
        · rw [ej, hk_1] at c3; exact absurd c3 (by decide)
        · rw [ej, hk_2] at c3; exact absurd c3 (by decide)
        · rw [ej, hk_3] at c3; exact absurd c3 (by decide)
        · rw [ej, hk_4] at c3; exact absurd c3 (by decide)
        · rw [ej, hk_5] at c3; exact absurd c3 (by decide)
        · rw [ej, hk_6] at c3; exact absurd c3 (by decide)
        · rw [ej, hk_7] at c3; exact absurd c3 (by decide)
        · rw [ej, hk_8] at c3; exact absurd c3 (by decide)
        · exact hw ej
        · rw [ej, hk_10] at c3; exact absurd c3 (by decide)
      rw [decide_eq_false hn]
      simp (disch := first | omega | (simp only [hnew_21, hput_21, hnew_22, hput_22]; omega) | exact isR_ref | exact isR_null | exact isR_rf | exact isR_fmt | assumption | decide) only [e_X9_key_8, ↓reduceIte, c3, show (((nI 109267) : Int32) = (-1274492040)) = False by decide, show (((nI 109267) : Int32) = (-906021636)) = False by decide, show (((nI 109267) : Int32) = (-79017120)) = False by decide]
      simp (disch := first | omega | (simp only [hnew_21, hput_21, hnew_22, hput_22]; omega) | exact isR_ref | exact isR_null | exact isR_rf | exact isR_fmt | assumption | decide) only [e_X9_key_237, e_X9_key_238, e_X9_key_240, e_X9_key_243, e_X9_key_246, e_X9_key_248, e_X9_key_249, cR_ref, cR_null, cR_rf, c1_int, c1_ref, c1_null, c1_rf, kz_int, kz_ref, kz_null, kz_rf, kz_U, kz_long, nB_null, nB_ref, rf_none, rf_some, bV_ret, bV_thr, bA_ret, bA_thr, bX_ret, bX_thr, len4_0, len4_1, len4_2, len4_3, len4_4, true_and, and_true, and_self, if_true, if_false, Option.bind_some, nR_b1, nR_b0, nR_bI, nI_1z, nI_0z, bI_z, if_nn, gf, pf, clN, aln, gaI, gaL, gaR, saI, saR, isI, ctB, isB, gB, hput_n, hput_e, hput_21, hput_22, hnew_n, hnew_e, hnew_21, hnew_22, Option.bind_some, Option.map_some, List.lookup_cons, List.lookup_nil, beq_self_eq_true, List.getElem?_cons_zero, List.getElem?_cons_succ, List.set_cons_zero, List.set_cons_succ, List.length_cons, List.length_nil, Nat.reduceAdd, Nat.reduceLT, Nat.reduceLeDiff, Nat.reduceBEq, Nat.reduceEqDiff, okv_int, okv_oref, okv_onull, okv_orf, okv_aref, okv_b0, okv_b1, okv_z0, okv_bI, ckI_nI, lt31, leT, reduceCtorEq, List.mem_cons, List.mem_singleton, List.not_mem_nil, or_true, true_or, or_false, false_or, toR_ref, toR_null, ↓reduceIte, g1', eq, c_kf, bI_f]
  by_cases c4 : hsh w = (nI 3079825)
  · have eq := j_equals (Ω := Ω) (d := d + 2) e2.r (hL' 5 (keyW 3) rfl)
    by_cases hw : w = keyW 3
    · rw [decide_eq_true hw] at eq
      rw [decide_eq_true (key_mem.mpr ⟨3, by decide, hw⟩)]
      simp (disch := first | omega | (simp only [hnew_21, hput_21, hnew_22, hput_22]; omega) | exact isR_ref | exact isR_null | exact isR_rf | exact isR_fmt | assumption | decide) only [e_X9_key_8, ↓reduceIte, c4, show (((nI 3079825) : Int32) = (-1274492040)) = False by decide, show (((nI 3079825) : Int32) = (-906021636)) = False by decide, show (((nI 3079825) : Int32) = (-79017120)) = False by decide, show (((nI 3079825) : Int32) = (nI 109267)) = False by decide]
      simp (disch := first | omega | (simp only [hnew_21, hput_21, hnew_22, hput_22]; omega) | exact isR_ref | exact isR_null | exact isR_rf | exact isR_fmt | assumption | decide) only [e_X9_key_150, e_X9_key_151, e_X9_key_153, e_X9_key_156, e_X9_key_159, e_X9_key_160, e_X9_key_161, cR_ref, cR_null, cR_rf, c1_int, c1_ref, c1_null, c1_rf, kz_int, kz_ref, kz_null, kz_rf, kz_U, kz_long, nB_null, nB_ref, rf_none, rf_some, bV_ret, bV_thr, bA_ret, bA_thr, bX_ret, bX_thr, len4_0, len4_1, len4_2, len4_3, len4_4, true_and, and_true, and_self, if_true, if_false, Option.bind_some, nR_b1, nR_b0, nR_bI, nI_1z, nI_0z, bI_z, if_nn, gf, pf, clN, aln, gaI, gaL, gaR, saI, saR, isI, ctB, isB, gB, hput_n, hput_e, hput_21, hput_22, hnew_n, hnew_e, hnew_21, hnew_22, Option.bind_some, Option.map_some, List.lookup_cons, List.lookup_nil, beq_self_eq_true, List.getElem?_cons_zero, List.getElem?_cons_succ, List.set_cons_zero, List.set_cons_succ, List.length_cons, List.length_nil, Nat.reduceAdd, Nat.reduceLT, Nat.reduceLeDiff, Nat.reduceBEq, Nat.reduceEqDiff, okv_int, okv_oref, okv_onull, okv_orf, okv_aref, okv_b0, okv_b1, okv_z0, okv_bI, ckI_nI, lt31, leT, reduceCtorEq, List.mem_cons, List.mem_singleton, List.not_mem_nil, or_true, true_or, or_false, false_or, toR_ref, toR_null, ↓reduceIte, g1', eq, c_kt, bI_t]
    · rw [decide_eq_false hw] at eq
      have hn : ¬ w ∈ keyWs := fun q => by
        obtain ⟨j, hj, ej⟩ := key_mem.mp q
        have : j = 0 ∨ j = 1 ∨ j = 2 ∨ j = 3 ∨ j = 4 ∨ j = 5 ∨ j = 6 ∨ j = 7 ∨ j = 8 ∨ j = 9 ∨ j = 10 := by omega
        rcases this with rfl | rfl | rfl | rfl | rfl | rfl | rfl | rfl | rfl | rfl | rfl
        · rw [ej, hk_0] at c4; exact absurd c4 (by decide)
        · rw [ej, hk_1] at c4; exact absurd c4 (by decide)
        · rw [ej, hk_2] at c4; exact absurd c4 (by decide)
        · exact hw ej
        · rw [ej, hk_4] at c4; exact absurd c4 (by decide)
        · rw [ej, hk_5] at c4; exact absurd c4 (by decide)
        · rw [ej, hk_6] at c4; exact absurd c4 (by decide)
        · rw [ej, hk_7] at c4; exact absurd c4 (by decide)
        · rw [ej, hk_8] at c4; exact absurd c4 (by decide)
        · rw [ej, hk_9] at c4; exact absurd c4 (by decide)
        · rw [ej, hk_10] at c4; exact absurd c4 (by decide)
      rw [decide_eq_false hn]
      simp (disch := first | omega | (simp only [hnew_21, hput_21, hnew_22, hput_22]; omega) | exact isR_ref | exact isR_null | exact isR_rf | exact isR_fmt | assumption | decide) only [e_X9_key_8, ↓reduceIte, c4, show (((nI 3079825) : Int32) = (-1274492040)) = False by decide, show (((nI 3079825) : Int32) = (-906021636)) = False by decide, show (((nI 3079825) : Int32) = (-79017120)) = False by decide, show (((nI 3079825) : Int32) = (nI 109267)) = False by decide]
      simp (disch := first | omega | (simp only [hnew_21, hput_21, hnew_22, hput_22]; omega) | exact isR_ref | exact isR_null | exact isR_rf | exact isR_fmt | assumption | decide) only [e_X9_key_150, e_X9_key_151, e_X9_key_153, e_X9_key_156, e_X9_key_159, e_X9_key_160, e_X9_key_161, cR_ref, cR_null, cR_rf, c1_int, c1_ref, c1_null, c1_rf, kz_int, kz_ref, kz_null, kz_rf, kz_U, kz_long, nB_null, nB_ref, rf_none, rf_some, bV_ret, bV_thr, bA_ret, bA_thr, bX_ret, bX_thr, len4_0, len4_1, len4_2, len4_3, len4_4, true_and, and_true, and_self, if_true, if_false, Option.bind_some, nR_b1, nR_b0, nR_bI, nI_1z, nI_0z, bI_z, if_nn, gf, pf, clN, aln, gaI, gaL, gaR, saI, saR, isI, ctB, isB, gB, hput_n, hput_e, hput_21, hput_22, hnew_n, hnew_e, hnew_21, hnew_22, Option.bind_some, Option.map_some, List.lookup_cons, List.lookup_nil, beq_self_eq_true, List.getElem?_cons_zero, List.getElem?_cons_succ, List.set_cons_zero, List.set_cons_succ, List.length_cons, List.length_nil, Nat.reduceAdd, Nat.reduceLT, Nat.reduceLeDiff, Nat.reduceBEq, Nat.reduceEqDiff, okv_int, okv_oref, okv_onull, okv_orf, okv_aref, okv_b0, okv_b1, okv_z0, okv_bI, ckI_nI, lt31, leT, reduceCtorEq, List.mem_cons, List.mem_singleton, List.not_mem_nil, or_true, true_or, or_false, false_or, toR_ref, toR_null, ↓reduceIte, g1', eq, c_kf, bI_f]
  by_cases c5 : hsh w = (nI 93927806)
  · have eq := j_equals (Ω := Ω) (d := d + 2) e2.r (hL' 12 (keyW 10) rfl)
    by_cases hw : w = keyW 10
    · rw [decide_eq_true hw] at eq
      rw [decide_eq_true (key_mem.mpr ⟨10, by decide, hw⟩)]
      simp (disch := first | omega | (simp only [hnew_21, hput_21, hnew_22, hput_22]; omega) | exact isR_ref | exact isR_null | exact isR_rf | exact isR_fmt | assumption | decide) only [e_X9_key_8, ↓reduceIte, c5, show (((nI 93927806) : Int32) = (-1274492040)) = False by decide, show (((nI 93927806) : Int32) = (-906021636)) = False by decide, show (((nI 93927806) : Int32) = (-79017120)) = False by decide, show (((nI 93927806) : Int32) = (nI 109267)) = False by decide, show (((nI 93927806) : Int32) = (nI 3079825)) = False by decide]
      simp (disch := first | omega | (simp only [hnew_21, hput_21, hnew_22, hput_22]; omega) | exact isR_ref | exact isR_null | exact isR_rf | exact isR_fmt | assumption | decide) only [e_X9_key_252, e_X9_key_253, e_X9_key_255, e_X9_key_258, e_X9_key_261, e_X9_key_263, cR_ref, cR_null, cR_rf, c1_int, c1_ref, c1_null, c1_rf, kz_int, kz_ref, kz_null, kz_rf, kz_U, kz_long, nB_null, nB_ref, rf_none, rf_some, bV_ret, bV_thr, bA_ret, bA_thr, bX_ret, bX_thr, len4_0, len4_1, len4_2, len4_3, len4_4, true_and, and_true, and_self, if_true, if_false, Option.bind_some, nR_b1, nR_b0, nR_bI, nI_1z, nI_0z, bI_z, if_nn, gf, pf, clN, aln, gaI, gaL, gaR, saI, saR, isI, ctB, isB, gB, hput_n, hput_e, hput_21, hput_22, hnew_n, hnew_e, hnew_21, hnew_22, Option.bind_some, Option.map_some, List.lookup_cons, List.lookup_nil, beq_self_eq_true, List.getElem?_cons_zero, List.getElem?_cons_succ, List.set_cons_zero, List.set_cons_succ, List.length_cons, List.length_nil, Nat.reduceAdd, Nat.reduceLT, Nat.reduceLeDiff, Nat.reduceBEq, Nat.reduceEqDiff, okv_int, okv_oref, okv_onull, okv_orf, okv_aref, okv_b0, okv_b1, okv_z0, okv_bI, ckI_nI, lt31, leT, reduceCtorEq, List.mem_cons, List.mem_singleton, List.not_mem_nil, or_true, true_or, or_false, false_or, toR_ref, toR_null, ↓reduceIte, g1', eq, c_kt, bI_t]
    · rw [decide_eq_false hw] at eq
      have hn : ¬ w ∈ keyWs := fun q => by
        obtain ⟨j, hj, ej⟩ := key_mem.mp q
        have : j = 0 ∨ j = 1 ∨ j = 2 ∨ j = 3 ∨ j = 4 ∨ j = 5 ∨ j = 6 ∨ j = 7 ∨ j = 8 ∨ j = 9 ∨ j = 10 := by omega
        rcases this with rfl | rfl | rfl | rfl | rfl | rfl | rfl | rfl | rfl | rfl | rfl
        · rw [ej, hk_0] at c5; exact absurd c5 (by decide)
        · rw [ej, hk_1] at c5; exact absurd c5 (by decide)
        · rw [ej, hk_2] at c5; exact absurd c5 (by decide)
        · rw [ej, hk_3] at c5; exact absurd c5 (by decide)
        · rw [ej, hk_4] at c5; exact absurd c5 (by decide)
        · rw [ej, hk_5] at c5; exact absurd c5 (by decide)
        · rw [ej, hk_6] at c5; exact absurd c5 (by decide)
        · rw [ej, hk_7] at c5; exact absurd c5 (by decide)
        · rw [ej, hk_8] at c5; exact absurd c5 (by decide)
        · rw [ej, hk_9] at c5; exact absurd c5 (by decide)
        · exact hw ej
      rw [decide_eq_false hn]
      simp (disch := first | omega | (simp only [hnew_21, hput_21, hnew_22, hput_22]; omega) | exact isR_ref | exact isR_null | exact isR_rf | exact isR_fmt | assumption | decide) only [e_X9_key_8, ↓reduceIte, c5, show (((nI 93927806) : Int32) = (-1274492040)) = False by decide, show (((nI 93927806) : Int32) = (-906021636)) = False by decide, show (((nI 93927806) : Int32) = (-79017120)) = False by decide, show (((nI 93927806) : Int32) = (nI 109267)) = False by decide, show (((nI 93927806) : Int32) = (nI 3079825)) = False by decide]
      simp (disch := first | omega | (simp only [hnew_21, hput_21, hnew_22, hput_22]; omega) | exact isR_ref | exact isR_null | exact isR_rf | exact isR_fmt | assumption | decide) only [e_X9_key_252, e_X9_key_253, e_X9_key_255, e_X9_key_258, e_X9_key_261, e_X9_key_263, cR_ref, cR_null, cR_rf, c1_int, c1_ref, c1_null, c1_rf, kz_int, kz_ref, kz_null, kz_rf, kz_U, kz_long, nB_null, nB_ref, rf_none, rf_some, bV_ret, bV_thr, bA_ret, bA_thr, bX_ret, bX_thr, len4_0, len4_1, len4_2, len4_3, len4_4, true_and, and_true, and_self, if_true, if_false, Option.bind_some, nR_b1, nR_b0, nR_bI, nI_1z, nI_0z, bI_z, if_nn, gf, pf, clN, aln, gaI, gaL, gaR, saI, saR, isI, ctB, isB, gB, hput_n, hput_e, hput_21, hput_22, hnew_n, hnew_e, hnew_21, hnew_22, Option.bind_some, Option.map_some, List.lookup_cons, List.lookup_nil, beq_self_eq_true, List.getElem?_cons_zero, List.getElem?_cons_succ, List.set_cons_zero, List.set_cons_succ, List.length_cons, List.length_nil, Nat.reduceAdd, Nat.reduceLT, Nat.reduceLeDiff, Nat.reduceBEq, Nat.reduceEqDiff, okv_int, okv_oref, okv_onull, okv_orf, okv_aref, okv_b0, okv_b1, okv_z0, okv_bI, ckI_nI, lt31, leT, reduceCtorEq, List.mem_cons, List.mem_singleton, List.not_mem_nil, or_true, true_or, or_false, false_or, toR_ref, toR_null, ↓reduceIte, g1', eq, c_kf, bI_f]
  by_cases c6 : hsh w = (nI 102976443)
  · have eq := j_equals (Ω := Ω) (d := d + 2) e2.r (hL' 6 (keyW 4) rfl)
    by_cases hw : w = keyW 4
    · rw [decide_eq_true hw] at eq
      rw [decide_eq_true (key_mem.mpr ⟨4, by decide, hw⟩)]
      simp (disch := first | omega | (simp only [hnew_21, hput_21, hnew_22, hput_22]; omega) | exact isR_ref | exact isR_null | exact isR_rf | exact isR_fmt | assumption | decide) only [e_X9_key_8, ↓reduceIte, c6, show (((nI 102976443) : Int32) = (-1274492040)) = False by decide, show (((nI 102976443) : Int32) = (-906021636)) = False by decide, show (((nI 102976443) : Int32) = (-79017120)) = False by decide, show (((nI 102976443) : Int32) = (nI 109267)) = False by decide, show (((nI 102976443) : Int32) = (nI 3079825)) = False by decide, show (((nI 102976443) : Int32) = (nI 93927806)) = False by decide]
      simp (disch := first | omega | (simp only [hnew_21, hput_21, hnew_22, hput_22]; omega) | exact isR_ref | exact isR_null | exact isR_rf | exact isR_fmt | assumption | decide) only [e_X9_key_164, e_X9_key_165, e_X9_key_167, e_X9_key_170, e_X9_key_173, e_X9_key_174, e_X9_key_175, cR_ref, cR_null, cR_rf, c1_int, c1_ref, c1_null, c1_rf, kz_int, kz_ref, kz_null, kz_rf, kz_U, kz_long, nB_null, nB_ref, rf_none, rf_some, bV_ret, bV_thr, bA_ret, bA_thr, bX_ret, bX_thr, len4_0, len4_1, len4_2, len4_3, len4_4, true_and, and_true, and_self, if_true, if_false, Option.bind_some, nR_b1, nR_b0, nR_bI, nI_1z, nI_0z, bI_z, if_nn, gf, pf, clN, aln, gaI, gaL, gaR, saI, saR, isI, ctB, isB, gB, hput_n, hput_e, hput_21, hput_22, hnew_n, hnew_e, hnew_21, hnew_22, Option.bind_some, Option.map_some, List.lookup_cons, List.lookup_nil, beq_self_eq_true, List.getElem?_cons_zero, List.getElem?_cons_succ, List.set_cons_zero, List.set_cons_succ, List.length_cons, List.length_nil, Nat.reduceAdd, Nat.reduceLT, Nat.reduceLeDiff, Nat.reduceBEq, Nat.reduceEqDiff, okv_int, okv_oref, okv_onull, okv_orf, okv_aref, okv_b0, okv_b1, okv_z0, okv_bI, ckI_nI, lt31, leT, reduceCtorEq, List.mem_cons, List.mem_singleton, List.not_mem_nil, or_true, true_or, or_false, false_or, toR_ref, toR_null, ↓reduceIte, g1', eq, c_kt, bI_t]
    · rw [decide_eq_false hw] at eq
      have hn : ¬ w ∈ keyWs := fun q => by
        obtain ⟨j, hj, ej⟩ := key_mem.mp q
        have : j = 0 ∨ j = 1 ∨ j = 2 ∨ j = 3 ∨ j = 4 ∨ j = 5 ∨ j = 6 ∨ j = 7 ∨ j = 8 ∨ j = 9 ∨ j = 10 := by omega
        rcases this with rfl | rfl | rfl | rfl | rfl | rfl | rfl | rfl | rfl | rfl | rfl
        · rw [ej, hk_0] at c6; exact absurd c6 (by decide)
        · rw [ej, hk_1] at c6; exact absurd c6 (by decide)
        · rw [ej, hk_2] at c6; exact absurd c6 (by decide)
        · rw [ej, hk_3] at c6; exact absurd c6 (by decide)
        · exact hw ej
        · rw [ej, hk_5] at c6; exact absurd c6 (by decide)
        · rw [ej, hk_6] at c6; exact absurd c6 (by decide)
        · rw [ej, hk_7] at c6; exact absurd c6 (by decide)
        · rw [ej, hk_8] at c6; exact absurd c6 (by decide)
        · rw [ej, hk_9] at c6; exact absurd c6 (by decide)
        · rw [ej, hk_10] at c6; exact absurd c6 (by decide)
      rw [decide_eq_false hn]
      simp (disch := first | omega | (simp only [hnew_21, hput_21, hnew_22, hput_22]; omega) | exact isR_ref | exact isR_null | exact isR_rf | exact isR_fmt | assumption | decide) only [e_X9_key_8, ↓reduceIte, c6, show (((nI 102976443) : Int32) = (-1274492040)) = False by decide, show (((nI 102976443) : Int32) = (-906021636)) = False by decide, show (((nI 102976443) : Int32) = (-79017120)) = False by decide, show (((nI 102976443) : Int32) = (nI 109267)) = False by decide, show (((nI 102976443) : Int32) = (nI 3079825)) = False by decide, show (((nI 102976443) : Int32) = (nI 93927806)) = False by decide]
      simp (disch := first | omega | (simp only [hnew_21, hput_21, hnew_22, hput_22]; omega) | exact isR_ref | exact isR_null | exact isR_rf | exact isR_fmt | assumption | decide) only [e_X9_key_164, e_X9_key_165, e_X9_key_167, e_X9_key_170, e_X9_key_173, e_X9_key_174, e_X9_key_175, cR_ref, cR_null, cR_rf, c1_int, c1_ref, c1_null, c1_rf, kz_int, kz_ref, kz_null, kz_rf, kz_U, kz_long, nB_null, nB_ref, rf_none, rf_some, bV_ret, bV_thr, bA_ret, bA_thr, bX_ret, bX_thr, len4_0, len4_1, len4_2, len4_3, len4_4, true_and, and_true, and_self, if_true, if_false, Option.bind_some, nR_b1, nR_b0, nR_bI, nI_1z, nI_0z, bI_z, if_nn, gf, pf, clN, aln, gaI, gaL, gaR, saI, saR, isI, ctB, isB, gB, hput_n, hput_e, hput_21, hput_22, hnew_n, hnew_e, hnew_21, hnew_22, Option.bind_some, Option.map_some, List.lookup_cons, List.lookup_nil, beq_self_eq_true, List.getElem?_cons_zero, List.getElem?_cons_succ, List.set_cons_zero, List.set_cons_succ, List.length_cons, List.length_nil, Nat.reduceAdd, Nat.reduceLT, Nat.reduceLeDiff, Nat.reduceBEq, Nat.reduceEqDiff, okv_int, okv_oref, okv_onull, okv_orf, okv_aref, okv_b0, okv_b1, okv_z0, okv_bI, ckI_nI, lt31, leT, reduceCtorEq, List.mem_cons, List.mem_singleton, List.not_mem_nil, or_true, true_or, or_false, false_or, toR_ref, toR_null, ↓reduceIte, g1', eq, c_kf, bI_f]
  by_cases c7 : hsh w = (nI 103901296)
  · have eq := j_equals (Ω := Ω) (d := d + 2) e2.r (hL' 9 (keyW 7) rfl)
    by_cases hw : w = keyW 7
    · rw [decide_eq_true hw] at eq
      rw [decide_eq_true (key_mem.mpr ⟨7, by decide, hw⟩)]
      simp (disch := first | omega | (simp only [hnew_21, hput_21, hnew_22, hput_22]; omega) | exact isR_ref | exact isR_null | exact isR_rf | exact isR_fmt | assumption | decide) only [e_X9_key_8, ↓reduceIte, c7, show (((nI 103901296) : Int32) = (-1274492040)) = False by decide, show (((nI 103901296) : Int32) = (-906021636)) = False by decide, show (((nI 103901296) : Int32) = (-79017120)) = False by decide, show (((nI 103901296) : Int32) = (nI 109267)) = False by decide, show (((nI 103901296) : Int32) = (nI 3079825)) = False by decide, show (((nI 103901296) : Int32) = (nI 93927806)) = False by decide, show (((nI 103901296) : Int32) = (nI 102976443)) = False by decide]
      simp (disch := first | omega | (simp only [hnew_21, hput_21, hnew_22, hput_22]; omega) | exact isR_ref | exact isR_null | exact isR_rf | exact isR_fmt | assumption | decide) only [e_X9_key_207, e_X9_key_208, e_X9_key_210, e_X9_key_213, e_X9_key_216, e_X9_key_218, e_X9_key_219, cR_ref, cR_null, cR_rf, c1_int, c1_ref, c1_null, c1_rf, kz_int, kz_ref, kz_null, kz_rf, kz_U, kz_long, nB_null, nB_ref, rf_none, rf_some, bV_ret, bV_thr, bA_ret, bA_thr, bX_ret, bX_thr, len4_0, len4_1, len4_2, len4_3, len4_4, true_and, and_true, and_self, if_true, if_false, Option.bind_some, nR_b1, nR_b0, nR_bI, nI_1z, nI_0z, bI_z, if_nn, gf, pf, clN, aln, gaI, gaL, gaR, saI, saR, isI, ctB, isB, gB, hput_n, hput_e, hput_21, hput_22, hnew_n, hnew_e, hnew_21, hnew_22, Option.bind_some, Option.map_some, List.lookup_cons, List.lookup_nil, beq_self_eq_true, List.getElem?_cons_zero, List.getElem?_cons_succ, List.set_cons_zero, List.set_cons_succ, List.length_cons, List.length_nil, Nat.reduceAdd, Nat.reduceLT, Nat.reduceLeDiff, Nat.reduceBEq, Nat.reduceEqDiff, okv_int, okv_oref, okv_onull, okv_orf, okv_aref, okv_b0, okv_b1, okv_z0, okv_bI, ckI_nI, lt31, leT, reduceCtorEq, List.mem_cons, List.mem_singleton, List.not_mem_nil, or_true, true_or, or_false, false_or, toR_ref, toR_null, ↓reduceIte, g1', eq, c_kt, bI_t]
    · rw [decide_eq_false hw] at eq
      have hn : ¬ w ∈ keyWs := fun q => by
        obtain ⟨j, hj, ej⟩ := key_mem.mp q
        have : j = 0 ∨ j = 1 ∨ j = 2 ∨ j = 3 ∨ j = 4 ∨ j = 5 ∨ j = 6 ∨ j = 7 ∨ j = 8 ∨ j = 9 ∨ j = 10 := by omega
        rcases this with rfl | rfl | rfl | rfl | rfl | rfl | rfl | rfl | rfl | rfl | rfl
        · rw [ej, hk_0] at c7; exact absurd c7 (by decide)
        · rw [ej, hk_1] at c7; exact absurd c7 (by decide)
        · rw [ej, hk_2] at c7; exact absurd c7 (by decide)
        · rw [ej, hk_3] at c7; exact absurd c7 (by decide)
        · rw [ej, hk_4] at c7; exact absurd c7 (by decide)
        · rw [ej, hk_5] at c7; exact absurd c7 (by decide)
        · rw [ej, hk_6] at c7; exact absurd c7 (by decide)
        · exact hw ej
        · rw [ej, hk_8] at c7; exact absurd c7 (by decide)
        · rw [ej, hk_9] at c7; exact absurd c7 (by decide)
        · rw [ej, hk_10] at c7; exact absurd c7 (by decide)
      rw [decide_eq_false hn]
      simp (disch := first | omega | (simp only [hnew_21, hput_21, hnew_22, hput_22]; omega) | exact isR_ref | exact isR_null | exact isR_rf | exact isR_fmt | assumption | decide) only [e_X9_key_8, ↓reduceIte, c7, show (((nI 103901296) : Int32) = (-1274492040)) = False by decide, show (((nI 103901296) : Int32) = (-906021636)) = False by decide, show (((nI 103901296) : Int32) = (-79017120)) = False by decide, show (((nI 103901296) : Int32) = (nI 109267)) = False by decide, show (((nI 103901296) : Int32) = (nI 3079825)) = False by decide, show (((nI 103901296) : Int32) = (nI 93927806)) = False by decide, show (((nI 103901296) : Int32) = (nI 102976443)) = False by decide]
      simp (disch := first | omega | (simp only [hnew_21, hput_21, hnew_22, hput_22]; omega) | exact isR_ref | exact isR_null | exact isR_rf | exact isR_fmt | assumption | decide) only [e_X9_key_207, e_X9_key_208, e_X9_key_210, e_X9_key_213, e_X9_key_216, e_X9_key_218, e_X9_key_219, cR_ref, cR_null, cR_rf, c1_int, c1_ref, c1_null, c1_rf, kz_int, kz_ref, kz_null, kz_rf, kz_U, kz_long, nB_null, nB_ref, rf_none, rf_some, bV_ret, bV_thr, bA_ret, bA_thr, bX_ret, bX_thr, len4_0, len4_1, len4_2, len4_3, len4_4, true_and, and_true, and_self, if_true, if_false, Option.bind_some, nR_b1, nR_b0, nR_bI, nI_1z, nI_0z, bI_z, if_nn, gf, pf, clN, aln, gaI, gaL, gaR, saI, saR, isI, ctB, isB, gB, hput_n, hput_e, hput_21, hput_22, hnew_n, hnew_e, hnew_21, hnew_22, Option.bind_some, Option.map_some, List.lookup_cons, List.lookup_nil, beq_self_eq_true, List.getElem?_cons_zero, List.getElem?_cons_succ, List.set_cons_zero, List.set_cons_succ, List.length_cons, List.length_nil, Nat.reduceAdd, Nat.reduceLT, Nat.reduceLeDiff, Nat.reduceBEq, Nat.reduceEqDiff, okv_int, okv_oref, okv_onull, okv_orf, okv_aref, okv_b0, okv_b1, okv_z0, okv_bI, ckI_nI, lt31, leT, reduceCtorEq, List.mem_cons, List.mem_singleton, List.not_mem_nil, or_true, true_or, or_false, false_or, toR_ref, toR_null, ↓reduceIte, g1', eq, c_kf, bI_f]
  by_cases c8 : hsh w = (nI 106006350)
  · have eq := j_equals (Ω := Ω) (d := d + 2) e2.r (hL' 4 (keyW 2) rfl)
    by_cases hw : w = keyW 2
    · rw [decide_eq_true hw] at eq
      rw [decide_eq_true (key_mem.mpr ⟨2, by decide, hw⟩)]
      simp (disch := first | omega | (simp only [hnew_21, hput_21, hnew_22, hput_22]; omega) | exact isR_ref | exact isR_null | exact isR_rf | exact isR_fmt | assumption | decide) only [e_X9_key_8, ↓reduceIte, c8, show (((nI 106006350) : Int32) = (-1274492040)) = False by decide, show (((nI 106006350) : Int32) = (-906021636)) = False by decide, show (((nI 106006350) : Int32) = (-79017120)) = False by decide, show (((nI 106006350) : Int32) = (nI 109267)) = False by decide, show (((nI 106006350) : Int32) = (nI 3079825)) = False by decide, show (((nI 106006350) : Int32) = (nI 93927806)) = False by decide, show (((nI 106006350) : Int32) = (nI 102976443)) = False by decide, show (((nI 106006350) : Int32) = (nI 103901296)) = False by decide]
      simp (disch := first | omega | (simp only [hnew_21, hput_21, hnew_22, hput_22]; omega) | exact isR_ref | exact isR_null | exact isR_rf | exact isR_fmt | assumption | decide) only [e_X9_key_136, e_X9_key_137, e_X9_key_139, e_X9_key_142, e_X9_key_145, e_X9_key_146, e_X9_key_147, cR_ref, cR_null, cR_rf, c1_int, c1_ref, c1_null, c1_rf, kz_int, kz_ref, kz_null, kz_rf, kz_U, kz_long, nB_null, nB_ref, rf_none, rf_some, bV_ret, bV_thr, bA_ret, bA_thr, bX_ret, bX_thr, len4_0, len4_1, len4_2, len4_3, len4_4, true_and, and_true, and_self, if_true, if_false, Option.bind_some, nR_b1, nR_b0, nR_bI, nI_1z, nI_0z, bI_z, if_nn, gf, pf, clN, aln, gaI, gaL, gaR, saI, saR, isI, ctB, isB, gB, hput_n, hput_e, hput_21, hput_22, hnew_n, hnew_e, hnew_21, hnew_22, Option.bind_some, Option.map_some, List.lookup_cons, List.lookup_nil, beq_self_eq_true, List.getElem?_cons_zero, List.getElem?_cons_succ, List.set_cons_zero, List.set_cons_succ, List.length_cons, List.length_nil, Nat.reduceAdd, Nat.reduceLT, Nat.reduceLeDiff, Nat.reduceBEq, Nat.reduceEqDiff, okv_int, okv_oref, okv_onull, okv_orf, okv_aref, okv_b0, okv_b1, okv_z0, okv_bI, ckI_nI, lt31, leT, reduceCtorEq, List.mem_cons, List.mem_singleton, List.not_mem_nil, or_true, true_or, or_false, false_or, toR_ref, toR_null, ↓reduceIte, g1', eq, c_kt, bI_t]
    · rw [decide_eq_false hw] at eq
      have hn : ¬ w ∈ keyWs := fun q => by
        obtain ⟨j, hj, ej⟩ := key_mem.mp q
        have : j = 0 ∨ j = 1 ∨ j = 2 ∨ j = 3 ∨ j = 4 ∨ j = 5 ∨ j = 6 ∨ j = 7 ∨ j = 8 ∨ j = 9 ∨ j = 10 := by omega
        rcases this with rfl | rfl | rfl | rfl | rfl | rfl | rfl | rfl | rfl | rfl | rfl
        · rw [ej, hk_0] at c8; exact absurd c8 (by decide)
        · rw [ej, hk_1] at c8; exact absurd c8 (by decide)
        · exact hw ej
        · rw [ej, hk_3] at c8; exact absurd c8 (by decide)
        · rw [ej, hk_4] at c8; exact absurd c8 (by decide)
        · rw [ej, hk_5] at c8; exact absurd c8 (by decide)
        · rw [ej, hk_6] at c8; exact absurd c8 (by decide)
        · rw [ej, hk_7] at c8; exact absurd c8 (by decide)
        · rw [ej, hk_8] at c8; exact absurd c8 (by decide)
        · rw [ej, hk_9] at c8; exact absurd c8 (by decide)
        · rw [ej, hk_10] at c8; exact absurd c8 (by decide)
      rw [decide_eq_false hn]
      simp (disch := first | omega | (simp only [hnew_21, hput_21, hnew_22, hput_22]; omega) | exact isR_ref | exact isR_null | exact isR_rf | exact isR_fmt | assumption | decide) only [e_X9_key_8, ↓reduceIte, c8, show (((nI 106006350) : Int32) = (-1274492040)) = False by decide, show (((nI 106006350) : Int32) = (-906021636)) = False by decide, show (((nI 106006350) : Int32) = (-79017120)) = False by decide, show (((nI 106006350) : Int32) = (nI 109267)) = False by decide, show (((nI 106006350) : Int32) = (nI 3079825)) = False by decide, show (((nI 106006350) : Int32) = (nI 93927806)) = False by decide, show (((nI 106006350) : Int32) = (nI 102976443)) = False by decide, show (((nI 106006350) : Int32) = (nI 103901296)) = False by decide]
      simp (disch := first | omega | (simp only [hnew_21, hput_21, hnew_22, hput_22]; omega) | exact isR_ref | exact isR_null | exact isR_rf | exact isR_fmt | assumption | decide) only [e_X9_key_136, e_X9_key_137, e_X9_key_139, e_X9_key_142, e_X9_key_145, e_X9_key_146, e_X9_key_147, cR_ref, cR_null, cR_rf, c1_int, c1_ref, c1_null, c1_rf, kz_int, kz_ref, kz_null, kz_rf, kz_U, kz_long, nB_null, nB_ref, rf_none, rf_some, bV_ret, bV_thr, bA_ret, bA_thr, bX_ret, bX_thr, len4_0, len4_1, len4_2, len4_3, len4_4, true_and, and_true, and_self, if_true, if_false, Option.bind_some, nR_b1, nR_b0, nR_bI, nI_1z, nI_0z, bI_z, if_nn, gf, pf, clN, aln, gaI, gaL, gaR, saI, saR, isI, ctB, isB, gB, hput_n, hput_e, hput_21, hput_22, hnew_n, hnew_e, hnew_21, hnew_22, Option.bind_some, Option.map_some, List.lookup_cons, List.lookup_nil, beq_self_eq_true, List.getElem?_cons_zero, List.getElem?_cons_succ, List.set_cons_zero, List.set_cons_succ, List.length_cons, List.length_nil, Nat.reduceAdd, Nat.reduceLT, Nat.reduceLeDiff, Nat.reduceBEq, Nat.reduceEqDiff, okv_int, okv_oref, okv_onull, okv_orf, okv_aref, okv_b0, okv_b1, okv_z0, okv_bI, ckI_nI, lt31, leT, reduceCtorEq, List.mem_cons, List.mem_singleton, List.not_mem_nil, or_true, true_or, or_false, false_or, toR_ref, toR_null, ↓reduceIte, g1', eq, c_kf, bI_f]
  by_cases c9 : hsh w = (nI 111433423)
  · have eq := j_equals (Ω := Ω) (d := d + 2) e2.r (hL' 10 (keyW 8) rfl)
    by_cases hw : w = keyW 8
    · rw [decide_eq_true hw] at eq
      rw [decide_eq_true (key_mem.mpr ⟨8, by decide, hw⟩)]
      simp (disch := first | omega | (simp only [hnew_21, hput_21, hnew_22, hput_22]; omega) | exact isR_ref | exact isR_null | exact isR_rf | exact isR_fmt | assumption | decide) only [e_X9_key_8, ↓reduceIte, c9, show (((nI 111433423) : Int32) = (-1274492040)) = False by decide, show (((nI 111433423) : Int32) = (-906021636)) = False by decide, show (((nI 111433423) : Int32) = (-79017120)) = False by decide, show (((nI 111433423) : Int32) = (nI 109267)) = False by decide, show (((nI 111433423) : Int32) = (nI 3079825)) = False by decide, show (((nI 111433423) : Int32) = (nI 93927806)) = False by decide, show (((nI 111433423) : Int32) = (nI 102976443)) = False by decide, show (((nI 111433423) : Int32) = (nI 103901296)) = False by decide, show (((nI 111433423) : Int32) = (nI 106006350)) = False by decide]
      simp (disch := first | omega | (simp only [hnew_21, hput_21, hnew_22, hput_22]; omega) | exact isR_ref | exact isR_null | exact isR_rf | exact isR_fmt | assumption | decide) only [e_X9_key_222, e_X9_key_223, e_X9_key_225, e_X9_key_228, e_X9_key_231, e_X9_key_233, e_X9_key_234, cR_ref, cR_null, cR_rf, c1_int, c1_ref, c1_null, c1_rf, kz_int, kz_ref, kz_null, kz_rf, kz_U, kz_long, nB_null, nB_ref, rf_none, rf_some, bV_ret, bV_thr, bA_ret, bA_thr, bX_ret, bX_thr, len4_0, len4_1, len4_2, len4_3, len4_4, true_and, and_true, and_self, if_true, if_false, Option.bind_some, nR_b1, nR_b0, nR_bI, nI_1z, nI_0z, bI_z, if_nn, gf, pf, clN, aln, gaI, gaL, gaR, saI, saR, isI, ctB, isB, gB, hput_n, hput_e, hput_21, hput_22, hnew_n, hnew_e, hnew_21, hnew_22, Option.bind_some, Option.map_some, List.lookup_cons, List.lookup_nil, beq_self_eq_true, List.getElem?_cons_zero, List.getElem?_cons_succ, List.set_cons_zero, List.set_cons_succ, List.length_cons, List.length_nil, Nat.reduceAdd, Nat.reduceLT, Nat.reduceLeDiff, Nat.reduceBEq, Nat.reduceEqDiff, okv_int, okv_oref, okv_onull, okv_orf, okv_aref, okv_b0, okv_b1, okv_z0, okv_bI, ckI_nI, lt31, leT, reduceCtorEq, List.mem_cons, List.mem_singleton, List.not_mem_nil, or_true, true_or, or_false, false_or, toR_ref, toR_null, ↓reduceIte, g1', eq, c_kt, bI_t]
    · rw [decide_eq_false hw] at eq
      have hn : ¬ w ∈ keyWs := fun q => by
        obtain ⟨j, hj, ej⟩ := key_mem.mp q
        have : j = 0 ∨ j = 1 ∨ j = 2 ∨ j = 3 ∨ j = 4 ∨ j = 5 ∨ j = 6 ∨ j = 7 ∨ j = 8 ∨ j = 9 ∨ j = 10 := by omega
        rcases this with rfl | rfl | rfl | rfl | rfl | rfl | rfl | rfl | rfl | rfl | rfl
        · rw [ej, hk_0] at c9; exact absurd c9 (by decide)
        · rw [ej, hk_1] at c9; exact absurd c9 (by decide)
        · rw [ej, hk_2] at c9; exact absurd c9 (by decide)
        · rw [ej, hk_3] at c9; exact absurd c9 (by decide)
        · rw [ej, hk_4] at c9; exact absurd c9 (by decide)
        · rw [ej, hk_5] at c9; exact absurd c9 (by decide)
        · rw [ej, hk_6] at c9; exact absurd c9 (by decide)
        · rw [ej, hk_7] at c9; exact absurd c9 (by decide)
        · exact hw ej
        · rw [ej, hk_9] at c9; exact absurd c9 (by decide)
        · rw [ej, hk_10] at c9; exact absurd c9 (by decide)
      rw [decide_eq_false hn]
      simp (disch := first | omega | (simp only [hnew_21, hput_21, hnew_22, hput_22]; omega) | exact isR_ref | exact isR_null | exact isR_rf | exact isR_fmt | assumption | decide) only [e_X9_key_8, ↓reduceIte, c9, show (((nI 111433423) : Int32) = (-1274492040)) = False by decide, show (((nI 111433423) : Int32) = (-906021636)) = False by decide, show (((nI 111433423) : Int32) = (-79017120)) = False by decide, show (((nI 111433423) : Int32) = (nI 109267)) = False by decide, show (((nI 111433423) : Int32) = (nI 3079825)) = False by decide, show (((nI 111433423) : Int32) = (nI 93927806)) = False by decide, show (((nI 111433423) : Int32) = (nI 102976443)) = False by decide, show (((nI 111433423) : Int32) = (nI 103901296)) = False by decide, show (((nI 111433423) : Int32) = (nI 106006350)) = False by decide]
      simp (disch := first | omega | (simp only [hnew_21, hput_21, hnew_22, hput_22]; omega) | exact isR_ref | exact isR_null | exact isR_rf | exact isR_fmt | assumption | decide) only [e_X9_key_222, e_X9_key_223, e_X9_key_225, e_X9_key_228, e_X9_key_231, e_X9_key_233, e_X9_key_234, cR_ref, cR_null, cR_rf, c1_int, c1_ref, c1_null, c1_rf, kz_int, kz_ref, kz_null, kz_rf, kz_U, kz_long, nB_null, nB_ref, rf_none, rf_some, bV_ret, bV_thr, bA_ret, bA_thr, bX_ret, bX_thr, len4_0, len4_1, len4_2, len4_3, len4_4, true_and, and_true, and_self, if_true, if_false, Option.bind_some, nR_b1, nR_b0, nR_bI, nI_1z, nI_0z, bI_z, if_nn, gf, pf, clN, aln, gaI, gaL, gaR, saI, saR, isI, ctB, isB, gB, hput_n, hput_e, hput_21, hput_22, hnew_n, hnew_e, hnew_21, hnew_22, Option.bind_some, Option.map_some, List.lookup_cons, List.lookup_nil, beq_self_eq_true, List.getElem?_cons_zero, List.getElem?_cons_succ, List.set_cons_zero, List.set_cons_succ, List.length_cons, List.length_nil, Nat.reduceAdd, Nat.reduceLT, Nat.reduceLeDiff, Nat.reduceBEq, Nat.reduceEqDiff, okv_int, okv_oref, okv_onull, okv_orf, okv_aref, okv_b0, okv_b1, okv_z0, okv_bI, ckI_nI, lt31, leT, reduceCtorEq, List.mem_cons, List.mem_singleton, List.not_mem_nil, or_true, true_or, or_false, false_or, toR_ref, toR_null, ↓reduceIte, g1', eq, c_kf, bI_f]
  by_cases c10 : hsh w = (nI 288698108)
  · have eq := j_equals (Ω := Ω) (d := d + 2) e2.r (hL' 3 (keyW 1) rfl)
    by_cases hw : w = keyW 1
    · rw [decide_eq_true hw] at eq
      rw [decide_eq_true (key_mem.mpr ⟨1, by decide, hw⟩)]
      simp (disch := first | omega | (simp only [hnew_21, hput_21, hnew_22, hput_22]; omega) | exact isR_ref | exact isR_null | exact isR_rf | exact isR_fmt | assumption | decide) only [e_X9_key_8, ↓reduceIte, c10, show (((nI 288698108) : Int32) = (-1274492040)) = False by decide, show (((nI 288698108) : Int32) = (-906021636)) = False by decide, show (((nI 288698108) : Int32) = (-79017120)) = False by decide, show (((nI 288698108) : Int32) = (nI 109267)) = False by decide, show (((nI 288698108) : Int32) = (nI 3079825)) = False by decide, show (((nI 288698108) : Int32) = (nI 93927806)) = False by decide, show (((nI 288698108) : Int32) = (nI 102976443)) = False by decide, show (((nI 288698108) : Int32) = (nI 103901296)) = False by decide, show (((nI 288698108) : Int32) = (nI 106006350)) = False by decide, show (((nI 288698108) : Int32) = (nI 111433423)) = False by decide]
      simp (disch := first | omega | (simp only [hnew_21, hput_21, hnew_22, hput_22]; omega) | exact isR_ref | exact isR_null | exact isR_rf | exact isR_fmt | assumption | decide) only [e_X9_key_122, e_X9_key_123, e_X9_key_125, e_X9_key_128, e_X9_key_131, e_X9_key_132, e_X9_key_133, cR_ref, cR_null, cR_rf, c1_int, c1_ref, c1_null, c1_rf, kz_int, kz_ref, kz_null, kz_rf, kz_U, kz_long, nB_null, nB_ref, rf_none, rf_some, bV_ret, bV_thr, bA_ret, bA_thr, bX_ret, bX_thr, len4_0, len4_1, len4_2, len4_3, len4_4, true_and, and_true, and_self, if_true, if_false, Option.bind_some, nR_b1, nR_b0, nR_bI, nI_1z, nI_0z, bI_z, if_nn, gf, pf, clN, aln, gaI, gaL, gaR, saI, saR, isI, ctB, isB, gB, hput_n, hput_e, hput_21, hput_22, hnew_n, hnew_e, hnew_21, hnew_22, Option.bind_some, Option.map_some, List.lookup_cons, List.lookup_nil, beq_self_eq_true, List.getElem?_cons_zero, List.getElem?_cons_succ, List.set_cons_zero, List.set_cons_succ, List.length_cons, List.length_nil, Nat.reduceAdd, Nat.reduceLT, Nat.reduceLeDiff, Nat.reduceBEq, Nat.reduceEqDiff, okv_int, okv_oref, okv_onull, okv_orf, okv_aref, okv_b0, okv_b1, okv_z0, okv_bI, ckI_nI, lt31, leT, reduceCtorEq, List.mem_cons, List.mem_singleton, List.not_mem_nil, or_true, true_or, or_false, false_or, toR_ref, toR_null, ↓reduceIte, g1', eq, c_kt, bI_t]
    · rw [decide_eq_false hw] at eq
      have hn : ¬ w ∈ keyWs := fun q => by
        obtain ⟨j, hj, ej⟩ := key_mem.mp q
        have : j = 0 ∨ j = 1 ∨ j = 2 ∨ j = 3 ∨ j = 4 ∨ j = 5 ∨ j = 6 ∨ j = 7 ∨ j = 8 ∨ j = 9 ∨ j = 10 := by omega
        rcases this with rfl | rfl | rfl | rfl | rfl | rfl | rfl | rfl | rfl | rfl | rfl
        · rw [ej, hk_0] at c10; exact absurd c10 (by decide)
        · exact hw ej
        · rw [ej, hk_2] at c10; exact absurd c10 (by decide)
        · rw [ej, hk_3] at c10; exact absurd c10 (by decide)
        · rw [ej, hk_4] at c10; exact absurd c10 (by decide)
        · rw [ej, hk_5] at c10; exact absurd c10 (by decide)
        · rw [ej, hk_6] at c10; exact absurd c10 (by decide)
        · rw [ej, hk_7] at c10; exact absurd c10 (by decide)
        · rw [ej, hk_8] at c10; exact absurd c10 (by decide)
        · rw [ej, hk_9] at c10; exact absurd c10 (by decide)
        · rw [ej, hk_10] at c10; exact absurd c10 (by decide)
      rw [decide_eq_false hn]
      simp (disch := first | omega | (simp only [hnew_21, hput_21, hnew_22, hput_22]; omega) | exact isR_ref | exact isR_null | exact isR_rf | exact isR_fmt | assumption | decide) only [e_X9_key_8, ↓reduceIte, c10, show (((nI 288698108) : Int32) = (-1274492040)) = False by decide, show (((nI 288698108) : Int32) = (-906021636)) = False by decide, show (((nI 288698108) : Int32) = (-79017120)) = False by decide, show (((nI 288698108) : Int32) = (nI 109267)) = False by decide, show (((nI 288698108) : Int32) = (nI 3079825)) = False by decide, show (((nI 288698108) : Int32) = (nI 93927806)) = False by decide, show (((nI 288698108) : Int32) = (nI 102976443)) = False by decide, show (((nI 288698108) : Int32) = (nI 103901296)) = False by decide, show (((nI 288698108) : Int32) = (nI 106006350)) = False by decide, show (((nI 288698108) : Int32) = (nI 111433423)) = False by decide]
      simp (disch := first | omega | (simp only [hnew_21, hput_21, hnew_22, hput_22]; omega) | exact isR_ref | exact isR_null | exact isR_rf | exact isR_fmt | assumption | decide) only [e_X9_key_122, e_X9_key_123, e_X9_key_125, e_X9_key_128, e_X9_key_131, e_X9_key_132, e_X9_key_133, cR_ref, cR_null, cR_rf, c1_int, c1_ref, c1_null, c1_rf, kz_int, kz_ref, kz_null, kz_rf, kz_U, kz_long, nB_null, nB_ref, rf_none, rf_some, bV_ret, bV_thr, bA_ret, bA_thr, bX_ret, bX_thr, len4_0, len4_1, len4_2, len4_3, len4_4, true_and, and_true, and_self, if_true, if_false, Option.bind_some, nR_b1, nR_b0, nR_bI, nI_1z, nI_0z, bI_z, if_nn, gf, pf, clN, aln, gaI, gaL, gaR, saI, saR, isI, ctB, isB, gB, hput_n, hput_e, hput_21, hput_22, hnew_n, hnew_e, hnew_21, hnew_22, Option.bind_some, Option.map_some, List.lookup_cons, List.lookup_nil, beq_self_eq_true, List.getElem?_cons_zero, List.getElem?_cons_succ, List.set_cons_zero, List.set_cons_succ, List.length_cons, List.length_nil, Nat.reduceAdd, Nat.reduceLT, Nat.reduceLeDiff, Nat.reduceBEq, Nat.reduceEqDiff, okv_int, okv_oref, okv_onull, okv_orf, okv_aref, okv_b0, okv_b1, okv_z0, okv_bI, ckI_nI, lt31, leT, reduceCtorEq, List.mem_cons, List.mem_singleton, List.not_mem_nil, or_true, true_or, or_false, false_or, toR_ref, toR_null, ↓reduceIte, g1', eq, c_kf, bI_f]
  have hn : ¬ w ∈ keyWs := fun q => by
    obtain ⟨j, hj, ej⟩ := key_mem.mp q
    have : j = 0 ∨ j = 1 ∨ j = 2 ∨ j = 3 ∨ j = 4 ∨ j = 5 ∨ j = 6 ∨ j = 7 ∨ j = 8 ∨ j = 9 ∨ j = 10 := by omega
    rcases this with rfl | rfl | rfl | rfl | rfl | rfl | rfl | rfl | rfl | rfl | rfl
    · exact c1 (by rw [ej]; exact hk_0)
    · exact c10 (by rw [ej]; exact hk_1)
    · exact c8 (by rw [ej]; exact hk_2)
    · exact c4 (by rw [ej]; exact hk_3)
    · exact c6 (by rw [ej]; exact hk_4)
    · exact c0 (by rw [ej]; exact hk_5)
    · exact c2 (by rw [ej]; exact hk_6)
    · exact c7 (by rw [ej]; exact hk_7)
    · exact c9 (by rw [ej]; exact hk_8)
    · exact c3 (by rw [ej]; exact hk_9)
    · exact c5 (by rw [ej]; exact hk_10)
  rw [decide_eq_false hn]
  simp (disch := first | omega | (simp only [hnew_21, hput_21, hnew_22, hput_22]; omega) | exact isR_ref | exact isR_null | exact isR_rf | exact isR_fmt | assumption | decide) only [e_X9_key_8, ↓reduceIte, c0, c1, c2, c3, c4, c5, c6, c7, c8, c9, c10]
  exact c_kf
end RD1
