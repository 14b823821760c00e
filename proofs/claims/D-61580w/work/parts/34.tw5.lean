/-! TWIN, the store's face: add, remove, begin, commit, rollback, sync, crash -/
theorem TSto.c58 {σ : Tw} {a : TA} {v : Int32} (h : TSto σ a) : TSto (sI σ 58 v) a := ⟨h.1, h.2.1, h.2.2.1, h.2.2.2.1, h.2.2.2.2.1, h.2.2.2.2.2.1, h.2.2.2.2.2.2.1, h.2.2.2.2.2.2.2.1, h.2.2.2.2.2.2.2.2.1, h.2.2.2.2.2.2.2.2.2⟩
/-- add (b) and remove: code, answer, store -/
noncomputable def tAR (a : TA) (b : Bool) (t : Tri) : Nat × Nat × TA := if dec (okTri t.1 t.2.1 t.2.2) = false then (1, 0, a) else if decide (t ∈ a.1) = b then (0, 0, a) else if b = true ∧ a.1.length = 48 then (2, 0, a) else (0, 1, tDo a b t)
section TW5
variable {Ω : Om} {d : Nat} {h : AH} {x : Nat} {A : Nat → Nat} {σ : Tw}
theorem t_ar_does (hT : TwOk Ω.sz x A) {a : TA} (ha : TSto σ a) (h48 : a.1.length ≤ 48) (h8 : a.2.2.1.length < 800) {s p o : Int64} {b : Bool} (h1 : okTri s p o) : ∃ σ', gM PG Ω (d + 4) 44 [.ref x, .int (bI b), .long s, .long p, .long o] (tW h x A (sI σ 58 (nI 0))) = some (.returned (some (.int (nI (tAR a b (s, p, o)).2.1))), tW h x A σ') ∧ σ'.1 58 = nI (tAR a b (s, p, o)).1 ∧ TSto σ' (tAR a b (s, p, o)).2.2 ∧ FxS σ σ' := by
  have ha' := ha.c58 (v := nI 0)
  have hq : ¬ dec (okTri s p o) = false := by rw [dec_t h1]; decide
  by_cases h2 : decide ((s, p, o) ∈ a.1) = b
  · have e : tAR a b (s, p, o) = (0, 0, a) := by unfold tAR; rw [if_neg hq, if_pos h2]
    rw [e]
    exact ⟨sI σ 58 (nI 0), t_does_same hT ha'.1 ha'.2.1 h48 h2, rfl, ha', Fx.rfl'.sI (by decide)⟩
  · by_cases h3 : b = true ∧ a.1.length = 48
    · have e : tAR a b (s, p, o) = (2, 0, a) := by unfold tAR; rw [if_neg hq, if_neg h2, if_pos h3]
      rw [e]
      obtain ⟨rfl, h3⟩ := h3
      exact ⟨sI (sI σ 58 (nI 0)) 58 (nI 2), t_does_full hT ha'.1 ha'.2.1 h3 (fun q => h2 (decide_eq_true q)), rfl, ha'.c58, (Fx.rfl'.sI (by decide)).sI (by decide)⟩
    · have e : tAR a b (s, p, o) = (0, 1, tDo a b (s, p, o)) := by unfold tAR; rw [if_neg hq, if_neg h2, if_neg h3]
      rw [e]
      obtain ⟨σ', e1, e2, e3, e4⟩ := t_does_do (d := d) (h := h) hT ha' h48 h8 h2 (fun hb => by have : a.1.length ≠ 48 := fun q => h3 ⟨hb, q⟩; omega)
      exact ⟨σ', e1, e4 rfl, e2, (Fx.sI (I := stI) Fx.rfl' (by decide)).trans e3⟩
theorem t_add (hT : TwOk Ω.sz x A) {a : TA} (ha : TSto σ a) (h48 : a.1.length ≤ 48) (h8 : a.2.2.1.length < 800) {s p o : Int64} : ∃ σ', gM PG Ω (d + 5) 38 [.ref x, .long s, .long p, .long o] (tW h x A σ) = some (.returned (some (.int (nI (tAR a true (s, p, o)).2.1))), tW h x A σ') ∧ σ'.1 58 = nI (tAR a true (s, p, o)).1 ∧ TSto σ' (tAR a true (s, p, o)).2.2 ∧ FxS σ σ' := by
  by_cases h1 : okTri s p o
  · obtain ⟨σ', e1, e2⟩ := t_ar_does (d := d) (h := h) hT ha h48 h8 (b := true) h1
    refine ⟨σ', ?_, e2⟩
    rw [bI_t] at e1
    simp only [n_X2_add, e_X2_add_0, e_X2_add_1, e_X2_add_2, e_X2_add_3, e_X2_add_5, e_X2_add_8, e_X2_add_11, e_X2_add_12, e_X2_add_13, e_X2_add_14, e_X2_add_15, e_X2_add_17, e_X2_add_20, e_X2_add_23, e_X2_add_24, tw_cl, cR_ref, cR_null, cR_rf, c1_int, c1_ref, c1_null, c1_rf, kz_int, kz_ref, kz_null, kz_rf, kz_U, kz_long, nB_null, nB_ref, rf_none, rf_some, bV_ret, bV_thr, bA_ret, bA_thr, bX_ret, bX_thr, len4_0, len4_1, len4_2, len4_3, len4_4, true_and, and_true, and_self, if_true, if_false, Option.bind_some, nR_b1, nR_b0, nR_bI, nI_1z, nI_0z, bI_z, if_nn, t_isTriple hT, dec_t h1, bI_t, e1]
  · have e : tAR a true (s, p, o) = (1, 0, a) := by unfold tAR; rw [if_pos (dec_f h1)]
    rw [e]
    refine ⟨sI σ 58 (nI 1), ?_, rfl, ha.c58, Fx.rfl'.sI (by decide)⟩
    simp only [n_X2_add, e_X2_add_0, e_X2_add_1, e_X2_add_2, e_X2_add_3, e_X2_add_5, e_X2_add_8, e_X2_add_11, e_X2_add_12, e_X2_add_13, e_X2_add_14, e_X2_add_15, e_X2_add_17, e_X2_add_20, e_X2_add_23, e_X2_add_24, tw_cl, cR_ref, cR_null, cR_rf, c1_int, c1_ref, c1_null, c1_rf, kz_int, kz_ref, kz_null, kz_rf, kz_U, kz_long, nB_null, nB_ref, rf_none, rf_some, bV_ret, bV_thr, bA_ret, bA_thr, bX_ret, bX_thr, len4_0, len4_1, len4_2, len4_3, len4_4, true_and, and_true, and_self, if_true, if_false, Option.bind_some, nR_b1, nR_b0, nR_bI, nI_1z, nI_0z, bI_z, if_nn, t_isTriple hT, dec_f h1, bI_f, Bool.false_eq_true]
theorem t_remove (hT : TwOk Ω.sz x A) {a : TA} (ha : TSto σ a) (h48 : a.1.length ≤ 48) (h8 : a.2.2.1.length < 800) {s p o : Int64} : ∃ σ', gM PG Ω (d + 5) 48 [.ref x, .long s, .long p, .long o] (tW h x A σ) = some (.returned (some (.int (nI (tAR a false (s, p, o)).2.1))), tW h x A σ') ∧ σ'.1 58 = nI (tAR a false (s, p, o)).1 ∧ TSto σ' (tAR a false (s, p, o)).2.2 ∧ FxS σ σ' := by
  by_cases h1 : okTri s p o
  · obtain ⟨σ', e1, e2⟩ := t_ar_does (d := d) (h := h) hT ha h48 h8 (b := false) h1
    refine ⟨σ', ?_, e2⟩
    rw [bI_f] at e1
    simp only [n_X2_remove, e_X2_remove_0, e_X2_remove_1, e_X2_remove_2, e_X2_remove_3, e_X2_remove_5, e_X2_remove_8, e_X2_remove_11, e_X2_remove_12, e_X2_remove_13, e_X2_remove_14, e_X2_remove_15, e_X2_remove_17, e_X2_remove_20, e_X2_remove_23, e_X2_remove_24, tw_cl, cR_ref, cR_null, cR_rf, c1_int, c1_ref, c1_null, c1_rf, kz_int, kz_ref, kz_null, kz_rf, kz_U, kz_long, nB_null, nB_ref, rf_none, rf_some, bV_ret, bV_thr, bA_ret, bA_thr, bX_ret, bX_thr, len4_0, len4_1, len4_2, len4_3, len4_4, true_and, and_true, and_self, if_true, if_false, Option.bind_some, nR_b1, nR_b0, nR_bI, nI_1z, nI_0z, bI_z, if_nn, t_isTriple hT, dec_t h1, bI_t, e1]
  · have e : tAR a false (s, p, o) = (1, 0, a) := by unfold tAR; rw [if_pos (dec_f h1)]
    rw [e]
    refine ⟨sI σ 58 (nI 1), ?_, rfl, ha.c58, Fx.rfl'.sI (by decide)⟩
    simp only [n_X2_remove, e_X2_remove_0, e_X2_remove_1, e_X2_remove_2, e_X2_remove_3, e_X2_remove_5, e_X2_remove_8, e_X2_remove_11, e_X2_remove_12, e_X2_remove_13, e_X2_remove_14, e_X2_remove_15, e_X2_remove_17, e_X2_remove_20, e_X2_remove_23, e_X2_remove_24, tw_cl, cR_ref, cR_null, cR_rf, c1_int, c1_ref, c1_null, c1_rf, kz_int, kz_ref, kz_null, kz_rf, kz_U, kz_long, nB_null, nB_ref, rf_none, rf_some, bV_ret, bV_thr, bA_ret, bA_thr, bX_ret, bX_thr, len4_0, len4_1, len4_2, len4_3, len4_4, true_and, and_true, and_self, if_true, if_false, Option.bind_some, nR_b1, nR_b0, nR_bI, nI_1z, nI_0z, bI_z, if_nn, t_isTriple hT, dec_f h1, bI_f, Bool.false_eq_true]
/-- begin -/
theorem t_begin (hT : TwOk Ω.sz x A) {L K : List Tri} {Ch : List (Chg × Nat)} {cm us oF : Nat} {op : Bool} (ha : TSto σ (L, K, Ch, cm, us, oF, op)) : ∃ σ', gM PG Ω (d + 2) 49 [.ref x] (tW h x A σ) = some (.returned (some (.int (if op then nI 0 else nI cm))), tW h x A σ') ∧ σ'.1 58 = (if op then nI 1 else nI 0) ∧ TSto σ' (if op then (L, K, Ch, cm, us, oF, op) else (L, K, Ch, cm, us, Ch.length, true)) ∧ FxS σ σ' := by
  obtain ⟨hL, hn, hK, hkn, hC, hcn, hcm, hus, hoF, hop⟩ := ha
  cases op with
  | true =>
    rw [bI_t] at hop
    refine ⟨sI σ 58 (nI 1), ?_, rfl, ⟨hL, hn, hK, hkn, hC, hcn, hcm, hus, hoF, hop⟩, Fx.rfl'.sI (by decide)⟩
    simp only [n_X2_begin, e_X2_begin_0, e_X2_begin_1, e_X2_begin_2, e_X2_begin_5, e_X2_begin_8, e_X2_begin_9, e_X2_begin_12, e_X2_begin_13, e_X2_begin_14, e_X2_begin_17, e_X2_begin_20, e_X2_begin_21, e_X2_begin_22, e_X2_begin_23, e_X2_begin_24, e_X2_begin_27, e_X2_begin_28, e_X2_begin_29, e_X2_begin_32, e_X2_begin_35, e_X2_begin_36, e_X2_begin_39, tw_cl, tg10, tg7, tg8, tp10 hT, tp11 hT, cR_ref, cR_null, cR_rf, c1_int, c1_ref, c1_null, c1_rf, kz_int, kz_ref, kz_null, kz_rf, kz_U, kz_long, nB_null, nB_ref, rf_none, rf_some, bV_ret, bV_thr, bA_ret, bA_thr, bX_ret, bX_thr, len4_0, len4_1, len4_2, len4_3, len4_4, true_and, and_true, and_self, if_true, if_false, Option.bind_some, nR_b1, nR_b0, nR_bI, nI_1z, nI_0z, bI_z, if_nn, sI_1, sI_2, sT_1, sT_21, sT_22, sA_1, sA_21, sA_221, sA_222, sL_1, sL_21, sL_221, sL_222, Nat.reduceEqDiff, ↓reduceIte, hop, t_good1 hT, t_good0 hT]
  | false =>
    rw [bI_f] at hop
    refine ⟨sI (sI (sI σ 58 (nI 0)) 10 (nI 1)) 11 (nI Ch.length), ?_, rfl, ⟨hL, hn, hK, hkn, hC, hcn, hcm, hus, rfl, rfl⟩, ((Fx.rfl'.sI (by decide)).sI (by decide)).sI (by decide)⟩
    simp only [n_X2_begin, e_X2_begin_0, e_X2_begin_1, e_X2_begin_2, e_X2_begin_5, e_X2_begin_8, e_X2_begin_9, e_X2_begin_12, e_X2_begin_13, e_X2_begin_14, e_X2_begin_17, e_X2_begin_20, e_X2_begin_21, e_X2_begin_22, e_X2_begin_23, e_X2_begin_24, e_X2_begin_27, e_X2_begin_28, e_X2_begin_29, e_X2_begin_32, e_X2_begin_35, e_X2_begin_36, e_X2_begin_39, tw_cl, tg10, tg7, tg8, tp10 hT, tp11 hT, cR_ref, cR_null, cR_rf, c1_int, c1_ref, c1_null, c1_rf, kz_int, kz_ref, kz_null, kz_rf, kz_U, kz_long, nB_null, nB_ref, rf_none, rf_some, bV_ret, bV_thr, bA_ret, bA_thr, bX_ret, bX_thr, len4_0, len4_1, len4_2, len4_3, len4_4, true_and, and_true, and_self, if_true, if_false, Option.bind_some, nR_b1, nR_b0, nR_bI, nI_1z, nI_0z, bI_z, if_nn, sI_1, sI_2, sT_1, sT_21, sT_22, sA_1, sA_21, sA_221, sA_222, sL_1, sL_21, sL_221, sL_222, Nat.reduceEqDiff, ↓reduceIte, hop, t_good1 hT, t_good0 hT, okv_b1, hcn, hcm, Bool.false_eq_true]
/-- commit -/
theorem t_commit (hT : TwOk Ω.sz x A) {L K : List Tri} {Ch : List (Chg × Nat)} {cm us oF : Nat} {op : Bool} (ha : TSto σ (L, K, Ch, cm, us, oF, op)) (hf : op = true → oF ≤ Ch.length) : ∃ σ', gM PG Ω (d + 2) 50 [.ref x] (tW h x A σ) = some (.returned (some (.int (if op then nI (Ch.length - oF) else nI 0))), tW h x A σ') ∧ σ'.1 58 = (if op then nI 0 else nI 1) ∧ TSto σ' (if op then (L, K, Ch, cm + 1, us + 1, oF, false) else (L, K, Ch, cm, us, oF, op)) ∧ FxS σ σ' := by
  obtain ⟨hL, hn, hK, hkn, hC, hcn, hcm, hus, hoF, hop⟩ := ha
  cases op with
  | false =>
    refine ⟨sI σ 58 (nI 1), ?_, rfl, ⟨hL, hn, hK, hkn, hC, hcn, hcm, hus, hoF, hop⟩, Fx.rfl'.sI (by decide)⟩
    rw [bI_f] at hop
    simp only [n_X2_commit, e_X2_commit_0, e_X2_commit_1, e_X2_commit_2, e_X2_commit_5, e_X2_commit_6, e_X2_commit_9, e_X2_commit_12, e_X2_commit_13, e_X2_commit_14, e_X2_commit_15, e_X2_commit_18, e_X2_commit_19, e_X2_commit_22, e_X2_commit_23, e_X2_commit_26, e_X2_commit_27, tw_cl, tg10, tg11, tg7, cR_ref, cR_null, cR_rf, c1_int, c1_ref, c1_null, c1_rf, kz_int, kz_ref, kz_null, kz_rf, kz_U, kz_long, nB_null, nB_ref, rf_none, rf_some, bV_ret, bV_thr, bA_ret, bA_thr, bX_ret, bX_thr, len4_0, len4_1, len4_2, len4_3, len4_4, true_and, and_true, and_self, if_true, if_false, Option.bind_some, nR_b1, nR_b0, nR_bI, nI_1z, nI_0z, bI_z, if_nn, sI_1, sI_2, sT_1, sT_21, sT_22, sA_1, sA_21, sA_221, sA_222, sL_1, sL_21, sL_221, sL_222, Nat.reduceEqDiff, ↓reduceIte, hop, t_good1 hT, t_good0 hT, Bool.false_eq_true]
  | true =>
    rw [bI_t] at hop
    have hs : nI Ch.length - nI oF = nI (Ch.length - oF) := pk_sub (hf rfl)
    refine ⟨sI (sI (sI (sI σ 58 (nI 0)) 8 (nI (cm + 1))) 9 (nI (us + 1))) 10 (nI 0), ?_, rfl, ⟨hL, hn, hK, hkn, hC, hcn, rfl, rfl, hoF, rfl⟩, (((Fx.rfl'.sI (by decide)).sI (by decide)).sI (by decide)).sI (by decide)⟩
    simp only [n_X2_commit, e_X2_commit_0, e_X2_commit_1, e_X2_commit_2, e_X2_commit_5, e_X2_commit_6, e_X2_commit_9, e_X2_commit_12, e_X2_commit_13, e_X2_commit_14, e_X2_commit_15, e_X2_commit_18, e_X2_commit_19, e_X2_commit_22, e_X2_commit_23, e_X2_commit_26, e_X2_commit_27, tw_cl, tg10, tg11, tg7, cR_ref, cR_null, cR_rf, c1_int, c1_ref, c1_null, c1_rf, kz_int, kz_ref, kz_null, kz_rf, kz_U, kz_long, nB_null, nB_ref, rf_none, rf_some, bV_ret, bV_thr, bA_ret, bA_thr, bX_ret, bX_thr, len4_0, len4_1, len4_2, len4_3, len4_4, true_and, and_true, and_self, if_true, if_false, Option.bind_some, nR_b1, nR_b0, nR_bI, nI_1z, nI_0z, bI_z, if_nn, sI_1, sI_2, sT_1, sT_21, sT_22, sA_1, sA_21, sA_221, sA_222, sL_1, sL_21, sL_221, sL_222, Nat.reduceEqDiff, ↓reduceIte, nI_add, pk_mul, hop, t_good1 hT, t_good0 hT, t_close hT, hcn, hcm, hus, hoF, hs]
/-- rollback -/
theorem t_rollback (hT : TwOk Ω.sz x A) {L K : List Tri} {C0 Cu : List (Chg × Nat)} {cm us oF : Nat} {op : Bool} (ha : TSto σ (L, K, C0 ++ Cu, cm, us, oF, op)) (hf : op = true → oF = C0.length) (h8 : (C0 ++ Cu).length < 800) (hok : op = true → okL L (undL (Cu.map (·.1)))) : ∃ σ', gM PG Ω (d + 4) 51 [.ref x] (tW h x A σ) = some (.returned (some (.int (if op then nI Cu.length else nI 0))), tW h x A σ') ∧ σ'.1 58 = (if op then nI 0 else nI 1) ∧ TSto σ' (if op then (apL L (undL (Cu.map (·.1))), K, C0, cm, us, oF, false) else (L, K, C0 ++ Cu, cm, us, oF, op)) ∧ FxS σ σ' := by
  obtain ⟨hL, hn, hK, hkn, hC, hcn, hcm, hus, hoF, hop⟩ := ha
  cases op with
  | false =>
    refine ⟨sI σ 58 (nI 1), ?_, rfl, ⟨hL, hn, hK, hkn, hC, hcn, hcm, hus, hoF, hop⟩, Fx.rfl'.sI (by decide)⟩
    rw [bI_f] at hop
    simp only [n_X2_rollback, e_X2_rollback_0, e_X2_rollback_1, e_X2_rollback_2, e_X2_rollback_5, e_X2_rollback_6, e_X2_rollback_9, e_X2_rollback_12, e_X2_rollback_13, e_X2_rollback_14, e_X2_rollback_15, e_X2_rollback_18, e_X2_rollback_19, e_X2_rollback_22, e_X2_rollback_23, e_X2_rollback_24, e_X2_rollback_25, e_X2_rollback_26, e_X2_rollback_29, e_X2_rollback_32, e_X2_rollback_33, e_X2_rollback_34, e_X2_rollback_37, e_X2_rollback_38, tw_cl, tg10, tg11, tg7, tp10 hT, cR_ref, cR_null, cR_rf, c1_int, c1_ref, c1_null, c1_rf, kz_int, kz_ref, kz_null, kz_rf, kz_U, kz_long, nB_null, nB_ref, rf_none, rf_some, bV_ret, bV_thr, bA_ret, bA_thr, bX_ret, bX_thr, len4_0, len4_1, len4_2, len4_3, len4_4, true_and, and_true, and_self, if_true, if_false, Option.bind_some, nR_b1, nR_b0, nR_bI, nI_1z, nI_0z, bI_z, if_nn, sI_1, sI_2, sT_1, sT_21, sT_22, sA_1, sA_21, sA_221, sA_222, sL_1, sL_21, sL_221, sL_222, Nat.reduceEqDiff, ↓reduceIte, hop, t_good1 hT, t_good0 hT, Bool.false_eq_true]
  | true =>
    rw [bI_t] at hop
    have hf := hf rfl
    subst hf
    have hs : nI (C0 ++ Cu).length - nI C0.length = nI Cu.length := by rw [pk_sub (by simp)]; simp
    obtain ⟨σ', e1, e2, e3, e4, e5⟩ := t_undo (d := d) (h := h) (σ := sI σ 58 (nI 0)) hT (L := L) (C0 := C0) (Cu := Cu) hL hn hC hcn h8 (hok rfl)
    refine ⟨sI σ' 10 (nI 0), ?_, by rw [sI_1, if_neg (by decide), e5.1 58 (by decide)]; rfl, ?_, (Fx.sI (I := stI) Fx.rfl' (by decide)).trans ((e5.mono (by decide) (by decide) (by decide)).sI (by decide))⟩
    · simp only [n_X2_rollback, e_X2_rollback_0, e_X2_rollback_1, e_X2_rollback_2, e_X2_rollback_5, e_X2_rollback_6, e_X2_rollback_9, e_X2_rollback_12, e_X2_rollback_13, e_X2_rollback_14, e_X2_rollback_15, e_X2_rollback_18, e_X2_rollback_19, e_X2_rollback_22, e_X2_rollback_23, e_X2_rollback_24, e_X2_rollback_25, e_X2_rollback_26, e_X2_rollback_29, e_X2_rollback_32, e_X2_rollback_33, e_X2_rollback_34, e_X2_rollback_37, e_X2_rollback_38, tw_cl, tg10, tg11, tg7, tp10 hT, cR_ref, cR_null, cR_rf, c1_int, c1_ref, c1_null, c1_rf, kz_int, kz_ref, kz_null, kz_rf, kz_U, kz_long, nB_null, nB_ref, rf_none, rf_some, bV_ret, bV_thr, bA_ret, bA_thr, bX_ret, bX_thr, len4_0, len4_1, len4_2, len4_3, len4_4, true_and, and_true, and_self, if_true, if_false, Option.bind_some, nR_b1, nR_b0, nR_bI, nI_1z, nI_0z, bI_z, if_nn, sI_1, sI_2, sT_1, sT_21, sT_22, sA_1, sA_21, sA_221, sA_222, sL_1, sL_21, sL_221, sL_222, Nat.reduceEqDiff, ↓reduceIte, nI_add, pk_mul, hop, t_good1 hT, t_good0 hT, hcn, hoF, hs, e1, okv_b0]
    · have hC0 : ChL σ C0 := ChL.pre hC
      exact ⟨e2, e3, (show TrL (σ'.2.2.2 2) K by rw [e5.2.2 2 (by decide)]; exact hK), (show σ'.1 3 = _ by rw [e5.1 3 (by decide)]; exact hkn), hC0.of (e5.2.2 4 (by decide)) (e5.2.1 5 (by decide)) (e5.2.1 6 (by decide)), e4, (show σ'.1 8 = _ by rw [e5.1 8 (by decide)]; exact hcm), (show σ'.1 9 = _ by rw [e5.1 9 (by decide)]; exact hus), (show σ'.1 11 = _ by rw [e5.1 11 (by decide)]; exact hoF), rfl⟩
end TW5
