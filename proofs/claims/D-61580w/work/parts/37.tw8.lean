/-! TWIN: append, fault, count, cell -/
def okB (v : Int64) (n : Nat) : Prop := ∀ i, i < n → 32 ≤ byt v i ∧ byt v i ≤ 126
/-- the last n bytes, the highest first -/
def apB (v : Int64) : Nat → List Nat
  | 0 => []
  | n + 1 => byt v n :: apB v n
section TW8
variable {Ω : Om} {d : Nat} {h : AH} {x : Nat} {A : Nat → Nat} {σ : Tw}
theorem t_fault (hT : TwOk Ω.sz x A) : gM PG Ω (d + 1) 91 [.ref x] (tW h x A σ) = some (.returned (some (.int (σ.1 14))), tW h x A (sI σ 58 (nI 0))) := by
  simp only [n_X2_fault, e_X2_fault_0, e_X2_fault_1, e_X2_fault_2, e_X2_fault_5, e_X2_fault_6, e_X2_fault_9, tw_cl, tg14, tp58 hT, cR_ref, cR_null, cR_rf, c1_int, c1_ref, c1_null, c1_rf, kz_int, kz_ref, kz_null, kz_rf, kz_U, kz_long, nB_null, nB_ref, rf_none, rf_some, bV_ret, bV_thr, bA_ret, bA_thr, bX_ret, bX_thr, len4_0, len4_1, len4_2, len4_3, len4_4, true_and, and_true, and_self, if_true, if_false, Option.bind_some, nR_b1, nR_b0, nR_bI, nI_1z, nI_0z, bI_z, if_nn, sI_1, sI_2, sT_1, sT_21, sT_22, sA_1, sA_21, sA_221, sA_222, sL_1, sL_21, sL_221, sL_222, Nat.reduceEqDiff, ↓reduceIte]
theorem in_b {c lo hi : Nat} (hc : c < 2 ^ 31) (hl : lo < 2 ^ 31) (hh : hi < 2 ^ 31) : decide ((nI lo : Int32) ≤ nI c ∧ nI c ≤ nI hi) = decide (lo ≤ c ∧ c ≤ hi) := by
  simp only [nI_leI hl hc, nI_leI hc hh]
set_option maxHeartbeats 1000000 in
theorem t_append1 (hT : TwOk Ω.sz x A) {v : Int64} {n : Nat} (hn : n ≤ 8) {w4 : Value} : ∀ (m i : Nat) (σ : Tw), i + m = n → (∀ j, j < i → 32 ≤ byt v j ∧ byt v j ≤ 126) → ∃ σ', (okB v n → gO PG Ω (d + 1) 56 20 [.ref x, .long v, U, .int (nI n), .int (nI i)] [] (tW h x A σ) = gO PG Ω (d + 1) 56 61 [.ref x, .long v, U, .int (nI n), .int (nI n)] [] (tW h x A σ')) ∧ (¬ okB v n → gO PG Ω (d + 1) 56 20 [.ref x, .long v, U, .int (nI n), .int (nI i)] [] (tW h x A σ) = some (.returned (some (.int (nI 0))), tW h x A σ') ∧ σ'.1 58 = nI 1) ∧ Fx [58] [] [] σ σ' := by
  intro m
  induction m with
  | zero =>
    intro i σ hi hb
    have : i = n := by omega
    subst this
    refine ⟨σ, fun _ => ?_, fun q => absurd hb q, Fx.rfl'⟩
    rw [e_X2_append_20]
    simp (disch := omega) only [e_X2_append_22, e_X2_append_23, e_X2_append_26, e_X2_append_27, e_X2_append_28, e_X2_append_30, e_X2_append_32, e_X2_append_33, e_X2_append_34, e_X2_append_35, e_X2_append_38, e_X2_append_39, e_X2_append_41, e_X2_append_43, e_X2_append_46, e_X2_append_47, e_X2_append_50, e_X2_append_53, e_X2_append_54, e_X2_append_55, e_X2_append_58, tw_cl, tg12, tg13, tp13 hT, tr12 hT, ts12 hT, cR_ref, cR_null, cR_rf, c1_int, c1_ref, c1_null, c1_rf, kz_int, kz_ref, kz_null, kz_rf, kz_U, kz_long, nB_null, nB_ref, rf_none, rf_some, bV_ret, bV_thr, bA_ret, bA_thr, bX_ret, bX_thr, len4_0, len4_1, len4_2, len4_3, len4_4, true_and, and_true, and_self, if_true, if_false, Option.bind_some, nR_b1, nR_b0, nR_bI, nI_1z, nI_0z, bI_z, if_nn, nI_add, pk_mul, nI_lt_if, Nat.lt_irrefl]
  | succ m ih =>
    intro i σ hi hb
    have hil : i < n := by omega
    have hbl := byt_lt v i
    by_cases hc : 32 ≤ byt v i ∧ byt v i ≤ 126
    · obtain ⟨σ', e1, e2, e3⟩ := ih (i + 1) (sI σ 58 (nI 0)) (by omega) (fun j hj => by
        by_cases hji : j = i
        · rw [hji]; exact hc
        · exact hb j (by omega))
      have key : gO PG Ω (d + 1) 56 20 [.ref x, .long v, U, .int (nI n), .int (nI i)] [] (tW h x A σ) = gO PG Ω (d + 1) 56 20 [.ref x, .long v, U, .int (nI n), .int (nI (i + 1))] [] (tW h x A (sI σ 58 (nI 0))) := by
        rw [e_X2_append_20]
        simp (disch := omega) only [e_X2_append_22, e_X2_append_23, e_X2_append_26, e_X2_append_27, e_X2_append_28, e_X2_append_30, e_X2_append_32, e_X2_append_33, e_X2_append_34, e_X2_append_35, e_X2_append_38, e_X2_append_39, e_X2_append_41, e_X2_append_43, e_X2_append_46, e_X2_append_47, e_X2_append_50, e_X2_append_53, e_X2_append_54, e_X2_append_55, e_X2_append_58, tw_cl, tg12, tg13, tp13 hT, tr12 hT, ts12 hT, cR_ref, cR_null, cR_rf, c1_int, c1_ref, c1_null, c1_rf, kz_int, kz_ref, kz_null, kz_rf, kz_U, kz_long, nB_null, nB_ref, rf_none, rf_some, bV_ret, bV_thr, bA_ret, bA_thr, bX_ret, bX_thr, len4_0, len4_1, len4_2, len4_3, len4_4, true_and, and_true, and_self, if_true, if_false, Option.bind_some, nR_b1, nR_b0, nR_bI, nI_1z, nI_0z, bI_z, if_nn, nI_add, pk_mul, nI_lt_if, hil, t_in, byt_eq, in_b, hc, and_self, decide_true, t_good hT, Bool.true_eq_false]
      exact ⟨σ', fun q => key.trans (e1 q), fun q => ⟨key.trans (e2 q).1, (e2 q).2⟩, (Fx.sI Fx.rfl' (by decide)).trans e3⟩
    · refine ⟨sI σ 58 (nI 1), fun q => absurd (q i hil) hc, fun _ => ⟨?_, rfl⟩, Fx.sI Fx.rfl' (by decide)⟩
      rw [e_X2_append_20]
      simp (disch := omega) only [e_X2_append_22, e_X2_append_23, e_X2_append_26, e_X2_append_27, e_X2_append_28, e_X2_append_30, e_X2_append_32, e_X2_append_33, e_X2_append_34, e_X2_append_35, e_X2_append_38, e_X2_append_39, e_X2_append_41, e_X2_append_43, e_X2_append_46, e_X2_append_47, e_X2_append_50, e_X2_append_53, e_X2_append_54, e_X2_append_55, e_X2_append_58, tw_cl, tg12, tg13, tp13 hT, tr12 hT, ts12 hT, cR_ref, cR_null, cR_rf, c1_int, c1_ref, c1_null, c1_rf, kz_int, kz_ref, kz_null, kz_rf, kz_U, kz_long, nB_null, nB_ref, rf_none, rf_some, bV_ret, bV_thr, bA_ret, bA_thr, bX_ret, bX_thr, len4_0, len4_1, len4_2, len4_3, len4_4, true_and, and_true, and_self, if_true, if_false, Option.bind_some, nR_b1, nR_b0, nR_bI, nI_1z, nI_0z, bI_z, if_nn, nI_add, pk_mul, nI_lt_if, hil, t_in, byt_eq, in_b, hc, decide_false, t_good hT, Bool.false_eq_true]
theorem nI_pneg {m : Nat} (h : m < 2 ^ 31) : (nI m - nI 1 < 0) = (m = 0) := by
  apply propext
  cases m with
  | zero => exact ⟨fun _ => rfl, fun _ => by decide⟩
  | succ m => rw [pk_pred]; exact ⟨fun q => absurd q (nI_pos (by omega)), fun q => by omega⟩
theorem apB_len {v : Int64} {n : Nat} : (apB v n).length = n := by
  induction n with
  | zero => rfl
  | succ n ih => simp [apB, ih]
theorem apB_mem {v : Int64} {n c : Nat} (h : c ∈ apB v n) : ∃ i, i < n ∧ c = byt v i := by
  induction n with
  | zero => simp [apB] at h
  | succ n ih =>
    rcases List.mem_cons.mp h with e | e
    · exact ⟨n, by omega, e⟩
    · obtain ⟨i, h1, h2⟩ := ih e
      exact ⟨i, by omega, h2⟩
theorem TxL_push {cs : List Nat} {c : Nat} (h : TxL σ cs) (hl : cs.length < 160) (hc : 32 ≤ c ∧ c ≤ 126) : TxL (sI (sA σ 12 cs.length (nI c)) 13 (nI (cs.length + 1))) (cs ++ [c]) := by
  obtain ⟨h1, h2, h3, h4⟩ := h
  refine ⟨by simp [sI_1], by simp; omega, fun i q hq => ?_, fun q hq => ?_⟩
  · rw [sI_2, sA_221, if_pos rfl]
    unfold va_up
    by_cases hi : i < cs.length
    · rw [List.getElem?_append_left hi] at hq
      rw [if_neg (by omega)]; exact h3 i q hq
    · have hil : i = cs.length := by
        have := (List.getElem?_eq_some_iff.mp hq).1
        simp at this; omega
      subst hil
      simp at hq
      rw [if_pos rfl, hq]
  · rcases List.mem_append.mp hq with g | g
    · exact h4 q g
    · rw [List.mem_singleton.mp g]; exact hc
set_option maxHeartbeats 1000000 in
theorem t_append2 (hT : TwOk Ω.sz x A) {v : Int64} {w3 : Int32} : ∀ (m : Nat) (σ : Tw) (cs : List Nat), m ≤ 8 → TxL σ cs → cs.length + m ≤ 160 → okB v m → ∃ σ', gO PG Ω (d + 1) 56 93 [.ref x, .long v, U, .int w3, .int (nI m - nI 1)] [] (tW h x A σ) = some (.returned (some (.int (nI (cs ++ apB v m).length))), tW h x A σ') ∧ TxL σ' (cs ++ apB v m) ∧ Fx [13] [12] [] σ σ' := by
  intro m
  induction m with
  | zero =>
    intro σ cs h8 hx hl hb
    refine ⟨σ, ?_, by simpa [apB] using hx, Fx.rfl'⟩
    rw [e_X2_append_93]
    simp (disch := omega) only [e_X2_append_95, e_X2_append_98, e_X2_append_99, e_X2_append_102, e_X2_append_103, e_X2_append_106, e_X2_append_107, e_X2_append_109, e_X2_append_111, e_X2_append_112, e_X2_append_113, e_X2_append_114, e_X2_append_117, e_X2_append_118, e_X2_append_119, e_X2_append_120, e_X2_append_121, e_X2_append_124, e_X2_append_125, e_X2_append_126, e_X2_append_129, e_X2_append_132, e_X2_append_135, e_X2_append_136, e_X2_append_139, tw_cl, tg12, tg13, tp13 hT, tr12 hT, ts12 hT, cR_ref, cR_null, cR_rf, c1_int, c1_ref, c1_null, c1_rf, kz_int, kz_ref, kz_null, kz_rf, kz_U, kz_long, nB_null, nB_ref, rf_none, rf_some, bV_ret, bV_thr, bA_ret, bA_thr, bX_ret, bX_thr, len4_0, len4_1, len4_2, len4_3, len4_4, true_and, and_true, and_self, if_true, if_false, Option.bind_some, nR_b1, nR_b0, nR_bI, nI_1z, nI_0z, bI_z, if_nn, nI_pneg, hx.1, apB, List.append_nil]
  | succ m ih =>
    intro σ cs h8 hx hl hb
    have hc := hb m (by omega)
    have hx1 := hx.1
    obtain ⟨σ', e1, e2, e3⟩ := ih _ (cs ++ [byt v m]) (by omega) (TxL_push hx (by omega) hc) (by simp; omega) (fun i hi => hb i (by omega))
    have ea : cs ++ apB v (m + 1) = cs ++ [byt v m] ++ apB v m := by simp [apB]
    rw [ea]
    refine ⟨σ', ?_, e2, ((Fx.sA Fx.rfl' (by decide)).sI (by decide)).trans e3⟩
    rw [← e1, e_X2_append_93]
    have hz : ¬ m + 1 = 0 := by omega
    have hm := byt_lt v m
    simp (disch := omega) only [e_X2_append_95, e_X2_append_98, e_X2_append_99, e_X2_append_102, e_X2_append_103, e_X2_append_106, e_X2_append_107, e_X2_append_109, e_X2_append_111, e_X2_append_112, e_X2_append_113, e_X2_append_114, e_X2_append_117, e_X2_append_118, e_X2_append_119, e_X2_append_120, e_X2_append_121, e_X2_append_124, e_X2_append_125, e_X2_append_126, e_X2_append_129, e_X2_append_132, e_X2_append_135, e_X2_append_136, e_X2_append_139, tw_cl, tg12, tg13, tp13 hT, tr12 hT, ts12 hT, cR_ref, cR_null, cR_rf, c1_int, c1_ref, c1_null, c1_rf, kz_int, kz_ref, kz_null, kz_rf, kz_U, kz_long, nB_null, nB_ref, rf_none, rf_some, bV_ret, bV_thr, bA_ret, bA_thr, bX_ret, bX_thr, len4_0, len4_1, len4_2, len4_3, len4_4, true_and, and_true, and_self, if_true, if_false, Option.bind_some, nR_b1, nR_b0, nR_bI, nI_1z, nI_0z, bI_z, if_nn, sI_1, sI_2, sT_1, sT_21, sT_22, sA_1, sA_21, sA_221, sA_222, sL_1, sL_21, sL_221, sL_222, Nat.reduceEqDiff, ↓reduceIte, nI_add, pk_mul, nI_pneg, hz, hx1, pk_pred, byt_eq, dec1]
    rw [if_neg (nI_pos (by omega))]
/-- append: code, answer, text -/
noncomputable def sAp (cs : List Nat) (v : Int64) (n : Int32) : Nat × Nat × List Nat := if dec (nI 1 ≤ n ∧ n ≤ nI 8 ∧ okB v n.toNatClampNeg) = false then (1, 0, cs) else if 160 < cs.length + n.toNatClampNeg then (2, 0, cs) else (0, cs.length + n.toNatClampNeg, cs ++ apB v n.toNatClampNeg)
set_option maxHeartbeats 1000000 in
theorem t_append (hT : TwOk Ω.sz x A) {cs : List Nat} (hx : TxL σ cs) {v : Int64} {n : Int32} : ∃ σ', gM PG Ω (d + 2) 56 [.ref x, .long v, .int n] (tW h x A σ) = some (.returned (some (.int (nI (sAp cs v n).2.1))), tW h x A σ') ∧ σ'.1 58 = nI (sAp cs v n).1 ∧ TxL σ' (sAp cs v n).2.2 ∧ Fx [13, 58] [12] [] σ σ' := by
  by_cases h1 : nI 1 ≤ n ∧ n ≤ nI 8
  · obtain ⟨m, hm8, rfl⟩ := nI_of2 (M := nI 8) (n := 8) (by decide) (fun q => absurd h1.1 (by
      have := Int32.lt_iff_toInt_lt.mp q
      intro z
      have z' := Int32.le_iff_toInt_le.mp z
      have e1 : (nI 1).toInt = 1 := by decide
      have e0 : (0 : Int32).toInt = 0 := by decide
      omega)) h1.2
    have hcl : (nI m).toNatClampNeg = m := nI_clamp (by omega)
    have hin : decide (nI 1 ≤ nI m ∧ nI m ≤ nI 8) = true := decide_eq_true h1
    obtain ⟨σ1, a1, a2, a3⟩ := t_append1 (d := d) (h := h) (w4 := U) hT (v := v) (n := m) hm8 m 0 (sI σ 58 (nI 0)) (by omega) (fun j hj => absurd hj (Nat.not_lt_zero j))
    have x1 : TxL σ1 cs := by
      obtain ⟨z1, z2, z3, z4⟩ := hx
      exact ⟨by rw [a3.1 13 (by decide)]; exact z1, z2, fun i c hc => by rw [a3.2.1 12 (by decide)]; exact z3 i c hc, z4⟩
    by_cases h2 : okB v m
    · have hd : dec (nI 1 ≤ nI m ∧ nI m ≤ nI 8 ∧ okB v (nI m).toNatClampNeg) = true := dec_t ⟨h1.1, h1.2, by rw [hcl]; exact h2⟩
      have q13 : σ1.1 13 = nI cs.length := x1.1
      have x2 := x1.2.1
      by_cases h3 : 160 < cs.length + m
      · have e : sAp cs v (nI m) = (2, 0, cs) := by unfold sAp; rw [if_neg (by rw [hd]; decide), hcl, if_pos h3]
        rw [e]
        refine ⟨sI σ1 58 (nI 2), ?_, rfl, x1, ((Fx.sI Fx.rfl' (by decide)).trans (a3.mono (by decide) (by decide) (by decide))).sI (by decide)⟩
        simp only [n_X2_append, e_X2_append_0, e_X2_append_1, e_X2_append_2, e_X2_append_3, e_X2_append_5, e_X2_append_8, e_X2_append_9, e_X2_append_12, e_X2_append_15, e_X2_append_16, e_X2_append_17, e_X2_append_18, tw_cl, tg12, tg13, tp13 hT, tr12 hT, ts12 hT, cR_ref, cR_null, cR_rf, c1_int, c1_ref, c1_null, c1_rf, kz_int, kz_ref, kz_null, kz_rf, kz_U, kz_long, nB_null, nB_ref, rf_none, rf_some, bV_ret, bV_thr, bA_ret, bA_thr, bX_ret, bX_thr, len4_0, len4_1, len4_2, len4_3, len4_4, true_and, and_true, and_self, if_true, if_false, Option.bind_some, nR_b1, nR_b0, nR_bI, nI_1z, nI_0z, bI_z, if_nn, t_in, hin, t_good hT, Bool.true_eq_false]
        rw [a1 h2]
        simp (disch := omega) only [e_X2_append_61, e_X2_append_62, e_X2_append_63, e_X2_append_66, e_X2_append_67, e_X2_append_68, e_X2_append_71, e_X2_append_74, e_X2_append_75, e_X2_append_78, e_X2_append_79, e_X2_append_80, e_X2_append_83, e_X2_append_86, e_X2_append_87, e_X2_append_88, e_X2_append_89, e_X2_append_90, e_X2_append_91, tw_cl, tg12, tg13, tp13 hT, tr12 hT, ts12 hT, cR_ref, cR_null, cR_rf, c1_int, c1_ref, c1_null, c1_rf, kz_int, kz_ref, kz_null, kz_rf, kz_U, kz_long, nB_null, nB_ref, rf_none, rf_some, bV_ret, bV_thr, bA_ret, bA_thr, bX_ret, bX_thr, len4_0, len4_1, len4_2, len4_3, len4_4, true_and, and_true, and_self, if_true, if_false, Option.bind_some, nR_b1, nR_b0, nR_bI, nI_1z, nI_0z, bI_z, if_nn, nI_add, pk_mul, q13, nI_lt_if, h3, t_good0 hT]
      · have e : sAp cs v (nI m) = (0, cs.length + m, cs ++ apB v m) := by unfold sAp; rw [if_neg (by rw [hd]; decide), hcl, if_neg h3]
        rw [e]
        obtain ⟨σ2, b1, b2, b3⟩ := t_append2 (d := d) (h := h) (w3 := nI m) hT (v := v) m (sI σ1 58 (nI 0)) cs hm8 x1 (by omega) h2
        refine ⟨σ2, ?_, by rw [b3.1 58 (by decide)]; rfl, b2, ((Fx.sI (I := [13, 58]) (AI := [12]) Fx.rfl' (by decide)).trans ((a3.mono (by decide) (by decide) (by decide)).sI (by decide))).trans (b3.mono (by decide) (by decide) (by decide))⟩
        simp only [n_X2_append, e_X2_append_0, e_X2_append_1, e_X2_append_2, e_X2_append_3, e_X2_append_5, e_X2_append_8, e_X2_append_9, e_X2_append_12, e_X2_append_15, e_X2_append_16, e_X2_append_17, e_X2_append_18, tw_cl, tg12, tg13, tp13 hT, tr12 hT, ts12 hT, cR_ref, cR_null, cR_rf, c1_int, c1_ref, c1_null, c1_rf, kz_int, kz_ref, kz_null, kz_rf, kz_U, kz_long, nB_null, nB_ref, rf_none, rf_some, bV_ret, bV_thr, bA_ret, bA_thr, bX_ret, bX_thr, len4_0, len4_1, len4_2, len4_3, len4_4, true_and, and_true, and_self, if_true, if_false, Option.bind_some, nR_b1, nR_b0, nR_bI, nI_1z, nI_0z, bI_z, if_nn, t_in, hin, t_good hT, Bool.true_eq_false]
        rw [a1 h2]
        simp (disch := omega) only [e_X2_append_61, e_X2_append_62, e_X2_append_63, e_X2_append_66, e_X2_append_67, e_X2_append_68, e_X2_append_71, e_X2_append_74, e_X2_append_75, e_X2_append_78, e_X2_append_79, e_X2_append_80, e_X2_append_83, e_X2_append_86, e_X2_append_87, e_X2_append_88, e_X2_append_89, e_X2_append_90, e_X2_append_91, tw_cl, tg12, tg13, tp13 hT, tr12 hT, ts12 hT, cR_ref, cR_null, cR_rf, c1_int, c1_ref, c1_null, c1_rf, kz_int, kz_ref, kz_null, kz_rf, kz_U, kz_long, nB_null, nB_ref, rf_none, rf_some, bV_ret, bV_thr, bA_ret, bA_thr, bX_ret, bX_thr, len4_0, len4_1, len4_2, len4_3, len4_4, true_and, and_true, and_self, if_true, if_false, Option.bind_some, nR_b1, nR_b0, nR_bI, nI_1z, nI_0z, bI_z, if_nn, nI_add, pk_mul, q13, nI_lt_if, h3, t_good1 hT]
        rw [b1]
        simp [apB_len]
    · have e : sAp cs v (nI m) = (1, 0, cs) := by unfold sAp; rw [if_pos (dec_f (fun q => h2 (by have := q.2.2; rwa [hcl] at this)))]
      rw [e]
      refine ⟨σ1, ?_, (a2 h2).2, x1, (Fx.sI Fx.rfl' (by decide)).trans (a3.mono (by decide) (by decide) (by decide))⟩
      simp only [n_X2_append, e_X2_append_0, e_X2_append_1, e_X2_append_2, e_X2_append_3, e_X2_append_5, e_X2_append_8, e_X2_append_9, e_X2_append_12, e_X2_append_15, e_X2_append_16, e_X2_append_17, e_X2_append_18, tw_cl, tg12, tg13, tp13 hT, tr12 hT, ts12 hT, cR_ref, cR_null, cR_rf, c1_int, c1_ref, c1_null, c1_rf, kz_int, kz_ref, kz_null, kz_rf, kz_U, kz_long, nB_null, nB_ref, rf_none, rf_some, bV_ret, bV_thr, bA_ret, bA_thr, bX_ret, bX_thr, len4_0, len4_1, len4_2, len4_3, len4_4, true_and, and_true, and_self, if_true, if_false, Option.bind_some, nR_b1, nR_b0, nR_bI, nI_1z, nI_0z, bI_z, if_nn, t_in, hin, t_good hT, Bool.true_eq_false]
      exact (a2 h2).1
  · have e : sAp cs v n = (1, 0, cs) := by unfold sAp; rw [if_pos (dec_f (fun q => h1 ⟨q.1, q.2.1⟩))]
    rw [e]
    refine ⟨sI σ 58 (nI 1), ?_, rfl, hx, Fx.sI Fx.rfl' (by decide)⟩
    simp only [n_X2_append, e_X2_append_0, e_X2_append_1, e_X2_append_2, e_X2_append_3, e_X2_append_5, e_X2_append_8, e_X2_append_9, e_X2_append_12, e_X2_append_15, e_X2_append_16, e_X2_append_17, e_X2_append_18, tw_cl, tg12, tg13, tp13 hT, tr12 hT, ts12 hT, cR_ref, cR_null, cR_rf, c1_int, c1_ref, c1_null, c1_rf, kz_int, kz_ref, kz_null, kz_rf, kz_U, kz_long, nB_null, nB_ref, rf_none, rf_some, bV_ret, bV_thr, bA_ret, bA_thr, bX_ret, bX_thr, len4_0, len4_1, len4_2, len4_3, len4_4, true_and, and_true, and_self, if_true, if_false, Option.bind_some, nR_b1, nR_b0, nR_bI, nI_1z, nI_0z, bI_z, if_nn, t_in, decide_eq_false h1, t_good hT, Bool.false_eq_true]
/-- count -/
def tCnt (a : TA) (cs : List Nat) (cols : List Nat) (rows : List Sol) (n : Nat) : Nat := if n = 0 then a.1.length else if n = 1 then cols.length else if n = 2 then rows.length else if n = 3 then a.2.2.2.1 else if n = 4 then a.2.2.2.2.1 else if n = 5 then (if a.2.2.2.2.2.2 then a.2.2.1.length - a.2.2.2.2.2.1 else 0) else cs.length
theorem t_count_bad (hT : TwOk Ω.sz x A) {n : Int32} (hn : ¬ (nI 0 ≤ n ∧ n ≤ nI 6)) : gM PG Ω (d + 2) 93 [.ref x, .int n] (tW h x A σ) = some (.returned (some (.int (nI 0))), tW h x A (sI σ 58 (nI 1))) := by
  simp only [n_X2_count, e_X2_count_0, e_X2_count_1, e_X2_count_2, e_X2_count_3, e_X2_count_5, e_X2_count_8, e_X2_count_9, e_X2_count_12, e_X2_count_15, e_X2_count_16, e_X2_count_17, e_X2_count_18, e_X2_count_19, e_X2_count_22, e_X2_count_23, e_X2_count_26, e_X2_count_27, e_X2_count_30, e_X2_count_33, e_X2_count_34, e_X2_count_35, e_X2_count_38, e_X2_count_39, e_X2_count_42, e_X2_count_45, e_X2_count_46, e_X2_count_49, e_X2_count_50, e_X2_count_51, e_X2_count_52, e_X2_count_55, e_X2_count_56, e_X2_count_59, e_X2_count_62, e_X2_count_63, e_X2_count_64, e_X2_count_67, e_X2_count_68, e_X2_count_71, e_X2_count_74, e_X2_count_75, e_X2_count_76, e_X2_count_79, e_X2_count_80, e_X2_count_83, e_X2_count_86, e_X2_count_87, e_X2_count_90, e_X2_count_91, e_X2_count_94, e_X2_count_95, e_X2_count_98, e_X2_count_99, e_X2_count_102, e_X2_count_103, e_X2_count_106, tw_cl, tg1, tg10, tg11, tg13, tg55, tg57, tg7, tg8, tg9, cR_ref, cR_null, cR_rf, c1_int, c1_ref, c1_null, c1_rf, kz_int, kz_ref, kz_null, kz_rf, kz_U, kz_long, nB_null, nB_ref, rf_none, rf_some, bV_ret, bV_thr, bA_ret, bA_thr, bX_ret, bX_thr, len4_0, len4_1, len4_2, len4_3, len4_4, true_and, and_true, and_self, if_true, if_false, Option.bind_some, nR_b1, nR_b0, nR_bI, nI_1z, nI_0z, bI_z, if_nn, t_in, decide_eq_false hn, t_good hT, Bool.false_eq_true]
set_option maxHeartbeats 1000000 in
theorem t_count (hT : TwOk Ω.sz x A) {a : TA} {cs cols : List Nat} {rows : List Sol} (ha : TSto σ a) (hf : a.2.2.2.2.2.2 = true → a.2.2.2.2.2.1 ≤ a.2.2.1.length) (hx : TxL σ cs) (hr : RwL σ cols rows) {n : Nat} (hn : n ≤ 6) : gM PG Ω (d + 2) 93 [.ref x, .int (nI n)] (tW h x A σ) = some (.returned (some (.int (nI (tCnt a cs cols rows n)))), tW h x A (sI σ 58 (nI 0))) := by
  obtain ⟨L, K, Ch, cm, us, oF, op⟩ := a
  obtain ⟨hL, hn1, hK, hkn, hC, hcn, hcm, hus, hoF, hop⟩ := ha
  dsimp only at *
  have hin : decide (nI 0 ≤ nI n ∧ nI n ≤ nI 6) = true := by rw [in_b (by omega) (by decide) (by decide)]; simpa using hn
  have hs : op = true → nI Ch.length - nI oF = nI (Ch.length - oF) := fun q => pk_sub (hf q)
  simp (disch := omega) only [n_X2_count, e_X2_count_0, e_X2_count_1, e_X2_count_2, e_X2_count_3, e_X2_count_5, e_X2_count_8, e_X2_count_9, e_X2_count_12, e_X2_count_15, e_X2_count_16, e_X2_count_17, e_X2_count_18, e_X2_count_19, e_X2_count_22, e_X2_count_23, e_X2_count_26, e_X2_count_27, e_X2_count_30, e_X2_count_33, e_X2_count_34, e_X2_count_35, e_X2_count_38, e_X2_count_39, e_X2_count_42, e_X2_count_45, e_X2_count_46, e_X2_count_49, e_X2_count_50, e_X2_count_51, e_X2_count_52, e_X2_count_55, e_X2_count_56, e_X2_count_59, e_X2_count_62, e_X2_count_63, e_X2_count_64, e_X2_count_67, e_X2_count_68, e_X2_count_71, e_X2_count_74, e_X2_count_75, e_X2_count_76, e_X2_count_79, e_X2_count_80, e_X2_count_83, e_X2_count_86, e_X2_count_87, e_X2_count_90, e_X2_count_91, e_X2_count_94, e_X2_count_95, e_X2_count_98, e_X2_count_99, e_X2_count_102, e_X2_count_103, e_X2_count_106, tw_cl, tg1, tg10, tg11, tg13, tg55, tg57, tg7, tg8, tg9, cR_ref, cR_null, cR_rf, c1_int, c1_ref, c1_null, c1_rf, kz_int, kz_ref, kz_null, kz_rf, kz_U, kz_long, nB_null, nB_ref, rf_none, rf_some, bV_ret, bV_thr, bA_ret, bA_thr, bX_ret, bX_thr, len4_0, len4_1, len4_2, len4_3, len4_4, true_and, and_true, and_self, if_true, if_false, Option.bind_some, nR_b1, nR_b0, nR_bI, nI_1z, nI_0z, bI_z, if_nn, sI_1, sI_2, sT_1, sT_21, sT_22, sA_1, sA_21, sA_221, sA_222, sL_1, sL_21, sL_221, sL_222, Nat.reduceEqDiff, ↓reduceIte, t_in, hin, t_good hT, Bool.true_eq_false, nI_lt_if, nI_eq_if, nI_eq0, hn1, hcm, hus, hop, hcn, hoF, hx.1, hr.1, hr.2.1]
  have hcase : n = 0 ∨ n = 1 ∨ n = 2 ∨ n = 3 ∨ n = 4 ∨ n = 5 ∨ n = 6 := by omega
  rcases hcase with rfl | rfl | rfl | rfl | rfl | rfl | rfl
  · simp [tCnt]
  · simp [tCnt]
  · simp [tCnt]
  · simp [tCnt]
  · simp [tCnt]
  · cases op with
    | true => simp [tCnt, hs rfl]
    | false => simp [tCnt]
  · simp [tCnt]
theorem in_pred {r : Int32} {n : Nat} (hn : n < 2 ^ 31) : decide (nI 0 ≤ r ∧ r ≤ nI n - nI 1) = decide (nI 0 ≤ r ∧ r < nI n) := by
  have e0 : (nI 0).toInt = 0 := by decide
  cases n with
  | zero =>
    have e1 : (nI 0 - nI 1).toInt = -1 := by decide
    rw [decide_eq_decide]
    simp only [Int32.le_iff_toInt_le, Int32.lt_iff_toInt_lt, e0, e1]
    omega
  | succ n =>
    rw [pk_pred, decide_eq_decide]
    have e1 : (nI n).toInt = n := nI_toInt (by omega)
    have e2 : (nI (n + 1)).toInt = (n + 1 : Nat) := nI_toInt (by omega)
    simp only [Int32.le_iff_toInt_le, Int32.lt_iff_toInt_lt, e0, e1, e2]
    omega
theorem t_cell_bad (hT : TwOk Ω.sz x A) {cols : List Nat} {rows : List Sol} (hr : RwL σ cols rows) {r c : Int32} (hn : ¬ ((nI 0 ≤ r ∧ r < nI rows.length) ∧ nI 0 ≤ c ∧ c < nI cols.length)) : gM PG Ω (d + 2) 92 [.ref x, .int r, .int c] (tW h x A σ) = some (.returned (some (.long 0)), tW h x A (sI σ 58 (nI 1))) := by
  obtain ⟨h1, h2, h3, h4, h5, h6⟩ := hr
  simp (disch := omega) only [n_X2_cell, e_X2_cell_0, e_X2_cell_1, e_X2_cell_2, e_X2_cell_3, e_X2_cell_4, e_X2_cell_7, e_X2_cell_8, e_X2_cell_9, e_X2_cell_12, e_X2_cell_15, e_X2_cell_16, e_X2_cell_17, e_X2_cell_18, e_X2_cell_21, e_X2_cell_22, e_X2_cell_23, e_X2_cell_26, e_X2_cell_29, e_X2_cell_30, e_X2_cell_33, e_X2_cell_34, e_X2_cell_35, e_X2_cell_38, e_X2_cell_41, e_X2_cell_42, e_X2_cell_43, e_X2_cell_44, e_X2_cell_47, e_X2_cell_48, e_X2_cell_49, e_X2_cell_50, e_X2_cell_51, e_X2_cell_52, e_X2_cell_55, e_X2_cell_56, e_X2_cell_57, e_X2_cell_58, e_X2_cell_59, e_X2_cell_60, e_X2_cell_61, e_X2_cell_62, e_X2_cell_65, e_X2_cell_66, e_X2_cell_69, e_X2_cell_70, e_X2_cell_71, e_X2_cell_74, e_X2_cell_77, e_X2_cell_78, e_X2_cell_81, e_X2_cell_83, e_X2_cell_84, e_X2_cell_85, e_X2_cell_86, e_X2_cell_87, e_X2_cell_88, e_X2_cell_91, e_X2_cell_92, tw_cl, tg52, tg53, tg55, tg56, tg57, tr52 hT, tr53 hT, tr56 hT, ts52 hT, ts53 hT, ts56 hT, cR_ref, cR_null, cR_rf, c1_int, c1_ref, c1_null, c1_rf, kz_int, kz_ref, kz_null, kz_rf, kz_U, kz_long, nB_null, nB_ref, rf_none, rf_some, bV_ret, bV_thr, bA_ret, bA_thr, bX_ret, bX_thr, len4_0, len4_1, len4_2, len4_3, len4_4, true_and, and_true, and_self, if_true, if_false, Option.bind_some, nR_b1, nR_b0, nR_bI, nI_1z, nI_0z, bI_z, if_nn, sI_1, sI_2, sT_1, sT_21, sT_22, sA_1, sA_21, sA_221, sA_222, sL_1, sL_21, sL_221, sL_222, Nat.reduceEqDiff, ↓reduceIte, t_in, h1, h2, in_pred]
  by_cases q1 : nI 0 ≤ r ∧ r < nI rows.length
  · have q2 : ¬ (nI 0 ≤ c ∧ c < nI cols.length) := fun q => hn ⟨q1, q⟩
    simp only [decide_eq_true q1, decide_eq_false q2, Bool.true_eq_false, t_good0 hT, cR_ref, cR_null, cR_rf, c1_int, c1_ref, c1_null, c1_rf, kz_int, kz_ref, kz_null, kz_rf, kz_U, kz_long, nB_null, nB_ref, rf_none, rf_some, bV_ret, bV_thr, bA_ret, bA_thr, bX_ret, bX_thr, len4_0, len4_1, len4_2, len4_3, len4_4, true_and, and_true, and_self, if_true, if_false, Option.bind_some, nR_b1, nR_b0, nR_bI, nI_1z, nI_0z, bI_z, if_nn, e_X2_cell_38, e_X2_cell_41, e_X2_cell_42]
  · simp only [decide_eq_false q1, t_good0 hT, cR_ref, cR_null, cR_rf, c1_int, c1_ref, c1_null, c1_rf, kz_int, kz_ref, kz_null, kz_rf, kz_U, kz_long, nB_null, nB_ref, rf_none, rf_some, bV_ret, bV_thr, bA_ret, bA_thr, bX_ret, bX_thr, len4_0, len4_1, len4_2, len4_3, len4_4, true_and, and_true, and_self, if_true, if_false, Option.bind_some, nR_b1, nR_b0, nR_bI, nI_1z, nI_0z, bI_z, if_nn, e_X2_cell_38, e_X2_cell_41, e_X2_cell_42]
set_option maxHeartbeats 1000000 in
theorem t_cell (hT : TwOk Ω.sz x A) {cols : List Nat} {rows : List Sol} (hr : RwL σ cols rows) {i j v : Nat} {s : Sol} (hi : rows[i]? = some s) (hj : cols[j]? = some v) : ∃ σ', gM PG Ω (d + 2) 92 [.ref x, .int (nI i), .int (nI j)] (tW h x A σ) = some (.returned (some (.long ((s v).getD 0))), tW h x A σ') ∧ σ'.1 58 = (if (s v).isSome then nI 0 else nI 2) ∧ Fx [58] [] [] σ σ' := by
  obtain ⟨h1, h2, h3, h4, h5, h6⟩ := hr
  have hil := (List.getElem?_eq_some_iff.mp hi).1
  have hjl := (List.getElem?_eq_some_iff.mp hj).1
  obtain ⟨hv6, e56⟩ := h5 j v hj
  obtain ⟨e53, e52⟩ := h6 i s hi
  have hml := msk_lt s
  have q1 : decide (nI 0 ≤ nI i ∧ nI i < nI rows.length) = true := decide_eq_true ⟨(nI_leI (by decide) (by omega)).mpr (by omega), (nI_ltI (by omega) (by omega)).mpr hil⟩
  have q2 : decide (nI 0 ≤ nI j ∧ nI j < nI cols.length) = true := decide_eq_true ⟨(nI_leI (by decide) (by omega)).mpr (by omega), (nI_ltI (by omega) (by omega)).mpr hjl⟩
  cases hs : s v with
  | some t =>
    refine ⟨sI (sI σ 58 (nI 0)) 58 (nI 0), ?_, rfl, ((Fx.sI Fx.rfl' (by decide)).sI (by decide))⟩
    simp (disch := omega) only [n_X2_cell, e_X2_cell_0, e_X2_cell_1, e_X2_cell_2, e_X2_cell_3, e_X2_cell_4, e_X2_cell_7, e_X2_cell_8, e_X2_cell_9, e_X2_cell_12, e_X2_cell_15, e_X2_cell_16, e_X2_cell_17, e_X2_cell_18, e_X2_cell_21, e_X2_cell_22, e_X2_cell_23, e_X2_cell_26, e_X2_cell_29, e_X2_cell_30, e_X2_cell_33, e_X2_cell_34, e_X2_cell_35, e_X2_cell_38, e_X2_cell_41, e_X2_cell_42, e_X2_cell_43, e_X2_cell_44, e_X2_cell_47, e_X2_cell_48, e_X2_cell_49, e_X2_cell_50, e_X2_cell_51, e_X2_cell_52, e_X2_cell_55, e_X2_cell_56, e_X2_cell_57, e_X2_cell_58, e_X2_cell_59, e_X2_cell_60, e_X2_cell_61, e_X2_cell_62, e_X2_cell_65, e_X2_cell_66, e_X2_cell_69, e_X2_cell_70, e_X2_cell_71, e_X2_cell_74, e_X2_cell_77, e_X2_cell_78, e_X2_cell_81, e_X2_cell_83, e_X2_cell_84, e_X2_cell_85, e_X2_cell_86, e_X2_cell_87, e_X2_cell_88, e_X2_cell_91, e_X2_cell_92, tw_cl, tg52, tg53, tg55, tg56, tg57, tr52 hT, tr53 hT, tr56 hT, ts52 hT, ts53 hT, ts56 hT, cR_ref, cR_null, cR_rf, c1_int, c1_ref, c1_null, c1_rf, kz_int, kz_ref, kz_null, kz_rf, kz_U, kz_long, nB_null, nB_ref, rf_none, rf_some, bV_ret, bV_thr, bA_ret, bA_thr, bX_ret, bX_thr, len4_0, len4_1, len4_2, len4_3, len4_4, true_and, and_true, and_self, if_true, if_false, Option.bind_some, nR_b1, nR_b0, nR_bI, nI_1z, nI_0z, bI_z, if_nn, sI_1, sI_2, sT_1, sT_21, sT_22, sA_1, sA_21, sA_221, sA_222, sL_1, sL_21, sL_221, sL_222, Nat.reduceEqDiff, ↓reduceIte, nI_add, pk_mul, t_in, h1, h2, in_pred, q1, q2, Bool.true_eq_false, t_good1 hT, e56, e53, bit_if, msk_bit, hs, Option.isSome_some, e52 v t hv6 hs, Option.getD_some]
  | none =>
    refine ⟨sI (sI σ 58 (nI 0)) 58 (nI 2), ?_, rfl, ((Fx.sI Fx.rfl' (by decide)).sI (by decide))⟩
    simp (disch := omega) only [n_X2_cell, e_X2_cell_0, e_X2_cell_1, e_X2_cell_2, e_X2_cell_3, e_X2_cell_4, e_X2_cell_7, e_X2_cell_8, e_X2_cell_9, e_X2_cell_12, e_X2_cell_15, e_X2_cell_16, e_X2_cell_17, e_X2_cell_18, e_X2_cell_21, e_X2_cell_22, e_X2_cell_23, e_X2_cell_26, e_X2_cell_29, e_X2_cell_30, e_X2_cell_33, e_X2_cell_34, e_X2_cell_35, e_X2_cell_38, e_X2_cell_41, e_X2_cell_42, e_X2_cell_43, e_X2_cell_44, e_X2_cell_47, e_X2_cell_48, e_X2_cell_49, e_X2_cell_50, e_X2_cell_51, e_X2_cell_52, e_X2_cell_55, e_X2_cell_56, e_X2_cell_57, e_X2_cell_58, e_X2_cell_59, e_X2_cell_60, e_X2_cell_61, e_X2_cell_62, e_X2_cell_65, e_X2_cell_66, e_X2_cell_69, e_X2_cell_70, e_X2_cell_71, e_X2_cell_74, e_X2_cell_77, e_X2_cell_78, e_X2_cell_81, e_X2_cell_83, e_X2_cell_84, e_X2_cell_85, e_X2_cell_86, e_X2_cell_87, e_X2_cell_88, e_X2_cell_91, e_X2_cell_92, tw_cl, tg52, tg53, tg55, tg56, tg57, tr52 hT, tr53 hT, tr56 hT, ts52 hT, ts53 hT, ts56 hT, cR_ref, cR_null, cR_rf, c1_int, c1_ref, c1_null, c1_rf, kz_int, kz_ref, kz_null, kz_rf, kz_U, kz_long, nB_null, nB_ref, rf_none, rf_some, bV_ret, bV_thr, bA_ret, bA_thr, bX_ret, bX_thr, len4_0, len4_1, len4_2, len4_3, len4_4, true_and, and_true, and_self, if_true, if_false, Option.bind_some, nR_b1, nR_b0, nR_bI, nI_1z, nI_0z, bI_z, if_nn, sI_1, sI_2, sT_1, sT_21, sT_22, sA_1, sA_21, sA_221, sA_222, sL_1, sL_21, sL_221, sL_222, Nat.reduceEqDiff, ↓reduceIte, nI_add, pk_mul, t_in, h1, h2, in_pred, q1, q2, Bool.true_eq_false, t_good1 hT, t_good0 hT, e56, e53, bit_if, msk_bit, hs, Option.isSome_none, Bool.false_eq_true, Option.getD_none]
end TW8
