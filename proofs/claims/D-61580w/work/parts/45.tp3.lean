/-! TWIN, reading: tests -/
/-- only test n -/
def FxT (n : Nat) (σ σ' : Tw) : Prop := Fx [15, 17, 18, 19, 20, 24] [33, 37, 38] [23, 34] σ σ' ∧ (∀ i, (i < 60 + 2 * n ∨ 62 + 2 * n ≤ i) → σ'.2.2.1 33 i = σ.2.2.1 33 i ∧ σ'.2.2.2 34 i = σ.2.2.2 34 i) ∧ ∀ i, i ≠ n → σ'.2.2.1 37 i = σ.2.2.1 37 i ∧ σ'.2.2.1 38 i = σ.2.2.1 38 i
section TP3
variable {Ω : Om} {d : Nat} {h : AH} {x : Nat} {A : Nat → Nat} {σ σ' : Tw} {cs : List Nat} {s : PS} {n : Nat}
theorem FxT.rfl' : FxT n σ σ := ⟨Fx.rfl', fun _ _ => ⟨rfl, rfl⟩, fun _ _ => ⟨rfl, rfl⟩⟩
theorem FxT.trans {σ'' : Tw} (h : FxT n σ σ') (h' : FxT n σ' σ'') : FxT n σ σ'' := ⟨h.1.trans h'.1, fun i hi => ⟨(h'.2.1 i hi).1.trans (h.2.1 i hi).1, (h'.2.1 i hi).2.trans (h.2.1 i hi).2⟩, fun i hi => ⟨(h'.2.2 i hi).1.trans (h.2.2 i hi).1, (h'.2.2 i hi).2.trans (h.2.2 i hi).2⟩⟩
theorem FxD.T {lo hi : Nat} (h : FxD lo hi σ σ') (h1 : 60 + 2 * n ≤ lo) (h2 : hi ≤ 62 + 2 * n) : FxT n σ σ' := ⟨h.1.mono (by decide) (by decide) (by decide), fun i q => h.2 i (by omega), fun i _ => ⟨by rw [h.1.2.1 37 (by decide)], by rw [h.1.2.1 38 (by decide)]⟩⟩
theorem FxV.T (h : FxV σ σ') : FxT n σ σ' := (FxV.D (lo := 60 + 2 * n) (hi := 62 + 2 * n) h).T (Nat.le_refl _) (Nat.le_refl _)
theorem FxT.s37 {v : Int32} (h : FxT n σ σ') : FxT n σ (sA σ' 37 n v) := by
  refine ⟨h.1.sA (by decide), h.2.1, fun i hi => ?_⟩
  have := h.2.2 i hi
  rw [sA_221, if_pos rfl, sA_221, if_neg (by decide)]
  unfold va_up
  rw [if_neg hi]
  exact this
theorem FxT.s38 {v : Int32} (h : FxT n σ σ') : FxT n σ (sA σ' 38 n v) := by
  refine ⟨h.1.sA (by decide), h.2.1, fun i hi => ?_⟩
  have := h.2.2 i hi
  rw [sA_221, if_neg (by decide), sA_221, if_pos rfl]
  unfold va_up
  rw [if_neg hi]
  exact this
theorem FxT.er {v : Int32} (h : FxT n σ σ') : FxT n σ (sI σ' 20 v) := ⟨h.1.sI (by decide), h.2⟩
theorem FxT.s33 {v : Int32} (h : FxT n σ σ') : FxT n σ (sA σ' 33 (60 + 2 * n) v) := by
  refine ⟨h.1.sA (by decide), fun i hi => ?_, h.2.2⟩
  have := h.2.1 i hi
  rw [sA_221, if_pos rfl]
  unfold va_up
  rw [if_neg (by omega)]
  exact this
/-- what a test is, but for its nots -/
def CoS (σ : Tw) (n : Nat) (c : Nat ⊕ (Sd × Nat × Sd)) : Prop := match c with
  | .inl v => σ.2.2.1 37 n = nI 98 ∧ SdS σ (60 + 2 * n) (.inl v)
  | .inr (a, g, b) => σ.2.2.1 37 n = nI g ∧ (g = 61 ∨ g = 60 ∨ g = 62 ∨ g = 33) ∧ SdS σ (60 + 2 * n) a ∧ SdS σ (61 + 2 * n) b
theorem sg_of {t : Tok} (hs : sgC t = true) : t.1 = 4 ∧ ∃ g, t.2.1 = [g] ∧ (g = 61 ∨ g = 60 ∨ g = 62 ∨ g = 33) := by
  unfold sgC isSg at hs
  simp only [Bool.or_eq_true, decide_eq_true_eq] at hs
  rcases hs with ((q | q) | q) | q
  · exact ⟨q.1, 61, q.2, by simp⟩
  · exact ⟨q.1, 60, q.2, by simp⟩
  · exact ⟨q.1, 62, q.2, by simp⟩
  · exact ⟨q.1, 33, q.2, by simp⟩
theorem t_sg1 (hT : TwOk Ω.sz x A) (hp : PL σ cs s) (hs : sgC (tk cs s) = true) {l1 l2 : Value} : gO PG Ω (d + 8) 73 167 [.ref x, l1, l2] [] (tW h x A σ) = gO PG Ω (d + 8) 73 204 [.ref x, l1, l2] [.ref x] (tW h x A σ) := by
  have k1 := t_isSign (d := d + 7) (h := h) hT hp.2.1 hp.w (c := 61) (by decide)
  have k2' := t_isSign (d := d + 7) (h := h) hT hp.2.1 hp.w (c := 60) (by decide)
  have k3 := t_isSign (d := d + 7) (h := h) hT hp.2.1 hp.w (c := 62) (by decide)
  have k4 := t_isSign (d := d + 7) (h := h) hT hp.2.1 hp.w (c := 33) (by decide)
  unfold sgC at hs
  cases q1 : isSg (tk cs s) 61 with
  | true => simp (disch := first | omega | decide) only [e_X2_readTest_167, e_X2_readTest_168, e_X2_readTest_169, e_X2_readTest_171, e_X2_readTest_174, e_X2_readTest_177, e_X2_readTest_178, e_X2_readTest_180, e_X2_readTest_183, e_X2_readTest_186, e_X2_readTest_187, e_X2_readTest_189, e_X2_readTest_192, e_X2_readTest_195, e_X2_readTest_196, e_X2_readTest_198, e_X2_readTest_201, tw_cl, tg16, tg20, tg27, tg29, tg33, tg36, tg37, tg38, tg39, tp39 hT, tr29 hT, tr33 hT, tr36 hT, tr37 hT, tr38 hT, ts29 hT, ts33 hT, ts36 hT, ts37 hT, ts38 hT, cR_ref, cR_null, cR_rf, c1_int, c1_ref, c1_null, c1_rf, kz_int, kz_ref, kz_null, kz_rf, kz_U, kz_long, nB_null, nB_ref, rf_none, rf_some, bV_ret, bV_thr, bA_ret, bA_thr, bX_ret, bX_thr, len4_0, len4_1, len4_2, len4_3, len4_4, true_and, and_true, and_self, if_true, if_false, Option.bind_some, nR_b1, nR_b0, nR_bI, nI_1z, nI_0z, bI_z, if_nn, k1, q1, Bool.true_eq_false]
  | false =>
    cases q2 : isSg (tk cs s) 60 with
    | true => simp (disch := first | omega | decide) only [e_X2_readTest_167, e_X2_readTest_168, e_X2_readTest_169, e_X2_readTest_171, e_X2_readTest_174, e_X2_readTest_177, e_X2_readTest_178, e_X2_readTest_180, e_X2_readTest_183, e_X2_readTest_186, e_X2_readTest_187, e_X2_readTest_189, e_X2_readTest_192, e_X2_readTest_195, e_X2_readTest_196, e_X2_readTest_198, e_X2_readTest_201, tw_cl, tg16, tg20, tg27, tg29, tg33, tg36, tg37, tg38, tg39, tp39 hT, tr29 hT, tr33 hT, tr36 hT, tr37 hT, tr38 hT, ts29 hT, ts33 hT, ts36 hT, ts37 hT, ts38 hT, cR_ref, cR_null, cR_rf, c1_int, c1_ref, c1_null, c1_rf, kz_int, kz_ref, kz_null, kz_rf, kz_U, kz_long, nB_null, nB_ref, rf_none, rf_some, bV_ret, bV_thr, bA_ret, bA_thr, bX_ret, bX_thr, len4_0, len4_1, len4_2, len4_3, len4_4, true_and, and_true, and_self, if_true, if_false, Option.bind_some, nR_b1, nR_b0, nR_bI, nI_1z, nI_0z, bI_z, if_nn, k1, k2', q1, q2, Bool.true_eq_false]
    | false =>
      cases q3 : isSg (tk cs s) 62 with
      | true => simp (disch := first | omega | decide) only [e_X2_readTest_167, e_X2_readTest_168, e_X2_readTest_169, e_X2_readTest_171, e_X2_readTest_174, e_X2_readTest_177, e_X2_readTest_178, e_X2_readTest_180, e_X2_readTest_183, e_X2_readTest_186, e_X2_readTest_187, e_X2_readTest_189, e_X2_readTest_192, e_X2_readTest_195, e_X2_readTest_196, e_X2_readTest_198, e_X2_readTest_201, tw_cl, tg16, tg20, tg27, tg29, tg33, tg36, tg37, tg38, tg39, tp39 hT, tr29 hT, tr33 hT, tr36 hT, tr37 hT, tr38 hT, ts29 hT, ts33 hT, ts36 hT, ts37 hT, ts38 hT, cR_ref, cR_null, cR_rf, c1_int, c1_ref, c1_null, c1_rf, kz_int, kz_ref, kz_null, kz_rf, kz_U, kz_long, nB_null, nB_ref, rf_none, rf_some, bV_ret, bV_thr, bA_ret, bA_thr, bX_ret, bX_thr, len4_0, len4_1, len4_2, len4_3, len4_4, true_and, and_true, and_self, if_true, if_false, Option.bind_some, nR_b1, nR_b0, nR_bI, nI_1z, nI_0z, bI_z, if_nn, k1, k2', k3, q1, q2, q3, Bool.true_eq_false]
      | false =>
        rw [q1, q2, q3, Bool.false_or, Bool.false_or, Bool.false_or] at hs
        simp (disch := first | omega | decide) only [e_X2_readTest_167, e_X2_readTest_168, e_X2_readTest_169, e_X2_readTest_171, e_X2_readTest_174, e_X2_readTest_177, e_X2_readTest_178, e_X2_readTest_180, e_X2_readTest_183, e_X2_readTest_186, e_X2_readTest_187, e_X2_readTest_189, e_X2_readTest_192, e_X2_readTest_195, e_X2_readTest_196, e_X2_readTest_198, e_X2_readTest_201, tw_cl, tg16, tg20, tg27, tg29, tg33, tg36, tg37, tg38, tg39, tp39 hT, tr29 hT, tr33 hT, tr36 hT, tr37 hT, tr38 hT, ts29 hT, ts33 hT, ts36 hT, ts37 hT, ts38 hT, cR_ref, cR_null, cR_rf, c1_int, c1_ref, c1_null, c1_rf, kz_int, kz_ref, kz_null, kz_rf, kz_U, kz_long, nB_null, nB_ref, rf_none, rf_some, bV_ret, bV_thr, bA_ret, bA_thr, bX_ret, bX_thr, len4_0, len4_1, len4_2, len4_3, len4_4, true_and, and_true, and_self, if_true, if_false, Option.bind_some, nR_b1, nR_b0, nR_bI, nI_1z, nI_0z, bI_z, if_nn, k1, k2', k3, k4, q1, q2, q3, hs, Bool.true_eq_false]
set_option maxHeartbeats 1000000 in
theorem t_rt_co (hT : TwOk Ω.sz x A) (hp : PL σ cs s) (hn : n < 14) {l2 : Int32} {tst : Tst} {s' : PS} (hv : pCore cs s = .ok (tst, s')) : ∃ σ', gO PG Ω (d + 8) 73 101 [.ref x, .int (nI n), .int l2] [] (tW h x A σ) = some (.returned none, tW h x A σ') ∧ PL σ' cs s' ∧ tst.1 = false ∧ CoS σ' n tst.2 ∧ FxT n σ σ' ∧ σ'.2.2.1 38 = σ.2.2.1 38 := by
  unfold pCore at hv
  have hk := t_isKey (d := d + 7) (h := h) hT hp.2.1 hp.w (i := 10) (by decide)
  by_cases hb : isKy (tk cs s) 10 = true
  · rw [if_pos hb] at hv
    cases hq : pVar cs (nx cs s) with
    | error q => rw [hq] at hv; cases hv
    | ok r =>
      obtain ⟨v, s1⟩ := r
      rw [hq] at hv
      cases hv
      obtain ⟨σ1, e1, e2, e3⟩ := t_go (d := d + 3) (h := h) hT hp
      have hp2 : PL (sA σ1 37 n (nI 98)) cs (nx cs s) := e2.fx (Fx.sA (I := []) (AI := [37]) (AL := []) Fx.rfl' (by decide)) (by decide) (by decide) (by decide) rfl
      obtain ⟨σ2, g1, g2, g3⟩ := t_rv_ok (d := d + 1) (h := h) hT hp2 hq
      rw [hb] at hk
      refine ⟨sA σ2 33 (60 + 2 * n) (nI v), ?_, g2.fx (Fx.sA (I := []) (AI := [33]) (AL := []) Fx.rfl' (by decide)) (by decide) (by decide) (by decide) rfl, rfl, ⟨?_, (pVar_ok hq).2.2.1, ?_⟩, (((FxV.T (e3.mono (by decide) (by decide) (by decide))).s37).trans g3.T).s33, ?_⟩
      · simp (disch := first | omega | decide) only [e_X2_readTest_101, e_X2_readTest_102, e_X2_readTest_104, e_X2_readTest_107, e_X2_readTest_110, e_X2_readTest_111, e_X2_readTest_114, e_X2_readTest_115, e_X2_readTest_118, e_X2_readTest_119, e_X2_readTest_121, e_X2_readTest_122, e_X2_readTest_123, e_X2_readTest_126, e_X2_readTest_128, e_X2_readTest_129, e_X2_readTest_130, e_X2_readTest_131, e_X2_readTest_132, e_X2_readTest_133, e_X2_readTest_136, e_X2_readTest_137, tw_cl, tg16, tg20, tg27, tg29, tg33, tg36, tg37, tg38, tg39, tp39 hT, tr29 hT, tr33 hT, tr36 hT, tr37 hT, tr38 hT, ts29 hT, ts33 hT, ts36 hT, ts37 hT, ts38 hT, cR_ref, cR_null, cR_rf, c1_int, c1_ref, c1_null, c1_rf, kz_int, kz_ref, kz_null, kz_rf, kz_U, kz_long, nB_null, nB_ref, rf_none, rf_some, bV_ret, bV_thr, bA_ret, bA_thr, bX_ret, bX_thr, len4_0, len4_1, len4_2, len4_3, len4_4, true_and, and_true, and_self, if_true, if_false, Option.bind_some, nR_b1, nR_b0, nR_bI, nI_1z, nI_0z, bI_z, if_nn, nI_add, pk_mul, hk, bI_t, e1, g1]
      · rw [sA_221, if_neg (by decide), g3.2.1 37 (by decide), sA_221, if_pos rfl]; simp [va_up]
      · rw [sA_221, if_pos rfl]; simp [va_up]
      · rw [sA_221, if_neg (by decide), g3.2.1 38 (by decide), sA_221, if_neg (by decide), e3.2.1 38 (by decide)]
  · rw [if_neg hb] at hv
    rw [Bool.eq_false_iff.mpr hb] at hk
    cases hq : pSide cs s with
    | error q => rw [hq] at hv; cases hv
    | ok r =>
      obtain ⟨a, s1⟩ := r
      rw [hq] at hv
      dsimp only at hv
      by_cases hs : sgC (tk cs s1) = true
      · rw [if_pos hs] at hv
        cases hq2 : pSide cs (nx cs s1) with
        | error q => rw [hq2] at hv; cases hv
        | ok r2 =>
          obtain ⟨b, s2⟩ := r2
          rw [hq2] at hv
          cases hv
          obtain ⟨σ1, e1, e2, e3, e4⟩ := t_rs_ok (d := d) (h := h) hT hp (i := 60 + 2 * n) (by omega) hq
          obtain ⟨h4, g, hg1, hg2⟩ := sg_of hs
          obtain ⟨g', hg3, hg4, hg5⟩ := e2.2.1.2.2.2.1 h4
          rw [hg1] at hg3
          injection hg3 with hg3
          subst hg3
          have hgi : σ1.2.1.toInt32 = nI g := by rw [hg5, nI_L (by omega), lN_i]
          have hp2 : PL (sA σ1 37 n (nI g)) cs s1 := e2.fx (Fx.sA (I := []) (AI := [37]) (AL := []) Fx.rfl' (by decide)) (by decide) (by decide) (by decide) rfl
          obtain ⟨σ2, f1, f2, f3⟩ := t_goOn1 (d := d + 2) (h := h) hT hp2
          obtain ⟨σ3, g1, g2, g3, g4⟩ := t_rs_ok (d := d) (h := h) hT f2 (i := 61 + 2 * n) (by omega) hq2
          have hw := e2.2.2.2.1
          have hm1 : (-1 : Int32) < 0 := by decide
          have h61 : 60 + 2 * n + 1 = 61 + 2 * n := by omega
          have hfv : FxV (sA σ1 37 n (nI g)) σ2 := f3.mono (by decide) (by decide) (by decide)
          refine ⟨σ3, ?_, g2, rfl, ?_, (((e4.T (by omega) (by omega)).s37).trans hfv.T).trans (g4.T (by omega) (by omega)), ?_⟩
          · simp (disch := first | omega | decide) only [e_X2_readTest_101, e_X2_readTest_102, e_X2_readTest_104, e_X2_readTest_107, e_X2_readTest_138, e_X2_readTest_139, e_X2_readTest_141, e_X2_readTest_142, e_X2_readTest_143, e_X2_readTest_144, e_X2_readTest_145, e_X2_readTest_148, e_X2_readTest_149, e_X2_readTest_152, e_X2_readTest_155, e_X2_readTest_156, e_X2_readTest_157, e_X2_readTest_160, e_X2_readTest_161, e_X2_readTest_162, e_X2_readTest_165, e_X2_readTest_166, tw_cl, tg16, tg20, tg27, tg29, tg33, tg36, tg37, tg38, tg39, tp39 hT, tr29 hT, tr33 hT, tr36 hT, tr37 hT, tr38 hT, ts29 hT, ts33 hT, ts36 hT, ts37 hT, ts38 hT, cR_ref, cR_null, cR_rf, c1_int, c1_ref, c1_null, c1_rf, kz_int, kz_ref, kz_null, kz_rf, kz_U, kz_long, nB_null, nB_ref, rf_none, rf_some, bV_ret, bV_thr, bA_ret, bA_thr, bX_ret, bX_thr, len4_0, len4_1, len4_2, len4_3, len4_4, true_and, and_true, and_self, if_true, if_false, Option.bind_some, nR_b1, nR_b0, nR_bI, nI_1z, nI_0z, bI_z, if_nn, nI_add, pk_mul, hk, bI_f, e1, hw, hm1, hgi]
            rw [t_sg1 hT hp2 hs]
            simp (disch := first | omega | decide) only [e_X2_readTest_204, e_X2_readTest_205, e_X2_readTest_208, e_X2_readTest_209, e_X2_readTest_212, e_X2_readTest_215, e_X2_readTest_216, e_X2_readTest_217, e_X2_readTest_219, e_X2_readTest_220, e_X2_readTest_221, e_X2_readTest_222, e_X2_readTest_223, e_X2_readTest_224, e_X2_readTest_225, e_X2_readTest_228, tw_cl, tg16, tg20, tg27, tg29, tg33, tg36, tg37, tg38, tg39, tp39 hT, tr29 hT, tr33 hT, tr36 hT, tr37 hT, tr38 hT, ts29 hT, ts33 hT, ts36 hT, ts37 hT, ts38 hT, cR_ref, cR_null, cR_rf, c1_int, c1_ref, c1_null, c1_rf, kz_int, kz_ref, kz_null, kz_rf, kz_U, kz_long, nB_null, nB_ref, rf_none, rf_some, bV_ret, bV_thr, bA_ret, bA_thr, bX_ret, bX_thr, len4_0, len4_1, len4_2, len4_3, len4_4, true_and, and_true, and_self, if_true, if_false, Option.bind_some, nR_b1, nR_b0, nR_bI, nI_1z, nI_0z, bI_z, if_nn, nI_add, pk_mul, f1, h61, g1]
          · rw [hg1]
            refine ⟨?_, hg2, ?_, g3⟩
            · rw [g4.1.2.1 37 (by decide), f3.2.1 37 (by decide), sA_221, if_pos rfl]; simp [va_up]
            · have z : SdS (sA σ1 37 n (nI g)) (60 + 2 * n) a := e3
              exact (z.keep (lo := 61 + 2 * n) (hi := 62 + 2 * n) hfv.D (by omega)).keep g4 (by omega)
          · rw [g4.1.2.1 38 (by decide), f3.2.1 38 (by decide), sA_221, if_neg (by decide), e4.1.2.1 38 (by decide)]
      · rw [if_neg hs] at hv; cases hv
theorem t_sg0 (hT : TwOk Ω.sz x A) (hp : PL σ cs s) (hs : ¬ sgC (tk cs s) = true) {l1 l2 : Value} : gO PG Ω (d + 8) 73 167 [.ref x, l1, l2] [] (tW h x A σ) = gO PG Ω (d + 8) 73 208 [.ref x, l1, l2] [.ref x] (tW h x A σ) := by
  have k1 := t_isSign (d := d + 7) (h := h) hT hp.2.1 hp.w (c := 61) (by decide)
  have k2' := t_isSign (d := d + 7) (h := h) hT hp.2.1 hp.w (c := 60) (by decide)
  have k3 := t_isSign (d := d + 7) (h := h) hT hp.2.1 hp.w (c := 62) (by decide)
  have k4 := t_isSign (d := d + 7) (h := h) hT hp.2.1 hp.w (c := 33) (by decide)
  unfold sgC at hs
  simp only [Bool.or_eq_true, not_or, Bool.not_eq_true] at hs
  obtain ⟨⟨⟨q1, q2⟩, q3⟩, q4⟩ := hs
  simp (disch := first | omega | decide) only [e_X2_readTest_167, e_X2_readTest_168, e_X2_readTest_169, e_X2_readTest_171, e_X2_readTest_174, e_X2_readTest_177, e_X2_readTest_178, e_X2_readTest_180, e_X2_readTest_183, e_X2_readTest_186, e_X2_readTest_187, e_X2_readTest_189, e_X2_readTest_192, e_X2_readTest_195, e_X2_readTest_196, e_X2_readTest_198, e_X2_readTest_201, tw_cl, tg16, tg20, tg27, tg29, tg33, tg36, tg37, tg38, tg39, tp39 hT, tr29 hT, tr33 hT, tr36 hT, tr37 hT, tr38 hT, ts29 hT, ts33 hT, ts36 hT, ts37 hT, ts38 hT, cR_ref, cR_null, cR_rf, c1_int, c1_ref, c1_null, c1_rf, kz_int, kz_ref, kz_null, kz_rf, kz_U, kz_long, nB_null, nB_ref, rf_none, rf_some, bV_ret, bV_thr, bA_ret, bA_thr, bX_ret, bX_thr, len4_0, len4_1, len4_2, len4_3, len4_4, true_and, and_true, and_self, if_true, if_false, Option.bind_some, nR_b1, nR_b0, nR_bI, nI_1z, nI_0z, bI_z, if_nn, k1, k2', k3, k4, q1, q2, q3, q4]
set_option maxHeartbeats 1000000 in
theorem t_rt_ce (hT : TwOk Ω.sz x A) (hp : PL σ cs s) (hn : n < 14) {l2 : Int32} {q : Nat} (hv : pCore cs s = .error q) : ∃ σ', gO PG Ω (d + 8) 73 101 [.ref x, .int (nI n), .int l2] [] (tW h x A σ) = some (.returned none, tW h x A σ') ∧ σ'.1 20 = nI q ∧ q ≤ 160 ∧ FxT n σ σ' := by
  unfold pCore at hv
  have hk := t_isKey (d := d + 7) (h := h) hT hp.2.1 hp.w (i := 10) (by decide)
  by_cases hb : isKy (tk cs s) 10 = true
  · rw [if_pos hb] at hv
    cases hq : pVar cs (nx cs s) with
    | ok r => rw [hq] at hv; cases hv
    | error q =>
      rw [hq] at hv
      cases hv
      obtain ⟨σ1, e1, e2, e3⟩ := t_go (d := d + 3) (h := h) hT hp
      have hp2 : PL (sA σ1 37 n (nI 98)) cs (nx cs s) := e2.fx (Fx.sA (I := []) (AI := [37]) (AL := []) Fx.rfl' (by decide)) (by decide) (by decide) (by decide) rfl
      have g1 := t_rv_er (d := d + 1) (h := h) hT hp2 hq
      rw [hb] at hk
      refine ⟨sA (sI (sA σ1 37 n (nI 98)) 20 (nI q)) 33 (60 + 2 * n) (-1), ?_, rfl, by rw [(pVar_er hq).1]; exact e2.q, (((FxV.T (e3.mono (by decide) (by decide) (by decide))).s37).er).s33⟩
      simp (disch := first | omega | decide) only [e_X2_readTest_101, e_X2_readTest_102, e_X2_readTest_104, e_X2_readTest_107, e_X2_readTest_110, e_X2_readTest_111, e_X2_readTest_114, e_X2_readTest_115, e_X2_readTest_118, e_X2_readTest_119, e_X2_readTest_121, e_X2_readTest_122, e_X2_readTest_123, e_X2_readTest_126, e_X2_readTest_128, e_X2_readTest_129, e_X2_readTest_130, e_X2_readTest_131, e_X2_readTest_132, e_X2_readTest_133, e_X2_readTest_136, e_X2_readTest_137, tw_cl, tg16, tg20, tg27, tg29, tg33, tg36, tg37, tg38, tg39, tp39 hT, tr29 hT, tr33 hT, tr36 hT, tr37 hT, tr38 hT, ts29 hT, ts33 hT, ts36 hT, ts37 hT, ts38 hT, cR_ref, cR_null, cR_rf, c1_int, c1_ref, c1_null, c1_rf, kz_int, kz_ref, kz_null, kz_rf, kz_U, kz_long, nB_null, nB_ref, rf_none, rf_some, bV_ret, bV_thr, bA_ret, bA_thr, bX_ret, bX_thr, len4_0, len4_1, len4_2, len4_3, len4_4, true_and, and_true, and_self, if_true, if_false, Option.bind_some, nR_b1, nR_b0, nR_bI, nI_1z, nI_0z, bI_z, if_nn, nI_add, pk_mul, hk, bI_t, e1, g1]
  · rw [if_neg hb] at hv
    rw [Bool.eq_false_iff.mpr hb] at hk
    cases hq : pSide cs s with
    | error q' =>
      rw [hq] at hv
      cases hv
      obtain ⟨σ1, e1, e2, e3, e4⟩ := t_rs_er (d := d) (h := h) hT hp (i := 60 + 2 * n) (by omega) hq
      have hm1 : ¬ nI q < 0 := nI_pos (by omega)
      refine ⟨σ1, ?_, e2, e3, e4.T (by omega) (by omega)⟩
      simp (disch := first | omega | decide) only [e_X2_readTest_101, e_X2_readTest_102, e_X2_readTest_104, e_X2_readTest_107, e_X2_readTest_138, e_X2_readTest_139, e_X2_readTest_141, e_X2_readTest_142, e_X2_readTest_143, e_X2_readTest_144, e_X2_readTest_145, e_X2_readTest_148, e_X2_readTest_149, e_X2_readTest_152, e_X2_readTest_155, e_X2_readTest_156, e_X2_readTest_157, e_X2_readTest_160, e_X2_readTest_161, e_X2_readTest_162, e_X2_readTest_165, e_X2_readTest_166, tw_cl, tg16, tg20, tg27, tg29, tg33, tg36, tg37, tg38, tg39, tp39 hT, tr29 hT, tr33 hT, tr36 hT, tr37 hT, tr38 hT, ts29 hT, ts33 hT, ts36 hT, ts37 hT, ts38 hT, cR_ref, cR_null, cR_rf, c1_int, c1_ref, c1_null, c1_rf, kz_int, kz_ref, kz_null, kz_rf, kz_U, kz_long, nB_null, nB_ref, rf_none, rf_some, bV_ret, bV_thr, bA_ret, bA_thr, bX_ret, bX_thr, len4_0, len4_1, len4_2, len4_3, len4_4, true_and, and_true, and_self, if_true, if_false, Option.bind_some, nR_b1, nR_b0, nR_bI, nI_1z, nI_0z, bI_z, if_nn, nI_add, pk_mul, hk, bI_f, e1, e2, hm1]
    | ok r =>
      obtain ⟨a, s1⟩ := r
      rw [hq] at hv
      dsimp only at hv
      obtain ⟨σ1, e1, e2, e3, e4⟩ := t_rs_ok (d := d) (h := h) hT hp (i := 60 + 2 * n) (by omega) hq
      have hw := e2.2.2.2.1
      have hm1 : (-1 : Int32) < 0 := by decide
      have hp2 : PL (sA σ1 37 n σ1.2.1.toInt32) cs s1 := e2.fx (Fx.sA (I := []) (AI := [37]) (AL := []) Fx.rfl' (by decide)) (by decide) (by decide) (by decide) rfl
      by_cases hs : sgC (tk cs s1) = true
      · rw [if_pos hs] at hv
        cases hq2 : pSide cs (nx cs s1) with
        | ok r2 => rw [hq2] at hv; cases hv
        | error q2 =>
          rw [hq2] at hv
          cases hv
          obtain ⟨σ2, f1, f2, f3⟩ := t_goOn1 (d := d + 2) (h := h) hT hp2
          obtain ⟨σ3, g1, g2, g3, g4⟩ := t_rs_er (d := d) (h := h) hT f2 (i := 61 + 2 * n) (by omega) hq2
          have h61 : 60 + 2 * n + 1 = 61 + 2 * n := by omega
          have hfv : FxV (sA σ1 37 n σ1.2.1.toInt32) σ2 := f3.mono (by decide) (by decide) (by decide)
          refine ⟨σ3, ?_, g2, g3, (((e4.T (by omega) (by omega)).s37).trans hfv.T).trans (g4.T (by omega) (by omega))⟩
          simp (disch := first | omega | decide) only [e_X2_readTest_101, e_X2_readTest_102, e_X2_readTest_104, e_X2_readTest_107, e_X2_readTest_138, e_X2_readTest_139, e_X2_readTest_141, e_X2_readTest_142, e_X2_readTest_143, e_X2_readTest_144, e_X2_readTest_145, e_X2_readTest_148, e_X2_readTest_149, e_X2_readTest_152, e_X2_readTest_155, e_X2_readTest_156, e_X2_readTest_157, e_X2_readTest_160, e_X2_readTest_161, e_X2_readTest_162, e_X2_readTest_165, e_X2_readTest_166, tw_cl, tg16, tg20, tg27, tg29, tg33, tg36, tg37, tg38, tg39, tp39 hT, tr29 hT, tr33 hT, tr36 hT, tr37 hT, tr38 hT, ts29 hT, ts33 hT, ts36 hT, ts37 hT, ts38 hT, cR_ref, cR_null, cR_rf, c1_int, c1_ref, c1_null, c1_rf, kz_int, kz_ref, kz_null, kz_rf, kz_U, kz_long, nB_null, nB_ref, rf_none, rf_some, bV_ret, bV_thr, bA_ret, bA_thr, bX_ret, bX_thr, len4_0, len4_1, len4_2, len4_3, len4_4, true_and, and_true, and_self, if_true, if_false, Option.bind_some, nR_b1, nR_b0, nR_bI, nI_1z, nI_0z, bI_z, if_nn, nI_add, pk_mul, hk, bI_f, e1, hw, hm1]
          rw [t_sg1 hT hp2 hs]
          simp (disch := first | omega | decide) only [e_X2_readTest_204, e_X2_readTest_205, e_X2_readTest_208, e_X2_readTest_209, e_X2_readTest_212, e_X2_readTest_215, e_X2_readTest_216, e_X2_readTest_217, e_X2_readTest_219, e_X2_readTest_220, e_X2_readTest_221, e_X2_readTest_222, e_X2_readTest_223, e_X2_readTest_224, e_X2_readTest_225, e_X2_readTest_228, tw_cl, tg16, tg20, tg27, tg29, tg33, tg36, tg37, tg38, tg39, tp39 hT, tr29 hT, tr33 hT, tr36 hT, tr37 hT, tr38 hT, ts29 hT, ts33 hT, ts36 hT, ts37 hT, ts38 hT, cR_ref, cR_null, cR_rf, c1_int, c1_ref, c1_null, c1_rf, kz_int, kz_ref, kz_null, kz_rf, kz_U, kz_long, nB_null, nB_ref, rf_none, rf_some, bV_ret, bV_thr, bA_ret, bA_thr, bX_ret, bX_thr, len4_0, len4_1, len4_2, len4_3, len4_4, true_and, and_true, and_self, if_true, if_false, Option.bind_some, nR_b1, nR_b0, nR_bI, nI_1z, nI_0z, bI_z, if_nn, nI_add, pk_mul, f1, h61, g1]
      · rw [if_neg hs] at hv
        cases hv
        have f1 := t_goOn0 (d := d + 6) (h := h) hT hp2
        refine ⟨sI (sA σ1 37 n σ1.2.1.toInt32) 20 (nI (tk cs s1).2.2.1), ?_, rfl, e2.q, ((e4.T (by omega) (by omega)).s37).er⟩
        simp (disch := first | omega | decide) only [e_X2_readTest_101, e_X2_readTest_102, e_X2_readTest_104, e_X2_readTest_107, e_X2_readTest_138, e_X2_readTest_139, e_X2_readTest_141, e_X2_readTest_142, e_X2_readTest_143, e_X2_readTest_144, e_X2_readTest_145, e_X2_readTest_148, e_X2_readTest_149, e_X2_readTest_152, e_X2_readTest_155, e_X2_readTest_156, e_X2_readTest_157, e_X2_readTest_160, e_X2_readTest_161, e_X2_readTest_162, e_X2_readTest_165, e_X2_readTest_166, tw_cl, tg16, tg20, tg27, tg29, tg33, tg36, tg37, tg38, tg39, tp39 hT, tr29 hT, tr33 hT, tr36 hT, tr37 hT, tr38 hT, ts29 hT, ts33 hT, ts36 hT, ts37 hT, ts38 hT, cR_ref, cR_null, cR_rf, c1_int, c1_ref, c1_null, c1_rf, kz_int, kz_ref, kz_null, kz_rf, kz_U, kz_long, nB_null, nB_ref, rf_none, rf_some, bV_ret, bV_thr, bA_ret, bA_thr, bX_ret, bX_thr, len4_0, len4_1, len4_2, len4_3, len4_4, true_and, and_true, and_self, if_true, if_false, Option.bind_some, nR_b1, nR_b0, nR_bI, nI_1z, nI_0z, bI_z, if_nn, nI_add, pk_mul, hk, bI_f, e1, hw, hm1]
        rw [t_sg0 hT hp2 hs]
        simp (disch := first | omega | decide) only [e_X2_readTest_204, e_X2_readTest_205, e_X2_readTest_208, e_X2_readTest_209, e_X2_readTest_212, e_X2_readTest_215, e_X2_readTest_216, e_X2_readTest_217, e_X2_readTest_219, e_X2_readTest_220, e_X2_readTest_221, e_X2_readTest_222, e_X2_readTest_223, e_X2_readTest_224, e_X2_readTest_225, e_X2_readTest_228, tw_cl, tg16, tg20, tg27, tg29, tg33, tg36, tg37, tg38, tg39, tp39 hT, tr29 hT, tr33 hT, tr36 hT, tr37 hT, tr38 hT, ts29 hT, ts33 hT, ts36 hT, ts37 hT, ts38 hT, cR_ref, cR_null, cR_rf, c1_int, c1_ref, c1_null, c1_rf, kz_int, kz_ref, kz_null, kz_rf, kz_U, kz_long, nB_null, nB_ref, rf_none, rf_some, bV_ret, bV_thr, bA_ret, bA_thr, bX_ret, bX_thr, len4_0, len4_1, len4_2, len4_3, len4_4, true_and, and_true, and_self, if_true, if_false, Option.bind_some, nR_b1, nR_b0, nR_bI, nI_1z, nI_0z, bI_z, if_nn, nI_add, pk_mul, f1]
/-- the nots -/
theorem t_rt_lo (hT : TwOk Ω.sz x A) (hn : n < 14) : ∀ (k : Nat) (b : Bool) (σ : Tw) (s : PS) (tst : Tst) (s' : PS), k ≤ 4 → PL σ cs s → σ.2.2.1 38 n = bI b → pTest cs k s = .ok (tst, s') → ∃ σ', gO PG Ω (d + 8) 73 41 [.ref x, .int (nI n), .int (nI (4 - k))] [] (tW h x A σ) = some (.returned none, tW h x A σ') ∧ PL σ' cs s' ∧ σ'.2.2.1 38 n = bI (b ^^ tst.1) ∧ CoS σ' n tst.2 ∧ FxT n σ σ' := by
  have key : ∀ (k : Nat) (b : Bool) (σ : Tw) (s : PS) (tst : Tst) (s' : PS), PL σ cs s → σ.2.2.1 38 n = bI b → isKy (tk cs s) 9 = false → pCore cs s = .ok (tst, s') → ∃ σ', gO PG Ω (d + 8) 73 41 [.ref x, .int (nI n), .int (nI (4 - k))] [] (tW h x A σ) = some (.returned none, tW h x A σ') ∧ PL σ' cs s' ∧ σ'.2.2.1 38 n = bI (b ^^ tst.1) ∧ CoS σ' n tst.2 ∧ FxT n σ σ' := by
    intro k b σ s tst s' hp hb hk hv
    obtain ⟨σ', e1, e2, e3, e4, e5, e6⟩ := t_rt_co (d := d) (h := h) (l2 := nI (4 - k)) hT hp hn hv
    refine ⟨σ', ?_, e2, by rw [e6, hb, e3, Bool.xor_false], e4, e5⟩
    have hk1 := t_isKey (d := d + 7) (h := h) hT hp.2.1 hp.w (i := 9) (by decide)
    rw [hk] at hk1
    rw [← e1, e_X2_readTest_41]
    simp (disch := first | omega | decide) only [e_X2_readTest_42, e_X2_readTest_44, e_X2_readTest_47, e_X2_readTest_50, e_X2_readTest_51, e_X2_readTest_54, tw_cl, tg16, tg20, tg27, tg29, tg33, tg36, tg37, tg38, tg39, tp39 hT, tr29 hT, tr33 hT, tr36 hT, tr37 hT, tr38 hT, ts29 hT, ts33 hT, ts36 hT, ts37 hT, ts38 hT, cR_ref, cR_null, cR_rf, c1_int, c1_ref, c1_null, c1_rf, kz_int, kz_ref, kz_null, kz_rf, kz_U, kz_long, nB_null, nB_ref, rf_none, rf_some, bV_ret, bV_thr, bA_ret, bA_thr, bX_ret, bX_thr, len4_0, len4_1, len4_2, len4_3, len4_4, true_and, and_true, and_self, if_true, if_false, Option.bind_some, nR_b1, nR_b0, nR_bI, nI_1z, nI_0z, bI_z, if_nn, hk1, bI_f]
  intro k
  induction k with
  | zero =>
    intro b σ s tst s' _ hp hb hv
    unfold pTest at hv
    by_cases hk : isKy (tk cs s) 9 = true
    · rw [if_pos hk] at hv; cases hv
    · rw [if_neg hk] at hv
      exact key 0 b σ s tst s' hp hb (Bool.eq_false_iff.mpr hk) hv
  | succ k ih =>
    intro b σ s tst s' hk4 hp hb hv
    unfold pTest at hv
    by_cases hk : isKy (tk cs s) 9 = true
    · rw [if_pos hk] at hv
      cases hq : pTest cs k (nx cs s) with
      | error q => rw [hq] at hv; cases hv
      | ok r =>
        obtain ⟨t1, s1⟩ := r
        rw [hq] at hv
        cases hv
        have hp1 : PL (sA σ 38 n (bI (!b))) cs s := hp.fx (Fx.sA (I := []) (AI := [38]) (AL := []) Fx.rfl' (by decide)) (by decide) (by decide) (by decide) rfl
        obtain ⟨σ1, f1, f2, f3⟩ := t_goOn1 (d := d + 2) (h := h) hT hp1
        have h38 : σ1.2.2.1 38 n = bI (!b) := by rw [f3.2.1 38 (by decide), sA_221, if_pos rfl]; simp [va_up]
        obtain ⟨σ2, g1, g2, g3, g4, g5⟩ := ih (!b) σ1 (nx cs s) t1 s' (by omega) f2 h38 hq
        have hfv : FxV (sA σ 38 n (bI (!b))) σ1 := f3.mono (by decide) (by decide) (by decide)
        refine ⟨σ2, ?_, g2, by rw [g3]; cases b <;> cases t1.1 <;> rfl, g4, ((FxT.rfl'.s38).trans hfv.T).trans g5⟩
        have hk1 := t_isKey (d := d + 7) (h := h) hT hp.2.1 hp.w (i := 9) (by decide)
        rw [hk] at hk1
        have hw := hp.2.2.2.1
        have hm1 : (-1 : Int32) < 0 := by decide
        have h44 : 4 - (k + 1) < 4 := by omega
        have hsu : 4 - (k + 1) + 1 = 4 - k := by omega
        rw [← g1, e_X2_readTest_41]
        cases b with
        | true => simp (disch := first | omega | decide) only [e_X2_readTest_42, e_X2_readTest_44, e_X2_readTest_47, e_X2_readTest_50, e_X2_readTest_51, e_X2_readTest_54, e_X2_readTest_57, e_X2_readTest_58, e_X2_readTest_61, e_X2_readTest_62, e_X2_readTest_63, e_X2_readTest_66, e_X2_readTest_67, e_X2_readTest_68, e_X2_readTest_71, e_X2_readTest_72, e_X2_readTest_75, e_X2_readTest_76, e_X2_readTest_77, e_X2_readTest_78, e_X2_readTest_79, e_X2_readTest_80, e_X2_readTest_83, e_X2_readTest_84, e_X2_readTest_87, e_X2_readTest_88, e_X2_readTest_91, e_X2_readTest_94, e_X2_readTest_95, e_X2_readTest_98, tw_cl, tg16, tg20, tg27, tg29, tg33, tg36, tg37, tg38, tg39, tp39 hT, tr29 hT, tr33 hT, tr36 hT, tr37 hT, tr38 hT, ts29 hT, ts33 hT, ts36 hT, ts37 hT, ts38 hT, cR_ref, cR_null, cR_rf, c1_int, c1_ref, c1_null, c1_rf, kz_int, kz_ref, kz_null, kz_rf, kz_U, kz_long, nB_null, nB_ref, rf_none, rf_some, bV_ret, bV_thr, bA_ret, bA_thr, bX_ret, bX_thr, len4_0, len4_1, len4_2, len4_3, len4_4, true_and, and_true, and_self, if_true, if_false, Option.bind_some, nR_b1, nR_b0, nR_bI, nI_1z, nI_0z, bI_z, if_nn, nI_add, pk_mul, hk1, bI_t, hw, hm1, hb, ↓nI_lt_if, h44, okv_b0, Bool.not_true, bI_f, f1, hsu, (show bI (!true) = nI 0 from rfl) ▸ f1]
        | false => simp (disch := first | omega | decide) only [e_X2_readTest_42, e_X2_readTest_44, e_X2_readTest_47, e_X2_readTest_50, e_X2_readTest_51, e_X2_readTest_54, e_X2_readTest_57, e_X2_readTest_58, e_X2_readTest_61, e_X2_readTest_62, e_X2_readTest_63, e_X2_readTest_66, e_X2_readTest_67, e_X2_readTest_68, e_X2_readTest_71, e_X2_readTest_72, e_X2_readTest_75, e_X2_readTest_76, e_X2_readTest_77, e_X2_readTest_78, e_X2_readTest_79, e_X2_readTest_80, e_X2_readTest_83, e_X2_readTest_84, e_X2_readTest_87, e_X2_readTest_88, e_X2_readTest_91, e_X2_readTest_94, e_X2_readTest_95, e_X2_readTest_98, tw_cl, tg16, tg20, tg27, tg29, tg33, tg36, tg37, tg38, tg39, tp39 hT, tr29 hT, tr33 hT, tr36 hT, tr37 hT, tr38 hT, ts29 hT, ts33 hT, ts36 hT, ts37 hT, ts38 hT, cR_ref, cR_null, cR_rf, c1_int, c1_ref, c1_null, c1_rf, kz_int, kz_ref, kz_null, kz_rf, kz_U, kz_long, nB_null, nB_ref, rf_none, rf_some, bV_ret, bV_thr, bA_ret, bA_thr, bX_ret, bX_thr, len4_0, len4_1, len4_2, len4_3, len4_4, true_and, and_true, and_self, if_true, if_false, Option.bind_some, nR_b1, nR_b0, nR_bI, nI_1z, nI_0z, bI_z, if_nn, nI_add, pk_mul, hk1, bI_t, hw, hm1, hb, bI_f, ↓nI_lt_if, h44, okv_b1, (show bI (!false) = nI 1 from rfl) ▸ f1, hsu]
    · rw [if_neg hk] at hv
      exact key (k + 1) b σ s tst s' hp hb (Bool.eq_false_iff.mpr hk) hv
theorem t_rt_le (hT : TwOk Ω.sz x A) (hn : n < 14) : ∀ (k : Nat) (b : Bool) (σ : Tw) (s : PS) (q : Nat), k ≤ 4 → PL σ cs s → σ.2.2.1 38 n = bI b → pTest cs k s = .error q → ∃ σ', gO PG Ω (d + 8) 73 41 [.ref x, .int (nI n), .int (nI (4 - k))] [] (tW h x A σ) = some (.returned none, tW h x A σ') ∧ σ'.1 20 = nI q ∧ q ≤ 160 ∧ FxT n σ σ' := by
  have key : ∀ (k : Nat) (σ : Tw) (s : PS) (q : Nat), PL σ cs s → isKy (tk cs s) 9 = false → pCore cs s = .error q → ∃ σ', gO PG Ω (d + 8) 73 41 [.ref x, .int (nI n), .int (nI (4 - k))] [] (tW h x A σ) = some (.returned none, tW h x A σ') ∧ σ'.1 20 = nI q ∧ q ≤ 160 ∧ FxT n σ σ' := by
    intro k σ s q hp hk hv
    obtain ⟨σ', e1, e2, e3, e4⟩ := t_rt_ce (d := d) (h := h) (l2 := nI (4 - k)) hT hp hn hv
    refine ⟨σ', ?_, e2, e3, e4⟩
    have hk1 := t_isKey (d := d + 7) (h := h) hT hp.2.1 hp.w (i := 9) (by decide)
    rw [hk] at hk1
    rw [← e1, e_X2_readTest_41]
    simp (disch := first | omega | decide) only [e_X2_readTest_42, e_X2_readTest_44, e_X2_readTest_47, e_X2_readTest_50, e_X2_readTest_51, e_X2_readTest_54, tw_cl, tg16, tg20, tg27, tg29, tg33, tg36, tg37, tg38, tg39, tp39 hT, tr29 hT, tr33 hT, tr36 hT, tr37 hT, tr38 hT, ts29 hT, ts33 hT, ts36 hT, ts37 hT, ts38 hT, cR_ref, cR_null, cR_rf, c1_int, c1_ref, c1_null, c1_rf, kz_int, kz_ref, kz_null, kz_rf, kz_U, kz_long, nB_null, nB_ref, rf_none, rf_some, bV_ret, bV_thr, bA_ret, bA_thr, bX_ret, bX_thr, len4_0, len4_1, len4_2, len4_3, len4_4, true_and, and_true, and_self, if_true, if_false, Option.bind_some, nR_b1, nR_b0, nR_bI, nI_1z, nI_0z, bI_z, if_nn, hk1, bI_f]
  have hm1 : (-1 : Int32) < 0 := by decide
  intro k
  induction k with
  | zero =>
    intro b σ s q _ hp hb hv
    unfold pTest at hv
    by_cases hk : isKy (tk cs s) 9 = true
    · rw [if_pos hk] at hv
      cases hv
      have hp1 : PL (sA σ 38 n (bI (!b))) cs s := hp.fx (Fx.sA (I := []) (AI := [38]) (AL := []) Fx.rfl' (by decide)) (by decide) (by decide) (by decide) rfl
      have f1 := t_goOn0 (d := d + 6) (h := h) hT hp1
      have hk1 := t_isKey (d := d + 7) (h := h) hT hp.2.1 hp.w (i := 9) (by decide)
      rw [hk] at hk1
      have hw := hp.2.2.2.1
      refine ⟨sI (sA σ 38 n (bI (!b))) 20 (nI (tk cs s).2.2.1), ?_, rfl, hp.q, (FxT.rfl'.s38).er⟩
      rw [e_X2_readTest_41]
      cases b with
      | true => simp (disch := first | omega | decide) only [e_X2_readTest_42, e_X2_readTest_44, e_X2_readTest_47, e_X2_readTest_50, e_X2_readTest_51, e_X2_readTest_54, e_X2_readTest_57, e_X2_readTest_58, e_X2_readTest_61, e_X2_readTest_62, e_X2_readTest_63, e_X2_readTest_66, e_X2_readTest_67, e_X2_readTest_68, e_X2_readTest_71, e_X2_readTest_72, e_X2_readTest_75, e_X2_readTest_76, e_X2_readTest_77, e_X2_readTest_78, e_X2_readTest_79, e_X2_readTest_80, e_X2_readTest_83, e_X2_readTest_84, e_X2_readTest_87, e_X2_readTest_88, e_X2_readTest_91, e_X2_readTest_94, e_X2_readTest_95, e_X2_readTest_98, tw_cl, tg16, tg20, tg27, tg29, tg33, tg36, tg37, tg38, tg39, tp39 hT, tr29 hT, tr33 hT, tr36 hT, tr37 hT, tr38 hT, ts29 hT, ts33 hT, ts36 hT, ts37 hT, ts38 hT, cR_ref, cR_null, cR_rf, c1_int, c1_ref, c1_null, c1_rf, kz_int, kz_ref, kz_null, kz_rf, kz_U, kz_long, nB_null, nB_ref, rf_none, rf_some, bV_ret, bV_thr, bA_ret, bA_thr, bX_ret, bX_thr, len4_0, len4_1, len4_2, len4_3, len4_4, true_and, and_true, and_self, if_true, if_false, Option.bind_some, nR_b1, nR_b0, nR_bI, nI_1z, nI_0z, bI_z, if_nn, nI_add, pk_mul, hk1, bI_t, hw, hm1, hb, ↓nI_lt_if, Nat.sub_zero, Nat.lt_irrefl, okv_b0, (show bI (!true) = nI 0 from rfl) ▸ f1]; rfl
      | false => simp (disch := first | omega | decide) only [e_X2_readTest_42, e_X2_readTest_44, e_X2_readTest_47, e_X2_readTest_50, e_X2_readTest_51, e_X2_readTest_54, e_X2_readTest_57, e_X2_readTest_58, e_X2_readTest_61, e_X2_readTest_62, e_X2_readTest_63, e_X2_readTest_66, e_X2_readTest_67, e_X2_readTest_68, e_X2_readTest_71, e_X2_readTest_72, e_X2_readTest_75, e_X2_readTest_76, e_X2_readTest_77, e_X2_readTest_78, e_X2_readTest_79, e_X2_readTest_80, e_X2_readTest_83, e_X2_readTest_84, e_X2_readTest_87, e_X2_readTest_88, e_X2_readTest_91, e_X2_readTest_94, e_X2_readTest_95, e_X2_readTest_98, tw_cl, tg16, tg20, tg27, tg29, tg33, tg36, tg37, tg38, tg39, tp39 hT, tr29 hT, tr33 hT, tr36 hT, tr37 hT, tr38 hT, ts29 hT, ts33 hT, ts36 hT, ts37 hT, ts38 hT, cR_ref, cR_null, cR_rf, c1_int, c1_ref, c1_null, c1_rf, kz_int, kz_ref, kz_null, kz_rf, kz_U, kz_long, nB_null, nB_ref, rf_none, rf_some, bV_ret, bV_thr, bA_ret, bA_thr, bX_ret, bX_thr, len4_0, len4_1, len4_2, len4_3, len4_4, true_and, and_true, and_self, if_true, if_false, Option.bind_some, nR_b1, nR_b0, nR_bI, nI_1z, nI_0z, bI_z, if_nn, nI_add, pk_mul, hk1, bI_t, hw, hm1, hb, bI_f, ↓nI_lt_if, Nat.sub_zero, Nat.lt_irrefl, okv_b1, (show bI (!false) = nI 1 from rfl) ▸ f1]; rfl
    · rw [if_neg hk] at hv
      exact key 0 σ s q hp (Bool.eq_false_iff.mpr hk) hv
  | succ k ih =>
    intro b σ s q hk4 hp hb hv
    unfold pTest at hv
    by_cases hk : isKy (tk cs s) 9 = true
    · rw [if_pos hk] at hv
      cases hq : pTest cs k (nx cs s) with
      | ok r => rw [hq] at hv; cases hv
      | error q' =>
        rw [hq] at hv
        cases hv
        have hp1 : PL (sA σ 38 n (bI (!b))) cs s := hp.fx (Fx.sA (I := []) (AI := [38]) (AL := []) Fx.rfl' (by decide)) (by decide) (by decide) (by decide) rfl
        obtain ⟨σ1, f1, f2, f3⟩ := t_goOn1 (d := d + 2) (h := h) hT hp1
        have h38 : σ1.2.2.1 38 n = bI (!b) := by rw [f3.2.1 38 (by decide), sA_221, if_pos rfl]; simp [va_up]
        obtain ⟨σ2, g1, g2, g3, g5⟩ := ih (!b) σ1 (nx cs s) q (by omega) f2 h38 hq
        have hfv : FxV (sA σ 38 n (bI (!b))) σ1 := f3.mono (by decide) (by decide) (by decide)
        refine ⟨σ2, ?_, g2, g3, ((FxT.rfl'.s38).trans hfv.T).trans g5⟩
        have hk1 := t_isKey (d := d + 7) (h := h) hT hp.2.1 hp.w (i := 9) (by decide)
        rw [hk] at hk1
        have hw := hp.2.2.2.1
        have h44 : 4 - (k + 1) < 4 := by omega
        have hsu : 4 - (k + 1) + 1 = 4 - k := by omega
        rw [← g1, e_X2_readTest_41]
        cases b with
        | true => simp (disch := first | omega | decide) only [e_X2_readTest_42, e_X2_readTest_44, e_X2_readTest_47, e_X2_readTest_50, e_X2_readTest_51, e_X2_readTest_54, e_X2_readTest_57, e_X2_readTest_58, e_X2_readTest_61, e_X2_readTest_62, e_X2_readTest_63, e_X2_readTest_66, e_X2_readTest_67, e_X2_readTest_68, e_X2_readTest_71, e_X2_readTest_72, e_X2_readTest_75, e_X2_readTest_76, e_X2_readTest_77, e_X2_readTest_78, e_X2_readTest_79, e_X2_readTest_80, e_X2_readTest_83, e_X2_readTest_84, e_X2_readTest_87, e_X2_readTest_88, e_X2_readTest_91, e_X2_readTest_94, e_X2_readTest_95, e_X2_readTest_98, tw_cl, tg16, tg20, tg27, tg29, tg33, tg36, tg37, tg38, tg39, tp39 hT, tr29 hT, tr33 hT, tr36 hT, tr37 hT, tr38 hT, ts29 hT, ts33 hT, ts36 hT, ts37 hT, ts38 hT, cR_ref, cR_null, cR_rf, c1_int, c1_ref, c1_null, c1_rf, kz_int, kz_ref, kz_null, kz_rf, kz_U, kz_long, nB_null, nB_ref, rf_none, rf_some, bV_ret, bV_thr, bA_ret, bA_thr, bX_ret, bX_thr, len4_0, len4_1, len4_2, len4_3, len4_4, true_and, and_true, and_self, if_true, if_false, Option.bind_some, nR_b1, nR_b0, nR_bI, nI_1z, nI_0z, bI_z, if_nn, nI_add, pk_mul, hk1, bI_t, hw, hm1, hb, ↓nI_lt_if, h44, okv_b0, (show bI (!true) = nI 0 from rfl) ▸ f1, hsu]
        | false => simp (disch := first | omega | decide) only [e_X2_readTest_42, e_X2_readTest_44, e_X2_readTest_47, e_X2_readTest_50, e_X2_readTest_51, e_X2_readTest_54, e_X2_readTest_57, e_X2_readTest_58, e_X2_readTest_61, e_X2_readTest_62, e_X2_readTest_63, e_X2_readTest_66, e_X2_readTest_67, e_X2_readTest_68, e_X2_readTest_71, e_X2_readTest_72, e_X2_readTest_75, e_X2_readTest_76, e_X2_readTest_77, e_X2_readTest_78, e_X2_readTest_79, e_X2_readTest_80, e_X2_readTest_83, e_X2_readTest_84, e_X2_readTest_87, e_X2_readTest_88, e_X2_readTest_91, e_X2_readTest_94, e_X2_readTest_95, e_X2_readTest_98, tw_cl, tg16, tg20, tg27, tg29, tg33, tg36, tg37, tg38, tg39, tp39 hT, tr29 hT, tr33 hT, tr36 hT, tr37 hT, tr38 hT, ts29 hT, ts33 hT, ts36 hT, ts37 hT, ts38 hT, cR_ref, cR_null, cR_rf, c1_int, c1_ref, c1_null, c1_rf, kz_int, kz_ref, kz_null, kz_rf, kz_U, kz_long, nB_null, nB_ref, rf_none, rf_some, bV_ret, bV_thr, bA_ret, bA_thr, bX_ret, bX_thr, len4_0, len4_1, len4_2, len4_3, len4_4, true_and, and_true, and_self, if_true, if_false, Option.bind_some, nR_b1, nR_b0, nR_bI, nI_1z, nI_0z, bI_z, if_nn, nI_add, pk_mul, hk1, bI_t, hw, hm1, hb, bI_f, ↓nI_lt_if, h44, okv_b1, (show bI (!false) = nI 1 from rfl) ▸ f1, hsu]
    · rw [if_neg hk] at hv
      exact key (k + 1) σ s q hp (Bool.eq_false_iff.mpr hk) hv
/-- only test n, its group too -/
def FxU (n : Nat) (σ σ' : Tw) : Prop := Fx [15, 17, 18, 19, 20, 24, 39] [33, 36, 37, 38] [23, 34] σ σ' ∧ (∀ i, (i < 60 + 2 * n ∨ 62 + 2 * n ≤ i) → σ'.2.2.1 33 i = σ.2.2.1 33 i ∧ σ'.2.2.2 34 i = σ.2.2.2 34 i) ∧ ∀ i, i ≠ n → σ'.2.2.1 36 i = σ.2.2.1 36 i ∧ σ'.2.2.1 37 i = σ.2.2.1 37 i ∧ σ'.2.2.1 38 i = σ.2.2.1 38 i
theorem FxT.U {u v w : Int32} (h : FxT n (sA (sA (sI σ 39 u) 36 n v) 38 n w) σ') : FxU n σ σ' := by
  refine ⟨(((Fx.rfl'.sI (by decide)).sA (by decide)).sA (by decide)).trans (h.1.mono (by decide) (by decide) (by decide)), fun i hi => h.2.1 i hi, fun i hi => ⟨?_, (h.2.2 i hi).1, ?_⟩⟩
  · rw [h.1.2.1 36 (by decide), sA_221, if_neg (by decide), sA_221, if_pos rfl]
    unfold va_up
    rw [if_neg hi]
    rfl
  · rw [(h.2.2 i hi).2, sA_221, if_pos rfl]
    unfold va_up
    rw [if_neg hi]
    rfl
theorem t_rt_ok (hT : TwOk Ω.sz x A) (hp : PL σ cs s) (h39 : σ.1 39 = nI n) (hn : n < 14) {dp : Nat} {g : Int32} (h27 : σ.1 27 = nI (dp + 1)) (hdp : dp < 5) (hg : σ.2.2.1 29 dp = g) {tst : Tst} {s' : PS} (hv : pTest cs 4 s = .ok (tst, s')) : ∃ σ', gM PG Ω (d + 9) 73 [.ref x] (tW h x A σ) = some (.returned none, tW h x A σ') ∧ PL σ' cs s' ∧ σ'.1 39 = nI (n + 1) ∧ σ'.2.2.1 36 n = g ∧ σ'.2.2.1 38 n = bI tst.1 ∧ CoS σ' n tst.2 ∧ FxU n σ σ' := by
  have hp1 : PL (sA (sA (sI σ 39 (nI (n + 1))) 36 n g) 38 n (nI 0)) cs s := hp.fx (((Fx.rfl'.sI (I := [39]) (AI := [36, 38]) (AL := []) (by decide)).sA (by decide)).sA (by decide)) (by decide) (by decide) (by decide) rfl
  obtain ⟨σ', e1, e2, e3, e4, e5⟩ := t_rt_lo (d := d) (h := h) hT hn 4 false _ s tst s' (Nat.le_refl _) hp1 (by rw [sA_221, if_pos rfl]; simp [va_up, bI]) hv
  refine ⟨σ', ?_, e2, ?_, ?_, by rw [e3, Bool.false_xor], e4, e5.U⟩
  · rw [← e1]
    simp (disch := first | omega | decide) only [n_X2_readTest, e_X2_readTest_0, e_X2_readTest_1, e_X2_readTest_4, e_X2_readTest_5, e_X2_readTest_6, e_X2_readTest_7, e_X2_readTest_10, e_X2_readTest_11, e_X2_readTest_12, e_X2_readTest_15, e_X2_readTest_16, e_X2_readTest_19, e_X2_readTest_20, e_X2_readTest_21, e_X2_readTest_24, e_X2_readTest_25, e_X2_readTest_28, e_X2_readTest_29, e_X2_readTest_30, e_X2_readTest_31, e_X2_readTest_32, e_X2_readTest_33, e_X2_readTest_36, e_X2_readTest_37, e_X2_readTest_38, e_X2_readTest_39, e_X2_readTest_40, tw_cl, tg16, tg20, tg27, tg29, tg33, tg36, tg37, tg38, tg39, tp39 hT, tr29 hT, tr33 hT, tr36 hT, tr37 hT, tr38 hT, ts29 hT, ts33 hT, ts36 hT, ts37 hT, ts38 hT, cR_ref, cR_null, cR_rf, c1_int, c1_ref, c1_null, c1_rf, kz_int, kz_ref, kz_null, kz_rf, kz_U, kz_long, nB_null, nB_ref, rf_none, rf_some, bV_ret, bV_thr, bA_ret, bA_thr, bX_ret, bX_thr, len4_0, len4_1, len4_2, len4_3, len4_4, true_and, and_true, and_self, if_true, if_false, Option.bind_some, nR_b1, nR_b0, nR_bI, nI_1z, nI_0z, bI_z, if_nn, sI_1, sI_2, sT_1, sT_21, sT_22, sA_1, sA_21, sA_221, sA_222, sL_1, sL_21, sL_221, sL_222, Nat.reduceEqDiff, ↓reduceIte, nI_add, pk_mul, h39, h27, hg, pk_pred, okv_b0, Nat.sub_self]
  · rw [e5.1.1 39 (by decide)]; rfl
  · rw [e5.1.2.1 36 (by decide), sA_221, if_neg (by decide), sA_221, if_pos rfl]; simp [va_up]
theorem t_rt_er (hT : TwOk Ω.sz x A) (hp : PL σ cs s) (h39 : σ.1 39 = nI n) (hn : n < 14) {dp : Nat} {g : Int32} (h27 : σ.1 27 = nI (dp + 1)) (hdp : dp < 5) (hg : σ.2.2.1 29 dp = g) {q : Nat} (hv : pTest cs 4 s = .error q) : ∃ σ', gM PG Ω (d + 9) 73 [.ref x] (tW h x A σ) = some (.returned none, tW h x A σ') ∧ σ'.1 20 = nI q ∧ q ≤ 160 ∧ FxU n σ σ' := by
  have hp1 : PL (sA (sA (sI σ 39 (nI (n + 1))) 36 n g) 38 n (nI 0)) cs s := hp.fx (((Fx.rfl'.sI (I := [39]) (AI := [36, 38]) (AL := []) (by decide)).sA (by decide)).sA (by decide)) (by decide) (by decide) (by decide) rfl
  obtain ⟨σ', e1, e2, e3, e5⟩ := t_rt_le (d := d) (h := h) hT hn 4 false _ s q (Nat.le_refl _) hp1 (by rw [sA_221, if_pos rfl]; simp [va_up, bI]) hv
  refine ⟨σ', ?_, e2, e3, e5.U⟩
  rw [← e1]
  simp (disch := first | omega | decide) only [n_X2_readTest, e_X2_readTest_0, e_X2_readTest_1, e_X2_readTest_4, e_X2_readTest_5, e_X2_readTest_6, e_X2_readTest_7, e_X2_readTest_10, e_X2_readTest_11, e_X2_readTest_12, e_X2_readTest_15, e_X2_readTest_16, e_X2_readTest_19, e_X2_readTest_20, e_X2_readTest_21, e_X2_readTest_24, e_X2_readTest_25, e_X2_readTest_28, e_X2_readTest_29, e_X2_readTest_30, e_X2_readTest_31, e_X2_readTest_32, e_X2_readTest_33, e_X2_readTest_36, e_X2_readTest_37, e_X2_readTest_38, e_X2_readTest_39, e_X2_readTest_40, tw_cl, tg16, tg20, tg27, tg29, tg33, tg36, tg37, tg38, tg39, tp39 hT, tr29 hT, tr33 hT, tr36 hT, tr37 hT, tr38 hT, ts29 hT, ts33 hT, ts36 hT, ts37 hT, ts38 hT, cR_ref, cR_null, cR_rf, c1_int, c1_ref, c1_null, c1_rf, kz_int, kz_ref, kz_null, kz_rf, kz_U, kz_long, nB_null, nB_ref, rf_none, rf_some, bV_ret, bV_thr, bA_ret, bA_thr, bX_ret, bX_thr, len4_0, len4_1, len4_2, len4_3, len4_4, true_and, and_true, and_self, if_true, if_false, Option.bind_some, nR_b1, nR_b0, nR_bI, nI_1z, nI_0z, bI_z, if_nn, sI_1, sI_2, sT_1, sT_21, sT_22, sA_1, sA_21, sA_221, sA_222, sL_1, sL_21, sL_221, sL_222, Nat.reduceEqDiff, ↓reduceIte, nI_add, pk_mul, h39, h27, hg, pk_pred, okv_b0, Nat.sub_self]
end TP3
