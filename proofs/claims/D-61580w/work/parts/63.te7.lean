/-! TWIN, answering: tests -/
def SoK (s : Sol) : Prop := ∀ v t, s v = some t → okT t
def SdK (sd : Sd) : Prop := match sd with
  | .inl v => v < 6
  | .inr c => okT c
def CoK (c : Nat ⊕ (Sd × Nat × Sd)) : Prop := match c with
  | .inl v => v < 6
  | .inr (a, _, b) => SdK a ∧ SdK b
theorem sdV_ok {sd : Sd} {s : Sol} {x : Int64} (hs : SoK s) (hd : SdK sd) (h : sdV sd s = some x) : okT x := by
  cases sd with
  | inl v => exact hs v x h
  | inr c =>
    have : c = x := by simpa [sdV] using h
    rw [← this]; exact hd
theorem m1_neg : ((-1 : Int32) < 0) = True := by decide
theorem cmpI_z {x y : Int64} : (cmpI x y = 0) = (x = y) := by
  apply propext
  unfold cmpI
  by_cases h : x = y
  · simp [h]; decide
  · rw [if_neg h]
    constructor
    · intro q
      by_cases h2 : ltT x y = true
      · rw [if_pos h2] at q; exact absurd q (by decide)
      · rw [if_neg h2] at q; exact absurd q (by decide)
    · intro q; exact absurd q h
theorem cmpI_n {x y : Int64} (hx : okT x) (hy : okT y) : (cmpI x y < 0) = (ltT x y = true) := by
  apply propext
  unfold cmpI
  by_cases h : x = y
  · subst h
    rw [if_pos rfl]
    constructor
    · intro q; exact absurd q (by decide)
    · intro q
      rcases hx with ⟨w, hw, rfl⟩ | ⟨n, hn, rfl⟩
      · rw [ltT_ww hw hw] at q
        have := of_decide_eq_true q
        omega
      · unfold ltT at q
        simp only [num_neg hn, true_or, if_true, and_self] at q
        have := of_decide_eq_true q
        rw [Int64.lt_iff_toInt_lt] at this
        omega
  · rw [if_neg h]
    by_cases h2 : ltT x y = true
    · rw [if_pos h2]; exact ⟨fun _ => h2, fun _ => by decide⟩
    · rw [if_neg h2]; exact ⟨fun q => absurd q (by decide), fun q => absurd q h2⟩
/-- of two terms one is less, or they are one -/
theorem ltT_tri {x y : Int64} (hx : okT x) (hy : okT y) (hne : x ≠ y) : ltT y x = !ltT x y := by
  rcases hx with ⟨w, hw, rfl⟩ | ⟨n, hn, rfl⟩
  · rcases hy with ⟨v, hv, rfl⟩ | ⟨m, hm, rfl⟩
    · rw [ltT_ww hv hw, ltT_ww hw hv]
      have key : wN w * 256 ^ (8 - w.length) ≠ wN v * 256 ^ (8 - v.length) := by
        intro q
        obtain ⟨p1, q1⟩ := hw.p
        obtain ⟨p2, q2⟩ := hv.p
        have z1 : ∀ (k : Nat) (w : List Nat), (∀ c ∈ w, 1 ≤ c ∧ c < 256) → ∀ (j : Nat) (v : List Nat), (∀ c ∈ v, 1 ≤ c ∧ c < 256) → w ≠ [] → v ≠ [] → wN w * 256 ^ k = wN v * 256 ^ j → k = j := by
          intro k
          induction k with
          | zero =>
            intro w hw j v hv w0 v0 e
            cases j with
            | zero => rfl
            | succ j =>
              exfalso
              have : w = w.dropLast ++ [w.getLast w0] := (List.dropLast_concat_getLast w0).symm
              have hc := hw (w.getLast w0) (List.getLast_mem w0)
              rw [this, wN_snoc, Nat.pow_succ, ← Nat.mul_assoc, Nat.pow_zero, Nat.mul_one] at e
              omega
          | succ k ih =>
            intro w hw j v hv w0 v0 e
            cases j with
            | zero =>
              exfalso
              have : v = v.dropLast ++ [v.getLast v0] := (List.dropLast_concat_getLast v0).symm
              have hc := hv (v.getLast v0) (List.getLast_mem v0)
              rw [this, wN_snoc, Nat.pow_succ, ← Nat.mul_assoc, Nat.pow_zero, Nat.mul_one] at e
              omega
            | succ j =>
              rw [Nat.pow_succ, Nat.pow_succ, ← Nat.mul_assoc, ← Nat.mul_assoc] at e
              have := ih w hw j v hv w0 v0 (Nat.eq_of_mul_eq_mul_right (by decide) e)
              omega
        have w0 : w ≠ [] := fun q => by have := hw.1; rw [q] at this; cases this
        have v0 : v ≠ [] := fun q => by have := hv.1; rw [q] at this; cases this
        have ek := z1 _ w hw.b _ v hv.b w0 v0 q
        rw [ek] at q
        have e2 := Nat.eq_of_mul_eq_mul_right (Nat.pow_pos (by decide)) q
        exact hne (by rw [wN_inj w hw.b v hv.b e2])
      by_cases hlt : wN w * 256 ^ (8 - w.length) < wN v * 256 ^ (8 - v.length)
      · rw [decide_eq_true hlt, decide_eq_false (by omega)]; rfl
      · rw [decide_eq_false hlt, decide_eq_true (by omega)]; rfl
    · unfold ltT
      rw [hw.n]
      obtain ⟨p1, q1⟩ := hw.p
      simp only [lN_nn (p1.lt63 q1), num_neg hm, false_or, true_or, if_true, false_and, and_false, if_false, decide_false, decide_true, Bool.not_false]
  · rcases hy with ⟨v, hv, rfl⟩ | ⟨m, hm, rfl⟩
    · unfold ltT
      rw [hv.n]
      obtain ⟨p1, q1⟩ := hv.p
      simp only [lN_nn (p1.lt63 q1), num_neg hn, false_or, true_or, if_true, false_and, and_false, if_false, decide_false, decide_true, Bool.not_true]
    · unfold ltT
      simp only [num_neg hn, num_neg hm, true_or, if_true, and_self]
      have i1 := @Int64.lt_iff_toInt_lt (-1 - lN m) (-1 - lN n)
      have i2 := @Int64.lt_iff_toInt_lt (-1 - lN n) (-1 - lN m)
      have hn' : (-1 - lN n : Int64).toInt ≠ (-1 - lN m : Int64).toInt := fun q => hne (Int64.toInt_inj.mp q)
      by_cases hlt : (-1 - lN m : Int64) < (-1 - lN n : Int64)
      · have h1 := i1.mp hlt
        rw [decide_eq_true hlt, decide_eq_false (fun q => by have := i2.mp q; omega)]; rfl
      · have h1 : ¬ (-1 - lN m : Int64).toInt < (-1 - lN n : Int64).toInt := fun q => hlt (i1.mpr q)
        rw [decide_eq_false hlt, decide_eq_true (i2.mpr (by omega))]; rfl
theorem ltT_irr {x : Int64} (hx : okT x) : ltT x x = false := by
  have := cmpI_n hx hx
  cases h : ltT x x with
  | false => rfl
  | true =>
    rw [h] at this
    have q : cmpI x x < 0 := by rw [this]
    unfold cmpI at q
    rw [if_pos rfl] at q
    exact absurd q (by decide)
theorem cmpI_p {x y : Int64} (hx : okT x) (hy : okT y) : (0 < cmpI x y) = (ltT y x = true) := by
  apply propext
  by_cases h : x = y
  · subst h
    rw [ltT_irr hx]
    unfold cmpI
    rw [if_pos rfl]
    exact ⟨fun q => absurd q (by decide), fun q => nomatch q⟩
  · rw [ltT_tri hx hy h]
    unfold cmpI
    rw [if_neg h]
    cases ltT x y with
    | true => rw [if_pos rfl]; exact ⟨fun q => absurd q (by decide), fun q => nomatch q⟩
    | false => rw [if_neg (by decide)]; exact ⟨fun _ => rfl, fun _ => by decide⟩
section TE7
variable {Ω : Om} {d : Nat} {h : AH} {x : Nat} {A : Nat → Nat} {σ σ' : Tw}
theorem t_hos (hT : TwOk Ω.sz x A) {i g : Nat} {l2 l3 l4 : Value} {a b : Int64} (ha : okT a) (hb : okT b) (hi : i < 14) (h37 : σ.2.2.1 37 i = nI g) (hg : g = 61 ∨ g = 60 ∨ g = 62 ∨ g = 33) : gO PG Ω d 85 184 [.ref x, .int (nI i), l2, l3, l4, .int (nI 1), U] [.int (cmpI a b)] (tW h x A σ) = some (.returned (some (.int (bI (cmpG g a b)))), tW h x A σ) := by
  have hn := cmpI_n ha hb
  have hp := cmpI_p ha hb
  unfold cmpG
  rcases hg with rfl | rfl | rfl | rfl
  · by_cases he : a = b
    · simp (disch := first | omega | decide) only [e_X2_holds_184, e_X2_holds_186, e_X2_holds_187, e_X2_holds_190, e_X2_holds_191, e_X2_holds_192, e_X2_holds_194, e_X2_holds_197, e_X2_holds_199, e_X2_holds_202, e_X2_holds_203, e_X2_holds_206, e_X2_holds_207, e_X2_holds_210, e_X2_holds_211, e_X2_holds_214, e_X2_holds_215, e_X2_holds_216, e_X2_holds_218, e_X2_holds_221, e_X2_holds_223, e_X2_holds_226, e_X2_holds_227, e_X2_holds_230, e_X2_holds_231, e_X2_holds_234, e_X2_holds_235, e_X2_holds_238, e_X2_holds_239, e_X2_holds_240, e_X2_holds_242, e_X2_holds_245, e_X2_holds_247, e_X2_holds_250, e_X2_holds_251, e_X2_holds_254, e_X2_holds_255, e_X2_holds_258, e_X2_holds_260, e_X2_holds_263, e_X2_holds_264, e_X2_holds_267, e_X2_holds_268, tw_cl, tg33, tg34, tg37, tg47, tg48, tr33 hT, tr34 hT, tr37 hT, tr47 hT, tr48 hT, ts33 hT, ts34 hT, ts37 hT, ts47 hT, ts48 hT, cR_ref, cR_null, cR_rf, c1_int, c1_ref, c1_null, c1_rf, kz_int, kz_ref, kz_null, kz_rf, kz_U, kz_long, nB_null, nB_ref, rf_none, rf_some, bV_ret, bV_thr, bA_ret, bA_thr, bX_ret, bX_thr, len4_0, len4_1, len4_2, len4_3, len4_4, true_and, and_true, and_self, if_true, if_false, Option.bind_some, nR_b1, nR_b0, nR_bI, nI_1z, nI_0z, bI_z, if_nn, reduceCtorEq, one_ne0, h37, ↓nI_eq_if, Nat.reduceEqDiff, cmpI_z, he, decide_true, bI_t]
    · simp (disch := first | omega | decide) only [e_X2_holds_184, e_X2_holds_186, e_X2_holds_187, e_X2_holds_190, e_X2_holds_191, e_X2_holds_192, e_X2_holds_194, e_X2_holds_197, e_X2_holds_199, e_X2_holds_202, e_X2_holds_203, e_X2_holds_206, e_X2_holds_207, e_X2_holds_210, e_X2_holds_211, e_X2_holds_214, e_X2_holds_215, e_X2_holds_216, e_X2_holds_218, e_X2_holds_221, e_X2_holds_223, e_X2_holds_226, e_X2_holds_227, e_X2_holds_230, e_X2_holds_231, e_X2_holds_234, e_X2_holds_235, e_X2_holds_238, e_X2_holds_239, e_X2_holds_240, e_X2_holds_242, e_X2_holds_245, e_X2_holds_247, e_X2_holds_250, e_X2_holds_251, e_X2_holds_254, e_X2_holds_255, e_X2_holds_258, e_X2_holds_260, e_X2_holds_263, e_X2_holds_264, e_X2_holds_267, e_X2_holds_268, tw_cl, tg33, tg34, tg37, tg47, tg48, tr33 hT, tr34 hT, tr37 hT, tr47 hT, tr48 hT, ts33 hT, ts34 hT, ts37 hT, ts47 hT, ts48 hT, cR_ref, cR_null, cR_rf, c1_int, c1_ref, c1_null, c1_rf, kz_int, kz_ref, kz_null, kz_rf, kz_U, kz_long, nB_null, nB_ref, rf_none, rf_some, bV_ret, bV_thr, bA_ret, bA_thr, bX_ret, bX_thr, len4_0, len4_1, len4_2, len4_3, len4_4, true_and, and_true, and_self, if_true, if_false, Option.bind_some, nR_b1, nR_b0, nR_bI, nI_1z, nI_0z, bI_z, if_nn, reduceCtorEq, one_ne0, h37, ↓nI_eq_if, Nat.reduceEqDiff, cmpI_z, he, decide_false, bI_f]
  · cases he : ltT a b with
    | true => simp (disch := first | omega | decide) only [e_X2_holds_184, e_X2_holds_186, e_X2_holds_187, e_X2_holds_190, e_X2_holds_191, e_X2_holds_192, e_X2_holds_194, e_X2_holds_197, e_X2_holds_199, e_X2_holds_202, e_X2_holds_203, e_X2_holds_206, e_X2_holds_207, e_X2_holds_210, e_X2_holds_211, e_X2_holds_214, e_X2_holds_215, e_X2_holds_216, e_X2_holds_218, e_X2_holds_221, e_X2_holds_223, e_X2_holds_226, e_X2_holds_227, e_X2_holds_230, e_X2_holds_231, e_X2_holds_234, e_X2_holds_235, e_X2_holds_238, e_X2_holds_239, e_X2_holds_240, e_X2_holds_242, e_X2_holds_245, e_X2_holds_247, e_X2_holds_250, e_X2_holds_251, e_X2_holds_254, e_X2_holds_255, e_X2_holds_258, e_X2_holds_260, e_X2_holds_263, e_X2_holds_264, e_X2_holds_267, e_X2_holds_268, tw_cl, tg33, tg34, tg37, tg47, tg48, tr33 hT, tr34 hT, tr37 hT, tr47 hT, tr48 hT, ts33 hT, ts34 hT, ts37 hT, ts47 hT, ts48 hT, cR_ref, cR_null, cR_rf, c1_int, c1_ref, c1_null, c1_rf, kz_int, kz_ref, kz_null, kz_rf, kz_U, kz_long, nB_null, nB_ref, rf_none, rf_some, bV_ret, bV_thr, bA_ret, bA_thr, bX_ret, bX_thr, len4_0, len4_1, len4_2, len4_3, len4_4, true_and, and_true, and_self, if_true, if_false, Option.bind_some, nR_b1, nR_b0, nR_bI, nI_1z, nI_0z, bI_z, if_nn, reduceCtorEq, one_ne0, h37, ↓nI_eq_if, Nat.reduceEqDiff, hn, he, bI_t]
    | false => simp (disch := first | omega | decide) only [e_X2_holds_184, e_X2_holds_186, e_X2_holds_187, e_X2_holds_190, e_X2_holds_191, e_X2_holds_192, e_X2_holds_194, e_X2_holds_197, e_X2_holds_199, e_X2_holds_202, e_X2_holds_203, e_X2_holds_206, e_X2_holds_207, e_X2_holds_210, e_X2_holds_211, e_X2_holds_214, e_X2_holds_215, e_X2_holds_216, e_X2_holds_218, e_X2_holds_221, e_X2_holds_223, e_X2_holds_226, e_X2_holds_227, e_X2_holds_230, e_X2_holds_231, e_X2_holds_234, e_X2_holds_235, e_X2_holds_238, e_X2_holds_239, e_X2_holds_240, e_X2_holds_242, e_X2_holds_245, e_X2_holds_247, e_X2_holds_250, e_X2_holds_251, e_X2_holds_254, e_X2_holds_255, e_X2_holds_258, e_X2_holds_260, e_X2_holds_263, e_X2_holds_264, e_X2_holds_267, e_X2_holds_268, tw_cl, tg33, tg34, tg37, tg47, tg48, tr33 hT, tr34 hT, tr37 hT, tr47 hT, tr48 hT, ts33 hT, ts34 hT, ts37 hT, ts47 hT, ts48 hT, cR_ref, cR_null, cR_rf, c1_int, c1_ref, c1_null, c1_rf, kz_int, kz_ref, kz_null, kz_rf, kz_U, kz_long, nB_null, nB_ref, rf_none, rf_some, bV_ret, bV_thr, bA_ret, bA_thr, bX_ret, bX_thr, len4_0, len4_1, len4_2, len4_3, len4_4, true_and, and_true, and_self, if_true, if_false, Option.bind_some, nR_b1, nR_b0, nR_bI, nI_1z, nI_0z, bI_z, if_nn, reduceCtorEq, one_ne0, h37, ↓nI_eq_if, Nat.reduceEqDiff, hn, he, bI_f, Bool.false_eq_true]
  · cases he : ltT b a with
    | true => simp (disch := first | omega | decide) only [e_X2_holds_184, e_X2_holds_186, e_X2_holds_187, e_X2_holds_190, e_X2_holds_191, e_X2_holds_192, e_X2_holds_194, e_X2_holds_197, e_X2_holds_199, e_X2_holds_202, e_X2_holds_203, e_X2_holds_206, e_X2_holds_207, e_X2_holds_210, e_X2_holds_211, e_X2_holds_214, e_X2_holds_215, e_X2_holds_216, e_X2_holds_218, e_X2_holds_221, e_X2_holds_223, e_X2_holds_226, e_X2_holds_227, e_X2_holds_230, e_X2_holds_231, e_X2_holds_234, e_X2_holds_235, e_X2_holds_238, e_X2_holds_239, e_X2_holds_240, e_X2_holds_242, e_X2_holds_245, e_X2_holds_247, e_X2_holds_250, e_X2_holds_251, e_X2_holds_254, e_X2_holds_255, e_X2_holds_258, e_X2_holds_260, e_X2_holds_263, e_X2_holds_264, e_X2_holds_267, e_X2_holds_268, tw_cl, tg33, tg34, tg37, tg47, tg48, tr33 hT, tr34 hT, tr37 hT, tr47 hT, tr48 hT, ts33 hT, ts34 hT, ts37 hT, ts47 hT, ts48 hT, cR_ref, cR_null, cR_rf, c1_int, c1_ref, c1_null, c1_rf, kz_int, kz_ref, kz_null, kz_rf, kz_U, kz_long, nB_null, nB_ref, rf_none, rf_some, bV_ret, bV_thr, bA_ret, bA_thr, bX_ret, bX_thr, len4_0, len4_1, len4_2, len4_3, len4_4, true_and, and_true, and_self, if_true, if_false, Option.bind_some, nR_b1, nR_b0, nR_bI, nI_1z, nI_0z, bI_z, if_nn, reduceCtorEq, one_ne0, h37, ↓nI_eq_if, Nat.reduceEqDiff, hp, he, bI_t]
    | false => simp (disch := first | omega | decide) only [e_X2_holds_184, e_X2_holds_186, e_X2_holds_187, e_X2_holds_190, e_X2_holds_191, e_X2_holds_192, e_X2_holds_194, e_X2_holds_197, e_X2_holds_199, e_X2_holds_202, e_X2_holds_203, e_X2_holds_206, e_X2_holds_207, e_X2_holds_210, e_X2_holds_211, e_X2_holds_214, e_X2_holds_215, e_X2_holds_216, e_X2_holds_218, e_X2_holds_221, e_X2_holds_223, e_X2_holds_226, e_X2_holds_227, e_X2_holds_230, e_X2_holds_231, e_X2_holds_234, e_X2_holds_235, e_X2_holds_238, e_X2_holds_239, e_X2_holds_240, e_X2_holds_242, e_X2_holds_245, e_X2_holds_247, e_X2_holds_250, e_X2_holds_251, e_X2_holds_254, e_X2_holds_255, e_X2_holds_258, e_X2_holds_260, e_X2_holds_263, e_X2_holds_264, e_X2_holds_267, e_X2_holds_268, tw_cl, tg33, tg34, tg37, tg47, tg48, tr33 hT, tr34 hT, tr37 hT, tr47 hT, tr48 hT, ts33 hT, ts34 hT, ts37 hT, ts47 hT, ts48 hT, cR_ref, cR_null, cR_rf, c1_int, c1_ref, c1_null, c1_rf, kz_int, kz_ref, kz_null, kz_rf, kz_U, kz_long, nB_null, nB_ref, rf_none, rf_some, bV_ret, bV_thr, bA_ret, bA_thr, bX_ret, bX_thr, len4_0, len4_1, len4_2, len4_3, len4_4, true_and, and_true, and_self, if_true, if_false, Option.bind_some, nR_b1, nR_b0, nR_bI, nI_1z, nI_0z, bI_z, if_nn, reduceCtorEq, one_ne0, h37, ↓nI_eq_if, Nat.reduceEqDiff, hp, he, bI_f, Bool.false_eq_true]
  · by_cases he : a = b
    · simp (disch := first | omega | decide) only [e_X2_holds_184, e_X2_holds_186, e_X2_holds_187, e_X2_holds_190, e_X2_holds_191, e_X2_holds_192, e_X2_holds_194, e_X2_holds_197, e_X2_holds_199, e_X2_holds_202, e_X2_holds_203, e_X2_holds_206, e_X2_holds_207, e_X2_holds_210, e_X2_holds_211, e_X2_holds_214, e_X2_holds_215, e_X2_holds_216, e_X2_holds_218, e_X2_holds_221, e_X2_holds_223, e_X2_holds_226, e_X2_holds_227, e_X2_holds_230, e_X2_holds_231, e_X2_holds_234, e_X2_holds_235, e_X2_holds_238, e_X2_holds_239, e_X2_holds_240, e_X2_holds_242, e_X2_holds_245, e_X2_holds_247, e_X2_holds_250, e_X2_holds_251, e_X2_holds_254, e_X2_holds_255, e_X2_holds_258, e_X2_holds_260, e_X2_holds_263, e_X2_holds_264, e_X2_holds_267, e_X2_holds_268, tw_cl, tg33, tg34, tg37, tg47, tg48, tr33 hT, tr34 hT, tr37 hT, tr47 hT, tr48 hT, ts33 hT, ts34 hT, ts37 hT, ts47 hT, ts48 hT, cR_ref, cR_null, cR_rf, c1_int, c1_ref, c1_null, c1_rf, kz_int, kz_ref, kz_null, kz_rf, kz_U, kz_long, nB_null, nB_ref, rf_none, rf_some, bV_ret, bV_thr, bA_ret, bA_thr, bX_ret, bX_thr, len4_0, len4_1, len4_2, len4_3, len4_4, true_and, and_true, and_self, if_true, if_false, Option.bind_some, nR_b1, nR_b0, nR_bI, nI_1z, nI_0z, bI_z, if_nn, reduceCtorEq, one_ne0, h37, ↓nI_eq_if, Nat.reduceEqDiff, cmpI_z, he, ne_eq, not_true_eq_false, decide_false, bI_f]
    · simp (disch := first | omega | decide) only [e_X2_holds_184, e_X2_holds_186, e_X2_holds_187, e_X2_holds_190, e_X2_holds_191, e_X2_holds_192, e_X2_holds_194, e_X2_holds_197, e_X2_holds_199, e_X2_holds_202, e_X2_holds_203, e_X2_holds_206, e_X2_holds_207, e_X2_holds_210, e_X2_holds_211, e_X2_holds_214, e_X2_holds_215, e_X2_holds_216, e_X2_holds_218, e_X2_holds_221, e_X2_holds_223, e_X2_holds_226, e_X2_holds_227, e_X2_holds_230, e_X2_holds_231, e_X2_holds_234, e_X2_holds_235, e_X2_holds_238, e_X2_holds_239, e_X2_holds_240, e_X2_holds_242, e_X2_holds_245, e_X2_holds_247, e_X2_holds_250, e_X2_holds_251, e_X2_holds_254, e_X2_holds_255, e_X2_holds_258, e_X2_holds_260, e_X2_holds_263, e_X2_holds_264, e_X2_holds_267, e_X2_holds_268, tw_cl, tg33, tg34, tg37, tg47, tg48, tr33 hT, tr34 hT, tr37 hT, tr47 hT, tr48 hT, ts33 hT, ts34 hT, ts37 hT, ts47 hT, ts48 hT, cR_ref, cR_null, cR_rf, c1_int, c1_ref, c1_null, c1_rf, kz_int, kz_ref, kz_null, kz_rf, kz_U, kz_long, nB_null, nB_ref, rf_none, rf_some, bV_ret, bV_thr, bA_ret, bA_thr, bX_ret, bX_thr, len4_0, len4_1, len4_2, len4_3, len4_4, true_and, and_true, and_self, if_true, if_false, Option.bind_some, nR_b1, nR_b0, nR_bI, nI_1z, nI_0z, bI_z, if_nn, reduceCtorEq, one_ne0, h37, ↓nI_eq_if, Nat.reduceEqDiff, cmpI_z, he, ne_eq, not_false_eq_true, decide_true, bI_t]
/-- the left side -/
theorem t_hol (hT : TwOk Ω.sz x A) {i k : Nat} {s : Sol} {a : Sd} (hi : i < 14) (hk : k < 1650) (hs : SoR σ k s) (ha : SdS σ (60 + 2 * i) a) : gM PG Ω (d + 1) 85 [.ref x, .int (nI i), .int (nI k)] (tW h x A σ) = gO PG Ω d 85 42 [.ref x, .int (nI i), .int (nI k), .int (nI (60 + 2 * i)), .int (bI (sdV a s).isSome), U, U] [] (tW h x A σ) := by
  have hms := msk_lt s
  have hs1 := hs.1
  cases a with
  | inr c =>
    obtain ⟨h33, h34⟩ := ha
    simp (disch := first | omega | decide) only [n_X2_holds, e_X2_holds_0, e_X2_holds_2, e_X2_holds_3, e_X2_holds_4, e_X2_holds_5, e_X2_holds_6, e_X2_holds_7, e_X2_holds_8, e_X2_holds_11, e_X2_holds_12, e_X2_holds_13, e_X2_holds_16, e_X2_holds_17, e_X2_holds_20, e_X2_holds_21, e_X2_holds_22, e_X2_holds_23, e_X2_holds_26, e_X2_holds_27, e_X2_holds_28, e_X2_holds_29, e_X2_holds_30, e_X2_holds_31, e_X2_holds_32, e_X2_holds_35, e_X2_holds_36, e_X2_holds_39, e_X2_holds_40, tw_cl, tg33, tg34, tg37, tg47, tg48, tr33 hT, tr34 hT, tr37 hT, tr47 hT, tr48 hT, ts33 hT, ts34 hT, ts37 hT, ts47 hT, ts48 hT, cR_ref, cR_null, cR_rf, c1_int, c1_ref, c1_null, c1_rf, kz_int, kz_ref, kz_null, kz_rf, kz_U, kz_long, nB_null, nB_ref, rf_none, rf_some, bV_ret, bV_thr, bA_ret, bA_thr, bX_ret, bX_thr, len4_0, len4_1, len4_2, len4_3, len4_4, true_and, and_true, and_self, if_true, if_false, Option.bind_some, nR_b1, nR_b0, nR_bI, nI_1z, nI_0z, bI_z, if_nn, reduceCtorEq, one_ne0, nI_add, pk_mul, h33, m1_neg, sdV, Option.isSome_some, bI_t]
  | inl v =>
    obtain ⟨hv, h33⟩ := ha
    have hbit := msk_bit s hv
    cases hsv : s v with
    | none =>
      rw [hsv] at hbit
      simp (disch := first | omega | decide) only [n_X2_holds, e_X2_holds_0, e_X2_holds_2, e_X2_holds_3, e_X2_holds_4, e_X2_holds_5, e_X2_holds_6, e_X2_holds_7, e_X2_holds_8, e_X2_holds_11, e_X2_holds_12, e_X2_holds_13, e_X2_holds_16, e_X2_holds_17, e_X2_holds_20, e_X2_holds_21, e_X2_holds_22, e_X2_holds_23, e_X2_holds_26, e_X2_holds_27, e_X2_holds_28, e_X2_holds_29, e_X2_holds_30, e_X2_holds_31, e_X2_holds_32, e_X2_holds_35, e_X2_holds_36, e_X2_holds_39, e_X2_holds_40, tw_cl, tg33, tg34, tg37, tg47, tg48, tr33 hT, tr34 hT, tr37 hT, tr47 hT, tr48 hT, ts33 hT, ts34 hT, ts37 hT, ts47 hT, ts48 hT, cR_ref, cR_null, cR_rf, c1_int, c1_ref, c1_null, c1_rf, kz_int, kz_ref, kz_null, kz_rf, kz_U, kz_long, nB_null, nB_ref, rf_none, rf_some, bV_ret, bV_thr, bA_ret, bA_thr, bX_ret, bX_thr, len4_0, len4_1, len4_2, len4_3, len4_4, true_and, and_true, and_self, if_true, if_false, Option.bind_some, nR_b1, nR_b0, nR_bI, nI_1z, nI_0z, bI_z, if_nn, reduceCtorEq, one_ne0, nI_add, pk_mul, h33, nI_nn, hs1, bit_if, hbit, Option.isSome_none, sdV, hsv, bI_f, Bool.false_eq_true]
    | some z =>
      rw [hsv] at hbit
      simp (disch := first | omega | decide) only [n_X2_holds, e_X2_holds_0, e_X2_holds_2, e_X2_holds_3, e_X2_holds_4, e_X2_holds_5, e_X2_holds_6, e_X2_holds_7, e_X2_holds_8, e_X2_holds_11, e_X2_holds_12, e_X2_holds_13, e_X2_holds_16, e_X2_holds_17, e_X2_holds_20, e_X2_holds_21, e_X2_holds_22, e_X2_holds_23, e_X2_holds_26, e_X2_holds_27, e_X2_holds_28, e_X2_holds_29, e_X2_holds_30, e_X2_holds_31, e_X2_holds_32, e_X2_holds_35, e_X2_holds_36, e_X2_holds_39, e_X2_holds_40, tw_cl, tg33, tg34, tg37, tg47, tg48, tr33 hT, tr34 hT, tr37 hT, tr47 hT, tr48 hT, ts33 hT, ts34 hT, ts37 hT, ts47 hT, ts48 hT, cR_ref, cR_null, cR_rf, c1_int, c1_ref, c1_null, c1_rf, kz_int, kz_ref, kz_null, kz_rf, kz_U, kz_long, nB_null, nB_ref, rf_none, rf_some, bV_ret, bV_thr, bA_ret, bA_thr, bX_ret, bX_thr, len4_0, len4_1, len4_2, len4_3, len4_4, true_and, and_true, and_self, if_true, if_false, Option.bind_some, nR_b1, nR_b0, nR_bI, nI_1z, nI_0z, bI_z, if_nn, reduceCtorEq, one_ne0, nI_add, pk_mul, h33, nI_nn, hs1, bit_if, hbit, Option.isSome_some, sdV, hsv, bI_t]
theorem t_hor (hT : TwOk Ω.sz x A) {i k g : Nat} {s : Sol} {b : Sd} {l4 : Value} (h4 : k2 l4 = l4) (hi : i < 14) (hk : k < 1650) (hs : SoR σ k s) (h37 : σ.2.2.1 37 i = nI g) (hg : g = 61 ∨ g = 60 ∨ g = 62 ∨ g = 33) (hb : SdS σ (61 + 2 * i) b) : gO PG Ω d 85 42 [.ref x, .int (nI i), .int (nI k), .int (nI (60 + 2 * i)), l4, U, U] [] (tW h x A σ) = gO PG Ω d 85 95 [.ref x, .int (nI i), .int (nI k), .int (nI (60 + 2 * i)), l4, .int (bI (sdV b s).isSome), U] [] (tW h x A σ) := by
  have hms := msk_lt s
  have hs1 := hs.1
  have hg98 : ¬ g = 98 := by omega
  have e61 : 60 + 2 * i + 1 = 61 + 2 * i := by omega
  cases b with
  | inr c =>
    obtain ⟨h33, h34⟩ := hb
    simp (disch := first | omega | decide) only [e_X2_holds_42, e_X2_holds_43, e_X2_holds_46, e_X2_holds_47, e_X2_holds_48, e_X2_holds_50, e_X2_holds_53, e_X2_holds_55, e_X2_holds_56, e_X2_holds_57, e_X2_holds_60, e_X2_holds_61, e_X2_holds_62, e_X2_holds_63, e_X2_holds_64, e_X2_holds_67, e_X2_holds_68, e_X2_holds_71, e_X2_holds_72, e_X2_holds_73, e_X2_holds_74, e_X2_holds_77, e_X2_holds_78, e_X2_holds_79, e_X2_holds_80, e_X2_holds_81, e_X2_holds_82, e_X2_holds_83, e_X2_holds_84, e_X2_holds_85, e_X2_holds_88, e_X2_holds_89, e_X2_holds_92, e_X2_holds_93, tw_cl, tg33, tg34, tg37, tg47, tg48, tr33 hT, tr34 hT, tr37 hT, tr47 hT, tr48 hT, ts33 hT, ts34 hT, ts37 hT, ts47 hT, ts48 hT, cR_ref, cR_null, cR_rf, c1_int, c1_ref, c1_null, c1_rf, kz_int, kz_ref, kz_null, kz_rf, kz_U, kz_long, nB_null, nB_ref, rf_none, rf_some, bV_ret, bV_thr, bA_ret, bA_thr, bX_ret, bX_thr, len4_0, len4_1, len4_2, len4_3, len4_4, true_and, and_true, and_self, if_true, if_false, Option.bind_some, nR_b1, nR_b0, nR_bI, nI_1z, nI_0z, bI_z, if_nn, reduceCtorEq, one_ne0, nI_add, pk_mul, h37, ↓nI_eq_if, hg98, e61, h33, m1_neg, sdV, Option.isSome_some, bI_t, h4]
  | inl v =>
    obtain ⟨hv, h33⟩ := hb
    have hbit := msk_bit s hv
    cases hsv : s v with
    | none =>
      rw [hsv] at hbit
      simp (disch := first | omega | decide) only [e_X2_holds_42, e_X2_holds_43, e_X2_holds_46, e_X2_holds_47, e_X2_holds_48, e_X2_holds_50, e_X2_holds_53, e_X2_holds_55, e_X2_holds_56, e_X2_holds_57, e_X2_holds_60, e_X2_holds_61, e_X2_holds_62, e_X2_holds_63, e_X2_holds_64, e_X2_holds_67, e_X2_holds_68, e_X2_holds_71, e_X2_holds_72, e_X2_holds_73, e_X2_holds_74, e_X2_holds_77, e_X2_holds_78, e_X2_holds_79, e_X2_holds_80, e_X2_holds_81, e_X2_holds_82, e_X2_holds_83, e_X2_holds_84, e_X2_holds_85, e_X2_holds_88, e_X2_holds_89, e_X2_holds_92, e_X2_holds_93, tw_cl, tg33, tg34, tg37, tg47, tg48, tr33 hT, tr34 hT, tr37 hT, tr47 hT, tr48 hT, ts33 hT, ts34 hT, ts37 hT, ts47 hT, ts48 hT, cR_ref, cR_null, cR_rf, c1_int, c1_ref, c1_null, c1_rf, kz_int, kz_ref, kz_null, kz_rf, kz_U, kz_long, nB_null, nB_ref, rf_none, rf_some, bV_ret, bV_thr, bA_ret, bA_thr, bX_ret, bX_thr, len4_0, len4_1, len4_2, len4_3, len4_4, true_and, and_true, and_self, if_true, if_false, Option.bind_some, nR_b1, nR_b0, nR_bI, nI_1z, nI_0z, bI_z, if_nn, reduceCtorEq, one_ne0, nI_add, pk_mul, h37, ↓nI_eq_if, hg98, e61, h33, nI_nn, hs1, bit_if, hbit, Option.isSome_none, sdV, hsv, bI_f, Bool.false_eq_true, h4]
    | some z =>
      rw [hsv] at hbit
      simp (disch := first | omega | decide) only [e_X2_holds_42, e_X2_holds_43, e_X2_holds_46, e_X2_holds_47, e_X2_holds_48, e_X2_holds_50, e_X2_holds_53, e_X2_holds_55, e_X2_holds_56, e_X2_holds_57, e_X2_holds_60, e_X2_holds_61, e_X2_holds_62, e_X2_holds_63, e_X2_holds_64, e_X2_holds_67, e_X2_holds_68, e_X2_holds_71, e_X2_holds_72, e_X2_holds_73, e_X2_holds_74, e_X2_holds_77, e_X2_holds_78, e_X2_holds_79, e_X2_holds_80, e_X2_holds_81, e_X2_holds_82, e_X2_holds_83, e_X2_holds_84, e_X2_holds_85, e_X2_holds_88, e_X2_holds_89, e_X2_holds_92, e_X2_holds_93, tw_cl, tg33, tg34, tg37, tg47, tg48, tr33 hT, tr34 hT, tr37 hT, tr47 hT, tr48 hT, ts33 hT, ts34 hT, ts37 hT, ts47 hT, ts48 hT, cR_ref, cR_null, cR_rf, c1_int, c1_ref, c1_null, c1_rf, kz_int, kz_ref, kz_null, kz_rf, kz_U, kz_long, nB_null, nB_ref, rf_none, rf_some, bV_ret, bV_thr, bA_ret, bA_thr, bX_ret, bX_thr, len4_0, len4_1, len4_2, len4_3, len4_4, true_and, and_true, and_self, if_true, if_false, Option.bind_some, nR_b1, nR_b0, nR_bI, nI_1z, nI_0z, bI_z, if_nn, reduceCtorEq, one_ne0, nI_add, pk_mul, h37, ↓nI_eq_if, hg98, e61, h33, nI_nn, hs1, bit_if, hbit, Option.isSome_some, sdV, hsv, bI_t, h4]
/-- the values: left, then right -/
theorem t_hv1 (hT : TwOk Ω.sz x A) {i k : Nat} {s : Sol} {a : Sd} {y : Int64} {l4 l5 : Value} (hi : i < 14) (hk : k < 1650) (hs : SoR σ k s) (ha : SdS σ (60 + 2 * i) a) (hy : sdV a s = some y) : gO PG Ω d 85 107 [.ref x, .int (nI i), .int (nI k), .int (nI (60 + 2 * i)), l4, l5, U] [] (tW h x A σ) = gO PG Ω d 85 141 [.ref x, .int (nI i), .int (nI k), .int (nI (60 + 2 * i)), l4, l5, U] [.long y] (tW h x A σ) := by
  cases a with
  | inr c =>
    obtain ⟨h33, h34⟩ := ha
    have : c = y := by simpa [sdV] using hy
    simp (disch := first | omega | decide) only [e_X2_holds_107, e_X2_holds_108, e_X2_holds_111, e_X2_holds_112, e_X2_holds_113, e_X2_holds_116, e_X2_holds_117, e_X2_holds_120, e_X2_holds_121, e_X2_holds_122, e_X2_holds_125, e_X2_holds_126, e_X2_holds_129, e_X2_holds_131, e_X2_holds_132, e_X2_holds_133, e_X2_holds_134, e_X2_holds_137, e_X2_holds_138, e_X2_holds_139, e_X2_holds_140, tw_cl, tg33, tg34, tg37, tg47, tg48, tr33 hT, tr34 hT, tr37 hT, tr47 hT, tr48 hT, ts33 hT, ts34 hT, ts37 hT, ts47 hT, ts48 hT, cR_ref, cR_null, cR_rf, c1_int, c1_ref, c1_null, c1_rf, kz_int, kz_ref, kz_null, kz_rf, kz_U, kz_long, nB_null, nB_ref, rf_none, rf_some, bV_ret, bV_thr, bA_ret, bA_thr, bX_ret, bX_thr, len4_0, len4_1, len4_2, len4_3, len4_4, true_and, and_true, and_self, if_true, if_false, Option.bind_some, nR_b1, nR_b0, nR_bI, nI_1z, nI_0z, bI_z, if_nn, reduceCtorEq, one_ne0, nI_add, pk_mul, h33, m1_neg, h34, this]
  | inl v =>
    obtain ⟨hv, h33⟩ := ha
    have hval := hs.2 v y hv hy
    simp (disch := first | omega | decide) only [e_X2_holds_107, e_X2_holds_108, e_X2_holds_111, e_X2_holds_112, e_X2_holds_113, e_X2_holds_116, e_X2_holds_117, e_X2_holds_120, e_X2_holds_121, e_X2_holds_122, e_X2_holds_125, e_X2_holds_126, e_X2_holds_129, e_X2_holds_131, e_X2_holds_132, e_X2_holds_133, e_X2_holds_134, e_X2_holds_137, e_X2_holds_138, e_X2_holds_139, e_X2_holds_140, tw_cl, tg33, tg34, tg37, tg47, tg48, tr33 hT, tr34 hT, tr37 hT, tr47 hT, tr48 hT, ts33 hT, ts34 hT, ts37 hT, ts47 hT, ts48 hT, cR_ref, cR_null, cR_rf, c1_int, c1_ref, c1_null, c1_rf, kz_int, kz_ref, kz_null, kz_rf, kz_U, kz_long, nB_null, nB_ref, rf_none, rf_some, bV_ret, bV_thr, bA_ret, bA_thr, bX_ret, bX_thr, len4_0, len4_1, len4_2, len4_3, len4_4, true_and, and_true, and_self, if_true, if_false, Option.bind_some, nR_b1, nR_b0, nR_bI, nI_1z, nI_0z, bI_z, if_nn, reduceCtorEq, one_ne0, nI_add, pk_mul, h33, nI_nn, hval]
theorem t_hv2 (hT : TwOk Ω.sz x A) {i k : Nat} {s : Sol} {a : Sd} {z y : Int64} {l4 l5 : Value} (hi : i < 14) (hk : k < 1650) (hs : SoR σ k s) (ha : SdS σ (61 + 2 * i) a) (hy : sdV a s = some y) : gO PG Ω d 85 141 [.ref x, .int (nI i), .int (nI k), .int (nI (60 + 2 * i)), l4, l5, U] [.long z] (tW h x A σ) = gO PG Ω d 85 181 [.ref x, .int (nI i), .int (nI k), .int (nI (60 + 2 * i)), l4, l5, U] [.long y, .long z] (tW h x A σ) := by
  have e61 : 60 + 2 * i + 1 = 61 + 2 * i := by omega
  cases a with
  | inr c =>
    obtain ⟨h33, h34⟩ := ha
    have : c = y := by simpa [sdV] using hy
    simp (disch := first | omega | decide) only [e_X2_holds_141, e_X2_holds_142, e_X2_holds_145, e_X2_holds_146, e_X2_holds_147, e_X2_holds_148, e_X2_holds_149, e_X2_holds_152, e_X2_holds_153, e_X2_holds_156, e_X2_holds_157, e_X2_holds_158, e_X2_holds_159, e_X2_holds_160, e_X2_holds_163, e_X2_holds_164, e_X2_holds_167, e_X2_holds_169, e_X2_holds_170, e_X2_holds_171, e_X2_holds_172, e_X2_holds_175, e_X2_holds_176, e_X2_holds_177, e_X2_holds_178, e_X2_holds_179, e_X2_holds_180, tw_cl, tg33, tg34, tg37, tg47, tg48, tr33 hT, tr34 hT, tr37 hT, tr47 hT, tr48 hT, ts33 hT, ts34 hT, ts37 hT, ts47 hT, ts48 hT, cR_ref, cR_null, cR_rf, c1_int, c1_ref, c1_null, c1_rf, kz_int, kz_ref, kz_null, kz_rf, kz_U, kz_long, nB_null, nB_ref, rf_none, rf_some, bV_ret, bV_thr, bA_ret, bA_thr, bX_ret, bX_thr, len4_0, len4_1, len4_2, len4_3, len4_4, true_and, and_true, and_self, if_true, if_false, Option.bind_some, nR_b1, nR_b0, nR_bI, nI_1z, nI_0z, bI_z, if_nn, reduceCtorEq, one_ne0, nI_add, pk_mul, e61, h33, m1_neg, h34, this]
  | inl v =>
    obtain ⟨hv, h33⟩ := ha
    have hval := hs.2 v y hv hy
    simp (disch := first | omega | decide) only [e_X2_holds_141, e_X2_holds_142, e_X2_holds_145, e_X2_holds_146, e_X2_holds_147, e_X2_holds_148, e_X2_holds_149, e_X2_holds_152, e_X2_holds_153, e_X2_holds_156, e_X2_holds_157, e_X2_holds_158, e_X2_holds_159, e_X2_holds_160, e_X2_holds_163, e_X2_holds_164, e_X2_holds_167, e_X2_holds_169, e_X2_holds_170, e_X2_holds_171, e_X2_holds_172, e_X2_holds_175, e_X2_holds_176, e_X2_holds_177, e_X2_holds_178, e_X2_holds_179, e_X2_holds_180, tw_cl, tg33, tg34, tg37, tg47, tg48, tr33 hT, tr34 hT, tr37 hT, tr47 hT, tr48 hT, ts33 hT, ts34 hT, ts37 hT, ts47 hT, ts48 hT, cR_ref, cR_null, cR_rf, c1_int, c1_ref, c1_null, c1_rf, kz_int, kz_ref, kz_null, kz_rf, kz_U, kz_long, nB_null, nB_ref, rf_none, rf_some, bV_ret, bV_thr, bA_ret, bA_thr, bX_ret, bX_thr, len4_0, len4_1, len4_2, len4_3, len4_4, true_and, and_true, and_self, if_true, if_false, Option.bind_some, nR_b1, nR_b0, nR_bI, nI_1z, nI_0z, bI_z, if_nn, reduceCtorEq, one_ne0, nI_add, pk_mul, e61, h33, nI_nn, hval]
theorem t_holds (hT : TwOk Ω.sz x A) {i k : Nat} {s : Sol} {c : Nat ⊕ (Sd × Nat × Sd)} (hi : i < 14) (hk : k < 1650) (hs : SoR σ k s) (hc : CoS σ i c) (hK : SoK s) (hcK : CoK c) : gM PG Ω (d + 2) 85 [.ref x, .int (nI i), .int (nI k)] (tW h x A σ) = some (.returned (some (.int (bI (hoC c s)))), tW h x A σ) := by
  cases c with
  | inl v =>
    obtain ⟨h37, ha⟩ := hc
    rw [t_hol hT hi hk hs ha]
    simp (disch := first | omega | decide) only [e_X2_holds_42, e_X2_holds_43, e_X2_holds_46, e_X2_holds_47, e_X2_holds_48, e_X2_holds_50, e_X2_holds_53, e_X2_holds_55, tw_cl, tg33, tg34, tg37, tg47, tg48, tr33 hT, tr34 hT, tr37 hT, tr47 hT, tr48 hT, ts33 hT, ts34 hT, ts37 hT, ts47 hT, ts48 hT, cR_ref, cR_null, cR_rf, c1_int, c1_ref, c1_null, c1_rf, kz_int, kz_ref, kz_null, kz_rf, kz_U, kz_long, nB_null, nB_ref, rf_none, rf_some, bV_ret, bV_thr, bA_ret, bA_thr, bX_ret, bX_thr, len4_0, len4_1, len4_2, len4_3, len4_4, true_and, and_true, and_self, if_true, if_false, Option.bind_some, nR_b1, nR_b0, nR_bI, nI_1z, nI_0z, bI_z, if_nn, reduceCtorEq, one_ne0, h37, ↓nI_eq_if]
    rfl
  | inr c =>
    obtain ⟨a, g, b⟩ := c
    obtain ⟨h37, hg, ha, hb⟩ := hc
    rw [t_hol hT hi hk hs ha, t_hor hT kz_int hi hk hs h37 hg hb]
    cases hy : sdV a s with
    | none =>
      simp (disch := first | omega | decide) only [e_X2_holds_95, e_X2_holds_97, e_X2_holds_100, e_X2_holds_102, e_X2_holds_105, e_X2_holds_106, cR_ref, cR_null, cR_rf, c1_int, c1_ref, c1_null, c1_rf, kz_int, kz_ref, kz_null, kz_rf, kz_U, kz_long, nB_null, nB_ref, rf_none, rf_some, bV_ret, bV_thr, bA_ret, bA_thr, bX_ret, bX_thr, len4_0, len4_1, len4_2, len4_3, len4_4, true_and, and_true, and_self, if_true, if_false, Option.bind_some, nR_b1, nR_b0, nR_bI, nI_1z, nI_0z, bI_z, if_nn, reduceCtorEq, one_ne0, Option.isSome_none, hoC, hy, bI_f]
    | some y =>
      cases hz : sdV b s with
      | none =>
        simp (disch := first | omega | decide) only [e_X2_holds_95, e_X2_holds_97, e_X2_holds_100, e_X2_holds_102, e_X2_holds_105, e_X2_holds_106, cR_ref, cR_null, cR_rf, c1_int, c1_ref, c1_null, c1_rf, kz_int, kz_ref, kz_null, kz_rf, kz_U, kz_long, nB_null, nB_ref, rf_none, rf_some, bV_ret, bV_thr, bA_ret, bA_thr, bX_ret, bX_thr, len4_0, len4_1, len4_2, len4_3, len4_4, true_and, and_true, and_self, if_true, if_false, Option.bind_some, nR_b1, nR_b0, nR_bI, nI_1z, nI_0z, bI_z, if_nn, reduceCtorEq, one_ne0, Option.isSome_none, Option.isSome_some, hoC, hy, hz, bI_f, bI_t]
      | some z =>
        have oy := sdV_ok hK hcK.1 hy
        have oz := sdV_ok hK hcK.2 hz
        have ec := t_compare (Ω := Ω) (d := d) (h := tW h x A σ) oy oz
        simp (disch := first | omega | decide) only [e_X2_holds_95, e_X2_holds_97, e_X2_holds_100, e_X2_holds_102, e_X2_holds_105, e_X2_holds_106, cR_ref, cR_null, cR_rf, c1_int, c1_ref, c1_null, c1_rf, kz_int, kz_ref, kz_null, kz_rf, kz_U, kz_long, nB_null, nB_ref, rf_none, rf_some, bV_ret, bV_thr, bA_ret, bA_thr, bX_ret, bX_thr, len4_0, len4_1, len4_2, len4_3, len4_4, true_and, and_true, and_self, if_true, if_false, Option.bind_some, nR_b1, nR_b0, nR_bI, nI_1z, nI_0z, bI_z, if_nn, reduceCtorEq, one_ne0, Option.isSome_some, bI_t]
        rw [t_hv1 hT hi hk hs ha hy, t_hv2 hT hi hk hs hb hz]
        simp (disch := first | omega | decide) only [e_X2_holds_181, cR_ref, cR_null, cR_rf, c1_int, c1_ref, c1_null, c1_rf, kz_int, kz_ref, kz_null, kz_rf, kz_U, kz_long, nB_null, nB_ref, rf_none, rf_some, bV_ret, bV_thr, bA_ret, bA_thr, bX_ret, bX_thr, len4_0, len4_1, len4_2, len4_3, len4_4, true_and, and_true, and_self, if_true, if_false, Option.bind_some, nR_b1, nR_b0, nR_bI, nI_1z, nI_0z, bI_z, if_nn, reduceCtorEq, one_ne0, ec]
        rw [t_hos hT oy oz hi h37 hg]
        simp only [hoC, hy, hz]
end TE7
