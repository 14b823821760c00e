/-! TWIN, sync and crash -/
theorem dec1 {m : Nat} : nI m + (-1) = nI m - nI 1 := by rw [Int32.sub_eq_add_neg]; rfl
theorem nI_pl {c : Nat} (h : c < 2 ^ 31) : (nI c - nI 1 < nI c) = True := by
  apply eq_true
  cases c with
  | zero => decide
  | succ c => rw [pk_pred]; exact nI_lt (by omega) h
/-- entry i of the changes' arrays -/
def EnC (σ : Tw) (i : Nat) (c : Chg) : Prop := σ.2.2.2 4 (3 * i) = c.2.1 ∧ σ.2.2.2 4 (3 * i + 1) = c.2.2.1 ∧ σ.2.2.2 4 (3 * i + 2) = c.2.2.2 ∧ σ.2.2.1 5 i = bI c.1
section TW7
variable {Ω : Om} {d : Nat} {h : AH} {x : Nat} {A : Nat → Nat} {σ : Tw}
set_option maxHeartbeats 2000000 in
/-- settle's first loop: the open changes undone -/
theorem t_settle1 (hT : TwOk Ω.sz x A) {C0 : List Chg} {n1 : Nat} {w4 : Value} : ∀ (n : Nat) (Cv : List Chg) (L : List Tri) (σ : Tw), Cv.length = n → TrL (σ.2.2.2 0) L → σ.1 1 = nI L.length → (∀ i c, (C0 ++ Cv)[i]? = some c → EnC σ i c) → (C0 ++ Cv).length < 800 → okL L (undL Cv) →
    ∃ σ', gO PG Ω (d + 3) 54 35 [.ref x, .int (nI n1), .int (nI C0.length), .int (nI (C0 ++ Cv).length - nI 1), w4] [] (tW h x A σ) = gO PG Ω (d + 3) 54 92 [.ref x, .int (nI n1), .int (nI C0.length), .int (nI C0.length - nI 1), w4] [] (tW h x A σ') ∧ TrL (σ'.2.2.2 0) (apL L (undL Cv)) ∧ σ'.1 1 = nI (apL L (undL Cv)).length ∧ Fx [1] [] [0] σ σ' := by
  intro n
  induction n with
  | zero =>
    intro Cv L σ hl hL hn hC h8 hok
    have : Cv = [] := List.length_eq_zero_iff.mp hl
    subst this
    refine ⟨σ, ?_, hL, hn, Fx.rfl'⟩
    simp only [List.append_nil] at h8 ⊢
    rw [e_X2_settle_35]
    simp (disch := omega) only [e_X2_settle_36, e_X2_settle_37, e_X2_settle_40, e_X2_settle_41, e_X2_settle_42, e_X2_settle_45, e_X2_settle_46, e_X2_settle_47, e_X2_settle_50, e_X2_settle_51, e_X2_settle_54, e_X2_settle_55, e_X2_settle_56, e_X2_settle_59, e_X2_settle_60, e_X2_settle_61, e_X2_settle_62, e_X2_settle_63, e_X2_settle_64, e_X2_settle_67, e_X2_settle_68, e_X2_settle_69, e_X2_settle_70, e_X2_settle_71, e_X2_settle_72, e_X2_settle_73, e_X2_settle_74, e_X2_settle_77, e_X2_settle_78, e_X2_settle_79, e_X2_settle_80, e_X2_settle_81, e_X2_settle_82, e_X2_settle_83, e_X2_settle_86, e_X2_settle_89, tw_cl, tg0, tg1, tg10, tg11, tg2, tg4, tg5, tg6, tg7, tp11 hT, tp3 hT, tp7 hT, tp9 hT, tr0 hT, tr2 hT, tr4 hT, tr5 hT, tr6 hT, ts0 hT, ts2 hT, ts4 hT, ts5 hT, ts6 hT, cR_ref, cR_null, cR_rf, c1_int, c1_ref, c1_null, c1_rf, kz_int, kz_ref, kz_null, kz_rf, kz_U, kz_long, nB_null, nB_ref, rf_none, rf_some, bV_ret, bV_thr, bA_ret, bA_thr, bX_ret, bX_thr, len4_0, len4_1, len4_2, len4_3, len4_4, true_and, and_true, and_self, if_true, if_false, Option.bind_some, nR_b1, nR_b0, nR_bI, nI_1z, nI_0z, bI_z, if_nn, sI_1, sI_2, sT_1, sT_21, sT_22, sA_1, sA_21, sA_221, sA_222, sL_1, sL_21, sL_221, sL_222, Nat.reduceEqDiff, ↓reduceIte, nI_add, pk_mul, nI_pl]
  | succ n ih =>
    intro Cu L σ hl hL hn hC h8 hok
    obtain ⟨Cv, c, rfl⟩ : ∃ Cv c, Cu = Cv ++ [c] := ⟨Cu.dropLast, Cu.getLast (fun e => by rw [e] at hl; simp at hl), (List.dropLast_concat_getLast _).symm⟩
    have hlv : Cv.length = n := by simpa using hl
    have e1 : undL (Cv ++ [c]) = (!c.1, c.2) :: undL Cv := by simp [undL]
    rw [e1] at hok ⊢
    have elen : (C0 ++ (Cv ++ [c])).length = (C0 ++ Cv).length + 1 := by simp [Nat.add_assoc]
    rw [elen] at h8 ⊢
    obtain ⟨g1, g2, g3, g4⟩ := hC (C0 ++ Cv).length c (by rw [← List.append_assoc, List.getElem?_append_right (Nat.le_refl _)]; simp)
    generalize hm : (C0 ++ Cv).length = m at *
    have hm0 : C0.length ≤ m := by rw [← hm]; simp
    obtain ⟨σ1, a1, a2, a3, a4⟩ := t_apply (d := d + 1) (h := h) (σ := σ) hT (L := L) hL hn (b := !c.1) (s := c.2.1) (p := c.2.2.1) (o := c.2.2.2) hok.1.1 hok.1.2
    obtain ⟨σ2, b1, b2, b3, b4⟩ := ih Cv (apT L (!c.1, c.2)) σ1 hlv a2 a3 (fun i q hq => by
      have hli := (List.getElem?_eq_some_iff.mp hq).1
      have := hC i q (by rw [← List.append_assoc, List.getElem?_append_left hli]; exact hq)
      unfold EnC
      rw [a4.2.2 4 (by decide), a4.2.1 5 (by decide)]
      exact this) (by omega) hok.2
    refine ⟨σ2, ?_, b2, b3, a4.trans b4⟩
    rw [← b1, e_X2_settle_35]
    have hnl : (nI m < nI C0.length) = False := eq_false (nI_nlt hm0 (by omega))
    simp (disch := omega) only [e_X2_settle_36, e_X2_settle_37, e_X2_settle_40, e_X2_settle_41, e_X2_settle_42, e_X2_settle_45, e_X2_settle_46, e_X2_settle_47, e_X2_settle_50, e_X2_settle_51, e_X2_settle_54, e_X2_settle_55, e_X2_settle_56, e_X2_settle_59, e_X2_settle_60, e_X2_settle_61, e_X2_settle_62, e_X2_settle_63, e_X2_settle_64, e_X2_settle_67, e_X2_settle_68, e_X2_settle_69, e_X2_settle_70, e_X2_settle_71, e_X2_settle_72, e_X2_settle_73, e_X2_settle_74, e_X2_settle_77, e_X2_settle_78, e_X2_settle_79, e_X2_settle_80, e_X2_settle_81, e_X2_settle_82, e_X2_settle_83, e_X2_settle_86, e_X2_settle_89, tw_cl, tg0, tg1, tg10, tg11, tg2, tg4, tg5, tg6, tg7, tp11 hT, tp3 hT, tp7 hT, tp9 hT, tr0 hT, tr2 hT, tr4 hT, tr5 hT, tr6 hT, ts0 hT, ts2 hT, ts4 hT, ts5 hT, ts6 hT, cR_ref, cR_null, cR_rf, c1_int, c1_ref, c1_null, c1_rf, kz_int, kz_ref, kz_null, kz_rf, kz_U, kz_long, nB_null, nB_ref, rf_none, rf_some, bV_ret, bV_thr, bA_ret, bA_thr, bX_ret, bX_thr, len4_0, len4_1, len4_2, len4_3, len4_4, true_and, and_true, and_self, if_true, if_false, Option.bind_some, nR_b1, nR_b0, nR_bI, nI_1z, nI_0z, bI_z, if_nn, sI_1, sI_2, sT_1, sT_21, sT_22, sA_1, sA_21, sA_221, sA_222, sL_1, sL_21, sL_221, sL_222, Nat.reduceEqDiff, ↓reduceIte, nI_add, pk_mul, pk_pred, hnl, g1, g2, g3, g4, dec1]
    rw [hm]
    cases hb : c.1 with
    | false =>
      rw [hb] at a1
      simp only [Bool.not_false, bI_t] at a1
      simp only [if_true, a1, cR_ref, cR_null, cR_rf, c1_int, c1_ref, c1_null, c1_rf, kz_int, kz_ref, kz_null, kz_rf, kz_U, kz_long, nB_null, nB_ref, rf_none, rf_some, bV_ret, bV_thr, bA_ret, bA_thr, bX_ret, bX_thr, len4_0, len4_1, len4_2, len4_3, len4_4, true_and, and_true, and_self, if_true, if_false, Option.bind_some, nR_b1, nR_b0, nR_bI, nI_1z, nI_0z, bI_z, if_nn, e_X2_settle_86, e_X2_settle_89, dec1]
    | true =>
      rw [hb] at a1
      simp only [Bool.not_true, bI_f] at a1
      simp only [Bool.true_eq_false, if_false, a1, cR_ref, cR_null, cR_rf, c1_int, c1_ref, c1_null, c1_rf, kz_int, kz_ref, kz_null, kz_rf, kz_U, kz_long, nB_null, nB_ref, rf_none, rf_some, bV_ret, bV_thr, bA_ret, bA_thr, bX_ret, bX_thr, len4_0, len4_1, len4_2, len4_3, len4_4, true_and, and_true, and_self, if_true, if_false, Option.bind_some, nR_b1, nR_b0, nR_bI, nI_1z, nI_0z, bI_z, if_nn, e_X2_settle_86, e_X2_settle_89, dec1]
set_option maxHeartbeats 2000000 in
/-- settle's second loop: what stands is kept -/
theorem t_settle2 (hT : TwOk Ω.sz x A) {L : List Tri} {w1 w4 : Value} {a2 : Int32} (h48 : L.length ≤ 48) : ∀ (n i : Nat) (σ : Tw), i + n = 3 * L.length → σ.1 1 = nI L.length → (∀ j, j < i → σ.2.2.2 2 j = σ.2.2.2 0 j) →
    ∃ σ', gO PG Ω (d + 3) 54 94 [.ref x, w1, .int a2, .int (nI i), w4] [] (tW h x A σ) = gO PG Ω (d + 3) 54 122 [.ref x, w1, .int a2, .int (nI (3 * L.length)), w4] [] (tW h x A σ') ∧ (∀ j, j < 3 * L.length → σ'.2.2.2 2 j = σ.2.2.2 0 j) ∧ Fx [] [] [2] σ σ' := by
  intro n
  induction n with
  | zero =>
    intro i σ hi hn hk
    refine ⟨σ, ?_, fun j hj => hk j (by omega), Fx.rfl'⟩
    have : i = 3 * L.length := by omega
    subst this
    rw [e_X2_settle_94]
    simp (disch := omega) only [e_X2_settle_95, e_X2_settle_96, e_X2_settle_97, e_X2_settle_100, e_X2_settle_101, e_X2_settle_104, e_X2_settle_105, e_X2_settle_108, e_X2_settle_109, e_X2_settle_110, e_X2_settle_113, e_X2_settle_114, e_X2_settle_115, e_X2_settle_116, e_X2_settle_119, tw_cl, tg0, tg1, tg10, tg11, tg2, tg4, tg5, tg6, tg7, tp11 hT, tp3 hT, tp7 hT, tp9 hT, tr0 hT, tr2 hT, tr4 hT, tr5 hT, tr6 hT, ts0 hT, ts2 hT, ts4 hT, ts5 hT, ts6 hT, cR_ref, cR_null, cR_rf, c1_int, c1_ref, c1_null, c1_rf, kz_int, kz_ref, kz_null, kz_rf, kz_U, kz_long, nB_null, nB_ref, rf_none, rf_some, bV_ret, bV_thr, bA_ret, bA_thr, bX_ret, bX_thr, len4_0, len4_1, len4_2, len4_3, len4_4, true_and, and_true, and_self, if_true, if_false, Option.bind_some, nR_b1, nR_b0, nR_bI, nI_1z, nI_0z, bI_z, if_nn, sI_1, sI_2, sT_1, sT_21, sT_22, sA_1, sA_21, sA_221, sA_222, sL_1, sL_21, sL_221, sL_222, Nat.reduceEqDiff, ↓reduceIte, nI_add, pk_mul, hn, nI_lt_if, Nat.lt_irrefl]
  | succ n ih =>
    intro i σ hi hn hk
    obtain ⟨σ2, b1, b2, b3⟩ := ih (i + 1) (sL σ 2 i (σ.2.2.2 0 i)) (by omega) hn (fun j hj => by
      rw [sL_222, if_pos rfl, sL_222, if_neg (by decide)]
      unfold va_up
      by_cases hji : j = i
      · rw [if_pos hji, hji]
      · rw [if_neg hji]; exact hk j (by omega))
    refine ⟨σ2, ?_, b2, (Fx.sL Fx.rfl' (by decide)).trans b3⟩
    rw [← b1, e_X2_settle_94]
    have hlt : i < 3 * L.length := by omega
    simp (disch := omega) only [e_X2_settle_95, e_X2_settle_96, e_X2_settle_97, e_X2_settle_100, e_X2_settle_101, e_X2_settle_104, e_X2_settle_105, e_X2_settle_108, e_X2_settle_109, e_X2_settle_110, e_X2_settle_113, e_X2_settle_114, e_X2_settle_115, e_X2_settle_116, e_X2_settle_119, tw_cl, tg0, tg1, tg10, tg11, tg2, tg4, tg5, tg6, tg7, tp11 hT, tp3 hT, tp7 hT, tp9 hT, tr0 hT, tr2 hT, tr4 hT, tr5 hT, tr6 hT, ts0 hT, ts2 hT, ts4 hT, ts5 hT, ts6 hT, cR_ref, cR_null, cR_rf, c1_int, c1_ref, c1_null, c1_rf, kz_int, kz_ref, kz_null, kz_rf, kz_U, kz_long, nB_null, nB_ref, rf_none, rf_some, bV_ret, bV_thr, bA_ret, bA_thr, bX_ret, bX_thr, len4_0, len4_1, len4_2, len4_3, len4_4, true_and, and_true, and_self, if_true, if_false, Option.bind_some, nR_b1, nR_b0, nR_bI, nI_1z, nI_0z, bI_z, if_nn, sI_1, sI_2, sT_1, sT_21, sT_22, sA_1, sA_21, sA_221, sA_222, sL_1, sL_21, sL_221, sL_222, Nat.reduceEqDiff, ↓reduceIte, nI_add, pk_mul, hn, nI_lt_if, hlt]
set_option maxHeartbeats 4000000 in
/-- settle's third loop: the open changes move to the front, and are made again -/
theorem t_settle3 (hT : TwOk Ω.sz x A) {C0 Cu : List Chg} {w4 : Value} (h8 : (C0 ++ Cu).length < 800) : ∀ (n i : Nat) (L : List Tri) (σ : Tw) (w4 : Value), i + n = Cu.length → TrL (σ.2.2.2 0) L → σ.1 1 = nI L.length → (∀ j c, j < i → Cu[j]? = some c → EnC σ j c ∧ σ.2.2.1 6 j = nI 0) → (∀ j c, i ≤ j → Cu[j]? = some c → EnC σ (C0.length + j) c) → okL L (Cu.drop i) →
    ∃ σ' w4', gO PG Ω (d + 3) 54 132 [.ref x, .int (nI Cu.length), .int (nI C0.length), .int (nI i), w4] [] (tW h x A σ) = gO PG Ω (d + 3) 54 241 [.ref x, .int (nI Cu.length), .int (nI C0.length), .int (nI Cu.length), w4'] [] (tW h x A σ') ∧ TrL (σ'.2.2.2 0) (apL L (Cu.drop i)) ∧ σ'.1 1 = nI (apL L (Cu.drop i)).length ∧ (∀ j c, Cu[j]? = some c → EnC σ' j c ∧ σ'.2.2.1 6 j = nI 0) ∧ Fx [1] [5, 6] [0, 4] σ σ' := by
  have hlen : C0.length + Cu.length < 800 := by simpa using h8
  intro n
  induction n with
  | zero =>
    intro i L σ w4 hi hL hn hd hr hok
    have : i = Cu.length := by omega
    subst this
    refine ⟨σ, w4, ?_, by simpa [apL] using hL, by simpa [apL] using hn, fun j c hj => hd j c (List.getElem?_eq_some_iff.mp hj).1 hj, Fx.rfl'⟩
    rw [e_X2_settle_132]
    simp (disch := omega) only [e_X2_settle_133, e_X2_settle_134, e_X2_settle_137, e_X2_settle_138, e_X2_settle_142, e_X2_settle_143, e_X2_settle_146, e_X2_settle_147, e_X2_settle_150, e_X2_settle_151, e_X2_settle_152, e_X2_settle_153, e_X2_settle_155, e_X2_settle_156, e_X2_settle_157, e_X2_settle_160, e_X2_settle_161, e_X2_settle_162, e_X2_settle_163, e_X2_settle_164, e_X2_settle_165, e_X2_settle_167, e_X2_settle_168, e_X2_settle_169, e_X2_settle_170, e_X2_settle_173, e_X2_settle_176, e_X2_settle_177, e_X2_settle_180, e_X2_settle_181, e_X2_settle_182, e_X2_settle_185, e_X2_settle_186, e_X2_settle_187, e_X2_settle_188, e_X2_settle_189, e_X2_settle_190, e_X2_settle_191, e_X2_settle_194, e_X2_settle_195, e_X2_settle_196, e_X2_settle_197, e_X2_settle_198, e_X2_settle_199, e_X2_settle_202, e_X2_settle_203, e_X2_settle_204, e_X2_settle_205, e_X2_settle_208, e_X2_settle_209, e_X2_settle_210, e_X2_settle_211, e_X2_settle_212, e_X2_settle_213, e_X2_settle_216, e_X2_settle_217, e_X2_settle_218, e_X2_settle_219, e_X2_settle_220, e_X2_settle_221, e_X2_settle_222, e_X2_settle_223, e_X2_settle_226, e_X2_settle_227, e_X2_settle_228, e_X2_settle_229, e_X2_settle_230, e_X2_settle_231, e_X2_settle_232, e_X2_settle_235, e_X2_settle_238, tw_cl, tg0, tg1, tg10, tg11, tg2, tg4, tg5, tg6, tg7, tp11 hT, tp3 hT, tp7 hT, tp9 hT, tr0 hT, tr2 hT, tr4 hT, tr5 hT, tr6 hT, ts0 hT, ts2 hT, ts4 hT, ts5 hT, ts6 hT, cR_ref, cR_null, cR_rf, c1_int, c1_ref, c1_null, c1_rf, kz_int, kz_ref, kz_null, kz_rf, kz_U, kz_long, nB_null, nB_ref, rf_none, rf_some, bV_ret, bV_thr, bA_ret, bA_thr, bX_ret, bX_thr, len4_0, len4_1, len4_2, len4_3, len4_4, true_and, and_true, and_self, if_true, if_false, Option.bind_some, nR_b1, nR_b0, nR_bI, nI_1z, nI_0z, bI_z, if_nn, sI_1, sI_2, sT_1, sT_21, sT_22, sA_1, sA_21, sA_221, sA_222, sL_1, sL_21, sL_221, sL_222, Nat.reduceEqDiff, ↓reduceIte, nI_add, pk_mul, nI_lt_if, Nat.lt_irrefl]
  | succ n ih =>
    intro i L σ w4 hi hL hn hd hr hok
    have hil : i < Cu.length := by omega
    have hci : Cu[i]? = some Cu[i] := List.getElem?_eq_getElem hil
    generalize hc : Cu[i] = c at hci
    obtain ⟨g1, g2, g3, g4⟩ := hr i c (Nat.le_refl _) hci
    have edrop : Cu.drop i = c :: Cu.drop (i + 1) := by rw [List.drop_eq_getElem_cons hil, hc]
    rw [edrop] at hok ⊢
    generalize hσ1 : sA (sA (sL (sL (sL σ 4 (3 * i + 0) c.2.1) 4 (3 * i + 1) c.2.2.1) 4 (3 * i + 2) c.2.2.2) 5 i (bI c.1)) 6 i (nI 0) = σ1
    have k0 : σ1.2.2.2 0 = σ.2.2.2 0 := by rw [← hσ1]; rfl
    have k1 : σ1.1 1 = σ.1 1 := by rw [← hσ1]; rfl
    obtain ⟨σ2, a1, a2, a3, a4⟩ := t_apply (d := d + 1) (h := h) (σ := σ1) hT (L := L) (by rw [k0]; exact hL) (by rw [k1]; exact hn) (b := c.1) (s := c.2.1) (p := c.2.2.1) (o := c.2.2.2) hok.1.1 hok.1.2
    have e4 : ∀ j, σ2.2.2.2 4 j = if j = 3 * i + 2 then c.2.2.2 else if j = 3 * i + 1 then c.2.2.1 else if j = 3 * i + 0 then c.2.1 else σ.2.2.2 4 j := fun j => by rw [a4.2.2 4 (by decide), ← hσ1]; rfl
    have e5 : ∀ j, σ2.2.2.1 5 j = if j = i then bI c.1 else σ.2.2.1 5 j := fun j => by rw [a4.2.1 5 (by decide), ← hσ1]; rfl
    have e6 : ∀ j, σ2.2.2.1 6 j = if j = i then nI 0 else σ.2.2.1 6 j := fun j => by rw [a4.2.1 6 (by decide), ← hσ1]; rfl
    obtain ⟨σ3, w5, b1, b2, b3, b4, b5⟩ := ih (i + 1) (apT L c) σ2 (.int (nI 3)) (by omega) a2 a3 (fun j q hj hq => by
      by_cases hji : j = i
      · subst hji
        cases hci.symm.trans hq
        refine ⟨⟨?_, ?_, ?_, ?_⟩, ?_⟩
        · rw [e4, if_neg (by omega), if_neg (by omega), if_pos (by omega)]
        · rw [e4, if_neg (by omega), if_pos (by omega)]
        · rw [e4, if_pos (by omega)]
        · rw [e5, if_pos rfl]
        · rw [e6, if_pos rfl]
      · obtain ⟨⟨z1, z2, z3, z4⟩, z5⟩ := hd j q (by omega) hq
        refine ⟨⟨?_, ?_, ?_, ?_⟩, ?_⟩
        · rw [e4, if_neg (by omega), if_neg (by omega), if_neg (by omega)]; exact z1
        · rw [e4, if_neg (by omega), if_neg (by omega), if_neg (by omega)]; exact z2
        · rw [e4, if_neg (by omega), if_neg (by omega), if_neg (by omega)]; exact z3
        · rw [e5, if_neg hji]; exact z4
        · rw [e6, if_neg hji]; exact z5) (fun j q hj hq => by
      obtain ⟨z1, z2, z3, z4⟩ := hr j q (by omega) hq
      refine ⟨?_, ?_, ?_, ?_⟩
      · rw [e4, if_neg (by omega), if_neg (by omega), if_neg (by omega)]; exact z1
      · rw [e4, if_neg (by omega), if_neg (by omega), if_neg (by omega)]; exact z2
      · rw [e4, if_neg (by omega), if_neg (by omega), if_neg (by omega)]; exact z3
      · rw [e5, if_neg (by omega)]; exact z4) hok.2
    refine ⟨σ3, w5, ?_, b2, b3, b4, ?_⟩
    · rw [← b1, e_X2_settle_132]
      have u1 : va_up (σ.2.2.2 4) (3 * i + 0) (σ.2.2.2 4 (3 * (C0.length + i) + 0)) (3 * (C0.length + i) + 1) = c.2.2.1 := by
        unfold va_up; rw [if_neg (by omega)]; exact g2
      have u2 : va_up (va_up (σ.2.2.2 4) (3 * i + 0) (σ.2.2.2 4 (3 * (C0.length + i) + 0))) (3 * i + 1) (c.2.2.1) (3 * (C0.length + i) + 2) = c.2.2.2 := by
        unfold va_up; rw [if_neg (by omega), if_neg (by omega)]; exact g3
      have u0 : σ.2.2.2 4 (3 * (C0.length + i) + 0) = c.2.1 := g1
      rw [u0] at u1 u2
      have v1 : va_up (va_up (va_up (σ.2.2.2 4) (3 * i + 0) c.2.1) (3 * i + 1) c.2.2.1) (3 * i + 2) c.2.2.2 (3 * i) = c.2.1 := by
        unfold va_up; rw [if_neg (by omega), if_neg (by omega), if_pos (by omega)]
      have v2 : va_up (va_up (va_up (σ.2.2.2 4) (3 * i + 0) c.2.1) (3 * i + 1) c.2.2.1) (3 * i + 2) c.2.2.2 (3 * i + 1) = c.2.2.1 := by
        unfold va_up; rw [if_neg (by omega), if_pos (by omega)]
      have v3 : va_up (va_up (va_up (σ.2.2.2 4) (3 * i + 0) c.2.1) (3 * i + 1) c.2.2.1) (3 * i + 2) c.2.2.2 (3 * i + 2) = c.2.2.2 := by
        unfold va_up; rw [if_pos (by omega)]
      have v5 : va_up (σ.2.2.1 5) i (bI c.1) i = bI c.1 := by unfold va_up; rw [if_pos rfl]
      simp (disch := first | omega | exact okv_bI) only [e_X2_settle_133, e_X2_settle_134, e_X2_settle_137, e_X2_settle_138, e_X2_settle_142, e_X2_settle_143, e_X2_settle_146, e_X2_settle_147, e_X2_settle_150, e_X2_settle_151, e_X2_settle_152, e_X2_settle_153, e_X2_settle_155, e_X2_settle_156, e_X2_settle_157, e_X2_settle_160, e_X2_settle_161, e_X2_settle_162, e_X2_settle_163, e_X2_settle_164, e_X2_settle_165, e_X2_settle_167, e_X2_settle_168, e_X2_settle_169, e_X2_settle_170, e_X2_settle_173, e_X2_settle_176, e_X2_settle_177, e_X2_settle_180, e_X2_settle_181, e_X2_settle_182, e_X2_settle_185, e_X2_settle_186, e_X2_settle_187, e_X2_settle_188, e_X2_settle_189, e_X2_settle_190, e_X2_settle_191, e_X2_settle_194, e_X2_settle_195, e_X2_settle_196, e_X2_settle_197, e_X2_settle_198, e_X2_settle_199, e_X2_settle_202, e_X2_settle_203, e_X2_settle_204, e_X2_settle_205, e_X2_settle_208, e_X2_settle_209, e_X2_settle_210, e_X2_settle_211, e_X2_settle_212, e_X2_settle_213, e_X2_settle_216, e_X2_settle_217, e_X2_settle_218, e_X2_settle_219, e_X2_settle_220, e_X2_settle_221, e_X2_settle_222, e_X2_settle_223, e_X2_settle_226, e_X2_settle_227, e_X2_settle_228, e_X2_settle_229, e_X2_settle_230, e_X2_settle_231, e_X2_settle_232, e_X2_settle_235, e_X2_settle_238, e_X2_settle_140, tw_cl, tg0, tg1, tg10, tg11, tg2, tg4, tg5, tg6, tg7, tp11 hT, tp3 hT, tp7 hT, tp9 hT, tr0 hT, tr2 hT, tr4 hT, tr5 hT, tr6 hT, ts0 hT, ts2 hT, ts4 hT, ts5 hT, ts6 hT, cR_ref, cR_null, cR_rf, c1_int, c1_ref, c1_null, c1_rf, kz_int, kz_ref, kz_null, kz_rf, kz_U, kz_long, nB_null, nB_ref, rf_none, rf_some, bV_ret, bV_thr, bA_ret, bA_thr, bX_ret, bX_thr, len4_0, len4_1, len4_2, len4_3, len4_4, true_and, and_true, and_self, if_true, if_false, Option.bind_some, nR_b1, nR_b0, nR_bI, nI_1z, nI_0z, bI_z, if_nn, sI_1, sI_2, sT_1, sT_21, sT_22, sA_1, sA_21, sA_221, sA_222, sL_1, sL_21, sL_221, sL_222, Nat.reduceEqDiff, ↓reduceIte, nI_add, pk_mul, nI_lt_if, hil, Nat.reduceLT, Nat.reduceAdd, u0, u1, u2, g4, v1, v2, v3, v5]
      rw [← hσ1] at a1
      simp only [a1, cR_ref, cR_null, cR_rf, c1_int, c1_ref, c1_null, c1_rf, kz_int, kz_ref, kz_null, kz_rf, kz_U, kz_long, nB_null, nB_ref, rf_none, rf_some, bV_ret, bV_thr, bA_ret, bA_thr, bX_ret, bX_thr, len4_0, len4_1, len4_2, len4_3, len4_4, true_and, and_true, and_self, if_true, if_false, Option.bind_some, nR_b1, nR_b0, nR_bI, nI_1z, nI_0z, bI_z, if_nn, e_X2_settle_235, e_X2_settle_238, nI_add, pk_mul]
    · refine Fx.trans ?_ b5
      refine Fx.trans ?_ (a4.mono (by decide) (by decide) (by decide))
      rw [← hσ1]
      exact ((((Fx.rfl'.sL (by decide)).sL (by decide)).sL (by decide)).sA (by decide)).sA (by decide)
/-- settle: what stands is synced, but for the open transaction's changes, which move to the front -/
theorem t_settle (hT : TwOk Ω.sz x A) {L K : List Tri} {C0 Cu : List (Chg × Nat)} {cm us oF : Nat} {op : Bool} (ha : TSto σ (L, K, C0 ++ Cu, cm, us, oF, op)) (hf : (op = true ∧ oF = C0.length) ∨ (op = false ∧ Cu = [])) (h8 : (C0 ++ Cu).length < 800) (hok : okL L (undL (Cu.map (·.1)))) (hok2 : okL (apL L (undL (Cu.map (·.1)))) (Cu.map (·.1))) :
    ∃ σ', gM PG Ω (d + 4) 54 [.ref x] (tW h x A σ) = some (.returned none, tW h x A σ') ∧ TSto σ' (apL (apL L (undL (Cu.map (·.1)))) (Cu.map (·.1)), apL L (undL (Cu.map (·.1))), Cu.map (fun c => (c.1, 0)), cm, 0, 0, op) ∧ FxS σ σ' ∧ σ'.1 58 = σ.1 58 := by
  obtain ⟨hL, hn, hK, hkn, hC, hcn, hcm, hus, hoF, hop⟩ := ha
  dsimp only at *
  have hlen : C0.length + Cu.length < 800 := by simpa using h8
  have hmap : C0.map (·.1) ++ Cu.map (·.1) = (C0 ++ Cu).map (·.1) := by simp
  obtain ⟨σ1, a1, a2, a3, a4⟩ := t_settle1 (d := d) (h := h) (n1 := Cu.length) (w4 := U) hT (C0 := C0.map (·.1)) Cu.length (Cu.map (·.1)) L σ (by simp) hL hn (fun i c hc => by
    rw [hmap, List.getElem?_map] at hc
    obtain ⟨q, hq, rfl⟩ := Option.map_eq_some_iff.mp hc
    obtain ⟨z1, z2, z3, z4, -⟩ := hC i q hq
    exact ⟨z1, z2, z3, z4⟩) (by rw [hmap]; simpa using h8) hok
  rw [hmap] at a1
  simp only [List.length_map] at a1
  have h48 := okL_len hok2
  obtain ⟨σ2, b1, b2, b3⟩ := t_settle2 (d := d) (h := h) (w1 := .int (nI Cu.length)) (w4 := U) (a2 := nI C0.length) hT (L := apL L (undL (Cu.map (·.1)))) h48 (3 * (apL L (undL (Cu.map (·.1)))).length) 0 σ1 (by omega) a3 (fun j hj => absurd hj (Nat.not_lt_zero j))
  generalize hL1 : apL L (undL (Cu.map (·.1))) = L1 at *
  generalize hσ3 : sI σ2 3 (nI L1.length) = σ3
  have c0 : σ3.2.2.2 0 = σ1.2.2.2 0 := by rw [← hσ3]; exact b3.2.2 0 (by decide)
  have c1 : σ3.1 1 = σ1.1 1 := by rw [← hσ3]; exact b3.1 1 (by decide)
  have c4 : σ3.2.2.2 4 = σ.2.2.2 4 := by rw [← hσ3]; exact (b3.2.2 4 (by decide)).trans (a4.2.2 4 (by decide))
  have c5 : σ3.2.2.1 = σ2.2.2.1 := by rw [← hσ3]; rfl
  have c5' : σ3.2.2.1 5 = σ.2.2.1 5 := by rw [c5]; exact (b3.2.1 5 (by decide)).trans (a4.2.1 5 (by decide))
  obtain ⟨σ4, w4, e1, e2, e3, e4, e5⟩ := t_settle3 (d := d) (h := h) (w4 := U) hT (C0 := C0.map (·.1)) (Cu := Cu.map (·.1)) (by rw [hmap]; simpa using h8) Cu.length 0 L1 σ3 U (by simp) (by rw [c0]; exact a2) (by rw [c1]; exact a3) (fun j c hj => absurd hj (Nat.not_lt_zero j)) (fun j c hj hc => by
    rw [List.getElem?_map] at hc
    obtain ⟨q, hq, rfl⟩ := Option.map_eq_some_iff.mp hc
    obtain ⟨z1, z2, z3, z4, -⟩ := hC (C0.length + j) q (by rw [List.getElem?_append_right (by omega)]; simpa using hq)
    unfold EnC
    rw [c4, c5', List.length_map]
    exact ⟨z1, z2, z3, z4⟩) (by simpa using hok2)
  simp only [List.length_map, List.drop_zero] at e1 e2 e3
  refine ⟨sI (sI (sI σ4 7 (nI Cu.length)) 11 (nI 0)) 9 (nI 0), ?_, ?_, ?_, ?_⟩
  · have s1 : nI (C0 ++ Cu).length - nI Cu.length = nI C0.length := by rw [pk_sub (by simp)]; simp
    have hg : gM PG Ω (d + 4) 54 [.ref x] (tW h x A σ) = gO PG Ω (d + 3) 54 35 [.ref x, .int (nI Cu.length), .int (nI C0.length), .int (nI (C0 ++ Cu).length - nI 1), U] [] (tW h x A σ) := by
      rcases hf with ⟨rfl, rfl⟩ | ⟨rfl, rfl⟩
      · have s2 : nI (C0 ++ Cu).length - nI C0.length = nI Cu.length := by rw [pk_sub (by simp)]; simp
        simp only [n_X2_settle, e_X2_settle_0, e_X2_settle_1, e_X2_settle_4, e_X2_settle_7, e_X2_settle_8, e_X2_settle_11, e_X2_settle_12, e_X2_settle_15, e_X2_settle_16, e_X2_settle_19, e_X2_settle_20, e_X2_settle_21, e_X2_settle_22, e_X2_settle_25, e_X2_settle_26, e_X2_settle_27, e_X2_settle_28, e_X2_settle_29, e_X2_settle_32, e_X2_settle_33, e_X2_settle_34, tw_cl, tg0, tg1, tg10, tg11, tg2, tg4, tg5, tg6, tg7, tp11 hT, tp3 hT, tp7 hT, tp9 hT, tr0 hT, tr2 hT, tr4 hT, tr5 hT, tr6 hT, ts0 hT, ts2 hT, ts4 hT, ts5 hT, ts6 hT, cR_ref, cR_null, cR_rf, c1_int, c1_ref, c1_null, c1_rf, kz_int, kz_ref, kz_null, kz_rf, kz_U, kz_long, nB_null, nB_ref, rf_none, rf_some, bV_ret, bV_thr, bA_ret, bA_thr, bX_ret, bX_thr, len4_0, len4_1, len4_2, len4_3, len4_4, true_and, and_true, and_self, if_true, if_false, Option.bind_some, nR_b1, nR_b0, nR_bI, nI_1z, nI_0z, bI_z, if_nn, hop, Bool.true_eq_false, hcn, hoF, s2, s1]
      · simp only [n_X2_settle, e_X2_settle_0, e_X2_settle_1, e_X2_settle_4, e_X2_settle_7, e_X2_settle_8, e_X2_settle_11, e_X2_settle_12, e_X2_settle_15, e_X2_settle_16, e_X2_settle_19, e_X2_settle_20, e_X2_settle_21, e_X2_settle_22, e_X2_settle_25, e_X2_settle_26, e_X2_settle_27, e_X2_settle_28, e_X2_settle_29, e_X2_settle_32, e_X2_settle_33, e_X2_settle_34, tw_cl, tg0, tg1, tg10, tg11, tg2, tg4, tg5, tg6, tg7, tp11 hT, tp3 hT, tp7 hT, tp9 hT, tr0 hT, tr2 hT, tr4 hT, tr5 hT, tr6 hT, ts0 hT, ts2 hT, ts4 hT, ts5 hT, ts6 hT, cR_ref, cR_null, cR_rf, c1_int, c1_ref, c1_null, c1_rf, kz_int, kz_ref, kz_null, kz_rf, kz_U, kz_long, nB_null, nB_ref, rf_none, rf_some, bV_ret, bV_thr, bA_ret, bA_thr, bX_ret, bX_thr, len4_0, len4_1, len4_2, len4_3, len4_4, true_and, and_true, and_self, if_true, if_false, Option.bind_some, nR_b1, nR_b0, nR_bI, nI_1z, nI_0z, bI_z, if_nn, hop, hcn]
        simp only [List.append_nil, List.length_nil] at s1 ⊢
        rw [s1]
    rw [hg, a1]
    simp only [e_X2_settle_92, e_X2_settle_93, cR_ref, cR_null, cR_rf, c1_int, c1_ref, c1_null, c1_rf, kz_int, kz_ref, kz_null, kz_rf, kz_U, kz_long, nB_null, nB_ref, rf_none, rf_some, bV_ret, bV_thr, bA_ret, bA_thr, bX_ret, bX_thr, len4_0, len4_1, len4_2, len4_3, len4_4, true_and, and_true, and_self, if_true, if_false, Option.bind_some, nR_b1, nR_b0, nR_bI, nI_1z, nI_0z, bI_z, if_nn]
    rw [b1]
    have c1' : σ2.1 1 = nI L1.length := by rw [b3.1 1 (by decide)]; exact a3
    simp only [e_X2_settle_122, e_X2_settle_123, e_X2_settle_124, e_X2_settle_127, e_X2_settle_130, e_X2_settle_131, tw_cl, tg0, tg1, tg10, tg11, tg2, tg4, tg5, tg6, tg7, tp11 hT, tp3 hT, tp7 hT, tp9 hT, tr0 hT, tr2 hT, tr4 hT, tr5 hT, tr6 hT, ts0 hT, ts2 hT, ts4 hT, ts5 hT, ts6 hT, cR_ref, cR_null, cR_rf, c1_int, c1_ref, c1_null, c1_rf, kz_int, kz_ref, kz_null, kz_rf, kz_U, kz_long, nB_null, nB_ref, rf_none, rf_some, bV_ret, bV_thr, bA_ret, bA_thr, bX_ret, bX_thr, len4_0, len4_1, len4_2, len4_3, len4_4, true_and, and_true, and_self, if_true, if_false, Option.bind_some, nR_b1, nR_b0, nR_bI, nI_1z, nI_0z, bI_z, if_nn, c1', hσ3]
    rw [e1]
    simp only [e_X2_settle_241, e_X2_settle_242, e_X2_settle_243, e_X2_settle_246, e_X2_settle_247, e_X2_settle_248, e_X2_settle_251, e_X2_settle_252, e_X2_settle_253, e_X2_settle_256, tw_cl, tg0, tg1, tg10, tg11, tg2, tg4, tg5, tg6, tg7, tp11 hT, tp3 hT, tp7 hT, tp9 hT, tr0 hT, tr2 hT, tr4 hT, tr5 hT, tr6 hT, ts0 hT, ts2 hT, ts4 hT, ts5 hT, ts6 hT, cR_ref, cR_null, cR_rf, c1_int, c1_ref, c1_null, c1_rf, kz_int, kz_ref, kz_null, kz_rf, kz_U, kz_long, nB_null, nB_ref, rf_none, rf_some, bV_ret, bV_thr, bA_ret, bA_thr, bX_ret, bX_thr, len4_0, len4_1, len4_2, len4_3, len4_4, true_and, and_true, and_self, if_true, if_false, Option.bind_some, nR_b1, nR_b0, nR_bI, nI_1z, nI_0z, bI_z, if_nn]
  · have z (j : Nat) (h1 : j ∉ [1]) (h2 : j ≠ 3) : σ4.1 j = σ.1 j := by
      rw [e5.1 j h1, ← hσ3, sI_1, if_neg h2, b3.1 j (by simp), a4.1 j h1]
    refine ⟨e2, e3, ?_, ?_, ?_, by simp [sI_1], ?_, rfl, rfl, ?_⟩
    · intro i t ht
      have hi : i < L1.length := (List.getElem?_eq_some_iff.mp ht).1
      obtain ⟨q1, q2, q3⟩ := a2 i t ht
      have r : ∀ j, j < 3 * L1.length → σ4.2.2.2 2 j = σ1.2.2.2 0 j := fun j hj => by
        rw [e5.2.2 2 (by decide), ← hσ3]; exact b2 j hj
      exact ⟨(r _ (by omega)).trans q1, (r _ (by omega)).trans q2, (r _ (by omega)).trans q3⟩
    · show σ4.1 3 = _
      rw [e5.1 3 (by decide), ← hσ3]; rfl
    · intro i c hc
      rw [List.getElem?_map] at hc
      obtain ⟨q, hq, rfl⟩ := Option.map_eq_some_iff.mp hc
      obtain ⟨⟨z1, z2, z3, z4⟩, z5⟩ := e4 i q.1 (by rw [List.getElem?_map, hq]; rfl)
      exact ⟨z1, z2, z3, z4, z5⟩
    · show σ4.1 8 = _
      rw [z 8 (by decide) (by decide)]; exact hcm
    · show σ4.1 10 = _
      rw [z 10 (by decide) (by decide)]; exact hop
  · have f1 : FxS σ σ3 := by
      rw [← hσ3]
      exact ((a4.mono (by decide) (by decide) (by decide)).trans (b3.mono (by decide) (by decide) (by decide))).sI (by decide)
    exact (((f1.trans (e5.mono (by decide) (by decide) (by decide))).sI (by decide)).sI (by decide)).sI (by decide)
  · show σ4.1 58 = _
    rw [e5.1 58 (by decide), ← hσ3, sI_1, if_neg (by decide), b3.1 58 (by decide), a4.1 58 (by decide)]
theorem t_sync (hT : TwOk Ω.sz x A) {L K : List Tri} {C0 Cu : List (Chg × Nat)} {cm us oF : Nat} {op : Bool} (ha : TSto σ (L, K, C0 ++ Cu, cm, us, oF, op)) (hf : (op = true ∧ oF = C0.length) ∨ (op = false ∧ Cu = [])) (h8 : (C0 ++ Cu).length < 800) (hok : okL L (undL (Cu.map (·.1)))) (hok2 : okL (apL L (undL (Cu.map (·.1)))) (Cu.map (·.1))) :
    ∃ σ', gM PG Ω (d + 5) 53 [.ref x] (tW h x A σ) = some (.returned (some (.int (nI us))), tW h x A σ') ∧ TSto σ' (apL (apL L (undL (Cu.map (·.1)))) (Cu.map (·.1)), apL L (undL (Cu.map (·.1))), Cu.map (fun c => (c.1, 0)), cm, 0, 0, op) ∧ FxS σ σ' := by
  obtain ⟨σ', e1, e2, e3, -⟩ := t_settle (d := d) (h := h) hT (ha.c58 (v := nI 0)) hf h8 hok hok2
  have hus : σ.1 9 = nI us := ha.2.2.2.2.2.2.2.1
  refine ⟨σ', ?_, e2, (Fx.sI (I := stI) Fx.rfl' (by decide)).trans e3⟩
  simp only [n_X2_sync, e_X2_sync_0, e_X2_sync_1, e_X2_sync_2, e_X2_sync_5, e_X2_sync_6, e_X2_sync_9, e_X2_sync_10, e_X2_sync_11, e_X2_sync_14, e_X2_sync_15, tw_cl, tg9, tp58 hT, cR_ref, cR_null, cR_rf, c1_int, c1_ref, c1_null, c1_rf, kz_int, kz_ref, kz_null, kz_rf, kz_U, kz_long, nB_null, nB_ref, rf_none, rf_some, bV_ret, bV_thr, bA_ret, bA_thr, bX_ret, bX_thr, len4_0, len4_1, len4_2, len4_3, len4_4, true_and, and_true, and_self, if_true, if_false, Option.bind_some, nR_b1, nR_b0, nR_bI, nI_1z, nI_0z, bI_z, if_nn, sI_1, sI_2, sT_1, sT_21, sT_22, sA_1, sA_21, sA_221, sA_222, sL_1, sL_21, sL_221, sL_222, Nat.reduceEqDiff, ↓reduceIte, hus, e1]
set_option maxHeartbeats 2000000 in
theorem t_crash1 (hT : TwOk Ω.sz x A) {K : List Tri} {a1 : Int32} {w2 w3 : Value} (h48 : K.length ≤ 48) : ∀ (n i : Nat) (σ : Tw), i + n = 3 * K.length → σ.1 3 = nI K.length → (∀ j, j < i → σ.2.2.2 0 j = σ.2.2.2 2 j) →
    ∃ σ', gO PG Ω (d + 4) 55 20 [.ref x, .int a1, .int (nI i), w3] [] (tW h x A σ) = gO PG Ω (d + 4) 55 48 [.ref x, .int a1, .int (nI (3 * K.length)), w3] [] (tW h x A σ') ∧ (∀ j, j < 3 * K.length → σ'.2.2.2 0 j = σ.2.2.2 2 j) ∧ Fx [] [] [0] σ σ' := by
  intro n
  induction n with
  | zero =>
    intro i σ hi hn hk
    refine ⟨σ, ?_, fun j hj => hk j (by omega), Fx.rfl'⟩
    have : i = 3 * K.length := by omega
    subst this
    rw [e_X2_crash_20]
    simp (disch := omega) only [e_X2_crash_21, e_X2_crash_22, e_X2_crash_23, e_X2_crash_26, e_X2_crash_27, e_X2_crash_30, e_X2_crash_31, e_X2_crash_34, e_X2_crash_35, e_X2_crash_36, e_X2_crash_39, e_X2_crash_40, e_X2_crash_41, e_X2_crash_42, e_X2_crash_45, tw_cl, tg0, tg1, tg10, tg11, tg2, tg3, tg4, tg5, tg6, tg7, tp1 hT, tp10 hT, tp7 hT, tr0 hT, tr2 hT, tr4 hT, tr5 hT, tr6 hT, ts0 hT, ts2 hT, ts4 hT, ts5 hT, ts6 hT, cR_ref, cR_null, cR_rf, c1_int, c1_ref, c1_null, c1_rf, kz_int, kz_ref, kz_null, kz_rf, kz_U, kz_long, nB_null, nB_ref, rf_none, rf_some, bV_ret, bV_thr, bA_ret, bA_thr, bX_ret, bX_thr, len4_0, len4_1, len4_2, len4_3, len4_4, true_and, and_true, and_self, if_true, if_false, Option.bind_some, nR_b1, nR_b0, nR_bI, nI_1z, nI_0z, bI_z, if_nn, sI_1, sI_2, sT_1, sT_21, sT_22, sA_1, sA_21, sA_221, sA_222, sL_1, sL_21, sL_221, sL_222, Nat.reduceEqDiff, ↓reduceIte, nI_add, pk_mul, hn, nI_lt_if, Nat.lt_irrefl]
  | succ n ih =>
    intro i σ hi hn hk
    obtain ⟨σ2, b1, b2, b3⟩ := ih (i + 1) (sL σ 0 i (σ.2.2.2 2 i)) (by omega) hn (fun j hj => by
      rw [sL_222, if_pos rfl, sL_222, if_neg (by decide)]
      unfold va_up
      by_cases hji : j = i
      · rw [if_pos hji, hji]
      · rw [if_neg hji]; exact hk j (by omega))
    refine ⟨σ2, ?_, b2, (Fx.sL Fx.rfl' (by decide)).trans b3⟩
    rw [← b1, e_X2_crash_20]
    have hlt : i < 3 * K.length := by omega
    simp (disch := omega) only [e_X2_crash_21, e_X2_crash_22, e_X2_crash_23, e_X2_crash_26, e_X2_crash_27, e_X2_crash_30, e_X2_crash_31, e_X2_crash_34, e_X2_crash_35, e_X2_crash_36, e_X2_crash_39, e_X2_crash_40, e_X2_crash_41, e_X2_crash_42, e_X2_crash_45, tw_cl, tg0, tg1, tg10, tg11, tg2, tg3, tg4, tg5, tg6, tg7, tp1 hT, tp10 hT, tp7 hT, tr0 hT, tr2 hT, tr4 hT, tr5 hT, tr6 hT, ts0 hT, ts2 hT, ts4 hT, ts5 hT, ts6 hT, cR_ref, cR_null, cR_rf, c1_int, c1_ref, c1_null, c1_rf, kz_int, kz_ref, kz_null, kz_rf, kz_U, kz_long, nB_null, nB_ref, rf_none, rf_some, bV_ret, bV_thr, bA_ret, bA_thr, bX_ret, bX_thr, len4_0, len4_1, len4_2, len4_3, len4_4, true_and, and_true, and_self, if_true, if_false, Option.bind_some, nR_b1, nR_b0, nR_bI, nI_1z, nI_0z, bI_z, if_nn, sI_1, sI_2, sT_1, sT_21, sT_22, sA_1, sA_21, sA_221, sA_222, sL_1, sL_21, sL_221, sL_222, Nat.reduceEqDiff, ↓reduceIte, nI_add, pk_mul, hn, nI_lt_if, hlt]
/-- the changes of the transactions below k -/
def selC (k : Nat) (Ch : List (Chg × Nat)) : List Chg := (Ch.filter (fun c => decide (c.2 < k))).map (·.1)
set_option maxHeartbeats 2000000 in
theorem t_crash2 (hT : TwOk Ω.sz x A) {Ch : List (Chg × Nat)} {k : Nat} (hk : k ≤ 1000) (h8 : Ch.length < 800) (hus : ∀ c ∈ Ch, c.2 < 2 ^ 31) : ∀ (n i : Nat) (L : List Tri) (σ : Tw), i + n = Ch.length → TrL (σ.2.2.2 0) L → σ.1 1 = nI L.length → ChL σ Ch → okL L (selC k (Ch.drop i)) →
    ∃ σ', gO PG Ω (d + 4) 55 77 [.ref x, .int (nI k), .int (nI Ch.length), .int (nI i)] [] (tW h x A σ) = gO PG Ω (d + 4) 55 136 [.ref x, .int (nI k), .int (nI Ch.length), .int (nI Ch.length)] [] (tW h x A σ') ∧ TrL (σ'.2.2.2 0) (apL L (selC k (Ch.drop i))) ∧ σ'.1 1 = nI (apL L (selC k (Ch.drop i))).length ∧ Fx [1] [] [0] σ σ' := by
  intro n
  induction n with
  | zero =>
    intro i L σ hi hL hn hC hok
    have : i = Ch.length := by omega
    subst this
    refine ⟨σ, ?_, by simpa [selC, apL] using hL, by simpa [selC, apL] using hn, Fx.rfl'⟩
    rw [e_X2_crash_77]
    simp (disch := omega) only [e_X2_crash_78, e_X2_crash_79, e_X2_crash_82, e_X2_crash_83, e_X2_crash_86, e_X2_crash_87, e_X2_crash_88, e_X2_crash_89, e_X2_crash_92, e_X2_crash_93, e_X2_crash_94, e_X2_crash_97, e_X2_crash_98, e_X2_crash_99, e_X2_crash_100, e_X2_crash_103, e_X2_crash_104, e_X2_crash_105, e_X2_crash_106, e_X2_crash_107, e_X2_crash_108, e_X2_crash_111, e_X2_crash_112, e_X2_crash_113, e_X2_crash_114, e_X2_crash_115, e_X2_crash_116, e_X2_crash_117, e_X2_crash_118, e_X2_crash_121, e_X2_crash_122, e_X2_crash_123, e_X2_crash_124, e_X2_crash_125, e_X2_crash_126, e_X2_crash_127, e_X2_crash_130, e_X2_crash_133, tw_cl, tg0, tg1, tg10, tg11, tg2, tg3, tg4, tg5, tg6, tg7, tp1 hT, tp10 hT, tp7 hT, tr0 hT, tr2 hT, tr4 hT, tr5 hT, tr6 hT, ts0 hT, ts2 hT, ts4 hT, ts5 hT, ts6 hT, cR_ref, cR_null, cR_rf, c1_int, c1_ref, c1_null, c1_rf, kz_int, kz_ref, kz_null, kz_rf, kz_U, kz_long, nB_null, nB_ref, rf_none, rf_some, bV_ret, bV_thr, bA_ret, bA_thr, bX_ret, bX_thr, len4_0, len4_1, len4_2, len4_3, len4_4, true_and, and_true, and_self, if_true, if_false, Option.bind_some, nR_b1, nR_b0, nR_bI, nI_1z, nI_0z, bI_z, if_nn, sI_1, sI_2, sT_1, sT_21, sT_22, sA_1, sA_21, sA_221, sA_222, sL_1, sL_21, sL_221, sL_222, Nat.reduceEqDiff, ↓reduceIte, nI_add, pk_mul, nI_lt_if, Nat.lt_irrefl]
  | succ n ih =>
    intro i L σ hi hL hn hC hok
    have hil : i < Ch.length := by omega
    have hci : Ch[i]? = some Ch[i] := List.getElem?_eq_getElem hil
    generalize hc : Ch[i] = c at hci
    obtain ⟨g1, g2, g3, g4, g5⟩ := hC i c hci
    have hcu := hus c (List.mem_of_getElem? hci)
    have edrop : Ch.drop i = c :: Ch.drop (i + 1) := by rw [List.drop_eq_getElem_cons hil, hc]
    by_cases hlt : c.2 < k
    · have es : selC k (Ch.drop i) = c.1 :: selC k (Ch.drop (i + 1)) := by rw [edrop]; simp [selC, hlt]
      rw [es] at hok ⊢
      obtain ⟨σ1, a1, a2, a3, a4⟩ := t_apply (d := d + 2) (h := h) (σ := σ) hT (L := L) hL hn (b := c.1.1) (s := c.1.2.1) (p := c.1.2.2.1) (o := c.1.2.2.2) hok.1.1 hok.1.2
      obtain ⟨σ2, b1, b2, b3, b4⟩ := ih (i + 1) (apT L c.1) σ1 (by omega) a2 a3 (hC.of (a4.2.2 4 (by decide)) (a4.2.1 5 (by decide)) (a4.2.1 6 (by decide))) hok.2
      refine ⟨σ2, ?_, b2, b3, a4.trans b4⟩
      rw [← b1, e_X2_crash_77]
      simp (disch := omega) only [e_X2_crash_78, e_X2_crash_79, e_X2_crash_82, e_X2_crash_83, e_X2_crash_86, e_X2_crash_87, e_X2_crash_88, e_X2_crash_89, e_X2_crash_92, e_X2_crash_93, e_X2_crash_94, e_X2_crash_97, e_X2_crash_98, e_X2_crash_99, e_X2_crash_100, e_X2_crash_103, e_X2_crash_104, e_X2_crash_105, e_X2_crash_106, e_X2_crash_107, e_X2_crash_108, e_X2_crash_111, e_X2_crash_112, e_X2_crash_113, e_X2_crash_114, e_X2_crash_115, e_X2_crash_116, e_X2_crash_117, e_X2_crash_118, e_X2_crash_121, e_X2_crash_122, e_X2_crash_123, e_X2_crash_124, e_X2_crash_125, e_X2_crash_126, e_X2_crash_127, e_X2_crash_130, e_X2_crash_133, tw_cl, tg0, tg1, tg10, tg11, tg2, tg3, tg4, tg5, tg6, tg7, tp1 hT, tp10 hT, tp7 hT, tr0 hT, tr2 hT, tr4 hT, tr5 hT, tr6 hT, ts0 hT, ts2 hT, ts4 hT, ts5 hT, ts6 hT, cR_ref, cR_null, cR_rf, c1_int, c1_ref, c1_null, c1_rf, kz_int, kz_ref, kz_null, kz_rf, kz_U, kz_long, nB_null, nB_ref, rf_none, rf_some, bV_ret, bV_thr, bA_ret, bA_thr, bX_ret, bX_thr, len4_0, len4_1, len4_2, len4_3, len4_4, true_and, and_true, and_self, if_true, if_false, Option.bind_some, nR_b1, nR_b0, nR_bI, nI_1z, nI_0z, bI_z, if_nn, sI_1, sI_2, sT_1, sT_21, sT_22, sA_1, sA_21, sA_221, sA_222, sL_1, sL_21, sL_221, sL_222, Nat.reduceEqDiff, ↓reduceIte, nI_add, pk_mul, nI_lt_if, hil, hlt, g1, g2, g3, g4, g5, a1]
    · have es : selC k (Ch.drop i) = selC k (Ch.drop (i + 1)) := by rw [edrop]; simp [selC, hlt]
      rw [es] at hok ⊢
      obtain ⟨σ2, b1, b2, b3, b4⟩ := ih (i + 1) L σ (by omega) hL hn hC hok
      refine ⟨σ2, ?_, b2, b3, b4⟩
      rw [← b1, e_X2_crash_77]
      simp (disch := omega) only [e_X2_crash_78, e_X2_crash_79, e_X2_crash_82, e_X2_crash_83, e_X2_crash_86, e_X2_crash_87, e_X2_crash_88, e_X2_crash_89, e_X2_crash_92, e_X2_crash_93, e_X2_crash_94, e_X2_crash_97, e_X2_crash_98, e_X2_crash_99, e_X2_crash_100, e_X2_crash_103, e_X2_crash_104, e_X2_crash_105, e_X2_crash_106, e_X2_crash_107, e_X2_crash_108, e_X2_crash_111, e_X2_crash_112, e_X2_crash_113, e_X2_crash_114, e_X2_crash_115, e_X2_crash_116, e_X2_crash_117, e_X2_crash_118, e_X2_crash_121, e_X2_crash_122, e_X2_crash_123, e_X2_crash_124, e_X2_crash_125, e_X2_crash_126, e_X2_crash_127, e_X2_crash_130, e_X2_crash_133, tw_cl, tg0, tg1, tg10, tg11, tg2, tg3, tg4, tg5, tg6, tg7, tp1 hT, tp10 hT, tp7 hT, tr0 hT, tr2 hT, tr4 hT, tr5 hT, tr6 hT, ts0 hT, ts2 hT, ts4 hT, ts5 hT, ts6 hT, cR_ref, cR_null, cR_rf, c1_int, c1_ref, c1_null, c1_rf, kz_int, kz_ref, kz_null, kz_rf, kz_U, kz_long, nB_null, nB_ref, rf_none, rf_some, bV_ret, bV_thr, bA_ret, bA_thr, bX_ret, bX_thr, len4_0, len4_1, len4_2, len4_3, len4_4, true_and, and_true, and_self, if_true, if_false, Option.bind_some, nR_b1, nR_b0, nR_bI, nI_1z, nI_0z, bI_z, if_nn, sI_1, sI_2, sT_1, sT_21, sT_22, sA_1, sA_21, sA_221, sA_222, sL_1, sL_21, sL_221, sL_222, Nat.reduceEqDiff, ↓reduceIte, nI_add, pk_mul, nI_lt_if, hil, hlt, g1, g2, g3, g4, g5]
/-- crash -/
theorem t_crash_bad (hT : TwOk Ω.sz x A) {a : TA} (ha : TSto σ a) {k : Int32} (hk : ¬ (nI 0 ≤ k ∧ k ≤ nI 1000)) : gM PG Ω (d + 5) 55 [.ref x, .int k] (tW h x A σ) = some (.returned (some (.int (nI 0))), tW h x A (sI σ 58 (nI 1))) := by
  simp only [n_X2_crash, e_X2_crash_0, e_X2_crash_1, e_X2_crash_2, e_X2_crash_3, e_X2_crash_6, e_X2_crash_9, e_X2_crash_10, e_X2_crash_13, e_X2_crash_16, e_X2_crash_17, e_X2_crash_18, e_X2_crash_19, e_X2_crash_21, e_X2_crash_22, e_X2_crash_23, e_X2_crash_26, e_X2_crash_27, e_X2_crash_30, e_X2_crash_31, e_X2_crash_34, e_X2_crash_35, e_X2_crash_36, e_X2_crash_39, e_X2_crash_40, e_X2_crash_41, e_X2_crash_42, e_X2_crash_45, e_X2_crash_48, e_X2_crash_49, e_X2_crash_50, e_X2_crash_53, e_X2_crash_56, e_X2_crash_57, e_X2_crash_60, e_X2_crash_63, e_X2_crash_64, e_X2_crash_67, e_X2_crash_70, e_X2_crash_71, e_X2_crash_74, e_X2_crash_75, e_X2_crash_76, e_X2_crash_78, e_X2_crash_79, e_X2_crash_82, e_X2_crash_83, e_X2_crash_86, e_X2_crash_87, e_X2_crash_88, e_X2_crash_89, e_X2_crash_92, e_X2_crash_93, e_X2_crash_94, e_X2_crash_97, e_X2_crash_98, e_X2_crash_99, e_X2_crash_100, e_X2_crash_103, e_X2_crash_104, e_X2_crash_105, e_X2_crash_106, e_X2_crash_107, e_X2_crash_108, e_X2_crash_111, e_X2_crash_112, e_X2_crash_113, e_X2_crash_114, e_X2_crash_115, e_X2_crash_116, e_X2_crash_117, e_X2_crash_118, e_X2_crash_121, e_X2_crash_122, e_X2_crash_123, e_X2_crash_124, e_X2_crash_125, e_X2_crash_126, e_X2_crash_127, e_X2_crash_130, e_X2_crash_133, e_X2_crash_136, e_X2_crash_137, e_X2_crash_138, e_X2_crash_141, e_X2_crash_142, e_X2_crash_143, e_X2_crash_146, e_X2_crash_147, e_X2_crash_150, e_X2_crash_151, e_X2_crash_154, tw_cl, tg0, tg1, tg10, tg11, tg2, tg3, tg4, tg5, tg6, tg7, tp1 hT, tp10 hT, tp7 hT, tr0 hT, tr2 hT, tr4 hT, tr5 hT, tr6 hT, ts0 hT, ts2 hT, ts4 hT, ts5 hT, ts6 hT, cR_ref, cR_null, cR_rf, c1_int, c1_ref, c1_null, c1_rf, kz_int, kz_ref, kz_null, kz_rf, kz_U, kz_long, nB_null, nB_ref, rf_none, rf_some, bV_ret, bV_thr, bA_ret, bA_thr, bX_ret, bX_thr, len4_0, len4_1, len4_2, len4_3, len4_4, true_and, and_true, and_self, if_true, if_false, Option.bind_some, nR_b1, nR_b0, nR_bI, nI_1z, nI_0z, bI_z, if_nn, t_in, decide_eq_false hk, t_good hT, Bool.false_eq_true]
set_option maxHeartbeats 2000000 in
theorem t_crash (hT : TwOk Ω.sz x A) {L K : List Tri} {C0 Cu : List (Chg × Nat)} {cm us oF : Nat} {op : Bool} (ha : TSto σ (L, K, C0 ++ Cu, cm, us, oF, op)) (hf : (op = true ∧ oF = C0.length) ∨ (op = false ∧ Cu = [])) (h8 : (C0 ++ Cu).length < 800) (hK48 : K.length ≤ 48) {k : Nat} (hk : k ≤ 1000) (hus : ∀ c ∈ C0, c.2 < 2 ^ 31) (hok : okL K (selC k C0)) (h48 : (apL K (selC k C0)).length ≤ 48) :
    ∃ σ', gM PG Ω (d + 5) 55 [.ref x, .int (nI k)] (tW h x A σ) = some (.returned (some (.int (nI (apL K (selC k C0)).length))), tW h x A σ') ∧ σ'.1 58 = nI 0 ∧ TSto σ' (apL K (selC k C0), apL K (selC k C0), [], cm, 0, 0, false) ∧ FxS σ σ' := by
  obtain ⟨hL, hn, hK, hkn, hC, hcn, hcm, hus', hoF, hop⟩ := ha
  dsimp only at *
  have hlen : C0.length + Cu.length < 800 := by simpa using h8
  obtain ⟨σ1, a1, a2, a3⟩ := t_crash1 (d := d) (h := h) (a1 := nI k) (w2 := U) (w3 := U) hT (K := K) hK48 (3 * K.length) 0 (sI σ 58 (nI 0)) (by omega) hkn (fun j hj => absurd hj (Nat.not_lt_zero j))
  generalize hσ2 : sI σ1 1 (nI K.length) = σ2
  have f2 : ∀ j, j ≠ 1 → j ≠ 58 → σ2.1 j = σ.1 j := fun j h1 h2 => by rw [← hσ2, sI_1, if_neg h1, a3.1 j (by simp), sI_1, if_neg h2]
  have k4 : σ2.2.2.2 4 = σ.2.2.2 4 := by rw [← hσ2]; exact a3.2.2 4 (by decide)
  have k5 : σ2.2.2.1 5 = σ.2.2.1 5 := by rw [← hσ2]; exact a3.2.1 5 (by decide)
  have k6 : σ2.2.2.1 6 = σ.2.2.1 6 := by rw [← hσ2]; exact a3.2.1 6 (by decide)
  have trK : TrL (σ2.2.2.2 0) K := by
    intro i t ht
    have hi : i < K.length := (List.getElem?_eq_some_iff.mp ht).1
    obtain ⟨q1, q2, q3⟩ := hK i t ht
    have r : ∀ j, j < 3 * K.length → σ2.2.2.2 0 j = σ.2.2.2 2 j := fun j hj => by rw [← hσ2]; exact a2 j hj
    exact ⟨(r _ (by omega)).trans q1, (r _ (by omega)).trans q2, (r _ (by omega)).trans q3⟩
  obtain ⟨σ3, b1, b2, b3, b4⟩ := t_crash2 (d := d) (h := h) hT (Ch := C0) (k := k) hk (by omega) hus C0.length 0 K σ2 (by omega) trK (by rw [← hσ2]; rfl) ((ChL.pre hC).of k4 k5 k6) (by simpa using hok)
  simp only [List.drop_zero] at b2 b3
  have z : ∀ j, j ≠ 1 → j ≠ 58 → σ3.1 j = σ.1 j := fun j h1 h2 => by rw [b4.1 j (by simpa using h1)]; exact f2 j h1 h2
  have z58 : σ3.1 58 = nI 0 := by rw [b4.1 58 (by decide), ← hσ2, sI_1, if_neg (by decide), a3.1 58 (by simp)]; rfl
  generalize hσ4 : sI (sI σ3 10 (nI 0)) 7 (nI 0) = σ4
  have st4 : TSto σ4 (apL K (selC k C0), K, [] ++ [], cm, us, oF, false) := by
    rw [← hσ4]
    refine ⟨b2, b3, ?_, (z 3 (by decide) (by decide)).trans hkn, fun i c hc => by simp at hc, rfl, (z 8 (by decide) (by decide)).trans hcm, (z 9 (by decide) (by decide)).trans hus', (z 11 (by decide) (by decide)).trans hoF, rfl⟩
    show TrL (σ3.2.2.2 2) K
    rw [b4.2.2 2 (by decide), ← hσ2]
    show TrL (σ1.2.2.2 2) K
    rw [a3.2.2 2 (by decide)]
    exact hK
  obtain ⟨σ5, e1, e2, e3, e4⟩ := t_settle (d := d) (h := h) hT st4 (Or.inr ⟨rfl, rfl⟩) (by simp) (by simpa [undL, okL] using h48) (by simpa [undL, okL, apL] using h48)
  refine ⟨σ5, ?_, ?_, by simpa [undL, apL] using e2, ?_⟩
  · have hend : (if op then nI oF else nI (C0 ++ Cu).length) = nI C0.length := by
      rcases hf with ⟨rfl, rfl⟩ | ⟨rfl, rfl⟩ <;> simp
    have c1 : decide (nI 0 ≤ nI k ∧ nI k ≤ nI 1000) = true := by
      rw [decide_eq_true_eq, nI_leI (by decide) (by omega), nI_leI (by omega) (by decide)]; omega
    simp only [n_X2_crash, e_X2_crash_0, e_X2_crash_1, e_X2_crash_2, e_X2_crash_3, e_X2_crash_6, e_X2_crash_9, e_X2_crash_10, e_X2_crash_13, e_X2_crash_16, e_X2_crash_17, e_X2_crash_18, e_X2_crash_19, tw_cl, tg0, tg1, tg10, tg11, tg2, tg3, tg4, tg5, tg6, tg7, tp1 hT, tp10 hT, tp7 hT, tr0 hT, tr2 hT, tr4 hT, tr5 hT, tr6 hT, ts0 hT, ts2 hT, ts4 hT, ts5 hT, ts6 hT, cR_ref, cR_null, cR_rf, c1_int, c1_ref, c1_null, c1_rf, kz_int, kz_ref, kz_null, kz_rf, kz_U, kz_long, nB_null, nB_ref, rf_none, rf_some, bV_ret, bV_thr, bA_ret, bA_thr, bX_ret, bX_thr, len4_0, len4_1, len4_2, len4_3, len4_4, true_and, and_true, and_self, if_true, if_false, Option.bind_some, nR_b1, nR_b0, nR_bI, nI_1z, nI_0z, bI_z, if_nn, t_in, c1, t_good hT, Bool.true_eq_false]
    rw [a1]
    have q3 : σ1.1 3 = nI K.length := by rw [a3.1 3 (by simp), sI_1, if_neg (by decide)]; exact hkn
    have q10 : σ2.1 10 = bI op := (f2 10 (by decide) (by decide)).trans hop
    have q11 : σ2.1 11 = nI oF := (f2 11 (by decide) (by decide)).trans hoF
    have q7 : σ2.1 7 = nI (C0 ++ Cu).length := (f2 7 (by decide) (by decide)).trans hcn
    have q1 : σ5.1 1 = nI (apL K (selC k C0)).length := by have := e2.2.1; simpa [undL, apL] using this
    have hloop : gO PG Ω (d + 4) 55 77 [.ref x, .int (nI k), .int (nI C0.length), .int (nI 0)] [] (tW h x A σ2) = some (.returned (some (.int (nI (apL K (selC k C0)).length))), tW h x A σ5) := by
      rw [b1]
      simp only [e_X2_crash_136, e_X2_crash_137, e_X2_crash_138, e_X2_crash_141, e_X2_crash_142, e_X2_crash_143, e_X2_crash_146, e_X2_crash_147, e_X2_crash_150, e_X2_crash_151, e_X2_crash_154, tw_cl, tg0, tg1, tg10, tg11, tg2, tg3, tg4, tg5, tg6, tg7, tp1 hT, tp10 hT, tp7 hT, tr0 hT, tr2 hT, tr4 hT, tr5 hT, tr6 hT, ts0 hT, ts2 hT, ts4 hT, ts5 hT, ts6 hT, cR_ref, cR_null, cR_rf, c1_int, c1_ref, c1_null, c1_rf, kz_int, kz_ref, kz_null, kz_rf, kz_U, kz_long, nB_null, nB_ref, rf_none, rf_some, bV_ret, bV_thr, bA_ret, bA_thr, bX_ret, bX_thr, len4_0, len4_1, len4_2, len4_3, len4_4, true_and, and_true, and_self, if_true, if_false, Option.bind_some, nR_b1, nR_b0, nR_bI, nI_1z, nI_0z, bI_z, if_nn, okv_b0, hσ4, e1, q1]
    simp only [e_X2_crash_48, e_X2_crash_49, e_X2_crash_50, e_X2_crash_53, e_X2_crash_56, e_X2_crash_57, e_X2_crash_60, e_X2_crash_63, e_X2_crash_64, e_X2_crash_67, e_X2_crash_70, e_X2_crash_71, e_X2_crash_74, e_X2_crash_75, e_X2_crash_76, tw_cl, tg0, tg1, tg10, tg11, tg2, tg3, tg4, tg5, tg6, tg7, tp1 hT, tp10 hT, tp7 hT, tr0 hT, tr2 hT, tr4 hT, tr5 hT, tr6 hT, ts0 hT, ts2 hT, ts4 hT, ts5 hT, ts6 hT, cR_ref, cR_null, cR_rf, c1_int, c1_ref, c1_null, c1_rf, kz_int, kz_ref, kz_null, kz_rf, kz_U, kz_long, nB_null, nB_ref, rf_none, rf_some, bV_ret, bV_thr, bA_ret, bA_thr, bX_ret, bX_thr, len4_0, len4_1, len4_2, len4_3, len4_4, true_and, and_true, and_self, if_true, if_false, Option.bind_some, nR_b1, nR_b0, nR_bI, nI_1z, nI_0z, bI_z, if_nn, q3, hσ2, q10, q11, q7]
    cases op with
    | true =>
      simp only [if_true] at hend
      simp only [Bool.true_eq_false, if_false, hend, hloop]
    | false =>
      simp only [Bool.false_eq_true, if_false] at hend
      simp only [if_true, hend, hloop]
  · rw [e4, ← hσ4]
    exact z58
  · have g1 : FxS σ σ2 := by
      rw [← hσ2]
      exact ((Fx.sI (I := stI) Fx.rfl' (by decide)).trans (a3.mono (by decide) (by decide) (by decide))).sI (by decide)
    have g2 : FxS σ σ4 := by
      rw [← hσ4]
      exact ((g1.trans (b4.mono (by decide) (by decide) (by decide))).sI (by decide)).sI (by decide)
    exact g2.trans e3
end TW7
