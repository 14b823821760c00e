/-! TWIN, small methods -/
section TW1
variable {Ω : Om} {d : Nat} {h : AH} {x : Nat} {A : Nat → Nat} {σ : Tw}
theorem t_thrown : gM PG Ω (d + 1) 37 [.ref x] (tW h x A σ) = some (.returned (some (.int (σ.1 58))), tW h x A σ) := by
  simp only [n_X2_thrown, e_X2_thrown_0, e_X2_thrown_1, e_X2_thrown_4, tw_cl, tg58, cR_ref, cR_null, cR_rf, c1_int, c1_ref, c1_null, c1_rf, kz_int, kz_ref, kz_null, kz_rf, kz_U, kz_long, nB_null, nB_ref, rf_none, rf_some, bV_ret, bV_thr, bA_ret, bA_thr, bX_ret, bX_thr, len4_0, len4_1, len4_2, len4_3, len4_4, true_and, and_true, and_self, if_true, if_false, Option.bind_some, nR_b1, nR_b0, nR_bI, nI_1z, nI_0z, bI_z, if_nn]
theorem t_in {v lo hi : Int32} : gM PG Ω (d + 1) 41 [.int v, .int lo, .int hi] h = some (.returned (some (.int (bI (decide (lo ≤ v ∧ v ≤ hi))))), h) := by
  simp only [n_X2_in, e_X2_in_0, e_X2_in_1, e_X2_in_2, e_X2_in_5, e_X2_in_6, e_X2_in_7, e_X2_in_10, e_X2_in_11, e_X2_in_14, e_X2_in_15, cR_ref, cR_null, cR_rf, c1_int, c1_ref, c1_null, c1_rf, kz_int, kz_ref, kz_null, kz_rf, kz_U, kz_long, nB_null, nB_ref, rf_none, rf_some, bV_ret, bV_thr, bA_ret, bA_thr, bX_ret, bX_thr, len4_0, len4_1, len4_2, len4_3, len4_4, true_and, and_true, and_self, if_true, if_false, Option.bind_some, nR_b1, nR_b0, nR_bI, nI_1z, nI_0z, bI_z, if_nn]
  by_cases h1 : v < lo
  · have : ¬ lo ≤ v := Int32.not_le.mpr h1
    simp only [h1, this, if_true, false_and, decide_false, bI_f]
  · rw [if_neg h1]
    by_cases h2 : hi < v
    · have : ¬ v ≤ hi := Int32.not_le.mpr h2
      simp only [h2, this, if_true, and_false, decide_false, bI_f]
    · rw [if_neg h2]
      simp only [Int32.not_lt.mp h1, Int32.not_lt.mp h2, and_self, decide_true, bI_t]
theorem t_good (hT : TwOk Ω.sz x A) {b : Bool} {c : Int32} : gM PG Ω (d + 1) 43 [.ref x, .int (bI b), .int c] (tW h x A σ) = some (.returned (some (.int (bI b))), tW h x A (sI σ 58 (if b then nI 0 else c))) := by
  simp only [n_X2_good, e_X2_good_0, e_X2_good_1, e_X2_good_2, e_X2_good_5, e_X2_good_6, e_X2_good_9, e_X2_good_10, e_X2_good_13, e_X2_good_14, tw_cl, tp58 hT, cR_ref, cR_null, cR_rf, c1_int, c1_ref, c1_null, c1_rf, kz_int, kz_ref, kz_null, kz_rf, kz_U, kz_long, nB_null, nB_ref, rf_none, rf_some, bV_ret, bV_thr, bA_ret, bA_thr, bX_ret, bX_thr, len4_0, len4_1, len4_2, len4_3, len4_4, true_and, and_true, and_self, if_true, if_false, Option.bind_some, nR_b1, nR_b0, nR_bI, nI_1z, nI_0z, bI_z, if_nn]
  cases b <;> rfl
theorem t_good1 (hT : TwOk Ω.sz x A) {c : Int32} : gM PG Ω (d + 1) 43 [.ref x, .int (nI 1), .int c] (tW h x A σ) = some (.returned (some (.int (nI 1))), tW h x A (sI σ 58 (nI 0))) := t_good hT (b := true)
theorem t_good0 (hT : TwOk Ω.sz x A) {c : Int32} : gM PG Ω (d + 1) 43 [.ref x, .int (nI 0), .int c] (tW h x A σ) = some (.returned (some (.int (nI 0))), tW h x A (sI σ 58 c)) := t_good hT (b := false)
theorem t_emit (hT : TwOk Ω.sz x A) {n : Nat} (hn : σ.1 32 = nI n) (h4 : n < 400) {o a : Int32} : gM PG Ω (d + 1) 70 [.ref x, .int o, .int a] (tW h x A σ) = some (.returned none, tW h x A (sI (sA (sA σ 30 n o) 31 n a) 32 (nI (n + 1)))) := by
  simp only [n_X2_emit, e_X2_emit_0, e_X2_emit_1, e_X2_emit_4, e_X2_emit_5, e_X2_emit_8, e_X2_emit_9, e_X2_emit_10, e_X2_emit_11, e_X2_emit_14, e_X2_emit_15, e_X2_emit_18, e_X2_emit_19, e_X2_emit_20, e_X2_emit_21, e_X2_emit_22, e_X2_emit_25, e_X2_emit_26, e_X2_emit_27, e_X2_emit_30, tw_cl, tg30, tg31, tg32, tp32 hT, tr30 hT, tr31 hT, ts30 hT, ts31 hT, cR_ref, cR_null, cR_rf, c1_int, c1_ref, c1_null, c1_rf, kz_int, kz_ref, kz_null, kz_rf, kz_U, kz_long, nB_null, nB_ref, rf_none, rf_some, bV_ret, bV_thr, bA_ret, bA_thr, bX_ret, bX_thr, len4_0, len4_1, len4_2, len4_3, len4_4, true_and, and_true, and_self, if_true, if_false, Option.bind_some, nR_b1, nR_b0, nR_bI, nI_1z, nI_0z, bI_z, if_nn, sI_1, sI_2, sT_1, sT_21, sT_22, sA_1, sA_21, sA_221, sA_222, sL_1, sL_21, sL_221, sL_222, Nat.reduceEqDiff, ↓reduceIte, nI_add, pk_mul, hn, h4]
theorem fi_eq {L : List Tri} {q : Tri} {i : Nat} (hno : ∀ j t, j < i → L[j]? = some t → t ≠ q) (hi : L[i]? = some q ∨ i = L.length) : fiT L q = i := by
  unfold fiT
  rcases hi with hi | hi
  · have hl : i < L.length := (List.getElem?_eq_some_iff.mp hi).1
    refine (List.findIdx_eq hl).mpr ⟨?_, fun j hj => ?_⟩
    · have := (List.getElem?_eq_some_iff.mp hi).2
      simp [this]
    · have hjl : j < L.length := by omega
      have := hno j L[j] hj (List.getElem?_eq_getElem hjl)
      simpa using this
  · rw [hi]
    refine List.findIdx_eq_length.mpr (fun t ht => ?_)
    obtain ⟨j, hj, e⟩ := List.mem_iff_getElem.mp ht
    have := hno j t (by omega) (by rw [List.getElem?_eq_getElem hj, e])
    simpa using this
set_option maxHeartbeats 1000000 in
theorem t_find (hT : TwOk Ω.sz x A) {L : List Tri} (hL : TrL (σ.2.2.2 0) L) (hn : σ.1 1 = nI L.length) (h48 : L.length ≤ 48) {s p o : Int64} : gM PG Ω (d + 1) 45 [.ref x, .long s, .long p, .long o] (tW h x A σ) = some (.returned (some (.int (nI (fiT L (s, p, o))))), tW h x A σ) := by
  have key : ∀ (n i : Nat), i + n = L.length → (∀ j t, j < i → L[j]? = some t → t ≠ (s, p, o)) → gO PG Ω d 45 3 [.ref x, .long s, U, .long p, U, .long o, U, .int (nI i)] [] (tW h x A σ) = some (.returned (some (.int (nI (fiT L (s, p, o))))), tW h x A σ) := by
    intro n
    induction n with
    | zero =>
      intro i hi hno
      rw [e_X2_find_3]
      simp (disch := omega) only [e_X2_find_0, e_X2_find_1, e_X2_find_5, e_X2_find_6, e_X2_find_9, e_X2_find_12, e_X2_find_13, e_X2_find_16, e_X2_find_17, e_X2_find_19, e_X2_find_20, e_X2_find_21, e_X2_find_22, e_X2_find_23, e_X2_find_26, e_X2_find_27, e_X2_find_30, e_X2_find_31, e_X2_find_33, e_X2_find_34, e_X2_find_35, e_X2_find_36, e_X2_find_37, e_X2_find_38, e_X2_find_39, e_X2_find_42, e_X2_find_43, e_X2_find_46, e_X2_find_47, e_X2_find_49, e_X2_find_50, e_X2_find_51, e_X2_find_52, e_X2_find_53, e_X2_find_55, e_X2_find_56, e_X2_find_59, e_X2_find_62, e_X2_find_65, e_X2_find_67, tw_cl, tg0, tg1, tr0 hT, ts0 hT, cR_ref, cR_null, cR_rf, c1_int, c1_ref, c1_null, c1_rf, kz_int, kz_ref, kz_null, kz_rf, kz_U, kz_long, nB_null, nB_ref, rf_none, rf_some, bV_ret, bV_thr, bA_ret, bA_thr, bX_ret, bX_thr, len4_0, len4_1, len4_2, len4_3, len4_4, true_and, and_true, and_self, if_true, if_false, Option.bind_some, nR_b1, nR_b0, nR_bI, nI_1z, nI_0z, bI_z, if_nn, sI_1, sI_2, sT_1, sT_21, sT_22, sA_1, sA_21, sA_221, sA_222, sL_1, sL_21, sL_221, sL_222, Nat.reduceEqDiff, ↓reduceIte, nI_add, pk_mul, hn, nI_lt_if, lg_cmp_z]
      rw [if_neg (by omega), fi_eq hno (Or.inr (by omega))]
    | succ n ih =>
      intro i hi hno
      have hl : i < L.length := by omega
      rw [e_X2_find_3]
      simp (disch := omega) only [e_X2_find_0, e_X2_find_1, e_X2_find_5, e_X2_find_6, e_X2_find_9, e_X2_find_12, e_X2_find_13, e_X2_find_16, e_X2_find_17, e_X2_find_19, e_X2_find_20, e_X2_find_21, e_X2_find_22, e_X2_find_23, e_X2_find_26, e_X2_find_27, e_X2_find_30, e_X2_find_31, e_X2_find_33, e_X2_find_34, e_X2_find_35, e_X2_find_36, e_X2_find_37, e_X2_find_38, e_X2_find_39, e_X2_find_42, e_X2_find_43, e_X2_find_46, e_X2_find_47, e_X2_find_49, e_X2_find_50, e_X2_find_51, e_X2_find_52, e_X2_find_53, e_X2_find_55, e_X2_find_56, e_X2_find_59, e_X2_find_62, e_X2_find_65, e_X2_find_67, tw_cl, tg0, tg1, tr0 hT, ts0 hT, cR_ref, cR_null, cR_rf, c1_int, c1_ref, c1_null, c1_rf, kz_int, kz_ref, kz_null, kz_rf, kz_U, kz_long, nB_null, nB_ref, rf_none, rf_some, bV_ret, bV_thr, bA_ret, bA_thr, bX_ret, bX_thr, len4_0, len4_1, len4_2, len4_3, len4_4, true_and, and_true, and_self, if_true, if_false, Option.bind_some, nR_b1, nR_b0, nR_bI, nI_1z, nI_0z, bI_z, if_nn, sI_1, sI_2, sT_1, sT_21, sT_22, sA_1, sA_21, sA_221, sA_222, sL_1, sL_21, sL_221, sL_222, Nat.reduceEqDiff, ↓reduceIte, nI_add, pk_mul, hn, nI_lt_if, lg_cmp_z]
      obtain ⟨e1, e2, e3⟩ := hL i L[i] (List.getElem?_eq_getElem hl)
      rw [if_pos hl, e1, e2, e3]
      by_cases hq : L[i] = (s, p, o)
      · rw [hq]
        simp only [if_true]
        rw [fi_eq hno (Or.inl (by rw [List.getElem?_eq_getElem hl, hq]))]
      · have hno' : ∀ j t, j < i + 1 → L[j]? = some t → t ≠ (s, p, o) := by
          intro j t hj ht
          by_cases hji : j = i
          · subst hji
            rw [List.getElem?_eq_getElem hl] at ht
            cases ht
            exact hq
          · exact hno j t (by omega) ht
        rw [ih (i + 1) (by omega) hno']
        have hq' : ¬ (L[i].1 = s ∧ L[i].2.1 = p ∧ L[i].2.2 = o) := fun ⟨a, b, c⟩ => hq (Prod.ext a (Prod.ext b c))
        by_cases h1 : L[i].1 = s
        · by_cases h2 : L[i].2.1 = p
          · by_cases h3 : L[i].2.2 = o
            · exact absurd ⟨h1, h2, h3⟩ hq'
            · rw [if_pos h1, if_pos h2, if_neg h3]
          · rw [if_pos h1, if_neg h2]
        · rw [if_neg h1]
  simp only [n_X2_find, e_X2_find_0, e_X2_find_1, e_X2_find_5, e_X2_find_6, e_X2_find_9, e_X2_find_12, e_X2_find_13, e_X2_find_16, e_X2_find_17, e_X2_find_19, e_X2_find_20, e_X2_find_21, e_X2_find_22, e_X2_find_23, e_X2_find_26, e_X2_find_27, e_X2_find_30, e_X2_find_31, e_X2_find_33, e_X2_find_34, e_X2_find_35, e_X2_find_36, e_X2_find_37, e_X2_find_38, e_X2_find_39, e_X2_find_42, e_X2_find_43, e_X2_find_46, e_X2_find_47, e_X2_find_49, e_X2_find_50, e_X2_find_51, e_X2_find_52, e_X2_find_53, e_X2_find_55, e_X2_find_56, e_X2_find_59, e_X2_find_62, e_X2_find_65, e_X2_find_67, cR_ref, cR_null, cR_rf, c1_int, c1_ref, c1_null, c1_rf, kz_int, kz_ref, kz_null, kz_rf, kz_U, kz_long, nB_null, nB_ref, rf_none, rf_some, bV_ret, bV_thr, bA_ret, bA_thr, bX_ret, bX_thr, len4_0, len4_1, len4_2, len4_3, len4_4, true_and, and_true, and_self, if_true, if_false, Option.bind_some, nR_b1, nR_b0, nR_bI, nI_1z, nI_0z, bI_z, if_nn]
  exact key L.length 0 (by omega) (fun j t hj => absurd hj (Nat.not_lt_zero j))
theorem t_isNumber {w : Int64} : gM PG Ω (d + 1) 42 [.long w] h = some (.returned (some (.int (bI (dec (isNm w))))), h) := by
  simp only [n_X2_isNumber, e_X2_isNumber_0, e_X2_isNumber_1, e_X2_isNumber_4, e_X2_isNumber_5, e_X2_isNumber_8, e_X2_isNumber_9, e_X2_isNumber_12, e_X2_isNumber_13, e_X2_isNumber_16, e_X2_isNumber_17, e_X2_isNumber_20, e_X2_isNumber_21, cR_ref, cR_null, cR_rf, c1_int, c1_ref, c1_null, c1_rf, kz_int, kz_ref, kz_null, kz_rf, kz_U, kz_long, nB_null, nB_ref, rf_none, rf_some, bV_ret, bV_thr, bA_ret, bA_thr, bX_ret, bX_thr, len4_0, len4_1, len4_2, len4_3, len4_4, true_and, and_true, and_self, if_true, if_false, Option.bind_some, nR_b1, nR_b0, nR_bI, nI_1z, nI_0z, bI_z, if_nn, lg_cmp_pos, lg_cmp_neg]
  by_cases h1 : -1 < w
  · rw [if_pos h1, dec_f (fun q => absurd q.1 (Int64.not_le.mpr h1))]; rfl
  · rw [if_neg h1]
    by_cases h2 : w < -10000
    · rw [if_pos h2, dec_f (fun q => absurd q.2 (Int64.not_le.mpr h2))]; rfl
    · rw [if_neg h2, dec_t ⟨Int64.not_lt.mp h1, Int64.not_lt.mp h2⟩]; rfl
theorem t_close (hT : TwOk Ω.sz x A) : gM PG Ω (d + 1) 47 [.ref x] (tW h x A σ) = some (.returned none, tW h x A (sI (sI (sI σ 8 (σ.1 8 + nI 1)) 9 (σ.1 9 + nI 1)) 10 (nI 0))) := by
  simp only [n_X2_close, e_X2_close_0, e_X2_close_1, e_X2_close_2, e_X2_close_5, e_X2_close_6, e_X2_close_7, e_X2_close_10, e_X2_close_11, e_X2_close_12, e_X2_close_15, e_X2_close_16, e_X2_close_17, e_X2_close_20, e_X2_close_21, e_X2_close_22, e_X2_close_25, tw_cl, tg8, tg9, tp10 hT, tp8 hT, tp9 hT, cR_ref, cR_null, cR_rf, c1_int, c1_ref, c1_null, c1_rf, kz_int, kz_ref, kz_null, kz_rf, kz_U, kz_long, nB_null, nB_ref, rf_none, rf_some, bV_ret, bV_thr, bA_ret, bA_thr, bX_ret, bX_thr, len4_0, len4_1, len4_2, len4_3, len4_4, true_and, and_true, and_self, if_true, if_false, Option.bind_some, nR_b1, nR_b0, nR_bI, nI_1z, nI_0z, bI_z, if_nn, sI_1, sI_2, sT_1, sT_21, sT_22, sA_1, sA_21, sA_221, sA_222, sL_1, sL_21, sL_221, sL_222, Nat.reduceEqDiff, ↓reduceIte, okv_b0]
theorem in_az {c : Nat} (hc : c < 256) : decide ((nI 97 : Int32) ≤ nI c ∧ nI c ≤ nI 122) = decide (97 ≤ c ∧ c ≤ 122) := by
  simp only [nI_leI (show 97 < 2 ^ 31 by decide) (show c < 2 ^ 31 by omega), nI_leI (show c < 2 ^ 31 by omega) (show 122 < 2 ^ 31 by decide)]
theorem byt_neg {w : Int64} (h : w < 0) : 128 ≤ byt w 7 := by
  unfold byt
  have h1 : w.toBitVec.toInt < 0 := by
    have := Int64.lt_iff_toInt_lt.mp h
    simpa using this
  have h2 := BitVec.toInt_eq_toNat_cond w.toBitVec
  have h3 := w.toBitVec.isLt
  have h4 : 2 ^ 63 ≤ w.toBitVec.toNat := by
    rcases Nat.lt_or_ge w.toBitVec.toNat (2 ^ 63) with q | q
    · rw [if_pos (by omega)] at h2; omega
    · exact q
  have : w.toBitVec.toNat / 2 ^ (8 * 7) < 256 := by omega
  rw [Nat.mod_eq_of_lt this]
  omega
theorem byt_zero (i : Nat) : byt 0 i = 0 := by simp [byt]
set_option maxHeartbeats 2000000 in
theorem t_isWord {w : Int64} : gM PG Ω (d + 2) 40 [.long w] h = some (.returned (some (.int (bI (dec (isWd w))))), h) := by
  have key : ∀ (m i n : Nat) (l4 : Value), i + m = 8 → n ≤ i → (0 < i → 1 ≤ n) → (∀ j, j < n → 97 ≤ byt w j ∧ byt w j ≤ 122) → (∀ j, n ≤ j → j < i → byt w j = 0) →
      gO PG Ω (d + 1) 40 12 [.long w, U, .int (bI (decide (n < i))), .int (nI i), l4] [] h = some (.returned (some (.int (bI (dec (isWd w))))), h) := by
    intro m
    induction m with
    | zero =>
      intro i n l4 hi hni h1 h2 h3
      have : i = 8 := by omega
      subst this
      rw [e_X2_isWord_12]
      simp (disch := omega) only [e_X2_isWord_0, e_X2_isWord_1, e_X2_isWord_2, e_X2_isWord_3, e_X2_isWord_6, e_X2_isWord_7, e_X2_isWord_8, e_X2_isWord_9, e_X2_isWord_10, e_X2_isWord_11, e_X2_isWord_13, e_X2_isWord_15, e_X2_isWord_18, e_X2_isWord_19, e_X2_isWord_21, e_X2_isWord_22, e_X2_isWord_23, e_X2_isWord_24, e_X2_isWord_25, e_X2_isWord_28, e_X2_isWord_29, e_X2_isWord_31, e_X2_isWord_33, e_X2_isWord_36, e_X2_isWord_37, e_X2_isWord_40, e_X2_isWord_43, e_X2_isWord_44, e_X2_isWord_47, e_X2_isWord_49, e_X2_isWord_51, e_X2_isWord_53, e_X2_isWord_56, e_X2_isWord_59, e_X2_isWord_60, e_X2_isWord_61, e_X2_isWord_63, e_X2_isWord_66, e_X2_isWord_67, e_X2_isWord_68, e_X2_isWord_71, e_X2_isWord_74, e_X2_isWord_75, cR_ref, cR_null, cR_rf, c1_int, c1_ref, c1_null, c1_rf, kz_int, kz_ref, kz_null, kz_rf, kz_U, kz_long, nB_null, nB_ref, rf_none, rf_some, bV_ret, bV_thr, bA_ret, bA_thr, bX_ret, bX_thr, len4_0, len4_1, len4_2, len4_3, len4_4, true_and, and_true, and_self, if_true, if_false, Option.bind_some, nR_b1, nR_b0, nR_bI, nI_1z, nI_0z, bI_z, if_nn, nI_add, pk_mul, nI_lt_if, t_in]
      rw [if_neg (by omega), dec_t ⟨n, h1 (by omega), hni, fun i hi => ⟨fun q => h2 i q, fun q => h3 i q hi⟩⟩]
      rfl
    | succ m ih =>
      intro i n l4 hi hni h1 h2 h3
      have hc := byt_lt w i
      rw [e_X2_isWord_12]
      simp (disch := omega) only [e_X2_isWord_0, e_X2_isWord_1, e_X2_isWord_2, e_X2_isWord_3, e_X2_isWord_6, e_X2_isWord_7, e_X2_isWord_8, e_X2_isWord_9, e_X2_isWord_10, e_X2_isWord_11, e_X2_isWord_13, e_X2_isWord_15, e_X2_isWord_18, e_X2_isWord_19, e_X2_isWord_21, e_X2_isWord_22, e_X2_isWord_23, e_X2_isWord_24, e_X2_isWord_25, e_X2_isWord_28, e_X2_isWord_29, e_X2_isWord_31, e_X2_isWord_33, e_X2_isWord_36, e_X2_isWord_37, e_X2_isWord_40, e_X2_isWord_43, e_X2_isWord_44, e_X2_isWord_47, e_X2_isWord_49, e_X2_isWord_51, e_X2_isWord_53, e_X2_isWord_56, e_X2_isWord_59, e_X2_isWord_60, e_X2_isWord_61, e_X2_isWord_63, e_X2_isWord_66, e_X2_isWord_67, e_X2_isWord_68, e_X2_isWord_71, e_X2_isWord_74, e_X2_isWord_75, cR_ref, cR_null, cR_rf, c1_int, c1_ref, c1_null, c1_rf, kz_int, kz_ref, kz_null, kz_rf, kz_U, kz_long, nB_null, nB_ref, rf_none, rf_some, bV_ret, bV_thr, bA_ret, bA_thr, bX_ret, bX_thr, len4_0, len4_1, len4_2, len4_3, len4_4, true_and, and_true, and_self, if_true, if_false, Option.bind_some, nR_b1, nR_b0, nR_bI, nI_1z, nI_0z, bI_z, if_nn, nI_add, pk_mul, nI_lt_if, t_in, byt_eq, nI_eq0, in_az]
      rw [if_pos (by omega)]
      by_cases hz : byt w i = 0
      · rw [if_pos hz]
        by_cases hi0 : i = 0
        · rw [if_pos hi0, dec_f]
          · rfl
          · rintro ⟨n', g1, g2, g3⟩
            have := (g3 0 (by omega)).1 (by omega)
            rw [hi0] at hz
            omega
        · rw [if_neg hi0, if_pos hz]
          have := ih (i + 1) n (.int (nI (byt w i))) (by omega) (by omega) (fun _ => h1 (by omega)) h2 (fun j q1 q2 => by
            by_cases hj : j = i
            · rw [hj]; exact hz
            · exact h3 j q1 (by omega))
          rw [decide_eq_true (show n < i + 1 by omega)] at this
          exact this
      · rw [if_neg hz, if_neg hz]
        by_cases hov : n < i
        · simp only [hov, decide_true, Bool.true_eq_false, if_false]
          rw [dec_f]
          · rfl
          · rintro ⟨n', g1, g2, g3⟩
            have z := h3 n (Nat.le_refl _) hov
            have hn' : n' ≤ n := by
              rcases Nat.lt_or_ge n n' with q | q
              · have := (g3 n (by omega)).1 q; omega
              · exact q
            exact hz ((g3 i (by omega)).2 (by omega))
        · have hni' : n = i := by omega
          subst hni'
          simp only [hov, decide_false, if_true]
          by_cases hl : 97 ≤ byt w n ∧ byt w n ≤ 122
          · simp only [hl, and_self, decide_true, Bool.true_eq_false, if_false]
            have := ih (n + 1) (n + 1) (.int (nI (byt w n))) (by omega) (Nat.le_refl _) (fun _ => by omega) (fun j q => by
              by_cases hj : j = n
              · rw [hj]; exact hl
              · exact h2 j (by omega)) (fun j q1 q2 => by omega)
            rw [decide_eq_false (Nat.lt_irrefl _)] at this
            exact this
          · rw [decide_eq_false hl]
            simp only [if_true]
            rw [dec_f]
            · rfl
            · rintro ⟨n', g1, g2, g3⟩
              rcases Nat.lt_or_ge n n' with q | q
              · exact hl ((g3 n (by omega)).1 q)
              · exact hz ((g3 n (by omega)).2 q)
  simp only [n_X2_isWord, e_X2_isWord_0, e_X2_isWord_1, e_X2_isWord_2, e_X2_isWord_3, e_X2_isWord_6, e_X2_isWord_7, e_X2_isWord_8, e_X2_isWord_9, e_X2_isWord_10, e_X2_isWord_11, e_X2_isWord_13, e_X2_isWord_15, e_X2_isWord_18, e_X2_isWord_19, e_X2_isWord_21, e_X2_isWord_22, e_X2_isWord_23, e_X2_isWord_24, e_X2_isWord_25, e_X2_isWord_28, e_X2_isWord_29, e_X2_isWord_31, e_X2_isWord_33, e_X2_isWord_36, e_X2_isWord_37, e_X2_isWord_40, e_X2_isWord_43, e_X2_isWord_44, e_X2_isWord_47, e_X2_isWord_49, e_X2_isWord_51, e_X2_isWord_53, e_X2_isWord_56, e_X2_isWord_59, e_X2_isWord_60, e_X2_isWord_61, e_X2_isWord_63, e_X2_isWord_66, e_X2_isWord_67, e_X2_isWord_68, e_X2_isWord_71, e_X2_isWord_74, e_X2_isWord_75, cR_ref, cR_null, cR_rf, c1_int, c1_ref, c1_null, c1_rf, kz_int, kz_ref, kz_null, kz_rf, kz_U, kz_long, nB_null, nB_ref, rf_none, rf_some, bV_ret, bV_thr, bA_ret, bA_thr, bX_ret, bX_thr, len4_0, len4_1, len4_2, len4_3, len4_4, true_and, and_true, and_self, if_true, if_false, Option.bind_some, nR_b1, nR_b0, nR_bI, nI_1z, nI_0z, bI_z, if_nn, lg_cmp_pos]
  by_cases hw : 0 < w
  · rw [if_pos hw]
    exact key 8 0 0 U (by omega) (Nat.le_refl _) (fun q => absurd q (Nat.lt_irrefl _)) (fun j q => absurd q (Nat.not_lt_zero _)) (fun j _ q => absurd q (Nat.not_lt_zero _))
  · rw [if_neg hw, dec_f]
    · rfl
    · rintro ⟨n', g1, g2, g3⟩
      have h0 := (g3 0 (by omega)).1 (by omega)
      by_cases hz : w = 0
      · rw [hz, byt_zero] at h0; omega
      · have hneg : w < 0 := by
          rcases Int64.lt_or_le w 0 with q | q
          · exact q
          · exact absurd (Int64.lt_of_le_of_ne q (Ne.symm hz)) hw
        have h7 := byt_neg hneg
        have := g3 7 (by omega)
        rcases Nat.lt_or_ge 7 n' with q | q
        · have := this.1 q; omega
        · have := this.2 q; omega
end TW1
