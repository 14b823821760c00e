/-! LEXING, plain -/
/-- on while f holds -/
def adv (f : Nat → Bool) (cs : List Nat) (a : Nat) : Nat := a + ((cs.drop a).takeWhile f).length
def sub (cs : List Nat) (a b : Nat) : List Nat := (cs.drop a).take (b - a)
def isL (c : Nat) : Bool := decide (97 ≤ c ∧ c ≤ 122)
def isD (c : Nat) : Bool := decide (48 ≤ c ∧ c ≤ 57)
def isBl (c : Nat) : Bool := decide (c = 32)
theorem drop_cons {cs : List Nat} {a c : Nat} (h : cs[a]? = some c) : cs.drop a = c :: cs.drop (a + 1) := by
  obtain ⟨hl, e⟩ := List.getElem?_eq_some_iff.mp h
  rw [List.drop_eq_getElem_cons hl, e]
theorem adv_end {f : Nat → Bool} {cs : List Nat} {a : Nat} (h : cs.length ≤ a) : adv f cs a = a := by
  unfold adv; rw [List.drop_eq_nil_of_le h]; rfl
theorem adv_go {f : Nat → Bool} {cs : List Nat} {a c : Nat} (h : cs[a]? = some c) (hf : f c = true) : adv f cs a = adv f cs (a + 1) := by
  unfold adv; rw [drop_cons h, List.takeWhile_cons, if_pos hf]; simp; omega
theorem adv_no {f : Nat → Bool} {cs : List Nat} {a c : Nat} (h : cs[a]? = some c) (hf : f c = false) : adv f cs a = a := by
  unfold adv; rw [drop_cons h, List.takeWhile_cons, if_neg (by rw [hf]; decide)]; rfl
theorem adv_ge {f : Nat → Bool} {cs : List Nat} {a : Nat} : a ≤ adv f cs a := Nat.le_add_right _ _
theorem adv_le {f : Nat → Bool} {cs : List Nat} {a : Nat} (h : a ≤ cs.length) : adv f cs a ≤ cs.length := by
  unfold adv
  have := (List.takeWhile_prefix f (l := cs.drop a)).length_le
  rw [List.length_drop] at this
  omega
theorem sub_len {cs : List Nat} {a b : Nat} (h : b ≤ cs.length) : (sub cs a b).length = b - a := by
  unfold sub; rw [List.length_take, List.length_drop]; omega
theorem sub_self {cs : List Nat} {a : Nat} : sub cs a a = [] := by unfold sub; simp
theorem sub_snoc {cs : List Nat} {a i c : Nat} (h : cs[i]? = some c) (ha : a ≤ i) : sub cs a (i + 1) = sub cs a i ++ [c] := by
  unfold sub
  have e : i + 1 - a = (i - a) + 1 := by omega
  rw [e, List.take_add_one, List.getElem?_drop, show a + (i - a) = i by omega, h]
  rfl
theorem sub_mem {cs : List Nat} {f : Nat → Bool} {a c : Nat} (h : c ∈ sub cs a (adv f cs a)) : f c = true := by
  unfold sub adv at h
  rw [Nat.add_sub_cancel_left] at h
  have e : (cs.drop a).take ((cs.drop a).takeWhile f).length = (cs.drop a).takeWhile f := by
    conv => lhs; arg 2; rw [← List.takeWhile_append_dropWhile (p := f) (l := cs.drop a)]
    rw [List.take_left']
    rfl
  rw [e] at h
  exact List.all_eq_true.mp List.all_takeWhile c h
/-- a word's code; a number's -/
def wst (t : Int64) (c : Nat) : Int64 := (t <<< ((nI 8).toInt64 &&& 63)) ||| (nI c).toInt64
def wcode (w : List Nat) : Int64 := w.foldl wst 0
def nst (t : Int64) (c : Nat) : Int64 := 10 * t + (nI c).toInt64 - 48
def ncode (w : List Nat) : Int64 := w.foldl nst 0
def isS (c : Nat) : Bool := decide (c = 123 ∨ c = 125 ∨ c = 46 ∨ c = 61 ∨ c = 60 ∨ c = 62 ∨ c = 33)
/-- the token behind e: kind (0 none, 1 word, 2 number, 3 variable, 4 sign, 5 bad), word, place, end -/
def lexC (cs : List Nat) (a c : Nat) : Nat × List Nat × Nat × Nat := if isL c = true then (if 8 < adv isL cs a - a then 5 else 1, sub cs a (adv isL cs a), a, adv isL cs a) else if isD c = true then (if 4 < adv isD cs a - a then 5 else 2, sub cs a (adv isD cs a), a, adv isD cs a) else if c = 63 then (if 1 ≤ adv isL cs (a + 1) - (a + 1) ∧ adv isL cs (a + 1) - (a + 1) ≤ 8 then 3 else 5, sub cs (a + 1) (adv isL cs (a + 1)), a, adv isL cs (a + 1)) else (if isS c = true then 4 else 5, [c], a, a + 1)
def lexA (cs : List Nat) (e a : Nat) : Nat × List Nat × Nat × Nat :=
  match cs[a]? with
  | none => (0, [], e, e)
  | some c => lexC cs a c
theorem lexA_some {cs : List Nat} {e a c : Nat} (h : cs[a]? = some c) : lexA cs e a = lexC cs a c := by unfold lexA; rw [h]
theorem lexA_none {cs : List Nat} {e a : Nat} (h : cs[a]? = none) : lexA cs e a = (0, [], e, e) := by unfold lexA; rw [h]
def lexT (cs : List Nat) (e : Nat) : Nat × List Nat × Nat × Nat := lexA cs e (adv isBl cs e)
theorem sT_sT {σ : Tw} {a b : Int64} : sT (sT σ a) b = sT σ b := rfl
theorem sT_self {σ : Tw} : sT σ σ.2.1 = σ := rfl
theorem sT_id {σ : Tw} {v : Int64} (h : σ.2.1 = v) : sT σ v = σ := by rw [← h]; rfl
section LEX
variable {Ω : Om} {d : Nat} {h : AH} {x : Nat} {A : Nat → Nat} {σ : Tw} {cs : List Nat}
theorem t_isLetter {c : Nat} (hc : c < 256) : gM PG Ω (d + 2) 59 [.int (nI c)] h = some (.returned (some (.int (bI (isL c)))), h) := by
  simp (disch := omega) only [n_X2_isLetter, e_X2_isLetter_0, e_X2_isLetter_1, e_X2_isLetter_3, e_X2_isLetter_5, e_X2_isLetter_8, cR_ref, cR_null, cR_rf, c1_int, c1_ref, c1_null, c1_rf, kz_int, kz_ref, kz_null, kz_rf, kz_U, kz_long, nB_null, nB_ref, rf_none, rf_some, bV_ret, bV_thr, bA_ret, bA_thr, bX_ret, bX_thr, len4_0, len4_1, len4_2, len4_3, len4_4, true_and, and_true, and_self, if_true, if_false, Option.bind_some, nR_b1, nR_b0, nR_bI, nI_1z, nI_0z, bI_z, if_nn, t_in, in_b]
  rfl
theorem t_isFigure {c : Nat} (hc : c < 256) : gM PG Ω (d + 2) 61 [.int (nI c)] h = some (.returned (some (.int (bI (isD c)))), h) := by
  simp (disch := omega) only [n_X2_isFigure, e_X2_isFigure_0, e_X2_isFigure_1, e_X2_isFigure_3, e_X2_isFigure_5, e_X2_isFigure_8, cR_ref, cR_null, cR_rf, c1_int, c1_ref, c1_null, c1_rf, kz_int, kz_ref, kz_null, kz_rf, kz_U, kz_long, nB_null, nB_ref, rf_none, rf_some, bV_ret, bV_thr, bA_ret, bA_thr, bX_ret, bX_thr, len4_0, len4_1, len4_2, len4_3, len4_4, true_and, and_true, and_self, if_true, if_false, Option.bind_some, nR_b1, nR_b0, nR_bI, nI_1z, nI_0z, bI_z, if_nn, t_in, in_b]
  rfl
theorem TxL.ch (hx : TxL σ cs) {i c : Nat} (hc : cs[i]? = some c) : σ.2.2.1 12 i = nI c ∧ 32 ≤ c ∧ c ≤ 126 := ⟨hx.2.2.1 i c hc, hx.2.2.2 c (List.mem_of_getElem? hc)⟩
theorem TxL.fx {σ' : Tw} {I AI AL : List Nat} (hx : TxL σ cs) (hf : Fx I AI AL σ σ') (h13 : 13 ∉ I) (h12 : 12 ∉ AI) : TxL σ' cs := by
  obtain ⟨h1, h2, h3, h4⟩ := hx
  exact ⟨by rw [hf.1 13 h13]; exact h1, h2, fun i c hc => by rw [hf.2.1 12 h12]; exact h3 i c hc, h4⟩
set_option maxHeartbeats 1000000 in
theorem t_letters (hT : TwOk Ω.sz x A) (hx : TxL σ cs) {a : Nat} (ha : a ≤ cs.length) : gM PG Ω (d + 4) 60 [.ref x, .int (nI a)] (tW h x A σ) = some (.returned (some (.int (nI (adv isL cs a)))), tW h x A (sT σ (wcode ((sub cs a (adv isL cs a)).take 8)))) := by
  have key : ∀ (m i : Nat), i + m = cs.length → a ≤ i → gO PG Ω (d + 3) 60 7 [.ref x, .int (nI a), .int (nI i)] [] (tW h x A (sT σ (wcode ((sub cs a i).take 8)))) = some (.returned (some (.int (nI (adv isL cs i)))), tW h x A (sT σ (wcode ((sub cs a (adv isL cs i)).take 8)))) := by
    have h160 := hx.2.1
    intro m
    induction m with
    | zero =>
      intro i hi hai
      rw [adv_end (show cs.length ≤ i by omega), e_X2_letters_7]
      simp (disch := omega) only [e_X2_letters_8, e_X2_letters_9, e_X2_letters_12, e_X2_letters_15, e_X2_letters_16, e_X2_letters_19, e_X2_letters_20, e_X2_letters_21, e_X2_letters_24, e_X2_letters_27, e_X2_letters_28, e_X2_letters_29, e_X2_letters_30, e_X2_letters_32, e_X2_letters_35, e_X2_letters_36, e_X2_letters_37, e_X2_letters_40, e_X2_letters_42, e_X2_letters_43, e_X2_letters_44, e_X2_letters_47, e_X2_letters_48, e_X2_letters_49, e_X2_letters_50, e_X2_letters_51, e_X2_letters_54, e_X2_letters_57, e_X2_letters_60, e_X2_letters_61, tw_cl, tg12, tg13, tg16, tp16 hT, tr12 hT, ts12 hT, cR_ref, cR_null, cR_rf, c1_int, c1_ref, c1_null, c1_rf, kz_int, kz_ref, kz_null, kz_rf, kz_U, kz_long, nB_null, nB_ref, rf_none, rf_some, bV_ret, bV_thr, bA_ret, bA_thr, bX_ret, bX_thr, len4_0, len4_1, len4_2, len4_3, len4_4, true_and, and_true, and_self, if_true, if_false, Option.bind_some, nR_b1, nR_b0, nR_bI, nI_1z, nI_0z, bI_z, if_nn, sI_1, sI_2, sT_1, sT_21, sT_22, sA_1, sA_21, sA_221, sA_222, sL_1, sL_21, sL_221, sL_222, Nat.reduceEqDiff, ↓reduceIte, nI_add, pk_mul, hx.1, nI_lt_if]
      rw [if_neg (by omega)]
    | succ m ih =>
      intro i hi hai
      have hil : i < cs.length := by omega
      have hc : cs[i]? = some cs[i] := List.getElem?_eq_getElem hil
      obtain ⟨c1, c2, c3⟩ := hx.ch hc
      rw [e_X2_letters_7]
      simp (disch := omega) only [e_X2_letters_8, e_X2_letters_9, e_X2_letters_12, e_X2_letters_15, e_X2_letters_16, e_X2_letters_19, e_X2_letters_20, e_X2_letters_21, e_X2_letters_24, e_X2_letters_27, e_X2_letters_28, e_X2_letters_29, e_X2_letters_30, e_X2_letters_32, e_X2_letters_35, e_X2_letters_36, e_X2_letters_37, e_X2_letters_40, e_X2_letters_42, e_X2_letters_43, e_X2_letters_44, e_X2_letters_47, e_X2_letters_48, e_X2_letters_49, e_X2_letters_50, e_X2_letters_51, e_X2_letters_54, e_X2_letters_57, e_X2_letters_60, e_X2_letters_61, tw_cl, tg12, tg13, tg16, tp16 hT, tr12 hT, ts12 hT, cR_ref, cR_null, cR_rf, c1_int, c1_ref, c1_null, c1_rf, kz_int, kz_ref, kz_null, kz_rf, kz_U, kz_long, nB_null, nB_ref, rf_none, rf_some, bV_ret, bV_thr, bA_ret, bA_thr, bX_ret, bX_thr, len4_0, len4_1, len4_2, len4_3, len4_4, true_and, and_true, and_self, if_true, if_false, Option.bind_some, nR_b1, nR_b0, nR_bI, nI_1z, nI_0z, bI_z, if_nn, sI_1, sI_2, sT_1, sT_21, sT_22, sA_1, sA_21, sA_221, sA_222, sL_1, sL_21, sL_221, sL_222, Nat.reduceEqDiff, ↓reduceIte, nI_add, pk_mul, hx.1, nI_lt_if, c1, t_isLetter, pk_sub, sT_sT]
      rw [if_pos hil]
      cases hq : isL cs[i] with
      | false =>
        rw [adv_no hc hq]
        simp
      | true =>
        have e := ih (i + 1) (by omega) (by omega)
        rw [adv_go hc hq, ← e, sub_snoc hc hai]
        simp only [Bool.true_eq_false, if_false]
        have hl : (sub cs a i).length = i - a := sub_len (by omega)
        by_cases h8 : i - a < 8
        · rw [if_pos h8, List.take_of_length_le (by omega), List.take_of_length_le (by rw [List.length_append]; simp; omega)]
          unfold wcode
          rw [List.foldl_append]
          rfl
        · rw [if_neg h8, List.take_append_of_le_length (by omega)]
  simp only [n_X2_letters, e_X2_letters_0, e_X2_letters_1, e_X2_letters_2, e_X2_letters_3, e_X2_letters_4, tw_cl, tg12, tg13, tg16, tp16 hT, tr12 hT, ts12 hT, cR_ref, cR_null, cR_rf, c1_int, c1_ref, c1_null, c1_rf, kz_int, kz_ref, kz_null, kz_rf, kz_U, kz_long, nB_null, nB_ref, rf_none, rf_some, bV_ret, bV_thr, bA_ret, bA_thr, bX_ret, bX_thr, len4_0, len4_1, len4_2, len4_3, len4_4, true_and, and_true, and_self, if_true, if_false, Option.bind_some, nR_b1, nR_b0, nR_bI, nI_1z, nI_0z, bI_z, if_nn]
  have e := key (cs.length - a) a (by omega) (Nat.le_refl _)
  rw [sub_self] at e
  exact e
/-- the token is read -/
def TkS (σ : Tw) (t : Nat × List Nat × Nat × Nat) : Prop := σ.1 15 = nI t.1 ∧ ((t.1 = 1 ∨ t.1 = 3) → σ.2.1 = wcode t.2.1) ∧ (t.1 = 2 → σ.2.1 = ncode t.2.1) ∧ (t.1 = 4 → ∃ c, t.2.1 = [c] ∧ c < 256 ∧ σ.2.1 = (nI c).toInt64) ∧ σ.1 18 = nI t.2.2.2 ∧ (if t.1 = 0 then σ.1 19 = nI t.2.2.1 else σ.1 17 = nI t.2.2.1)
theorem TkS_mk {k p b : Nat} {w : List Nat} (h15 : σ.1 15 = nI k) (hk : k ≠ 0) (h18 : σ.1 18 = nI b) (h17 : σ.1 17 = nI p) (h1 : (k = 1 ∨ k = 3) → σ.2.1 = wcode w) (h2 : k = 2 → σ.2.1 = ncode w) (h4 : k = 4 → ∃ c, w = [c] ∧ c < 256 ∧ σ.2.1 = (nI c).toInt64) : TkS σ (k, w, p, b) := ⟨h15, h1, h2, h4, h18, by rw [if_neg hk]; exact h17⟩
theorem t_next1 (hT : TwOk Ω.sz x A) (hx : TxL σ cs) : ∀ (m i : Nat), i + m = cs.length → gO PG Ω d 58 13 [.ref x, .int (nI i), U] [] (tW h x A σ) = gO PG Ω d 58 38 [.ref x, .int (nI (adv isBl cs i)), U] [] (tW h x A σ) := by
  have h160 := hx.2.1
  intro m
  induction m with
  | zero =>
    intro i hi
    rw [adv_end (show cs.length ≤ i by omega), e_X2_next_13]
    simp (disch := omega) only [e_X2_next_14, e_X2_next_15, e_X2_next_18, e_X2_next_21, e_X2_next_22, e_X2_next_25, e_X2_next_26, e_X2_next_27, e_X2_next_29, e_X2_next_32, e_X2_next_35, tw_cl, tg12, tg13, tg16, tg17, tg18, tp15 hT, tp16 hT, tp17 hT, tp18 hT, tp19 hT, tr12 hT, ts12 hT, cR_ref, cR_null, cR_rf, c1_int, c1_ref, c1_null, c1_rf, kz_int, kz_ref, kz_null, kz_rf, kz_U, kz_long, nB_null, nB_ref, rf_none, rf_some, bV_ret, bV_thr, bA_ret, bA_thr, bX_ret, bX_thr, len4_0, len4_1, len4_2, len4_3, len4_4, true_and, and_true, and_self, if_true, if_false, Option.bind_some, nR_b1, nR_b0, nR_bI, nI_1z, nI_0z, bI_z, if_nn, nI_add, pk_mul, hx.1, nI_lt_if]
    rw [if_neg (by omega)]
  | succ m ih =>
    intro i hi
    have hil : i < cs.length := by omega
    have hc : cs[i]? = some cs[i] := List.getElem?_eq_getElem hil
    obtain ⟨c1, c2, c3⟩ := hx.ch hc
    rw [e_X2_next_13]
    simp (disch := omega) only [e_X2_next_14, e_X2_next_15, e_X2_next_18, e_X2_next_21, e_X2_next_22, e_X2_next_25, e_X2_next_26, e_X2_next_27, e_X2_next_29, e_X2_next_32, e_X2_next_35, tw_cl, tg12, tg13, tg16, tg17, tg18, tp15 hT, tp16 hT, tp17 hT, tp18 hT, tp19 hT, tr12 hT, ts12 hT, cR_ref, cR_null, cR_rf, c1_int, c1_ref, c1_null, c1_rf, kz_int, kz_ref, kz_null, kz_rf, kz_U, kz_long, nB_null, nB_ref, rf_none, rf_some, bV_ret, bV_thr, bA_ret, bA_thr, bX_ret, bX_thr, len4_0, len4_1, len4_2, len4_3, len4_4, true_and, and_true, and_self, if_true, if_false, Option.bind_some, nR_b1, nR_b0, nR_bI, nI_1z, nI_0z, bI_z, if_nn, nI_add, pk_mul, hx.1, nI_lt_if, c1, nI_eq_if]
    rw [if_pos hil]
    by_cases hq : cs[i] = 32
    · rw [if_pos hq, ih (i + 1) (by omega), adv_go hc (by unfold isBl; exact decide_eq_true hq)]
    · rw [if_neg hq, adv_no hc (by unfold isBl; exact decide_eq_false hq)]
set_option maxHeartbeats 1000000 in
theorem t_next2 (hT : TwOk Ω.sz x A) (hx : TxL σ cs) {a : Nat} (h17 : σ.1 17 = nI a) {l2 : Int32} : ∀ (m i : Nat), i + m = cs.length → a ≤ i → gO PG Ω (d + 2) 58 122 [.ref x, .int (nI i), .int l2] [] (tW h x A (sT σ (ncode ((sub cs a i).take 4)))) = gO PG Ω (d + 2) 58 182 [.ref x, .int (nI (adv isD cs i)), .int l2] [] (tW h x A (sT σ (ncode ((sub cs a (adv isD cs i)).take 4)))) := by
  have h160 := hx.2.1
  intro m
  induction m with
  | zero =>
    intro i hi hai
    rw [adv_end (show cs.length ≤ i by omega), e_X2_next_122]
    simp (disch := omega) only [e_X2_next_123, e_X2_next_124, e_X2_next_127, e_X2_next_130, e_X2_next_131, e_X2_next_134, e_X2_next_135, e_X2_next_136, e_X2_next_139, e_X2_next_142, e_X2_next_143, e_X2_next_144, e_X2_next_147, e_X2_next_148, e_X2_next_149, e_X2_next_152, e_X2_next_153, e_X2_next_156, e_X2_next_157, e_X2_next_160, e_X2_next_161, e_X2_next_162, e_X2_next_165, e_X2_next_166, e_X2_next_167, e_X2_next_168, e_X2_next_169, e_X2_next_172, e_X2_next_173, e_X2_next_176, e_X2_next_179, tw_cl, tg12, tg13, tg16, tg17, tg18, tp15 hT, tp16 hT, tp17 hT, tp18 hT, tp19 hT, tr12 hT, ts12 hT, cR_ref, cR_null, cR_rf, c1_int, c1_ref, c1_null, c1_rf, kz_int, kz_ref, kz_null, kz_rf, kz_U, kz_long, nB_null, nB_ref, rf_none, rf_some, bV_ret, bV_thr, bA_ret, bA_thr, bX_ret, bX_thr, len4_0, len4_1, len4_2, len4_3, len4_4, true_and, and_true, and_self, if_true, if_false, Option.bind_some, nR_b1, nR_b0, nR_bI, nI_1z, nI_0z, bI_z, if_nn, sI_1, sI_2, sT_1, sT_21, sT_22, sA_1, sA_21, sA_221, sA_222, sL_1, sL_21, sL_221, sL_222, Nat.reduceEqDiff, ↓reduceIte, nI_add, pk_mul, hx.1, nI_lt_if]
    rw [if_neg (by omega)]
  | succ m ih =>
    intro i hi hai
    have hil : i < cs.length := by omega
    have hc : cs[i]? = some cs[i] := List.getElem?_eq_getElem hil
    obtain ⟨c1, c2, c3⟩ := hx.ch hc
    rw [e_X2_next_122]
    simp (disch := omega) only [e_X2_next_123, e_X2_next_124, e_X2_next_127, e_X2_next_130, e_X2_next_131, e_X2_next_134, e_X2_next_135, e_X2_next_136, e_X2_next_139, e_X2_next_142, e_X2_next_143, e_X2_next_144, e_X2_next_147, e_X2_next_148, e_X2_next_149, e_X2_next_152, e_X2_next_153, e_X2_next_156, e_X2_next_157, e_X2_next_160, e_X2_next_161, e_X2_next_162, e_X2_next_165, e_X2_next_166, e_X2_next_167, e_X2_next_168, e_X2_next_169, e_X2_next_172, e_X2_next_173, e_X2_next_176, e_X2_next_179, tw_cl, tg12, tg13, tg16, tg17, tg18, tp15 hT, tp16 hT, tp17 hT, tp18 hT, tp19 hT, tr12 hT, ts12 hT, cR_ref, cR_null, cR_rf, c1_int, c1_ref, c1_null, c1_rf, kz_int, kz_ref, kz_null, kz_rf, kz_U, kz_long, nB_null, nB_ref, rf_none, rf_some, bV_ret, bV_thr, bA_ret, bA_thr, bX_ret, bX_thr, len4_0, len4_1, len4_2, len4_3, len4_4, true_and, and_true, and_self, if_true, if_false, Option.bind_some, nR_b1, nR_b0, nR_bI, nI_1z, nI_0z, bI_z, if_nn, sI_1, sI_2, sT_1, sT_21, sT_22, sA_1, sA_21, sA_221, sA_222, sL_1, sL_21, sL_221, sL_222, Nat.reduceEqDiff, ↓reduceIte, nI_add, pk_mul, hx.1, nI_lt_if, c1, h17, t_isFigure, pk_sub, sT_sT]
    rw [if_pos hil]
    cases hq : isD cs[i] with
    | false =>
      rw [adv_no hc hq]
      simp
    | true =>
      have e := ih (i + 1) (by omega) (by omega)
      rw [adv_go hc hq, ← e, sub_snoc hc hai]
      simp only [Bool.true_eq_false, if_false]
      have hl : (sub cs a i).length = i - a := sub_len (by omega)
      by_cases h8 : i - a < 4
      · rw [if_pos h8, List.take_of_length_le (by omega), List.take_of_length_le (by rw [List.length_append]; simp; omega)]
        unfold ncode
        rw [List.foldl_append]
        rfl
      · rw [if_neg h8, List.take_append_of_le_length (by omega)]
theorem t_next3 (hT : TwOk Ω.sz x A) {c : Nat} (hS : isS c = true) {l1 : Value} : gO PG Ω d 58 264 [.ref x, l1, .int (nI c)] [] (tW h x A σ) = some (.returned none, tW h x A (sI σ 15 (nI 4))) := by
  have hS' := of_decide_eq_true hS
  rcases hS' with q | q | q | q | q | q | q <;> subst q <;> simp (disch := omega) only [e_X2_next_264, e_X2_next_265, e_X2_next_266, e_X2_next_268, e_X2_next_271, e_X2_next_272, e_X2_next_274, e_X2_next_277, e_X2_next_278, e_X2_next_280, e_X2_next_283, e_X2_next_284, e_X2_next_286, e_X2_next_289, e_X2_next_290, e_X2_next_292, e_X2_next_295, e_X2_next_296, e_X2_next_298, e_X2_next_301, e_X2_next_302, e_X2_next_304, e_X2_next_307, e_X2_next_308, e_X2_next_311, e_X2_next_312, e_X2_next_315, tw_cl, tg12, tg13, tg16, tg17, tg18, tp15 hT, tp16 hT, tp17 hT, tp18 hT, tp19 hT, tr12 hT, ts12 hT, cR_ref, cR_null, cR_rf, c1_int, c1_ref, c1_null, c1_rf, kz_int, kz_ref, kz_null, kz_rf, kz_U, kz_long, nB_null, nB_ref, rf_none, rf_some, bV_ret, bV_thr, bA_ret, bA_thr, bX_ret, bX_thr, len4_0, len4_1, len4_2, len4_3, len4_4, true_and, and_true, and_self, if_true, if_false, Option.bind_some, nR_b1, nR_b0, nR_bI, nI_1z, nI_0z, bI_z, if_nn, ↓nI_eq_if, Nat.reduceEqDiff, ↓reduceIte]
theorem t_next4 (hT : TwOk Ω.sz x A) {c : Nat} (hS : isS c = false) (hc : c < 256) {l1 : Value} : gO PG Ω d 58 264 [.ref x, l1, .int (nI c)] [] (tW h x A σ) = some (.returned none, tW h x A (sI σ 15 (nI 5))) := by
  have hS' := of_decide_eq_false hS
  simp only [not_or] at hS'
  obtain ⟨q1, q2, q3, q4, q5, q6, q7⟩ := hS'
  simp (disch := omega) only [e_X2_next_264, e_X2_next_265, e_X2_next_266, e_X2_next_268, e_X2_next_271, e_X2_next_272, e_X2_next_274, e_X2_next_277, e_X2_next_278, e_X2_next_280, e_X2_next_283, e_X2_next_284, e_X2_next_286, e_X2_next_289, e_X2_next_290, e_X2_next_292, e_X2_next_295, e_X2_next_296, e_X2_next_298, e_X2_next_301, e_X2_next_302, e_X2_next_304, e_X2_next_307, e_X2_next_308, e_X2_next_311, e_X2_next_312, e_X2_next_315, tw_cl, tg12, tg13, tg16, tg17, tg18, tp15 hT, tp16 hT, tp17 hT, tp18 hT, tp19 hT, tr12 hT, ts12 hT, cR_ref, cR_null, cR_rf, c1_int, c1_ref, c1_null, c1_rf, kz_int, kz_ref, kz_null, kz_rf, kz_U, kz_long, nB_null, nB_ref, rf_none, rf_some, bV_ret, bV_thr, bA_ret, bA_thr, bX_ret, bX_thr, len4_0, len4_1, len4_2, len4_3, len4_4, true_and, and_true, and_self, if_true, if_false, Option.bind_some, nR_b1, nR_b0, nR_bI, nI_1z, nI_0z, bI_z, if_nn, ↓nI_eq_if, q1, q2, q3, q4, q5, q6, q7]
set_option maxHeartbeats 4000000 in
theorem t_next (hT : TwOk Ω.sz x A) (hx : TxL σ cs) {e : Nat} (h18 : σ.1 18 = nI e) (he : e ≤ cs.length) : ∃ σ', gM PG Ω (d + 5) 58 [.ref x] (tW h x A σ) = some (.returned none, tW h x A σ') ∧ TkS σ' (lexT cs e) ∧ Fx [15, 17, 18, 19] [] [] σ σ' := by
  have h160 := hx.2.1
  have ha : adv isBl cs e ≤ cs.length := adv_le he
  unfold lexT
  have k1 := t_next1 (d := d + 4) (h := h) (σ := sI σ 19 (nI e)) hT (hx.fx (Fx.sI (I := [19]) (AI := []) (AL := []) Fx.rfl' (by decide)) (by decide) (by decide)) (cs.length - e) e (by omega)
  generalize hA : adv isBl cs e = a at *
  have key : ∃ σ', gO PG Ω (d + 4) 58 38 [.ref x, .int (nI a), U] [] (tW h x A (sI σ 19 (nI e))) = some (.returned none, tW h x A σ') ∧ TkS σ' (lexA cs e a) ∧ Fx [15, 17, 18, 19] [] [] σ σ' := by
    by_cases hal : a < cs.length
    · have hc : cs[a]? = some cs[a] := List.getElem?_eq_getElem hal
      rw [lexA_some hc]
      unfold lexC
      obtain ⟨c1, c2, c3⟩ := hx.ch hc
      have hne : ¬ a = cs.length := by omega
      generalize cs[a] = c at *
      have hf0 : Fx [15, 17, 18, 19] [] [] σ (sI (sI (sI (sI σ 19 (nI e)) 17 (nI a)) 15 (nI 0)) 18 (nI (a + 1))) := (((Fx.rfl'.sI (by decide)).sI (by decide)).sI (by decide)).sI (by decide)
      have hx0 : TxL (sI (sI (sI (sI σ 19 (nI e)) 17 (nI a)) 15 (nI 0)) 18 (nI (a + 1))) cs := hx.fx hf0 (by decide) (by decide)
      cases hL : isL c with
      | true =>
        have hal2 := adv_le (f := isL) ha
        have hge := adv_ge (f := isL) (cs := cs) (a := a)
        have hlt := t_letters (d := d) (h := h) hT hx0 ha
        generalize hb : adv isL cs a = b at *
        rw [if_pos rfl]
        by_cases h8 : 8 < b - a
        · rw [if_pos h8]
          refine ⟨?s1, ?e1, ?t1, ?f1⟩
          case e1 => simp (disch := omega) only [e_X2_next_38, e_X2_next_39, e_X2_next_40, e_X2_next_43, e_X2_next_44, e_X2_next_45, e_X2_next_48, e_X2_next_49, e_X2_next_50, e_X2_next_53, e_X2_next_56, e_X2_next_57, e_X2_next_58, e_X2_next_61, e_X2_next_62, e_X2_next_63, e_X2_next_64, e_X2_next_65, e_X2_next_66, e_X2_next_67, e_X2_next_68, e_X2_next_71, e_X2_next_72, e_X2_next_75, e_X2_next_78, e_X2_next_79, e_X2_next_80, e_X2_next_81, e_X2_next_84, e_X2_next_87, e_X2_next_88, e_X2_next_89, e_X2_next_92, e_X2_next_93, e_X2_next_94, e_X2_next_96, e_X2_next_99, e_X2_next_100, e_X2_next_103, e_X2_next_104, e_X2_next_107, e_X2_next_315, tw_cl, tg12, tg13, tg16, tg17, tg18, tp15 hT, tp16 hT, tp17 hT, tp18 hT, tp19 hT, tr12 hT, ts12 hT, cR_ref, cR_null, cR_rf, c1_int, c1_ref, c1_null, c1_rf, kz_int, kz_ref, kz_null, kz_rf, kz_U, kz_long, nB_null, nB_ref, rf_none, rf_some, bV_ret, bV_thr, bA_ret, bA_thr, bX_ret, bX_thr, len4_0, len4_1, len4_2, len4_3, len4_4, true_and, and_true, and_self, if_true, if_false, Option.bind_some, nR_b1, nR_b0, nR_bI, nI_1z, nI_0z, bI_z, if_nn, sI_1, sI_2, sT_1, sT_21, sT_22, sA_1, sA_21, sA_221, sA_222, sL_1, sL_21, sL_221, sL_222, Nat.reduceEqDiff, ↓reduceIte, nI_add, pk_mul, hx.1, nI_eq_if, hne, c1, t_isLetter, hL, Bool.true_eq_false, hlt, pk_sub, nI_lt_if, h8]; rfl
          case t1 => exact TkS_mk rfl (by decide) rfl rfl (fun q => absurd q (by decide)) (fun q => absurd q (by decide)) (fun q => absurd q (by decide))
          case f1 => exact (hf0.sT.sI (by decide)).sI (by decide)
        · rw [if_neg h8]
          refine ⟨?s2, ?e2, ?t2, ?f2⟩
          case e2 => simp (disch := omega) only [e_X2_next_38, e_X2_next_39, e_X2_next_40, e_X2_next_43, e_X2_next_44, e_X2_next_45, e_X2_next_48, e_X2_next_49, e_X2_next_50, e_X2_next_53, e_X2_next_56, e_X2_next_57, e_X2_next_58, e_X2_next_61, e_X2_next_62, e_X2_next_63, e_X2_next_64, e_X2_next_65, e_X2_next_66, e_X2_next_67, e_X2_next_68, e_X2_next_71, e_X2_next_72, e_X2_next_75, e_X2_next_78, e_X2_next_79, e_X2_next_80, e_X2_next_81, e_X2_next_84, e_X2_next_87, e_X2_next_88, e_X2_next_89, e_X2_next_92, e_X2_next_93, e_X2_next_94, e_X2_next_96, e_X2_next_99, e_X2_next_100, e_X2_next_103, e_X2_next_104, e_X2_next_107, e_X2_next_315, tw_cl, tg12, tg13, tg16, tg17, tg18, tp15 hT, tp16 hT, tp17 hT, tp18 hT, tp19 hT, tr12 hT, ts12 hT, cR_ref, cR_null, cR_rf, c1_int, c1_ref, c1_null, c1_rf, kz_int, kz_ref, kz_null, kz_rf, kz_U, kz_long, nB_null, nB_ref, rf_none, rf_some, bV_ret, bV_thr, bA_ret, bA_thr, bX_ret, bX_thr, len4_0, len4_1, len4_2, len4_3, len4_4, true_and, and_true, and_self, if_true, if_false, Option.bind_some, nR_b1, nR_b0, nR_bI, nI_1z, nI_0z, bI_z, if_nn, sI_1, sI_2, sT_1, sT_21, sT_22, sA_1, sA_21, sA_221, sA_222, sL_1, sL_21, sL_221, sL_222, Nat.reduceEqDiff, ↓reduceIte, nI_add, pk_mul, hx.1, nI_eq_if, hne, c1, t_isLetter, hL, Bool.true_eq_false, hlt, pk_sub, nI_lt_if, h8]; rfl
          case t2 => exact TkS_mk rfl (by decide) rfl rfl (fun _ => congrArg wcode (List.take_of_length_le (by rw [sub_len hal2]; omega))) (fun q => absurd q (by decide)) (fun q => absurd q (by decide))
          case f2 => exact (hf0.sT.sI (by decide)).sI (by decide)
      | false =>
        rw [if_neg (by decide)]
        cases hD : isD c with
        | true =>
          have hal2 := adv_le (f := isD) ha
          have hge := adv_ge (f := isD) (cs := cs) (a := a)
          have hlt := t_next2 (d := d + 2) (h := h) (l2 := nI c) hT hx0 (a := a) rfl (cs.length - a) a (by omega) (Nat.le_refl _)
          rw [sub_self] at hlt
          change gO PG Ω (d + 4) 58 122 _ _ (tW h x A (sT _ 0)) = _ at hlt
          generalize hb : adv isD cs a = b at *
          rw [if_pos rfl]
          by_cases h8 : 4 < b - a
          · rw [if_pos h8]
            refine ⟨?s3, ?e3, ?t3, ?f3⟩
            case e3 => simp (disch := omega) only [e_X2_next_38, e_X2_next_39, e_X2_next_40, e_X2_next_43, e_X2_next_44, e_X2_next_45, e_X2_next_48, e_X2_next_49, e_X2_next_50, e_X2_next_53, e_X2_next_56, e_X2_next_57, e_X2_next_58, e_X2_next_61, e_X2_next_62, e_X2_next_63, e_X2_next_64, e_X2_next_65, e_X2_next_66, e_X2_next_67, e_X2_next_68, e_X2_next_71, e_X2_next_72, e_X2_next_75, e_X2_next_110, e_X2_next_111, e_X2_next_114, e_X2_next_117, e_X2_next_118, e_X2_next_119, e_X2_next_182, e_X2_next_183, e_X2_next_184, e_X2_next_187, e_X2_next_188, e_X2_next_189, e_X2_next_192, e_X2_next_193, e_X2_next_196, e_X2_next_197, e_X2_next_198, e_X2_next_201, e_X2_next_202, e_X2_next_205, e_X2_next_206, e_X2_next_209, e_X2_next_315, tw_cl, tg12, tg13, tg16, tg17, tg18, tp15 hT, tp16 hT, tp17 hT, tp18 hT, tp19 hT, tr12 hT, ts12 hT, cR_ref, cR_null, cR_rf, c1_int, c1_ref, c1_null, c1_rf, kz_int, kz_ref, kz_null, kz_rf, kz_U, kz_long, nB_null, nB_ref, rf_none, rf_some, bV_ret, bV_thr, bA_ret, bA_thr, bX_ret, bX_thr, len4_0, len4_1, len4_2, len4_3, len4_4, true_and, and_true, and_self, if_true, if_false, Option.bind_some, nR_b1, nR_b0, nR_bI, nI_1z, nI_0z, bI_z, if_nn, sI_1, sI_2, sT_1, sT_21, sT_22, sA_1, sA_21, sA_221, sA_222, sL_1, sL_21, sL_221, sL_222, Nat.reduceEqDiff, ↓reduceIte, nI_add, pk_mul, hx.1, nI_eq_if, hne, c1, t_isLetter, t_isFigure, hL, hD, Bool.true_eq_false, hlt, pk_sub, nI_lt_if, h8]; rfl
            case t3 => exact TkS_mk rfl (by decide) rfl rfl (fun q => absurd q (by decide)) (fun q => absurd q (by decide)) (fun q => absurd q (by decide))
            case f3 => exact (hf0.sT.sI (by decide)).sI (by decide)
          · rw [if_neg h8]
            refine ⟨?s4, ?e4, ?t4, ?f4⟩
            case e4 => simp (disch := omega) only [e_X2_next_38, e_X2_next_39, e_X2_next_40, e_X2_next_43, e_X2_next_44, e_X2_next_45, e_X2_next_48, e_X2_next_49, e_X2_next_50, e_X2_next_53, e_X2_next_56, e_X2_next_57, e_X2_next_58, e_X2_next_61, e_X2_next_62, e_X2_next_63, e_X2_next_64, e_X2_next_65, e_X2_next_66, e_X2_next_67, e_X2_next_68, e_X2_next_71, e_X2_next_72, e_X2_next_75, e_X2_next_110, e_X2_next_111, e_X2_next_114, e_X2_next_117, e_X2_next_118, e_X2_next_119, e_X2_next_182, e_X2_next_183, e_X2_next_184, e_X2_next_187, e_X2_next_188, e_X2_next_189, e_X2_next_192, e_X2_next_193, e_X2_next_196, e_X2_next_197, e_X2_next_198, e_X2_next_201, e_X2_next_202, e_X2_next_205, e_X2_next_206, e_X2_next_209, e_X2_next_315, tw_cl, tg12, tg13, tg16, tg17, tg18, tp15 hT, tp16 hT, tp17 hT, tp18 hT, tp19 hT, tr12 hT, ts12 hT, cR_ref, cR_null, cR_rf, c1_int, c1_ref, c1_null, c1_rf, kz_int, kz_ref, kz_null, kz_rf, kz_U, kz_long, nB_null, nB_ref, rf_none, rf_some, bV_ret, bV_thr, bA_ret, bA_thr, bX_ret, bX_thr, len4_0, len4_1, len4_2, len4_3, len4_4, true_and, and_true, and_self, if_true, if_false, Option.bind_some, nR_b1, nR_b0, nR_bI, nI_1z, nI_0z, bI_z, if_nn, sI_1, sI_2, sT_1, sT_21, sT_22, sA_1, sA_21, sA_221, sA_222, sL_1, sL_21, sL_221, sL_222, Nat.reduceEqDiff, ↓reduceIte, nI_add, pk_mul, hx.1, nI_eq_if, hne, c1, t_isLetter, t_isFigure, hL, hD, Bool.true_eq_false, hlt, pk_sub, nI_lt_if, h8]; rfl
            case t4 => exact TkS_mk rfl (by decide) rfl rfl (fun q => absurd q (by decide)) (fun _ => congrArg ncode (List.take_of_length_le (by rw [sub_len hal2]; omega))) (fun q => absurd q (by decide))
            case f4 => exact (hf0.sT.sI (by decide)).sI (by decide)
        | false =>
          rw [if_neg (by decide)]
          by_cases h63 : c = 63
          · have ha1 : a + 1 ≤ cs.length := by omega
            have hal2 := adv_le (f := isL) ha1
            have hge := adv_ge (f := isL) (cs := cs) (a := a + 1)
            have hlt := t_letters (d := d) (h := h) hT hx0 ha1
            generalize hb : adv isL cs (a + 1) = b at *
            have hbb : b - a - 1 = b - (a + 1) := by omega
            rw [if_pos h63]
            by_cases h8 : 1 ≤ b - (a + 1) ∧ b - (a + 1) ≤ 8
            · rw [if_pos h8]
              refine ⟨?s5, ?e5, ?t5, ?f5⟩
              case e5 => simp (disch := omega) only [e_X2_next_38, e_X2_next_39, e_X2_next_40, e_X2_next_43, e_X2_next_44, e_X2_next_45, e_X2_next_48, e_X2_next_49, e_X2_next_50, e_X2_next_53, e_X2_next_56, e_X2_next_57, e_X2_next_58, e_X2_next_61, e_X2_next_62, e_X2_next_63, e_X2_next_64, e_X2_next_65, e_X2_next_66, e_X2_next_67, e_X2_next_68, e_X2_next_71, e_X2_next_72, e_X2_next_75, e_X2_next_110, e_X2_next_111, e_X2_next_114, e_X2_next_117, e_X2_next_118, e_X2_next_119, e_X2_next_212, e_X2_next_213, e_X2_next_215, e_X2_next_218, e_X2_next_219, e_X2_next_220, e_X2_next_221, e_X2_next_222, e_X2_next_223, e_X2_next_226, e_X2_next_229, e_X2_next_230, e_X2_next_231, e_X2_next_234, e_X2_next_235, e_X2_next_236, e_X2_next_237, e_X2_next_238, e_X2_next_239, e_X2_next_241, e_X2_next_244, e_X2_next_247, e_X2_next_248, e_X2_next_251, e_X2_next_252, e_X2_next_255, e_X2_next_315, tw_cl, tg12, tg13, tg16, tg17, tg18, tp15 hT, tp16 hT, tp17 hT, tp18 hT, tp19 hT, tr12 hT, ts12 hT, cR_ref, cR_null, cR_rf, c1_int, c1_ref, c1_null, c1_rf, kz_int, kz_ref, kz_null, kz_rf, kz_U, kz_long, nB_null, nB_ref, rf_none, rf_some, bV_ret, bV_thr, bA_ret, bA_thr, bX_ret, bX_thr, len4_0, len4_1, len4_2, len4_3, len4_4, true_and, and_true, and_self, if_true, if_false, Option.bind_some, nR_b1, nR_b0, nR_bI, nI_1z, nI_0z, bI_z, if_nn, sI_1, sI_2, sT_1, sT_21, sT_22, sA_1, sA_21, sA_221, sA_222, sL_1, sL_21, sL_221, sL_222, Nat.reduceEqDiff, ↓reduceIte, nI_add, pk_mul, hx.1, nI_eq_if, hne, c1, t_isLetter, t_isFigure, hL, hD, h63, Bool.true_eq_false, hlt, pk_sub, t_in, in_b, hbb, h8, decide_true]; rfl
              case t5 => exact TkS_mk rfl (by decide) rfl rfl (fun _ => congrArg wcode (List.take_of_length_le (by rw [sub_len hal2]; omega))) (fun q => absurd q (by decide)) (fun q => absurd q (by decide))
              case f5 => exact (hf0.sT.sI (by decide)).sI (by decide)
            · rw [if_neg h8]
              refine ⟨?s6, ?e6, ?t6, ?f6⟩
              case e6 => simp (disch := omega) only [e_X2_next_38, e_X2_next_39, e_X2_next_40, e_X2_next_43, e_X2_next_44, e_X2_next_45, e_X2_next_48, e_X2_next_49, e_X2_next_50, e_X2_next_53, e_X2_next_56, e_X2_next_57, e_X2_next_58, e_X2_next_61, e_X2_next_62, e_X2_next_63, e_X2_next_64, e_X2_next_65, e_X2_next_66, e_X2_next_67, e_X2_next_68, e_X2_next_71, e_X2_next_72, e_X2_next_75, e_X2_next_110, e_X2_next_111, e_X2_next_114, e_X2_next_117, e_X2_next_118, e_X2_next_119, e_X2_next_212, e_X2_next_213, e_X2_next_215, e_X2_next_218, e_X2_next_219, e_X2_next_220, e_X2_next_221, e_X2_next_222, e_X2_next_223, e_X2_next_226, e_X2_next_229, e_X2_next_230, e_X2_next_231, e_X2_next_234, e_X2_next_235, e_X2_next_236, e_X2_next_237, e_X2_next_238, e_X2_next_239, e_X2_next_241, e_X2_next_244, e_X2_next_247, e_X2_next_248, e_X2_next_251, e_X2_next_252, e_X2_next_255, e_X2_next_315, tw_cl, tg12, tg13, tg16, tg17, tg18, tp15 hT, tp16 hT, tp17 hT, tp18 hT, tp19 hT, tr12 hT, ts12 hT, cR_ref, cR_null, cR_rf, c1_int, c1_ref, c1_null, c1_rf, kz_int, kz_ref, kz_null, kz_rf, kz_U, kz_long, nB_null, nB_ref, rf_none, rf_some, bV_ret, bV_thr, bA_ret, bA_thr, bX_ret, bX_thr, len4_0, len4_1, len4_2, len4_3, len4_4, true_and, and_true, and_self, if_true, if_false, Option.bind_some, nR_b1, nR_b0, nR_bI, nI_1z, nI_0z, bI_z, if_nn, sI_1, sI_2, sT_1, sT_21, sT_22, sA_1, sA_21, sA_221, sA_222, sL_1, sL_21, sL_221, sL_222, Nat.reduceEqDiff, ↓reduceIte, nI_add, pk_mul, hx.1, nI_eq_if, hne, c1, t_isLetter, t_isFigure, hL, hD, h63, Bool.true_eq_false, hlt, pk_sub, t_in, in_b, hbb, h8, decide_false]; rfl
              case t6 => exact TkS_mk rfl (by decide) rfl rfl (fun q => absurd q (by decide)) (fun q => absurd q (by decide)) (fun q => absurd q (by decide))
              case f6 => exact (hf0.sT.sI (by decide)).sI (by decide)
          · rw [if_neg h63]
            cases hS : isS c with
            | true =>
              rw [if_pos rfl]
              refine ⟨sI (sT (sI (sI (sI (sI σ 19 (nI e)) 17 (nI a)) 15 (nI 0)) 18 (nI (a + 1))) (nI c).toInt64) 15 (nI 4), ?e7, ?t7, ?f7⟩
              case e7 =>
                simp (disch := omega) only [e_X2_next_38, e_X2_next_39, e_X2_next_40, e_X2_next_43, e_X2_next_44, e_X2_next_45, e_X2_next_48, e_X2_next_49, e_X2_next_50, e_X2_next_53, e_X2_next_56, e_X2_next_57, e_X2_next_58, e_X2_next_61, e_X2_next_62, e_X2_next_63, e_X2_next_64, e_X2_next_65, e_X2_next_66, e_X2_next_67, e_X2_next_68, e_X2_next_71, e_X2_next_72, e_X2_next_75, e_X2_next_110, e_X2_next_111, e_X2_next_114, e_X2_next_117, e_X2_next_118, e_X2_next_119, e_X2_next_212, e_X2_next_213, e_X2_next_215, e_X2_next_258, e_X2_next_259, e_X2_next_260, e_X2_next_261, tw_cl, tg12, tg13, tg16, tg17, tg18, tp15 hT, tp16 hT, tp17 hT, tp18 hT, tp19 hT, tr12 hT, ts12 hT, cR_ref, cR_null, cR_rf, c1_int, c1_ref, c1_null, c1_rf, kz_int, kz_ref, kz_null, kz_rf, kz_U, kz_long, nB_null, nB_ref, rf_none, rf_some, bV_ret, bV_thr, bA_ret, bA_thr, bX_ret, bX_thr, len4_0, len4_1, len4_2, len4_3, len4_4, true_and, and_true, and_self, if_true, if_false, Option.bind_some, nR_b1, nR_b0, nR_bI, nI_1z, nI_0z, bI_z, if_nn, sI_1, sI_2, sT_1, sT_21, sT_22, sA_1, sA_21, sA_221, sA_222, sL_1, sL_21, sL_221, sL_222, Nat.reduceEqDiff, ↓reduceIte, nI_add, pk_mul, hx.1, ↓nI_eq_if, hne, c1, t_isLetter, t_isFigure, hL, hD, h63, t_next3 hT hS]
              case t7 => exact TkS_mk rfl (by decide) rfl rfl (fun q => absurd q (by decide)) (fun q => absurd q (by decide)) (fun _ => ⟨c, rfl, by omega, rfl⟩)
              case f7 => exact hf0.sT.sI (by decide)
            | false =>
              rw [if_neg (by decide)]
              refine ⟨sI (sT (sI (sI (sI (sI σ 19 (nI e)) 17 (nI a)) 15 (nI 0)) 18 (nI (a + 1))) (nI c).toInt64) 15 (nI 5), ?e8, ?t8, ?f8⟩
              case e8 =>
                simp (disch := omega) only [e_X2_next_38, e_X2_next_39, e_X2_next_40, e_X2_next_43, e_X2_next_44, e_X2_next_45, e_X2_next_48, e_X2_next_49, e_X2_next_50, e_X2_next_53, e_X2_next_56, e_X2_next_57, e_X2_next_58, e_X2_next_61, e_X2_next_62, e_X2_next_63, e_X2_next_64, e_X2_next_65, e_X2_next_66, e_X2_next_67, e_X2_next_68, e_X2_next_71, e_X2_next_72, e_X2_next_75, e_X2_next_110, e_X2_next_111, e_X2_next_114, e_X2_next_117, e_X2_next_118, e_X2_next_119, e_X2_next_212, e_X2_next_213, e_X2_next_215, e_X2_next_258, e_X2_next_259, e_X2_next_260, e_X2_next_261, tw_cl, tg12, tg13, tg16, tg17, tg18, tp15 hT, tp16 hT, tp17 hT, tp18 hT, tp19 hT, tr12 hT, ts12 hT, cR_ref, cR_null, cR_rf, c1_int, c1_ref, c1_null, c1_rf, kz_int, kz_ref, kz_null, kz_rf, kz_U, kz_long, nB_null, nB_ref, rf_none, rf_some, bV_ret, bV_thr, bA_ret, bA_thr, bX_ret, bX_thr, len4_0, len4_1, len4_2, len4_3, len4_4, true_and, and_true, and_self, if_true, if_false, Option.bind_some, nR_b1, nR_b0, nR_bI, nI_1z, nI_0z, bI_z, if_nn, sI_1, sI_2, sT_1, sT_21, sT_22, sA_1, sA_21, sA_221, sA_222, sL_1, sL_21, sL_221, sL_222, Nat.reduceEqDiff, ↓reduceIte, nI_add, pk_mul, hx.1, ↓nI_eq_if, hne, c1, t_isLetter, t_isFigure, hL, hD, h63, t_next4 hT hS (show c < 256 by omega)]
              case t8 => exact TkS_mk rfl (by decide) rfl rfl (fun q => absurd q (by decide)) (fun q => absurd q (by decide)) (fun q => absurd q (by decide))
              case f8 => exact hf0.sT.sI (by decide)
    · have hae : a = cs.length := by omega
      have hc : cs[a]? = none := List.getElem?_eq_none (by omega)
      rw [lexA_none hc]
      refine ⟨sI (sI (sI σ 19 (nI e)) 17 (nI a)) 15 (nI 0), ?e9, ?t9, ?f9⟩
      case e9 => simp (disch := omega) only [e_X2_next_38, e_X2_next_39, e_X2_next_40, e_X2_next_43, e_X2_next_44, e_X2_next_45, e_X2_next_48, e_X2_next_49, e_X2_next_50, e_X2_next_53, e_X2_next_56, tw_cl, tg12, tg13, tg16, tg17, tg18, tp15 hT, tp16 hT, tp17 hT, tp18 hT, tp19 hT, tr12 hT, ts12 hT, cR_ref, cR_null, cR_rf, c1_int, c1_ref, c1_null, c1_rf, kz_int, kz_ref, kz_null, kz_rf, kz_U, kz_long, nB_null, nB_ref, rf_none, rf_some, bV_ret, bV_thr, bA_ret, bA_thr, bX_ret, bX_thr, len4_0, len4_1, len4_2, len4_3, len4_4, true_and, and_true, and_self, if_true, if_false, Option.bind_some, nR_b1, nR_b0, nR_bI, nI_1z, nI_0z, bI_z, if_nn, sI_1, sI_2, sT_1, sT_21, sT_22, sA_1, sA_21, sA_221, sA_222, sL_1, sL_21, sL_221, sL_222, Nat.reduceEqDiff, ↓reduceIte, nI_add, pk_mul, hx.1, nI_eq_if, hae]
      case t9 => exact ⟨rfl, fun q => absurd q (show ¬ ((0 : Nat) = 1 ∨ (0 : Nat) = 3) by decide), fun q => absurd q (show ¬ ((0 : Nat) = 2) by decide), fun q => absurd q (show ¬ ((0 : Nat) = 4) by decide), h18, rfl⟩
      case f9 => exact ((Fx.rfl'.sI (by decide)).sI (by decide)).sI (by decide)
  simp (disch := omega) only [n_X2_next, e_X2_next_0, e_X2_next_1, e_X2_next_2, e_X2_next_5, e_X2_next_8, e_X2_next_9, e_X2_next_12, tw_cl, tg12, tg13, tg16, tg17, tg18, tp15 hT, tp16 hT, tp17 hT, tp18 hT, tp19 hT, tr12 hT, ts12 hT, cR_ref, cR_null, cR_rf, c1_int, c1_ref, c1_null, c1_rf, kz_int, kz_ref, kz_null, kz_rf, kz_U, kz_long, nB_null, nB_ref, rf_none, rf_some, bV_ret, bV_thr, bA_ret, bA_thr, bX_ret, bX_thr, len4_0, len4_1, len4_2, len4_3, len4_4, true_and, and_true, and_self, if_true, if_false, Option.bind_some, nR_b1, nR_b0, nR_bI, nI_1z, nI_0z, bI_z, if_nn, sI_1, sI_2, sT_1, sT_21, sT_22, sA_1, sA_21, sA_221, sA_222, sL_1, sL_21, sL_221, sL_222, Nat.reduceEqDiff, ↓reduceIte, h18]
  rw [k1]
  exact key
end LEX
