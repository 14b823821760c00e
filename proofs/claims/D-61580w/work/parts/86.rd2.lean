/-! COMPONENT: reader, on to the next token -/
abbrev rdC (c tx nm : Nat) (nc kd : Int32) (wd : Value) (pl ap en el dp : Int32) : Ce := .inr (7, [.ref c, .ref tx, .ref nm, .int nc, .int kd, wd, .int pl, .int ap, .int en, .int el, .int dp])
theorem hput2 {h : AH} {a : Nat} {e e' : Ce} : hput (hput h a e) a e' = hput h a e' := by
  unfold hput va_up
  refine Prod.ext (funext fun b => ?_) rfl
  by_cases q : b = a <;> simp [q]
theorem hput_self {h : AH} {a : Nat} {e : Ce} (ha : h.1 a = some e) : hput h a e = h := by
  unfold hput va_up
  refine Prod.ext (funext fun b => ?_) rfl
  by_cases q : b = a
  · subst q; simp [ha]
  · simp [q]
section RD2
variable {Ω : Om} {d : Nat} {h h' : AH} {a b c r tx nm : Nat} {w cs : List Nat} {nc kd pl ap en el dp : Int32} {wd : Value} {fs : List Value}
theorem StrH.put {e : Ce} (s : StrH h a w) (hr : h.1 r = some (.inr (7, fs))) : StrH (hput h r e) a w := by
  obtain ⟨b, z1, z2, f, h1, h2, h3⟩ := s
  have n1 : a ≠ r := fun q => by rw [q, hr] at h1; cases h1
  have n2 : b ≠ r := fun q => by rw [q, hr] at h2; cases h2
  exact ⟨b, z1, z2, f, by rw [hput_n n1]; exact h1, by rw [hput_n n2]; exact h2, h3⟩
theorem StrR.put {e : Ce} (s : StrR h a w) (hr : h.1 r = some (.inr (7, fs))) : StrR (hput h r e) a w := by
  obtain ⟨b, z1, z2, f, h1, h2, h3⟩ := s
  have n1 : a ≠ r := fun q => by rw [q, hr] at h1; cases h1
  have n2 : b ≠ r := fun q => by rw [q, hr] at h2; cases h2
  exact ⟨b, z1, z2, f, by rw [hput_n n1]; exact h1, by rw [hput_n n2]; exact h2, h3⟩
theorem LitR.put {e : Ce} (s : LitR Ω h) (hr : h.1 r = some (.inr (7, fs))) : LitR Ω (hput h r e) := fun i w q => (s i w q).put hr
theorem c_letter {x : Nat} (hx : x < 128) : gM PG Ω (d + 1) 110 [.int (nI x)] h = some (.returned (some (.int (bI (isL x)))), h) := by
  unfold isL
  by_cases h1 : x < 97
  · rw [decide_eq_false (by omega)]
    simp (disch := first | omega | (simp only [hnew_21, hput_21, hnew_22, hput_22]; omega) | exact isR_ref | exact isR_null | exact isR_rf | exact isR_fmt | assumption | decide) only [n_X9_letter, e_X9_letter_0, e_X9_letter_1, e_X9_letter_3, e_X9_letter_6, e_X9_letter_7, e_X9_letter_9, e_X9_letter_12, e_X9_letter_13, e_X9_letter_16, e_X9_letter_17, cR_ref, cR_null, cR_rf, c1_int, c1_ref, c1_null, c1_rf, kz_int, kz_ref, kz_null, kz_rf, kz_U, kz_long, nB_null, nB_ref, rf_none, rf_some, bV_ret, bV_thr, bA_ret, bA_thr, bX_ret, bX_thr, len4_0, len4_1, len4_2, len4_3, len4_4, true_and, and_true, and_self, if_true, if_false, Option.bind_some, nR_b1, nR_b0, nR_bI, nI_1z, nI_0z, bI_z, if_nn, ↓nI_lt_if, h1, bI_f]
  · by_cases h2 : 122 < x
    · rw [decide_eq_false (by omega)]
      simp (disch := first | omega | (simp only [hnew_21, hput_21, hnew_22, hput_22]; omega) | exact isR_ref | exact isR_null | exact isR_rf | exact isR_fmt | assumption | decide) only [n_X9_letter, e_X9_letter_0, e_X9_letter_1, e_X9_letter_3, e_X9_letter_6, e_X9_letter_7, e_X9_letter_9, e_X9_letter_12, e_X9_letter_13, e_X9_letter_16, e_X9_letter_17, cR_ref, cR_null, cR_rf, c1_int, c1_ref, c1_null, c1_rf, kz_int, kz_ref, kz_null, kz_rf, kz_U, kz_long, nB_null, nB_ref, rf_none, rf_some, bV_ret, bV_thr, bA_ret, bA_thr, bX_ret, bX_thr, len4_0, len4_1, len4_2, len4_3, len4_4, true_and, and_true, and_self, if_true, if_false, Option.bind_some, nR_b1, nR_b0, nR_bI, nI_1z, nI_0z, bI_z, if_nn, ↓nI_lt_if, h1, h2, bI_f]
    · rw [decide_eq_true (by omega)]
      simp (disch := first | omega | (simp only [hnew_21, hput_21, hnew_22, hput_22]; omega) | exact isR_ref | exact isR_null | exact isR_rf | exact isR_fmt | assumption | decide) only [n_X9_letter, e_X9_letter_0, e_X9_letter_1, e_X9_letter_3, e_X9_letter_6, e_X9_letter_7, e_X9_letter_9, e_X9_letter_12, e_X9_letter_13, e_X9_letter_16, e_X9_letter_17, cR_ref, cR_null, cR_rf, c1_int, c1_ref, c1_null, c1_rf, kz_int, kz_ref, kz_null, kz_rf, kz_U, kz_long, nB_null, nB_ref, rf_none, rf_some, bV_ret, bV_thr, bA_ret, bA_thr, bX_ret, bX_thr, len4_0, len4_1, len4_2, len4_3, len4_4, true_and, and_true, and_self, if_true, if_false, Option.bind_some, nR_b1, nR_b0, nR_bI, nI_1z, nI_0z, bI_z, if_nn, ↓nI_lt_if, h1, h2, bI_t]
theorem c_digit {x : Nat} (hx : x < 128) : gM PG Ω (d + 1) 113 [.int (nI x)] h = some (.returned (some (.int (bI (isD x)))), h) := by
  unfold isD
  by_cases h1 : x < 48
  · rw [decide_eq_false (by omega)]
    simp (disch := first | omega | (simp only [hnew_21, hput_21, hnew_22, hput_22]; omega) | exact isR_ref | exact isR_null | exact isR_rf | exact isR_fmt | assumption | decide) only [n_X9_digit, e_X9_digit_0, e_X9_digit_1, e_X9_digit_3, e_X9_digit_6, e_X9_digit_7, e_X9_digit_9, e_X9_digit_12, e_X9_digit_13, e_X9_digit_16, e_X9_digit_17, cR_ref, cR_null, cR_rf, c1_int, c1_ref, c1_null, c1_rf, kz_int, kz_ref, kz_null, kz_rf, kz_U, kz_long, nB_null, nB_ref, rf_none, rf_some, bV_ret, bV_thr, bA_ret, bA_thr, bX_ret, bX_thr, len4_0, len4_1, len4_2, len4_3, len4_4, true_and, and_true, and_self, if_true, if_false, Option.bind_some, nR_b1, nR_b0, nR_bI, nI_1z, nI_0z, bI_z, if_nn, ↓nI_lt_if, h1, bI_f]
  · by_cases h2 : 57 < x
    · rw [decide_eq_false (by omega)]
      simp (disch := first | omega | (simp only [hnew_21, hput_21, hnew_22, hput_22]; omega) | exact isR_ref | exact isR_null | exact isR_rf | exact isR_fmt | assumption | decide) only [n_X9_digit, e_X9_digit_0, e_X9_digit_1, e_X9_digit_3, e_X9_digit_6, e_X9_digit_7, e_X9_digit_9, e_X9_digit_12, e_X9_digit_13, e_X9_digit_16, e_X9_digit_17, cR_ref, cR_null, cR_rf, c1_int, c1_ref, c1_null, c1_rf, kz_int, kz_ref, kz_null, kz_rf, kz_U, kz_long, nB_null, nB_ref, rf_none, rf_some, bV_ret, bV_thr, bA_ret, bA_thr, bX_ret, bX_thr, len4_0, len4_1, len4_2, len4_3, len4_4, true_and, and_true, and_self, if_true, if_false, Option.bind_some, nR_b1, nR_b0, nR_bI, nI_1z, nI_0z, bI_z, if_nn, ↓nI_lt_if, h1, h2, bI_f]
    · rw [decide_eq_true (by omega)]
      simp (disch := first | omega | (simp only [hnew_21, hput_21, hnew_22, hput_22]; omega) | exact isR_ref | exact isR_null | exact isR_rf | exact isR_fmt | assumption | decide) only [n_X9_digit, e_X9_digit_0, e_X9_digit_1, e_X9_digit_3, e_X9_digit_6, e_X9_digit_7, e_X9_digit_9, e_X9_digit_12, e_X9_digit_13, e_X9_digit_16, e_X9_digit_17, cR_ref, cR_null, cR_rf, c1_int, c1_ref, c1_null, c1_rf, kz_int, kz_ref, kz_null, kz_rf, kz_U, kz_long, nB_null, nB_ref, rf_none, rf_some, bV_ret, bV_thr, bA_ret, bA_thr, bX_ret, bX_thr, len4_0, len4_1, len4_2, len4_3, len4_4, true_and, and_true, and_self, if_true, if_false, Option.bind_some, nR_b1, nR_b0, nR_bI, nI_1z, nI_0z, bI_z, if_nn, ↓nI_lt_if, h1, h2, bI_t]
theorem c_kind {x : Nat} (hx : x < 128) : gM PG Ω (d + 1) 109 [.int (nI x)] h = some (.returned (some (.int (nI (if isS x = true then x else 5)))), h) := by
  cases hs : isS x with
  | true =>
    have := of_decide_eq_true hs
    rcases this with q | q | q | q | q | q | q <;> subst q <;> simp (disch := first | omega | (simp only [hnew_21, hput_21, hnew_22, hput_22]; omega) | exact isR_ref | exact isR_null | exact isR_rf | exact isR_fmt | assumption | decide) only [n_X9_kindOf, e_X9_kindOf_0, e_X9_kindOf_1, e_X9_kindOf_68, e_X9_kindOf_69, e_X9_kindOf_70, e_X9_kindOf_71, cR_ref, cR_null, cR_rf, c1_int, c1_ref, c1_null, c1_rf, kz_int, kz_ref, kz_null, kz_rf, kz_U, kz_long, nB_null, nB_ref, rf_none, rf_some, bV_ret, bV_thr, bA_ret, bA_thr, bX_ret, bX_thr, len4_0, len4_1, len4_2, len4_3, len4_4, true_and, and_true, and_self, if_true, if_false, Option.bind_some, nR_b1, nR_b0, nR_bI, nI_1z, nI_0z, bI_z, if_nn, ↓nI_eq_if, Nat.reduceEqDiff, ↓reduceIte]
  | false =>
    have := of_decide_eq_false hs
    simp only [not_or] at this
    obtain ⟨a1, a2, a3, a4, a5, a6, a7⟩ := this
    simp (disch := first | omega | (simp only [hnew_21, hput_21, hnew_22, hput_22]; omega) | exact isR_ref | exact isR_null | exact isR_rf | exact isR_fmt | assumption | decide) only [n_X9_kindOf, e_X9_kindOf_0, e_X9_kindOf_1, e_X9_kindOf_68, e_X9_kindOf_69, e_X9_kindOf_70, e_X9_kindOf_71, cR_ref, cR_null, cR_rf, c1_int, c1_ref, c1_null, c1_rf, kz_int, kz_ref, kz_null, kz_rf, kz_U, kz_long, nB_null, nB_ref, rf_none, rf_some, bV_ret, bV_thr, bA_ret, bA_thr, bX_ret, bX_thr, len4_0, len4_1, len4_2, len4_3, len4_4, true_and, and_true, and_self, if_true, if_false, Option.bind_some, nR_b1, nR_b0, nR_bI, nI_1z, nI_0z, bI_z, if_nn, ↓nI_eq_if, a1, a2, a3, a4, a5, a6, a7, ↓reduceIte, Bool.false_eq_true]
/-- letters -/
theorem c_letters (hsz : Ω.sz ≤ r) (hr : h.1 r = some (.inr (7, fs))) (hs : StrH h tx cs) : ∀ (m i : Nat), i + m = cs.length → gM PG Ω (d + 5) 111 [.ref r] (hput h r (rdC c tx nm nc kd wd pl (nI i) en el dp)) = some (.returned none, hput h r (rdC c tx nm nc kd wd pl (nI (adv isL cs i)) en el dp)) := by
  have hcs : cs.length ≤ 160 := by obtain ⟨_, _, _, _, _, _, _, _, q, _⟩ := hs; exact q
  intro m i hi
  have key : ∀ (m i : Nat), i + m = cs.length → gO PG Ω (d + 4) 111 0 [.ref r] [] (hput h r (rdC c tx nm nc kd wd pl (nI i) en el dp)) = some (.returned none, hput h r (rdC c tx nm nc kd wd pl (nI (adv isL cs i)) en el dp)) := by
    intro m
    induction m with
    | zero =>
      intro i hi
      have : i = cs.length := by omega
      subst this
      have hs' := hs.put (e := rdC c tx nm nc kd wd pl (nI cs.length) en el dp) hr
      have e1 := j_length (Ω := Ω) (d := d + 2) hs'.r
      obtain ⟨_, _, _, _, g1, _⟩ := hs'
      rw [e_X9_letters_0, adv_end (Nat.le_refl _)]
      simp (disch := first | omega | (simp only [hnew_21, hput_21, hnew_22, hput_22]; omega) | exact isR_ref | exact isR_null | exact isR_rf | exact isR_fmt | assumption | decide) only [e_X9_letters_1, e_X9_letters_4, e_X9_letters_5, e_X9_letters_8, e_X9_letters_11, e_X9_letters_14, e_X9_letters_15, e_X9_letters_18, e_X9_letters_19, e_X9_letters_22, e_X9_letters_25, e_X9_letters_28, e_X9_letters_31, e_X9_letters_32, e_X9_letters_33, e_X9_letters_36, e_X9_letters_37, e_X9_letters_38, e_X9_letters_41, e_X9_letters_44, cR_ref, cR_null, cR_rf, c1_int, c1_ref, c1_null, c1_rf, kz_int, kz_ref, kz_null, kz_rf, kz_U, kz_long, nB_null, nB_ref, rf_none, rf_some, bV_ret, bV_thr, bA_ret, bA_thr, bX_ret, bX_thr, len4_0, len4_1, len4_2, len4_3, len4_4, true_and, and_true, and_self, if_true, if_false, Option.bind_some, nR_b1, nR_b0, nR_bI, nI_1z, nI_0z, bI_z, if_nn, gf, pf, clN, aln, gaI, gaL, gaR, saI, saR, isI, ctB, isB, gB, hput_n, hput_e, hput_21, hput_22, hnew_n, hnew_e, hnew_21, hnew_22, Option.bind_some, Option.map_some, List.lookup_cons, List.lookup_nil, beq_self_eq_true, List.getElem?_cons_zero, List.getElem?_cons_succ, List.set_cons_zero, List.set_cons_succ, List.length_cons, List.length_nil, Nat.reduceAdd, Nat.reduceLT, Nat.reduceLeDiff, Nat.reduceBEq, Nat.reduceEqDiff, okv_int, okv_oref, okv_onull, okv_orf, okv_aref, okv_b0, okv_b1, okv_z0, okv_bI, ckI_nI, lt31, leT, reduceCtorEq, List.mem_cons, List.mem_singleton, List.not_mem_nil, or_true, true_or, or_false, false_or, toR_ref, toR_null, ↓reduceIte, g1, e1, ↓nI_lt_if, Nat.lt_irrefl]
    | succ m ih =>
      intro i hi
      have hil : i < cs.length := by omega
      have hg : cs[i]? = some cs[i] := List.getElem?_eq_getElem hil
      have hs' := hs.put (e := rdC c tx nm nc kd wd pl (nI i) en el dp) hr
      have h128 : cs[i] < 128 := by obtain ⟨_, _, _, _, _, _, _, q, _⟩ := hs; exact q _ (List.getElem_mem hil)
      generalize cs[i] = x at hg h128
      have e1 := j_length (Ω := Ω) (d := d + 2) hs'.r
      have e2 := j_charAt (Ω := Ω) (d := d) hs'.r hg
      have e3 := c_letter (Ω := Ω) (d := d + 3) (h := hput h r (rdC c tx nm nc kd wd pl (nI i) en el dp)) h128
      obtain ⟨_, _, _, _, g1, _⟩ := hs'
      cases hl : isL x with
      | true =>
        rw [hl] at e3
        rw [adv_go hg hl, ← ih (i + 1) (by omega), e_X9_letters_0]
        simp (disch := first | omega | (simp only [hnew_21, hput_21, hnew_22, hput_22]; omega) | exact isR_ref | exact isR_null | exact isR_rf | exact isR_fmt | assumption | decide) only [e_X9_letters_1, e_X9_letters_4, e_X9_letters_5, e_X9_letters_8, e_X9_letters_11, e_X9_letters_14, e_X9_letters_15, e_X9_letters_18, e_X9_letters_19, e_X9_letters_22, e_X9_letters_25, e_X9_letters_28, e_X9_letters_31, e_X9_letters_32, e_X9_letters_33, e_X9_letters_36, e_X9_letters_37, e_X9_letters_38, e_X9_letters_41, e_X9_letters_44, cR_ref, cR_null, cR_rf, c1_int, c1_ref, c1_null, c1_rf, kz_int, kz_ref, kz_null, kz_rf, kz_U, kz_long, nB_null, nB_ref, rf_none, rf_some, bV_ret, bV_thr, bA_ret, bA_thr, bX_ret, bX_thr, len4_0, len4_1, len4_2, len4_3, len4_4, true_and, and_true, and_self, if_true, if_false, Option.bind_some, nR_b1, nR_b0, nR_bI, nI_1z, nI_0z, bI_z, if_nn, gf, pf, clN, aln, gaI, gaL, gaR, saI, saR, isI, ctB, isB, gB, hput_n, hput_e, hput_21, hput_22, hnew_n, hnew_e, hnew_21, hnew_22, Option.bind_some, Option.map_some, List.lookup_cons, List.lookup_nil, beq_self_eq_true, List.getElem?_cons_zero, List.getElem?_cons_succ, List.set_cons_zero, List.set_cons_succ, List.length_cons, List.length_nil, Nat.reduceAdd, Nat.reduceLT, Nat.reduceLeDiff, Nat.reduceBEq, Nat.reduceEqDiff, okv_int, okv_oref, okv_onull, okv_orf, okv_aref, okv_b0, okv_b1, okv_z0, okv_bI, ckI_nI, lt31, leT, reduceCtorEq, List.mem_cons, List.mem_singleton, List.not_mem_nil, or_true, true_or, or_false, false_or, toR_ref, toR_null, ↓reduceIte, nI_add, pk_mul, g1, e1, e2, e3, ↓nI_lt_if, hil, hput2]
      | false =>
        rw [hl] at e3
        rw [adv_no hg hl, e_X9_letters_0]
        simp (disch := first | omega | (simp only [hnew_21, hput_21, hnew_22, hput_22]; omega) | exact isR_ref | exact isR_null | exact isR_rf | exact isR_fmt | assumption | decide) only [e_X9_letters_1, e_X9_letters_4, e_X9_letters_5, e_X9_letters_8, e_X9_letters_11, e_X9_letters_14, e_X9_letters_15, e_X9_letters_18, e_X9_letters_19, e_X9_letters_22, e_X9_letters_25, e_X9_letters_28, e_X9_letters_31, e_X9_letters_32, e_X9_letters_33, e_X9_letters_36, e_X9_letters_37, e_X9_letters_38, e_X9_letters_41, e_X9_letters_44, cR_ref, cR_null, cR_rf, c1_int, c1_ref, c1_null, c1_rf, kz_int, kz_ref, kz_null, kz_rf, kz_U, kz_long, nB_null, nB_ref, rf_none, rf_some, bV_ret, bV_thr, bA_ret, bA_thr, bX_ret, bX_thr, len4_0, len4_1, len4_2, len4_3, len4_4, true_and, and_true, and_self, if_true, if_false, Option.bind_some, nR_b1, nR_b0, nR_bI, nI_1z, nI_0z, bI_z, if_nn, gf, pf, clN, aln, gaI, gaL, gaR, saI, saR, isI, ctB, isB, gB, hput_n, hput_e, hput_21, hput_22, hnew_n, hnew_e, hnew_21, hnew_22, Option.bind_some, Option.map_some, List.lookup_cons, List.lookup_nil, beq_self_eq_true, List.getElem?_cons_zero, List.getElem?_cons_succ, List.set_cons_zero, List.set_cons_succ, List.length_cons, List.length_nil, Nat.reduceAdd, Nat.reduceLT, Nat.reduceLeDiff, Nat.reduceBEq, Nat.reduceEqDiff, okv_int, okv_oref, okv_onull, okv_orf, okv_aref, okv_b0, okv_b1, okv_z0, okv_bI, ckI_nI, lt31, leT, reduceCtorEq, List.mem_cons, List.mem_singleton, List.not_mem_nil, or_true, true_or, or_false, false_or, toR_ref, toR_null, ↓reduceIte, nI_add, pk_mul, g1, e1, e2, e3, ↓nI_lt_if, hil]
  have := key m i hi
  rw [← this]
  simp (disch := first | omega | (simp only [hnew_21, hput_21, hnew_22, hput_22]; omega) | exact isR_ref | exact isR_null | exact isR_rf | exact isR_fmt | assumption | decide) only [n_X9_letters]
/-- blanks -/
theorem c_blank (hsz : Ω.sz ≤ r) (hr : h.1 r = some (.inr (7, fs))) (hs : StrH h tx cs) {l1 l2 : Value} : ∀ (m i : Nat), i + m = cs.length → gO PG Ω (d + 4) 108 5 [.ref r, l1, l2] [] (hput h r (rdC c tx nm nc kd wd pl (nI i) en el dp)) = gO PG Ω (d + 4) 108 48 [.ref r, l1, l2] [] (hput h r (rdC c tx nm nc kd wd pl (nI (adv isBl cs i)) en el dp)) := by
  have hcs : cs.length ≤ 160 := by obtain ⟨_, _, _, _, _, _, _, _, q, _⟩ := hs; exact q
  intro m
  induction m with
  | zero =>
    intro i hi
    have : i = cs.length := by omega
    subst this
    have hs' := hs.put (e := rdC c tx nm nc kd wd pl (nI cs.length) en el dp) hr
    have e1 := j_length (Ω := Ω) (d := d + 2) hs'.r
    obtain ⟨_, _, _, _, g1, _⟩ := hs'
    rw [e_X9_advance_5, adv_end (Nat.le_refl _)]
    simp (disch := first | omega | (simp only [hnew_21, hput_21, hnew_22, hput_22]; omega) | exact isR_ref | exact isR_null | exact isR_rf | exact isR_fmt | assumption | decide) only [e_X9_advance_6, e_X9_advance_9, e_X9_advance_10, e_X9_advance_13, e_X9_advance_16, e_X9_advance_19, e_X9_advance_20, e_X9_advance_23, e_X9_advance_24, e_X9_advance_27, e_X9_advance_30, e_X9_advance_32, e_X9_advance_35, e_X9_advance_36, e_X9_advance_37, e_X9_advance_40, e_X9_advance_41, e_X9_advance_42, e_X9_advance_45, cR_ref, cR_null, cR_rf, c1_int, c1_ref, c1_null, c1_rf, kz_int, kz_ref, kz_null, kz_rf, kz_U, kz_long, nB_null, nB_ref, rf_none, rf_some, bV_ret, bV_thr, bA_ret, bA_thr, bX_ret, bX_thr, len4_0, len4_1, len4_2, len4_3, len4_4, true_and, and_true, and_self, if_true, if_false, Option.bind_some, nR_b1, nR_b0, nR_bI, nI_1z, nI_0z, bI_z, if_nn, gf, pf, clN, aln, gaI, gaL, gaR, saI, saR, isI, ctB, isB, gB, hput_n, hput_e, hput_21, hput_22, hnew_n, hnew_e, hnew_21, hnew_22, Option.bind_some, Option.map_some, List.lookup_cons, List.lookup_nil, beq_self_eq_true, List.getElem?_cons_zero, List.getElem?_cons_succ, List.set_cons_zero, List.set_cons_succ, List.length_cons, List.length_nil, Nat.reduceAdd, Nat.reduceLT, Nat.reduceLeDiff, Nat.reduceBEq, Nat.reduceEqDiff, okv_int, okv_oref, okv_onull, okv_orf, okv_aref, okv_b0, okv_b1, okv_z0, okv_bI, ckI_nI, lt31, leT, reduceCtorEq, List.mem_cons, List.mem_singleton, List.not_mem_nil, or_true, true_or, or_false, false_or, toR_ref, toR_null, ↓reduceIte, g1, e1, ↓nI_lt_if, Nat.lt_irrefl]
  | succ m ih =>
    intro i hi
    have hil : i < cs.length := by omega
    have hg : cs[i]? = some cs[i] := List.getElem?_eq_getElem hil
    have hs' := hs.put (e := rdC c tx nm nc kd wd pl (nI i) en el dp) hr
    have h128 : cs[i] < 128 := by obtain ⟨_, _, _, _, _, _, _, q, _⟩ := hs; exact q _ (List.getElem_mem hil)
    generalize cs[i] = x at hg h128
    have e1 := j_length (Ω := Ω) (d := d + 2) hs'.r
    have e2 := j_charAt (Ω := Ω) (d := d) hs'.r hg
    obtain ⟨_, _, _, _, g1, _⟩ := hs'
    by_cases hl : x = 32
    · have hb : isBl x = true := decide_eq_true hl
      rw [adv_go hg hb, ← ih (i + 1) (by omega), e_X9_advance_5]
      simp (disch := first | omega | (simp only [hnew_21, hput_21, hnew_22, hput_22]; omega) | exact isR_ref | exact isR_null | exact isR_rf | exact isR_fmt | assumption | decide) only [e_X9_advance_6, e_X9_advance_9, e_X9_advance_10, e_X9_advance_13, e_X9_advance_16, e_X9_advance_19, e_X9_advance_20, e_X9_advance_23, e_X9_advance_24, e_X9_advance_27, e_X9_advance_30, e_X9_advance_32, e_X9_advance_35, e_X9_advance_36, e_X9_advance_37, e_X9_advance_40, e_X9_advance_41, e_X9_advance_42, e_X9_advance_45, cR_ref, cR_null, cR_rf, c1_int, c1_ref, c1_null, c1_rf, kz_int, kz_ref, kz_null, kz_rf, kz_U, kz_long, nB_null, nB_ref, rf_none, rf_some, bV_ret, bV_thr, bA_ret, bA_thr, bX_ret, bX_thr, len4_0, len4_1, len4_2, len4_3, len4_4, true_and, and_true, and_self, if_true, if_false, Option.bind_some, nR_b1, nR_b0, nR_bI, nI_1z, nI_0z, bI_z, if_nn, gf, pf, clN, aln, gaI, gaL, gaR, saI, saR, isI, ctB, isB, gB, hput_n, hput_e, hput_21, hput_22, hnew_n, hnew_e, hnew_21, hnew_22, Option.bind_some, Option.map_some, List.lookup_cons, List.lookup_nil, beq_self_eq_true, List.getElem?_cons_zero, List.getElem?_cons_succ, List.set_cons_zero, List.set_cons_succ, List.length_cons, List.length_nil, Nat.reduceAdd, Nat.reduceLT, Nat.reduceLeDiff, Nat.reduceBEq, Nat.reduceEqDiff, okv_int, okv_oref, okv_onull, okv_orf, okv_aref, okv_b0, okv_b1, okv_z0, okv_bI, ckI_nI, lt31, leT, reduceCtorEq, List.mem_cons, List.mem_singleton, List.not_mem_nil, or_true, true_or, or_false, false_or, toR_ref, toR_null, ↓reduceIte, nI_add, pk_mul, g1, e1, e2, ↓nI_lt_if, hil, ↓nI_eq_if, hl, hput2]
    · have hb : isBl x = false := decide_eq_false hl
      rw [adv_no hg hb, e_X9_advance_5]
      simp (disch := first | omega | (simp only [hnew_21, hput_21, hnew_22, hput_22]; omega) | exact isR_ref | exact isR_null | exact isR_rf | exact isR_fmt | assumption | decide) only [e_X9_advance_6, e_X9_advance_9, e_X9_advance_10, e_X9_advance_13, e_X9_advance_16, e_X9_advance_19, e_X9_advance_20, e_X9_advance_23, e_X9_advance_24, e_X9_advance_27, e_X9_advance_30, e_X9_advance_32, e_X9_advance_35, e_X9_advance_36, e_X9_advance_37, e_X9_advance_40, e_X9_advance_41, e_X9_advance_42, e_X9_advance_45, cR_ref, cR_null, cR_rf, c1_int, c1_ref, c1_null, c1_rf, kz_int, kz_ref, kz_null, kz_rf, kz_U, kz_long, nB_null, nB_ref, rf_none, rf_some, bV_ret, bV_thr, bA_ret, bA_thr, bX_ret, bX_thr, len4_0, len4_1, len4_2, len4_3, len4_4, true_and, and_true, and_self, if_true, if_false, Option.bind_some, nR_b1, nR_b0, nR_bI, nI_1z, nI_0z, bI_z, if_nn, gf, pf, clN, aln, gaI, gaL, gaR, saI, saR, isI, ctB, isB, gB, hput_n, hput_e, hput_21, hput_22, hnew_n, hnew_e, hnew_21, hnew_22, Option.bind_some, Option.map_some, List.lookup_cons, List.lookup_nil, beq_self_eq_true, List.getElem?_cons_zero, List.getElem?_cons_succ, List.set_cons_zero, List.set_cons_succ, List.length_cons, List.length_nil, Nat.reduceAdd, Nat.reduceLT, Nat.reduceLeDiff, Nat.reduceBEq, Nat.reduceEqDiff, okv_int, okv_oref, okv_onull, okv_orf, okv_aref, okv_b0, okv_b1, okv_z0, okv_bI, ckI_nI, lt31, leT, reduceCtorEq, List.mem_cons, List.mem_singleton, List.not_mem_nil, or_true, true_or, or_false, false_or, toR_ref, toR_null, ↓reduceIte, nI_add, pk_mul, g1, e1, e2, ↓nI_lt_if, hil, ↓nI_eq_if, hl]
/-- figures -/
theorem c_figs (hsz : Ω.sz ≤ r) (hr : h.1 r = some (.inr (7, fs))) (hs : StrH h tx cs) {l1 l2 : Value} : ∀ (m i : Nat), i + m = cs.length → gO PG Ω (d + 4) 108 193 [.ref r, l1, l2] [] (hput h r (rdC c tx nm nc kd wd pl (nI i) en el dp)) = gO PG Ω (d + 4) 108 237 [.ref r, l1, l2] [] (hput h r (rdC c tx nm nc kd wd pl (nI (adv isD cs i)) en el dp)) := by
  have hcs : cs.length ≤ 160 := by obtain ⟨_, _, _, _, _, _, _, _, q, _⟩ := hs; exact q
  intro m
  induction m with
  | zero =>
    intro i hi
    have : i = cs.length := by omega
    subst this
    have hs' := hs.put (e := rdC c tx nm nc kd wd pl (nI cs.length) en el dp) hr
    have e1 := j_length (Ω := Ω) (d := d + 2) hs'.r
    obtain ⟨_, _, _, _, g1, _⟩ := hs'
    rw [e_X9_advance_193, adv_end (Nat.le_refl _)]
    simp (disch := first | omega | (simp only [hnew_21, hput_21, hnew_22, hput_22]; omega) | exact isR_ref | exact isR_null | exact isR_rf | exact isR_fmt | assumption | decide) only [e_X9_advance_194, e_X9_advance_197, e_X9_advance_198, e_X9_advance_201, e_X9_advance_204, e_X9_advance_207, e_X9_advance_208, e_X9_advance_211, e_X9_advance_212, e_X9_advance_215, e_X9_advance_218, e_X9_advance_221, e_X9_advance_224, e_X9_advance_225, e_X9_advance_226, e_X9_advance_229, e_X9_advance_230, e_X9_advance_231, e_X9_advance_234, cR_ref, cR_null, cR_rf, c1_int, c1_ref, c1_null, c1_rf, kz_int, kz_ref, kz_null, kz_rf, kz_U, kz_long, nB_null, nB_ref, rf_none, rf_some, bV_ret, bV_thr, bA_ret, bA_thr, bX_ret, bX_thr, len4_0, len4_1, len4_2, len4_3, len4_4, true_and, and_true, and_self, if_true, if_false, Option.bind_some, nR_b1, nR_b0, nR_bI, nI_1z, nI_0z, bI_z, if_nn, gf, pf, clN, aln, gaI, gaL, gaR, saI, saR, isI, ctB, isB, gB, hput_n, hput_e, hput_21, hput_22, hnew_n, hnew_e, hnew_21, hnew_22, Option.bind_some, Option.map_some, List.lookup_cons, List.lookup_nil, beq_self_eq_true, List.getElem?_cons_zero, List.getElem?_cons_succ, List.set_cons_zero, List.set_cons_succ, List.length_cons, List.length_nil, Nat.reduceAdd, Nat.reduceLT, Nat.reduceLeDiff, Nat.reduceBEq, Nat.reduceEqDiff, okv_int, okv_oref, okv_onull, okv_orf, okv_aref, okv_b0, okv_b1, okv_z0, okv_bI, ckI_nI, lt31, leT, reduceCtorEq, List.mem_cons, List.mem_singleton, List.not_mem_nil, or_true, true_or, or_false, false_or, toR_ref, toR_null, ↓reduceIte, g1, e1, ↓nI_lt_if, Nat.lt_irrefl]
  | succ m ih =>
    intro i hi
    have hil : i < cs.length := by omega
    have hg : cs[i]? = some cs[i] := List.getElem?_eq_getElem hil
    have hs' := hs.put (e := rdC c tx nm nc kd wd pl (nI i) en el dp) hr
    have h128 : cs[i] < 128 := by obtain ⟨_, _, _, _, _, _, _, q, _⟩ := hs; exact q _ (List.getElem_mem hil)
    generalize cs[i] = x at hg h128
    have e1 := j_length (Ω := Ω) (d := d + 2) hs'.r
    have e2 := j_charAt (Ω := Ω) (d := d) hs'.r hg
    have e3 := c_digit (Ω := Ω) (d := d + 3) (h := hput h r (rdC c tx nm nc kd wd pl (nI i) en el dp)) h128
    obtain ⟨_, _, _, _, g1, _⟩ := hs'
    cases hl : isD x with
    | true =>
      rw [hl] at e3
      rw [adv_go hg hl, ← ih (i + 1) (by omega), e_X9_advance_193]
      simp (disch := first | omega | (simp only [hnew_21, hput_21, hnew_22, hput_22]; omega) | exact isR_ref | exact isR_null | exact isR_rf | exact isR_fmt | assumption | decide) only [e_X9_advance_194, e_X9_advance_197, e_X9_advance_198, e_X9_advance_201, e_X9_advance_204, e_X9_advance_207, e_X9_advance_208, e_X9_advance_211, e_X9_advance_212, e_X9_advance_215, e_X9_advance_218, e_X9_advance_221, e_X9_advance_224, e_X9_advance_225, e_X9_advance_226, e_X9_advance_229, e_X9_advance_230, e_X9_advance_231, e_X9_advance_234, cR_ref, cR_null, cR_rf, c1_int, c1_ref, c1_null, c1_rf, kz_int, kz_ref, kz_null, kz_rf, kz_U, kz_long, nB_null, nB_ref, rf_none, rf_some, bV_ret, bV_thr, bA_ret, bA_thr, bX_ret, bX_thr, len4_0, len4_1, len4_2, len4_3, len4_4, true_and, and_true, and_self, if_true, if_false, Option.bind_some, nR_b1, nR_b0, nR_bI, nI_1z, nI_0z, bI_z, if_nn, gf, pf, clN, aln, gaI, gaL, gaR, saI, saR, isI, ctB, isB, gB, hput_n, hput_e, hput_21, hput_22, hnew_n, hnew_e, hnew_21, hnew_22, Option.bind_some, Option.map_some, List.lookup_cons, List.lookup_nil, beq_self_eq_true, List.getElem?_cons_zero, List.getElem?_cons_succ, List.set_cons_zero, List.set_cons_succ, List.length_cons, List.length_nil, Nat.reduceAdd, Nat.reduceLT, Nat.reduceLeDiff, Nat.reduceBEq, Nat.reduceEqDiff, okv_int, okv_oref, okv_onull, okv_orf, okv_aref, okv_b0, okv_b1, okv_z0, okv_bI, ckI_nI, lt31, leT, reduceCtorEq, List.mem_cons, List.mem_singleton, List.not_mem_nil, or_true, true_or, or_false, false_or, toR_ref, toR_null, ↓reduceIte, nI_add, pk_mul, g1, e1, e2, e3, ↓nI_lt_if, hil, hput2]
    | false =>
      rw [hl] at e3
      rw [adv_no hg hl, e_X9_advance_193]
      simp (disch := first | omega | (simp only [hnew_21, hput_21, hnew_22, hput_22]; omega) | exact isR_ref | exact isR_null | exact isR_rf | exact isR_fmt | assumption | decide) only [e_X9_advance_194, e_X9_advance_197, e_X9_advance_198, e_X9_advance_201, e_X9_advance_204, e_X9_advance_207, e_X9_advance_208, e_X9_advance_211, e_X9_advance_212, e_X9_advance_215, e_X9_advance_218, e_X9_advance_221, e_X9_advance_224, e_X9_advance_225, e_X9_advance_226, e_X9_advance_229, e_X9_advance_230, e_X9_advance_231, e_X9_advance_234, cR_ref, cR_null, cR_rf, c1_int, c1_ref, c1_null, c1_rf, kz_int, kz_ref, kz_null, kz_rf, kz_U, kz_long, nB_null, nB_ref, rf_none, rf_some, bV_ret, bV_thr, bA_ret, bA_thr, bX_ret, bX_thr, len4_0, len4_1, len4_2, len4_3, len4_4, true_and, and_true, and_self, if_true, if_false, Option.bind_some, nR_b1, nR_b0, nR_bI, nI_1z, nI_0z, bI_z, if_nn, gf, pf, clN, aln, gaI, gaL, gaR, saI, saR, isI, ctB, isB, gB, hput_n, hput_e, hput_21, hput_22, hnew_n, hnew_e, hnew_21, hnew_22, Option.bind_some, Option.map_some, List.lookup_cons, List.lookup_nil, beq_self_eq_true, List.getElem?_cons_zero, List.getElem?_cons_succ, List.set_cons_zero, List.set_cons_succ, List.length_cons, List.length_nil, Nat.reduceAdd, Nat.reduceLT, Nat.reduceLeDiff, Nat.reduceBEq, Nat.reduceEqDiff, okv_int, okv_oref, okv_onull, okv_orf, okv_aref, okv_b0, okv_b1, okv_z0, okv_bI, ckI_nI, lt31, leT, reduceCtorEq, List.mem_cons, List.mem_singleton, List.not_mem_nil, or_true, true_or, or_false, false_or, toR_ref, toR_null, ↓reduceIte, nI_add, pk_mul, g1, e1, e2, e3, ↓nI_lt_if, hil]
end RD2
