/-! COMPONENT: reader, small ones -/
def ROk (Ω : Om) (h : AH) (r c tx nm : Nat) (cs : List Nat) (s' : PS) (dp K M : Nat) (v : Option Value) (Q : AH → Prop) (o : Option Rs) : Prop := ∃ h', o = some (.returned v, h') ∧ RdR Ω h' r c tx nm cs s' dp ∧ Nx [r, nm] K M h h' ∧ Q h'
section RD5
variable {Ω : Om} {d : Nat} {h h' h1 h2 : AH} {a b r c tx nm dp : Nat} {w cs : List Nat} {s s' : PS} {fs : List Value}
theorem isKy_ak {t : Tok} {i : Nat} (hi : i < 11) (h : isKy t i = true) : isAK t = true := by
  unfold isKy isAK at *
  have := of_decide_eq_true h
  exact decide_eq_true ⟨this.1, key_mem.mpr ⟨i, hi, this.2⟩⟩
theorem r_isKey (t : RdR Ω h r c tx nm cs s dp) {i : Nat} (hi : i < 11) : gM PG Ω (d + 3) 115 [.ref r, .ref (Ω.k (i + 2))] h = some (.returned (some (.int (bI (isKy (tk cs s) i)))), h) := by
  obtain ⟨n, n1, n2, n3, n4, _⟩ := kc_n t.tw
  obtain ⟨wd, p, a1, a2⟩ := t.cell
  rw [n2] at a1
  by_cases hk : n = 2
  · have hak := n4.mp hk
    have h1 : (tk cs s).1 = 1 := (of_decide_eq_true hak).1
    have sw := a2 (.inl h1)
    have hlit := t.2.2.2.2.2.2.2.1 (i + 2) (keyW i) (by
      show litWs[i + 2]? = _
      show keyWs[i]? = _
      unfold keyW
      rw [List.getD_eq_getElem?_getD, List.getElem?_eq_getElem (show i < keyWs.length from hi)]; rfl)
    have e1 := j_equals (Ω := Ω) (d := d) sw hlit
    obtain ⟨_, _, _, _, sw1, _⟩ := sw
    have ek : isKy (tk cs s) i = decide ((tk cs s).2.1 = keyW i) := by unfold isKy; simp [h1]
    rw [ek]
    subst hk
    cases hd : decide ((tk cs s).2.1 = keyW i) with
    | true =>
      rw [hd] at e1
      simp (disch := first | omega | (simp only [hnew_21, hput_21, hnew_22, hput_22]; omega) | exact isR_ref | exact isR_null | exact isR_rf | exact isR_fmt | assumption | decide) only [n_X9_isKey, e_X9_isKey_0, e_X9_isKey_1, e_X9_isKey_4, e_X9_isKey_5, e_X9_isKey_8, e_X9_isKey_9, e_X9_isKey_12, e_X9_isKey_13, e_X9_isKey_16, e_X9_isKey_19, e_X9_isKey_20, e_X9_isKey_23, e_X9_isKey_24, cR_ref, cR_null, cR_rf, c1_int, c1_ref, c1_null, c1_rf, kz_int, kz_ref, kz_null, kz_rf, kz_U, kz_long, nB_null, nB_ref, rf_none, rf_some, bV_ret, bV_thr, bA_ret, bA_thr, bX_ret, bX_thr, len4_0, len4_1, len4_2, len4_3, len4_4, true_and, and_true, and_self, if_true, if_false, Option.bind_some, nR_b1, nR_b0, nR_bI, nI_1z, nI_0z, bI_z, if_nn, gf, pf, clN, aln, gaI, gaL, gaR, saI, saR, isI, ctB, isB, gB, hput_n, hput_e, hput_21, hput_22, hnew_n, hnew_e, hnew_21, hnew_22, Option.bind_some, Option.map_some, List.lookup_cons, List.lookup_nil, beq_self_eq_true, List.getElem?_cons_zero, List.getElem?_cons_succ, List.set_cons_zero, List.set_cons_succ, List.length_cons, List.length_nil, Nat.reduceAdd, Nat.reduceLT, Nat.reduceLeDiff, Nat.reduceBEq, Nat.reduceEqDiff, okv_int, okv_oref, okv_onull, okv_orf, okv_aref, okv_b0, okv_b1, okv_z0, okv_bI, ckI_nI, lt31, leT, reduceCtorEq, List.mem_cons, List.mem_singleton, List.not_mem_nil, or_true, true_or, or_false, false_or, toR_ref, toR_null, ↓reduceIte, a1, ↓nI_eq_if, sw1, e1, bI_t]
    | false =>
      rw [hd] at e1
      simp (disch := first | omega | (simp only [hnew_21, hput_21, hnew_22, hput_22]; omega) | exact isR_ref | exact isR_null | exact isR_rf | exact isR_fmt | assumption | decide) only [n_X9_isKey, e_X9_isKey_0, e_X9_isKey_1, e_X9_isKey_4, e_X9_isKey_5, e_X9_isKey_8, e_X9_isKey_9, e_X9_isKey_12, e_X9_isKey_13, e_X9_isKey_16, e_X9_isKey_19, e_X9_isKey_20, e_X9_isKey_23, e_X9_isKey_24, cR_ref, cR_null, cR_rf, c1_int, c1_ref, c1_null, c1_rf, kz_int, kz_ref, kz_null, kz_rf, kz_U, kz_long, nB_null, nB_ref, rf_none, rf_some, bV_ret, bV_thr, bA_ret, bA_thr, bX_ret, bX_thr, len4_0, len4_1, len4_2, len4_3, len4_4, true_and, and_true, and_self, if_true, if_false, Option.bind_some, nR_b1, nR_b0, nR_bI, nI_1z, nI_0z, bI_z, if_nn, gf, pf, clN, aln, gaI, gaL, gaR, saI, saR, isI, ctB, isB, gB, hput_n, hput_e, hput_21, hput_22, hnew_n, hnew_e, hnew_21, hnew_22, Option.bind_some, Option.map_some, List.lookup_cons, List.lookup_nil, beq_self_eq_true, List.getElem?_cons_zero, List.getElem?_cons_succ, List.set_cons_zero, List.set_cons_succ, List.length_cons, List.length_nil, Nat.reduceAdd, Nat.reduceLT, Nat.reduceLeDiff, Nat.reduceBEq, Nat.reduceEqDiff, okv_int, okv_oref, okv_onull, okv_orf, okv_aref, okv_b0, okv_b1, okv_z0, okv_bI, ckI_nI, lt31, leT, reduceCtorEq, List.mem_cons, List.mem_singleton, List.not_mem_nil, or_true, true_or, or_false, false_or, toR_ref, toR_null, ↓reduceIte, a1, ↓nI_eq_if, sw1, e1, bI_f]
  · have ek : isKy (tk cs s) i = false := by
      cases hq : isKy (tk cs s) i with
      | false => rfl
      | true => exact absurd (n4.mpr (isKy_ak hi hq)) hk
    rw [ek]
    simp (disch := first | omega | (simp only [hnew_21, hput_21, hnew_22, hput_22]; omega) | exact isR_ref | exact isR_null | exact isR_rf | exact isR_fmt | assumption | decide) only [n_X9_isKey, e_X9_isKey_0, e_X9_isKey_1, e_X9_isKey_4, e_X9_isKey_5, e_X9_isKey_8, e_X9_isKey_9, e_X9_isKey_12, e_X9_isKey_13, e_X9_isKey_16, e_X9_isKey_19, e_X9_isKey_20, e_X9_isKey_23, e_X9_isKey_24, cR_ref, cR_null, cR_rf, c1_int, c1_ref, c1_null, c1_rf, kz_int, kz_ref, kz_null, kz_rf, kz_U, kz_long, nB_null, nB_ref, rf_none, rf_some, bV_ret, bV_thr, bA_ret, bA_thr, bX_ret, bX_thr, len4_0, len4_1, len4_2, len4_3, len4_4, true_and, and_true, and_self, if_true, if_false, Option.bind_some, nR_b1, nR_b0, nR_bI, nI_1z, nI_0z, bI_z, if_nn, gf, pf, clN, aln, gaI, gaL, gaR, saI, saR, isI, ctB, isB, gB, hput_n, hput_e, hput_21, hput_22, hnew_n, hnew_e, hnew_21, hnew_22, Option.bind_some, Option.map_some, List.lookup_cons, List.lookup_nil, beq_self_eq_true, List.getElem?_cons_zero, List.getElem?_cons_succ, List.set_cons_zero, List.set_cons_succ, List.length_cons, List.length_nil, Nat.reduceAdd, Nat.reduceLT, Nat.reduceLeDiff, Nat.reduceBEq, Nat.reduceEqDiff, okv_int, okv_oref, okv_onull, okv_orf, okv_aref, okv_b0, okv_b1, okv_z0, okv_bI, ckI_nI, lt31, leT, reduceCtorEq, List.mem_cons, List.mem_singleton, List.not_mem_nil, or_true, true_or, or_false, false_or, toR_ref, toR_null, ↓reduceIte, a1, ↓nI_eq_if, hk, bI_f]
theorem r_take0 (t : RdR Ω h r c tx nm cs s dp) {i : Nat} (hi : i < 11) (hk : isKy (tk cs s) i = false) : gM PG Ω (d + 4) 117 [.ref r, .ref (Ω.k (i + 2))] h = some (.returned (some (.int (nI 0))), h) := by
  have e := r_isKey (d := d) t hi
  rw [hk] at e
  obtain ⟨wd, p, a1, a2⟩ := t.cell
  simp (disch := first | omega | (simp only [hnew_21, hput_21, hnew_22, hput_22]; omega) | exact isR_ref | exact isR_null | exact isR_rf | exact isR_fmt | assumption | decide) only [n_X9_takeKey, e_X9_takeKey_0, e_X9_takeKey_1, e_X9_takeKey_2, e_X9_takeKey_5, e_X9_takeKey_8, e_X9_takeKey_9, e_X9_takeKey_10, e_X9_takeKey_11, e_X9_takeKey_14, e_X9_takeKey_15, cR_ref, cR_null, cR_rf, c1_int, c1_ref, c1_null, c1_rf, kz_int, kz_ref, kz_null, kz_rf, kz_U, kz_long, nB_null, nB_ref, rf_none, rf_some, bV_ret, bV_thr, bA_ret, bA_thr, bX_ret, bX_thr, len4_0, len4_1, len4_2, len4_3, len4_4, true_and, and_true, and_self, if_true, if_false, Option.bind_some, nR_b1, nR_b0, nR_bI, nI_1z, nI_0z, bI_z, if_nn, gf, pf, clN, aln, gaI, gaL, gaR, saI, saR, isI, ctB, isB, gB, hput_n, hput_e, hput_21, hput_22, hnew_n, hnew_e, hnew_21, hnew_22, Option.bind_some, Option.map_some, List.lookup_cons, List.lookup_nil, beq_self_eq_true, List.getElem?_cons_zero, List.getElem?_cons_succ, List.set_cons_zero, List.set_cons_succ, List.length_cons, List.length_nil, Nat.reduceAdd, Nat.reduceLT, Nat.reduceLeDiff, Nat.reduceBEq, Nat.reduceEqDiff, okv_int, okv_oref, okv_onull, okv_orf, okv_aref, okv_b0, okv_b1, okv_z0, okv_bI, ckI_nI, lt31, leT, reduceCtorEq, List.mem_cons, List.mem_singleton, List.not_mem_nil, or_true, true_or, or_false, false_or, toR_ref, toR_null, ↓reduceIte, a1, e]
theorem isKy_0 {t : Tok} {i : Nat} (h : isKy t i = true) : t.1 ≠ 0 := by
  have := (of_decide_eq_true h).1
  omega
theorem isSg_0 {t : Tok} {i : Nat} (h : isSg t i = true) : t.1 ≠ 0 := by
  have := (of_decide_eq_true h).1
  omega
theorem r_take1 (t : RdR Ω h r c tx nm cs s dp) {i : Nat} (hi : i < 11) (hk : isKy (tk cs s) i = true) : ROk Ω h r c tx nm cs (nx cs s) dp 2 164 (some (.int (nI 1))) (fun _ => True) (gM PG Ω (d + 7) 117 [.ref r, .ref (Ω.k (i + 2))] h) := by
  have e := r_isKey (d := d + 3) t hi
  rw [hk] at e
  obtain ⟨h', e1, e2, e3, e4, e5⟩ := r_adv (d := d) t (isKy_0 hk)
  obtain ⟨wd, p, a1, a2⟩ := t.cell
  refine ⟨h', ?_, e2, e3, trivial⟩
  simp (disch := first | omega | (simp only [hnew_21, hput_21, hnew_22, hput_22]; omega) | exact isR_ref | exact isR_null | exact isR_rf | exact isR_fmt | assumption | decide) only [n_X9_takeKey, e_X9_takeKey_0, e_X9_takeKey_1, e_X9_takeKey_2, e_X9_takeKey_5, e_X9_takeKey_8, e_X9_takeKey_9, e_X9_takeKey_10, e_X9_takeKey_11, e_X9_takeKey_14, e_X9_takeKey_15, cR_ref, cR_null, cR_rf, c1_int, c1_ref, c1_null, c1_rf, kz_int, kz_ref, kz_null, kz_rf, kz_U, kz_long, nB_null, nB_ref, rf_none, rf_some, bV_ret, bV_thr, bA_ret, bA_thr, bX_ret, bX_thr, len4_0, len4_1, len4_2, len4_3, len4_4, true_and, and_true, and_self, if_true, if_false, Option.bind_some, nR_b1, nR_b0, nR_bI, nI_1z, nI_0z, bI_z, if_nn, gf, pf, clN, aln, gaI, gaL, gaR, saI, saR, isI, ctB, isB, gB, hput_n, hput_e, hput_21, hput_22, hnew_n, hnew_e, hnew_21, hnew_22, Option.bind_some, Option.map_some, List.lookup_cons, List.lookup_nil, beq_self_eq_true, List.getElem?_cons_zero, List.getElem?_cons_succ, List.set_cons_zero, List.set_cons_succ, List.length_cons, List.length_nil, Nat.reduceAdd, Nat.reduceLT, Nat.reduceLeDiff, Nat.reduceBEq, Nat.reduceEqDiff, okv_int, okv_oref, okv_onull, okv_orf, okv_aref, okv_b0, okv_b1, okv_z0, okv_bI, ckI_nI, lt31, leT, reduceCtorEq, List.mem_cons, List.mem_singleton, List.not_mem_nil, or_true, true_or, or_false, false_or, toR_ref, toR_null, ↓reduceIte, a1, e, e1]
theorem r_need (t : RdR Ω h r c tx nm cs s dp) {x : Nat} (hx : isS x = true) : (isSg (tk cs s) x = true → ROk Ω h r c tx nm cs (nx cs s) dp 2 164 none (fun _ => True) (gM PG Ω (d + 10) 124 [.ref r, .int (nI x)] h)) ∧ (isSg (tk cs s) x = false → REr h r c nm s (tk cs s).2.2.1 1 (gM PG Ω (d + 10) 124 [.ref r, .int (nI x)] h)) := by
  obtain ⟨n, n1, n2, _, _, _, _, _, n3⟩ := kc_n t.tw
  obtain ⟨wd, p, a1, a2⟩ := t.cell
  rw [n2] at a1
  have hx2 := sgn_ge x hx
  refine ⟨fun hs => ?_, fun hs => ?_⟩
  · obtain ⟨h', e1, e2, e3, e4, e5⟩ := r_adv (d := d + 3) t (isSg_0 hs)
    have hn := (n3 x hx).mpr hs
    have ec := r_chk1 (Ω := Ω) (d := d + 8) (h := h) (r := r) (x := nI (tk cs s).2.2.1)
    refine ⟨h', ?_, e2, e3, trivial⟩
    simp (disch := first | omega | (simp only [hnew_21, hput_21, hnew_22, hput_22]; omega) | exact isR_ref | exact isR_null | exact isR_rf | exact isR_fmt | assumption | decide) only [n_X9_need, e_X9_need_0, e_X9_need_1, e_X9_need_2, e_X9_need_5, e_X9_need_6, e_X9_need_9, e_X9_need_10, e_X9_need_13, e_X9_need_14, e_X9_need_15, e_X9_need_18, e_X9_need_21, e_X9_need_22, e_X9_need_25, cR_ref, cR_null, cR_rf, c1_int, c1_ref, c1_null, c1_rf, kz_int, kz_ref, kz_null, kz_rf, kz_U, kz_long, nB_null, nB_ref, rf_none, rf_some, bV_ret, bV_thr, bA_ret, bA_thr, bX_ret, bX_thr, len4_0, len4_1, len4_2, len4_3, len4_4, true_and, and_true, and_self, if_true, if_false, Option.bind_some, nR_b1, nR_b0, nR_bI, nI_1z, nI_0z, bI_z, if_nn, gf, pf, clN, aln, gaI, gaL, gaR, saI, saR, isI, ctB, isB, gB, hput_n, hput_e, hput_21, hput_22, hnew_n, hnew_e, hnew_21, hnew_22, Option.bind_some, Option.map_some, List.lookup_cons, List.lookup_nil, beq_self_eq_true, List.getElem?_cons_zero, List.getElem?_cons_succ, List.set_cons_zero, List.set_cons_succ, List.length_cons, List.length_nil, Nat.reduceAdd, Nat.reduceLT, Nat.reduceLeDiff, Nat.reduceBEq, Nat.reduceEqDiff, okv_int, okv_oref, okv_onull, okv_orf, okv_aref, okv_b0, okv_b1, okv_z0, okv_bI, ckI_nI, lt31, leT, reduceCtorEq, List.mem_cons, List.mem_singleton, List.not_mem_nil, or_true, true_or, or_false, false_or, toR_ref, toR_null, ↓reduceIte, a1, ↓nI_eq_if, hn, ec, e1]
  · have hn : ¬ n = x := fun q => by rw [(n3 x hx).mp q] at hs; cases hs
    obtain ⟨ex, h', hf, e1, e2⟩ := r_chk0 (d := d) t (q := (tk cs s).2.2.1)
    refine ⟨ex, h', hf, ?_, e2⟩
    simp (disch := first | omega | (simp only [hnew_21, hput_21, hnew_22, hput_22]; omega) | exact isR_ref | exact isR_null | exact isR_rf | exact isR_fmt | assumption | decide) only [n_X9_need, e_X9_need_0, e_X9_need_1, e_X9_need_2, e_X9_need_5, e_X9_need_6, e_X9_need_9, e_X9_need_10, e_X9_need_13, e_X9_need_14, e_X9_need_15, e_X9_need_18, e_X9_need_21, e_X9_need_22, e_X9_need_25, cR_ref, cR_null, cR_rf, c1_int, c1_ref, c1_null, c1_rf, kz_int, kz_ref, kz_null, kz_rf, kz_U, kz_long, nB_null, nB_ref, rf_none, rf_some, bV_ret, bV_thr, bA_ret, bA_thr, bX_ret, bX_thr, len4_0, len4_1, len4_2, len4_3, len4_4, true_and, and_true, and_self, if_true, if_false, Option.bind_some, nR_b1, nR_b0, nR_bI, nI_1z, nI_0z, bI_z, if_nn, gf, pf, clN, aln, gaI, gaL, gaR, saI, saR, isI, ctB, isB, gB, hput_n, hput_e, hput_21, hput_22, hnew_n, hnew_e, hnew_21, hnew_22, Option.bind_some, Option.map_some, List.lookup_cons, List.lookup_nil, beq_self_eq_true, List.getElem?_cons_zero, List.getElem?_cons_succ, List.set_cons_zero, List.set_cons_succ, List.length_cons, List.length_nil, Nat.reduceAdd, Nat.reduceLT, Nat.reduceLeDiff, Nat.reduceBEq, Nat.reduceEqDiff, okv_int, okv_oref, okv_onull, okv_orf, okv_aref, okv_b0, okv_b1, okv_z0, okv_bI, ckI_nI, lt31, leT, reduceCtorEq, List.mem_cons, List.mem_singleton, List.not_mem_nil, or_true, true_or, or_false, false_or, toR_ref, toR_null, ↓reduceIte, a1, ↓nI_eq_if, hn, e1]
/-- a number -/
theorem r_num1 {wd p0 : Nat} {e : Ce} {fs' : List Value} (a1 : h.1 r = some (.inr (7, fs'))) (a5 : fs'[5]? = some (.ref wd)) (sw : StrR h wd w) (hw : w.length ≤ 4) (hd : ∀ x ∈ w, 48 ≤ x ∧ x ≤ 57) : ∀ (m i : Nat), i + m = w.length → gO PG Ω (d + 4) 123 25 [.ref r, .int (nI (nN (w.take i))), .int (nI i)] [] h = gO PG Ω (d + 4) 123 59 [.ref r, .int (nI (nN w)), .int (nI w.length)] [] h := by
  have l1 := j_length (Ω := Ω) (d := d + 2) sw
  have sw' := sw
  obtain ⟨_, _, _, _, sw1, _⟩ := sw'
  intro m
  induction m with
  | zero =>
    intro i hi
    have : i = w.length := by omega
    subst this
    rw [e_X9_number_25, List.take_length]
    simp (disch := first | omega | (simp only [hnew_21, hput_21, hnew_22, hput_22]; omega) | exact isR_ref | exact isR_null | exact isR_rf | exact isR_fmt | assumption | decide) only [e_X9_number_26, e_X9_number_27, e_X9_number_30, e_X9_number_33, e_X9_number_36, e_X9_number_37, e_X9_number_39, e_X9_number_40, e_X9_number_41, e_X9_number_44, e_X9_number_45, e_X9_number_48, e_X9_number_49, e_X9_number_51, e_X9_number_52, e_X9_number_53, e_X9_number_56, cR_ref, cR_null, cR_rf, c1_int, c1_ref, c1_null, c1_rf, kz_int, kz_ref, kz_null, kz_rf, kz_U, kz_long, nB_null, nB_ref, rf_none, rf_some, bV_ret, bV_thr, bA_ret, bA_thr, bX_ret, bX_thr, len4_0, len4_1, len4_2, len4_3, len4_4, true_and, and_true, and_self, if_true, if_false, Option.bind_some, nR_b1, nR_b0, nR_bI, nI_1z, nI_0z, bI_z, if_nn, gf, pf, clN, aln, gaI, gaL, gaR, saI, saR, isI, ctB, isB, gB, hput_n, hput_e, hput_21, hput_22, hnew_n, hnew_e, hnew_21, hnew_22, Option.bind_some, Option.map_some, List.lookup_cons, List.lookup_nil, beq_self_eq_true, List.getElem?_cons_zero, List.getElem?_cons_succ, List.set_cons_zero, List.set_cons_succ, List.length_cons, List.length_nil, Nat.reduceAdd, Nat.reduceLT, Nat.reduceLeDiff, Nat.reduceBEq, Nat.reduceEqDiff, okv_int, okv_oref, okv_onull, okv_orf, okv_aref, okv_b0, okv_b1, okv_z0, okv_bI, ckI_nI, lt31, leT, reduceCtorEq, List.mem_cons, List.mem_singleton, List.not_mem_nil, or_true, true_or, or_false, false_or, toR_ref, toR_null, ↓reduceIte, a1, a5, sw1, l1, ↓nI_lt_if, Nat.lt_irrefl]
  | succ m ih =>
    intro i hi
    have hil : i < w.length := by omega
    have hg : w[i]? = some w[i] := List.getElem?_eq_getElem hil
    have hx := hd _ (List.getElem_mem hil)
    have ht : w.take (i + 1) = w.take i ++ [w[i]] := by rw [List.take_add_one, hg]; rfl
    have c1' := j_charAt (Ω := Ω) (d := d) sw hg
    generalize w[i] = x at *
    have hv : nN (w.take (i + 1)) = nN (w.take i) * 10 + x - 48 := by rw [ht, nN_snoc]; omega
    rw [← ih (i + 1) (by omega), hv, e_X9_number_25]
    simp (disch := first | omega | (simp only [hnew_21, hput_21, hnew_22, hput_22]; omega) | exact isR_ref | exact isR_null | exact isR_rf | exact isR_fmt | assumption | decide) only [e_X9_number_26, e_X9_number_27, e_X9_number_30, e_X9_number_33, e_X9_number_36, e_X9_number_37, e_X9_number_39, e_X9_number_40, e_X9_number_41, e_X9_number_44, e_X9_number_45, e_X9_number_48, e_X9_number_49, e_X9_number_51, e_X9_number_52, e_X9_number_53, e_X9_number_56, cR_ref, cR_null, cR_rf, c1_int, c1_ref, c1_null, c1_rf, kz_int, kz_ref, kz_null, kz_rf, kz_U, kz_long, nB_null, nB_ref, rf_none, rf_some, bV_ret, bV_thr, bA_ret, bA_thr, bX_ret, bX_thr, len4_0, len4_1, len4_2, len4_3, len4_4, true_and, and_true, and_self, if_true, if_false, Option.bind_some, nR_b1, nR_b0, nR_bI, nI_1z, nI_0z, bI_z, if_nn, gf, pf, clN, aln, gaI, gaL, gaR, saI, saR, isI, ctB, isB, gB, hput_n, hput_e, hput_21, hput_22, hnew_n, hnew_e, hnew_21, hnew_22, Option.bind_some, Option.map_some, List.lookup_cons, List.lookup_nil, beq_self_eq_true, List.getElem?_cons_zero, List.getElem?_cons_succ, List.set_cons_zero, List.set_cons_succ, List.length_cons, List.length_nil, Nat.reduceAdd, Nat.reduceLT, Nat.reduceLeDiff, Nat.reduceBEq, Nat.reduceEqDiff, okv_int, okv_oref, okv_onull, okv_orf, okv_aref, okv_b0, okv_b1, okv_z0, okv_bI, ckI_nI, lt31, leT, reduceCtorEq, List.mem_cons, List.mem_singleton, List.not_mem_nil, or_true, true_or, or_false, false_or, toR_ref, toR_null, ↓reduceIte, nI_add, pk_mul, a1, a5, sw1, l1, c1', ↓nI_lt_if, hil, pk_sub]
theorem r_num (t : RdR Ω h r c tx nm cs s dp) (h2 : (tk cs s).1 = 2) : ROk Ω h r c tx nm cs (nx cs s) dp 2 164 (some (.int (nI (nN (tk cs s).2.1)))) (fun _ => True) (gM PG Ω (d + 7) 123 [.ref r] h) := by
  obtain ⟨wd, p, a1, a2⟩ := t.cell
  rw [kc_2 h2] at a1
  have hnu := t.tw.2.1 h2
  have sw := a2 (.inr (.inl h2))
  obtain ⟨h', e1, e2, e3, e4, e5⟩ := r_adv (d := d) t (by omega)
  have ec := r_chk1 (Ω := Ω) (d := d + 5) (h := h) (r := r) (x := nI (tk cs s).2.2.1)
  have el := r_num1 (Ω := Ω) (d := d + 2) (p0 := 0) (e := .inr (0, [])) a1 rfl sw hnu.2.1 hnu.2.2 (tk cs s).2.1.length 0 (by omega)
  have e0 : nN ((tk cs s).2.1.take 0) = 0 := by rw [List.take_zero]; rfl
  rw [e0] at el
  refine ⟨h', ?_, e2, e3, trivial⟩
  simp (disch := first | omega | (simp only [hnew_21, hput_21, hnew_22, hput_22]; omega) | exact isR_ref | exact isR_null | exact isR_rf | exact isR_fmt | assumption | decide) only [n_X9_number, e_X9_number_0, e_X9_number_1, e_X9_number_2, e_X9_number_5, e_X9_number_6, e_X9_number_9, e_X9_number_10, e_X9_number_13, e_X9_number_14, e_X9_number_15, e_X9_number_18, e_X9_number_21, e_X9_number_22, e_X9_number_23, e_X9_number_24, cR_ref, cR_null, cR_rf, c1_int, c1_ref, c1_null, c1_rf, kz_int, kz_ref, kz_null, kz_rf, kz_U, kz_long, nB_null, nB_ref, rf_none, rf_some, bV_ret, bV_thr, bA_ret, bA_thr, bX_ret, bX_thr, len4_0, len4_1, len4_2, len4_3, len4_4, true_and, and_true, and_self, if_true, if_false, Option.bind_some, nR_b1, nR_b0, nR_bI, nI_1z, nI_0z, bI_z, if_nn, gf, pf, clN, aln, gaI, gaL, gaR, saI, saR, isI, ctB, isB, gB, hput_n, hput_e, hput_21, hput_22, hnew_n, hnew_e, hnew_21, hnew_22, Option.bind_some, Option.map_some, List.lookup_cons, List.lookup_nil, beq_self_eq_true, List.getElem?_cons_zero, List.getElem?_cons_succ, List.set_cons_zero, List.set_cons_succ, List.length_cons, List.length_nil, Nat.reduceAdd, Nat.reduceLT, Nat.reduceLeDiff, Nat.reduceBEq, Nat.reduceEqDiff, okv_int, okv_oref, okv_onull, okv_orf, okv_aref, okv_b0, okv_b1, okv_z0, okv_bI, ckI_nI, lt31, leT, reduceCtorEq, List.mem_cons, List.mem_singleton, List.not_mem_nil, or_true, true_or, or_false, false_or, toR_ref, toR_null, ↓reduceIte, a1, ↓nI_eq_if, ec]
  rw [el]
  simp (disch := first | omega | (simp only [hnew_21, hput_21, hnew_22, hput_22]; omega) | exact isR_ref | exact isR_null | exact isR_rf | exact isR_fmt | assumption | decide) only [e_X9_number_59, e_X9_number_60, e_X9_number_63, e_X9_number_64, cR_ref, cR_null, cR_rf, c1_int, c1_ref, c1_null, c1_rf, kz_int, kz_ref, kz_null, kz_rf, kz_U, kz_long, nB_null, nB_ref, rf_none, rf_some, bV_ret, bV_thr, bA_ret, bA_thr, bX_ret, bX_thr, len4_0, len4_1, len4_2, len4_3, len4_4, true_and, and_true, and_self, if_true, if_false, Option.bind_some, nR_b1, nR_b0, nR_bI, nI_1z, nI_0z, bI_z, if_nn, gf, pf, clN, aln, gaI, gaL, gaR, saI, saR, isI, ctB, isB, gB, hput_n, hput_e, hput_21, hput_22, hnew_n, hnew_e, hnew_21, hnew_22, Option.bind_some, Option.map_some, List.lookup_cons, List.lookup_nil, beq_self_eq_true, List.getElem?_cons_zero, List.getElem?_cons_succ, List.set_cons_zero, List.set_cons_succ, List.length_cons, List.length_nil, Nat.reduceAdd, Nat.reduceLT, Nat.reduceLeDiff, Nat.reduceBEq, Nat.reduceEqDiff, okv_int, okv_oref, okv_onull, okv_orf, okv_aref, okv_b0, okv_b1, okv_z0, okv_bI, ckI_nI, lt31, leT, reduceCtorEq, List.mem_cons, List.mem_singleton, List.not_mem_nil, or_true, true_or, or_false, false_or, toR_ref, toR_null, ↓reduceIte, a1, e1]
/-- a variable: where its name stands -/
theorem r_var1 (t : RdR Ω h r c tx nm cs s dp) (h3 : (tk cs s).1 = 3) : ∀ (m i : Nat), i + m = s.2.1.length → (∀ j v, j < i → s.2.1[j]? = some v → v ≠ (tk cs s).2.1) → gO PG Ω (d + 3) 118 23 [.ref r, .int (nI i)] [] h = gO PG Ω (d + 3) 118 53 [.ref r, .int (nI (fiN s.2.1 (tk cs s).2.1))] [] h := by
  obtain ⟨⟨wd, p, a1, a2, a3, a4⟩, b1, ⟨nf, b2, b3⟩, b4, b5, ⟨hf, b6, b7⟩, b8, b9, b10, b11, b12⟩ := t
  have sw := a2 (.inr (.inr h3))
  have fi : ∀ i, i ≤ s.2.1.length → (∀ j v, j < i → s.2.1[j]? = some v → v ≠ (tk cs s).2.1) → (i = s.2.1.length ∨ s.2.1[i]? = some (tk cs s).2.1) → fiN s.2.1 (tk cs s).2.1 = i := by
    intro i hi hn he
    unfold fiN
    rcases he with he | he
    · rw [List.findIdx_eq_length_of_false, he]
      intro v hv
      obtain ⟨j, hj⟩ := List.mem_iff_getElem?.mp hv
      have hjl := (List.getElem?_eq_some_iff.mp hj).1
      exact decide_eq_false (hn j v (by omega) hj)
    · have hil := (List.getElem?_eq_some_iff.mp he).1
      rw [List.findIdx_eq hil]
      refine ⟨?_, fun j hj => ?_⟩
      · have : s.2.1[i] = (tk cs s).2.1 := (List.getElem?_eq_some_iff.mp he).2
        rw [this]; exact decide_eq_true rfl
      · have hjl : j < s.2.1.length := by omega
        have := hn j s.2.1[j] hj (List.getElem?_eq_getElem hjl)
        exact decide_eq_false this
  intro m
  induction m with
  | zero =>
    intro i hi hn
    have : i = s.2.1.length := by omega
    rw [fi i (by omega) hn (.inl this), e_X9_variable_23]
    subst this
    simp (disch := first | omega | (simp only [hnew_21, hput_21, hnew_22, hput_22]; omega) | exact isR_ref | exact isR_null | exact isR_rf | exact isR_fmt | assumption | decide) only [e_X9_variable_24, e_X9_variable_25, e_X9_variable_28, e_X9_variable_31, e_X9_variable_32, e_X9_variable_35, e_X9_variable_36, e_X9_variable_37, e_X9_variable_38, e_X9_variable_41, e_X9_variable_44, e_X9_variable_47, e_X9_variable_50, cR_ref, cR_null, cR_rf, c1_int, c1_ref, c1_null, c1_rf, kz_int, kz_ref, kz_null, kz_rf, kz_U, kz_long, nB_null, nB_ref, rf_none, rf_some, bV_ret, bV_thr, bA_ret, bA_thr, bX_ret, bX_thr, len4_0, len4_1, len4_2, len4_3, len4_4, true_and, and_true, and_self, if_true, if_false, Option.bind_some, nR_b1, nR_b0, nR_bI, nI_1z, nI_0z, bI_z, if_nn, gf, pf, clN, aln, gaI, gaL, gaR, saI, saR, isI, ctB, isB, gB, hput_n, hput_e, hput_21, hput_22, hnew_n, hnew_e, hnew_21, hnew_22, Option.bind_some, Option.map_some, List.lookup_cons, List.lookup_nil, beq_self_eq_true, List.getElem?_cons_zero, List.getElem?_cons_succ, List.set_cons_zero, List.set_cons_succ, List.length_cons, List.length_nil, Nat.reduceAdd, Nat.reduceLT, Nat.reduceLeDiff, Nat.reduceBEq, Nat.reduceEqDiff, okv_int, okv_oref, okv_onull, okv_orf, okv_aref, okv_b0, okv_b1, okv_z0, okv_bI, ckI_nI, lt31, leT, reduceCtorEq, List.mem_cons, List.mem_singleton, List.not_mem_nil, or_true, true_or, or_false, false_or, toR_ref, toR_null, ↓reduceIte, a1, ↓nI_lt_if, Nat.lt_irrefl]
  | succ m ih =>
    intro i hi hn
    have hil : i < s.2.1.length := by omega
    have hg : s.2.1[i]? = some s.2.1[i] := List.getElem?_eq_getElem hil
    generalize s.2.1[i] = v at hg
    obtain ⟨u, u1, u2⟩ := b3 i v hg
    have eq := j_equals (Ω := Ω) (d := d + 1) u2 sw
    obtain ⟨_, _, _, _, u3, _⟩ := u2
    by_cases hv : v = (tk cs s).2.1
    · rw [decide_eq_true hv] at eq
      rw [fi i (by omega) hn (.inr (by rw [hg, hv])), e_X9_variable_23]
      simp (disch := first | omega | (simp only [hnew_21, hput_21, hnew_22, hput_22]; omega) | exact isR_ref | exact isR_null | exact isR_rf | exact isR_fmt | assumption | decide) only [e_X9_variable_24, e_X9_variable_25, e_X9_variable_28, e_X9_variable_31, e_X9_variable_32, e_X9_variable_35, e_X9_variable_36, e_X9_variable_37, e_X9_variable_38, e_X9_variable_41, e_X9_variable_44, e_X9_variable_47, e_X9_variable_50, cR_ref, cR_null, cR_rf, c1_int, c1_ref, c1_null, c1_rf, kz_int, kz_ref, kz_null, kz_rf, kz_U, kz_long, nB_null, nB_ref, rf_none, rf_some, bV_ret, bV_thr, bA_ret, bA_thr, bX_ret, bX_thr, len4_0, len4_1, len4_2, len4_3, len4_4, true_and, and_true, and_self, if_true, if_false, Option.bind_some, nR_b1, nR_b0, nR_bI, nI_1z, nI_0z, bI_z, if_nn, gf, pf, clN, aln, gaI, gaL, gaR, saI, saR, isI, ctB, isB, gB, hput_n, hput_e, hput_21, hput_22, hnew_n, hnew_e, hnew_21, hnew_22, Option.bind_some, Option.map_some, List.lookup_cons, List.lookup_nil, beq_self_eq_true, List.getElem?_cons_zero, List.getElem?_cons_succ, List.set_cons_zero, List.set_cons_succ, List.length_cons, List.length_nil, Nat.reduceAdd, Nat.reduceLT, Nat.reduceLeDiff, Nat.reduceBEq, Nat.reduceEqDiff, okv_int, okv_oref, okv_onull, okv_orf, okv_aref, okv_b0, okv_b1, okv_z0, okv_bI, ckI_nI, lt31, leT, reduceCtorEq, List.mem_cons, List.mem_singleton, List.not_mem_nil, or_true, true_or, or_false, false_or, toR_ref, toR_null, ↓reduceIte, a1, b2, u1, u3, ↓nI_lt_if, hil, eq]
    · rw [decide_eq_false hv] at eq
      rw [← ih (i + 1) (by omega) (fun j v' hj hjv => by
        by_cases e : j = i
        · subst e; rw [hg] at hjv; cases hjv; exact hv
        · exact hn j v' (by omega) hjv), e_X9_variable_23]
      simp (disch := first | omega | (simp only [hnew_21, hput_21, hnew_22, hput_22]; omega) | exact isR_ref | exact isR_null | exact isR_rf | exact isR_fmt | assumption | decide) only [e_X9_variable_24, e_X9_variable_25, e_X9_variable_28, e_X9_variable_31, e_X9_variable_32, e_X9_variable_35, e_X9_variable_36, e_X9_variable_37, e_X9_variable_38, e_X9_variable_41, e_X9_variable_44, e_X9_variable_47, e_X9_variable_50, cR_ref, cR_null, cR_rf, c1_int, c1_ref, c1_null, c1_rf, kz_int, kz_ref, kz_null, kz_rf, kz_U, kz_long, nB_null, nB_ref, rf_none, rf_some, bV_ret, bV_thr, bA_ret, bA_thr, bX_ret, bX_thr, len4_0, len4_1, len4_2, len4_3, len4_4, true_and, and_true, and_self, if_true, if_false, Option.bind_some, nR_b1, nR_b0, nR_bI, nI_1z, nI_0z, bI_z, if_nn, gf, pf, clN, aln, gaI, gaL, gaR, saI, saR, isI, ctB, isB, gB, hput_n, hput_e, hput_21, hput_22, hnew_n, hnew_e, hnew_21, hnew_22, Option.bind_some, Option.map_some, List.lookup_cons, List.lookup_nil, beq_self_eq_true, List.getElem?_cons_zero, List.getElem?_cons_succ, List.set_cons_zero, List.set_cons_succ, List.length_cons, List.length_nil, Nat.reduceAdd, Nat.reduceLT, Nat.reduceLeDiff, Nat.reduceBEq, Nat.reduceEqDiff, okv_int, okv_oref, okv_onull, okv_orf, okv_aref, okv_b0, okv_b1, okv_z0, okv_bI, ckI_nI, lt31, leT, reduceCtorEq, List.mem_cons, List.mem_singleton, List.not_mem_nil, or_true, true_or, or_false, false_or, toR_ref, toR_null, ↓reduceIte, nI_add, pk_mul, a1, b2, u1, u3, ↓nI_lt_if, hil, eq]
/-- a new name is put in -/
theorem r_name (t : RdR Ω h r c tx nm cs s dp) {nf : Nat → Option Nat} {wd p : Nat} (a1 : h.1 r = some (rdC c tx nm (nI s.2.1.length) (kc (tk cs s)) (.ref wd) (nI (tk cs s).2.2.1) (nI p) (nI (tk cs s).2.2.2) (nI s.2.2) (nI dp))) (a3 : p ≤ cs.length) (a4 : adv isBl cs p = adv isBl cs (tk cs s).2.2.2) (b2 : h.1 nm = some (arR "java/lang/String" 6 nf)) (b3 : ∀ i w, s.2.1[i]? = some w → ∃ a, nf i = some a ∧ StrR h a w) (sw : StrR h wd (tk cs s).2.1) (hl : s.2.1.length < 6) : RdR Ω (hput (hput h nm (arR "java/lang/String" 6 (va_up nf s.2.1.length (some wd)))) r (rdC c tx nm (nI (s.2.1.length + 1)) (kc (tk cs s)) (.ref wd) (nI (tk cs s).2.2.1) (nI p) (nI (tk cs s).2.2.2) (nI s.2.2) (nI dp))) r c tx nm cs (s.1, s.2.1 ++ [(tk cs s).2.1], s.2.2) dp ∧ Nx [r, nm] 0 0 h (hput (hput h nm (arR "java/lang/String" 6 (va_up nf s.2.1.length (some wd)))) r (rdC c tx nm (nI (s.2.1.length + 1)) (kc (tk cs s)) (.ref wd) (nI (tk cs s).2.2.1) (nI p) (nI (tk cs s).2.2.2) (nI s.2.2) (nI dp))) := by
  obtain ⟨_, b1, _, b4, b5, ⟨hf, b6, b7⟩, b8, b9, b10, b11, b12⟩ := t
  have rl := b8.lt a1
  have nl := b8.lt b2
  have nrm : r ≠ nm := fun q => by rw [q, b2] at a1; cases a1
  have keep : ∀ q e, h.1 q = some e → q ≠ r → q ≠ nm → (hput (hput h nm (arR "java/lang/String" 6 (va_up nf s.2.1.length (some wd)))) r (rdC c tx nm (nI (s.2.1.length + 1)) (kc (tk cs s)) (.ref wd) (nI (tk cs s).2.2.1) (nI p) (nI (tk cs s).2.2.2) (nI s.2.2) (nI dp))).1 q = some e := fun q e h1 h2 h3 => by rw [hput_n h2, hput_n h3]; exact h1
  have kS : ∀ x v, StrR h x v → StrR (hput (hput h nm (arR "java/lang/String" 6 (va_up nf s.2.1.length (some wd)))) r (rdC c tx nm (nI (s.2.1.length + 1)) (kc (tk cs s)) (.ref wd) (nI (tk cs s).2.2.1) (nI p) (nI (tk cs s).2.2.2) (nI s.2.2) (nI dp))) x v := fun x v q => by
    obtain ⟨b, z1, z2, f, h1, h2, h3⟩ := q
    refine ⟨b, z1, z2, f, keep _ _ h1 (fun q => by rw [q, a1] at h1; cases h1) (fun q => by rw [q, b2] at h1; cases h1), keep _ _ h2 (fun q => by rw [q, a1] at h2; cases h2) (fun q => by rw [q, b2] at h2; cases h2), h3⟩
  have n1 := ((Nx.rfl' (S := [r, nm]) b8).put (a := nm) (e := arR "java/lang/String" 6 (va_up nf s.2.1.length (some wd))) (.inl (by simp)) nl).put (a := r) (e := rdC c tx nm (nI (s.2.1.length + 1)) (kc (tk cs s)) (.ref wd) (nI (tk cs s).2.2.1) (nI p) (nI (tk cs s).2.2.2) (nI s.2.2) (nI dp)) (.inl (by simp)) rl
  refine ⟨⟨⟨wd, p, ?_, fun _ => kS _ _ sw, a3, a4⟩, ?_, ⟨va_up nf s.2.1.length (some wd), by rw [hput_n (Ne.symm nrm), hput_e], fun i v hi => ?_⟩, ?_, b5, ⟨hf, keep _ _ b6 (fun q => by rw [q, a1] at b6; cases b6) (fun q => by rw [q, b2] at b6; cases b6), b7⟩, n1.2.1, fun i v q => kS _ _ (b9 i v q), b10, b11, b12⟩, n1⟩
  · rw [hput_e, List.length_append]; rfl
  · obtain ⟨b, z1, z2, f, h1, h2, h3⟩ := b1
    exact ⟨b, z1, z2, f, keep _ _ h1 (fun q => by rw [q, a1] at h1; cases h1) (fun q => by rw [q, b2] at h1; cases h1), keep _ _ h2 (fun q => by rw [q, a1] at h2; cases h2) (fun q => by rw [q, b2] at h2; cases h2), h3⟩
  · unfold va_up
    rcases getE_snoc hi with q | ⟨rfl, rfl⟩
    · have := (List.getElem?_eq_some_iff.mp q).1
      obtain ⟨u, u1, u2⟩ := b3 i v q
      exact ⟨u, by rw [if_neg (by omega)]; exact u1, kS _ _ u2⟩
    · exact ⟨wd, by rw [if_pos rfl], kS _ _ sw⟩
  · rw [List.length_append, List.length_singleton]; omega
theorem r_var (t : RdR Ω h r c tx nm cs s dp) : (∀ v s', pVar cs s = .ok (v, s') → ROk Ω h r c tx nm cs s' dp 2 164 (some (.int (nI v))) (fun _ => True) (gM PG Ω (d + 10) 118 [.ref r] h)) ∧ (∀ q, pVar cs s = .error q → REr h r c nm s q 1 (gM PG Ω (d + 10) 118 [.ref r] h)) := by
  obtain ⟨n, n1, n2, _, _, _, n4, _⟩ := kc_n t.tw
  have t0 := t
  obtain ⟨⟨wd, p, a1, a2, a3, a4⟩, b1, ⟨nf, b2, b3⟩, b4, b5, ⟨hf, b6, b7⟩, b8, b9, b10, b11, b12⟩ := t
  unfold pVar
  by_cases h3 : (tk cs s).1 = 3
  · rw [if_pos h3]
    dsimp only
    have ec := r_chk1 (Ω := Ω) (d := d + 8) (h := h) (r := r) (x := nI (tk cs s).2.2.1)
    have ev := r_var1 (d := d + 6) t0 h3 s.2.1.length 0 (by omega) (fun j v hj => by omega)
    have hle : fiN s.2.1 (tk cs s).2.1 ≤ s.2.1.length := List.findIdx_le_length
    have hfi : s.2.1.findIdx (fun w => decide (w = (tk cs s).2.1)) = fiN s.2.1 (tk cs s).2.1 := rfl
    rw [hfi]
    have a1' := a1
    rw [kc_3 h3] at a1'
    have e0 : gM PG Ω (d + 10) 118 [.ref r] h = gO PG Ω (d + 9) 118 53 [.ref r, .int (nI (fiN s.2.1 (tk cs s).2.1))] [] h := by
      rw [← ev]
      simp (disch := first | omega | (simp only [hnew_21, hput_21, hnew_22, hput_22]; omega) | exact isR_ref | exact isR_null | exact isR_rf | exact isR_fmt | assumption | decide) only [n_X9_variable, e_X9_variable_0, e_X9_variable_1, e_X9_variable_2, e_X9_variable_5, e_X9_variable_6, e_X9_variable_9, e_X9_variable_10, e_X9_variable_13, e_X9_variable_14, e_X9_variable_15, e_X9_variable_18, e_X9_variable_21, e_X9_variable_22, cR_ref, cR_null, cR_rf, c1_int, c1_ref, c1_null, c1_rf, kz_int, kz_ref, kz_null, kz_rf, kz_U, kz_long, nB_null, nB_ref, rf_none, rf_some, bV_ret, bV_thr, bA_ret, bA_thr, bX_ret, bX_thr, len4_0, len4_1, len4_2, len4_3, len4_4, true_and, and_true, and_self, if_true, if_false, Option.bind_some, nR_b1, nR_b0, nR_bI, nI_1z, nI_0z, bI_z, if_nn, gf, pf, clN, aln, gaI, gaL, gaR, saI, saR, isI, ctB, isB, gB, hput_n, hput_e, hput_21, hput_22, hnew_n, hnew_e, hnew_21, hnew_22, Option.bind_some, Option.map_some, List.lookup_cons, List.lookup_nil, beq_self_eq_true, List.getElem?_cons_zero, List.getElem?_cons_succ, List.set_cons_zero, List.set_cons_succ, List.length_cons, List.length_nil, Nat.reduceAdd, Nat.reduceLT, Nat.reduceLeDiff, Nat.reduceBEq, Nat.reduceEqDiff, okv_int, okv_oref, okv_onull, okv_orf, okv_aref, okv_b0, okv_b1, okv_z0, okv_bI, ckI_nI, lt31, leT, reduceCtorEq, List.mem_cons, List.mem_singleton, List.not_mem_nil, or_true, true_or, or_false, false_or, toR_ref, toR_null, ↓reduceIte, a1', ↓nI_eq_if, ec]
    rw [e0]
    generalize hv : fiN s.2.1 (tk cs s).2.1 = v at *
    by_cases h6 : v < 6
    · rw [if_pos h6]
      refine ⟨fun v' s' hq => ?_, fun q hq => (nomatch hq)⟩
      injection hq with hq
      injection hq with q1 q2
      subst q1
      by_cases hvl : v = s.2.1.length
      · rw [if_pos hvl] at q2
        have sw := a2 (.inr (.inr h3))
        obtain ⟨t2, nn⟩ := r_name t0 a1 a3 a4 b2 b3 sw (by omega)
        obtain ⟨h', e1, e2, e3, e4, e5⟩ := r_adv (d := d + 3) t2 (show (tk cs s).1 ≠ 0 by omega)
        have nrm : r ≠ nm := fun q => by rw [q, b2] at a1; cases a1
        obtain ⟨_, _, _, _, sw1, _⟩ := sw
        have wnm : wd ≠ nm := fun q => by rw [q, b2] at sw1; cases sw1
        rw [← q2]
        refine ⟨h', ?_, e2, (nn.trans e3).mono (fun _ z => z) (by omega) (by omega), trivial⟩
        have hb10 := b10.2.2.1
        subst hvl
        rw [kc_3 h3] at e1
        simp (disch := first | omega | (simp only [hnew_21, hput_21, hnew_22, hput_22]; omega) | exact isR_ref | exact isR_null | exact isR_rf | exact isR_fmt | assumption | decide) only [e_X9_variable_53, e_X9_variable_54, e_X9_variable_55, e_X9_variable_57, e_X9_variable_60, e_X9_variable_61, e_X9_variable_64, e_X9_variable_65, e_X9_variable_66, e_X9_variable_69, e_X9_variable_72, e_X9_variable_73, e_X9_variable_74, e_X9_variable_77, e_X9_variable_80, e_X9_variable_81, e_X9_variable_84, e_X9_variable_85, e_X9_variable_86, e_X9_variable_89, e_X9_variable_90, e_X9_variable_91, e_X9_variable_92, e_X9_variable_95, e_X9_variable_96, e_X9_variable_97, e_X9_variable_100, cR_ref, cR_null, cR_rf, c1_int, c1_ref, c1_null, c1_rf, kz_int, kz_ref, kz_null, kz_rf, kz_U, kz_long, nB_null, nB_ref, rf_none, rf_some, bV_ret, bV_thr, bA_ret, bA_thr, bX_ret, bX_thr, len4_0, len4_1, len4_2, len4_3, len4_4, true_and, and_true, and_self, if_true, if_false, Option.bind_some, nR_b1, nR_b0, nR_bI, nI_1z, nI_0z, bI_z, if_nn, gf, pf, clN, aln, gaI, gaL, gaR, saI, saR, isI, ctB, isB, gB, hput_n, hput_e, hput_21, hput_22, hnew_n, hnew_e, hnew_21, hnew_22, Option.bind_some, Option.map_some, List.lookup_cons, List.lookup_nil, beq_self_eq_true, List.getElem?_cons_zero, List.getElem?_cons_succ, List.set_cons_zero, List.set_cons_succ, List.length_cons, List.length_nil, Nat.reduceAdd, Nat.reduceLT, Nat.reduceLeDiff, Nat.reduceBEq, Nat.reduceEqDiff, okv_int, okv_oref, okv_onull, okv_orf, okv_aref, okv_b0, okv_b1, okv_z0, okv_bI, ckI_nI, lt31, leT, reduceCtorEq, List.mem_cons, List.mem_singleton, List.not_mem_nil, or_true, true_or, or_false, false_or, toR_ref, toR_null, ↓reduceIte, nI_add, pk_mul, a1', b2, sw1, ↓nI_lt_if, h6, ec, b10.1, b10.2.2.1]
        simp (disch := first | omega | (simp only [hnew_21, hput_21, hnew_22, hput_22]; omega) | exact isR_ref | exact isR_null | exact isR_rf | exact isR_fmt | assumption | decide) only [e_X9_variable_101, e_X9_variable_104, e_X9_variable_105, cR_ref, cR_null, cR_rf, c1_int, c1_ref, c1_null, c1_rf, kz_int, kz_ref, kz_null, kz_rf, kz_U, kz_long, nB_null, nB_ref, rf_none, rf_some, bV_ret, bV_thr, bA_ret, bA_thr, bX_ret, bX_thr, len4_0, len4_1, len4_2, len4_3, len4_4, true_and, and_true, and_self, if_true, if_false, Option.bind_some, nR_b1, nR_b0, nR_bI, nI_1z, nI_0z, bI_z, if_nn, gf, pf, clN, aln, gaI, gaL, gaR, saI, saR, isI, ctB, isB, gB, hput_n, hput_e, hput_21, hput_22, hnew_n, hnew_e, hnew_21, hnew_22, Option.bind_some, Option.map_some, List.lookup_cons, List.lookup_nil, beq_self_eq_true, List.getElem?_cons_zero, List.getElem?_cons_succ, List.set_cons_zero, List.set_cons_succ, List.length_cons, List.length_nil, Nat.reduceAdd, Nat.reduceLT, Nat.reduceLeDiff, Nat.reduceBEq, Nat.reduceEqDiff, okv_int, okv_oref, okv_onull, okv_orf, okv_aref, okv_b0, okv_b1, okv_z0, okv_bI, ckI_nI, lt31, leT, reduceCtorEq, List.mem_cons, List.mem_singleton, List.not_mem_nil, or_true, true_or, or_false, false_or, toR_ref, toR_null, ↓reduceIte, e1]
      · rw [if_neg hvl] at q2
        obtain ⟨h', e1, e2, e3, e4, e5⟩ := r_adv (d := d + 3) t0 (by omega)
        rw [← q2]
        refine ⟨h', ?_, e2, e3, trivial⟩
        simp (disch := first | omega | (simp only [hnew_21, hput_21, hnew_22, hput_22]; omega) | exact isR_ref | exact isR_null | exact isR_rf | exact isR_fmt | assumption | decide) only [e_X9_variable_53, e_X9_variable_54, e_X9_variable_55, e_X9_variable_57, e_X9_variable_60, e_X9_variable_61, e_X9_variable_64, e_X9_variable_65, e_X9_variable_66, e_X9_variable_69, e_X9_variable_72, e_X9_variable_73, e_X9_variable_74, e_X9_variable_77, e_X9_variable_80, e_X9_variable_81, e_X9_variable_84, e_X9_variable_85, e_X9_variable_86, e_X9_variable_89, e_X9_variable_90, e_X9_variable_91, e_X9_variable_92, e_X9_variable_95, e_X9_variable_96, e_X9_variable_97, e_X9_variable_100, e_X9_variable_101, e_X9_variable_104, e_X9_variable_105, cR_ref, cR_null, cR_rf, c1_int, c1_ref, c1_null, c1_rf, kz_int, kz_ref, kz_null, kz_rf, kz_U, kz_long, nB_null, nB_ref, rf_none, rf_some, bV_ret, bV_thr, bA_ret, bA_thr, bX_ret, bX_thr, len4_0, len4_1, len4_2, len4_3, len4_4, true_and, and_true, and_self, if_true, if_false, Option.bind_some, nR_b1, nR_b0, nR_bI, nI_1z, nI_0z, bI_z, if_nn, gf, pf, clN, aln, gaI, gaL, gaR, saI, saR, isI, ctB, isB, gB, hput_n, hput_e, hput_21, hput_22, hnew_n, hnew_e, hnew_21, hnew_22, Option.bind_some, Option.map_some, List.lookup_cons, List.lookup_nil, beq_self_eq_true, List.getElem?_cons_zero, List.getElem?_cons_succ, List.set_cons_zero, List.set_cons_succ, List.length_cons, List.length_nil, Nat.reduceAdd, Nat.reduceLT, Nat.reduceLeDiff, Nat.reduceBEq, Nat.reduceEqDiff, okv_int, okv_oref, okv_onull, okv_orf, okv_aref, okv_b0, okv_b1, okv_z0, okv_bI, ckI_nI, lt31, leT, reduceCtorEq, List.mem_cons, List.mem_singleton, List.not_mem_nil, or_true, true_or, or_false, false_or, toR_ref, toR_null, ↓reduceIte, a1', ↓nI_lt_if, h6, ec, ↓nI_eq_if, hvl, e1]
    · rw [if_neg h6]
      refine ⟨fun v' s' hq => (nomatch hq), fun q hq => ?_⟩
      have hq' : q = (tk cs s).2.2.1 := by unfold er at hq; injection hq with hq; exact hq.symm
      rw [hq']
      obtain ⟨ex, h', hf', e1, e2⟩ := r_chk0 (d := d) t0 (q := (tk cs s).2.2.1)
      refine ⟨ex, h', hf', ?_, e2⟩
      simp (disch := first | omega | (simp only [hnew_21, hput_21, hnew_22, hput_22]; omega) | exact isR_ref | exact isR_null | exact isR_rf | exact isR_fmt | assumption | decide) only [e_X9_variable_53, e_X9_variable_54, e_X9_variable_55, e_X9_variable_57, e_X9_variable_60, e_X9_variable_61, e_X9_variable_64, e_X9_variable_65, e_X9_variable_66, e_X9_variable_69, e_X9_variable_72, cR_ref, cR_null, cR_rf, c1_int, c1_ref, c1_null, c1_rf, kz_int, kz_ref, kz_null, kz_rf, kz_U, kz_long, nB_null, nB_ref, rf_none, rf_some, bV_ret, bV_thr, bA_ret, bA_thr, bX_ret, bX_thr, len4_0, len4_1, len4_2, len4_3, len4_4, true_and, and_true, and_self, if_true, if_false, Option.bind_some, nR_b1, nR_b0, nR_bI, nI_1z, nI_0z, bI_z, if_nn, gf, pf, clN, aln, gaI, gaL, gaR, saI, saR, isI, ctB, isB, gB, hput_n, hput_e, hput_21, hput_22, hnew_n, hnew_e, hnew_21, hnew_22, Option.bind_some, Option.map_some, List.lookup_cons, List.lookup_nil, beq_self_eq_true, List.getElem?_cons_zero, List.getElem?_cons_succ, List.set_cons_zero, List.set_cons_succ, List.length_cons, List.length_nil, Nat.reduceAdd, Nat.reduceLT, Nat.reduceLeDiff, Nat.reduceBEq, Nat.reduceEqDiff, okv_int, okv_oref, okv_onull, okv_orf, okv_aref, okv_b0, okv_b1, okv_z0, okv_bI, ckI_nI, lt31, leT, reduceCtorEq, List.mem_cons, List.mem_singleton, List.not_mem_nil, or_true, true_or, or_false, false_or, toR_ref, toR_null, ↓reduceIte, a1', ↓nI_lt_if, h6, e1]
  · rw [if_neg h3]
    refine ⟨fun v' s' hq => (nomatch hq), fun q hq => ?_⟩
    have hq' : q = (tk cs s).2.2.1 := by unfold er at hq; injection hq with hq; exact hq.symm
    rw [hq']
    have hn : ¬ n = 4 := fun z => h3 (n4.mp z)
    rw [n2] at a1
    obtain ⟨ex, h', hf', e1, e2⟩ := r_chk0 (d := d) t0 (q := (tk cs s).2.2.1)
    refine ⟨ex, h', hf', ?_, e2⟩
    simp (disch := first | omega | (simp only [hnew_21, hput_21, hnew_22, hput_22]; omega) | exact isR_ref | exact isR_null | exact isR_rf | exact isR_fmt | assumption | decide) only [n_X9_variable, e_X9_variable_0, e_X9_variable_1, e_X9_variable_2, e_X9_variable_5, e_X9_variable_6, e_X9_variable_9, e_X9_variable_10, e_X9_variable_13, e_X9_variable_14, e_X9_variable_15, e_X9_variable_18, e_X9_variable_21, e_X9_variable_22, cR_ref, cR_null, cR_rf, c1_int, c1_ref, c1_null, c1_rf, kz_int, kz_ref, kz_null, kz_rf, kz_U, kz_long, nB_null, nB_ref, rf_none, rf_some, bV_ret, bV_thr, bA_ret, bA_thr, bX_ret, bX_thr, len4_0, len4_1, len4_2, len4_3, len4_4, true_and, and_true, and_self, if_true, if_false, Option.bind_some, nR_b1, nR_b0, nR_bI, nI_1z, nI_0z, bI_z, if_nn, gf, pf, clN, aln, gaI, gaL, gaR, saI, saR, isI, ctB, isB, gB, hput_n, hput_e, hput_21, hput_22, hnew_n, hnew_e, hnew_21, hnew_22, Option.bind_some, Option.map_some, List.lookup_cons, List.lookup_nil, beq_self_eq_true, List.getElem?_cons_zero, List.getElem?_cons_succ, List.set_cons_zero, List.set_cons_succ, List.length_cons, List.length_nil, Nat.reduceAdd, Nat.reduceLT, Nat.reduceLeDiff, Nat.reduceBEq, Nat.reduceEqDiff, okv_int, okv_oref, okv_onull, okv_orf, okv_aref, okv_b0, okv_b1, okv_z0, okv_bI, ckI_nI, lt31, leT, reduceCtorEq, List.mem_cons, List.mem_singleton, List.not_mem_nil, or_true, true_or, or_false, false_or, toR_ref, toR_null, ↓reduceIte, a1, ↓nI_eq_if, hn, e1]
end RD5
