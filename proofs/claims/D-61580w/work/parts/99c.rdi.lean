/-! COMPONENT: reader, the query's head and its columns -/
theorem zeroA_i {N : Nat} : zeroA .int N = (N, .inl (fun _ => 0)) := by unfold zeroA; rw [if_neg (by decide)]
theorem nar_int {x : Int32} : narrow .int (.int x) = .int x := okv_nar okv_int
/-- a query as it is being read: its columns stand, tl: the rest of its fields -/
def QuI (h : AH) (qa ar : Nat) (di : Int32) (cols : List Nat) (tl : List Value) : Prop := h.1 qa = some (.inr (8, .int di :: .ref ar :: .int (nI cols.length) :: tl)) ∧ ∃ f, h.1 ar = some (arI .int 6 f) ∧ ∀ i v, cols[i]? = some v → f i = nI v
section RDI
variable {Ω : Om} {d : Nat} {h h' h0 h1 h2 : AH} {a b qa ar r c tx nm dp K M : Nat} {w cs cols : List Nat} {s s' s0 : PS} {fs tl : List Value} {di : Int32}
theorem RdR.nai {N : Nat} {f : Nat → Int32} (t : RdR Ω h r c tx nm cs s dp) (ha : h.1 a = some (arI .int N f)) : a ∉ [r, nm] := by
  obtain ⟨⟨wd, p, a1, a2, a3, a4⟩, b1, ⟨nf, b2, b3⟩, _⟩ := t
  intro q
  rcases List.mem_cons.mp q with rfl | q
  · rw [ha] at a1; cases a1
  · rw [List.mem_singleton.mp q, b2] at ha; cases ha
theorem QuI.nx (x : QuI h qa ar di cols tl) (t : RdR Ω h r c tx nm cs s dp) (n : Nx [r, nm] K M h h') : QuI h' qa ar di cols tl := by
  obtain ⟨x1, f, x2, x3⟩ := x
  exact ⟨n.ob x1 (by decide) (t.na x1 (by decide)), f, n.ar x2 (t.nai x2), x3⟩
theorem QuI.nxs (x : QuI h qa ar di cols tl) (n : Nx [] K M h h') : QuI h' qa ar di cols tl := by
  obtain ⟨x1, f, x2, x3⟩ := x
  exact ⟨n.ob x1 (by decide) (fun z => (nomatch z)), f, n.ar x2 (fun z => (nomatch z)), x3⟩
theorem i_qry {v1 v3 : Value} {x0 x2 x4 x5 x6 : Int32} (hz : Ω.sz ≤ a) (hl : a < h.2.1) (ha : h.1 a = some (.inr (8, [.int x0, v1, .int x2, v3, .int x4, .int x5, .int x6]))) : gM PG Ω (d + 2) 125 [.ref a] h = some (.returned none, hput (hnew h (arI .int 6 (fun _ => 0)) 6) a (.inr (8, [.int x0, .ref h.2.1, .int x2, v3, .int (-1), .int x5, .int (nI 150)]))) := by
  have hne : a ≠ h.2.1 := by omega
  simp (disch := first | omega | (simp only [hnew_21, hput_21, hnew_22, hput_22]; omega) | exact isR_ref | exact isR_null | exact isR_rf | exact isR_fmt | assumption | decide) only [n_X10_init, e_X10_init_0, e_X10_init_1, e_X10_init_4, e_X10_init_5, e_X10_init_7, e_X10_init_9, e_X10_init_12, e_X10_init_13, e_X10_init_14, e_X10_init_17, e_X10_init_18, e_X10_init_21, e_X10_init_24, cR_ref, cR_null, cR_rf, c1_int, c1_ref, c1_null, c1_rf, kz_int, kz_ref, kz_null, kz_rf, kz_U, kz_long, nB_null, nB_ref, rf_none, rf_some, bV_ret, bV_thr, bA_ret, bA_thr, bX_ret, bX_thr, len4_0, len4_1, len4_2, len4_3, len4_4, true_and, and_true, and_self, if_true, if_false, Option.bind_some, nR_b1, nR_b0, nR_bI, nI_1z, nI_0z, bI_z, if_nn, gf, pf, clN, aln, gaI, gaL, gaR, saI, saR, isI, ctB, isB, gB, hput_n, hput_e, hput_21, hput_22, hnew_n, hnew_e, hnew_21, hnew_22, Option.bind_some, Option.map_some, List.lookup_cons, List.lookup_nil, beq_self_eq_true, List.getElem?_cons_zero, List.getElem?_cons_succ, List.set_cons_zero, List.set_cons_succ, List.length_cons, List.length_nil, Nat.reduceAdd, Nat.reduceLT, Nat.reduceLeDiff, Nat.reduceBEq, Nat.reduceEqDiff, okv_int, okv_oref, okv_onull, okv_orf, okv_aref, okv_b0, okv_b1, okv_z0, okv_bI, ckI_nI, lt31, leT, reduceCtorEq, List.mem_cons, List.mem_singleton, List.not_mem_nil, or_true, true_or, or_false, false_or, toR_ref, toR_null, ↓reduceIte, ha, zeroA_i, hne, hput2]
set_option maxHeartbeats 2000000 in
theorem r_cols (hqa : h0.2.1 ≤ qa) (har : h0.2.1 ≤ ar) (hzq : Ω.sz ≤ qa) (hzr : Ω.sz ≤ ar) (t0 : RdR Ω h0 r c tx nm cs s0 dp) : ∀ (k : Nat) (cols : List Nat) (h : AH) (s : PS) (K M : Nat) (l3 l4 : Value), cols.length + k = 6 → (k = 0 → (tk cs s).1 = 3) → RdR Ω h r c tx nm cs s dp → Nx [r, nm] K M h0 h → s0.1 ≤ s.1 → K ≤ 10 * (s.1 - s0.1) → M ≤ 300 * (s.1 - s0.1) → QuI h qa ar di cols tl → (∀ vs s', pCols cs k s = .ok (vs, s') → s.1 < s'.1 ∧ (cols ++ vs).length ≤ 6 ∧ ∃ h' l2 l3' l4', gO PG Ω (d + 10) 114 38 [.ref r, .ref qa, .int (nI 1), l3, l4] [] h = gO PG Ω (d + 10) 114 110 [.ref r, .ref qa, l2, l3', l4'] [] h' ∧ RdR Ω h' r c tx nm cs s' dp ∧ Nx [r, nm] (10 * (s'.1 - s0.1)) (300 * (s'.1 - s0.1)) h0 h' ∧ QuI h' qa ar di (cols ++ vs) tl) ∧ (∀ q, pCols cs k s = .error q → REr h0 r c nm s0 q 3 (gO PG Ω (d + 10) 114 38 [.ref r, .ref qa, .int (nI 1), l3, l4] [] h)) := by
  intro k
  induction k with
  | zero =>
    intro cols h s K M l3 l4 hk h3 t nn hs0 hK hM hq
    have h3 := h3 rfl
    have rv := r_var (d := d) t
    obtain ⟨wd, p, a1, a2⟩ := t.cell
    have hs5 := t.2.2.2.2.1
    refine ⟨fun vs s' hh => (nomatch hh), fun q hh => ?_⟩
    have hq' : q = (tk cs s).2.2.1 := by
      have hh' : er (α := List Nat) cs s = .error q := hh
      unfold er at hh'; injection hh' with hh'; exact hh'.symm
    cases hv : pVar cs s with
    | error q2 =>
      have e1 := (pVar_er hv).1
      obtain ⟨ex, h', hf', g1, g2⟩ := rv.2 q2 hv
      rw [← e1] at hq'
      subst hq'
      have er' : REr h r c nm s q 1 (gO PG Ω (d + 10) 114 38 [.ref r, .ref qa, .int (nI 1), l3, l4] [] h) := by
        refine ⟨ex, h', hf', ?_, g2⟩
        rw [e_X9_read_38]
        simp (disch := first | omega | (simp only [hnew_21, hput_21, hnew_22, hput_22]; omega) | exact isR_ref | exact isR_null | exact isR_rf | exact isR_fmt | assumption | decide) only [e_X9_read_39, e_X9_read_42, e_X9_read_43, e_X9_read_46, e_X9_read_47, e_X9_read_48, cR_ref, cR_null, cR_rf, c1_int, c1_ref, c1_null, c1_rf, kz_int, kz_ref, kz_null, kz_rf, kz_U, kz_long, nB_null, nB_ref, rf_none, rf_some, bV_ret, bV_thr, bA_ret, bA_thr, bX_ret, bX_thr, len4_0, len4_1, len4_2, len4_3, len4_4, true_and, and_true, and_self, if_true, if_false, Option.bind_some, nR_b1, nR_b0, nR_bI, nI_1z, nI_0z, bI_z, if_nn, gf, pf, clN, aln, gaI, gaL, gaR, saI, saR, isI, ctB, isB, gB, hput_n, hput_e, hput_21, hput_22, hnew_n, hnew_e, hnew_21, hnew_22, Option.bind_some, Option.map_some, List.lookup_cons, List.lookup_nil, beq_self_eq_true, List.getElem?_cons_zero, List.getElem?_cons_succ, List.set_cons_zero, List.set_cons_succ, List.length_cons, List.length_nil, Nat.reduceAdd, Nat.reduceLT, Nat.reduceLeDiff, Nat.reduceBEq, Nat.reduceEqDiff, okv_int, okv_oref, okv_onull, okv_orf, okv_aref, okv_b0, okv_b1, okv_z0, okv_bI, ckI_nI, lt31, leT, reduceCtorEq, List.mem_cons, List.mem_singleton, List.not_mem_nil, or_true, true_or, or_false, false_or, toR_ref, toR_null, ↓reduceIte, a1, g1, ↓nI_eq_if, one_ne0, nI_1]
      exact er'.back2 t0 nn hs0 hs5 (by omega) (by omega)
    | ok v1 =>
      obtain ⟨v, s1⟩ := v1
      obtain ⟨h2, f1, f2, f3, _⟩ := rv.1 v s1 hv
      have hlt := pVar_lt hs5 hv
      obtain ⟨q1, f, q2, q3⟩ := hq.nx t f3
      obtain ⟨wd1, p1, a11, _⟩ := f2.cell
      have hs15 := f2.2.2.2.2.1
      obtain ⟨ex, h', hf', g1, g2⟩ := r_chk0 (d := d + 1) f2 (q := q)
      have hlen : ¬ cols.length < 6 := by omega
      have er' : REr h2 r c nm s1 q 1 (gO PG Ω (d + 10) 114 38 [.ref r, .ref qa, .int (nI 1), l3, l4] [] h) := by
        refine ⟨ex, h', hf', ?_, g2⟩
        rw [← hq'] at a1
        rw [e_X9_read_38]
        simp (disch := first | omega | (simp only [hnew_21, hput_21, hnew_22, hput_22]; omega) | exact isR_ref | exact isR_null | exact isR_rf | exact isR_fmt | assumption | decide) only [e_X9_read_39, e_X9_read_42, e_X9_read_43, e_X9_read_46, e_X9_read_47, e_X9_read_48, cR_ref, cR_null, cR_rf, c1_int, c1_ref, c1_null, c1_rf, kz_int, kz_ref, kz_null, kz_rf, kz_U, kz_long, nB_null, nB_ref, rf_none, rf_some, bV_ret, bV_thr, bA_ret, bA_thr, bX_ret, bX_thr, len4_0, len4_1, len4_2, len4_3, len4_4, true_and, and_true, and_self, if_true, if_false, Option.bind_some, nR_b1, nR_b0, nR_bI, nI_1z, nI_0z, bI_z, if_nn, gf, pf, clN, aln, gaI, gaL, gaR, saI, saR, isI, ctB, isB, gB, hput_n, hput_e, hput_21, hput_22, hnew_n, hnew_e, hnew_21, hnew_22, Option.bind_some, Option.map_some, List.lookup_cons, List.lookup_nil, beq_self_eq_true, List.getElem?_cons_zero, List.getElem?_cons_succ, List.set_cons_zero, List.set_cons_succ, List.length_cons, List.length_nil, Nat.reduceAdd, Nat.reduceLT, Nat.reduceLeDiff, Nat.reduceBEq, Nat.reduceEqDiff, okv_int, okv_oref, okv_onull, okv_orf, okv_aref, okv_b0, okv_b1, okv_z0, okv_bI, ckI_nI, lt31, leT, reduceCtorEq, List.mem_cons, List.mem_singleton, List.not_mem_nil, or_true, true_or, or_false, false_or, toR_ref, toR_null, ↓reduceIte, a1, f1, ↓nI_eq_if, one_ne0, nI_1]
        simp (disch := first | omega | (simp only [hnew_21, hput_21, hnew_22, hput_22]; omega) | exact isR_ref | exact isR_null | exact isR_rf | exact isR_fmt | assumption | decide) only [e_X9_read_51, e_X9_read_53, e_X9_read_54, e_X9_read_55, e_X9_read_58, e_X9_read_60, e_X9_read_63, e_X9_read_64, e_X9_read_67, e_X9_read_68, e_X9_read_69, cR_ref, cR_null, cR_rf, c1_int, c1_ref, c1_null, c1_rf, kz_int, kz_ref, kz_null, kz_rf, kz_U, kz_long, nB_null, nB_ref, rf_none, rf_some, bV_ret, bV_thr, bA_ret, bA_thr, bX_ret, bX_thr, len4_0, len4_1, len4_2, len4_3, len4_4, true_and, and_true, and_self, if_true, if_false, Option.bind_some, nR_b1, nR_b0, nR_bI, nI_1z, nI_0z, bI_z, if_nn, gf, pf, clN, aln, gaI, gaL, gaR, saI, saR, isI, ctB, isB, gB, hput_n, hput_e, hput_21, hput_22, hnew_n, hnew_e, hnew_21, hnew_22, Option.bind_some, Option.map_some, List.lookup_cons, List.lookup_nil, beq_self_eq_true, List.getElem?_cons_zero, List.getElem?_cons_succ, List.set_cons_zero, List.set_cons_succ, List.length_cons, List.length_nil, Nat.reduceAdd, Nat.reduceLT, Nat.reduceLeDiff, Nat.reduceBEq, Nat.reduceEqDiff, okv_int, okv_oref, okv_onull, okv_orf, okv_aref, okv_b0, okv_b1, okv_z0, okv_bI, ckI_nI, lt31, leT, reduceCtorEq, List.mem_cons, List.mem_singleton, List.not_mem_nil, or_true, true_or, or_false, false_or, toR_ref, toR_null, ↓reduceIte, q1, a11, ↓nI_lt_if, hlen, g1]
      exact er'.back2 t0 (nn.trans f3) (by omega) hs15 (by omega) (by omega)
  | succ k ih =>
    intro cols h s K M l3 l4 hk _ t nn hs0 hK hM hq
    have rv := r_var (d := d) t
    obtain ⟨wd, p, a1, a2⟩ := t.cell
    have hs5 := t.2.2.2.2.1
    unfold pCols
    cases hv : pVar cs s with
    | error q2 =>
      refine ⟨fun vs s' hh => (nomatch hh), fun q hh => ?_⟩
      cases hh
      obtain ⟨ex, h', hf', g1, g2⟩ := rv.2 q2 hv
      have er' : REr h r c nm s q2 1 (gO PG Ω (d + 10) 114 38 [.ref r, .ref qa, .int (nI 1), l3, l4] [] h) := by
        refine ⟨ex, h', hf', ?_, g2⟩
        rw [e_X9_read_38]
        simp (disch := first | omega | (simp only [hnew_21, hput_21, hnew_22, hput_22]; omega) | exact isR_ref | exact isR_null | exact isR_rf | exact isR_fmt | assumption | decide) only [e_X9_read_39, e_X9_read_42, e_X9_read_43, e_X9_read_46, e_X9_read_47, e_X9_read_48, cR_ref, cR_null, cR_rf, c1_int, c1_ref, c1_null, c1_rf, kz_int, kz_ref, kz_null, kz_rf, kz_U, kz_long, nB_null, nB_ref, rf_none, rf_some, bV_ret, bV_thr, bA_ret, bA_thr, bX_ret, bX_thr, len4_0, len4_1, len4_2, len4_3, len4_4, true_and, and_true, and_self, if_true, if_false, Option.bind_some, nR_b1, nR_b0, nR_bI, nI_1z, nI_0z, bI_z, if_nn, gf, pf, clN, aln, gaI, gaL, gaR, saI, saR, isI, ctB, isB, gB, hput_n, hput_e, hput_21, hput_22, hnew_n, hnew_e, hnew_21, hnew_22, Option.bind_some, Option.map_some, List.lookup_cons, List.lookup_nil, beq_self_eq_true, List.getElem?_cons_zero, List.getElem?_cons_succ, List.set_cons_zero, List.set_cons_succ, List.length_cons, List.length_nil, Nat.reduceAdd, Nat.reduceLT, Nat.reduceLeDiff, Nat.reduceBEq, Nat.reduceEqDiff, okv_int, okv_oref, okv_onull, okv_orf, okv_aref, okv_b0, okv_b1, okv_z0, okv_bI, ckI_nI, lt31, leT, reduceCtorEq, List.mem_cons, List.mem_singleton, List.not_mem_nil, or_true, true_or, or_false, false_or, toR_ref, toR_null, ↓reduceIte, a1, g1, ↓nI_eq_if, one_ne0, nI_1]
      exact er'.back2 t0 nn hs0 hs5 (by omega) (by omega)
    | ok v1 =>
      obtain ⟨v, s1⟩ := v1
      dsimp only
      obtain ⟨h2, f1, f2, f3, _⟩ := rv.1 v s1 hv
      have hlt := pVar_lt hs5 hv
      obtain ⟨q1, f, q2, q3⟩ := hq.nx t f3
      obtain ⟨nu, nu1, nu2, m1, m2, m3, m4, m5, m6⟩ := kc_n f2.tw
      obtain ⟨wd1, p1, a11, _⟩ := f2.cell
      rw [nu2] at a11
      have hs15 := f2.2.2.2.2.1
      have hlen : cols.length < 6 := by omega
      have hfe := f2.fe
      have la := hfe.lt q1
      have lb := hfe.lt q2
      have hne : ar ≠ qa := fun z => by rw [z, q1] at q2; cases q2
      have hra : r ≠ qa := fun z => by rw [z, q1] at a11; cases a11
      have hrb : r ≠ ar := fun z => by rw [z, q2] at a11; cases a11
      have k1 : Ku h2 (hput h2 ar (arI .int 6 (va_up f cols.length (nI v)))) := Ku.puta hfe q2 ⟨by decide, by decide⟩
      have ca : (hput h2 ar (arI .int 6 (va_up f cols.length (nI v)))).1 qa = some (.inr (8, .int di :: .ref ar :: .int (nI cols.length) :: tl)) := by rw [hput_n (Ne.symm hne)]; exact q1
      have k2' : Ku (hput h2 ar (arI .int 6 (va_up f cols.length (nI v)))) (hput (hput h2 ar (arI .int 6 (va_up f cols.length (nI v)))) qa (.inr (8, .int di :: .ref ar :: .int (nI (cols.length + 1)) :: tl))) := Ku.put k1.1 ca ⟨by decide, by decide, by decide⟩
      have t3 := (f2.ku k1).ku k2'
      have n3 := (((nn.trans f3).put (e := arI .int 6 (va_up f cols.length (nI v))) (.inr har) lb).put (e := .inr (8, .int di :: .ref ar :: .int (nI (cols.length + 1)) :: tl)) (.inr hqa) (by rw [hput_21]; exact la))
      have hq3 : QuI (hput (hput h2 ar (arI .int 6 (va_up f cols.length (nI v)))) qa (.inr (8, .int di :: .ref ar :: .int (nI (cols.length + 1)) :: tl))) qa ar di (cols ++ [v]) tl := by
        refine ⟨by rw [hput_e, List.length_append]; rfl, _, by rw [hput_n hne, hput_e], fun i v' hi => ?_⟩
        unfold va_up
        rcases getE_snoc hi with z | ⟨rfl, rfl⟩
        · have hil := (List.getElem?_eq_some_iff.mp z).1
          rw [if_neg (by omega)]; exact q3 i v' z
        · rw [if_pos rfl]
      have h2l : (2 < tl.length + 1 + 1 + 1) = True := eq_true (by omega)
      have pre : gO PG Ω (d + 10) 114 38 [.ref r, .ref qa, .int (nI 1), l3, l4] [] h = gO PG Ω (d + 10) 114 93 [.ref r, .ref qa, .int (nI 1), .int (nI (tk cs s).2.2.1), .int (nI v)] [] (hput (hput h2 ar (arI .int 6 (va_up f cols.length (nI v)))) qa (.inr (8, .int di :: .ref ar :: .int (nI (cols.length + 1)) :: tl))) := by
        rw [e_X9_read_38]
        simp (disch := first | omega | (simp only [hnew_21, hput_21, hnew_22, hput_22]; omega) | exact isR_ref | exact isR_null | exact isR_rf | exact isR_fmt | assumption | decide) only [e_X9_read_39, e_X9_read_42, e_X9_read_43, e_X9_read_46, e_X9_read_47, e_X9_read_48, cR_ref, cR_null, cR_rf, c1_int, c1_ref, c1_null, c1_rf, kz_int, kz_ref, kz_null, kz_rf, kz_U, kz_long, nB_null, nB_ref, rf_none, rf_some, bV_ret, bV_thr, bA_ret, bA_thr, bX_ret, bX_thr, len4_0, len4_1, len4_2, len4_3, len4_4, true_and, and_true, and_self, if_true, if_false, Option.bind_some, nR_b1, nR_b0, nR_bI, nI_1z, nI_0z, bI_z, if_nn, gf, pf, clN, aln, gaI, gaL, gaR, saI, saR, isI, ctB, isB, gB, hput_n, hput_e, hput_21, hput_22, hnew_n, hnew_e, hnew_21, hnew_22, Option.bind_some, Option.map_some, List.lookup_cons, List.lookup_nil, beq_self_eq_true, List.getElem?_cons_zero, List.getElem?_cons_succ, List.set_cons_zero, List.set_cons_succ, List.length_cons, List.length_nil, Nat.reduceAdd, Nat.reduceLT, Nat.reduceLeDiff, Nat.reduceBEq, Nat.reduceEqDiff, okv_int, okv_oref, okv_onull, okv_orf, okv_aref, okv_b0, okv_b1, okv_z0, okv_bI, ckI_nI, lt31, leT, reduceCtorEq, List.mem_cons, List.mem_singleton, List.not_mem_nil, or_true, true_or, or_false, false_or, toR_ref, toR_null, ↓reduceIte, a1, f1, ↓nI_eq_if, one_ne0, nI_1]
        simp (disch := first | omega | (simp only [hnew_21, hput_21, hnew_22, hput_22]; omega) | exact isR_ref | exact isR_null | exact isR_rf | exact isR_fmt | assumption | decide) only [e_X9_read_51, e_X9_read_53, e_X9_read_54, e_X9_read_55, e_X9_read_58, e_X9_read_60, e_X9_read_63, e_X9_read_64, e_X9_read_67, e_X9_read_68, e_X9_read_69, e_X9_read_72, e_X9_read_73, e_X9_read_76, e_X9_read_77, e_X9_read_80, e_X9_read_82, e_X9_read_83, e_X9_read_84, e_X9_read_85, e_X9_read_88, e_X9_read_89, e_X9_read_90, cR_ref, cR_null, cR_rf, c1_int, c1_ref, c1_null, c1_rf, kz_int, kz_ref, kz_null, kz_rf, kz_U, kz_long, nB_null, nB_ref, rf_none, rf_some, bV_ret, bV_thr, bA_ret, bA_thr, bX_ret, bX_thr, len4_0, len4_1, len4_2, len4_3, len4_4, true_and, and_true, and_self, if_true, if_false, Option.bind_some, nR_b1, nR_b0, nR_bI, nI_1z, nI_0z, bI_z, if_nn, gf, pf, clN, aln, gaI, gaL, gaR, saI, saR, isI, ctB, isB, gB, hput_n, hput_e, hput_21, hput_22, hnew_n, hnew_e, hnew_21, hnew_22, Option.bind_some, Option.map_some, List.lookup_cons, List.lookup_nil, beq_self_eq_true, List.getElem?_cons_zero, List.getElem?_cons_succ, List.set_cons_zero, List.set_cons_succ, List.length_cons, List.length_nil, Nat.reduceAdd, Nat.reduceLT, Nat.reduceLeDiff, Nat.reduceBEq, Nat.reduceEqDiff, okv_int, okv_oref, okv_onull, okv_orf, okv_aref, okv_b0, okv_b1, okv_z0, okv_bI, ckI_nI, lt31, leT, reduceCtorEq, List.mem_cons, List.mem_singleton, List.not_mem_nil, or_true, true_or, or_false, false_or, toR_ref, toR_null, ↓reduceIte, nI_add, pk_mul, q1, q2, a11, ↓nI_lt_if, hlen, r_chk1, nar_int, h2l]
      rw [pre]
      by_cases h3 : (tk cs s1).1 = 3
      · rw [if_pos h3]
        have nu4 := m4.mpr h3
        have e0 : gO PG Ω (d + 10) 114 93 [.ref r, .ref qa, .int (nI 1), .int (nI (tk cs s).2.2.1), .int (nI v)] [] (hput (hput h2 ar (arI .int 6 (va_up f cols.length (nI v)))) qa (.inr (8, .int di :: .ref ar :: .int (nI (cols.length + 1)) :: tl))) = gO PG Ω (d + 10) 114 38 [.ref r, .ref qa, .int (nI 1), .int (nI (tk cs s).2.2.1), .int (nI v)] [] (hput (hput h2 ar (arI .int 6 (va_up f cols.length (nI v)))) qa (.inr (8, .int di :: .ref ar :: .int (nI (cols.length + 1)) :: tl))) := by
          simp (disch := first | omega | (simp only [hnew_21, hput_21, hnew_22, hput_22]; omega) | exact isR_ref | exact isR_null | exact isR_rf | exact isR_fmt | assumption | decide) only [e_X9_read_93, e_X9_read_94, e_X9_read_97, e_X9_read_98, e_X9_read_101, e_X9_read_102, e_X9_read_105, e_X9_read_106, e_X9_read_107, cR_ref, cR_null, cR_rf, c1_int, c1_ref, c1_null, c1_rf, kz_int, kz_ref, kz_null, kz_rf, kz_U, kz_long, nB_null, nB_ref, rf_none, rf_some, bV_ret, bV_thr, bA_ret, bA_thr, bX_ret, bX_thr, len4_0, len4_1, len4_2, len4_3, len4_4, true_and, and_true, and_self, if_true, if_false, Option.bind_some, nR_b1, nR_b0, nR_bI, nI_1z, nI_0z, bI_z, if_nn, gf, pf, clN, aln, gaI, gaL, gaR, saI, saR, isI, ctB, isB, gB, hput_n, hput_e, hput_21, hput_22, hnew_n, hnew_e, hnew_21, hnew_22, Option.bind_some, Option.map_some, List.lookup_cons, List.lookup_nil, beq_self_eq_true, List.getElem?_cons_zero, List.getElem?_cons_succ, List.set_cons_zero, List.set_cons_succ, List.length_cons, List.length_nil, Nat.reduceAdd, Nat.reduceLT, Nat.reduceLeDiff, Nat.reduceBEq, Nat.reduceEqDiff, okv_int, okv_oref, okv_onull, okv_orf, okv_aref, okv_b0, okv_b1, okv_z0, okv_bI, ckI_nI, lt31, leT, reduceCtorEq, List.mem_cons, List.mem_singleton, List.not_mem_nil, or_true, true_or, or_false, false_or, toR_ref, toR_null, ↓reduceIte, a11, ↓nI_eq_if, nu4, hra, hrb]
        rw [e0]
        have ih' := ih (cols ++ [v]) _ s1 _ _ (.int (nI (tk cs s).2.2.1)) (.int (nI v)) (by rw [List.length_append, List.length_singleton]; omega) (fun _ => h3) t3 n3 (by omega) (by omega) (by omega) hq3
        cases hq2 : pCols cs k s1 with
        | error q =>
          refine ⟨fun es s' hh => (nomatch hh), fun q' hh => ?_⟩
          cases hh
          exact ih'.2 q hq2
        | ok v2 =>
          obtain ⟨vs, s2⟩ := v2
          refine ⟨fun es s' hh => ?_, fun q' hh => (nomatch hh)⟩
          cases hh
          obtain ⟨x1, x0, h4, l2, l3', l4', x2, x3, x4, x5⟩ := ih'.1 vs s2 hq2
          rw [List.append_assoc] at x5 x0
          exact ⟨by omega, x0, h4, l2, l3', l4', x2, x3, x4, x5⟩
      · rw [if_neg h3]
        have nu4 : ¬ nu = 4 := fun z => h3 (m4.mp z)
        refine ⟨fun es s' hh => ?_, fun q' hh => (nomatch hh)⟩
        cases hh
        refine ⟨hlt, by rw [List.length_append, List.length_singleton]; omega, _, .int (nI 0), .int (nI (tk cs s).2.2.1), .int (nI v), ?_, t3, n3.mono (fun _ z => z) (by omega) (by omega), hq3⟩
        simp (disch := first | omega | (simp only [hnew_21, hput_21, hnew_22, hput_22]; omega) | exact isR_ref | exact isR_null | exact isR_rf | exact isR_fmt | assumption | decide) only [e_X9_read_93, e_X9_read_94, e_X9_read_97, e_X9_read_98, e_X9_read_101, e_X9_read_102, e_X9_read_105, e_X9_read_106, e_X9_read_107, cR_ref, cR_null, cR_rf, c1_int, c1_ref, c1_null, c1_rf, kz_int, kz_ref, kz_null, kz_rf, kz_U, kz_long, nB_null, nB_ref, rf_none, rf_some, bV_ret, bV_thr, bA_ret, bA_thr, bX_ret, bX_thr, len4_0, len4_1, len4_2, len4_3, len4_4, true_and, and_true, and_self, if_true, if_false, Option.bind_some, nR_b1, nR_b0, nR_bI, nI_1z, nI_0z, bI_z, if_nn, gf, pf, clN, aln, gaI, gaL, gaR, saI, saR, isI, ctB, isB, gB, hput_n, hput_e, hput_21, hput_22, hnew_n, hnew_e, hnew_21, hnew_22, Option.bind_some, Option.map_some, List.lookup_cons, List.lookup_nil, beq_self_eq_true, List.getElem?_cons_zero, List.getElem?_cons_succ, List.set_cons_zero, List.set_cons_succ, List.length_cons, List.length_nil, Nat.reduceAdd, Nat.reduceLT, Nat.reduceLeDiff, Nat.reduceBEq, Nat.reduceEqDiff, okv_int, okv_oref, okv_onull, okv_orf, okv_aref, okv_b0, okv_b1, okv_z0, okv_bI, ckI_nI, lt31, leT, reduceCtorEq, List.mem_cons, List.mem_singleton, List.not_mem_nil, or_true, true_or, or_false, false_or, toR_ref, toR_null, ↓reduceIte, a11, ↓nI_eq_if, nu4, hra, hrb]
        rw [e_X9_read_38]
        simp (disch := first | omega | (simp only [hnew_21, hput_21, hnew_22, hput_22]; omega) | exact isR_ref | exact isR_null | exact isR_rf | exact isR_fmt | assumption | decide) only [e_X9_read_39, cR_ref, cR_null, cR_rf, c1_int, c1_ref, c1_null, c1_rf, kz_int, kz_ref, kz_null, kz_rf, kz_U, kz_long, nB_null, nB_ref, rf_none, rf_some, bV_ret, bV_thr, bA_ret, bA_thr, bX_ret, bX_thr, len4_0, len4_1, len4_2, len4_3, len4_4, true_and, and_true, and_self, if_true, if_false, Option.bind_some, nR_b1, nR_b0, nR_bI, nI_1z, nI_0z, bI_z, if_nn, gf, pf, clN, aln, gaI, gaL, gaR, saI, saR, isI, ctB, isB, gB, hput_n, hput_e, hput_21, hput_22, hnew_n, hnew_e, hnew_21, hnew_22, Option.bind_some, Option.map_some, List.lookup_cons, List.lookup_nil, beq_self_eq_true, List.getElem?_cons_zero, List.getElem?_cons_succ, List.set_cons_zero, List.set_cons_succ, List.length_cons, List.length_nil, Nat.reduceAdd, Nat.reduceLT, Nat.reduceLeDiff, Nat.reduceBEq, Nat.reduceEqDiff, okv_int, okv_oref, okv_onull, okv_orf, okv_aref, okv_b0, okv_b1, okv_z0, okv_bI, ckI_nI, lt31, leT, reduceCtorEq, List.mem_cons, List.mem_singleton, List.not_mem_nil, or_true, true_or, or_false, false_or, toR_ref, toR_null, ↓reduceIte, nI_0]
end RDI
