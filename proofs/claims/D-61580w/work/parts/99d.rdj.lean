/-! COMPONENT: reader, the query whole -/
def ordV (o : Option Nat) : Int32 := match o with
  | some v => nI v
  | none => -1
/-- the query as it stands when it is read -/
def QryR (h : AH) (qa : Nat) (y : Qry) : Prop := ∃ ar ga f, h.1 qa = some (.inr (8, [.int (bI y.1), .ref ar, .int (nI y.2.1.length), .ref ga, .int (ordV y.2.2.2.1.1), .int (bI y.2.2.2.1.2), .int (nI (y.2.2.2.2.getD 150))])) ∧ h.1 ar = some (arI .int 6 f) ∧ (∀ i v, y.2.1[i]? = some v → f i = nI v) ∧ y.2.1.length ≤ 6 ∧ GrR h 4 ga y.2.2.1 ∧ ∃ fs, h.1 ga = some (.inr (9, fs))
def RqS (Ω : Om) (h0 : AH) (s0 : PS) (h : AH) (r c tx nm : Nat) (cs : List Nat) (s : PS) (qa ar : Nat) (di : Int32) (cols : List Nat) (tl : List Value) (lo hi ga : Nat) (g : GT 4) : Prop := RdR Ω h r c tx nm cs s 0 ∧ Nx [r, nm] (10 * (s.1 - s0.1)) (300 * (s.1 - s0.1)) h0 h ∧ s0.1 ≤ s.1 ∧ QuI h qa ar di cols tl ∧ GrF 4 lo hi h ga g ∧ (qa < lo ∧ r < lo ∧ nm < lo ∧ lo ≤ ga ∧ ga < hi ∧ h0.2.1 ≤ qa ∧ Ω.sz ≤ qa) ∧ ∃ fs, h.1 ga = some (.inr (9, fs))
section RDJ
variable {Ω : Om} {d : Nat} {h h' h0 h1 h2 : AH} {a b qa ar r c tx nm dp K M lo hi ga : Nat} {w cs cols : List Nat} {s s' s0 : PS} {fs tl tl' : List Value} {di : Int32} {g : GT 4} {gv : Value} {x4 x5 x6 : Int32} {l2 l3 l4 : Value}
theorem RqS.put (x : RqS Ω h0 s0 h r c tx nm cs s qa ar di cols tl lo hi ga g) : RqS Ω h0 s0 (hput h qa (.inr (8, .int di :: .ref ar :: .int (nI cols.length) :: tl'))) r c tx nm cs s qa ar di cols tl' lo hi ga g := by
  obtain ⟨t, n, z, ⟨q1, f, q2, q3⟩, gF, ⟨b1, b2, b3, b4, b5, b6, b7⟩, fs, cg⟩ := x
  have hne : ar ≠ qa := fun z => by rw [z, q1] at q2; cases q2
  have hng : ga ≠ qa := by omega
  exact ⟨t.ku (Ku.put t.fe q1 ⟨by decide, by decide, by decide⟩), n.put (.inr b6) (t.fe.lt q1), z, ⟨hput_e, f, by rw [hput_n hne]; exact q2, q3⟩, gF.to (Agr.put q1 ⟨by decide, by decide, by decide⟩ (.inl b1)), ⟨b1, b2, b3, b4, b5, b6, b7⟩, fs, by rw [hput_n hng]; exact cg⟩
theorem RqS.go (x : RqS Ω h0 s0 h r c tx nm cs s qa ar di cols tl lo hi ga g) (t : RdR Ω h' r c tx nm cs s' 0) (n' : Nx [r, nm] 2 164 h h') (hlt : s.1 < s'.1) : RqS Ω h0 s0 h' r c tx nm cs s' qa ar di cols tl lo hi ga g := by
  obtain ⟨t', n, z, q, gF, ⟨b1, b2, b3, b4, b5, b6, b7⟩, fs, cg⟩ := x
  exact ⟨t, (n.trans n').mono (fun _ z => z) (by omega) (by omega), by omega, q.nx t' n', gF.to (t'.agr n' b2 b3), ⟨b1, b2, b3, b4, b5, b6, b7⟩, fs, n'.ob cg (by decide) (t'.na cg (by decide))⟩
theorem RqS.er {q x : Nat} {o : Option Rs} (y : RqS Ω h0 s0 h r c tx nm cs s qa ar di cols tl lo hi ga g) (t0 : RdR Ω h0 r c tx nm cs s0 0) (e : REr h r c nm s q x o) (hx : x ≤ 3) : REr h0 r c nm s0 q 3 o := by
  obtain ⟨t', n, z, _⟩ := y
  exact e.back2 t0 n z t'.2.2.2.2.1 (by omega) (by omega)
theorem r_fin (x : RqS Ω h0 s0 h r c tx nm cs s qa ar di cols tl lo hi ga g) : ((tk cs s).1 = 0 → gO PG Ω (d + 24) 114 162 [.ref r, .ref qa, l2, l3, l4] [] h = some (.returned (some (.ref qa)), h)) ∧ (¬ (tk cs s).1 = 0 → REr h r c nm s (tk cs s).2.2.1 1 (gO PG Ω (d + 24) 114 162 [.ref r, .ref qa, l2, l3, l4] [] h)) := by
  obtain ⟨t, n, z, ⟨q1, f, q2, q3⟩, gF, ⟨b1, b2, b3, b4, b5, b6, b7⟩, fs, cg⟩ := x
  obtain ⟨nu, nu1, nu2, m1, m2, m3, m4, m5, m6⟩ := kc_n t.tw
  obtain ⟨wd, p, a1, _⟩ := t.cell
  rw [nu2] at a1
  refine ⟨fun h0 => ?_, fun h0 => ?_⟩
  · have e6 := m5.mpr h0
    simp (disch := first | omega | (simp only [hnew_21, hput_21, hnew_22, hput_22]; omega) | exact isR_ref | exact isR_null | exact isR_rf | exact isR_fmt | assumption | decide) only [e_X9_read_162, e_X9_read_163, e_X9_read_164, e_X9_read_167, e_X9_read_169, e_X9_read_172, e_X9_read_173, e_X9_read_176, e_X9_read_177, e_X9_read_178, e_X9_read_181, e_X9_read_184, e_X9_read_185, cR_ref, cR_null, cR_rf, c1_int, c1_ref, c1_null, c1_rf, kz_int, kz_ref, kz_null, kz_rf, kz_U, kz_long, nB_null, nB_ref, rf_none, rf_some, bV_ret, bV_thr, bA_ret, bA_thr, bX_ret, bX_thr, len4_0, len4_1, len4_2, len4_3, len4_4, true_and, and_true, and_self, if_true, if_false, Option.bind_some, nR_b1, nR_b0, nR_bI, nI_1z, nI_0z, bI_z, if_nn, gf, pf, clN, aln, gaI, gaL, gaR, saI, saR, isI, ctB, isB, gB, hput_n, hput_e, hput_21, hput_22, hnew_n, hnew_e, hnew_21, hnew_22, Option.bind_some, Option.map_some, List.lookup_cons, List.lookup_nil, beq_self_eq_true, List.getElem?_cons_zero, List.getElem?_cons_succ, List.set_cons_zero, List.set_cons_succ, List.length_cons, List.length_nil, Nat.reduceAdd, Nat.reduceLT, Nat.reduceLeDiff, Nat.reduceBEq, Nat.reduceEqDiff, okv_int, okv_oref, okv_onull, okv_orf, okv_aref, okv_b0, okv_b1, okv_z0, okv_bI, ckI_nI, lt31, leT, reduceCtorEq, List.mem_cons, List.mem_singleton, List.not_mem_nil, or_true, true_or, or_false, false_or, toR_ref, toR_null, ↓reduceIte, a1, ↓nI_eq_if, e6, r_chk1]
  · have e6 : ¬ nu = 6 := fun z => h0 (m5.mp z)
    obtain ⟨ex, h', hf', g1, g2⟩ := r_chk0 (d := d + 15) t (q := (tk cs s).2.2.1)
    refine ⟨ex, h', hf', ?_, g2⟩
    simp (disch := first | omega | (simp only [hnew_21, hput_21, hnew_22, hput_22]; omega) | exact isR_ref | exact isR_null | exact isR_rf | exact isR_fmt | assumption | decide) only [e_X9_read_162, e_X9_read_163, e_X9_read_164, e_X9_read_167, e_X9_read_169, e_X9_read_172, e_X9_read_173, e_X9_read_176, e_X9_read_177, e_X9_read_178, e_X9_read_181, e_X9_read_184, e_X9_read_185, cR_ref, cR_null, cR_rf, c1_int, c1_ref, c1_null, c1_rf, kz_int, kz_ref, kz_null, kz_rf, kz_U, kz_long, nB_null, nB_ref, rf_none, rf_some, bV_ret, bV_thr, bA_ret, bA_thr, bX_ret, bX_thr, len4_0, len4_1, len4_2, len4_3, len4_4, true_and, and_true, and_self, if_true, if_false, Option.bind_some, nR_b1, nR_b0, nR_bI, nI_1z, nI_0z, bI_z, if_nn, gf, pf, clN, aln, gaI, gaL, gaR, saI, saR, isI, ctB, isB, gB, hput_n, hput_e, hput_21, hput_22, hnew_n, hnew_e, hnew_21, hnew_22, Option.bind_some, Option.map_some, List.lookup_cons, List.lookup_nil, beq_self_eq_true, List.getElem?_cons_zero, List.getElem?_cons_succ, List.set_cons_zero, List.set_cons_succ, List.length_cons, List.length_nil, Nat.reduceAdd, Nat.reduceLT, Nat.reduceLeDiff, Nat.reduceBEq, Nat.reduceEqDiff, okv_int, okv_oref, okv_onull, okv_orf, okv_aref, okv_b0, okv_b1, okv_z0, okv_bI, ckI_nI, lt31, leT, reduceCtorEq, List.mem_cons, List.mem_singleton, List.not_mem_nil, or_true, true_or, or_false, false_or, toR_ref, toR_null, ↓reduceIte, a1, ↓nI_eq_if, e6, g1]
theorem r_lim (t0 : RdR Ω h0 r c tx nm cs s0 0) (x : RqS Ω h0 s0 h r c tx nm cs s qa ar di cols [gv, .int x4, .int x5, .int (nI 150)] lo hi ga g) : (∀ l s', pLim cs s = .ok (l, s') → ∃ h', gO PG Ω (d + 24) 114 145 [.ref r, .ref qa, l2, l3, l4] [] h = gO PG Ω (d + 24) 114 162 [.ref r, .ref qa, l2, l3, l4] [] h' ∧ RqS Ω h0 s0 h' r c tx nm cs s' qa ar di cols [gv, .int x4, .int x5, .int (nI (l.getD 150))] lo hi ga g) ∧ (∀ q, pLim cs s = .error q → REr h0 r c nm s0 q 3 (gO PG Ω (d + 24) 114 145 [.ref r, .ref qa, l2, l3, l4] [] h)) := by
  obtain ⟨t, _⟩ := id x
  obtain ⟨wd, p, a1, _⟩ := t.cell
  unfold pLim
  by_cases h4 : isKy (tk cs s) 4 = true
  · rw [if_pos h4]
    obtain ⟨h1, e1, e2, e3, _⟩ := r_take1 (d := d + 17) t (i := 4) (by decide) h4
    have x1 := x.go e2 e3 (nx_lt t.2.2.2.2.1 (isKy_0 h4))
    have pre : gO PG Ω (d + 24) 114 145 [.ref r, .ref qa, l2, l3, l4] [] h = gO PG Ω (d + 24) 114 154 [.ref r, .ref qa, l2, l3, l4] [] h1 := by
      simp (disch := first | omega | (simp only [hnew_21, hput_21, hnew_22, hput_22]; omega) | exact isR_ref | exact isR_null | exact isR_rf | exact isR_fmt | assumption | decide) only [e_X9_read_145, e_X9_read_146, e_X9_read_148, cR_ref, cR_null, cR_rf, c1_int, c1_ref, c1_null, c1_rf, kz_int, kz_ref, kz_null, kz_rf, kz_U, kz_long, nB_null, nB_ref, rf_none, rf_some, bV_ret, bV_thr, bA_ret, bA_thr, bX_ret, bX_thr, len4_0, len4_1, len4_2, len4_3, len4_4, true_and, and_true, and_self, if_true, if_false, Option.bind_some, nR_b1, nR_b0, nR_bI, nI_1z, nI_0z, bI_z, if_nn, gf, pf, clN, aln, gaI, gaL, gaR, saI, saR, isI, ctB, isB, gB, hput_n, hput_e, hput_21, hput_22, hnew_n, hnew_e, hnew_21, hnew_22, Option.bind_some, Option.map_some, List.lookup_cons, List.lookup_nil, beq_self_eq_true, List.getElem?_cons_zero, List.getElem?_cons_succ, List.set_cons_zero, List.set_cons_succ, List.length_cons, List.length_nil, Nat.reduceAdd, Nat.reduceLT, Nat.reduceLeDiff, Nat.reduceBEq, Nat.reduceEqDiff, okv_int, okv_oref, okv_onull, okv_orf, okv_aref, okv_b0, okv_b1, okv_z0, okv_bI, ckI_nI, lt31, leT, reduceCtorEq, List.mem_cons, List.mem_singleton, List.not_mem_nil, or_true, true_or, or_false, false_or, toR_ref, toR_null, ↓reduceIte, a1, e1]
      simp (disch := first | omega | (simp only [hnew_21, hput_21, hnew_22, hput_22]; omega) | exact isR_ref | exact isR_null | exact isR_rf | exact isR_fmt | assumption | decide) only [e_X9_read_151, cR_ref, cR_null, cR_rf, c1_int, c1_ref, c1_null, c1_rf, kz_int, kz_ref, kz_null, kz_rf, kz_U, kz_long, nB_null, nB_ref, rf_none, rf_some, bV_ret, bV_thr, bA_ret, bA_thr, bX_ret, bX_thr, len4_0, len4_1, len4_2, len4_3, len4_4, true_and, and_true, and_self, if_true, if_false, Option.bind_some, nR_b1, nR_b0, nR_bI, nI_1z, nI_0z, bI_z, if_nn, ↓reduceIte]
    rw [pre]
    obtain ⟨wd1, p1, a11, _⟩ := e2.cell
    by_cases h2 : (tk cs (nx cs s)).1 = 2
    · rw [if_pos h2]
      refine ⟨fun l s' hh => ?_, fun q hh => (nomatch hh)⟩
      cases hh
      obtain ⟨h2', f1, f2, f3, _⟩ := r_num (d := d + 17) e2 h2
      have x2 := x1.go f2 f3 (nx_lt e2.2.2.2.2.1 (by rw [h2]; decide))
      obtain ⟨_, _, _, ⟨q1, f, q2, q3⟩, _, ⟨b1, b2, b3, b4, b5, b6, b7⟩, _⟩ := id x2
      refine ⟨_, ?_, x2.put⟩
      simp (disch := first | omega | (simp only [hnew_21, hput_21, hnew_22, hput_22]; omega) | exact isR_ref | exact isR_null | exact isR_rf | exact isR_fmt | assumption | decide) only [e_X9_read_154, e_X9_read_155, e_X9_read_156, cR_ref, cR_null, cR_rf, c1_int, c1_ref, c1_null, c1_rf, kz_int, kz_ref, kz_null, kz_rf, kz_U, kz_long, nB_null, nB_ref, rf_none, rf_some, bV_ret, bV_thr, bA_ret, bA_thr, bX_ret, bX_thr, len4_0, len4_1, len4_2, len4_3, len4_4, true_and, and_true, and_self, if_true, if_false, Option.bind_some, nR_b1, nR_b0, nR_bI, nI_1z, nI_0z, bI_z, if_nn, gf, pf, clN, aln, gaI, gaL, gaR, saI, saR, isI, ctB, isB, gB, hput_n, hput_e, hput_21, hput_22, hnew_n, hnew_e, hnew_21, hnew_22, Option.bind_some, Option.map_some, List.lookup_cons, List.lookup_nil, beq_self_eq_true, List.getElem?_cons_zero, List.getElem?_cons_succ, List.set_cons_zero, List.set_cons_succ, List.length_cons, List.length_nil, Nat.reduceAdd, Nat.reduceLT, Nat.reduceLeDiff, Nat.reduceBEq, Nat.reduceEqDiff, okv_int, okv_oref, okv_onull, okv_orf, okv_aref, okv_b0, okv_b1, okv_z0, okv_bI, ckI_nI, lt31, leT, reduceCtorEq, List.mem_cons, List.mem_singleton, List.not_mem_nil, or_true, true_or, or_false, false_or, toR_ref, toR_null, ↓reduceIte, a11, f1]
      simp (disch := first | omega | (simp only [hnew_21, hput_21, hnew_22, hput_22]; omega) | exact isR_ref | exact isR_null | exact isR_rf | exact isR_fmt | assumption | decide) only [e_X9_read_159, cR_ref, cR_null, cR_rf, c1_int, c1_ref, c1_null, c1_rf, kz_int, kz_ref, kz_null, kz_rf, kz_U, kz_long, nB_null, nB_ref, rf_none, rf_some, bV_ret, bV_thr, bA_ret, bA_thr, bX_ret, bX_thr, len4_0, len4_1, len4_2, len4_3, len4_4, true_and, and_true, and_self, if_true, if_false, Option.bind_some, nR_b1, nR_b0, nR_bI, nI_1z, nI_0z, bI_z, if_nn, gf, pf, clN, aln, gaI, gaL, gaR, saI, saR, isI, ctB, isB, gB, hput_n, hput_e, hput_21, hput_22, hnew_n, hnew_e, hnew_21, hnew_22, Option.bind_some, Option.map_some, List.lookup_cons, List.lookup_nil, beq_self_eq_true, List.getElem?_cons_zero, List.getElem?_cons_succ, List.set_cons_zero, List.set_cons_succ, List.length_cons, List.length_nil, Nat.reduceAdd, Nat.reduceLT, Nat.reduceLeDiff, Nat.reduceBEq, Nat.reduceEqDiff, okv_int, okv_oref, okv_onull, okv_orf, okv_aref, okv_b0, okv_b1, okv_z0, okv_bI, ckI_nI, lt31, leT, reduceCtorEq, List.mem_cons, List.mem_singleton, List.not_mem_nil, or_true, true_or, or_false, false_or, toR_ref, toR_null, ↓reduceIte, q1, Option.getD_some]
    · rw [if_neg h2]
      refine ⟨fun l s' hh => (nomatch hh), fun q hh => ?_⟩
      have hq' : q = (tk cs (nx cs s)).2.2.1 := by unfold er at hh; injection hh with hh; exact hh.symm
      rw [hq']
      obtain ⟨ex, h', hf', g1, g2⟩ := r_num_er (d := d + 14) e2 h2
      refine x1.er t0 (x := 1) ⟨ex, h', hf', ?_, g2⟩ (by decide)
      simp (disch := first | omega | (simp only [hnew_21, hput_21, hnew_22, hput_22]; omega) | exact isR_ref | exact isR_null | exact isR_rf | exact isR_fmt | assumption | decide) only [e_X9_read_154, e_X9_read_155, e_X9_read_156, cR_ref, cR_null, cR_rf, c1_int, c1_ref, c1_null, c1_rf, kz_int, kz_ref, kz_null, kz_rf, kz_U, kz_long, nB_null, nB_ref, rf_none, rf_some, bV_ret, bV_thr, bA_ret, bA_thr, bX_ret, bX_thr, len4_0, len4_1, len4_2, len4_3, len4_4, true_and, and_true, and_self, if_true, if_false, Option.bind_some, nR_b1, nR_b0, nR_bI, nI_1z, nI_0z, bI_z, if_nn, gf, pf, clN, aln, gaI, gaL, gaR, saI, saR, isI, ctB, isB, gB, hput_n, hput_e, hput_21, hput_22, hnew_n, hnew_e, hnew_21, hnew_22, Option.bind_some, Option.map_some, List.lookup_cons, List.lookup_nil, beq_self_eq_true, List.getElem?_cons_zero, List.getElem?_cons_succ, List.set_cons_zero, List.set_cons_succ, List.length_cons, List.length_nil, Nat.reduceAdd, Nat.reduceLT, Nat.reduceLeDiff, Nat.reduceBEq, Nat.reduceEqDiff, okv_int, okv_oref, okv_onull, okv_orf, okv_aref, okv_b0, okv_b1, okv_z0, okv_bI, ckI_nI, lt31, leT, reduceCtorEq, List.mem_cons, List.mem_singleton, List.not_mem_nil, or_true, true_or, or_false, false_or, toR_ref, toR_null, ↓reduceIte, a11, g1]
  · rw [if_neg h4]
    refine ⟨fun l s' hh => ?_, fun q hh => (nomatch hh)⟩
    cases hh
    have e1 := r_take0 (d := d + 20) t (i := 4) (by decide) (bfalse h4)
    refine ⟨h, ?_, x⟩
    simp (disch := first | omega | (simp only [hnew_21, hput_21, hnew_22, hput_22]; omega) | exact isR_ref | exact isR_null | exact isR_rf | exact isR_fmt | assumption | decide) only [e_X9_read_145, e_X9_read_146, e_X9_read_148, e_X9_read_151, cR_ref, cR_null, cR_rf, c1_int, c1_ref, c1_null, c1_rf, kz_int, kz_ref, kz_null, kz_rf, kz_U, kz_long, nB_null, nB_ref, rf_none, rf_some, bV_ret, bV_thr, bA_ret, bA_thr, bX_ret, bX_thr, len4_0, len4_1, len4_2, len4_3, len4_4, true_and, and_true, and_self, if_true, if_false, Option.bind_some, nR_b1, nR_b0, nR_bI, nI_1z, nI_0z, bI_z, if_nn, gf, pf, clN, aln, gaI, gaL, gaR, saI, saR, isI, ctB, isB, gB, hput_n, hput_e, hput_21, hput_22, hnew_n, hnew_e, hnew_21, hnew_22, Option.bind_some, Option.map_some, List.lookup_cons, List.lookup_nil, beq_self_eq_true, List.getElem?_cons_zero, List.getElem?_cons_succ, List.set_cons_zero, List.set_cons_succ, List.length_cons, List.length_nil, Nat.reduceAdd, Nat.reduceLT, Nat.reduceLeDiff, Nat.reduceBEq, Nat.reduceEqDiff, okv_int, okv_oref, okv_onull, okv_orf, okv_aref, okv_b0, okv_b1, okv_z0, okv_bI, ckI_nI, lt31, leT, reduceCtorEq, List.mem_cons, List.mem_singleton, List.not_mem_nil, or_true, true_or, or_false, false_or, toR_ref, toR_null, ↓reduceIte, a1, e1]
theorem r_ord (t0 : RdR Ω h0 r c tx nm cs s0 0) (x : RqS Ω h0 s0 h r c tx nm cs s qa ar di cols [gv, .int (-1), .int 0, .int x6] lo hi ga g) : (∀ o s', pOrd cs s = .ok (o, s') → ∃ h', gO PG Ω (d + 24) 114 118 [.ref r, .ref qa, l2, l3, l4] [] h = gO PG Ω (d + 24) 114 145 [.ref r, .ref qa, l2, l3, l4] [] h' ∧ RqS Ω h0 s0 h' r c tx nm cs s' qa ar di cols [gv, .int (ordV o.1), .int (bI o.2), .int x6] lo hi ga g) ∧ (∀ q, pOrd cs s = .error q → REr h0 r c nm s0 q 3 (gO PG Ω (d + 24) 114 118 [.ref r, .ref qa, l2, l3, l4] [] h)) := by
  obtain ⟨t, _⟩ := id x
  obtain ⟨wd, p, a1, _⟩ := t.cell
  unfold pOrd
  by_cases h4 : isKy (tk cs s) 2 = true
  · rw [if_pos h4]
    obtain ⟨h1, e1, e2, e3, _⟩ := r_take1 (d := d + 17) t (i := 2) (by decide) h4
    have x1 := x.go e2 e3 (nx_lt t.2.2.2.2.1 (isKy_0 h4))
    have pre : gO PG Ω (d + 24) 114 118 [.ref r, .ref qa, l2, l3, l4] [] h = gO PG Ω (d + 24) 114 127 [.ref r, .ref qa, l2, l3, l4] [] h1 := by
      simp (disch := first | omega | (simp only [hnew_21, hput_21, hnew_22, hput_22]; omega) | exact isR_ref | exact isR_null | exact isR_rf | exact isR_fmt | assumption | decide) only [e_X9_read_118, e_X9_read_119, e_X9_read_121, cR_ref, cR_null, cR_rf, c1_int, c1_ref, c1_null, c1_rf, kz_int, kz_ref, kz_null, kz_rf, kz_U, kz_long, nB_null, nB_ref, rf_none, rf_some, bV_ret, bV_thr, bA_ret, bA_thr, bX_ret, bX_thr, len4_0, len4_1, len4_2, len4_3, len4_4, true_and, and_true, and_self, if_true, if_false, Option.bind_some, nR_b1, nR_b0, nR_bI, nI_1z, nI_0z, bI_z, if_nn, gf, pf, clN, aln, gaI, gaL, gaR, saI, saR, isI, ctB, isB, gB, hput_n, hput_e, hput_21, hput_22, hnew_n, hnew_e, hnew_21, hnew_22, Option.bind_some, Option.map_some, List.lookup_cons, List.lookup_nil, beq_self_eq_true, List.getElem?_cons_zero, List.getElem?_cons_succ, List.set_cons_zero, List.set_cons_succ, List.length_cons, List.length_nil, Nat.reduceAdd, Nat.reduceLT, Nat.reduceLeDiff, Nat.reduceBEq, Nat.reduceEqDiff, okv_int, okv_oref, okv_onull, okv_orf, okv_aref, okv_b0, okv_b1, okv_z0, okv_bI, ckI_nI, lt31, leT, reduceCtorEq, List.mem_cons, List.mem_singleton, List.not_mem_nil, or_true, true_or, or_false, false_or, toR_ref, toR_null, ↓reduceIte, a1, e1]
      simp (disch := first | omega | (simp only [hnew_21, hput_21, hnew_22, hput_22]; omega) | exact isR_ref | exact isR_null | exact isR_rf | exact isR_fmt | assumption | decide) only [e_X9_read_124, cR_ref, cR_null, cR_rf, c1_int, c1_ref, c1_null, c1_rf, kz_int, kz_ref, kz_null, kz_rf, kz_U, kz_long, nB_null, nB_ref, rf_none, rf_some, bV_ret, bV_thr, bA_ret, bA_thr, bX_ret, bX_thr, len4_0, len4_1, len4_2, len4_3, len4_4, true_and, and_true, and_self, if_true, if_false, Option.bind_some, nR_b1, nR_b0, nR_bI, nI_1z, nI_0z, bI_z, if_nn, ↓reduceIte]
    rw [pre]
    obtain ⟨wd1, p1, a11, _⟩ := e2.cell
    have rv := r_var (d := d + 14) e2
    cases hv : pVar cs (nx cs s) with
    | error q =>
      refine ⟨fun l s' hh => (nomatch hh), fun q' hh => ?_⟩
      cases hh
      obtain ⟨ex, h', hf', g1, g2⟩ := rv.2 q hv
      refine x1.er t0 (x := 1) ⟨ex, h', hf', ?_, g2⟩ (by decide)
      simp (disch := first | omega | (simp only [hnew_21, hput_21, hnew_22, hput_22]; omega) | exact isR_ref | exact isR_null | exact isR_rf | exact isR_fmt | assumption | decide) only [e_X9_read_127, e_X9_read_128, e_X9_read_129, cR_ref, cR_null, cR_rf, c1_int, c1_ref, c1_null, c1_rf, kz_int, kz_ref, kz_null, kz_rf, kz_U, kz_long, nB_null, nB_ref, rf_none, rf_some, bV_ret, bV_thr, bA_ret, bA_thr, bX_ret, bX_thr, len4_0, len4_1, len4_2, len4_3, len4_4, true_and, and_true, and_self, if_true, if_false, Option.bind_some, nR_b1, nR_b0, nR_bI, nI_1z, nI_0z, bI_z, if_nn, gf, pf, clN, aln, gaI, gaL, gaR, saI, saR, isI, ctB, isB, gB, hput_n, hput_e, hput_21, hput_22, hnew_n, hnew_e, hnew_21, hnew_22, Option.bind_some, Option.map_some, List.lookup_cons, List.lookup_nil, beq_self_eq_true, List.getElem?_cons_zero, List.getElem?_cons_succ, List.set_cons_zero, List.set_cons_succ, List.length_cons, List.length_nil, Nat.reduceAdd, Nat.reduceLT, Nat.reduceLeDiff, Nat.reduceBEq, Nat.reduceEqDiff, okv_int, okv_oref, okv_onull, okv_orf, okv_aref, okv_b0, okv_b1, okv_z0, okv_bI, ckI_nI, lt31, leT, reduceCtorEq, List.mem_cons, List.mem_singleton, List.not_mem_nil, or_true, true_or, or_false, false_or, toR_ref, toR_null, ↓reduceIte, a11, g1]
    | ok v1 =>
      obtain ⟨v, s1⟩ := v1
      dsimp only
      obtain ⟨h2', f1, f2, f3, _⟩ := rv.1 v s1 hv
      have x2 := x1.go f2 f3 (pVar_lt e2.2.2.2.2.1 hv)
      obtain ⟨_, _, _, ⟨q1, f, q2, q3⟩, _, ⟨b1, b2, b3, b4, b5, b6, b7⟩, _⟩ := id x2
      have x3 := x2.put (tl' := [gv, .int (nI v), .int 0, .int x6])
      obtain ⟨t3, _⟩ := id x3
      obtain ⟨wd3, p3, a13, _⟩ := f2.cell
      have hra : r ≠ qa := fun z => by rw [z, q1] at a13; cases a13
      have pre2 : gO PG Ω (d + 24) 114 127 [.ref r, .ref qa, l2, l3, l4] [] h1 = gO PG Ω (d + 24) 114 135 [.ref r, .ref qa, l2, l3, l4] [] (hput h2' qa (.inr (8, .int di :: .ref ar :: .int (nI cols.length) :: [gv, .int (nI v), .int 0, .int x6]))) := by
        simp (disch := first | omega | (simp only [hnew_21, hput_21, hnew_22, hput_22]; omega) | exact isR_ref | exact isR_null | exact isR_rf | exact isR_fmt | assumption | decide) only [e_X9_read_127, e_X9_read_128, e_X9_read_129, cR_ref, cR_null, cR_rf, c1_int, c1_ref, c1_null, c1_rf, kz_int, kz_ref, kz_null, kz_rf, kz_U, kz_long, nB_null, nB_ref, rf_none, rf_some, bV_ret, bV_thr, bA_ret, bA_thr, bX_ret, bX_thr, len4_0, len4_1, len4_2, len4_3, len4_4, true_and, and_true, and_self, if_true, if_false, Option.bind_some, nR_b1, nR_b0, nR_bI, nI_1z, nI_0z, bI_z, if_nn, gf, pf, clN, aln, gaI, gaL, gaR, saI, saR, isI, ctB, isB, gB, hput_n, hput_e, hput_21, hput_22, hnew_n, hnew_e, hnew_21, hnew_22, Option.bind_some, Option.map_some, List.lookup_cons, List.lookup_nil, beq_self_eq_true, List.getElem?_cons_zero, List.getElem?_cons_succ, List.set_cons_zero, List.set_cons_succ, List.length_cons, List.length_nil, Nat.reduceAdd, Nat.reduceLT, Nat.reduceLeDiff, Nat.reduceBEq, Nat.reduceEqDiff, okv_int, okv_oref, okv_onull, okv_orf, okv_aref, okv_b0, okv_b1, okv_z0, okv_bI, ckI_nI, lt31, leT, reduceCtorEq, List.mem_cons, List.mem_singleton, List.not_mem_nil, or_true, true_or, or_false, false_or, toR_ref, toR_null, ↓reduceIte, a11, f1]
        simp (disch := first | omega | (simp only [hnew_21, hput_21, hnew_22, hput_22]; omega) | exact isR_ref | exact isR_null | exact isR_rf | exact isR_fmt | assumption | decide) only [e_X9_read_132, cR_ref, cR_null, cR_rf, c1_int, c1_ref, c1_null, c1_rf, kz_int, kz_ref, kz_null, kz_rf, kz_U, kz_long, nB_null, nB_ref, rf_none, rf_some, bV_ret, bV_thr, bA_ret, bA_thr, bX_ret, bX_thr, len4_0, len4_1, len4_2, len4_3, len4_4, true_and, and_true, and_self, if_true, if_false, Option.bind_some, nR_b1, nR_b0, nR_bI, nI_1z, nI_0z, bI_z, if_nn, gf, pf, clN, aln, gaI, gaL, gaR, saI, saR, isI, ctB, isB, gB, hput_n, hput_e, hput_21, hput_22, hnew_n, hnew_e, hnew_21, hnew_22, Option.bind_some, Option.map_some, List.lookup_cons, List.lookup_nil, beq_self_eq_true, List.getElem?_cons_zero, List.getElem?_cons_succ, List.set_cons_zero, List.set_cons_succ, List.length_cons, List.length_nil, Nat.reduceAdd, Nat.reduceLT, Nat.reduceLeDiff, Nat.reduceBEq, Nat.reduceEqDiff, okv_int, okv_oref, okv_onull, okv_orf, okv_aref, okv_b0, okv_b1, okv_z0, okv_bI, ckI_nI, lt31, leT, reduceCtorEq, List.mem_cons, List.mem_singleton, List.not_mem_nil, or_true, true_or, or_false, false_or, toR_ref, toR_null, ↓reduceIte, q1]
      rw [pre2]
      by_cases h3 : isKy (tk cs s1) 3 = true
      · rw [if_pos h3]
        refine ⟨fun l s' hh => ?_, fun q hh => (nomatch hh)⟩
        cases hh
        obtain ⟨h5, k1, k2, k3, _⟩ := r_take1 (d := d + 17) t3 (i := 3) (by decide) h3
        have x4' := x3.go k2 k3 (nx_lt t3.2.2.2.2.1 (isKy_0 h3))
        obtain ⟨_, _, _, ⟨q1', f', q2', q3'⟩, _, _⟩ := id x4'
        refine ⟨_, ?_, x4'.put⟩
        simp (disch := first | omega | (simp only [hnew_21, hput_21, hnew_22, hput_22]; omega) | exact isR_ref | exact isR_null | exact isR_rf | exact isR_fmt | assumption | decide) only [e_X9_read_135, e_X9_read_136, e_X9_read_137, e_X9_read_139, cR_ref, cR_null, cR_rf, c1_int, c1_ref, c1_null, c1_rf, kz_int, kz_ref, kz_null, kz_rf, kz_U, kz_long, nB_null, nB_ref, rf_none, rf_some, bV_ret, bV_thr, bA_ret, bA_thr, bX_ret, bX_thr, len4_0, len4_1, len4_2, len4_3, len4_4, true_and, and_true, and_self, if_true, if_false, Option.bind_some, nR_b1, nR_b0, nR_bI, nI_1z, nI_0z, bI_z, if_nn, gf, pf, clN, aln, gaI, gaL, gaR, saI, saR, isI, ctB, isB, gB, hput_n, hput_e, hput_21, hput_22, hnew_n, hnew_e, hnew_21, hnew_22, Option.bind_some, Option.map_some, List.lookup_cons, List.lookup_nil, beq_self_eq_true, List.getElem?_cons_zero, List.getElem?_cons_succ, List.set_cons_zero, List.set_cons_succ, List.length_cons, List.length_nil, Nat.reduceAdd, Nat.reduceLT, Nat.reduceLeDiff, Nat.reduceBEq, Nat.reduceEqDiff, okv_int, okv_oref, okv_onull, okv_orf, okv_aref, okv_b0, okv_b1, okv_z0, okv_bI, ckI_nI, lt31, leT, reduceCtorEq, List.mem_cons, List.mem_singleton, List.not_mem_nil, or_true, true_or, or_false, false_or, toR_ref, toR_null, ↓reduceIte, a13, hra, k1]
        simp (disch := first | omega | (simp only [hnew_21, hput_21, hnew_22, hput_22]; omega) | exact isR_ref | exact isR_null | exact isR_rf | exact isR_fmt | assumption | decide) only [e_X9_read_142, cR_ref, cR_null, cR_rf, c1_int, c1_ref, c1_null, c1_rf, kz_int, kz_ref, kz_null, kz_rf, kz_U, kz_long, nB_null, nB_ref, rf_none, rf_some, bV_ret, bV_thr, bA_ret, bA_thr, bX_ret, bX_thr, len4_0, len4_1, len4_2, len4_3, len4_4, true_and, and_true, and_self, if_true, if_false, Option.bind_some, nR_b1, nR_b0, nR_bI, nI_1z, nI_0z, bI_z, if_nn, gf, pf, clN, aln, gaI, gaL, gaR, saI, saR, isI, ctB, isB, gB, hput_n, hput_e, hput_21, hput_22, hnew_n, hnew_e, hnew_21, hnew_22, Option.bind_some, Option.map_some, List.lookup_cons, List.lookup_nil, beq_self_eq_true, List.getElem?_cons_zero, List.getElem?_cons_succ, List.set_cons_zero, List.set_cons_succ, List.length_cons, List.length_nil, Nat.reduceAdd, Nat.reduceLT, Nat.reduceLeDiff, Nat.reduceBEq, Nat.reduceEqDiff, okv_int, okv_oref, okv_onull, okv_orf, okv_aref, okv_b0, okv_b1, okv_z0, okv_bI, ckI_nI, lt31, leT, reduceCtorEq, List.mem_cons, List.mem_singleton, List.not_mem_nil, or_true, true_or, or_false, false_or, toR_ref, toR_null, ↓reduceIte, q1']
        rfl
      · rw [if_neg h3]
        refine ⟨fun l s' hh => ?_, fun q hh => (nomatch hh)⟩
        cases hh
        have k1 := r_take0 (d := d + 20) t3 (i := 3) (by decide) (bfalse h3)
        refine ⟨_, ?_, x3.put⟩
        simp (disch := first | omega | (simp only [hnew_21, hput_21, hnew_22, hput_22]; omega) | exact isR_ref | exact isR_null | exact isR_rf | exact isR_fmt | assumption | decide) only [e_X9_read_135, e_X9_read_136, e_X9_read_137, e_X9_read_139, e_X9_read_142, cR_ref, cR_null, cR_rf, c1_int, c1_ref, c1_null, c1_rf, kz_int, kz_ref, kz_null, kz_rf, kz_U, kz_long, nB_null, nB_ref, rf_none, rf_some, bV_ret, bV_thr, bA_ret, bA_thr, bX_ret, bX_thr, len4_0, len4_1, len4_2, len4_3, len4_4, true_and, and_true, and_self, if_true, if_false, Option.bind_some, nR_b1, nR_b0, nR_bI, nI_1z, nI_0z, bI_z, if_nn, gf, pf, clN, aln, gaI, gaL, gaR, saI, saR, isI, ctB, isB, gB, hput_n, hput_e, hput_21, hput_22, hnew_n, hnew_e, hnew_21, hnew_22, Option.bind_some, Option.map_some, List.lookup_cons, List.lookup_nil, beq_self_eq_true, List.getElem?_cons_zero, List.getElem?_cons_succ, List.set_cons_zero, List.set_cons_succ, List.length_cons, List.length_nil, Nat.reduceAdd, Nat.reduceLT, Nat.reduceLeDiff, Nat.reduceBEq, Nat.reduceEqDiff, okv_int, okv_oref, okv_onull, okv_orf, okv_aref, okv_b0, okv_b1, okv_z0, okv_bI, ckI_nI, lt31, leT, reduceCtorEq, List.mem_cons, List.mem_singleton, List.not_mem_nil, or_true, true_or, or_false, false_or, toR_ref, toR_null, ↓reduceIte, a13, hra, k1]
        rfl
  · rw [if_neg h4]
    refine ⟨fun l s' hh => ?_, fun q hh => (nomatch hh)⟩
    cases hh
    have e1 := r_take0 (d := d + 20) t (i := 2) (by decide) (bfalse h4)
    refine ⟨h, ?_, x⟩
    simp (disch := first | omega | (simp only [hnew_21, hput_21, hnew_22, hput_22]; omega) | exact isR_ref | exact isR_null | exact isR_rf | exact isR_fmt | assumption | decide) only [e_X9_read_118, e_X9_read_119, e_X9_read_121, e_X9_read_124, cR_ref, cR_null, cR_rf, c1_int, c1_ref, c1_null, c1_rf, kz_int, kz_ref, kz_null, kz_rf, kz_U, kz_long, nB_null, nB_ref, rf_none, rf_some, bV_ret, bV_thr, bA_ret, bA_thr, bX_ret, bX_thr, len4_0, len4_1, len4_2, len4_3, len4_4, true_and, and_true, and_self, if_true, if_false, Option.bind_some, nR_b1, nR_b0, nR_bI, nI_1z, nI_0z, bI_z, if_nn, gf, pf, clN, aln, gaI, gaL, gaR, saI, saR, isI, ctB, isB, gB, hput_n, hput_e, hput_21, hput_22, hnew_n, hnew_e, hnew_21, hnew_22, Option.bind_some, Option.map_some, List.lookup_cons, List.lookup_nil, beq_self_eq_true, List.getElem?_cons_zero, List.getElem?_cons_succ, List.set_cons_zero, List.set_cons_succ, List.length_cons, List.length_nil, Nat.reduceAdd, Nat.reduceLT, Nat.reduceLeDiff, Nat.reduceBEq, Nat.reduceEqDiff, okv_int, okv_oref, okv_onull, okv_orf, okv_aref, okv_b0, okv_b1, okv_z0, okv_bI, ckI_nI, lt31, leT, reduceCtorEq, List.mem_cons, List.mem_singleton, List.not_mem_nil, or_true, true_or, or_false, false_or, toR_ref, toR_null, ↓reduceIte, a1, e1]
/-- from the group on -/
theorem r_grp (t0 : RdR Ω h0 r c tx nm cs s0 0) (t : RdR Ω h r c tx nm cs s 0) (nn : Nx [r, nm] (10 * (s.1 - s0.1)) (300 * (s.1 - s0.1)) h0 h) (hs0 : s0.1 ≤ s.1) (hq : QuI h qa ar di cols [gv, .int x4, .int x5, .int x6]) (hqa : h0.2.1 ≤ qa) : (∀ g s', pG cs 4 s = .ok (g, s') → ∃ h' lo hi ga, gO PG Ω (d + 24) 114 110 [.ref r, .ref qa, l2, l3, l4] [] h = gO PG Ω (d + 24) 114 118 [.ref r, .ref qa, l2, l3, l4] [] h' ∧ RqS Ω h0 s0 h' r c tx nm cs s' qa ar di cols [.ref ga, .int x4, .int x5, .int x6] lo hi ga g) ∧ (∀ q, pG cs 4 s = .error q → REr h0 r c nm s0 q 3 (gO PG Ω (d + 24) 114 110 [.ref r, .ref qa, l2, l3, l4] [] h)) := by
  obtain ⟨wd, p, a1, _⟩ := t.cell
  have hg := HGr.four (d := d) t
  have hz0 : Ω.sz ≤ h0.2.1 := t0.2.2.2.2.2.2.2.2.1.2.2.2.2
  refine ⟨fun g s' hh => ?_, fun q hh => ?_⟩
  · obtain ⟨hlt, u, h2, f1, f2, f3, f4, f5, f6, fs, f7⟩ := hg.1 g s' hh
    obtain ⟨q1, f, q2, q3⟩ := hq.nx t f3
    obtain ⟨lr, ln, lc⟩ := t.lts
    have hql : qa < h.2.1 := t.fe.lt hq.1
    have x : RqS Ω h0 s0 h2 r c tx nm cs s' qa ar di cols [gv, .int x4, .int x5, .int x6] h.2.1 h2.2.1 u g := ⟨f2, (nn.trans f3).mono (fun _ z => z) (by omega) (by omega), by omega, ⟨q1, f, q2, q3⟩, f4, ⟨hql, lr, ln, f5, f6, hqa, by omega⟩, fs, f7⟩
    refine ⟨_, _, _, u, ?_, x.put⟩
    have hzq : Ω.sz ≤ qa := by omega
    simp (disch := first | omega | (simp only [hnew_21, hput_21, hnew_22, hput_22]; omega) | exact isR_ref | exact isR_null | exact isR_rf | exact isR_fmt | assumption | decide) only [e_X9_read_110, e_X9_read_111, e_X9_read_112, cR_ref, cR_null, cR_rf, c1_int, c1_ref, c1_null, c1_rf, kz_int, kz_ref, kz_null, kz_rf, kz_U, kz_long, nB_null, nB_ref, rf_none, rf_some, bV_ret, bV_thr, bA_ret, bA_thr, bX_ret, bX_thr, len4_0, len4_1, len4_2, len4_3, len4_4, true_and, and_true, and_self, if_true, if_false, Option.bind_some, nR_b1, nR_b0, nR_bI, nI_1z, nI_0z, bI_z, if_nn, gf, pf, clN, aln, gaI, gaL, gaR, saI, saR, isI, ctB, isB, gB, hput_n, hput_e, hput_21, hput_22, hnew_n, hnew_e, hnew_21, hnew_22, Option.bind_some, Option.map_some, List.lookup_cons, List.lookup_nil, beq_self_eq_true, List.getElem?_cons_zero, List.getElem?_cons_succ, List.set_cons_zero, List.set_cons_succ, List.length_cons, List.length_nil, Nat.reduceAdd, Nat.reduceLT, Nat.reduceLeDiff, Nat.reduceBEq, Nat.reduceEqDiff, okv_int, okv_oref, okv_onull, okv_orf, okv_aref, okv_b0, okv_b1, okv_z0, okv_bI, ckI_nI, lt31, leT, reduceCtorEq, List.mem_cons, List.mem_singleton, List.not_mem_nil, or_true, true_or, or_false, false_or, toR_ref, toR_null, ↓reduceIte, a1, f1]
    simp (disch := first | omega | (simp only [hnew_21, hput_21, hnew_22, hput_22]; omega) | exact isR_ref | exact isR_null | exact isR_rf | exact isR_fmt | assumption | decide) only [e_X9_read_115, cR_ref, cR_null, cR_rf, c1_int, c1_ref, c1_null, c1_rf, kz_int, kz_ref, kz_null, kz_rf, kz_U, kz_long, nB_null, nB_ref, rf_none, rf_some, bV_ret, bV_thr, bA_ret, bA_thr, bX_ret, bX_thr, len4_0, len4_1, len4_2, len4_3, len4_4, true_and, and_true, and_self, if_true, if_false, Option.bind_some, nR_b1, nR_b0, nR_bI, nI_1z, nI_0z, bI_z, if_nn, gf, pf, clN, aln, gaI, gaL, gaR, saI, saR, isI, ctB, isB, gB, hput_n, hput_e, hput_21, hput_22, hnew_n, hnew_e, hnew_21, hnew_22, Option.bind_some, Option.map_some, List.lookup_cons, List.lookup_nil, beq_self_eq_true, List.getElem?_cons_zero, List.getElem?_cons_succ, List.set_cons_zero, List.set_cons_succ, List.length_cons, List.length_nil, Nat.reduceAdd, Nat.reduceLT, Nat.reduceLeDiff, Nat.reduceBEq, Nat.reduceEqDiff, okv_int, okv_oref, okv_onull, okv_orf, okv_aref, okv_b0, okv_b1, okv_z0, okv_bI, ckI_nI, lt31, leT, reduceCtorEq, List.mem_cons, List.mem_singleton, List.not_mem_nil, or_true, true_or, or_false, false_or, toR_ref, toR_null, ↓reduceIte, q1]
  · obtain ⟨ex, h', hf', g1, g2⟩ := hg.2 q hh
    have e : REr h r c nm s q 1 (gO PG Ω (d + 24) 114 110 [.ref r, .ref qa, l2, l3, l4] [] h) := by
      refine ⟨ex, h', hf', ?_, g2⟩
      simp (disch := first | omega | (simp only [hnew_21, hput_21, hnew_22, hput_22]; omega) | exact isR_ref | exact isR_null | exact isR_rf | exact isR_fmt | assumption | decide) only [e_X9_read_110, e_X9_read_111, e_X9_read_112, cR_ref, cR_null, cR_rf, c1_int, c1_ref, c1_null, c1_rf, kz_int, kz_ref, kz_null, kz_rf, kz_U, kz_long, nB_null, nB_ref, rf_none, rf_some, bV_ret, bV_thr, bA_ret, bA_thr, bX_ret, bX_thr, len4_0, len4_1, len4_2, len4_3, len4_4, true_and, and_true, and_self, if_true, if_false, Option.bind_some, nR_b1, nR_b0, nR_bI, nI_1z, nI_0z, bI_z, if_nn, gf, pf, clN, aln, gaI, gaL, gaR, saI, saR, isI, ctB, isB, gB, hput_n, hput_e, hput_21, hput_22, hnew_n, hnew_e, hnew_21, hnew_22, Option.bind_some, Option.map_some, List.lookup_cons, List.lookup_nil, beq_self_eq_true, List.getElem?_cons_zero, List.getElem?_cons_succ, List.set_cons_zero, List.set_cons_succ, List.length_cons, List.length_nil, Nat.reduceAdd, Nat.reduceLT, Nat.reduceLeDiff, Nat.reduceBEq, Nat.reduceEqDiff, okv_int, okv_oref, okv_onull, okv_orf, okv_aref, okv_b0, okv_b1, okv_z0, okv_bI, ckI_nI, lt31, leT, reduceCtorEq, List.mem_cons, List.mem_singleton, List.not_mem_nil, or_true, true_or, or_false, false_or, toR_ref, toR_null, ↓reduceIte, a1, g1]
    exact e.back2 t0 nn hs0 t.2.2.2.2.1 (by omega) (by omega)
theorem r_rest {dB : Bool} {cs' : List Nat} (t0 : RdR Ω h0 r c tx nm cs s0 0) (t : RdR Ω h r c tx nm cs s 0) (nn : Nx [r, nm] K M h0 h) (hK : K ≤ 10 * (s.1 - s0.1)) (hM : M ≤ 300 * (s.1 - s0.1)) (hs0 : s0.1 ≤ s.1) (hq : QuI h qa ar (bI dB) [] [gv, .int (-1), .int 0, .int (nI 150)]) (hqa : h0.2.1 ≤ qa) (har : h0.2.1 ≤ ar) : (∀ y, pRest cs dB s = .ok y → ∃ h', gO PG Ω (d + 24) 114 38 [.ref r, .ref qa, .int (nI 1), l3, l4] [] h = some (.returned (some (.ref qa)), h') ∧ QryR h' qa y ∧ (∃ s', RdR Ω h' r c tx nm cs s' 0) ∧ Nx [r, nm] (10 * (cs.length - s0.1)) (300 * (cs.length - s0.1)) h0 h') ∧ (∀ q, pRest cs dB s = .error q → REr h0 r c nm s0 q 3 (gO PG Ω (d + 24) 114 38 [.ref r, .ref qa, .int (nI 1), l3, l4] [] h)) := by
  have hz0 : Ω.sz ≤ h0.2.1 := t0.2.2.2.2.2.2.2.2.1.2.2.2.2
  have rc := r_cols (d := d + 14) (tl := [gv, .int (-1), .int 0, .int (nI 150)]) (di := bI dB) hqa har (show Ω.sz ≤ qa by omega) (show Ω.sz ≤ ar by omega) t0 6 [] h s K M l3 l4 rfl (fun z => (nomatch z)) t nn hs0 hK hM hq
  unfold pRest
  cases h1 : pCols cs 6 s with
  | error q =>
    refine ⟨fun y hh => (nomatch hh), fun q' hh => ?_⟩
    cases hh
    exact rc.2 q h1
  | ok v1 =>
    obtain ⟨vs, s2⟩ := v1
    dsimp only
    obtain ⟨x1, x0, h2, l2', l3', l4', x2, x3, x4', x5'⟩ := rc.1 vs s2 h1
    rw [x2]
    rw [List.nil_append] at x0 x5'
    have rg := r_grp (d := d) (l2 := l2') (l3 := l3') (l4 := l4') t0 x3 x4' (by omega) x5' hqa
    cases h2' : pG cs 4 s2 with
    | error q =>
      refine ⟨fun y hh => (nomatch hh), fun q' hh => ?_⟩
      cases hh
      exact rg.2 q h2'
    | ok v2 =>
      obtain ⟨g, s3⟩ := v2
      dsimp only
      obtain ⟨h3, lo, hi, ga, y1, y2⟩ := rg.1 g s3 h2'
      rw [y1]
      have ro := r_ord (d := d) (l2 := l2') (l3 := l3') (l4 := l4') t0 y2
      cases h3' : pOrd cs s3 with
      | error q =>
        refine ⟨fun y hh => (nomatch hh), fun q' hh => ?_⟩
        cases hh
        exact ro.2 q h3'
      | ok v3 =>
        obtain ⟨o, s4⟩ := v3
        dsimp only
        obtain ⟨h4, z1, z2⟩ := ro.1 o s4 h3'
        rw [z1]
        have rl := r_lim (d := d) (l2 := l2') (l3 := l3') (l4 := l4') t0 z2
        cases h4' : pLim cs s4 with
        | error q =>
          refine ⟨fun y hh => (nomatch hh), fun q' hh => ?_⟩
          cases hh
          exact rl.2 q h4'
        | ok v4 =>
          obtain ⟨l, s5⟩ := v4
          dsimp only
          obtain ⟨h5, w1, w2⟩ := rl.1 l s5 h4'
          rw [w1]
          have rf := r_fin (d := d) (l2 := l2') (l3 := l3') (l4 := l4') w2
          by_cases h0' : (tk cs s5).1 = 0
          · rw [if_pos h0']
            refine ⟨fun y hh => ?_, fun q' hh => (nomatch hh)⟩
            cases hh
            obtain ⟨t', n, z, ⟨q1, f, q2, q3⟩, gF, _, cg⟩ := w2
            have hs5 := t'.2.2.2.2.1
            exact ⟨h5, rf.1 h0', ⟨ar, ga, f, q1, q2, q3, x0, gF h5 Agr.rfl', cg⟩, ⟨_, t'⟩, n.mono (fun _ z => z) (by omega) (by omega)⟩
          · rw [if_neg h0']
            refine ⟨fun y hh => (nomatch hh), fun q' hh => ?_⟩
            cases hh
            exact w2.er t0 (rf.2 h0') (by decide)
set_option maxHeartbeats 2000000 in
theorem r_read (t : RdR Ω h r c tx nm cs (0, [], 0) 0) : (∀ y, pQry cs = .ok y → ∃ qa h', gM PG Ω (d + 25) 114 [.ref r] h = some (.returned (some (.ref qa)), h') ∧ QryR h' qa y ∧ (∃ s', RdR Ω h' r c tx nm cs s' 0) ∧ Nx [r, nm] (10 * cs.length) (300 * cs.length) h h') ∧ (∀ q, pQry cs = .error q → REr h r c nm (0, [], 0) q 3 (gM PG Ω (d + 25) 114 [.ref r] h)) := by
  have hz0 : Ω.sz ≤ h.2.1 := t.2.2.2.2.2.2.2.2.1.2.2.2.2
  have hfe := t.fe
  have g0 : (hnew h (.inr (8, [.int 0, .null, .int 0, .null, .int 0, .int 0, .int 0])) 7).1 h.2.1 = some (.inr (8, [.int 0, .null, .int 0, .null, .int 0, .int 0, .int 0])) := hnew_e
  have ei := i_qry (Ω := Ω) (d := d + 22) hz0 (by rw [hnew_21]; omega) g0
  rw [hnew_21] at ei
  have t1 := t.ku (Ku.new (e := .inr (8, [.int 0, .null, .int 0, .null, .int 0, .int 0, .int 0])) (N := 7) hfe)
  have t2 := t1.ku (Ku.new (e := arI .int 6 (fun _ => 0)) (N := 6) t1.fe)
  have n2 : Nx [] 2 13 h (hnew (hnew h (.inr (8, [.int 0, .null, .int 0, .null, .int 0, .int 0, .int 0])) 7) (arI .int 6 (fun _ => 0)) 6) := ((Nx.rfl' hfe).new).new
  have g1 : (hnew (hnew h (.inr (8, [.int 0, .null, .int 0, .null, .int 0, .int 0, .int 0])) 7) (arI .int 6 (fun _ => 0)) 6).1 h.2.1 = some (.inr (8, [.int 0, .null, .int 0, .null, .int 0, .int 0, .int 0])) := by rw [hnew_n (by rw [hnew_21]; omega)]; exact g0
  have g2 : (hnew (hnew h (.inr (8, [.int 0, .null, .int 0, .null, .int 0, .int 0, .int 0])) 7) (arI .int 6 (fun _ => 0)) 6).1 (h.2.1 + 1) = some (arI .int 6 (fun _ => 0)) := by
    have := hnew_e (h := hnew h (.inr (8, [.int 0, .null, .int 0, .null, .int 0, .int 0, .int 0])) 7) (e := arI .int 6 (fun _ => 0)) (N := 6)
    rw [hnew_21] at this; exact this
  have sz2 : (hnew (hnew h (.inr (8, [.int 0, .null, .int 0, .null, .int 0, .int 0, .int 0])) 7) (arI .int 6 (fun _ => 0)) 6).2.1 = h.2.1 + 2 := by rw [hnew_21, hnew_21]
  have e00 : gM PG Ω (d + 25) 114 [.ref r] h = gO PG Ω (d + 24) 114 8 [.ref r, .ref h.2.1, U, U, U] [] (hput (hnew (hnew h (.inr (8, [.int 0, .null, .int 0, .null, .int 0, .int 0, .int 0])) 7) (arI .int 6 (fun _ => 0)) 6) h.2.1 (.inr (8, [.int 0, .ref (h.2.1 + 1), .int 0, .null, .int (-1), .int 0, .int (nI 150)]))) := by
    simp (disch := first | omega | (simp only [hnew_21, hput_21, hnew_22, hput_22]; omega) | exact isR_ref | exact isR_null | exact isR_rf | exact isR_fmt | assumption | decide) only [n_X9_read, e_X9_read_0, e_X9_read_3, e_X9_read_4, e_X9_read_7, cR_ref, cR_null, cR_rf, c1_int, c1_ref, c1_null, c1_rf, kz_int, kz_ref, kz_null, kz_rf, kz_U, kz_long, nB_null, nB_ref, rf_none, rf_some, bV_ret, bV_thr, bA_ret, bA_thr, bX_ret, bX_thr, len4_0, len4_1, len4_2, len4_3, len4_4, true_and, and_true, and_self, if_true, if_false, Option.bind_some, nR_b1, nR_b0, nR_bI, nI_1z, nI_0z, bI_z, if_nn, List.length_cons, List.length_nil, Nat.reduceAdd, Nat.reduceLeDiff, ↓reduceIte, ei]
  rw [e00]
  generalize hH : hnew (hnew h (.inr (8, [.int 0, .null, .int 0, .null, .int 0, .int 0, .int 0])) 7) (arI .int 6 (fun _ => 0)) 6 = H at *
  have n3 : Nx [] 2 13 h (hput H h.2.1 (.inr (8, [.int 0, .ref (h.2.1 + 1), .int 0, .null, .int (-1), .int 0, .int (nI 150)]))) := n2.put (.inr (Nat.le_refl _)) (by omega)
  have t3 := t2.ku (Ku.put (e := .inr (8, [.int 0, .ref (h.2.1 + 1), .int 0, .null, .int (-1), .int 0, .int (nI 150)])) t2.fe g1 ⟨by decide, by decide, by decide⟩)
  have hq3 : QuI (hput H h.2.1 (.inr (8, [.int 0, .ref (h.2.1 + 1), .int 0, .null, .int (-1), .int 0, .int (nI 150)]))) h.2.1 (h.2.1 + 1) 0 [] [.null, .int (-1), .int 0, .int (nI 150)] := ⟨hput_e, _, by rw [hput_n (by omega)]; exact g2, fun i v q => by simp at q⟩
  generalize hput H h.2.1 (.inr (8, [.int 0, .ref (h.2.1 + 1), .int 0, .null, .int (-1), .int 0, .int (nI 150)])) = H3 at *
  have ik := r_isKey (d := d + 21) t3 (i := 0) (by decide)
  obtain ⟨wd, p, a1, _⟩ := t3.cell
  unfold pQry
  by_cases h0 : isKy (tk cs (0, [], 0)) 0 = true
  · rw [if_pos h0]
    rw [h0] at ik
    obtain ⟨h1, e1, e2, e3, e4, e5⟩ := r_adv (d := d + 18) t3 (isKy_0 h0)
    have hq1 := hq3.nx t3 e3
    have n1 := (n3.mono (S' := [r, nm]) (fun _ z => nomatch z) (Nat.le_refl _) (Nat.le_refl _)).trans e3
    obtain ⟨wd1, p1, a11, _⟩ := e2.cell
    have pre : gO PG Ω (d + 24) 114 8 [.ref r, .ref h.2.1, U, U, U] [] H3 = gO PG Ω (d + 24) 114 26 [.ref r, .ref h.2.1, U, U, U] [] h1 := by
      have ik' : gM PG Ω (d + 24) 115 [.ref r, .ref (Ω.k 2)] H3 = some (.returned (some (.int (nI 1))), H3) := ik
      simp (disch := first | omega | (simp only [hnew_21, hput_21, hnew_22, hput_22]; omega) | exact isR_ref | exact isR_null | exact isR_rf | exact isR_fmt | assumption | decide) only [e_X9_read_8, e_X9_read_9, e_X9_read_10, e_X9_read_12, e_X9_read_15, e_X9_read_16, e_X9_read_19, e_X9_read_22, e_X9_read_23, cR_ref, cR_null, cR_rf, c1_int, c1_ref, c1_null, c1_rf, kz_int, kz_ref, kz_null, kz_rf, kz_U, kz_long, nB_null, nB_ref, rf_none, rf_some, bV_ret, bV_thr, bA_ret, bA_thr, bX_ret, bX_thr, len4_0, len4_1, len4_2, len4_3, len4_4, true_and, and_true, and_self, if_true, if_false, Option.bind_some, nR_b1, nR_b0, nR_bI, nI_1z, nI_0z, bI_z, if_nn, gf, pf, clN, aln, gaI, gaL, gaR, saI, saR, isI, ctB, isB, gB, hput_n, hput_e, hput_21, hput_22, hnew_n, hnew_e, hnew_21, hnew_22, Option.bind_some, Option.map_some, List.lookup_cons, List.lookup_nil, beq_self_eq_true, List.getElem?_cons_zero, List.getElem?_cons_succ, List.set_cons_zero, List.set_cons_succ, List.length_cons, List.length_nil, Nat.reduceAdd, Nat.reduceLT, Nat.reduceLeDiff, Nat.reduceBEq, Nat.reduceEqDiff, okv_int, okv_oref, okv_onull, okv_orf, okv_aref, okv_b0, okv_b1, okv_z0, okv_bI, ckI_nI, lt31, leT, reduceCtorEq, List.mem_cons, List.mem_singleton, List.not_mem_nil, or_true, true_or, or_false, false_or, toR_ref, toR_null, ↓reduceIte, a1, ik', r_chk1, e1]
    rw [pre]
    by_cases hd : isKy (tk cs (nx cs (0, [], 0))) 1 = true
    · rw [if_pos hd, hd]
      obtain ⟨h2, f1, f2, f3, _⟩ := r_take1 (d := d + 17) e2 (i := 1) (by decide) hd
      have hlt := nx_lt e2.2.2.2.2.1 (isKy_0 hd)
      obtain ⟨q1, f, q2, q3⟩ := hq1.nx e2 f3
      have hne : h.2.1 + 1 ≠ h.2.1 := by omega
      have t4 := f2.ku (Ku.put (e := .inr (8, [.int (bI true), .ref (h.2.1 + 1), .int (nI 0), .null, .int (-1), .int 0, .int (nI 150)])) f2.fe q1 ⟨by decide, by decide, by decide⟩)
      have pre2 : gO PG Ω (d + 24) 114 26 [.ref r, .ref h.2.1, U, U, U] [] h1 = gO PG Ω (d + 24) 114 38 [.ref r, .ref h.2.1, .int (nI 1), U, U] [] (hput h2 h.2.1 (.inr (8, [.int (bI true), .ref (h.2.1 + 1), .int (nI 0), .null, .int (-1), .int 0, .int (nI 150)]))) := by
        simp (disch := first | omega | (simp only [hnew_21, hput_21, hnew_22, hput_22]; omega) | exact isR_ref | exact isR_null | exact isR_rf | exact isR_fmt | assumption | decide) only [e_X9_read_26, e_X9_read_27, e_X9_read_28, e_X9_read_30, cR_ref, cR_null, cR_rf, c1_int, c1_ref, c1_null, c1_rf, kz_int, kz_ref, kz_null, kz_rf, kz_U, kz_long, nB_null, nB_ref, rf_none, rf_some, bV_ret, bV_thr, bA_ret, bA_thr, bX_ret, bX_thr, len4_0, len4_1, len4_2, len4_3, len4_4, true_and, and_true, and_self, if_true, if_false, Option.bind_some, nR_b1, nR_b0, nR_bI, nI_1z, nI_0z, bI_z, if_nn, gf, pf, clN, aln, gaI, gaL, gaR, saI, saR, isI, ctB, isB, gB, hput_n, hput_e, hput_21, hput_22, hnew_n, hnew_e, hnew_21, hnew_22, Option.bind_some, Option.map_some, List.lookup_cons, List.lookup_nil, beq_self_eq_true, List.getElem?_cons_zero, List.getElem?_cons_succ, List.set_cons_zero, List.set_cons_succ, List.length_cons, List.length_nil, Nat.reduceAdd, Nat.reduceLT, Nat.reduceLeDiff, Nat.reduceBEq, Nat.reduceEqDiff, okv_int, okv_oref, okv_onull, okv_orf, okv_aref, okv_b0, okv_b1, okv_z0, okv_bI, ckI_nI, lt31, leT, reduceCtorEq, List.mem_cons, List.mem_singleton, List.not_mem_nil, or_true, true_or, or_false, false_or, toR_ref, toR_null, ↓reduceIte, a11, f1]
        simp (disch := first | omega | (simp only [hnew_21, hput_21, hnew_22, hput_22]; omega) | exact isR_ref | exact isR_null | exact isR_rf | exact isR_fmt | assumption | decide) only [e_X9_read_33, e_X9_read_36, e_X9_read_37, cR_ref, cR_null, cR_rf, c1_int, c1_ref, c1_null, c1_rf, kz_int, kz_ref, kz_null, kz_rf, kz_U, kz_long, nB_null, nB_ref, rf_none, rf_some, bV_ret, bV_thr, bA_ret, bA_thr, bX_ret, bX_thr, len4_0, len4_1, len4_2, len4_3, len4_4, true_and, and_true, and_self, if_true, if_false, Option.bind_some, nR_b1, nR_b0, nR_bI, nI_1z, nI_0z, bI_z, if_nn, gf, pf, clN, aln, gaI, gaL, gaR, saI, saR, isI, ctB, isB, gB, hput_n, hput_e, hput_21, hput_22, hnew_n, hnew_e, hnew_21, hnew_22, Option.bind_some, Option.map_some, List.lookup_cons, List.lookup_nil, beq_self_eq_true, List.getElem?_cons_zero, List.getElem?_cons_succ, List.set_cons_zero, List.set_cons_succ, List.length_cons, List.length_nil, Nat.reduceAdd, Nat.reduceLT, Nat.reduceLeDiff, Nat.reduceBEq, Nat.reduceEqDiff, okv_int, okv_oref, okv_onull, okv_orf, okv_aref, okv_b0, okv_b1, okv_z0, okv_bI, ckI_nI, lt31, leT, reduceCtorEq, List.mem_cons, List.mem_singleton, List.not_mem_nil, or_true, true_or, or_false, false_or, toR_ref, toR_null, ↓reduceIte, q1]
        rfl
      rw [pre2]
      have rr := r_rest (d := d) (dB := true) (l3 := U) (l4 := U) (cs' := cs) t t4 ((n1.trans f3).put (e := .inr (8, [.int (bI true), .ref (h.2.1 + 1), .int (nI 0), .null, .int (-1), .int 0, .int (nI 150)])) (.inr (Nat.le_refl _)) (f2.fe.lt q1)) (by show _ ≤ 10 * (_ - 0); omega) (by show _ ≤ 300 * (_ - 0); omega) (Nat.zero_le _) ⟨hput_e, f, by rw [hput_n hne]; exact q2, q3⟩ (Nat.le_refl _) (Nat.le_succ _)
      exact ⟨fun y hy => ⟨_, rr.1 y hy⟩, rr.2⟩
    · rw [if_neg hd, bfalse hd]
      have f1 := r_take0 (d := d + 20) e2 (i := 1) (by decide) (bfalse hd)
      obtain ⟨q1, f, q2, q3⟩ := hq1
      have hne : h.2.1 + 1 ≠ h.2.1 := by omega
      have t4 := e2.ku (Ku.put (e := .inr (8, [.int (bI false), .ref (h.2.1 + 1), .int (nI 0), .null, .int (-1), .int 0, .int (nI 150)])) e2.fe q1 ⟨by decide, by decide, by decide⟩)
      have pre2 : gO PG Ω (d + 24) 114 26 [.ref r, .ref h.2.1, U, U, U] [] h1 = gO PG Ω (d + 24) 114 38 [.ref r, .ref h.2.1, .int (nI 1), U, U] [] (hput h1 h.2.1 (.inr (8, [.int (bI false), .ref (h.2.1 + 1), .int (nI 0), .null, .int (-1), .int 0, .int (nI 150)]))) := by
        simp (disch := first | omega | (simp only [hnew_21, hput_21, hnew_22, hput_22]; omega) | exact isR_ref | exact isR_null | exact isR_rf | exact isR_fmt | assumption | decide) only [e_X9_read_26, e_X9_read_27, e_X9_read_28, e_X9_read_30, e_X9_read_33, e_X9_read_36, e_X9_read_37, cR_ref, cR_null, cR_rf, c1_int, c1_ref, c1_null, c1_rf, kz_int, kz_ref, kz_null, kz_rf, kz_U, kz_long, nB_null, nB_ref, rf_none, rf_some, bV_ret, bV_thr, bA_ret, bA_thr, bX_ret, bX_thr, len4_0, len4_1, len4_2, len4_3, len4_4, true_and, and_true, and_self, if_true, if_false, Option.bind_some, nR_b1, nR_b0, nR_bI, nI_1z, nI_0z, bI_z, if_nn, gf, pf, clN, aln, gaI, gaL, gaR, saI, saR, isI, ctB, isB, gB, hput_n, hput_e, hput_21, hput_22, hnew_n, hnew_e, hnew_21, hnew_22, Option.bind_some, Option.map_some, List.lookup_cons, List.lookup_nil, beq_self_eq_true, List.getElem?_cons_zero, List.getElem?_cons_succ, List.set_cons_zero, List.set_cons_succ, List.length_cons, List.length_nil, Nat.reduceAdd, Nat.reduceLT, Nat.reduceLeDiff, Nat.reduceBEq, Nat.reduceEqDiff, okv_int, okv_oref, okv_onull, okv_orf, okv_aref, okv_b0, okv_b1, okv_z0, okv_bI, ckI_nI, lt31, leT, reduceCtorEq, List.mem_cons, List.mem_singleton, List.not_mem_nil, or_true, true_or, or_false, false_or, toR_ref, toR_null, ↓reduceIte, a11, f1, q1]
        rfl
      rw [pre2]
      have rr := r_rest (d := d) (dB := false) (l3 := U) (l4 := U) (cs' := cs) t t4 (n1.put (e := .inr (8, [.int (bI false), .ref (h.2.1 + 1), .int (nI 0), .null, .int (-1), .int 0, .int (nI 150)])) (.inr (Nat.le_refl _)) (e2.fe.lt q1)) (by show _ ≤ 10 * (_ - 0); omega) (by show _ ≤ 300 * (_ - 0); omega) (Nat.zero_le _) ⟨hput_e, f, by rw [hput_n hne]; exact q2, q3⟩ (Nat.le_refl _) (Nat.le_succ _)
      exact ⟨fun y hy => ⟨_, rr.1 y hy⟩, rr.2⟩
  · rw [if_neg h0]
    rw [bfalse h0] at ik
    refine ⟨fun l hh => (nomatch hh), fun q hh => ?_⟩
    cases hh
    obtain ⟨ex, h', hf', g1', g2'⟩ := r_chk0 (d := d + 15) t3 (q := (tk cs (0, [], 0)).2.2.1)
    have er' : REr H3 r c nm (0, [], 0) (tk cs (0, [], 0)).2.2.1 1 (gO PG Ω (d + 24) 114 8 [.ref r, .ref h.2.1, U, U, U] [] H3) := by
      refine ⟨ex, h', hf', ?_, g2'⟩
      have ik' : gM PG Ω (d + 24) 115 [.ref r, .ref (Ω.k 2)] H3 = some (.returned (some (.int (nI 0))), H3) := ik
      simp (disch := first | omega | (simp only [hnew_21, hput_21, hnew_22, hput_22]; omega) | exact isR_ref | exact isR_null | exact isR_rf | exact isR_fmt | assumption | decide) only [e_X9_read_8, e_X9_read_9, e_X9_read_10, e_X9_read_12, e_X9_read_15, e_X9_read_16, e_X9_read_19, e_X9_read_22, e_X9_read_23, cR_ref, cR_null, cR_rf, c1_int, c1_ref, c1_null, c1_rf, kz_int, kz_ref, kz_null, kz_rf, kz_U, kz_long, nB_null, nB_ref, rf_none, rf_some, bV_ret, bV_thr, bA_ret, bA_thr, bX_ret, bX_thr, len4_0, len4_1, len4_2, len4_3, len4_4, true_and, and_true, and_self, if_true, if_false, Option.bind_some, nR_b1, nR_b0, nR_bI, nI_1z, nI_0z, bI_z, if_nn, gf, pf, clN, aln, gaI, gaL, gaR, saI, saR, isI, ctB, isB, gB, hput_n, hput_e, hput_21, hput_22, hnew_n, hnew_e, hnew_21, hnew_22, Option.bind_some, Option.map_some, List.lookup_cons, List.lookup_nil, beq_self_eq_true, List.getElem?_cons_zero, List.getElem?_cons_succ, List.set_cons_zero, List.set_cons_succ, List.length_cons, List.length_nil, Nat.reduceAdd, Nat.reduceLT, Nat.reduceLeDiff, Nat.reduceBEq, Nat.reduceEqDiff, okv_int, okv_oref, okv_onull, okv_orf, okv_aref, okv_b0, okv_b1, okv_z0, okv_bI, ckI_nI, lt31, leT, reduceCtorEq, List.mem_cons, List.mem_singleton, List.not_mem_nil, or_true, true_or, or_false, false_or, toR_ref, toR_null, ↓reduceIte, a1, ik', g1']
    exact er'.more t n3 (by decide) (by decide)
end RDJ
