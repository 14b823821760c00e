/-! COMPONENT: reader, tests -/
section RD7
variable {Ω : Om} {d : Nat} {h h' h1 h2 : AH} {a b r c tx nm dp : Nat} {w cs : List Nat} {s s' : PS} {fs : List Value} {x y z : Value}
theorem nx_lt (hs : s.1 ≤ cs.length) (h0 : (tk cs s).1 ≠ 0) : s.1 < (nx cs s).1 := by
  have lw := lex_w hs
  have := lw.2.2.2.2 h0
  show s.1 < (lexT cs s.1).2.2.2
  omega
theorem pVar_lt {v : Nat} (hs : s.1 ≤ cs.length) (h : pVar cs s = .ok (v, s')) : s.1 < s'.1 := by
  have e := pVar_ok h
  have := nx_lt (cs := cs) hs (show (tk cs s).1 ≠ 0 by omega)
  rw [e.2.2.2]
  exact this
theorem pSide_lt {a : Sd} (hs : s.1 ≤ cs.length) (h : pSide cs s = .ok (a, s')) : s.1 < s'.1 := by
  unfold pSide at h
  split at h
  · cases hv : pVar cs s with
    | error q => rw [hv] at h; cases h
    | ok r => obtain ⟨v, s1⟩ := r; rw [hv] at h; cases h; exact pVar_lt hs hv
  · split at h
    · next h2 => cases h; exact nx_lt hs (by omega)
    · split at h
      · next h3 =>
        cases h
        refine nx_lt hs ?_
        rcases of_decide_eq_true h3 with q | q <;> omega
      · cases h
theorem r_num_er (t : RdR Ω h r c tx nm cs s dp) (h2 : (tk cs s).1 ≠ 2) : REr h r c nm s (tk cs s).2.2.1 1 (gM PG Ω (d + 10) 123 [.ref r] h) := by
  obtain ⟨n, n1, n2, m1, m2, m3, m4, m5, m6⟩ := kc_n t.tw
  obtain ⟨wd, p, a1, a2⟩ := t.cell
  rw [n2] at a1
  have hn : ¬ n = 3 := fun z => h2 (m3.mp z)
  obtain ⟨ex, h', hf', e1, e2⟩ := r_chk0 (d := d) t (q := (tk cs s).2.2.1)
  refine ⟨ex, h', hf', ?_, e2⟩
  simp (disch := first | omega | (simp only [hnew_21, hput_21, hnew_22, hput_22]; omega) | exact isR_ref | exact isR_null | exact isR_rf | exact isR_fmt | assumption | decide) only [n_X9_number, e_X9_number_0, e_X9_number_1, e_X9_number_2, e_X9_number_5, e_X9_number_6, e_X9_number_9, e_X9_number_10, e_X9_number_13, e_X9_number_14, e_X9_number_15, e_X9_number_18, e_X9_number_21, e_X9_number_22, e_X9_number_23, e_X9_number_24, cR_ref, cR_null, cR_rf, c1_int, c1_ref, c1_null, c1_rf, kz_int, kz_ref, kz_null, kz_rf, kz_U, kz_long, nB_null, nB_ref, rf_none, rf_some, bV_ret, bV_thr, bA_ret, bA_thr, bX_ret, bX_thr, len4_0, len4_1, len4_2, len4_3, len4_4, true_and, and_true, and_self, if_true, if_false, Option.bind_some, nR_b1, nR_b0, nR_bI, nI_1z, nI_0z, bI_z, if_nn, gf, pf, clN, aln, gaI, gaL, gaR, saI, saR, isI, ctB, isB, gB, hput_n, hput_e, hput_21, hput_22, hnew_n, hnew_e, hnew_21, hnew_22, Option.bind_some, Option.map_some, List.lookup_cons, List.lookup_nil, beq_self_eq_true, List.getElem?_cons_zero, List.getElem?_cons_succ, List.set_cons_zero, List.set_cons_succ, List.length_cons, List.length_nil, Nat.reduceAdd, Nat.reduceLT, Nat.reduceLeDiff, Nat.reduceBEq, Nat.reduceEqDiff, okv_int, okv_oref, okv_onull, okv_orf, okv_aref, okv_b0, okv_b1, okv_z0, okv_bI, ckI_nI, lt31, leT, reduceCtorEq, List.mem_cons, List.mem_singleton, List.not_mem_nil, or_true, true_or, or_false, false_or, toR_ref, toR_null, ↓reduceIte, a1, ↓nI_eq_if, hn, e1]
theorem sg4 {n : Nat} {t : Tok} (hx : ∀ x, isS x = true → (n = x ↔ isSg t x = true)) : (sgC t = true) ↔ (n = 61 ∨ n = 60 ∨ n = 62 ∨ n = 33) := by
  unfold sgC
  simp only [Bool.or_eq_true]
  rw [hx 61 (by decide), hx 60 (by decide), hx 62 (by decide), hx 33 (by decide)]
  constructor
  · rintro (((q | q) | q) | q)
    · exact .inl q
    · exact .inr (.inl q)
    · exact .inr (.inr (.inl q))
    · exact .inr (.inr (.inr q))
  · rintro (q | q | q | q)
    · exact .inl (.inl (.inl q))
    · exact .inl (.inl (.inr q))
    · exact .inl (.inr q)
    · exact .inr q
set_option maxHeartbeats 2000000 in
/-- behind the nots -/
theorem r_core (t : RdR Ω h r c tx nm cs s dp) {l1 : Int32} : (∀ ts s', pCore cs s = .ok (ts, s') → ∃ u, ROk Ω h r c tx nm cs s' dp (6 * (s'.1 - s.1)) (200 * (s'.1 - s.1)) (some (.ref u)) (fun h' => TestF h.2.1 h'.2.1 h' 0 u ts) (gO PG Ω (d + 11) 121 46 [.ref r, .int l1, U, U] [] h)) ∧ (∀ q, pCore cs s = .error q → REr h r c nm s q 2 (gO PG Ω (d + 11) 121 46 [.ref r, .int l1, U, U] [] h)) := by
  obtain ⟨wd, p, a1, a2⟩ := t.cell
  have hFe := t.fe
  have hs5 := t.2.2.2.2.1
  unfold pCore
  by_cases hb : isKy (tk cs s) 10 = true
  · rw [if_pos hb]
    obtain ⟨h1, e1, e2, e3, _⟩ := r_take1 (d := d + 4) t (i := 10) (by omega) hb
    have hlt := nx_lt hs5 (isKy_0 hb)
    have hn5 := e2.2.2.2.2.1
    have hz1 : Ω.sz ≤ h1.2.1 := e2.2.2.2.2.2.2.2.2.1.2.2.2.2
    have t1 := e2.ku (Ku.new (e := .inr (12, [.int 0])) (N := 1) e2.fe)
    have n0 : Nx [] 1 1 h1 (hnew h1 (.inr (12, [.int 0])) 1) := (Nx.rfl' e2.fe).new
    have hv := r_var (d := d + 1) t1
    obtain ⟨wd1, p1, a11, _⟩ := e2.cell
    have rl1 := e2.fe.lt a11
    cases hq : pVar cs (nx cs s) with
    | error q =>
      refine ⟨fun sd s' hh => (nomatch hh), fun q' hh => ?_⟩
      cases hh
      obtain ⟨ex, h', hf, f1, f2⟩ := hv.2 q hq
      have er' : REr (hnew h1 (.inr (12, [.int 0])) 1) r c nm (nx cs s) q 1 (gO PG Ω (d + 11) 121 46 [.ref r, .int l1, U, U] [] h) := by
        refine ⟨ex, h', hf, ?_, f2⟩
        simp (disch := first | omega | (simp only [hnew_21, hput_21, hnew_22, hput_22]; omega) | exact isR_ref | exact isR_null | exact isR_rf | exact isR_fmt | assumption | decide) only [e_X9_test_46, e_X9_test_47, e_X9_test_49, e_X9_test_52, e_X9_test_55, e_X9_test_58, e_X9_test_59, e_X9_test_60, e_X9_test_63, e_X9_test_66, cR_ref, cR_null, cR_rf, c1_int, c1_ref, c1_null, c1_rf, kz_int, kz_ref, kz_null, kz_rf, kz_U, kz_long, nB_null, nB_ref, rf_none, rf_some, bV_ret, bV_thr, bA_ret, bA_thr, bX_ret, bX_thr, len4_0, len4_1, len4_2, len4_3, len4_4, true_and, and_true, and_self, if_true, if_false, Option.bind_some, nR_b1, nR_b0, nR_bI, nI_1z, nI_0z, bI_z, if_nn, gf, pf, clN, aln, gaI, gaL, gaR, saI, saR, isI, ctB, isB, gB, hput_n, hput_e, hput_21, hput_22, hnew_n, hnew_e, hnew_21, hnew_22, Option.bind_some, Option.map_some, List.lookup_cons, List.lookup_nil, beq_self_eq_true, List.getElem?_cons_zero, List.getElem?_cons_succ, List.set_cons_zero, List.set_cons_succ, List.length_cons, List.length_nil, Nat.reduceAdd, Nat.reduceLT, Nat.reduceLeDiff, Nat.reduceBEq, Nat.reduceEqDiff, okv_int, okv_oref, okv_onull, okv_orf, okv_aref, okv_b0, okv_b1, okv_z0, okv_bI, ckI_nI, lt31, leT, reduceCtorEq, List.mem_cons, List.mem_singleton, List.not_mem_nil, or_true, true_or, or_false, false_or, toR_ref, toR_null, ↓reduceIte, a1, a11, e1, f1]
      exact (er'.more (y := 2) e2 n0 (by omega) (by omega)).back t e3 (by omega) (by omega) (by omega) hn5 (by omega)
    | ok v1 =>
      obtain ⟨v, s1⟩ := v1
      refine ⟨fun sd s' hh => ?_, fun q' hh => (nomatch hh)⟩
      cases hh
      have hlt2 := pVar_lt hn5 hq
      obtain ⟨h2, f1, f2, f3, _⟩ := hv.1 v s1 hq
      have ca : h2.1 h1.2.1 = some (.inr (12, [.int 0])) := f3.ob hnew_e (by decide) (t1.na hnew_e (by decide))
      have ei := i_bound (Ω := Ω) (d := d + 8) (v := nI v) hz1 ca
      have cl := f2.fe.lt ca
      refine ⟨h1.2.1, hput h2 h1.2.1 (.inr (12, [.int (nI v)])), ?_, f2.ku (Ku.put f2.fe ca ⟨by decide, by decide, by decide⟩), (e3.trans (n0.up f3 (Nat.le_refl _) cl)).mono (fun _ z => z) (by omega) (by omega), fun h'' z => ⟨rfl, pVar_6 hq, z.ob (hput_e (a := h1.2.1)) (by decide) ⟨e3.2.2.1, by rw [hput_21]; exact cl⟩⟩⟩
      simp (disch := first | omega | (simp only [hnew_21, hput_21, hnew_22, hput_22]; omega) | exact isR_ref | exact isR_null | exact isR_rf | exact isR_fmt | assumption | decide) only [e_X9_test_46, e_X9_test_47, e_X9_test_49, e_X9_test_52, e_X9_test_55, e_X9_test_58, e_X9_test_59, e_X9_test_60, e_X9_test_63, e_X9_test_66, cR_ref, cR_null, cR_rf, c1_int, c1_ref, c1_null, c1_rf, kz_int, kz_ref, kz_null, kz_rf, kz_U, kz_long, nB_null, nB_ref, rf_none, rf_some, bV_ret, bV_thr, bA_ret, bA_thr, bX_ret, bX_thr, len4_0, len4_1, len4_2, len4_3, len4_4, true_and, and_true, and_self, if_true, if_false, Option.bind_some, nR_b1, nR_b0, nR_bI, nI_1z, nI_0z, bI_z, if_nn, gf, pf, clN, aln, gaI, gaL, gaR, saI, saR, isI, ctB, isB, gB, hput_n, hput_e, hput_21, hput_22, hnew_n, hnew_e, hnew_21, hnew_22, Option.bind_some, Option.map_some, List.lookup_cons, List.lookup_nil, beq_self_eq_true, List.getElem?_cons_zero, List.getElem?_cons_succ, List.set_cons_zero, List.set_cons_succ, List.length_cons, List.length_nil, Nat.reduceAdd, Nat.reduceLT, Nat.reduceLeDiff, Nat.reduceBEq, Nat.reduceEqDiff, okv_int, okv_oref, okv_onull, okv_orf, okv_aref, okv_b0, okv_b1, okv_z0, okv_bI, ckI_nI, lt31, leT, reduceCtorEq, List.mem_cons, List.mem_singleton, List.not_mem_nil, or_true, true_or, or_false, false_or, toR_ref, toR_null, ↓reduceIte, a1, a11, e1, f1, ei]
  · rw [if_neg hb]
    have hb' : isKy (tk cs s) 10 = false := by cases hq : isKy (tk cs s) 10 with
      | true => exact absurd hq hb
      | false => rfl
    have e0 := r_take0 (d := d + 7) t (i := 10) (by omega) hb'
    have hsd := r_side (d := d) t
    cases hq : pSide cs s with
    | error q =>
      refine ⟨fun sd s' hh => (nomatch hh), fun q' hh => ?_⟩
      cases hh
      obtain ⟨ex, h', hf, f1, f2⟩ := hsd.2 q hq
      refine ⟨ex, h', hf, ?_, f2⟩
      simp (disch := first | omega | (simp only [hnew_21, hput_21, hnew_22, hput_22]; omega) | exact isR_ref | exact isR_null | exact isR_rf | exact isR_fmt | assumption | decide) only [e_X9_test_46, e_X9_test_47, e_X9_test_49, e_X9_test_52, e_X9_test_67, e_X9_test_68, cR_ref, cR_null, cR_rf, c1_int, c1_ref, c1_null, c1_rf, kz_int, kz_ref, kz_null, kz_rf, kz_U, kz_long, nB_null, nB_ref, rf_none, rf_some, bV_ret, bV_thr, bA_ret, bA_thr, bX_ret, bX_thr, len4_0, len4_1, len4_2, len4_3, len4_4, true_and, and_true, and_self, if_true, if_false, Option.bind_some, nR_b1, nR_b0, nR_bI, nI_1z, nI_0z, bI_z, if_nn, gf, pf, clN, aln, gaI, gaL, gaR, saI, saR, isI, ctB, isB, gB, hput_n, hput_e, hput_21, hput_22, hnew_n, hnew_e, hnew_21, hnew_22, Option.bind_some, Option.map_some, List.lookup_cons, List.lookup_nil, beq_self_eq_true, List.getElem?_cons_zero, List.getElem?_cons_succ, List.set_cons_zero, List.set_cons_succ, List.length_cons, List.length_nil, Nat.reduceAdd, Nat.reduceLT, Nat.reduceLeDiff, Nat.reduceBEq, Nat.reduceEqDiff, okv_int, okv_oref, okv_onull, okv_orf, okv_aref, okv_b0, okv_b1, okv_z0, okv_bI, ckI_nI, lt31, leT, reduceCtorEq, List.mem_cons, List.mem_singleton, List.not_mem_nil, or_true, true_or, or_false, false_or, toR_ref, toR_null, ↓reduceIte, a1, e0, f1]
    | ok v1 =>
      obtain ⟨A, s1⟩ := v1
      dsimp only
      have hlt1 := pSide_lt hs5 hq
      obtain ⟨u, h1, f1, f2, f3, f4, f5⟩ := hsd.1 A s1 hq
      have hn5 := f2.2.2.2.2.1
      obtain ⟨n, n1, n2, m1, m2, m3, m4, m5, m6⟩ := kc_n f2.tw
      obtain ⟨wd1, p1, a11, _⟩ := f2.cell
      rw [n2] at a11
      have hsg := sg4 m6
      have pre : gO PG Ω (d + 11) 121 46 [.ref r, .int l1, U, U] [] h = gO PG Ω (d + 11) 121 78 [.ref r, .int l1, .ref u, .int (nI n)] [] h1 := by
        simp (disch := first | omega | (simp only [hnew_21, hput_21, hnew_22, hput_22]; omega) | exact isR_ref | exact isR_null | exact isR_rf | exact isR_fmt | assumption | decide) only [e_X9_test_46, e_X9_test_47, e_X9_test_49, e_X9_test_52, e_X9_test_67, e_X9_test_68, e_X9_test_71, e_X9_test_72, e_X9_test_73, e_X9_test_76, e_X9_test_77, cR_ref, cR_null, cR_rf, c1_int, c1_ref, c1_null, c1_rf, kz_int, kz_ref, kz_null, kz_rf, kz_U, kz_long, nB_null, nB_ref, rf_none, rf_some, bV_ret, bV_thr, bA_ret, bA_thr, bX_ret, bX_thr, len4_0, len4_1, len4_2, len4_3, len4_4, true_and, and_true, and_self, if_true, if_false, Option.bind_some, nR_b1, nR_b0, nR_bI, nI_1z, nI_0z, bI_z, if_nn, gf, pf, clN, aln, gaI, gaL, gaR, saI, saR, isI, ctB, isB, gB, hput_n, hput_e, hput_21, hput_22, hnew_n, hnew_e, hnew_21, hnew_22, Option.bind_some, Option.map_some, List.lookup_cons, List.lookup_nil, beq_self_eq_true, List.getElem?_cons_zero, List.getElem?_cons_succ, List.set_cons_zero, List.set_cons_succ, List.length_cons, List.length_nil, Nat.reduceAdd, Nat.reduceLT, Nat.reduceLeDiff, Nat.reduceBEq, Nat.reduceEqDiff, okv_int, okv_oref, okv_onull, okv_orf, okv_aref, okv_b0, okv_b1, okv_z0, okv_bI, ckI_nI, lt31, leT, reduceCtorEq, List.mem_cons, List.mem_singleton, List.not_mem_nil, or_true, true_or, or_false, false_or, toR_ref, toR_null, ↓reduceIte, a1, a11, e0, f1, ch16 n n1]
      rw [pre]
      by_cases hsc : sgC (tk cs s1) = true
      · rw [if_pos hsc]
        have hn := hsg.mp hsc
        have ec := r_chk1 (Ω := Ω) (d := d + 10) (h := h1) (r := r) (x := nI (tk cs s1).2.2.1)
        have hsg4 := sg_of hsc
        have h0 : (tk cs s1).1 ≠ 0 := by rw [hsg4.1]; decide
        obtain ⟨h2, g1, g2, g3, g4, g5⟩ := r_adv (d := d + 5) f2 h0
        have hn6 := g2.2.2.2.2.1
        have hz2 : Ω.sz ≤ h2.2.1 := g2.2.2.2.2.2.2.2.2.1.2.2.2.2
        have mid : gO PG Ω (d + 11) 121 78 [.ref r, .int l1, .ref u, .int (nI n)] [] h1 = gO PG Ω (d + 11) 121 131 [.ref r, .int l1, .ref u, .int (nI n)] [] h2 := by
          have e120 : gO PG Ω (d + 11) 121 115 [.ref r, .int l1, .ref u, .int (nI n)] [.ref r] h1 = gO PG Ω (d + 11) 121 131 [.ref r, .int l1, .ref u, .int (nI n)] [] h2 := by
            simp (disch := first | omega | (simp only [hnew_21, hput_21, hnew_22, hput_22]; omega) | exact isR_ref | exact isR_null | exact isR_rf | exact isR_fmt | assumption | decide) only [e_X9_test_115, e_X9_test_116, e_X9_test_119, e_X9_test_120, e_X9_test_121, e_X9_test_124, e_X9_test_127, e_X9_test_128, cR_ref, cR_null, cR_rf, c1_int, c1_ref, c1_null, c1_rf, kz_int, kz_ref, kz_null, kz_rf, kz_U, kz_long, nB_null, nB_ref, rf_none, rf_some, bV_ret, bV_thr, bA_ret, bA_thr, bX_ret, bX_thr, len4_0, len4_1, len4_2, len4_3, len4_4, true_and, and_true, and_self, if_true, if_false, Option.bind_some, nR_b1, nR_b0, nR_bI, nI_1z, nI_0z, bI_z, if_nn, gf, pf, clN, aln, gaI, gaL, gaR, saI, saR, isI, ctB, isB, gB, hput_n, hput_e, hput_21, hput_22, hnew_n, hnew_e, hnew_21, hnew_22, Option.bind_some, Option.map_some, List.lookup_cons, List.lookup_nil, beq_self_eq_true, List.getElem?_cons_zero, List.getElem?_cons_succ, List.set_cons_zero, List.set_cons_succ, List.length_cons, List.length_nil, Nat.reduceAdd, Nat.reduceLT, Nat.reduceLeDiff, Nat.reduceBEq, Nat.reduceEqDiff, okv_int, okv_oref, okv_onull, okv_orf, okv_aref, okv_b0, okv_b1, okv_z0, okv_bI, ckI_nI, lt31, leT, reduceCtorEq, List.mem_cons, List.mem_singleton, List.not_mem_nil, or_true, true_or, or_false, false_or, toR_ref, toR_null, ↓reduceIte, a11, ec, g1]
          rw [← e120]
          rcases hn with q | q | q | q <;> subst q <;> simp (disch := first | omega | (simp only [hnew_21, hput_21, hnew_22, hput_22]; omega) | exact isR_ref | exact isR_null | exact isR_rf | exact isR_fmt | assumption | decide) only [e_X9_test_78, e_X9_test_79, e_X9_test_80, e_X9_test_83, e_X9_test_85, e_X9_test_88, e_X9_test_89, e_X9_test_92, e_X9_test_94, e_X9_test_97, e_X9_test_98, e_X9_test_101, e_X9_test_103, e_X9_test_106, e_X9_test_107, e_X9_test_110, e_X9_test_112, cR_ref, cR_null, cR_rf, c1_int, c1_ref, c1_null, c1_rf, kz_int, kz_ref, kz_null, kz_rf, kz_U, kz_long, nB_null, nB_ref, rf_none, rf_some, bV_ret, bV_thr, bA_ret, bA_thr, bX_ret, bX_thr, len4_0, len4_1, len4_2, len4_3, len4_4, true_and, and_true, and_self, if_true, if_false, Option.bind_some, nR_b1, nR_b0, nR_bI, nI_1z, nI_0z, bI_z, if_nn, gf, pf, clN, aln, gaI, gaL, gaR, saI, saR, isI, ctB, isB, gB, hput_n, hput_e, hput_21, hput_22, hnew_n, hnew_e, hnew_21, hnew_22, Option.bind_some, Option.map_some, List.lookup_cons, List.lookup_nil, beq_self_eq_true, List.getElem?_cons_zero, List.getElem?_cons_succ, List.set_cons_zero, List.set_cons_succ, List.length_cons, List.length_nil, Nat.reduceAdd, Nat.reduceLT, Nat.reduceLeDiff, Nat.reduceBEq, Nat.reduceEqDiff, okv_int, okv_oref, okv_onull, okv_orf, okv_aref, okv_b0, okv_b1, okv_z0, okv_bI, ckI_nI, lt31, leT, reduceCtorEq, List.mem_cons, List.mem_singleton, List.not_mem_nil, or_true, true_or, or_false, false_or, toR_ref, toR_null, ↓reduceIte, a11, ↓nI_eq_if, Nat.reduceEqDiff, ↓reduceIte]
        rw [mid]
        have t3 := g2.ku (Ku.new (e := .inr (14, [.null, .int 0, .null])) (N := 3) g2.fe)
        have n0 : Nx [] 1 3 h2 (hnew h2 (.inr (14, [.null, .int 0, .null])) 3) := (Nx.rfl' g2.fe).new
        have hsd2 := r_side (d := d) t3
        obtain ⟨wd2, p2, a12, _⟩ := g2.cell
        have rl2 := g2.fe.lt a12
        have hxs : (tk cs s1).2.1.headD 0 = n := by
          obtain ⟨_, gg, z1, z2⟩ := hsg4
          rw [z1]
          show gg = n
          rcases hn with q | q | q | q
          · have := (m6 61 (by decide)).mp q
            have := (of_decide_eq_true this).2
            rw [z1] at this; injection this with z _; omega
          · have := (m6 60 (by decide)).mp q
            have := (of_decide_eq_true this).2
            rw [z1] at this; injection this with z _; omega
          · have := (m6 62 (by decide)).mp q
            have := (of_decide_eq_true this).2
            rw [z1] at this; injection this with z _; omega
          · have := (m6 33 (by decide)).mp q
            have := (of_decide_eq_true this).2
            rw [z1] at this; injection this with z _; omega
        cases hq2 : pSide cs (nx cs s1) with
        | error q =>
          refine ⟨fun sd s' hh => (nomatch hh), fun q' hh => ?_⟩
          cases hh
          obtain ⟨ex, h', hf, k1, k2'⟩ := hsd2.2 q hq2
          have er' : REr (hnew h2 (.inr (14, [.null, .int 0, .null])) 3) r c nm (nx cs s1) q 2 (gO PG Ω (d + 11) 121 131 [.ref r, .int l1, .ref u, .int (nI n)] [] h2) := by
            refine ⟨ex, h', hf, ?_, k2'⟩
            simp (disch := first | omega | (simp only [hnew_21, hput_21, hnew_22, hput_22]; omega) | exact isR_ref | exact isR_null | exact isR_rf | exact isR_fmt | assumption | decide) only [e_X9_test_131, e_X9_test_134, e_X9_test_135, e_X9_test_136, e_X9_test_137, e_X9_test_138, e_X9_test_141, e_X9_test_144, cR_ref, cR_null, cR_rf, c1_int, c1_ref, c1_null, c1_rf, kz_int, kz_ref, kz_null, kz_rf, kz_U, kz_long, nB_null, nB_ref, rf_none, rf_some, bV_ret, bV_thr, bA_ret, bA_thr, bX_ret, bX_thr, len4_0, len4_1, len4_2, len4_3, len4_4, true_and, and_true, and_self, if_true, if_false, Option.bind_some, nR_b1, nR_b0, nR_bI, nI_1z, nI_0z, bI_z, if_nn, gf, pf, clN, aln, gaI, gaL, gaR, saI, saR, isI, ctB, isB, gB, hput_n, hput_e, hput_21, hput_22, hnew_n, hnew_e, hnew_21, hnew_22, Option.bind_some, Option.map_some, List.lookup_cons, List.lookup_nil, beq_self_eq_true, List.getElem?_cons_zero, List.getElem?_cons_succ, List.set_cons_zero, List.set_cons_succ, List.length_cons, List.length_nil, Nat.reduceAdd, Nat.reduceLT, Nat.reduceLeDiff, Nat.reduceBEq, Nat.reduceEqDiff, okv_int, okv_oref, okv_onull, okv_orf, okv_aref, okv_b0, okv_b1, okv_z0, okv_bI, ckI_nI, lt31, leT, reduceCtorEq, List.mem_cons, List.mem_singleton, List.not_mem_nil, or_true, true_or, or_false, false_or, toR_ref, toR_null, ↓reduceIte, a12, k1]
          have er2 := er'.more (y := 3) g2 n0 (by omega) (by omega)
          have hd : (nx cs s1).1 - s.1 = ((nx cs s1).1 - s1.1) + (s1.1 - s.1) := by omega
          obtain ⟨ex, h9, hf9, y1, y2, y3, y4, y5⟩ := er2
          have hlen := t.len
          have hcc : ∃ hf0, h.1 c = some (.inr (0, hf0)) := by obtain ⟨_, _, _, _, _, ⟨hf0, b6, b7⟩, _⟩ := t; exact ⟨hf0, b6⟩
          obtain ⟨hf0, hc0⟩ := hcc
          have hc1 := f3.ob hc0 (by decide) (t.na hc0 (by decide))
          have hc2 := g3.ob hc1 (by decide) (f2.na hc1 (by decide))
          rw [hc2] at y3
          cases y3
          refine ⟨ex, h9, hf9, y1, y2, hc0, y4, (((f3.trans g3).mono (S' := [r, nm, c]) (fun z hz => by simp at hz ⊢; omega) (Nat.le_refl _) (Nat.le_refl _)).trans y5).mono (fun _ z => z) (by omega) (by omega)⟩
        | ok v2 =>
          obtain ⟨Bb, s2⟩ := v2
          refine ⟨fun sd s' hh => ?_, fun q' hh => (nomatch hh)⟩
          cases hh
          have hlt2 := pSide_lt hn6 hq2
          obtain ⟨u2, h3, k1, k2', k3, k4, k5⟩ := hsd2.1 Bb s2 hq2
          have ca0 : (hnew h2 (.inr (14, [.null, .int 0, .null])) 3).1 h2.2.1 = some (.inr (14, [.null, .int 0, .null])) := hnew_e
          have ca : h3.1 h2.2.1 = some (.inr (14, [.null, .int 0, .null])) := k3.ob ca0 (by decide) (t3.na ca0 (by decide))
          have ei := i_cmp (Ω := Ω) (d := d + 8) (b := u) (q := u2) (v := n) n1 hz2 ca
          have cl := k2'.fe.lt ca
          have gsu : SideR h3 u A := (((f4.gs g3 f2.gs).gs n0 GS.nil)).gs k3 t3.gs
          have kC : Ku h3 (hput h3 h2.2.1 (.inr (14, [.ref u, .int (nI n), .ref u2]))) := Ku.put k2'.fe ca ⟨by decide, by decide, by decide⟩
          have nC : Nx [h2.2.1] 0 0 h3 (hput h3 h2.2.1 (.inr (14, [.ref u, .int (nI n), .ref u2]))) := (Nx.rfl' k2'.fe).put (.inl (by simp)) cl
          have sd1 : ∀ (v : Nat) (D : Sd), SideR h3 v D → SideR (hput h3 h2.2.1 (.inr (14, [.ref u, .int (nI n), .ref u2]))) v D := fun v D hv => by
            have na : ∀ (q ci : Nat) (fs : List Value), h3.1 q = some (.inr (ci, fs)) → ci ≠ 14 → q ≠ h2.2.1 := fun q ci fs h1 h2 z => by rw [z, ca] at h1; cases h1; exact h2 rfl
            cases D with
            | inl m => exact ⟨hv.1, by rw [hput_n (na _ _ _ hv.2 (by decide))]; exact hv.2⟩
            | inr e =>
              obtain ⟨tt, ww, v1, v2⟩ := hv
              refine ⟨tt, ww, by rw [hput_n (na _ _ _ v1 (by decide))]; exact v1, ?_⟩
              rcases v2 with ⟨nn, y1, y2, y3⟩ | ⟨ss, vv, y1, y2, y3, y4⟩
              · exact .inl ⟨nn, y1, y2, by rw [hput_n (na _ _ _ y3 (by decide))]; exact y3⟩
              · exact .inr ⟨ss, vv, y1, y2, by rw [hput_n (na _ _ _ y3 (by decide))]; exact y3, y4.ku kC⟩
          refine ⟨h2.2.1, hput h3 h2.2.1 (.inr (14, [.ref u, .int (nI n), .ref u2])), ?_, k2'.ku kC, ((f3.trans g3).trans (n0.up k3 (Nat.le_refl _) cl)).mono (fun _ z => z) (by omega) (by omega), fun h'' zz => ⟨rfl, by rw [hxs]; exact hn, u, u2, by rw [zz.ob (hput_e (a := h2.2.1)) (by decide) ⟨by have z1 := f3.2.2.1; have z2 := g3.2.2.1; omega, by rw [hput_21]; exact cl⟩, hxs], (sd1 _ _ gsu).agr zz ⟨f5, by rw [hput_21]; exact gsu.lt k2'.fe⟩, (sd1 _ _ k4).agr zz ⟨by have z1 := f3.2.2.1; have z2 := g3.2.2.1; rw [hnew_21] at k5; omega, by rw [hput_21]; exact k4.lt k2'.fe⟩⟩⟩
          simp (disch := first | omega | (simp only [hnew_21, hput_21, hnew_22, hput_22]; omega) | exact isR_ref | exact isR_null | exact isR_rf | exact isR_fmt | assumption | decide) only [e_X9_test_131, e_X9_test_134, e_X9_test_135, e_X9_test_136, e_X9_test_137, e_X9_test_138, e_X9_test_141, e_X9_test_144, cR_ref, cR_null, cR_rf, c1_int, c1_ref, c1_null, c1_rf, kz_int, kz_ref, kz_null, kz_rf, kz_U, kz_long, nB_null, nB_ref, rf_none, rf_some, bV_ret, bV_thr, bA_ret, bA_thr, bX_ret, bX_thr, len4_0, len4_1, len4_2, len4_3, len4_4, true_and, and_true, and_self, if_true, if_false, Option.bind_some, nR_b1, nR_b0, nR_bI, nI_1z, nI_0z, bI_z, if_nn, gf, pf, clN, aln, gaI, gaL, gaR, saI, saR, isI, ctB, isB, gB, hput_n, hput_e, hput_21, hput_22, hnew_n, hnew_e, hnew_21, hnew_22, Option.bind_some, Option.map_some, List.lookup_cons, List.lookup_nil, beq_self_eq_true, List.getElem?_cons_zero, List.getElem?_cons_succ, List.set_cons_zero, List.set_cons_succ, List.length_cons, List.length_nil, Nat.reduceAdd, Nat.reduceLT, Nat.reduceLeDiff, Nat.reduceBEq, Nat.reduceEqDiff, okv_int, okv_oref, okv_onull, okv_orf, okv_aref, okv_b0, okv_b1, okv_z0, okv_bI, ckI_nI, lt31, leT, reduceCtorEq, List.mem_cons, List.mem_singleton, List.not_mem_nil, or_true, true_or, or_false, false_or, toR_ref, toR_null, ↓reduceIte, a12, k1, ei]
      · rw [if_neg hsc]
        have hn : ¬ (n = 61 ∨ n = 60 ∨ n = 62 ∨ n = 33) := fun z => hsc (hsg.mpr z)
        simp only [not_or] at hn
        obtain ⟨o1, o2, o3, o4⟩ := hn
        refine ⟨fun sd s' hh => (nomatch hh), fun q' hh => ?_⟩
        have hq' : q' = (tk cs s1).2.2.1 := by unfold er at hh; injection hh with hh; exact hh.symm
        rw [hq']
        obtain ⟨ex, h', hf', g1, g2⟩ := r_chk0 (d := d + 2) f2 (q := (tk cs s1).2.2.1)
        have er' : REr h1 r c nm s1 (tk cs s1).2.2.1 1 (gO PG Ω (d + 11) 121 78 [.ref r, .int l1, .ref u, .int (nI n)] [] h1) := by
          refine ⟨ex, h', hf', ?_, g2⟩
          simp (disch := first | omega | (simp only [hnew_21, hput_21, hnew_22, hput_22]; omega) | exact isR_ref | exact isR_null | exact isR_rf | exact isR_fmt | assumption | decide) only [e_X9_test_78, e_X9_test_79, e_X9_test_80, e_X9_test_83, e_X9_test_85, e_X9_test_88, e_X9_test_89, e_X9_test_92, e_X9_test_94, e_X9_test_97, e_X9_test_98, e_X9_test_101, e_X9_test_103, e_X9_test_106, e_X9_test_107, e_X9_test_110, e_X9_test_112, e_X9_test_115, e_X9_test_116, e_X9_test_119, e_X9_test_120, e_X9_test_121, e_X9_test_124, e_X9_test_127, cR_ref, cR_null, cR_rf, c1_int, c1_ref, c1_null, c1_rf, kz_int, kz_ref, kz_null, kz_rf, kz_U, kz_long, nB_null, nB_ref, rf_none, rf_some, bV_ret, bV_thr, bA_ret, bA_thr, bX_ret, bX_thr, len4_0, len4_1, len4_2, len4_3, len4_4, true_and, and_true, and_self, if_true, if_false, Option.bind_some, nR_b1, nR_b0, nR_bI, nI_1z, nI_0z, bI_z, if_nn, gf, pf, clN, aln, gaI, gaL, gaR, saI, saR, isI, ctB, isB, gB, hput_n, hput_e, hput_21, hput_22, hnew_n, hnew_e, hnew_21, hnew_22, Option.bind_some, Option.map_some, List.lookup_cons, List.lookup_nil, beq_self_eq_true, List.getElem?_cons_zero, List.getElem?_cons_succ, List.set_cons_zero, List.set_cons_succ, List.length_cons, List.length_nil, Nat.reduceAdd, Nat.reduceLT, Nat.reduceLeDiff, Nat.reduceBEq, Nat.reduceEqDiff, okv_int, okv_oref, okv_onull, okv_orf, okv_aref, okv_b0, okv_b1, okv_z0, okv_bI, ckI_nI, lt31, leT, reduceCtorEq, List.mem_cons, List.mem_singleton, List.not_mem_nil, or_true, true_or, or_false, false_or, toR_ref, toR_null, ↓reduceIte, a11, ↓nI_eq_if, o1, o2, o3, o4, g1]
        exact er'.back t f3 (by omega) (by omega) (by omega) hn5 (by omega)
end RD7
