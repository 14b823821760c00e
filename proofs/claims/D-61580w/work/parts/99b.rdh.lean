/-! COMPONENT: reader, groups at every depth -/
section RDH
variable {Ω : Om} {d n lo hi lo' hi' : Nat} {h h' h0 h1 h2 : AH} {a b ga r c tx nm dp k m K M : Nat} {w cs : List Nat} {s s' s0 : PS} {fs : List Value} {L : List (Nat × Nat × Nat)} {els : List (El (GT n))} {e : El (GT n)}
theorem GcR.grF (g : GcR h ga L) (x : ChI n (ga + 1) hi h L els) (hl : lo ≤ ga) (hh : ga < hi) : GrF (n + 1) lo hi h ga els := fun h'' z =>
  ⟨nxI L 0, lsI L, z.ob (show h.1 ga = some (.inr (9, [nxI L 0, lsI L])) from g) (by decide) ⟨hl, hh⟩, x.rd (z.mono (by omega) (Nat.le_refl _))⟩
set_option maxHeartbeats 2000000 in
theorem HGr.succ (hG : HGr Ω (d + 16) r c tx nm cs n (dp + 1)) (hdp : dp + 1 ≤ 4) : HGr Ω (d + 18) r c tx nm cs (n + 1) dp := by
  intro h s t
  obtain ⟨nu, nu1, nu2, m1, m2, m3, m4, m5, m6⟩ := kc_n t.tw
  obtain ⟨wd, p, a1, a2⟩ := t.cell
  have s123 := m6 123 (by decide)
  show (∀ g s', pGr cs (pG cs n) s = .ok (g, s') → _) ∧ (∀ q, pGr cs (pG cs n) s = .error q → _)
  unfold pGr
  by_cases h123 : isSg (tk cs s) 123 = true
  · rw [if_pos h123]
    have q123 := s123.mpr h123
    obtain ⟨t1, n1⟩ := r_set t (el' := s.2.2) (dp' := dp + 1) t.2.2.2.2.2.2.2.2.2.1 hdp a1
    obtain ⟨h1, e1, e2, e3, e4, e5⟩ := r_adv (d := d + 11) t1 (isSg_0 h123)
    have hzr : Ω.sz ≤ r := t.2.2.2.2.2.2.2.2.1.1
    have hlt : s.1 < (nx cs s).1 := e4
    have t2 : RdR Ω (hnew h1 (.inr (9, [.null, .null])) 2) r c tx nm cs (nx cs s) (dp + 1) := e2.ku (Ku.new (e := .inr (9, [.null, .null])) (N := 2) e2.fe)
    have n2 := (n1.trans e3).new (e := .inr (9, [.null, .null])) (N := 2)
    obtain ⟨l1, l2, l3⟩ := e2.lts
    have g0 : (hnew h1 (.inr (9, [.null, .null])) 2).1 h1.2.1 = some (.inr (9, [.null, .null])) := hnew_e
    have hz1 : h.2.1 ≤ h1.2.1 := (n1.trans e3).2.2.1
    have hn5 := t2.2.2.2.2.1
    obtain ⟨wd2, p2, a12, _⟩ := (show RdR Ω h1 r c tx nm cs (nx cs s) (dp + 1) from e2).cell
    obtain ⟨mu, mu1, mu2, w1, w2, w3, w4, w5, w6⟩ := kc_n t2.tw
    rw [mu2] at a12
    have s125 := w6 125 (by decide)
    rw [nu2] at e1 a1
    have i11 : ∀ hh, gM PG Ω (d + 17) 126 [.ref h1.2.1] hh = some (.returned none, hh) := fun hh => i_11 (d := d + 15)
    have pre : gM PG Ω (d + 18) 119 [.ref r] h = gO PG Ω (d + 17) 119 52 [.ref r, .ref h1.2.1] [] (hnew h1 (.inr (9, [.null, .null])) 2) := by
      have hd4 : dp < 4 := by omega
      simp (disch := first | omega | (simp only [hnew_21, hput_21, hnew_22, hput_22]; omega) | exact isR_ref | exact isR_null | exact isR_rf | exact isR_fmt | assumption | decide) only [n_X9_group, e_X9_group_0, e_X9_group_1, e_X9_group_2, e_X9_group_5, e_X9_group_7, e_X9_group_10, e_X9_group_11, e_X9_group_14, e_X9_group_15, e_X9_group_18, e_X9_group_19, e_X9_group_22, e_X9_group_23, e_X9_group_24, e_X9_group_27, e_X9_group_30, e_X9_group_31, e_X9_group_32, e_X9_group_35, e_X9_group_36, e_X9_group_37, e_X9_group_40, e_X9_group_41, cR_ref, cR_null, cR_rf, c1_int, c1_ref, c1_null, c1_rf, kz_int, kz_ref, kz_null, kz_rf, kz_U, kz_long, nB_null, nB_ref, rf_none, rf_some, bV_ret, bV_thr, bA_ret, bA_thr, bX_ret, bX_thr, len4_0, len4_1, len4_2, len4_3, len4_4, true_and, and_true, and_self, if_true, if_false, Option.bind_some, nR_b1, nR_b0, nR_bI, nI_1z, nI_0z, bI_z, if_nn, gf, pf, clN, aln, gaI, gaL, gaR, saI, saR, isI, ctB, isB, gB, hput_n, hput_e, hput_21, hput_22, hnew_n, hnew_e, hnew_21, hnew_22, Option.bind_some, Option.map_some, List.lookup_cons, List.lookup_nil, beq_self_eq_true, List.getElem?_cons_zero, List.getElem?_cons_succ, List.set_cons_zero, List.set_cons_succ, List.length_cons, List.length_nil, Nat.reduceAdd, Nat.reduceLT, Nat.reduceLeDiff, Nat.reduceBEq, Nat.reduceEqDiff, okv_int, okv_oref, okv_onull, okv_orf, okv_aref, okv_b0, okv_b1, okv_z0, okv_bI, ckI_nI, lt31, leT, reduceCtorEq, List.mem_cons, List.mem_singleton, List.not_mem_nil, or_true, true_or, or_false, false_or, toR_ref, toR_null, ↓reduceIte, a1, ↓nI_eq_if, q123, ↓nI_lt_if, hd4, r_chk1, nI_add]
      rw [q123] at e1
      simp (disch := first | omega | (simp only [hnew_21, hput_21, hnew_22, hput_22]; omega) | exact isR_ref | exact isR_null | exact isR_rf | exact isR_fmt | assumption | decide) only [e_X9_group_44, e_X9_group_47, e_X9_group_48, e_X9_group_51, cR_ref, cR_null, cR_rf, c1_int, c1_ref, c1_null, c1_rf, kz_int, kz_ref, kz_null, kz_rf, kz_U, kz_long, nB_null, nB_ref, rf_none, rf_some, bV_ret, bV_thr, bA_ret, bA_thr, bX_ret, bX_thr, len4_0, len4_1, len4_2, len4_3, len4_4, true_and, and_true, and_self, if_true, if_false, Option.bind_some, nR_b1, nR_b0, nR_bI, nI_1z, nI_0z, bI_z, if_nn, gf, pf, clN, aln, gaI, gaL, gaR, saI, saR, isI, ctB, isB, gB, hput_n, hput_e, hput_21, hput_22, hnew_n, hnew_e, hnew_21, hnew_22, Option.bind_some, Option.map_some, List.lookup_cons, List.lookup_nil, beq_self_eq_true, List.getElem?_cons_zero, List.getElem?_cons_succ, List.set_cons_zero, List.set_cons_succ, List.length_cons, List.length_nil, Nat.reduceAdd, Nat.reduceLT, Nat.reduceLeDiff, Nat.reduceBEq, Nat.reduceEqDiff, okv_int, okv_oref, okv_onull, okv_orf, okv_aref, okv_b0, okv_b1, okv_z0, okv_bI, ckI_nI, lt31, leT, reduceCtorEq, List.mem_cons, List.mem_singleton, List.not_mem_nil, or_true, true_or, or_false, false_or, toR_ref, toR_null, ↓reduceIte, e1, i11]
    rw [pre]
    unfold pBody
    by_cases h125 : isSg (tk cs (nx cs s)) 125 = true
    · rw [if_pos h125]
      have q125 := s125.mpr h125
      have e0 : gO PG Ω (d + 17) 119 52 [.ref r, .ref h1.2.1] [] (hnew h1 (.inr (9, [.null, .null])) 2) = gO PG Ω (d + 17) 119 93 [.ref r, .ref h1.2.1] [] (hnew h1 (.inr (9, [.null, .null])) 2) := by
        simp (disch := first | omega | (simp only [hnew_21, hput_21, hnew_22, hput_22]; omega) | exact isR_ref | exact isR_null | exact isR_rf | exact isR_fmt | assumption | decide) only [e_X9_group_52, e_X9_group_53, e_X9_group_56, e_X9_group_58, cR_ref, cR_null, cR_rf, c1_int, c1_ref, c1_null, c1_rf, kz_int, kz_ref, kz_null, kz_rf, kz_U, kz_long, nB_null, nB_ref, rf_none, rf_some, bV_ret, bV_thr, bA_ret, bA_thr, bX_ret, bX_thr, len4_0, len4_1, len4_2, len4_3, len4_4, true_and, and_true, and_self, if_true, if_false, Option.bind_some, nR_b1, nR_b0, nR_bI, nI_1z, nI_0z, bI_z, if_nn, gf, pf, aln, gaI, gaL, gaR, saI, saR, isI, ctB, isB, gB, hput_n, hput_e, hput_21, hput_22, hnew_n, hnew_e, hnew_21, hnew_22, Option.bind_some, Option.map_some, List.lookup_cons, List.lookup_nil, beq_self_eq_true, List.getElem?_cons_zero, List.getElem?_cons_succ, List.set_cons_zero, List.set_cons_succ, List.length_cons, List.length_nil, Nat.reduceAdd, Nat.reduceLT, Nat.reduceLeDiff, Nat.reduceBEq, Nat.reduceEqDiff, okv_int, okv_oref, okv_onull, okv_orf, okv_aref, okv_b0, okv_b1, okv_z0, okv_bI, ckI_nI, lt31, leT, reduceCtorEq, List.mem_cons, List.mem_singleton, List.not_mem_nil, or_true, true_or, or_false, false_or, toR_ref, toR_null, ↓reduceIte, a12, ↓nI_eq_if, q125]
      rw [e0]
      refine ⟨fun g s' hh => ?_, fun q hh => (nomatch hh)⟩
      cases hh
      obtain ⟨hlt2, h3, f1, f2, f3, _⟩ := (r_gend (d := d) (ga := h1.2.1) hdp t2).1 h125
      have gn := f3.ob g0 (by decide) (t2.na g0 (by decide))
      have gl := f2.fe.lt gn
      exact ⟨by omega, h1.2.1, h3, f1, f2, (n2.trans f3).mono (fun _ z => z) (by omega) (by omega), GcR.grF (L := []) (show GcR h3 h1.2.1 [] from gn) ChI.nil hz1 gl, hz1, gl, _, gn⟩
    · rw [if_neg h125]
      have q125 : ¬ mu = 125 := fun z => h125 (s125.mp z)
      have e0 : gO PG Ω (d + 17) 119 52 [.ref r, .ref h1.2.1] [] (hnew h1 (.inr (9, [.null, .null])) 2) = bA (gM PG Ω (d + 17) 120 [.ref r] (hnew h1 (.inr (9, [.null, .null])) 2)) (fun v h' => gO PG Ω (d + 17) 119 66 [.ref r, .ref h1.2.1] [v, .ref h1.2.1] h') := by
        simp (disch := first | omega | (simp only [hnew_21, hput_21, hnew_22, hput_22]; omega) | exact isR_ref | exact isR_null | exact isR_rf | exact isR_fmt | assumption | decide) only [e_X9_group_52, e_X9_group_53, e_X9_group_56, e_X9_group_58, e_X9_group_61, e_X9_group_62, e_X9_group_63, cR_ref, cR_null, cR_rf, c1_int, c1_ref, c1_null, c1_rf, kz_int, kz_ref, kz_null, kz_rf, kz_U, kz_long, nB_null, nB_ref, rf_none, rf_some, bV_ret, bV_thr, bA_ret, bA_thr, bX_ret, bX_thr, len4_0, len4_1, len4_2, len4_3, len4_4, true_and, and_true, and_self, if_true, if_false, Option.bind_some, nR_b1, nR_b0, nR_bI, nI_1z, nI_0z, bI_z, if_nn, gf, pf, clN, aln, gaI, gaL, gaR, saI, saR, isI, ctB, isB, gB, hput_n, hput_e, hput_21, hput_22, hnew_n, hnew_e, hnew_21, hnew_22, Option.bind_some, Option.map_some, List.lookup_cons, List.lookup_nil, beq_self_eq_true, List.getElem?_cons_zero, List.getElem?_cons_succ, List.set_cons_zero, List.set_cons_succ, List.length_cons, List.length_nil, Nat.reduceAdd, Nat.reduceLT, Nat.reduceLeDiff, Nat.reduceBEq, Nat.reduceEqDiff, okv_int, okv_oref, okv_onull, okv_orf, okv_aref, okv_b0, okv_b1, okv_z0, okv_bI, ckI_nI, lt31, leT, reduceCtorEq, List.mem_cons, List.mem_singleton, List.not_mem_nil, or_true, true_or, or_false, false_or, toR_ref, toR_null, ↓reduceIte, a12, ↓nI_eq_if, q125]
      rw [e0]
      have rel := r_el (d := d) hG t2
      cases hq : pEl cs (pG cs n) (nx cs s) with
      | error q =>
        refine ⟨fun es s' hh => (nomatch hh), fun q' hh => ?_⟩
        cases hh
        obtain ⟨ex, h', hf', g1, g2⟩ := rel.2 q hq
        have er' : REr (hnew h1 (.inr (9, [.null, .null])) 2) r c nm (nx cs s) q 6 (bA (gM PG Ω (d + 17) 120 [.ref r] (hnew h1 (.inr (9, [.null, .null])) 2)) (fun v h' => gO PG Ω (d + 17) 119 66 [.ref r, .ref h1.2.1] [v, .ref h1.2.1] h')) := by
          refine ⟨ex, h', hf', ?_, g2⟩
          rw [g1]; rfl
        exact er'.back2 t n2 (by omega) hn5 (by omega) (by omega)
      | ok v1 =>
        obtain ⟨e, s1⟩ := v1
        dsimp only
        obtain ⟨hlt2, u, h2, f1, f2, f3, f4⟩ := rel.1 e s1 hq
        have hmo := pEl_mo (pG_mo cs n) hn5 hq
        have hgn2 : h2.1 h1.2.1 = some (.inr (9, [.null, .null])) := f3.ob g0 (by decide) (t2.na g0 (by decide))
        have hzz : Ω.sz ≤ h1.2.1 := e2.2.2.2.2.2.2.2.2.1.2.2.2.2
        have hs2 : (hnew h1 (.inr (9, [.null, .null])) 2).2.1 = h1.2.1 + 1 := hnew_21
        obtain ⟨h3, y1, y2, y3, y4, y5, y6⟩ := r_gadd (Ω := Ω) (d := d + 16) (L := []) (els := []) (lo := h1.2.1 + 1) (hi := h1.2.1 + 1) hzz (by omega) f2 (show GcR h2 h1.2.1 [] from hgn2) (by omega) ChI.nil (Nat.le_of_eq hs2.symm) (Nat.le_of_eq hs2.symm) (Nat.le_refl _) f4
        have N3 := y6 _ _ _ h (n2.trans f3) hz1
        have eg : bA (gM PG Ω (d + 17) 120 [.ref r] (hnew h1 (.inr (9, [.null, .null])) 2)) (fun v h' => gO PG Ω (d + 17) 119 66 [.ref r, .ref h1.2.1] [v, .ref h1.2.1] h') = gO PG Ω (d + 17) 119 69 [.ref r, .ref h1.2.1] [] h3 := by
          rw [f1]
          simp (disch := first | omega | (simp only [hnew_21, hput_21, hnew_22, hput_22]; omega) | exact isR_ref | exact isR_null | exact isR_rf | exact isR_fmt | assumption | decide) only [e_X9_group_66, cR_ref, cR_null, cR_rf, c1_int, c1_ref, c1_null, c1_rf, kz_int, kz_ref, kz_null, kz_rf, kz_U, kz_long, nB_null, nB_ref, rf_none, rf_some, bV_ret, bV_thr, bA_ret, bA_thr, bX_ret, bX_thr, len4_0, len4_1, len4_2, len4_3, len4_4, true_and, and_true, and_self, if_true, if_false, Option.bind_some, nR_b1, nR_b0, nR_bI, nI_1z, nI_0z, bI_z, if_nn, gf, pf, clN, aln, gaI, gaL, gaR, saI, saR, isI, ctB, isB, gB, hput_n, hput_e, hput_21, hput_22, hnew_n, hnew_e, hnew_21, hnew_22, Option.bind_some, Option.map_some, List.lookup_cons, List.lookup_nil, beq_self_eq_true, List.getElem?_cons_zero, List.getElem?_cons_succ, List.set_cons_zero, List.set_cons_succ, List.length_cons, List.length_nil, Nat.reduceAdd, Nat.reduceLT, Nat.reduceLeDiff, Nat.reduceBEq, Nat.reduceEqDiff, okv_int, okv_oref, okv_onull, okv_orf, okv_aref, okv_b0, okv_b1, okv_z0, okv_bI, ckI_nI, lt31, leT, reduceCtorEq, List.mem_cons, List.mem_singleton, List.not_mem_nil, or_true, true_or, or_false, false_or, toR_ref, toR_null, ↓reduceIte, hgn2, y1]
        rw [eg]
        have hsz3 : h3.2.1 = h2.2.1 := by rw [y5]
        have y3' := y3
        rw [show h2.2.1 = h3.2.1 from hsz3.symm] at y3'
        have y2' := y2
        rw [show h2.2.1 = h3.2.1 from hsz3.symm] at y2'
        have hs22 : (nx cs s).2.2 = s.2.2 := rfl
        have ih' := r_gl (d := d) hG hdp t hz1 12 _ _ h3 s1 _ _ (by omega) y4 N3 (by omega) (by omega) (by omega) y2' y3' l1 l2
        cases hq2 : pMore cs (pG cs n) 12 s1 with
        | error q =>
          refine ⟨fun es s' hh => (nomatch hh), fun q' hh => ?_⟩
          cases hh
          exact ih'.2 q hq2
        | ok v2 =>
          obtain ⟨es2, s2⟩ := v2
          refine ⟨fun es s' hh => ?_, fun q' hh => (nomatch hh)⟩
          cases hh
          obtain ⟨x1, h4, x2, x3, x4, L', x5, x6⟩ := ih'.1 es2 s2 hq2
          have gl : h1.2.1 < h4.2.1 := x3.fe.lt x5
          exact ⟨by omega, h1.2.1, h4, x2, x3, x4, x5.grF x6 hz1 gl, hz1, gl, _, x5⟩
  · rw [if_neg h123]
    refine ⟨fun g s' hh => (nomatch hh), fun q hh => ?_⟩
    have hq' : q = (tk cs s).2.2.1 := by unfold er at hh; injection hh with hh; exact hh.symm
    rw [hq']
    obtain ⟨ex, h', hf', g1, g2⟩ := r_chk0 (d := d + 8) t (q := (tk cs s).2.2.1)
    refine ⟨ex, h', hf', ?_, g2⟩
    rw [nu2] at a1
    have q1 : ¬ nu = 123 := fun z => h123 (s123.mp z)
    simp (disch := first | omega | (simp only [hnew_21, hput_21, hnew_22, hput_22]; omega) | exact isR_ref | exact isR_null | exact isR_rf | exact isR_fmt | assumption | decide) only [n_X9_group, e_X9_group_0, e_X9_group_1, e_X9_group_2, e_X9_group_5, e_X9_group_7, e_X9_group_10, e_X9_group_11, e_X9_group_14, e_X9_group_15, e_X9_group_18, e_X9_group_19, e_X9_group_22, e_X9_group_23, e_X9_group_24, e_X9_group_27, e_X9_group_30, cR_ref, cR_null, cR_rf, c1_int, c1_ref, c1_null, c1_rf, kz_int, kz_ref, kz_null, kz_rf, kz_U, kz_long, nB_null, nB_ref, rf_none, rf_some, bV_ret, bV_thr, bA_ret, bA_thr, bX_ret, bX_thr, len4_0, len4_1, len4_2, len4_3, len4_4, true_and, and_true, and_self, if_true, if_false, Option.bind_some, nR_b1, nR_b0, nR_bI, nI_1z, nI_0z, bI_z, if_nn, gf, pf, clN, aln, gaI, gaL, gaR, saI, saR, isI, ctB, isB, gB, hput_n, hput_e, hput_21, hput_22, hnew_n, hnew_e, hnew_21, hnew_22, Option.bind_some, Option.map_some, List.lookup_cons, List.lookup_nil, beq_self_eq_true, List.getElem?_cons_zero, List.getElem?_cons_succ, List.set_cons_zero, List.set_cons_succ, List.length_cons, List.length_nil, Nat.reduceAdd, Nat.reduceLT, Nat.reduceLeDiff, Nat.reduceBEq, Nat.reduceEqDiff, okv_int, okv_oref, okv_onull, okv_orf, okv_aref, okv_b0, okv_b1, okv_z0, okv_bI, ckI_nI, lt31, leT, reduceCtorEq, List.mem_cons, List.mem_singleton, List.not_mem_nil, or_true, true_or, or_false, false_or, toR_ref, toR_null, ↓reduceIte, a1, ↓nI_eq_if, q1, g1]
theorem HGr.four : HGr Ω (d + 24) r c tx nm cs 4 0 :=
  HGr.succ (d := d + 6) (HGr.succ (d := d + 4) (HGr.succ (d := d + 2) (HGr.succ (d := d) HGr.zero (by decide)) (by decide)) (by decide)) (by decide)
end RDH
