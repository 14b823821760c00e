/-! COMPONENT: reader, groups whole -/
section RDG
variable {Ω : Om} {d n lo hi lo' hi' : Nat} {h h' h0 h1 h2 : AH} {a b ga r c tx nm dp k m K M : Nat} {w cs : List Nat} {s s' s0 : PS} {fs : List Value} {L : List (Nat × Nat × Nat)} {els : List (El (GT n))} {e : El (GT n)}
/-- a group's end -/
theorem r_gend (hdp : dp + 1 ≤ 4) (t : RdR Ω h r c tx nm cs s (dp + 1)) : (isSg (tk cs s) 125 = true → s.1 < (nx cs s).1 ∧ ROk Ω h r c tx nm cs (nx cs s) dp 2 164 (some (.ref ga)) (fun _ => True) (gO PG Ω (d + 17) 119 93 [.ref r, .ref ga] [] h)) ∧ (isSg (tk cs s) 125 = false → REr h r c nm s (tk cs s).2.2.1 1 (gO PG Ω (d + 17) 119 93 [.ref r, .ref ga] [] h)) := by
  have rn := r_need (d := d + 7) t (x := 125) (by decide)
  obtain ⟨wd, p, a1, a2⟩ := t.cell
  refine ⟨fun hs => ?_, fun hs => ?_⟩
  · obtain ⟨h1, e1, e2, e3, _⟩ := rn.1 hs
    have hlt := nx_lt t.2.2.2.2.1 (isSg_0 hs)
    obtain ⟨wd1, p1, a11, _⟩ := e2.cell
    obtain ⟨t1, n1⟩ := r_set e2 (el' := (nx cs s).2.2) (dp' := dp) e2.2.2.2.2.2.2.2.2.2.1 (by omega) a11
    have hzr : Ω.sz ≤ r := t.2.2.2.2.2.2.2.2.1.1
    refine ⟨hlt, _, ?_, t1, (e3.trans n1).mono (fun _ z => z) (by omega) (by omega), trivial⟩
    simp (disch := first | omega | (simp only [hnew_21, hput_21, hnew_22, hput_22]; omega) | exact isR_ref | exact isR_null | exact isR_rf | exact isR_fmt | assumption | decide) only [e_X9_group_93, e_X9_group_94, e_X9_group_96, cR_ref, cR_null, cR_rf, c1_int, c1_ref, c1_null, c1_rf, kz_int, kz_ref, kz_null, kz_rf, kz_U, kz_long, nB_null, nB_ref, rf_none, rf_some, bV_ret, bV_thr, bA_ret, bA_thr, bX_ret, bX_thr, len4_0, len4_1, len4_2, len4_3, len4_4, true_and, and_true, and_self, if_true, if_false, Option.bind_some, nR_b1, nR_b0, nR_bI, nI_1z, nI_0z, bI_z, if_nn, gf, pf, clN, aln, gaI, gaL, gaR, saI, saR, isI, ctB, isB, gB, hput_n, hput_e, hput_21, hput_22, hnew_n, hnew_e, hnew_21, hnew_22, Option.bind_some, Option.map_some, List.lookup_cons, List.lookup_nil, beq_self_eq_true, List.getElem?_cons_zero, List.getElem?_cons_succ, List.set_cons_zero, List.set_cons_succ, List.length_cons, List.length_nil, Nat.reduceAdd, Nat.reduceLT, Nat.reduceLeDiff, Nat.reduceBEq, Nat.reduceEqDiff, okv_int, okv_oref, okv_onull, okv_orf, okv_aref, okv_b0, okv_b1, okv_z0, okv_bI, ckI_nI, lt31, leT, reduceCtorEq, List.mem_cons, List.mem_singleton, List.not_mem_nil, or_true, true_or, or_false, false_or, toR_ref, toR_null, ↓reduceIte, a1, e1]
    simp (disch := first | omega | (simp only [hnew_21, hput_21, hnew_22, hput_22]; omega) | exact isR_ref | exact isR_null | exact isR_rf | exact isR_fmt | assumption | decide) only [e_X9_group_99, e_X9_group_100, e_X9_group_101, e_X9_group_104, e_X9_group_105, e_X9_group_106, e_X9_group_109, e_X9_group_110, cR_ref, cR_null, cR_rf, c1_int, c1_ref, c1_null, c1_rf, kz_int, kz_ref, kz_null, kz_rf, kz_U, kz_long, nB_null, nB_ref, rf_none, rf_some, bV_ret, bV_thr, bA_ret, bA_thr, bX_ret, bX_thr, len4_0, len4_1, len4_2, len4_3, len4_4, true_and, and_true, and_self, if_true, if_false, Option.bind_some, nR_b1, nR_b0, nR_bI, nI_1z, nI_0z, bI_z, if_nn, gf, pf, clN, aln, gaI, gaL, gaR, saI, saR, isI, ctB, isB, gB, hput_n, hput_e, hput_21, hput_22, hnew_n, hnew_e, hnew_21, hnew_22, Option.bind_some, Option.map_some, List.lookup_cons, List.lookup_nil, beq_self_eq_true, List.getElem?_cons_zero, List.getElem?_cons_succ, List.set_cons_zero, List.set_cons_succ, List.length_cons, List.length_nil, Nat.reduceAdd, Nat.reduceLT, Nat.reduceLeDiff, Nat.reduceBEq, Nat.reduceEqDiff, okv_int, okv_oref, okv_onull, okv_orf, okv_aref, okv_b0, okv_b1, okv_z0, okv_bI, ckI_nI, lt31, leT, reduceCtorEq, List.mem_cons, List.mem_singleton, List.not_mem_nil, or_true, true_or, or_false, false_or, toR_ref, toR_null, ↓reduceIte, a11, pk_pred]
  · obtain ⟨ex, h', hf', g1, g2⟩ := rn.2 hs
    refine ⟨ex, h', hf', ?_, g2⟩
    simp (disch := first | omega | (simp only [hnew_21, hput_21, hnew_22, hput_22]; omega) | exact isR_ref | exact isR_null | exact isR_rf | exact isR_fmt | assumption | decide) only [e_X9_group_93, e_X9_group_94, e_X9_group_96, cR_ref, cR_null, cR_rf, c1_int, c1_ref, c1_null, c1_rf, kz_int, kz_ref, kz_null, kz_rf, kz_U, kz_long, nB_null, nB_ref, rf_none, rf_some, bV_ret, bV_thr, bA_ret, bA_thr, bX_ret, bX_thr, len4_0, len4_1, len4_2, len4_3, len4_4, true_and, and_true, and_self, if_true, if_false, Option.bind_some, nR_b1, nR_b0, nR_bI, nI_1z, nI_0z, bI_z, if_nn, gf, pf, clN, aln, gaI, gaL, gaR, saI, saR, isI, ctB, isB, gB, hput_n, hput_e, hput_21, hput_22, hnew_n, hnew_e, hnew_21, hnew_22, Option.bind_some, Option.map_some, List.lookup_cons, List.lookup_nil, beq_self_eq_true, List.getElem?_cons_zero, List.getElem?_cons_succ, List.set_cons_zero, List.set_cons_succ, List.length_cons, List.length_nil, Nat.reduceAdd, Nat.reduceLT, Nat.reduceLeDiff, Nat.reduceBEq, Nat.reduceEqDiff, okv_int, okv_oref, okv_onull, okv_orf, okv_aref, okv_b0, okv_b1, okv_z0, okv_bI, ckI_nI, lt31, leT, reduceCtorEq, List.mem_cons, List.mem_singleton, List.not_mem_nil, or_true, true_or, or_false, false_or, toR_ref, toR_null, ↓reduceIte, a1, g1]
theorem sg_excl {t : Tok} (h : isSg t 125 = true) : isSg t 46 = false := by
  unfold isSg at *
  have := of_decide_eq_true h
  refine decide_eq_false (fun z => ?_)
  rw [this.2] at z
  have := z.2
  injection this with q _
  omega
set_option maxHeartbeats 2000000 in
theorem r_gl (hG : HGr Ω (d + 16) r c tx nm cs n (dp + 1)) (hdp : dp + 1 ≤ 4) (t0 : RdR Ω h0 r c tx nm cs s0 dp) (hga : h0.2.1 ≤ ga) : ∀ (k : Nat) (els : List (El (GT n))) (L : List (Nat × Nat × Nat)) (h : AH) (s : PS) (K M : Nat), 13 ≤ s.2.2 + k → RdR Ω h r c tx nm cs s (dp + 1) → Nx [r, nm] K M h0 h → s0.1 < s.1 → K + 7 ≤ 10 * (s.1 - s0.1) → M + 130 ≤ 300 * (s.1 - s0.1) → GcR h ga L → ChI n (ga + 1) h.2.1 h L els → r < ga → nm < ga → (∀ es s', pMore cs (pG cs n) k s = .ok (es, s') → s.1 < s'.1 ∧ ∃ h', gO PG Ω (d + 17) 119 69 [.ref r, .ref ga] [] h = some (.returned (some (.ref ga)), h') ∧ RdR Ω h' r c tx nm cs s' dp ∧ Nx [r, nm] (10 * (s'.1 - s0.1) - 5) (300 * (s'.1 - s0.1) - 60) h0 h' ∧ ∃ L', GcR h' ga L' ∧ ChI n (ga + 1) h'.2.1 h' L' (els ++ es)) ∧ (∀ q, pMore cs (pG cs n) k s = .error q → REr h0 r c nm s0 q 1 (gO PG Ω (d + 17) 119 69 [.ref r, .ref ga] [] h)) := by
  intro k
  induction k with
  | zero =>
    intro els L h s K M hk t
    have : s.2.2 ≤ 12 := t.2.2.2.2.2.2.2.2.2.1
    omega
  | succ k ih =>
    intro els L h s K M hk t nn hs0 hK hM hgc hch hrg hng
    obtain ⟨nu, nu1, nu2, m1, m2, m3, m4, m5, m6⟩ := kc_n t.tw
    obtain ⟨wd, p, a1, a2⟩ := t.cell
    rw [nu2] at a1
    have hs5 := t.2.2.2.2.1
    have hzg : Ω.sz ≤ ga := by have : Ω.sz ≤ h0.2.1 := t0.2.2.2.2.2.2.2.2.1.2.2.2.2; omega
    have s46 := m6 46 (by decide)
    unfold pMore
    by_cases h125 : isSg (tk cs s) 125 = true
    · rw [if_pos h125]
      have q46 : ¬ nu = 46 := fun z => by rw [sg_excl h125] at s46; exact absurd (s46.mp z) (by decide)
      have e0 : gO PG Ω (d + 17) 119 69 [.ref r, .ref ga] [] h = gO PG Ω (d + 17) 119 93 [.ref r, .ref ga] [] h := by
        rw [e_X9_group_69]
        simp (disch := first | omega | (simp only [hnew_21, hput_21, hnew_22, hput_22]; omega) | exact isR_ref | exact isR_null | exact isR_rf | exact isR_fmt | assumption | decide) only [e_X9_group_70, e_X9_group_73, e_X9_group_75, cR_ref, cR_null, cR_rf, c1_int, c1_ref, c1_null, c1_rf, kz_int, kz_ref, kz_null, kz_rf, kz_U, kz_long, nB_null, nB_ref, rf_none, rf_some, bV_ret, bV_thr, bA_ret, bA_thr, bX_ret, bX_thr, len4_0, len4_1, len4_2, len4_3, len4_4, true_and, and_true, and_self, if_true, if_false, Option.bind_some, nR_b1, nR_b0, nR_bI, nI_1z, nI_0z, bI_z, if_nn, gf, pf, clN, aln, gaI, gaL, gaR, saI, saR, isI, ctB, isB, gB, hput_n, hput_e, hput_21, hput_22, hnew_n, hnew_e, hnew_21, hnew_22, Option.bind_some, Option.map_some, List.lookup_cons, List.lookup_nil, beq_self_eq_true, List.getElem?_cons_zero, List.getElem?_cons_succ, List.set_cons_zero, List.set_cons_succ, List.length_cons, List.length_nil, Nat.reduceAdd, Nat.reduceLT, Nat.reduceLeDiff, Nat.reduceBEq, Nat.reduceEqDiff, okv_int, okv_oref, okv_onull, okv_orf, okv_aref, okv_b0, okv_b1, okv_z0, okv_bI, ckI_nI, lt31, leT, reduceCtorEq, List.mem_cons, List.mem_singleton, List.not_mem_nil, or_true, true_or, or_false, false_or, toR_ref, toR_null, ↓reduceIte, a1, ↓nI_eq_if, q46]
      rw [e0]
      refine ⟨fun es s' hh => ?_, fun q hh => (nomatch hh)⟩
      cases hh
      obtain ⟨hlt, h1, e1, e2, e3, _⟩ := (r_gend (d := d) (ga := ga) hdp t).1 h125
      have hag : Agr (ga + 1) h.2.1 h h1 := t.agr e3 (by omega) (by omega)
      have hgn : h1.1 ga = some (.inr (9, [nxI L 0, lsI L])) := e3.ob (show h.1 ga = some (.inr (9, [nxI L 0, lsI L])) from hgc) (by decide) (t.na (show h.1 ga = some (.inr (9, [nxI L 0, lsI L])) from hgc) (by decide))
      refine ⟨hlt, h1, e1, e2, (nn.trans e3).mono (fun _ z => z) (by omega) (by omega), L, hgn, ?_⟩
      rw [List.append_nil]
      exact (hch.to hag).mono (Nat.le_refl _) e3.2.2.1
    · rw [if_neg h125]
      by_cases h46 : isSg (tk cs s) 46 = true
      · rw [if_pos h46]
        have q46 := s46.mpr h46
        obtain ⟨h1, e1, e2, e3, e4, e5⟩ := r_adv (d := d + 11) t (isSg_0 h46)
        have hlt := e4
        have hn5 := e2.2.2.2.2.1
        have rel := r_el (d := d) hG e2
        have N1 := nn.trans e3
        obtain ⟨wd1, p1, a11, _⟩ := e2.cell
        have pre : gO PG Ω (d + 17) 119 69 [.ref r, .ref ga] [] h = bA (gM PG Ω (d + 17) 120 [.ref r] h1) (fun v h' => gO PG Ω (d + 17) 119 87 [.ref r, .ref ga] [v, .ref ga] h') := by
          rw [e_X9_group_69]
          simp (disch := first | omega | (simp only [hnew_21, hput_21, hnew_22, hput_22]; omega) | exact isR_ref | exact isR_null | exact isR_rf | exact isR_fmt | assumption | decide) only [e_X9_group_70, e_X9_group_73, e_X9_group_75, e_X9_group_78, e_X9_group_79, e_X9_group_82, e_X9_group_83, e_X9_group_84, cR_ref, cR_null, cR_rf, c1_int, c1_ref, c1_null, c1_rf, kz_int, kz_ref, kz_null, kz_rf, kz_U, kz_long, nB_null, nB_ref, rf_none, rf_some, bV_ret, bV_thr, bA_ret, bA_thr, bX_ret, bX_thr, len4_0, len4_1, len4_2, len4_3, len4_4, true_and, and_true, and_self, if_true, if_false, Option.bind_some, nR_b1, nR_b0, nR_bI, nI_1z, nI_0z, bI_z, if_nn, gf, pf, clN, aln, gaI, gaL, gaR, saI, saR, isI, ctB, isB, gB, hput_n, hput_e, hput_21, hput_22, hnew_n, hnew_e, hnew_21, hnew_22, Option.bind_some, Option.map_some, List.lookup_cons, List.lookup_nil, beq_self_eq_true, List.getElem?_cons_zero, List.getElem?_cons_succ, List.set_cons_zero, List.set_cons_succ, List.length_cons, List.length_nil, Nat.reduceAdd, Nat.reduceLT, Nat.reduceLeDiff, Nat.reduceBEq, Nat.reduceEqDiff, okv_int, okv_oref, okv_onull, okv_orf, okv_aref, okv_b0, okv_b1, okv_z0, okv_bI, ckI_nI, lt31, leT, reduceCtorEq, List.mem_cons, List.mem_singleton, List.not_mem_nil, or_true, true_or, or_false, false_or, toR_ref, toR_null, ↓reduceIte, a1, a11, ↓nI_eq_if, q46, e1]
        rw [pre]
        cases hq : pEl cs (pG cs n) (nx cs s) with
        | error q =>
          refine ⟨fun es s' hh => (nomatch hh), fun q' hh => ?_⟩
          cases hh
          obtain ⟨ex, h', hf', g1, g2⟩ := rel.2 q hq
          have er' : REr h1 r c nm (nx cs s) q 6 (bA (gM PG Ω (d + 17) 120 [.ref r] h1) (fun v h' => gO PG Ω (d + 17) 119 87 [.ref r, .ref ga] [v, .ref ga] h')) := by
            refine ⟨ex, h', hf', ?_, g2⟩
            rw [g1]; rfl
          exact er'.back2 t0 N1 (by omega) hn5 (by omega) (by omega)
        | ok v1 =>
          obtain ⟨e, s1⟩ := v1
          dsimp only
          obtain ⟨hlt2, u, h2, f1, f2, f3, f4⟩ := rel.1 e s1 hq
          have hmo := pEl_mo (pG_mo cs n) hn5 hq
          have hag1 : Agr (ga + 1) h.2.1 h h1 := t.agr e3 (by omega) (by omega)
          have hag2 : Agr (ga + 1) h.2.1 h1 h2 := e2.agr f3 (by omega) (by omega)
          have hgn1 : h1.1 ga = some (.inr (9, [nxI L 0, lsI L])) := e3.ob (show h.1 ga = some (.inr (9, [nxI L 0, lsI L])) from hgc) (by decide) (t.na (show h.1 ga = some (.inr (9, [nxI L 0, lsI L])) from hgc) (by decide))
          have hgn2 : h2.1 ga = some (.inr (9, [nxI L 0, lsI L])) := f3.ob hgn1 (by decide) (e2.na hgn1 (by decide))
          have hch2 := hch.to (hag1.trans hag2)
          have z1 := e3.2.2.1
          have lgh : ga < h.2.1 := t.fe.lt (show h.1 ga = some (.inr (9, [nxI L 0, lsI L])) from hgc)
          obtain ⟨h3, y1, y2, y3, y4, y5, y6⟩ := r_gadd (Ω := Ω) (d := d + 16) hzg (show Ω.sz ≤ ga + 1 by omega) f2 hgn2 (by omega) hch2 z1 (by omega) (Nat.le_refl _) f4
          have N3 := y6 _ _ _ h0 (N1.trans f3) hga
          have eg : bA (gM PG Ω (d + 17) 120 [.ref r] h1) (fun v h' => gO PG Ω (d + 17) 119 87 [.ref r, .ref ga] [v, .ref ga] h') = gO PG Ω (d + 17) 119 69 [.ref r, .ref ga] [] h3 := by
            rw [f1]
            simp (disch := first | omega | (simp only [hnew_21, hput_21, hnew_22, hput_22]; omega) | exact isR_ref | exact isR_null | exact isR_rf | exact isR_fmt | assumption | decide) only [e_X9_group_87, e_X9_group_90, cR_ref, cR_null, cR_rf, c1_int, c1_ref, c1_null, c1_rf, kz_int, kz_ref, kz_null, kz_rf, kz_U, kz_long, nB_null, nB_ref, rf_none, rf_some, bV_ret, bV_thr, bA_ret, bA_thr, bX_ret, bX_thr, len4_0, len4_1, len4_2, len4_3, len4_4, true_and, and_true, and_self, if_true, if_false, Option.bind_some, nR_b1, nR_b0, nR_bI, nI_1z, nI_0z, bI_z, if_nn, gf, pf, clN, aln, gaI, gaL, gaR, saI, saR, isI, ctB, isB, gB, hput_n, hput_e, hput_21, hput_22, hnew_n, hnew_e, hnew_21, hnew_22, Option.bind_some, Option.map_some, List.lookup_cons, List.lookup_nil, beq_self_eq_true, List.getElem?_cons_zero, List.getElem?_cons_succ, List.set_cons_zero, List.set_cons_succ, List.length_cons, List.length_nil, Nat.reduceAdd, Nat.reduceLT, Nat.reduceLeDiff, Nat.reduceBEq, Nat.reduceEqDiff, okv_int, okv_oref, okv_onull, okv_orf, okv_aref, okv_b0, okv_b1, okv_z0, okv_bI, ckI_nI, lt31, leT, reduceCtorEq, List.mem_cons, List.mem_singleton, List.not_mem_nil, or_true, true_or, or_false, false_or, toR_ref, toR_null, ↓reduceIte, hgn2, y1]
          rw [eg]
          have hsz3 : h3.2.1 = h2.2.1 := by rw [y5]
          have y3' : ChI n (ga + 1) h3.2.1 h3 (L ++ [(u, h1.2.1, h2.2.1)]) (els ++ [e]) := by rw [hsz3]; exact y3
          have hs22 : (nx cs s).2.2 = s.2.2 := rfl
          have ih' := ih (els ++ [e]) _ h3 s1 _ _ (by omega) y4 N3 (by omega) (by omega) (by omega) y2 y3' hrg hng
          cases hq2 : pMore cs (pG cs n) k s1 with
          | error q =>
            refine ⟨fun es s' hh => (nomatch hh), fun q' hh => ?_⟩
            cases hh
            exact ih'.2 q hq2
          | ok v2 =>
            obtain ⟨es2, s2⟩ := v2
            refine ⟨fun es s' hh => ?_, fun q' hh => (nomatch hh)⟩
            cases hh
            obtain ⟨x1, h4, x2, x3, x4, L', x5, x6⟩ := ih'.1 es2 s2 hq2
            rw [List.append_assoc] at x6
            exact ⟨by omega, h4, x2, x3, x4, L', x5, x6⟩
      · rw [if_neg h46]
        have q46 : ¬ nu = 46 := fun z => h46 (s46.mp z)
        have e0 : gO PG Ω (d + 17) 119 69 [.ref r, .ref ga] [] h = gO PG Ω (d + 17) 119 93 [.ref r, .ref ga] [] h := by
          rw [e_X9_group_69]
          simp (disch := first | omega | (simp only [hnew_21, hput_21, hnew_22, hput_22]; omega) | exact isR_ref | exact isR_null | exact isR_rf | exact isR_fmt | assumption | decide) only [e_X9_group_70, e_X9_group_73, e_X9_group_75, cR_ref, cR_null, cR_rf, c1_int, c1_ref, c1_null, c1_rf, kz_int, kz_ref, kz_null, kz_rf, kz_U, kz_long, nB_null, nB_ref, rf_none, rf_some, bV_ret, bV_thr, bA_ret, bA_thr, bX_ret, bX_thr, len4_0, len4_1, len4_2, len4_3, len4_4, true_and, and_true, and_self, if_true, if_false, Option.bind_some, nR_b1, nR_b0, nR_bI, nI_1z, nI_0z, bI_z, if_nn, gf, pf, clN, aln, gaI, gaL, gaR, saI, saR, isI, ctB, isB, gB, hput_n, hput_e, hput_21, hput_22, hnew_n, hnew_e, hnew_21, hnew_22, Option.bind_some, Option.map_some, List.lookup_cons, List.lookup_nil, beq_self_eq_true, List.getElem?_cons_zero, List.getElem?_cons_succ, List.set_cons_zero, List.set_cons_succ, List.length_cons, List.length_nil, Nat.reduceAdd, Nat.reduceLT, Nat.reduceLeDiff, Nat.reduceBEq, Nat.reduceEqDiff, okv_int, okv_oref, okv_onull, okv_orf, okv_aref, okv_b0, okv_b1, okv_z0, okv_bI, ckI_nI, lt31, leT, reduceCtorEq, List.mem_cons, List.mem_singleton, List.not_mem_nil, or_true, true_or, or_false, false_or, toR_ref, toR_null, ↓reduceIte, a1, ↓nI_eq_if, q46]
        rw [e0]
        refine ⟨fun es s' hh => (nomatch hh), fun q hh => ?_⟩
        have hq' : q = (tk cs s).2.2.1 := by unfold er at hh; injection hh with hh; exact hh.symm
        rw [hq']
        exact ((r_gend (d := d) (ga := ga) hdp t).2 (bfalse h125)).back2 t0 nn (by omega) hs5 (by omega) (by omega)
theorem HGr.zero : HGr Ω (d + 16) r c tx nm cs 0 4 := by
  intro h s t
  obtain ⟨nu, nu1, nu2, m1, m2, m3, m4, m5, m6⟩ := kc_n t.tw
  obtain ⟨wd, p, a1, a2⟩ := t.cell
  rw [nu2] at a1
  refine ⟨fun g => (nomatch g), fun q hh => ?_⟩
  have hh' : er (α := GT 0) cs s = .error q := hh
  have hq' : q = (tk cs s).2.2.1 := by unfold er at hh'; injection hh' with hh'; exact hh'.symm
  rw [hq']
  obtain ⟨ex, h', hf', g1, g2⟩ := r_chk0 (d := d + 6) t (q := (tk cs s).2.2.1)
  refine ⟨ex, h', hf', ?_, g2⟩
  by_cases q1 : nu = 123
  · simp (disch := first | omega | (simp only [hnew_21, hput_21, hnew_22, hput_22]; omega) | exact isR_ref | exact isR_null | exact isR_rf | exact isR_fmt | assumption | decide) only [n_X9_group, e_X9_group_0, e_X9_group_1, e_X9_group_2, e_X9_group_5, e_X9_group_7, e_X9_group_10, e_X9_group_11, e_X9_group_14, e_X9_group_15, e_X9_group_18, e_X9_group_19, e_X9_group_22, e_X9_group_23, e_X9_group_24, e_X9_group_27, e_X9_group_30, cR_ref, cR_null, cR_rf, c1_int, c1_ref, c1_null, c1_rf, kz_int, kz_ref, kz_null, kz_rf, kz_U, kz_long, nB_null, nB_ref, rf_none, rf_some, bV_ret, bV_thr, bA_ret, bA_thr, bX_ret, bX_thr, len4_0, len4_1, len4_2, len4_3, len4_4, true_and, and_true, and_self, if_true, if_false, Option.bind_some, nR_b1, nR_b0, nR_bI, nI_1z, nI_0z, bI_z, if_nn, gf, pf, clN, aln, gaI, gaL, gaR, saI, saR, isI, ctB, isB, gB, hput_n, hput_e, hput_21, hput_22, hnew_n, hnew_e, hnew_21, hnew_22, Option.bind_some, Option.map_some, List.lookup_cons, List.lookup_nil, beq_self_eq_true, List.getElem?_cons_zero, List.getElem?_cons_succ, List.set_cons_zero, List.set_cons_succ, List.length_cons, List.length_nil, Nat.reduceAdd, Nat.reduceLT, Nat.reduceLeDiff, Nat.reduceBEq, Nat.reduceEqDiff, okv_int, okv_oref, okv_onull, okv_orf, okv_aref, okv_b0, okv_b1, okv_z0, okv_bI, ckI_nI, lt31, leT, reduceCtorEq, List.mem_cons, List.mem_singleton, List.not_mem_nil, or_true, true_or, or_false, false_or, toR_ref, toR_null, ↓reduceIte, a1, ↓nI_eq_if, q1, ↓nI_lt_if, Nat.lt_irrefl, g1]
  · simp (disch := first | omega | (simp only [hnew_21, hput_21, hnew_22, hput_22]; omega) | exact isR_ref | exact isR_null | exact isR_rf | exact isR_fmt | assumption | decide) only [n_X9_group, e_X9_group_0, e_X9_group_1, e_X9_group_2, e_X9_group_5, e_X9_group_7, e_X9_group_10, e_X9_group_11, e_X9_group_14, e_X9_group_15, e_X9_group_18, e_X9_group_19, e_X9_group_22, e_X9_group_23, e_X9_group_24, e_X9_group_27, e_X9_group_30, cR_ref, cR_null, cR_rf, c1_int, c1_ref, c1_null, c1_rf, kz_int, kz_ref, kz_null, kz_rf, kz_U, kz_long, nB_null, nB_ref, rf_none, rf_some, bV_ret, bV_thr, bA_ret, bA_thr, bX_ret, bX_thr, len4_0, len4_1, len4_2, len4_3, len4_4, true_and, and_true, and_self, if_true, if_false, Option.bind_some, nR_b1, nR_b0, nR_bI, nI_1z, nI_0z, bI_z, if_nn, gf, pf, clN, aln, gaI, gaL, gaR, saI, saR, isI, ctB, isB, gB, hput_n, hput_e, hput_21, hput_22, hnew_n, hnew_e, hnew_21, hnew_22, Option.bind_some, Option.map_some, List.lookup_cons, List.lookup_nil, beq_self_eq_true, List.getElem?_cons_zero, List.getElem?_cons_succ, List.set_cons_zero, List.set_cons_succ, List.length_cons, List.length_nil, Nat.reduceAdd, Nat.reduceLT, Nat.reduceLeDiff, Nat.reduceBEq, Nat.reduceEqDiff, okv_int, okv_oref, okv_onull, okv_orf, okv_aref, okv_b0, okv_b1, okv_z0, okv_bI, ckI_nI, lt31, leT, reduceCtorEq, List.mem_cons, List.mem_singleton, List.not_mem_nil, or_true, true_or, or_false, false_or, toR_ref, toR_null, ↓reduceIte, a1, ↓nI_eq_if, q1, g1]
end RDG
