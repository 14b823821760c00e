/-! COMPONENT: reader, an element whole -/
section RDE
variable {Ω : Om} {d n lo hi lo2 hi2 : Nat} {h h' h0 h1 h2 : AH} {a b arr r c tx nm dp k m : Nat} {w cs : List Nat} {s s' s0 : PS} {fs : List Value} {x y : Value} {gs : List (GT n)}
theorem ElS.mono {nx : Value} {e : El (GT n)} (x : ElS n lo hi h a nx e) (h1 : lo2 ≤ lo) (h2 : hi ≤ hi2) : ElS n lo2 hi2 h a nx e := by
  obtain ⟨x1, x2, ci, rest, x3, x4, x5⟩ := x
  exact ⟨by omega, by omega, ci, rest, x3, x4, fun h'' nx' z1 z2 => x5 h'' nx' z1 (fun q e q1 q2 q3 => z2 q e q1 q2 (by rcases q3 with y | y; exact .inl ⟨by omega, by omega⟩; exact .inr y))⟩
theorem ROk.of {K M K' M' : Nat} {v : Option Value} {Q Q' : AH → Prop} {o : Option Rs} (n1 : Nx [r, nm] K M h h1) (x : ROk Ω h1 r c tx nm cs s' dp K' M' v Q o) {K2 M2 : Nat} (hK : K + K' ≤ K2) (hM : M + M' ≤ M2) (hQ : ∀ h', Q h' → Q' h') : ROk Ω h r c tx nm cs s' dp K2 M2 v Q' o := by
  obtain ⟨h', e1, e2, e3, e4⟩ := x
  exact ⟨h', e1, e2, (n1.trans e3).mono (fun _ z => z) hK hM, hQ h' e4⟩
set_option maxHeartbeats 4000000 in
theorem r_el (hG : HGr Ω (d + 16) r c tx nm cs n dp) (t : RdR Ω h r c tx nm cs s dp) : (∀ e s', pEl cs (pG cs n) s = .ok (e, s') → s.1 < s'.1 ∧ ∃ u, ROk Ω h r c tx nm cs s' dp (10 * (s'.1 - s.1)) (300 * (s'.1 - s.1)) (some (.ref u)) (fun h' => ElS n h.2.1 h'.2.1 h' u .null e) (gM PG Ω (d + 17) 120 [.ref r] h)) ∧ (∀ q, pEl cs (pG cs n) s = .error q → REr h r c nm s q 6 (gM PG Ω (d + 17) 120 [.ref r] h)) := by
  rw [r_ebeg t]
  obtain ⟨wd, p, a1, a2⟩ := t.cell
  have hs5 := t.2.2.2.2.1
  have hs12 : s.2.2 ≤ 12 := t.2.2.2.2.2.2.2.2.2.1
  have hd4 : dp ≤ 4 := t.2.2.2.2.2.2.2.2.2.2
  unfold pEl
  by_cases hc : (canS (tk cs s) && decide (s.2.2 < 12)) = true
  · rw [if_pos hc]
    obtain ⟨hcan, hlt12⟩ := Bool.and_eq_true_iff.mp hc
    have h12 := of_decide_eq_true hlt12
    dsimp only
    obtain ⟨t1, n1⟩ := r_set t (el' := s.2.2 + 1) (dp' := dp) (by omega) hd4 a1
    have ec := r_chk1 (Ω := Ω) (d := d + 15) (h := h) (r := r) (x := nI (tk cs s).2.2.1)
    have e1 : gO PG Ω (d + 16) 120 66 [.ref r, .int (bI (canS (tk cs s))), U] [] h = gO PG Ω (d + 16) 120 102 [.ref r, .int (bI true), U] [] (hput h r (rdC c tx nm (nI s.2.1.length) (kc (tk cs s)) (.ref wd) (nI (tk cs s).2.2.1) (nI p) (nI (tk cs s).2.2.2) (nI (s.2.2 + 1)) (nI dp))) := by
      have hzr : Ω.sz ≤ r := t.2.2.2.2.2.2.2.2.1.1
      rw [hcan]
      simp (disch := first | omega | (simp only [hnew_21, hput_21, hnew_22, hput_22]; omega) | exact isR_ref | exact isR_null | exact isR_rf | exact isR_fmt | assumption | decide) only [e_X9_element_66, e_X9_element_67, e_X9_element_68, e_X9_element_71, e_X9_element_72, e_X9_element_75, e_X9_element_77, e_X9_element_80, e_X9_element_81, e_X9_element_84, e_X9_element_85, e_X9_element_86, e_X9_element_89, e_X9_element_92, e_X9_element_93, e_X9_element_94, e_X9_element_97, e_X9_element_98, e_X9_element_99, cR_ref, cR_null, cR_rf, c1_int, c1_ref, c1_null, c1_rf, kz_int, kz_ref, kz_null, kz_rf, kz_U, kz_long, nB_null, nB_ref, rf_none, rf_some, bV_ret, bV_thr, bA_ret, bA_thr, bX_ret, bX_thr, len4_0, len4_1, len4_2, len4_3, len4_4, true_and, and_true, and_self, if_true, if_false, Option.bind_some, nR_b1, nR_b0, nR_bI, nI_1z, nI_0z, bI_z, if_nn, gf, pf, clN, aln, gaI, gaL, gaR, saI, saR, isI, ctB, isB, gB, hput_n, hput_e, hput_21, hput_22, hnew_n, hnew_e, hnew_21, hnew_22, Option.bind_some, Option.map_some, List.lookup_cons, List.lookup_nil, beq_self_eq_true, List.getElem?_cons_zero, List.getElem?_cons_succ, List.set_cons_zero, List.set_cons_succ, List.length_cons, List.length_nil, Nat.reduceAdd, Nat.reduceLT, Nat.reduceLeDiff, Nat.reduceBEq, Nat.reduceEqDiff, okv_int, okv_oref, okv_onull, okv_orf, okv_aref, okv_b0, okv_b1, okv_z0, okv_bI, ckI_nI, lt31, leT, reduceCtorEq, List.mem_cons, List.mem_singleton, List.not_mem_nil, or_true, true_or, or_false, false_or, toR_ref, toR_null, ↓reduceIte, nI_add, pk_mul, a1, ↓nI_lt_if, h12, ec]
    rw [e1]
    have sz1 : (hput h r (rdC c tx nm (nI s.2.1.length) (kc (tk cs s)) (.ref wd) (nI (tk cs s).2.2.1) (nI p) (nI (tk cs s).2.2.2) (nI (s.2.2 + 1)) (nI dp))).2.1 = h.2.1 := rfl
    generalize hput h r (rdC c tx nm (nI s.2.1.length) (kc (tk cs s)) (.ref wd) (nI (tk cs s).2.2.1) (nI p) (nI (tk cs s).2.2.2) (nI (s.2.2 + 1)) (nI dp)) = g1 at *
    obtain ⟨wd1, p1, a11, _⟩ := t1.cell
    have htk : tk cs (s.1, s.2.1, s.2.2 + 1) = tk cs s := rfl
    -- a key's element
    have keyc : ∀ i, i < 11 → isKy (tk cs s) i = true → ∃ h2, gM PG Ω (d + 16) 117 [.ref r, .ref (Ω.k (i + 2))] g1 = some (.returned (some (.int (nI 1))), h2) ∧ RdR Ω h2 r c tx nm cs (nx cs (s.1, s.2.1, s.2.2 + 1)) dp ∧ Nx [r, nm] 2 164 h h2 ∧ s.1 < (nx cs (s.1, s.2.1, s.2.2 + 1)).1 ∧ h.2.1 ≤ h2.2.1 ∧ (nx cs (s.1, s.2.1, s.2.2 + 1)).1 ≤ cs.length := by
      intro i hi hk
      obtain ⟨h2, e1, e2, e3, _⟩ := r_take1 (d := d + 9) t1 hi (by rw [htk]; exact hk)
      have hlt := nx_lt (cs := cs) (s := (s.1, s.2.1, s.2.2 + 1)) hs5 (by rw [htk]; exact isKy_0 hk)
      exact ⟨h2, e1, e2, (n1.trans e3).mono (fun _ z => z) (by omega) (by omega), hlt, by have := e3.2.2.1; omega, e2.2.2.2.2.1⟩
    by_cases h5 : isKy (tk cs s) 5 = true
    · rw [if_pos h5]
      obtain ⟨h2, k1, k2', k3, k4, k5, k6⟩ := keyc 5 (by omega) h5
      have e2 : gO PG Ω (d + 16) 120 102 [.ref r, .int (bI true), U] [] g1 = gO PG Ω (d + 16) 120 111 [.ref r, .int (bI true), U] [] h2 := by
        simp (disch := first | omega | (simp only [hnew_21, hput_21, hnew_22, hput_22]; omega) | exact isR_ref | exact isR_null | exact isR_rf | exact isR_fmt | assumption | decide) only [e_X9_element_102, e_X9_element_103, e_X9_element_105, e_X9_element_108, cR_ref, cR_null, cR_rf, c1_int, c1_ref, c1_null, c1_rf, kz_int, kz_ref, kz_null, kz_rf, kz_U, kz_long, nB_null, nB_ref, rf_none, rf_some, bV_ret, bV_thr, bA_ret, bA_thr, bX_ret, bX_thr, len4_0, len4_1, len4_2, len4_3, len4_4, true_and, and_true, and_self, if_true, if_false, Option.bind_some, nR_b1, nR_b0, nR_bI, nI_1z, nI_0z, bI_z, if_nn, gf, pf, clN, aln, gaI, gaL, gaR, saI, saR, isI, ctB, isB, gB, hput_n, hput_e, hput_21, hput_22, hnew_n, hnew_e, hnew_21, hnew_22, Option.bind_some, Option.map_some, List.lookup_cons, List.lookup_nil, beq_self_eq_true, List.getElem?_cons_zero, List.getElem?_cons_succ, List.set_cons_zero, List.set_cons_succ, List.length_cons, List.length_nil, Nat.reduceAdd, Nat.reduceLT, Nat.reduceLeDiff, Nat.reduceBEq, Nat.reduceEqDiff, okv_int, okv_oref, okv_onull, okv_orf, okv_aref, okv_b0, okv_b1, okv_z0, okv_bI, ckI_nI, lt31, leT, reduceCtorEq, List.mem_cons, List.mem_singleton, List.not_mem_nil, or_true, true_or, or_false, false_or, toR_ref, toR_null, ↓reduceIte, a11, k1]
      rw [e2]
      have rf := r_eflt (n := n) (d := d) (l1 := .int (bI true)) (l2 := U) k2'
      cases hq : pTest cs 4 (nx cs (s.1, s.2.1, s.2.2 + 1)) with
      | error q =>
        refine ⟨fun e s' hh => (nomatch hh), fun q' hh => ?_⟩
        cases hh
        exact (rf.2 q hq).back2 t k3 (by omega) k6 (by omega) (by omega)
      | ok v =>
        obtain ⟨ts, s1⟩ := v
        refine ⟨fun e s' hh => ?_, fun q' hh => (nomatch hh)⟩
        cases hh
        have hmo := (pTest_mo k6 hq).1
        obtain ⟨u, hu⟩ := rf.1 ts s1 hq
        exact ⟨by omega, u, hu.of k3 (by omega) (by omega) (fun h' z => z.mono k5 (Nat.le_refl _))⟩
    · rw [if_neg h5]
      have e5 := r_take0 (d := d + 12) t1 (i := 5) (by omega) (by rw [htk]; exact bfalse h5)
      by_cases h6 : isKy (tk cs s) 6 = true
      · rw [if_pos h6]
        obtain ⟨h2, k1, k2', k3, k4, k5, k6⟩ := keyc 6 (by omega) h6
        have e2 : gO PG Ω (d + 16) 120 102 [.ref r, .int (bI true), U] [] g1 = gO PG Ω (d + 16) 120 133 [.ref r, .int (bI true), U] [] h2 := by
          simp (disch := first | omega | (simp only [hnew_21, hput_21, hnew_22, hput_22]; omega) | exact isR_ref | exact isR_null | exact isR_rf | exact isR_fmt | assumption | decide) only [e_X9_element_102, e_X9_element_103, e_X9_element_105, e_X9_element_108, e_X9_element_124, e_X9_element_125, e_X9_element_127, e_X9_element_130, cR_ref, cR_null, cR_rf, c1_int, c1_ref, c1_null, c1_rf, kz_int, kz_ref, kz_null, kz_rf, kz_U, kz_long, nB_null, nB_ref, rf_none, rf_some, bV_ret, bV_thr, bA_ret, bA_thr, bX_ret, bX_thr, len4_0, len4_1, len4_2, len4_3, len4_4, true_and, and_true, and_self, if_true, if_false, Option.bind_some, nR_b1, nR_b0, nR_bI, nI_1z, nI_0z, bI_z, if_nn, gf, pf, clN, aln, gaI, gaL, gaR, saI, saR, isI, ctB, isB, gB, hput_n, hput_e, hput_21, hput_22, hnew_n, hnew_e, hnew_21, hnew_22, Option.bind_some, Option.map_some, List.lookup_cons, List.lookup_nil, beq_self_eq_true, List.getElem?_cons_zero, List.getElem?_cons_succ, List.set_cons_zero, List.set_cons_succ, List.length_cons, List.length_nil, Nat.reduceAdd, Nat.reduceLT, Nat.reduceLeDiff, Nat.reduceBEq, Nat.reduceEqDiff, okv_int, okv_oref, okv_onull, okv_orf, okv_aref, okv_b0, okv_b1, okv_z0, okv_bI, ckI_nI, lt31, leT, reduceCtorEq, List.mem_cons, List.mem_singleton, List.not_mem_nil, or_true, true_or, or_false, false_or, toR_ref, toR_null, ↓reduceIte, a11, e5, k1]
        rw [e2]
        have rf := r_eopt (d := d) (l1 := .int (bI true)) (l2 := U) hG k2'
        cases hq : pG cs n (nx cs (s.1, s.2.1, s.2.2 + 1)) with
        | error q =>
          refine ⟨fun e s' hh => (nomatch hh), fun q' hh => ?_⟩
          cases hh
          exact (rf.2 q hq).back2 t k3 (by omega) k6 (by omega) (by omega)
        | ok v =>
          obtain ⟨g, s1⟩ := v
          refine ⟨fun e s' hh => ?_, fun q' hh => (nomatch hh)⟩
          cases hh
          obtain ⟨hlt, u, hu⟩ := rf.1 g s1 hq
          exact ⟨by omega, u, hu.of k3 (by omega) (by omega) (fun h' z => z.mono k5 (Nat.le_refl _))⟩
      · rw [if_neg h6]
        have e6 := r_take0 (d := d + 12) t1 (i := 6) (by omega) (by rw [htk]; exact bfalse h6)
        by_cases h7 : isKy (tk cs s) 7 = true
        · rw [if_pos h7]
          obtain ⟨h2, k1, k2', k3, k4, k5, k6⟩ := keyc 7 (by omega) h7
          have e2 : gO PG Ω (d + 16) 120 102 [.ref r, .int (bI true), U] [] g1 = gO PG Ω (d + 16) 120 154 [.ref r, .int (bI true), U] [] h2 := by
            simp (disch := first | omega | (simp only [hnew_21, hput_21, hnew_22, hput_22]; omega) | exact isR_ref | exact isR_null | exact isR_rf | exact isR_fmt | assumption | decide) only [e_X9_element_102, e_X9_element_103, e_X9_element_105, e_X9_element_108, e_X9_element_124, e_X9_element_125, e_X9_element_127, e_X9_element_130, e_X9_element_145, e_X9_element_146, e_X9_element_148, e_X9_element_151, cR_ref, cR_null, cR_rf, c1_int, c1_ref, c1_null, c1_rf, kz_int, kz_ref, kz_null, kz_rf, kz_U, kz_long, nB_null, nB_ref, rf_none, rf_some, bV_ret, bV_thr, bA_ret, bA_thr, bX_ret, bX_thr, len4_0, len4_1, len4_2, len4_3, len4_4, true_and, and_true, and_self, if_true, if_false, Option.bind_some, nR_b1, nR_b0, nR_bI, nI_1z, nI_0z, bI_z, if_nn, gf, pf, clN, aln, gaI, gaL, gaR, saI, saR, isI, ctB, isB, gB, hput_n, hput_e, hput_21, hput_22, hnew_n, hnew_e, hnew_21, hnew_22, Option.bind_some, Option.map_some, List.lookup_cons, List.lookup_nil, beq_self_eq_true, List.getElem?_cons_zero, List.getElem?_cons_succ, List.set_cons_zero, List.set_cons_succ, List.length_cons, List.length_nil, Nat.reduceAdd, Nat.reduceLT, Nat.reduceLeDiff, Nat.reduceBEq, Nat.reduceEqDiff, okv_int, okv_oref, okv_onull, okv_orf, okv_aref, okv_b0, okv_b1, okv_z0, okv_bI, ckI_nI, lt31, leT, reduceCtorEq, List.mem_cons, List.mem_singleton, List.not_mem_nil, or_true, true_or, or_false, false_or, toR_ref, toR_null, ↓reduceIte, a11, e5, e6, k1]
          rw [e2]
          have rf := r_emin (d := d) (l1 := .int (bI true)) (l2 := U) hG k2'
          cases hq : pG cs n (nx cs (s.1, s.2.1, s.2.2 + 1)) with
          | error q =>
            refine ⟨fun e s' hh => (nomatch hh), fun q' hh => ?_⟩
            cases hh
            exact (rf.2 q hq).back2 t k3 (by omega) k6 (by omega) (by omega)
          | ok v =>
            obtain ⟨g, s1⟩ := v
            refine ⟨fun e s' hh => ?_, fun q' hh => (nomatch hh)⟩
            cases hh
            obtain ⟨hlt, u, hu⟩ := rf.1 g s1 hq
            exact ⟨by omega, u, hu.of k3 (by omega) (by omega) (fun h' z => z.mono k5 (Nat.le_refl _))⟩
        · rw [if_neg h7]
          have e7 := r_take0 (d := d + 12) t1 (i := 7) (by omega) (by rw [htk]; exact bfalse h7)
          obtain ⟨nn, nn1, nn2, m1, m2, m3, m4, m5, m6⟩ := kc_n t.tw
          have hsg := m6 123 (by decide)
          rw [htk, nn2] at a11
          by_cases h8 : isSg (tk cs s) 123 = true
          · rw [if_pos h8]
            have q123 := hsg.mpr h8
            have e2 : gO PG Ω (d + 16) 120 102 [.ref r, .int (bI true), U] [] g1 = gO PG Ω (d + 16) 120 175 [.ref r, .int (bI true), U] [] g1 := by
              simp (disch := first | omega | (simp only [hnew_21, hput_21, hnew_22, hput_22]; omega) | exact isR_ref | exact isR_null | exact isR_rf | exact isR_fmt | assumption | decide) only [e_X9_element_102, e_X9_element_103, e_X9_element_105, e_X9_element_108, e_X9_element_124, e_X9_element_125, e_X9_element_127, e_X9_element_130, e_X9_element_145, e_X9_element_146, e_X9_element_148, e_X9_element_151, e_X9_element_166, e_X9_element_167, e_X9_element_170, e_X9_element_172, cR_ref, cR_null, cR_rf, c1_int, c1_ref, c1_null, c1_rf, kz_int, kz_ref, kz_null, kz_rf, kz_U, kz_long, nB_null, nB_ref, rf_none, rf_some, bV_ret, bV_thr, bA_ret, bA_thr, bX_ret, bX_thr, len4_0, len4_1, len4_2, len4_3, len4_4, true_and, and_true, and_self, if_true, if_false, Option.bind_some, nR_b1, nR_b0, nR_bI, nI_1z, nI_0z, bI_z, if_nn, gf, pf, clN, aln, gaI, gaL, gaR, saI, saR, isI, ctB, isB, gB, hput_n, hput_e, hput_21, hput_22, hnew_n, hnew_e, hnew_21, hnew_22, Option.bind_some, Option.map_some, List.lookup_cons, List.lookup_nil, beq_self_eq_true, List.getElem?_cons_zero, List.getElem?_cons_succ, List.set_cons_zero, List.set_cons_succ, List.length_cons, List.length_nil, Nat.reduceAdd, Nat.reduceLT, Nat.reduceLeDiff, Nat.reduceBEq, Nat.reduceEqDiff, okv_int, okv_oref, okv_onull, okv_orf, okv_aref, okv_b0, okv_b1, okv_z0, okv_bI, ckI_nI, lt31, leT, reduceCtorEq, List.mem_cons, List.mem_singleton, List.not_mem_nil, or_true, true_or, or_false, false_or, toR_ref, toR_null, ↓reduceIte, a11, e5, e6, e7, ↓nI_eq_if, q123]
            rw [e2]
            obtain ⟨rf1, rf2, rf3⟩ := r_eun (d := d) (l1 := .int (bI true)) (l2 := U) hG t1 kz_int
            cases hq : pG cs n (s.1, s.2.1, s.2.2 + 1) with
            | error q =>
              refine ⟨fun e s' hh => (nomatch hh), fun q' hh => ?_⟩
              cases hh
              exact REr.back2 (s' := (s.1, s.2.1, s.2.2 + 1)) t n1 (Nat.le_refl _) hs5 (by omega) (by omega) (rf2 q hq)
            | ok v =>
              obtain ⟨g, s1⟩ := v
              dsimp only
              cases hq2 : pUni cs (pG cs n) 11 s1 with
              | error q =>
                refine ⟨fun e s' hh => (nomatch hh), fun q' hh => ?_⟩
                cases hh
                exact REr.back2 (s' := (s.1, s.2.1, s.2.2 + 1)) t n1 (Nat.le_refl _) hs5 (by omega) (by omega) (rf3 g s1 q hq hq2)
              | ok v2 =>
                obtain ⟨gs, s2⟩ := v2
                refine ⟨fun e s' hh => ?_, fun q' hh => (nomatch hh)⟩
                cases hh
                obtain ⟨hlt, u, hu⟩ := rf1 g gs s1 s2 hq hq2
                refine ⟨hlt, u, hu.of n1 ?_ ?_ (fun h' z => ?_)⟩
                · show 0 + 10 * (s2.1 - s.1) ≤ _; omega
                · show 0 + 300 * (s2.1 - s.1) ≤ _; omega
                · rw [sz1] at z; exact z
          · rw [if_neg h8]
            have q123 : ¬ nn = 123 := fun z => h8 (hsg.mp z)
            have e2 : gO PG Ω (d + 16) 120 102 [.ref r, .int (bI true), U] [] g1 = gO PG Ω (d + 16) 120 235 [.ref r, .int (bI true), U] [] g1 := by
              simp (disch := first | omega | (simp only [hnew_21, hput_21, hnew_22, hput_22]; omega) | exact isR_ref | exact isR_null | exact isR_rf | exact isR_fmt | assumption | decide) only [e_X9_element_102, e_X9_element_103, e_X9_element_105, e_X9_element_108, e_X9_element_124, e_X9_element_125, e_X9_element_127, e_X9_element_130, e_X9_element_145, e_X9_element_146, e_X9_element_148, e_X9_element_151, e_X9_element_166, e_X9_element_167, e_X9_element_170, e_X9_element_172, cR_ref, cR_null, cR_rf, c1_int, c1_ref, c1_null, c1_rf, kz_int, kz_ref, kz_null, kz_rf, kz_U, kz_long, nB_null, nB_ref, rf_none, rf_some, bV_ret, bV_thr, bA_ret, bA_thr, bX_ret, bX_thr, len4_0, len4_1, len4_2, len4_3, len4_4, true_and, and_true, and_self, if_true, if_false, Option.bind_some, nR_b1, nR_b0, nR_bI, nI_1z, nI_0z, bI_z, if_nn, gf, pf, clN, aln, gaI, gaL, gaR, saI, saR, isI, ctB, isB, gB, hput_n, hput_e, hput_21, hput_22, hnew_n, hnew_e, hnew_21, hnew_22, Option.bind_some, Option.map_some, List.lookup_cons, List.lookup_nil, beq_self_eq_true, List.getElem?_cons_zero, List.getElem?_cons_succ, List.set_cons_zero, List.set_cons_succ, List.length_cons, List.length_nil, Nat.reduceAdd, Nat.reduceLT, Nat.reduceLeDiff, Nat.reduceBEq, Nat.reduceEqDiff, okv_int, okv_oref, okv_onull, okv_orf, okv_aref, okv_b0, okv_b1, okv_z0, okv_bI, ckI_nI, lt31, leT, reduceCtorEq, List.mem_cons, List.mem_singleton, List.not_mem_nil, or_true, true_or, or_false, false_or, toR_ref, toR_null, ↓reduceIte, a11, e5, e6, e7, ↓nI_eq_if, q123]
            rw [e2]
            have rf := r_epat (n := n) (d := d) (l1 := .int (bI true)) (l2 := U) t1 kz_int
            cases hq : pPat cs (s.1, s.2.1, s.2.2 + 1) with
            | error q =>
              refine ⟨fun e s' hh => (nomatch hh), fun q' hh => ?_⟩
              cases hh
              exact REr.back2 (s' := (s.1, s.2.1, s.2.2 + 1)) t n1 (Nat.le_refl _) hs5 (by omega) (by omega) (rf.2 q hq)
            | ok v =>
              obtain ⟨pt, s1⟩ := v
              refine ⟨fun e s' hh => ?_, fun q' hh => (nomatch hh)⟩
              cases hh
              obtain ⟨hlt, u, hu⟩ := rf.1 pt s1 hq
              have hlt' : s.1 + 3 ≤ s1.1 := hlt
              refine ⟨by omega, u, hu.of n1 (by omega) (by omega) (fun h' z => ?_)⟩
              rw [sz1] at z; exact z
  · rw [if_neg hc]
    refine ⟨fun e s' hh => (nomatch hh), fun q hh => ?_⟩
    have hq' : q = (tk cs s).2.2.1 := by unfold er at hh; injection hh with hh; exact hh.symm
    rw [hq']
    obtain ⟨ex, h', hf', g1, g2⟩ := r_chk0 (d := d + 7) t (q := (tk cs s).2.2.1)
    refine REr.mono (x := 1) ⟨ex, h', hf', ?_, g2⟩ (by omega)
    cases hcan : canS (tk cs s) with
    | false => simp (disch := first | omega | (simp only [hnew_21, hput_21, hnew_22, hput_22]; omega) | exact isR_ref | exact isR_null | exact isR_rf | exact isR_fmt | assumption | decide) only [e_X9_element_66, e_X9_element_67, e_X9_element_68, e_X9_element_71, e_X9_element_72, e_X9_element_75, e_X9_element_77, e_X9_element_80, e_X9_element_81, e_X9_element_84, e_X9_element_85, e_X9_element_86, e_X9_element_89, e_X9_element_92, cR_ref, cR_null, cR_rf, c1_int, c1_ref, c1_null, c1_rf, kz_int, kz_ref, kz_null, kz_rf, kz_U, kz_long, nB_null, nB_ref, rf_none, rf_some, bV_ret, bV_thr, bA_ret, bA_thr, bX_ret, bX_thr, len4_0, len4_1, len4_2, len4_3, len4_4, true_and, and_true, and_self, if_true, if_false, Option.bind_some, nR_b1, nR_b0, nR_bI, nI_1z, nI_0z, bI_z, if_nn, gf, pf, clN, aln, gaI, gaL, gaR, saI, saR, isI, ctB, isB, gB, hput_n, hput_e, hput_21, hput_22, hnew_n, hnew_e, hnew_21, hnew_22, Option.bind_some, Option.map_some, List.lookup_cons, List.lookup_nil, beq_self_eq_true, List.getElem?_cons_zero, List.getElem?_cons_succ, List.set_cons_zero, List.set_cons_succ, List.length_cons, List.length_nil, Nat.reduceAdd, Nat.reduceLT, Nat.reduceLeDiff, Nat.reduceBEq, Nat.reduceEqDiff, okv_int, okv_oref, okv_onull, okv_orf, okv_aref, okv_b0, okv_b1, okv_z0, okv_bI, ckI_nI, lt31, leT, reduceCtorEq, List.mem_cons, List.mem_singleton, List.not_mem_nil, or_true, true_or, or_false, false_or, toR_ref, toR_null, ↓reduceIte, a1, g1]
    | true =>
      have h12 : ¬ s.2.2 < 12 := fun z => hc (by rw [hcan, decide_eq_true z]; rfl)
      simp (disch := first | omega | (simp only [hnew_21, hput_21, hnew_22, hput_22]; omega) | exact isR_ref | exact isR_null | exact isR_rf | exact isR_fmt | assumption | decide) only [e_X9_element_66, e_X9_element_67, e_X9_element_68, e_X9_element_71, e_X9_element_72, e_X9_element_75, e_X9_element_77, e_X9_element_80, e_X9_element_81, e_X9_element_84, e_X9_element_85, e_X9_element_86, e_X9_element_89, e_X9_element_92, cR_ref, cR_null, cR_rf, c1_int, c1_ref, c1_null, c1_rf, kz_int, kz_ref, kz_null, kz_rf, kz_U, kz_long, nB_null, nB_ref, rf_none, rf_some, bV_ret, bV_thr, bA_ret, bA_thr, bX_ret, bX_thr, len4_0, len4_1, len4_2, len4_3, len4_4, true_and, and_true, and_self, if_true, if_false, Option.bind_some, nR_b1, nR_b0, nR_bI, nI_1z, nI_0z, bI_z, if_nn, gf, pf, clN, aln, gaI, gaL, gaR, saI, saR, isI, ctB, isB, gB, hput_n, hput_e, hput_21, hput_22, hnew_n, hnew_e, hnew_21, hnew_22, Option.bind_some, Option.map_some, List.lookup_cons, List.lookup_nil, beq_self_eq_true, List.getElem?_cons_zero, List.getElem?_cons_succ, List.set_cons_zero, List.set_cons_succ, List.length_cons, List.length_nil, Nat.reduceAdd, Nat.reduceLT, Nat.reduceLeDiff, Nat.reduceBEq, Nat.reduceEqDiff, okv_int, okv_oref, okv_onull, okv_orf, okv_aref, okv_b0, okv_b1, okv_z0, okv_bI, ckI_nI, lt31, leT, reduceCtorEq, List.mem_cons, List.mem_singleton, List.not_mem_nil, or_true, true_or, or_false, false_or, toR_ref, toR_null, ↓reduceIte, a1, ↓nI_lt_if, h12, g1]
end RDE
