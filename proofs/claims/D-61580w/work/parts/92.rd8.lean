/-! COMPONENT: reader, nots and patterns -/
section RD8
variable {Ω : Om} {d : Nat} {h h' h1 h2 : AH} {a b r c tx nm dp : Nat} {w cs : List Nat} {s s' : PS} {fs : List Value} {x y z : Value}
/-- a cell that no test is made of may be written -/
theorem TrmR.put {e : Ce} {v : Nat} {X : Int64} (na : ∀ (q ci : Nat) (fs : List Value), h.1 q = some (.inr (ci, fs)) → (ci = 3 ∨ ci = 4) → q ≠ a) (k : Ku h (hput h a e)) (t : TrmR h v X) : TrmR (hput h a e) v X := by
  rcases t with ⟨nn, y1, y2, y3⟩ | ⟨ss, vv, y1, y2, y3, y4⟩
  · exact .inl ⟨nn, y1, y2, by rw [hput_n (na _ _ _ y3 (.inl rfl))]; exact y3⟩
  · exact .inr ⟨ss, vv, y1, y2, by rw [hput_n (na _ _ _ y3 (.inr rfl))]; exact y3, y4.ku k⟩
theorem SideR.put {e : Ce} {v : Nat} {D : Sd} (na : ∀ (q ci : Nat) (fs : List Value), h.1 q = some (.inr (ci, fs)) → (ci = 3 ∨ ci = 4 ∨ ci = 13) → q ≠ a) (k : Ku h (hput h a e)) (t : SideR h v D) : SideR (hput h a e) v D := by
  cases D with
  | inl m => exact ⟨t.1, by rw [hput_n (na _ _ _ t.2 (.inr (.inr rfl)))]; exact t.2⟩
  | inr X =>
    obtain ⟨tt, ww, v1, v2⟩ := t
    exact ⟨tt, ww, by rw [hput_n (na _ _ _ v1 (.inr (.inr rfl)))]; exact v1, v2.put (fun q ci fs h1 h2 => na q ci fs h1 (by omega)) k⟩
theorem CoreR.put {e : Ce} {v : Nat} {D : Nat ⊕ (Sd × Nat × Sd)} (na : ∀ (q ci : Nat) (fs : List Value), h.1 q = some (.inr (ci, fs)) → (ci = 3 ∨ ci = 4 ∨ ci = 13 ∨ ci = 12 ∨ ci = 14) → q ≠ a) (k : Ku h (hput h a e)) (t : CoreR h v D) : CoreR (hput h a e) v D := by
  rcases D with m | ⟨l, g, rr⟩
  · exact ⟨t.1, by rw [hput_n (na _ _ _ t.2 (by omega))]; exact t.2⟩
  · obtain ⟨t0, p, q, t1, t2, t3⟩ := t
    exact ⟨t0, p, q, by rw [hput_n (na _ _ _ t1 (by omega))]; exact t1, t2.put (fun q ci fs h1 h2 => na q ci fs h1 (by omega)) k, t3.put (fun q ci fs h1 h2 => na q ci fs h1 (by omega)) k⟩
/-- all but a: the cell a of class 11 is none of the test's, as it is new -/
theorem TestR.put {e : Ce} (hlt : ∀ v ci fs, h.1 v = some (.inr (ci, fs)) → (ci = 3 ∨ ci = 4 ∨ ci = 13 ∨ ci = 12 ∨ ci = 14) → v ≠ a) (k : Ku h (hput h a e)) : ∀ {j v : Nat} {t : Tst}, TestR h j v t → (∀ q fs, h.1 q = some (.inr (11, fs)) → q ≠ a ∨ q = a) → (∀ q p, h.1 q = some (.inr (11, [.ref p])) → q ≠ a) → TestR (hput h a e) j v t := by
  intro j
  induction j with
  | zero => intro v t q _ _; exact ⟨q.1, q.2.put hlt k⟩
  | succ j ih =>
    intro v t q h1 h2
    obtain ⟨b, q1, q2⟩ := q
    exact ⟨b, by rw [hput_n (h2 _ _ q1)]; exact q1, ih q2 h1 h2⟩
set_option maxHeartbeats 2000000 in
theorem r_test : ∀ (k : Nat), k ≤ 4 → ∀ {h : AH} {s : PS}, RdR Ω h r c tx nm cs s dp → (∀ ts s', pTest cs k s = .ok (ts, s') → ∃ u j, j ≤ k ∧ ROk Ω h r c tx nm cs s' dp (6 * (s'.1 - s.1)) (200 * (s'.1 - s.1)) (some (.ref u)) (fun h' => TestF h.2.1 h'.2.1 h' j u ts) (gM PG Ω (d + 12 + k) 121 [.ref r, .int (nI (4 - k))] h)) ∧ (∀ q, pTest cs k s = .error q → REr h r c nm s q 2 (gM PG Ω (d + 12 + k) 121 [.ref r, .int (nI (4 - k))] h)) := by
  intro k
  induction k with
  | zero =>
    intro _ h s t
    obtain ⟨wd, p, a1, a2⟩ := t.cell
    have ek := r_isKey (d := d + 8) t (i := 9) (by omega)
    unfold pTest
    by_cases hn : isKy (tk cs s) 9 = true
    · rw [if_pos hn]
      rw [hn] at ek
      refine ⟨fun ts s' hh => (nomatch hh), fun q' hh => ?_⟩
      have hq' : q' = (tk cs s).2.2.1 := by unfold er at hh; injection hh with hh; exact hh.symm
      rw [hq']
      obtain ⟨ex, h', hf', e1, e2⟩ := r_chk0 (d := d + 2) t (q := (tk cs s).2.2.1)
      refine REr.mono (x := 1) ⟨ex, h', hf', ?_, e2⟩ (by omega)
      simp (disch := first | omega | (simp only [hnew_21, hput_21, hnew_22, hput_22]; omega) | exact isR_ref | exact isR_null | exact isR_rf | exact isR_fmt | assumption | decide) only [n_X9_test, e_X9_test_0, e_X9_test_1, e_X9_test_3, e_X9_test_6, e_X9_test_9, e_X9_test_10, e_X9_test_11, e_X9_test_12, e_X9_test_15, e_X9_test_16, e_X9_test_19, e_X9_test_20, e_X9_test_21, e_X9_test_24, e_X9_test_27, cR_ref, cR_null, cR_rf, c1_int, c1_ref, c1_null, c1_rf, kz_int, kz_ref, kz_null, kz_rf, kz_U, kz_long, nB_null, nB_ref, rf_none, rf_some, bV_ret, bV_thr, bA_ret, bA_thr, bX_ret, bX_thr, len4_0, len4_1, len4_2, len4_3, len4_4, true_and, and_true, and_self, if_true, if_false, Option.bind_some, nR_b1, nR_b0, nR_bI, nI_1z, nI_0z, bI_z, if_nn, gf, pf, clN, aln, gaI, gaL, gaR, saI, saR, isI, ctB, isB, gB, hput_n, hput_e, hput_21, hput_22, hnew_n, hnew_e, hnew_21, hnew_22, Option.bind_some, Option.map_some, List.lookup_cons, List.lookup_nil, beq_self_eq_true, List.getElem?_cons_zero, List.getElem?_cons_succ, List.set_cons_zero, List.set_cons_succ, List.length_cons, List.length_nil, Nat.reduceAdd, Nat.reduceLT, Nat.reduceLeDiff, Nat.reduceBEq, Nat.reduceEqDiff, okv_int, okv_oref, okv_onull, okv_orf, okv_aref, okv_b0, okv_b1, okv_z0, okv_bI, ckI_nI, lt31, leT, reduceCtorEq, List.mem_cons, List.mem_singleton, List.not_mem_nil, or_true, true_or, or_false, false_or, toR_ref, toR_null, ↓reduceIte, a1, ek, Nat.add_zero, Nat.sub_zero, ↓nI_lt_if, Nat.lt_irrefl, e1]
    · rw [if_neg hn]
      have hn' : isKy (tk cs s) 9 = false := by cases hq : isKy (tk cs s) 9 with
        | true => exact absurd hq hn
        | false => rfl
      rw [hn'] at ek
      have rc := r_core (d := d) (l1 := nI (4 - 0)) t
      have e0 : gM PG Ω (d + 12 + 0) 121 [.ref r, .int (nI (4 - 0))] h = gO PG Ω (d + 11) 121 46 [.ref r, .int (nI (4 - 0)), U, U] [] h := by
        simp (disch := first | omega | (simp only [hnew_21, hput_21, hnew_22, hput_22]; omega) | exact isR_ref | exact isR_null | exact isR_rf | exact isR_fmt | assumption | decide) only [n_X9_test, e_X9_test_0, e_X9_test_1, e_X9_test_3, e_X9_test_6, cR_ref, cR_null, cR_rf, c1_int, c1_ref, c1_null, c1_rf, kz_int, kz_ref, kz_null, kz_rf, kz_U, kz_long, nB_null, nB_ref, rf_none, rf_some, bV_ret, bV_thr, bA_ret, bA_thr, bX_ret, bX_thr, len4_0, len4_1, len4_2, len4_3, len4_4, true_and, and_true, and_self, if_true, if_false, Option.bind_some, nR_b1, nR_b0, nR_bI, nI_1z, nI_0z, bI_z, if_nn, gf, pf, clN, aln, gaI, gaL, gaR, saI, saR, isI, ctB, isB, gB, hput_n, hput_e, hput_21, hput_22, hnew_n, hnew_e, hnew_21, hnew_22, Option.bind_some, Option.map_some, List.lookup_cons, List.lookup_nil, beq_self_eq_true, List.getElem?_cons_zero, List.getElem?_cons_succ, List.set_cons_zero, List.set_cons_succ, List.length_cons, List.length_nil, Nat.reduceAdd, Nat.reduceLT, Nat.reduceLeDiff, Nat.reduceBEq, Nat.reduceEqDiff, okv_int, okv_oref, okv_onull, okv_orf, okv_aref, okv_b0, okv_b1, okv_z0, okv_bI, ckI_nI, lt31, leT, reduceCtorEq, List.mem_cons, List.mem_singleton, List.not_mem_nil, or_true, true_or, or_false, false_or, toR_ref, toR_null, ↓reduceIte, a1, ek, Nat.add_zero]
      rw [e0]
      refine ⟨fun ts s' hh => ?_, rc.2⟩
      obtain ⟨u, hu⟩ := rc.1 ts s' hh
      exact ⟨u, 0, by omega, hu⟩
  | succ k ih =>
    intro hk4 h s t
    obtain ⟨wd, p, a1, a2⟩ := t.cell
    have hs5 := t.2.2.2.2.1
    have ek := r_isKey (d := d + 9 + k) t (i := 9) (by omega)
    have ed : d + 9 + k + 3 = d + 12 + k := by omega
    rw [ed] at ek
    have ed2 : d + 12 + (k + 1) = d + 12 + k + 1 := by omega
    unfold pTest
    by_cases hn : isKy (tk cs s) 9 = true
    · rw [if_pos hn]
      rw [hn] at ek
      have ec := r_chk1 (Ω := Ω) (d := d + 11 + k) (h := h) (r := r) (x := nI (tk cs s).2.2.1)
      rw [show d + 11 + k + 1 = d + 12 + k by omega] at ec
      obtain ⟨h1, e1, e2, e3, e4, e5⟩ := r_adv (d := d + 6 + k) t (isKy_0 hn)
      rw [show d + 6 + k + 6 = d + 12 + k by omega] at e1
      have hn5 := e2.2.2.2.2.1
      have hz1 : Ω.sz ≤ h1.2.1 := e2.2.2.2.2.2.2.2.2.1.2.2.2.2
      have t1 := e2.ku (Ku.new (e := .inr (11, [.null])) (N := 1) e2.fe)
      have n0 : Nx [] 1 1 h1 (hnew h1 (.inr (11, [.null])) 1) := (Nx.rfl' e2.fe).new
      obtain ⟨wd1, p1, a11, _⟩ := e2.cell
      have rl1 := e2.fe.lt a11
      have ih' := ih (by omega) t1
      have hlt4 : 4 - (k + 1) < 4 := by omega
      have e41 : 4 - (k + 1) + 1 = 4 - k := by omega
      cases hq : pTest cs k (nx cs s) with
      | error q =>
        refine ⟨fun sd s' hh => (nomatch hh), fun q' hh => ?_⟩
        cases hh
        obtain ⟨ex, h', hf, f1, f2⟩ := ih'.2 q hq
        have er' : REr (hnew h1 (.inr (11, [.null])) 1) r c nm (nx cs s) q 2 (gM PG Ω (d + 12 + (k + 1)) 121 [.ref r, .int (nI (4 - (k + 1)))] h) := by
          refine ⟨ex, h', hf, ?_, f2⟩
          rw [ed2]
          simp (disch := first | omega | (simp only [hnew_21, hput_21, hnew_22, hput_22]; omega) | exact isR_ref | exact isR_null | exact isR_rf | exact isR_fmt | assumption | decide) only [n_X9_test, e_X9_test_0, e_X9_test_1, e_X9_test_3, e_X9_test_6, e_X9_test_9, e_X9_test_10, e_X9_test_11, e_X9_test_12, e_X9_test_15, e_X9_test_16, e_X9_test_19, e_X9_test_20, e_X9_test_21, e_X9_test_24, e_X9_test_27, e_X9_test_28, e_X9_test_31, e_X9_test_34, e_X9_test_35, e_X9_test_36, e_X9_test_37, e_X9_test_38, e_X9_test_39, e_X9_test_42, e_X9_test_45, cR_ref, cR_null, cR_rf, c1_int, c1_ref, c1_null, c1_rf, kz_int, kz_ref, kz_null, kz_rf, kz_U, kz_long, nB_null, nB_ref, rf_none, rf_some, bV_ret, bV_thr, bA_ret, bA_thr, bX_ret, bX_thr, len4_0, len4_1, len4_2, len4_3, len4_4, true_and, and_true, and_self, if_true, if_false, Option.bind_some, nR_b1, nR_b0, nR_bI, nI_1z, nI_0z, bI_z, if_nn, gf, pf, clN, aln, gaI, gaL, gaR, saI, saR, isI, ctB, isB, gB, hput_n, hput_e, hput_21, hput_22, hnew_n, hnew_e, hnew_21, hnew_22, Option.bind_some, Option.map_some, List.lookup_cons, List.lookup_nil, beq_self_eq_true, List.getElem?_cons_zero, List.getElem?_cons_succ, List.set_cons_zero, List.set_cons_succ, List.length_cons, List.length_nil, Nat.reduceAdd, Nat.reduceLT, Nat.reduceLeDiff, Nat.reduceBEq, Nat.reduceEqDiff, okv_int, okv_oref, okv_onull, okv_orf, okv_aref, okv_b0, okv_b1, okv_z0, okv_bI, ckI_nI, lt31, leT, reduceCtorEq, List.mem_cons, List.mem_singleton, List.not_mem_nil, or_true, true_or, or_false, false_or, toR_ref, toR_null, ↓reduceIte, nI_add, pk_mul, a1, a11, ek, ↓nI_lt_if, hlt4, ec, e1, e41, f1]
        exact (er'.more (y := 3) e2 n0 (by omega) (by omega)).back2 t e3 (by omega) hn5 (by omega) (by omega)
      | ok v1 =>
        obtain ⟨ts, s1⟩ := v1
        refine ⟨fun sd s' hh => ?_, fun q' hh => (nomatch hh)⟩
        cases hh
        obtain ⟨u, j, hj, h2, f1, f2, f3, f4⟩ := ih'.1 ts s1 hq
        have hlt2 : (nx cs s).1 ≤ s1.1 := (pTest_mo hn5 hq).1
        have ca0 : (hnew h1 (.inr (11, [.null])) 1).1 h1.2.1 = some (.inr (11, [.null])) := hnew_e
        have ca : h2.1 h1.2.1 = some (.inr (11, [.null])) := f3.ob ca0 (by decide) (t1.na ca0 (by decide))
        have ei := i_not (Ω := Ω) (d := d + 9 + k) (b := u) hz1 ca
        rw [show d + 9 + k + 3 = d + 12 + k by omega] at ei
        have cl := f2.fe.lt ca
        have kC : Ku h2 (hput h2 h1.2.1 (.inr (11, [.ref u]))) := Ku.put f2.fe ca ⟨by decide, by decide, by decide⟩
        have z1 := e3.2.2.1
        have f4' : TestF h.2.1 h2.2.1 (hput h2 h1.2.1 (.inr (11, [.ref u]))) j u ts := fun h'' z => (f4.to (Agr.put (e := .inr (11, [.ref u])) ca ⟨by decide, by decide, by decide⟩ (.inl (by rw [hnew_21]; omega)))) h'' (z.mono (by rw [hnew_21]; omega) (Nat.le_refl _))
        refine ⟨h1.2.1, j + 1, by omega, hput h2 h1.2.1 (.inr (11, [.ref u])), ?_, f2.ku kC, (e3.trans (n0.up f3 (Nat.le_refl _) cl)).mono (fun _ z => z) (by omega) (by omega), fun h'' z => ⟨u, z.ob (hput_e (a := h1.2.1)) (by decide) ⟨e3.2.2.1, by rw [hput_21]; exact cl⟩, ?_⟩⟩
        · rw [ed2]
          simp (disch := first | omega | (simp only [hnew_21, hput_21, hnew_22, hput_22]; omega) | exact isR_ref | exact isR_null | exact isR_rf | exact isR_fmt | assumption | decide) only [n_X9_test, e_X9_test_0, e_X9_test_1, e_X9_test_3, e_X9_test_6, e_X9_test_9, e_X9_test_10, e_X9_test_11, e_X9_test_12, e_X9_test_15, e_X9_test_16, e_X9_test_19, e_X9_test_20, e_X9_test_21, e_X9_test_24, e_X9_test_27, e_X9_test_28, e_X9_test_31, e_X9_test_34, e_X9_test_35, e_X9_test_36, e_X9_test_37, e_X9_test_38, e_X9_test_39, e_X9_test_42, e_X9_test_45, cR_ref, cR_null, cR_rf, c1_int, c1_ref, c1_null, c1_rf, kz_int, kz_ref, kz_null, kz_rf, kz_U, kz_long, nB_null, nB_ref, rf_none, rf_some, bV_ret, bV_thr, bA_ret, bA_thr, bX_ret, bX_thr, len4_0, len4_1, len4_2, len4_3, len4_4, true_and, and_true, and_self, if_true, if_false, Option.bind_some, nR_b1, nR_b0, nR_bI, nI_1z, nI_0z, bI_z, if_nn, gf, pf, clN, aln, gaI, gaL, gaR, saI, saR, isI, ctB, isB, gB, hput_n, hput_e, hput_21, hput_22, hnew_n, hnew_e, hnew_21, hnew_22, Option.bind_some, Option.map_some, List.lookup_cons, List.lookup_nil, beq_self_eq_true, List.getElem?_cons_zero, List.getElem?_cons_succ, List.set_cons_zero, List.set_cons_succ, List.length_cons, List.length_nil, Nat.reduceAdd, Nat.reduceLT, Nat.reduceLeDiff, Nat.reduceBEq, Nat.reduceEqDiff, okv_int, okv_oref, okv_onull, okv_orf, okv_aref, okv_b0, okv_b1, okv_z0, okv_bI, ckI_nI, lt31, leT, reduceCtorEq, List.mem_cons, List.mem_singleton, List.not_mem_nil, or_true, true_or, or_false, false_or, toR_ref, toR_null, ↓reduceIte, nI_add, pk_mul, a1, a11, ek, ↓nI_lt_if, hlt4, ec, e1, e41, f1, ei]
        · rw [Bool.not_not]; exact f4' h'' z
    · rw [if_neg hn]
      have hn' : isKy (tk cs s) 9 = false := by cases hq : isKy (tk cs s) 9 with
        | true => exact absurd hq hn
        | false => rfl
      rw [hn'] at ek
      have rc := r_core (d := d + 1 + k) (l1 := nI (4 - (k + 1))) t
      rw [show d + 1 + k + 11 = d + 12 + k by omega] at rc
      have e0 : gM PG Ω (d + 12 + (k + 1)) 121 [.ref r, .int (nI (4 - (k + 1)))] h = gO PG Ω (d + 12 + k) 121 46 [.ref r, .int (nI (4 - (k + 1))), U, U] [] h := by
        rw [ed2]
        simp (disch := first | omega | (simp only [hnew_21, hput_21, hnew_22, hput_22]; omega) | exact isR_ref | exact isR_null | exact isR_rf | exact isR_fmt | assumption | decide) only [n_X9_test, e_X9_test_0, e_X9_test_1, e_X9_test_3, e_X9_test_6, cR_ref, cR_null, cR_rf, c1_int, c1_ref, c1_null, c1_rf, kz_int, kz_ref, kz_null, kz_rf, kz_U, kz_long, nB_null, nB_ref, rf_none, rf_some, bV_ret, bV_thr, bA_ret, bA_thr, bX_ret, bX_thr, len4_0, len4_1, len4_2, len4_3, len4_4, true_and, and_true, and_self, if_true, if_false, Option.bind_some, nR_b1, nR_b0, nR_bI, nI_1z, nI_0z, bI_z, if_nn, gf, pf, clN, aln, gaI, gaL, gaR, saI, saR, isI, ctB, isB, gB, hput_n, hput_e, hput_21, hput_22, hnew_n, hnew_e, hnew_21, hnew_22, Option.bind_some, Option.map_some, List.lookup_cons, List.lookup_nil, beq_self_eq_true, List.getElem?_cons_zero, List.getElem?_cons_succ, List.set_cons_zero, List.set_cons_succ, List.length_cons, List.length_nil, Nat.reduceAdd, Nat.reduceLT, Nat.reduceLeDiff, Nat.reduceBEq, Nat.reduceEqDiff, okv_int, okv_oref, okv_onull, okv_orf, okv_aref, okv_b0, okv_b1, okv_z0, okv_bI, ckI_nI, lt31, leT, reduceCtorEq, List.mem_cons, List.mem_singleton, List.not_mem_nil, or_true, true_or, or_false, false_or, toR_ref, toR_null, ↓reduceIte, a1, ek]
      rw [e0]
      refine ⟨fun ts s' hh => ?_, rc.2⟩
      obtain ⟨u, hu⟩ := rc.1 ts s' hh
      exact ⟨u, 0, by omega, hu⟩
end RD8
