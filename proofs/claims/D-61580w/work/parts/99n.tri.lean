/-! COMPONENT: triples made, found, placed, taken -/
section TRI
variable {Ω : Om} {d : Nat} {h h' hB : AH} {a b c p q r tr sb ra k m : Nat} {x y s o : Int64} {t u : Tri} {L : List Tri} {S : List Nat} {v2 v3 v4 v5 v6 v7 v8 : Value} {fa rc co : Int32}
theorem TmC.fs (t : TmC h a x) (n : Nx S k m h h') (hS : FS h S) : TmC h' a x := by
  refine ⟨t.1.fs n hS, ?_⟩
  rcases t.2 with ⟨w, s, hs⟩ | ⟨w, s, hs⟩
  · exact .inl ⟨w, s, n.ob hs (by decide) (hS.na hs (by decide))⟩
  · exact .inr ⟨w, s, n.ob hs (by decide) (hS.na hs (by decide))⟩
theorem TrmR.put9 {e : Ce} {ci : Nat} {fs : List Value} (t : TrmR h a x) (hFe : Fe h) (hb : h.1 b = some (.inr (ci, fs))) (hi : ci ≠ 3 ∧ ci ≠ 4 ∧ ci ≠ 23) : TrmR (hput h b e) a x := by
  rcases t with ⟨n, n1, n2, n3⟩ | ⟨s, w, w1, w2, w3, b', z1, z2, f, u1, u2, u3⟩
  · exact .inl ⟨n, n1, n2, by rw [hput_n (ne_cl n3 hb (by omega))]; exact n3⟩
  · exact .inr ⟨s, w, w1, w2, by rw [hput_n (ne_cl w3 hb (by omega))]; exact w3, b', z1, z2, f, by rw [hput_n (ne_cl u1 hb (by omega))]; exact u1, by rw [hput_n (ne_ca hb u2).symm]; exact u2, u3⟩
theorem TrmR.puta {e : Ce} {N : Nat} {f : Nat → Option Nat} (t : TrmR h a x) (hb : h.1 b = some (arR "TripleStore$Term" N f)) : TrmR (hput h b e) a x := by
  rcases t with ⟨n, n1, n2, n3⟩ | ⟨s, w, w1, w2, w3, b', z1, z2, f', u1, u2, u3⟩
  · exact .inl ⟨n, n1, n2, by rw [hput_n (ne_ca n3 hb)]; exact n3⟩
  · refine .inr ⟨s, w, w1, w2, by rw [hput_n (ne_ca w3 hb)]; exact w3, b', z1, z2, f', by rw [hput_n (ne_ca u1 hb)]; exact u1, ?_, u3⟩
    rw [hput_n]
    · exact u2
    · intro z
      rw [z, hb] at u2
      cases u2
theorem i_tri {v : Value} (hz : Ω.sz ≤ a) (hzh : Ω.sz ≤ h.2.1) (hFe : Fe h) (ha : h.1 a = some (.inr (2, [v]))) (tp : TrmR h p x) (tq : TrmR h q y) (t3 : TrmR h r s) : ∃ h', gM PG Ω (d + 2) 94 [.ref a, .ref p, .ref q, .ref r] h = some (.returned none, h') ∧ h'.1 a = some (.inr (2, [.ref h.2.1])) ∧ h'.1 h.2.1 = some (arR "TripleStore$Term" 3 (va_up (va_up (va_up (fun _ => none) 0 (some p)) 1 (some q)) 2 (some r))) ∧ TrmR h' p x ∧ TrmR h' q y ∧ TrmR h' r s ∧ Nx [a] 1 3 h h' := by
  have la := hFe.lt ha
  have hna : a ≠ h.2.1 := by omega
  obtain ⟨cp, fp, p1, p2⟩ := tp.cl
  obtain ⟨cq, fq, q1, q2⟩ := tq.cl
  obtain ⟨cr, fr, r1, r2⟩ := t3.cl
  have lp := hFe.lt p1
  have lq := hFe.lt q1
  have lr := hFe.lt r1
  have np : p ≠ h.2.1 := by omega
  have nq : q ≠ h.2.1 := by omega
  have nr : r ≠ h.2.1 := by omega
  have mp : (cp = 3 ∨ cp = 4) = True := eq_true p2
  have mq : (cq = 3 ∨ cq = 4) = True := eq_true q2
  have mr : (cr = 3 ∨ cr = 4) = True := eq_true r2
  have x0 : Nx [a] 1 3 h (hnew h (arR "TripleStore$Term" 3 (fun _ => none)) 3) := ((Nx.rfl' hFe).new).mono (fun _ q => q) (by omega) (by omega)
  have x1 : Nx [a] 1 3 h (hput (hput (hnew h (arR "TripleStore$Term" 3 (fun _ => none)) 3) h.2.1 (arR "TripleStore$Term" 3 (va_up (va_up (va_up (fun _ => none) 0 (some p)) 1 (some q)) 2 (some r)))) a (.inr (2, [.ref h.2.1]))) := (x0.put (.inr (Nat.le_refl _)) (by rw [hnew_21]; omega)).put (.inl (by simp)) (by rw [hput_21, hnew_21]; omega)
  have tn : ∀ {u : Nat} {z : Int64}, TrmR h u z → TrmR (hput (hput (hnew h (arR "TripleStore$Term" 3 (fun _ => none)) 3) h.2.1 (arR "TripleStore$Term" 3 (va_up (va_up (va_up (fun _ => none) 0 (some p)) 1 (some q)) 2 (some r)))) a (.inr (2, [.ref h.2.1]))) u z := fun {u z} w => by
    have n0 : Nx [] 1 3 h (hnew h (arR "TripleStore$Term" 3 (fun _ => none)) 3) := (Nx.rfl' hFe).new
    have w1 := (w.fs n0 FS.nil).puta (e := arR "TripleStore$Term" 3 (va_up (va_up (va_up (fun _ => none) 0 (some p)) 1 (some q)) 2 (some r))) hnew_e
    refine w1.put9 (ci := 2) (fs := [v]) (n0.2.1.put (by rw [hnew_21]; omega)) (by rw [hput_n hna, hnew_n hna]; exact ha) (by decide)
  refine ⟨_, ?_, hput_e, by rw [hput_n hna.symm]; exact hput_e, tn tp, tn tq, tn t3, x1⟩
  simp (disch := first | omega | (simp only [hnew_21, hput_21, hnew_22, hput_22]; omega) | exact isR_ref | exact isR_null | exact isR_rf | exact isR_fmt | assumption | decide) only [n_X3_init, e_X3_init_0, e_X3_init_1, e_X3_init_4, e_X3_init_5, e_X3_init_8, e_X3_init_9, e_X3_init_10, e_X3_init_11, e_X3_init_12, e_X3_init_13, e_X3_init_14, e_X3_init_15, e_X3_init_16, e_X3_init_17, e_X3_init_18, e_X3_init_19, e_X3_init_20, e_X3_init_22, e_X3_init_23, e_X3_init_25, e_X3_init_28, cR_ref, cR_null, cR_rf, c1_int, c1_ref, c1_null, c1_rf, kz_int, kz_ref, kz_null, kz_rf, kz_U, kz_long, nB_null, nB_ref, rf_none, rf_some, bV_ret, bV_thr, bA_ret, bA_thr, bX_ret, bX_thr, len4_0, len4_1, len4_2, len4_3, len4_4, true_and, and_true, and_self, if_true, if_false, Option.bind_some, nR_b1, nR_b0, nR_bI, nI_1z, nI_0z, bI_z, if_nn, gf, pf, clN, aln, gaI, gaL, gaR, saI, saR, isI, ctB, isB, gB, hput_n, hput_e, hput_21, hput_22, hnew_n, hnew_e, hnew_21, hnew_22, Option.bind_some, Option.map_some, List.lookup_cons, List.lookup_nil, beq_self_eq_true, List.getElem?_cons_zero, List.getElem?_cons_succ, List.set_cons_zero, List.set_cons_succ, List.length_cons, List.length_nil, Nat.reduceAdd, Nat.reduceLT, Nat.reduceLeDiff, Nat.reduceBEq, Nat.reduceEqDiff, okv_int, okv_oref, okv_onull, okv_orf, okv_aref, okv_b0, okv_b1, okv_z0, okv_bI, ckI_nI, lt31, leT, reduceCtorEq, List.mem_cons, List.mem_singleton, List.not_mem_nil, or_true, true_or, or_false, false_or, toR_ref, toR_null, ↓reduceIte, hput2, ha, p1, q1, r1, hna, hna.symm, np, nq, nr, mp, mq, mr]
set_option maxHeartbeats 1000000 in
theorem c_tof (hFe : Fe h) (hz : Ω.sz ≤ h.2.1) : (okTri x y o → ∃ a h', gM PG Ω (d + 10) 15 [.long x, .long y, .long o] h = some (.returned (some (.ref a)), h') ∧ TriR h' a (x, y, o) ∧ Nx [] 18 85 h h') ∧ (¬ okTri x y o → ∃ e h', gM PG Ω (d + 10) 15 [.long x, .long y, .long o] h = some (.threw e, h') ∧ h'.1 e = some (.inr (24, [])) ∧ Nx [] 18 85 h h') := by
  have n0 : Nx [] 1 1 h (hnew h (.inr (2, [.null])) 1) := (Nx.rfl' hFe).new
  have z0 : Ω.sz ≤ (hnew h (.inr (2, [.null])) 1).2.1 := by rw [hnew_21]; omega
  obtain ⟨g1, g2⟩ := c_term (Ω := Ω) (d := d) (x := x) n0.2.1 z0
  by_cases hx : isWd x ∨ isNm x
  · obtain ⟨a1, h1, e1, e2, e3⟩ := g1 hx
    have z1 : Ω.sz ≤ h1.2.1 := Nat.le_trans z0 e3.2.2.1
    obtain ⟨g3, g4⟩ := c_term (Ω := Ω) (d := d) (x := y) e3.2.1 z1
    by_cases hy : isWd y ∨ isNm y
    · obtain ⟨a2, h2, e4, e5, e6⟩ := g3 hy
      have z2 : Ω.sz ≤ h2.2.1 := Nat.le_trans z1 e6.2.2.1
      obtain ⟨g5, g6⟩ := c_term (Ω := Ω) (d := d) (x := o) e6.2.1 z2
      by_cases ho : isWd o ∨ isNm o
      · obtain ⟨a3, h3, e7, e8, e9⟩ := g5 ho
        have z3 : Ω.sz ≤ h3.2.1 := Nat.le_trans z2 e9.2.2.1
        have c3 : h3.1 h.2.1 = some (.inr (2, [.null])) := e9.ob (e6.ob (e3.ob hnew_e (by decide) (by simp)) (by decide) (by simp)) (by decide) (by simp)
        have t1 := (e2.fs e6 FS.nil).fs e9 FS.nil
        have t2 := e5.fs e9 FS.nil
        obtain ⟨h4, i1, i2, i3, i4, i5, i6, i7⟩ := i_tri (Ω := Ω) (d := d + 7) (a := h.2.1) hz z3 e9.2.1 c3 t1.1 t2.1 e8.1
        have N4 : Nx [] 17 79 h h4 := ((((n0.trans e3).trans e6).trans e9).mono (S' := [h.2.1]) (fun _ q => nomatch q) (Nat.le_refl _) (Nat.le_refl _)).trans i7 |>.low (fun q hq => .inr (by simp at hq; omega)) |>.mono (fun _ q => q) (by omega) (by omega)
        have st : gM PG Ω (d + 10) 15 [.long x, .long y, .long o] h = gO PG Ω (d + 9) 15 20 [.long x, U, .long y, U, .long o, U, U] [.ref h.2.1] h4 := by
          simp (disch := first | omega | (simp only [hnew_21, hput_21, hnew_22, hput_22]; omega) | exact isR_ref | exact isR_null | exact isR_rf | exact isR_fmt | assumption | decide) only [n_X1_tripleOf, e_X1_tripleOf_0, e_X1_tripleOf_3, e_X1_tripleOf_4, e_X1_tripleOf_5, cR_ref, cR_null, cR_rf, c1_int, c1_ref, c1_null, c1_rf, kz_int, kz_ref, kz_null, kz_rf, kz_U, kz_long, nB_null, nB_ref, rf_none, rf_some, bV_ret, bV_thr, bA_ret, bA_thr, bX_ret, bX_thr, len4_0, len4_1, len4_2, len4_3, len4_4, true_and, and_true, and_self, if_true, if_false, Option.bind_some, nR_b1, nR_b0, nR_bI, nI_1z, nI_0z, bI_z, if_nn, e1]
          simp (disch := first | omega | (simp only [hnew_21, hput_21, hnew_22, hput_22]; omega) | exact isR_ref | exact isR_null | exact isR_rf | exact isR_fmt | assumption | decide) only [e_X1_tripleOf_8, e_X1_tripleOf_9, cR_ref, cR_null, cR_rf, c1_int, c1_ref, c1_null, c1_rf, kz_int, kz_ref, kz_null, kz_rf, kz_U, kz_long, nB_null, nB_ref, rf_none, rf_some, bV_ret, bV_thr, bA_ret, bA_thr, bX_ret, bX_thr, len4_0, len4_1, len4_2, len4_3, len4_4, true_and, and_true, and_self, if_true, if_false, Option.bind_some, nR_b1, nR_b0, nR_bI, nI_1z, nI_0z, bI_z, if_nn, e4]
          simp (disch := first | omega | (simp only [hnew_21, hput_21, hnew_22, hput_22]; omega) | exact isR_ref | exact isR_null | exact isR_rf | exact isR_fmt | assumption | decide) only [e_X1_tripleOf_12, e_X1_tripleOf_14, cR_ref, cR_null, cR_rf, c1_int, c1_ref, c1_null, c1_rf, kz_int, kz_ref, kz_null, kz_rf, kz_U, kz_long, nB_null, nB_ref, rf_none, rf_some, bV_ret, bV_thr, bA_ret, bA_thr, bX_ret, bX_thr, len4_0, len4_1, len4_2, len4_3, len4_4, true_and, and_true, and_self, if_true, if_false, Option.bind_some, nR_b1, nR_b0, nR_bI, nI_1z, nI_0z, bI_z, if_nn, e7]
          simp (disch := first | omega | (simp only [hnew_21, hput_21, hnew_22, hput_22]; omega) | exact isR_ref | exact isR_null | exact isR_rf | exact isR_fmt | assumption | decide) only [e_X1_tripleOf_17, cR_ref, cR_null, cR_rf, c1_int, c1_ref, c1_null, c1_rf, kz_int, kz_ref, kz_null, kz_rf, kz_U, kz_long, nB_null, nB_ref, rf_none, rf_some, bV_ret, bV_thr, bA_ret, bA_thr, bX_ret, bX_thr, len4_0, len4_1, len4_2, len4_3, len4_4, true_and, and_true, and_self, if_true, if_false, Option.bind_some, nR_b1, nR_b0, nR_bI, nI_1z, nI_0z, bI_z, if_nn, i1]
        have f0 : (va_up (va_up (va_up (fun _ => none) 0 (some a1)) 1 (some a2)) 2 (some a3)) 0 = some a1 := rfl
        have f1 : (va_up (va_up (va_up (fun _ => none) 0 (some a1)) 1 (some a2)) 2 (some a3)) 1 = some a2 := rfl
        have f2 : (va_up (va_up (va_up (fun _ => none) 0 (some a1)) 1 (some a2)) 2 (some a3)) 2 = some a3 := rfl
        generalize hfg : (va_up (va_up (va_up (fun _ => none) 0 (some a1)) 1 (some a2)) 2 (some a3)) = fg at i3 f0 f1 f2
        have cl : ∀ {u : Nat} {z : Int64}, TmC h3 u z → TrmR h4 u z → (isWd z ∧ ∃ s, h4.1 u = some (.inr (4, [.ref s]))) ∨ (isNm z ∧ ∃ n, h4.1 u = some (.inr (3, [.int n]))) := fun {u z} w w' => by
          have nu : ∀ {ci : Nat} {fs : List Value}, h3.1 u = some (.inr (ci, fs)) → ci ≠ 2 → u ∉ [h.2.1] := fun hh hc => by
            have := ne_cl hh c3 hc
            simp; omega
          rcases w.2 with ⟨w1, s, hs⟩ | ⟨w1, s, hs⟩
          · exact .inl ⟨w1, s, i7.ob hs (by decide) (nu hs (by decide))⟩
          · exact .inr ⟨w1, _, i7.ob hs (by decide) (nu hs (by decide))⟩
        have thr : gO PG Ω (d + 9) 15 20 [.long x, U, .long y, U, .long o, U, U] [.ref h.2.1] h4 = some (.threw h4.2.1, hnew h4 (.inr (24, [])) 6) → ∃ e h', gM PG Ω (d + 10) 15 [.long x, .long y, .long o] h = some (.threw e, h') ∧ h'.1 e = some (.inr (24, [])) ∧ Nx [] 18 85 h h' := fun q => ⟨_, _, st.trans q, hnew_e, N4.new.mono (fun _ q => q) (by omega) (by omega)⟩
        rcases cl t1 i4 with ⟨w1, s1, c1⟩ | ⟨w1, s1, c1⟩
        · rcases cl t2 i5 with ⟨w2, s2, c2⟩ | ⟨w2, s2, c2⟩
          · refine ⟨fun _ => ⟨h.2.1, h4, st.trans ?_, ⟨_, fg, a1, a2, a3, i2, i3, f0, f1, f2, i4, i5, i6⟩, N4.mono (fun _ q => q) (by omega) (by omega)⟩, fun z => absurd ⟨w1, w2, ho⟩ z⟩
            simp (disch := first | omega | (simp only [hnew_21, hput_21, hnew_22, hput_22]; omega) | exact isR_ref | exact isR_null | exact isR_rf | exact isR_fmt | assumption | decide) only [e_X1_tripleOf_20, e_X1_tripleOf_22, e_X1_tripleOf_24, e_X1_tripleOf_27, e_X1_tripleOf_28, e_X1_tripleOf_29, e_X1_tripleOf_32, e_X1_tripleOf_35, e_X1_tripleOf_37, e_X1_tripleOf_40, e_X1_tripleOf_41, e_X1_tripleOf_42, e_X1_tripleOf_45, e_X1_tripleOf_48, e_X1_tripleOf_56, e_X1_tripleOf_58, cR_ref, cR_null, cR_rf, c1_int, c1_ref, c1_null, c1_rf, kz_int, kz_ref, kz_null, kz_rf, kz_U, kz_long, nB_null, nB_ref, rf_none, rf_some, bV_ret, bV_thr, bA_ret, bA_thr, bX_ret, bX_thr, len4_0, len4_1, len4_2, len4_3, len4_4, true_and, and_true, and_self, if_true, if_false, Option.bind_some, nR_b1, nR_b0, nR_bI, nI_1z, nI_0z, bI_z, if_nn, gf, pf, clN, aln, gaI, gaL, gaR, saI, saR, isI, ctB, isB, gB, hput_n, hput_e, hput_21, hput_22, hnew_n, hnew_e, hnew_21, hnew_22, Option.bind_some, Option.map_some, List.lookup_cons, List.lookup_nil, beq_self_eq_true, List.getElem?_cons_zero, List.getElem?_cons_succ, List.set_cons_zero, List.set_cons_succ, List.length_cons, List.length_nil, Nat.reduceAdd, Nat.reduceLT, Nat.reduceLeDiff, Nat.reduceBEq, Nat.reduceEqDiff, okv_int, okv_oref, okv_onull, okv_orf, okv_aref, okv_b0, okv_b1, okv_z0, okv_bI, ckI_nI, lt31, leT, reduceCtorEq, List.mem_cons, List.mem_singleton, List.not_mem_nil, or_true, true_or, or_false, false_or, toR_ref, toR_null, ↓reduceIte, i2, i3, f0, f1, c1, c2, t1z, t0z]
          · refine ⟨fun z => absurd (nm_neg w2) (wd_nn z.2.1), fun _ => thr ?_⟩
            simp (disch := first | omega | (simp only [hnew_21, hput_21, hnew_22, hput_22]; omega) | exact isR_ref | exact isR_null | exact isR_rf | exact isR_fmt | assumption | decide) only [e_X1_tripleOf_20, e_X1_tripleOf_22, e_X1_tripleOf_24, e_X1_tripleOf_27, e_X1_tripleOf_28, e_X1_tripleOf_29, e_X1_tripleOf_32, e_X1_tripleOf_35, e_X1_tripleOf_37, e_X1_tripleOf_40, e_X1_tripleOf_41, e_X1_tripleOf_42, e_X1_tripleOf_45, e_X1_tripleOf_48, e_X1_tripleOf_56, e_X1_tripleOf_58, cR_ref, cR_null, cR_rf, c1_int, c1_ref, c1_null, c1_rf, kz_int, kz_ref, kz_null, kz_rf, kz_U, kz_long, nB_null, nB_ref, rf_none, rf_some, bV_ret, bV_thr, bA_ret, bA_thr, bX_ret, bX_thr, len4_0, len4_1, len4_2, len4_3, len4_4, true_and, and_true, and_self, if_true, if_false, Option.bind_some, nR_b1, nR_b0, nR_bI, nI_1z, nI_0z, bI_z, if_nn, gf, pf, clN, aln, gaI, gaL, gaR, saI, saR, isI, ctB, isB, gB, hput_n, hput_e, hput_21, hput_22, hnew_n, hnew_e, hnew_21, hnew_22, Option.bind_some, Option.map_some, List.lookup_cons, List.lookup_nil, beq_self_eq_true, List.getElem?_cons_zero, List.getElem?_cons_succ, List.set_cons_zero, List.set_cons_succ, List.length_cons, List.length_nil, Nat.reduceAdd, Nat.reduceLT, Nat.reduceLeDiff, Nat.reduceBEq, Nat.reduceEqDiff, okv_int, okv_oref, okv_onull, okv_orf, okv_aref, okv_b0, okv_b1, okv_z0, okv_bI, ckI_nI, lt31, leT, reduceCtorEq, List.mem_cons, List.mem_singleton, List.not_mem_nil, or_true, true_or, or_false, false_or, toR_ref, toR_null, ↓reduceIte, i2, i3, f0, f1, c1, c2, t1z, t0z]
        · refine ⟨fun z => absurd (nm_neg w1) (wd_nn z.1), fun _ => thr ?_⟩
          simp (disch := first | omega | (simp only [hnew_21, hput_21, hnew_22, hput_22]; omega) | exact isR_ref | exact isR_null | exact isR_rf | exact isR_fmt | assumption | decide) only [e_X1_tripleOf_20, e_X1_tripleOf_22, e_X1_tripleOf_24, e_X1_tripleOf_27, e_X1_tripleOf_28, e_X1_tripleOf_29, e_X1_tripleOf_32, e_X1_tripleOf_35, e_X1_tripleOf_37, e_X1_tripleOf_40, e_X1_tripleOf_41, e_X1_tripleOf_42, e_X1_tripleOf_45, e_X1_tripleOf_48, e_X1_tripleOf_56, e_X1_tripleOf_58, cR_ref, cR_null, cR_rf, c1_int, c1_ref, c1_null, c1_rf, kz_int, kz_ref, kz_null, kz_rf, kz_U, kz_long, nB_null, nB_ref, rf_none, rf_some, bV_ret, bV_thr, bA_ret, bA_thr, bX_ret, bX_thr, len4_0, len4_1, len4_2, len4_3, len4_4, true_and, and_true, and_self, if_true, if_false, Option.bind_some, nR_b1, nR_b0, nR_bI, nI_1z, nI_0z, bI_z, if_nn, gf, pf, clN, aln, gaI, gaL, gaR, saI, saR, isI, ctB, isB, gB, hput_n, hput_e, hput_21, hput_22, hnew_n, hnew_e, hnew_21, hnew_22, Option.bind_some, Option.map_some, List.lookup_cons, List.lookup_nil, beq_self_eq_true, List.getElem?_cons_zero, List.getElem?_cons_succ, List.set_cons_zero, List.set_cons_succ, List.length_cons, List.length_nil, Nat.reduceAdd, Nat.reduceLT, Nat.reduceLeDiff, Nat.reduceBEq, Nat.reduceEqDiff, okv_int, okv_oref, okv_onull, okv_orf, okv_aref, okv_b0, okv_b1, okv_z0, okv_bI, ckI_nI, lt31, leT, reduceCtorEq, List.mem_cons, List.mem_singleton, List.not_mem_nil, or_true, true_or, or_false, false_or, toR_ref, toR_null, ↓reduceIte, i2, i3, f0, f1, c1, t1z, t0z]
      · refine ⟨fun z => absurd z.2.2 ho, fun _ => ?_⟩
        obtain ⟨e, h3, b1, b2, b3⟩ := g6 ho
        refine ⟨e, h3, ?_, b2, (((n0.trans e3).trans e6).trans b3).mono (fun _ q => q) (by omega) (by omega)⟩
        simp (disch := first | omega | (simp only [hnew_21, hput_21, hnew_22, hput_22]; omega) | exact isR_ref | exact isR_null | exact isR_rf | exact isR_fmt | assumption | decide) only [n_X1_tripleOf, e_X1_tripleOf_0, e_X1_tripleOf_3, e_X1_tripleOf_4, e_X1_tripleOf_5, cR_ref, cR_null, cR_rf, c1_int, c1_ref, c1_null, c1_rf, kz_int, kz_ref, kz_null, kz_rf, kz_U, kz_long, nB_null, nB_ref, rf_none, rf_some, bV_ret, bV_thr, bA_ret, bA_thr, bX_ret, bX_thr, len4_0, len4_1, len4_2, len4_3, len4_4, true_and, and_true, and_self, if_true, if_false, Option.bind_some, nR_b1, nR_b0, nR_bI, nI_1z, nI_0z, bI_z, if_nn, e1]
        simp (disch := first | omega | (simp only [hnew_21, hput_21, hnew_22, hput_22]; omega) | exact isR_ref | exact isR_null | exact isR_rf | exact isR_fmt | assumption | decide) only [e_X1_tripleOf_8, e_X1_tripleOf_9, cR_ref, cR_null, cR_rf, c1_int, c1_ref, c1_null, c1_rf, kz_int, kz_ref, kz_null, kz_rf, kz_U, kz_long, nB_null, nB_ref, rf_none, rf_some, bV_ret, bV_thr, bA_ret, bA_thr, bX_ret, bX_thr, len4_0, len4_1, len4_2, len4_3, len4_4, true_and, and_true, and_self, if_true, if_false, Option.bind_some, nR_b1, nR_b0, nR_bI, nI_1z, nI_0z, bI_z, if_nn, e4]
        simp (disch := first | omega | (simp only [hnew_21, hput_21, hnew_22, hput_22]; omega) | exact isR_ref | exact isR_null | exact isR_rf | exact isR_fmt | assumption | decide) only [e_X1_tripleOf_12, e_X1_tripleOf_14, cR_ref, cR_null, cR_rf, c1_int, c1_ref, c1_null, c1_rf, kz_int, kz_ref, kz_null, kz_rf, kz_U, kz_long, nB_null, nB_ref, rf_none, rf_some, bV_ret, bV_thr, bA_ret, bA_thr, bX_ret, bX_thr, len4_0, len4_1, len4_2, len4_3, len4_4, true_and, and_true, and_self, if_true, if_false, Option.bind_some, nR_b1, nR_b0, nR_bI, nI_1z, nI_0z, bI_z, if_nn, b1]
    · refine ⟨fun z => absurd (.inl z.2.1) hy, fun _ => ?_⟩
      obtain ⟨e, h3, b1, b2, b3⟩ := g4 hy
      refine ⟨e, h3, ?_, b2, ((n0.trans e3).trans b3).mono (fun _ q => q) (by omega) (by omega)⟩
      simp (disch := first | omega | (simp only [hnew_21, hput_21, hnew_22, hput_22]; omega) | exact isR_ref | exact isR_null | exact isR_rf | exact isR_fmt | assumption | decide) only [n_X1_tripleOf, e_X1_tripleOf_0, e_X1_tripleOf_3, e_X1_tripleOf_4, e_X1_tripleOf_5, cR_ref, cR_null, cR_rf, c1_int, c1_ref, c1_null, c1_rf, kz_int, kz_ref, kz_null, kz_rf, kz_U, kz_long, nB_null, nB_ref, rf_none, rf_some, bV_ret, bV_thr, bA_ret, bA_thr, bX_ret, bX_thr, len4_0, len4_1, len4_2, len4_3, len4_4, true_and, and_true, and_self, if_true, if_false, Option.bind_some, nR_b1, nR_b0, nR_bI, nI_1z, nI_0z, bI_z, if_nn, e1]
      simp (disch := first | omega | (simp only [hnew_21, hput_21, hnew_22, hput_22]; omega) | exact isR_ref | exact isR_null | exact isR_rf | exact isR_fmt | assumption | decide) only [e_X1_tripleOf_8, e_X1_tripleOf_9, cR_ref, cR_null, cR_rf, c1_int, c1_ref, c1_null, c1_rf, kz_int, kz_ref, kz_null, kz_rf, kz_U, kz_long, nB_null, nB_ref, rf_none, rf_some, bV_ret, bV_thr, bA_ret, bA_thr, bX_ret, bX_thr, len4_0, len4_1, len4_2, len4_3, len4_4, true_and, and_true, and_self, if_true, if_false, Option.bind_some, nR_b1, nR_b0, nR_bI, nI_1z, nI_0z, bI_z, if_nn, b1]
  · refine ⟨fun z => absurd (.inl z.1) hx, fun _ => ?_⟩
    obtain ⟨e, h3, b1, b2, b3⟩ := g2 hx
    refine ⟨e, h3, ?_, b2, (n0.trans b3).mono (fun _ q => q) (by omega) (by omega)⟩
    simp (disch := first | omega | (simp only [hnew_21, hput_21, hnew_22, hput_22]; omega) | exact isR_ref | exact isR_null | exact isR_rf | exact isR_fmt | assumption | decide) only [n_X1_tripleOf, e_X1_tripleOf_0, e_X1_tripleOf_3, e_X1_tripleOf_4, e_X1_tripleOf_5, cR_ref, cR_null, cR_rf, c1_int, c1_ref, c1_null, c1_rf, kz_int, kz_ref, kz_null, kz_rf, kz_U, kz_long, nB_null, nB_ref, rf_none, rf_some, bV_ret, bV_thr, bA_ret, bA_thr, bX_ret, bX_thr, len4_0, len4_1, len4_2, len4_3, len4_4, true_and, and_true, and_self, if_true, if_false, Option.bind_some, nR_b1, nR_b0, nR_bI, nI_1z, nI_0z, bI_z, if_nn, b1]
theorem c_tsame (ta : TriR h a t) (tb : TriR h b u) : gM PG Ω (d + 4) 95 [.ref a, .ref b] h = some (.returned (some (.int (bI (decide (t = u))))), h) := by
  obtain ⟨g, f, p, q, r, a1, a2, a3, a4, a5, a6, a7, a8⟩ := ta
  obtain ⟨g', f', p', q', r', b1, b2, b3, b4, b5, b6, b7, b8⟩ := tb
  have e0 := @c_same Ω d h p p' _ _ a6 b6
  obtain ⟨t1, t2, t3⟩ := t
  obtain ⟨u1, u2, u3⟩ := u
  by_cases h0 : t1 = u1
  · by_cases h1 : t2 = u2
    · by_cases h2 : t3 = u3
      · have e : decide ((t1, t2, t3) = (u1, u2, u3)) = true := by rw [h0, h1, h2]; exact decide_eq_true rfl
        rw [e]
        simp (disch := first | omega | (simp only [hnew_21, hput_21, hnew_22, hput_22]; omega) | exact isR_ref | exact isR_null | exact isR_rf | exact isR_fmt | assumption | decide) only [n_X3_same, e_X3_same_2, e_X3_same_0, e_X3_same_1, e_X3_same_3, e_X3_same_4, e_X3_same_7, e_X3_same_8, e_X3_same_11, e_X3_same_12, e_X3_same_13, e_X3_same_14, e_X3_same_17, e_X3_same_18, e_X3_same_19, e_X3_same_22, e_X3_same_25, e_X3_same_26, e_X3_same_27, e_X3_same_30, e_X3_same_33, e_X3_same_34, cR_ref, cR_null, cR_rf, c1_int, c1_ref, c1_null, c1_rf, kz_int, kz_ref, kz_null, kz_rf, kz_U, kz_long, nB_null, nB_ref, rf_none, rf_some, bV_ret, bV_thr, bA_ret, bA_thr, bX_ret, bX_thr, len4_0, len4_1, len4_2, len4_3, len4_4, true_and, and_true, and_self, if_true, if_false, Option.bind_some, nR_b1, nR_b0, nR_bI, nI_1z, nI_0z, bI_z, if_nn, ↓c_same (Ω := Ω) (d := d) a6 b6, ↓c_same (Ω := Ω) (d := d) a7 b7, ↓c_same (Ω := Ω) (d := d) a8 b8, gf, pf, clN, aln, gaI, gaL, gaR, saI, saR, isI, ctB, isB, gB, hput_n, hput_e, hput_21, hput_22, hnew_n, hnew_e, hnew_21, hnew_22, Option.bind_some, Option.map_some, List.lookup_cons, List.lookup_nil, beq_self_eq_true, List.getElem?_cons_zero, List.getElem?_cons_succ, List.set_cons_zero, List.set_cons_succ, List.length_cons, List.length_nil, Nat.reduceAdd, Nat.reduceLT, Nat.reduceLeDiff, Nat.reduceBEq, Nat.reduceEqDiff, okv_int, okv_oref, okv_onull, okv_orf, okv_aref, okv_b0, okv_b1, okv_z0, okv_bI, ckI_nI, lt31, leT, reduceCtorEq, List.mem_cons, List.mem_singleton, List.not_mem_nil, or_true, true_or, or_false, false_or, toR_ref, toR_null, ↓reduceIte, nI_add, pk_mul, ↓nI_lt_if, a1, a2, a3, a4, a5, b1, b2, b3, b4, b5, h0, h1, h2, decide_true, bI_t]
      · have e : decide ((t1, t2, t3) = (u1, u2, u3)) = false := decide_eq_false (fun z => h2 (congrArg (fun w : Tri => w.2.2) z))
        rw [e]
        simp (disch := first | omega | (simp only [hnew_21, hput_21, hnew_22, hput_22]; omega) | exact isR_ref | exact isR_null | exact isR_rf | exact isR_fmt | assumption | decide) only [n_X3_same, e_X3_same_2, e_X3_same_0, e_X3_same_1, e_X3_same_3, e_X3_same_4, e_X3_same_7, e_X3_same_8, e_X3_same_11, e_X3_same_12, e_X3_same_13, e_X3_same_14, e_X3_same_17, e_X3_same_18, e_X3_same_19, e_X3_same_22, e_X3_same_25, e_X3_same_26, e_X3_same_27, e_X3_same_30, e_X3_same_33, e_X3_same_34, cR_ref, cR_null, cR_rf, c1_int, c1_ref, c1_null, c1_rf, kz_int, kz_ref, kz_null, kz_rf, kz_U, kz_long, nB_null, nB_ref, rf_none, rf_some, bV_ret, bV_thr, bA_ret, bA_thr, bX_ret, bX_thr, len4_0, len4_1, len4_2, len4_3, len4_4, true_and, and_true, and_self, if_true, if_false, Option.bind_some, nR_b1, nR_b0, nR_bI, nI_1z, nI_0z, bI_z, if_nn, ↓c_same (Ω := Ω) (d := d) a6 b6, ↓c_same (Ω := Ω) (d := d) a7 b7, ↓c_same (Ω := Ω) (d := d) a8 b8, gf, pf, clN, aln, gaI, gaL, gaR, saI, saR, isI, ctB, isB, gB, hput_n, hput_e, hput_21, hput_22, hnew_n, hnew_e, hnew_21, hnew_22, Option.bind_some, Option.map_some, List.lookup_cons, List.lookup_nil, beq_self_eq_true, List.getElem?_cons_zero, List.getElem?_cons_succ, List.set_cons_zero, List.set_cons_succ, List.length_cons, List.length_nil, Nat.reduceAdd, Nat.reduceLT, Nat.reduceLeDiff, Nat.reduceBEq, Nat.reduceEqDiff, okv_int, okv_oref, okv_onull, okv_orf, okv_aref, okv_b0, okv_b1, okv_z0, okv_bI, ckI_nI, lt31, leT, reduceCtorEq, List.mem_cons, List.mem_singleton, List.not_mem_nil, or_true, true_or, or_false, false_or, toR_ref, toR_null, ↓reduceIte, nI_add, pk_mul, ↓nI_lt_if, a1, a2, a3, a4, a5, b1, b2, b3, b4, b5, h0, h1, h2, decide_true, decide_false, bI_f]
    · have e : decide ((t1, t2, t3) = (u1, u2, u3)) = false := decide_eq_false (fun z => h1 (congrArg (fun w : Tri => w.2.1) z))
      rw [e]
      simp (disch := first | omega | (simp only [hnew_21, hput_21, hnew_22, hput_22]; omega) | exact isR_ref | exact isR_null | exact isR_rf | exact isR_fmt | assumption | decide) only [n_X3_same, e_X3_same_2, e_X3_same_0, e_X3_same_1, e_X3_same_3, e_X3_same_4, e_X3_same_7, e_X3_same_8, e_X3_same_11, e_X3_same_12, e_X3_same_13, e_X3_same_14, e_X3_same_17, e_X3_same_18, e_X3_same_19, e_X3_same_22, e_X3_same_25, e_X3_same_26, e_X3_same_27, e_X3_same_30, e_X3_same_33, e_X3_same_34, cR_ref, cR_null, cR_rf, c1_int, c1_ref, c1_null, c1_rf, kz_int, kz_ref, kz_null, kz_rf, kz_U, kz_long, nB_null, nB_ref, rf_none, rf_some, bV_ret, bV_thr, bA_ret, bA_thr, bX_ret, bX_thr, len4_0, len4_1, len4_2, len4_3, len4_4, true_and, and_true, and_self, if_true, if_false, Option.bind_some, nR_b1, nR_b0, nR_bI, nI_1z, nI_0z, bI_z, if_nn, ↓c_same (Ω := Ω) (d := d) a6 b6, ↓c_same (Ω := Ω) (d := d) a7 b7, gf, pf, clN, aln, gaI, gaL, gaR, saI, saR, isI, ctB, isB, gB, hput_n, hput_e, hput_21, hput_22, hnew_n, hnew_e, hnew_21, hnew_22, Option.bind_some, Option.map_some, List.lookup_cons, List.lookup_nil, beq_self_eq_true, List.getElem?_cons_zero, List.getElem?_cons_succ, List.set_cons_zero, List.set_cons_succ, List.length_cons, List.length_nil, Nat.reduceAdd, Nat.reduceLT, Nat.reduceLeDiff, Nat.reduceBEq, Nat.reduceEqDiff, okv_int, okv_oref, okv_onull, okv_orf, okv_aref, okv_b0, okv_b1, okv_z0, okv_bI, ckI_nI, lt31, leT, reduceCtorEq, List.mem_cons, List.mem_singleton, List.not_mem_nil, or_true, true_or, or_false, false_or, toR_ref, toR_null, ↓reduceIte, nI_add, pk_mul, ↓nI_lt_if, a1, a2, a3, a4, b1, b2, b3, b4, h0, h1, decide_true, decide_false, bI_f]
  · have e : decide ((t1, t2, t3) = (u1, u2, u3)) = false := decide_eq_false (fun z => h0 (congrArg (fun w : Tri => w.1) z))
    rw [e]
    simp (disch := first | omega | (simp only [hnew_21, hput_21, hnew_22, hput_22]; omega) | exact isR_ref | exact isR_null | exact isR_rf | exact isR_fmt | assumption | decide) only [n_X3_same, e_X3_same_2, e_X3_same_0, e_X3_same_1, e_X3_same_3, e_X3_same_4, e_X3_same_7, e_X3_same_8, e_X3_same_11, e_X3_same_12, e_X3_same_13, e_X3_same_14, e_X3_same_17, e_X3_same_18, e_X3_same_19, e_X3_same_22, e_X3_same_25, e_X3_same_26, e_X3_same_27, e_X3_same_30, e_X3_same_33, e_X3_same_34, cR_ref, cR_null, cR_rf, c1_int, c1_ref, c1_null, c1_rf, kz_int, kz_ref, kz_null, kz_rf, kz_U, kz_long, nB_null, nB_ref, rf_none, rf_some, bV_ret, bV_thr, bA_ret, bA_thr, bX_ret, bX_thr, len4_0, len4_1, len4_2, len4_3, len4_4, true_and, and_true, and_self, if_true, if_false, Option.bind_some, nR_b1, nR_b0, nR_bI, nI_1z, nI_0z, bI_z, if_nn, ↓c_same (Ω := Ω) (d := d) a6 b6, gf, pf, clN, aln, gaI, gaL, gaR, saI, saR, isI, ctB, isB, gB, hput_n, hput_e, hput_21, hput_22, hnew_n, hnew_e, hnew_21, hnew_22, Option.bind_some, Option.map_some, List.lookup_cons, List.lookup_nil, beq_self_eq_true, List.getElem?_cons_zero, List.getElem?_cons_succ, List.set_cons_zero, List.set_cons_succ, List.length_cons, List.length_nil, Nat.reduceAdd, Nat.reduceLT, Nat.reduceLeDiff, Nat.reduceBEq, Nat.reduceEqDiff, okv_int, okv_oref, okv_onull, okv_orf, okv_aref, okv_b0, okv_b1, okv_z0, okv_bI, ckI_nI, lt31, leT, reduceCtorEq, List.mem_cons, List.mem_singleton, List.not_mem_nil, or_true, true_or, or_false, false_or, toR_ref, toR_null, ↓reduceIte, nI_add, pk_mul, ↓nI_lt_if, a1, a2, a3, b1, b2, b3, h0, decide_false, bI_f]
theorem fiT_first {k : Nat} (h1 : L[k]? = some t) (h2 : ∀ j, j < k → L[j]? ≠ some t) : fiT L t = k := by
  have hm : t ∈ L := List.mem_of_getElem? h1
  have hg := fiT_get hm
  rcases Nat.lt_trichotomy (fiT L t) k with z | z | z
  · exact absurd hg (h2 _ z)
  · exact z
  · unfold fiT at z
    have := List.not_of_lt_findIdx z
    have hk := (List.getElem?_eq_some_iff.mp h1)
    rw [hk.2] at this
    simp at this
theorem c_find (hc : h.1 c = some (acE (.ref tr) (.int (nI L.length)) v2 v3 v4 v5 v6 v7 v8 sb fa ra rc co)) (hT : TrA h tr L) (ha : TriR h a t) : (t ∈ L → gM PG Ω (d + 5) 17 [.ref c, .ref a] h = some (.returned (some (.int (nI (fiT L t)))), h)) ∧ (t ∉ L → gM PG Ω (d + 5) 17 [.ref c, .ref a] h = some (.returned (some (.int (-1))), h)) := by
  have hT0 := hT
  obtain ⟨f, f1, f2, f3⟩ := hT0
  have key : ∀ m k : Nat, k + m = L.length → (∀ j, j < k → L[j]? ≠ some t) → (t ∈ L → gO PG Ω (d + 4) 17 2 [.ref c, .ref a, .int (nI k)] [] h = some (.returned (some (.int (nI (fiT L t)))), h)) ∧ (t ∉ L → gO PG Ω (d + 4) 17 2 [.ref c, .ref a, .int (nI k)] [] h = some (.returned (some (.int (-1))), h)) := by
    intro m
    induction m with
    | zero =>
      intro k hk hn
      have hkl : ¬ k < L.length := by omega
      refine ⟨fun hm => ?_, fun _ => ?_⟩
      · obtain ⟨j, hj⟩ := List.mem_iff_getElem?.mp hm
        exact absurd hj (hn j (by have := (List.getElem?_eq_some_iff.mp hj).1; omega))
      · rw [e_X1_find_2]
        simp (disch := first | omega | (simp only [hnew_21, hput_21, hnew_22, hput_22]; omega) | exact isR_ref | exact isR_null | exact isR_rf | exact isR_fmt | assumption | decide) only [e_X1_find_0, e_X1_find_1, e_X1_find_3, e_X1_find_4, e_X1_find_7, e_X1_find_10, e_X1_find_11, e_X1_find_14, e_X1_find_15, e_X1_find_16, e_X1_find_17, e_X1_find_20, e_X1_find_23, e_X1_find_24, e_X1_find_25, e_X1_find_28, e_X1_find_31, e_X1_find_32, cR_ref, cR_null, cR_rf, c1_int, c1_ref, c1_null, c1_rf, kz_int, kz_ref, kz_null, kz_rf, kz_U, kz_long, nB_null, nB_ref, rf_none, rf_some, bV_ret, bV_thr, bA_ret, bA_thr, bX_ret, bX_thr, len4_0, len4_1, len4_2, len4_3, len4_4, true_and, and_true, and_self, if_true, if_false, Option.bind_some, nR_b1, nR_b0, nR_bI, nI_1z, nI_0z, bI_z, if_nn, gf, pf, clN, aln, gaI, gaL, gaR, saI, saR, isI, ctB, isB, gB, hput_n, hput_e, hput_21, hput_22, hnew_n, hnew_e, hnew_21, hnew_22, Option.bind_some, Option.map_some, List.lookup_cons, List.lookup_nil, beq_self_eq_true, List.getElem?_cons_zero, List.getElem?_cons_succ, List.set_cons_zero, List.set_cons_succ, List.length_cons, List.length_nil, Nat.reduceAdd, Nat.reduceLT, Nat.reduceLeDiff, Nat.reduceBEq, Nat.reduceEqDiff, okv_int, okv_oref, okv_onull, okv_orf, okv_aref, okv_b0, okv_b1, okv_z0, okv_bI, ckI_nI, lt31, leT, reduceCtorEq, List.mem_cons, List.mem_singleton, List.not_mem_nil, or_true, true_or, or_false, false_or, toR_ref, toR_null, ↓reduceIte, hc, ↓nI_lt_if, hkl]
    | succ m ih =>
      intro k hk hn
      have hkl : k < L.length := by omega
      have hg : L[k]? = some L[k] := List.getElem?_eq_getElem hkl
      generalize L[k] = w at hg
      obtain ⟨b, b1, b2⟩ := f3 k w hg
      have b2' := b2
      obtain ⟨g, _, _, _, _, b3, _⟩ := b2'
      have e := c_tsame (Ω := Ω) (d := d) b2 ha
      by_cases hw : w = t
      · subst hw
        rw [fiT_first hg hn]
        refine ⟨fun _ => ?_, fun z => absurd (List.mem_of_getElem? hg) z⟩
        rw [e_X1_find_2]
        simp (disch := first | omega | (simp only [hnew_21, hput_21, hnew_22, hput_22]; omega) | exact isR_ref | exact isR_null | exact isR_rf | exact isR_fmt | assumption | decide) only [e_X1_find_0, e_X1_find_1, e_X1_find_3, e_X1_find_4, e_X1_find_7, e_X1_find_10, e_X1_find_11, e_X1_find_14, e_X1_find_15, e_X1_find_16, e_X1_find_17, e_X1_find_20, e_X1_find_23, e_X1_find_24, e_X1_find_25, e_X1_find_28, e_X1_find_31, e_X1_find_32, cR_ref, cR_null, cR_rf, c1_int, c1_ref, c1_null, c1_rf, kz_int, kz_ref, kz_null, kz_rf, kz_U, kz_long, nB_null, nB_ref, rf_none, rf_some, bV_ret, bV_thr, bA_ret, bA_thr, bX_ret, bX_thr, len4_0, len4_1, len4_2, len4_3, len4_4, true_and, and_true, and_self, if_true, if_false, Option.bind_some, nR_b1, nR_b0, nR_bI, nI_1z, nI_0z, bI_z, if_nn, gf, pf, clN, aln, gaI, gaL, gaR, saI, saR, isI, ctB, isB, gB, hput_n, hput_e, hput_21, hput_22, hnew_n, hnew_e, hnew_21, hnew_22, Option.bind_some, Option.map_some, List.lookup_cons, List.lookup_nil, beq_self_eq_true, List.getElem?_cons_zero, List.getElem?_cons_succ, List.set_cons_zero, List.set_cons_succ, List.length_cons, List.length_nil, Nat.reduceAdd, Nat.reduceLT, Nat.reduceLeDiff, Nat.reduceBEq, Nat.reduceEqDiff, okv_int, okv_oref, okv_onull, okv_orf, okv_aref, okv_b0, okv_b1, okv_z0, okv_bI, ckI_nI, lt31, leT, reduceCtorEq, List.mem_cons, List.mem_singleton, List.not_mem_nil, or_true, true_or, or_false, false_or, toR_ref, toR_null, ↓reduceIte, hc, f1, b1, b3, e, ↓nI_lt_if, hkl, decide_true, bI_t]
      · have e2 : gO PG Ω (d + 4) 17 2 [.ref c, .ref a, .int (nI k)] [] h = gO PG Ω (d + 4) 17 2 [.ref c, .ref a, .int (nI (k + 1))] [] h := by
          rw [e_X1_find_2]
          simp (disch := first | omega | (simp only [hnew_21, hput_21, hnew_22, hput_22]; omega) | exact isR_ref | exact isR_null | exact isR_rf | exact isR_fmt | assumption | decide) only [e_X1_find_0, e_X1_find_1, e_X1_find_3, e_X1_find_4, e_X1_find_7, e_X1_find_10, e_X1_find_11, e_X1_find_14, e_X1_find_15, e_X1_find_16, e_X1_find_17, e_X1_find_20, e_X1_find_23, e_X1_find_24, e_X1_find_25, e_X1_find_28, e_X1_find_31, e_X1_find_32, cR_ref, cR_null, cR_rf, c1_int, c1_ref, c1_null, c1_rf, kz_int, kz_ref, kz_null, kz_rf, kz_U, kz_long, nB_null, nB_ref, rf_none, rf_some, bV_ret, bV_thr, bA_ret, bA_thr, bX_ret, bX_thr, len4_0, len4_1, len4_2, len4_3, len4_4, true_and, and_true, and_self, if_true, if_false, Option.bind_some, nR_b1, nR_b0, nR_bI, nI_1z, nI_0z, bI_z, if_nn, gf, pf, clN, aln, gaI, gaL, gaR, saI, saR, isI, ctB, isB, gB, hput_n, hput_e, hput_21, hput_22, hnew_n, hnew_e, hnew_21, hnew_22, Option.bind_some, Option.map_some, List.lookup_cons, List.lookup_nil, beq_self_eq_true, List.getElem?_cons_zero, List.getElem?_cons_succ, List.set_cons_zero, List.set_cons_succ, List.length_cons, List.length_nil, Nat.reduceAdd, Nat.reduceLT, Nat.reduceLeDiff, Nat.reduceBEq, Nat.reduceEqDiff, okv_int, okv_oref, okv_onull, okv_orf, okv_aref, okv_b0, okv_b1, okv_z0, okv_bI, ckI_nI, lt31, leT, reduceCtorEq, List.mem_cons, List.mem_singleton, List.not_mem_nil, or_true, true_or, or_false, false_or, toR_ref, toR_null, ↓reduceIte, nI_add, pk_mul, hc, f1, b1, b3, e, ↓nI_lt_if, hkl, hw, decide_false, bI_f]
        rw [e2]
        exact ih (k + 1) (by omega) (fun j hj => by
          rcases Nat.lt_or_ge j k with z | z
          · exact hn j z
          · have : j = k := by omega
            rw [this, hg]
            exact fun z => hw (by cases z; rfl))
  have e0 : gM PG Ω (d + 5) 17 [.ref c, .ref a] h = gO PG Ω (d + 4) 17 2 [.ref c, .ref a, .int (nI 0)] [] h := by
    simp (disch := first | omega | (simp only [hnew_21, hput_21, hnew_22, hput_22]; omega) | exact isR_ref | exact isR_null | exact isR_rf | exact isR_fmt | assumption | decide) only [n_X1_find, e_X1_find_0, e_X1_find_1, e_X1_find_3, e_X1_find_4, e_X1_find_7, e_X1_find_10, e_X1_find_11, e_X1_find_14, e_X1_find_15, e_X1_find_16, e_X1_find_17, e_X1_find_20, e_X1_find_23, e_X1_find_24, e_X1_find_25, e_X1_find_28, e_X1_find_31, e_X1_find_32, cR_ref, cR_null, cR_rf, c1_int, c1_ref, c1_null, c1_rf, kz_int, kz_ref, kz_null, kz_rf, kz_U, kz_long, nB_null, nB_ref, rf_none, rf_some, bV_ret, bV_thr, bA_ret, bA_thr, bX_ret, bX_thr, len4_0, len4_1, len4_2, len4_3, len4_4, true_and, and_true, and_self, if_true, if_false, Option.bind_some, nR_b1, nR_b0, nR_bI, nI_1z, nI_0z, bI_z, if_nn]
  rw [e0]
  exact key L.length 0 (by omega) (fun j hj => absurd hj (Nat.not_lt_zero _))
theorem FS.ct {fs : List Value} {N : Nat} {f : Nat → Option Nat} (hc : h.1 c = some (.inr (0, fs))) (ht : h.1 tr = some (arR "TripleStore$Triple" N f)) : FS h [c, tr] := fun q hq e he => by
  rcases List.mem_cons.mp hq with z | z
  · rw [z, hc] at he; cases he; show 0 ∉ _; decide
  · rw [List.mem_singleton.mp z, ht] at he; cases he; exact ⟨by decide, fun z => nomatch z⟩
theorem c_place (hc : h.1 c = some (acE (.ref tr) (.int (nI L.length)) v2 v3 v4 v5 v6 v7 v8 sb fa ra rc co)) (hT : TrA h tr L) (ha : TriR h a t) (hl : L.length < 48) (hFe : Fe h) (hzc : Ω.sz ≤ c) (hzt : Ω.sz ≤ tr) : ∃ h', gM PG Ω (d + 1) 18 [.ref c, .ref a] h = some (.returned none, h') ∧ h'.1 c = some (acE (.ref tr) (.int (nI (L ++ [t]).length)) v2 v3 v4 v5 v6 v7 v8 sb fa ra rc co) ∧ TrA h' tr (L ++ [t]) ∧ Nx [c, tr] 0 0 h h' := by
  obtain ⟨f, f1, f2, f3⟩ := hT
  have ha0 := ha
  obtain ⟨g, _, _, _, _, a1, _⟩ := ha0
  have lc := hFe.lt hc
  have lt := hFe.lt f1
  have hne : c ≠ tr := ne_ca hc f1
  have hna : a ≠ tr := ne_ca a1 f1
  have n1 : Nx [c, tr] 0 0 h (hput (hput h tr (arR "TripleStore$Triple" 48 (va_up f L.length (some a)))) c (acE (.ref tr) (.int (nI (L.length + 1))) v2 v3 v4 v5 v6 v7 v8 sb fa ra rc co)) := ((Nx.rfl' hFe).put (.inl (by simp)) lt).put (.inl (by simp)) lc
  have hS := FS.ct hc f1
  refine ⟨_, ?_, by rw [List.length_append]; exact hput_e, ⟨va_up f L.length (some a), by rw [hput_n hne.symm]; exact hput_e, by rw [List.length_append, List.length_singleton]; omega, fun i w hw => ?_⟩, n1⟩
  · simp (disch := first | omega | (simp only [hnew_21, hput_21, hnew_22, hput_22]; omega) | exact isR_ref | exact isR_null | exact isR_rf | exact isR_fmt | assumption | decide) only [n_X1_place, e_X1_place_0, e_X1_place_1, e_X1_place_4, e_X1_place_5, e_X1_place_8, e_X1_place_9, e_X1_place_10, e_X1_place_11, e_X1_place_12, e_X1_place_15, e_X1_place_16, e_X1_place_17, e_X1_place_20, cR_ref, cR_null, cR_rf, c1_int, c1_ref, c1_null, c1_rf, kz_int, kz_ref, kz_null, kz_rf, kz_U, kz_long, nB_null, nB_ref, rf_none, rf_some, bV_ret, bV_thr, bA_ret, bA_thr, bX_ret, bX_thr, len4_0, len4_1, len4_2, len4_3, len4_4, true_and, and_true, and_self, if_true, if_false, Option.bind_some, nR_b1, nR_b0, nR_bI, nI_1z, nI_0z, bI_z, if_nn, gf, pf, clN, aln, gaI, gaL, gaR, saI, saR, isI, ctB, isB, gB, hput_n, hput_e, hput_21, hput_22, hnew_n, hnew_e, hnew_21, hnew_22, Option.bind_some, Option.map_some, List.lookup_cons, List.lookup_nil, beq_self_eq_true, List.getElem?_cons_zero, List.getElem?_cons_succ, List.set_cons_zero, List.set_cons_succ, List.length_cons, List.length_nil, Nat.reduceAdd, Nat.reduceLT, Nat.reduceLeDiff, Nat.reduceBEq, Nat.reduceEqDiff, okv_int, okv_oref, okv_onull, okv_orf, okv_aref, okv_b0, okv_b1, okv_z0, okv_bI, ckI_nI, lt31, leT, reduceCtorEq, List.mem_cons, List.mem_singleton, List.not_mem_nil, or_true, true_or, or_false, false_or, toR_ref, toR_null, ↓reduceIte, nI_add, pk_mul, hc, f1, a1, hne, hne.symm, hna, List.length_singleton]
  · rcases Nat.lt_or_ge i L.length with hi | hi
    · rw [List.getElem?_append_left hi] at hw
      obtain ⟨b, b1, b2⟩ := f3 i w hw
      exact ⟨b, by unfold va_up; rw [if_neg (by omega)]; exact b1, b2.fs n1 hS⟩
    · have hi2 : i = L.length := by
        have := (List.getElem?_eq_some_iff.mp hw).1
        rw [List.length_append, List.length_singleton] at this
        omega
      subst hi2
      rw [List.getElem?_append_right (Nat.le_refl _), Nat.sub_self] at hw
      cases hw
      exact ⟨a, by unfold va_up; rw [if_pos rfl], ha.fs n1 hS⟩
theorem c_take {i : Nat} (hc : h.1 c = some (acE (.ref tr) (.int (nI L.length)) v2 v3 v4 v5 v6 v7 v8 sb fa ra rc co)) (hT : TrA h tr L) (hi : i < L.length) (hFe : Fe h) (hzc : Ω.sz ≤ c) (hzt : Ω.sz ≤ tr) : ∃ h', gM PG Ω (d + 1) 22 [.ref c, .int (nI i)] h = some (.returned none, h') ∧ h'.1 c = some (acE (.ref tr) (.int (nI (swr L i).length)) v2 v3 v4 v5 v6 v7 v8 sb fa ra rc co) ∧ TrA h' tr (swr L i) ∧ Nx [c, tr] 0 0 h h' := by
  obtain ⟨f, f1, f2, f3⟩ := hT
  have lc := hFe.lt hc
  have lt := hFe.lt f1
  have hne : c ≠ tr := ne_ca hc f1
  have hlast : L[L.length - 1]? = some L[L.length - 1] := List.getElem?_eq_getElem (by omega)
  generalize L[L.length - 1] = w at hlast
  obtain ⟨b, b1, b2⟩ := f3 _ _ hlast
  have b20 := b2
  obtain ⟨g, _, _, _, _, a1, _⟩ := b20
  have hnb : b ≠ c := ne_cl a1 hc (by decide)
  have n1 : Nx [c, tr] 0 0 h (hput (hput h c (acE (.ref tr) (.int (nI (swr L i).length)) v2 v3 v4 v5 v6 v7 v8 sb fa ra rc co)) tr (arR "TripleStore$Triple" 48 (va_up (va_up f i (some b)) (L.length - 1) none))) := ((Nx.rfl' hFe).put (.inl (by simp)) lc).put (.inl (by simp)) lt
  have hS := FS.ct hc f1
  have es : nI L.length - nI 1 = nI (L.length - 1) := pk_sub (by omega)
  refine ⟨_, ?_, by rw [hput_n hne]; exact hput_e, ⟨_, hput_e, by rw [swr_len]; omega, fun j v hj => ?_⟩, n1⟩
  · rw [swr_len]
    simp (disch := first | omega | (simp only [hnew_21, hput_21, hnew_22, hput_22]; omega) | exact isR_ref | exact isR_null | exact isR_rf | exact isR_fmt | assumption | decide) only [n_X1_take, e_X1_take_0, e_X1_take_1, e_X1_take_2, e_X1_take_5, e_X1_take_6, e_X1_take_7, e_X1_take_10, e_X1_take_11, e_X1_take_14, e_X1_take_15, e_X1_take_16, e_X1_take_19, e_X1_take_20, e_X1_take_23, e_X1_take_24, e_X1_take_25, e_X1_take_26, e_X1_take_29, e_X1_take_30, e_X1_take_33, e_X1_take_34, e_X1_take_35, cR_ref, cR_null, cR_rf, c1_int, c1_ref, c1_null, c1_rf, kz_int, kz_ref, kz_null, kz_rf, kz_U, kz_long, nB_null, nB_ref, rf_none, rf_some, bV_ret, bV_thr, bA_ret, bA_thr, bX_ret, bX_thr, len4_0, len4_1, len4_2, len4_3, len4_4, true_and, and_true, and_self, if_true, if_false, Option.bind_some, nR_b1, nR_b0, nR_bI, nI_1z, nI_0z, bI_z, if_nn, gf, pf, clN, aln, gaI, gaL, gaR, saI, saR, isI, ctB, isB, gB, hput_n, hput_e, hput_21, hput_22, hnew_n, hnew_e, hnew_21, hnew_22, Option.bind_some, Option.map_some, List.lookup_cons, List.lookup_nil, beq_self_eq_true, List.getElem?_cons_zero, List.getElem?_cons_succ, List.set_cons_zero, List.set_cons_succ, List.length_cons, List.length_nil, Nat.reduceAdd, Nat.reduceLT, Nat.reduceLeDiff, Nat.reduceBEq, Nat.reduceEqDiff, okv_int, okv_oref, okv_onull, okv_orf, okv_aref, okv_b0, okv_b1, okv_z0, okv_bI, ckI_nI, lt31, leT, reduceCtorEq, List.mem_cons, List.mem_singleton, List.not_mem_nil, or_true, true_or, or_false, false_or, toR_ref, toR_null, ↓reduceIte, es, hc, f1, b1, a1, hne, hne.symm, hnb, hput2]
  · have hjl : j < L.length - 1 := by
      have := (List.getElem?_eq_some_iff.mp hj).1
      rwa [swr_len] at this
    rw [swr_get hi hjl] at hj
    by_cases hji : j = i
    · rw [if_pos hji, hlast] at hj
      cases hj
      exact ⟨b, by unfold va_up; rw [if_neg (by omega), if_pos hji], b2.fs n1 hS⟩
    · rw [if_neg hji] at hj
      obtain ⟨b', b1', b2'⟩ := f3 j v hj
      exact ⟨b', by unfold va_up; rw [if_neg (by omega), if_neg hji]; exact b1', b2'.fs n1 hS⟩
end TRI
