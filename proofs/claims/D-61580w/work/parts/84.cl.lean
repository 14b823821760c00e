/-! COMPONENT: the whole group -/
section CLL
variable {Ω : Om} {d D : Nat} {h h' h0 h1 h2 : AH} {a b c : Nat} {s : Sol} {k m k' m' : Nat} {S : List Nat} {A B M l : List Sol} {L : List Tri} {p : Pat} {G : Type}
variable {P : AH → Nat → G → Prop} {ev : G → Option (List Sol)} {cn : G → Nat × Nat}
theorem c_nxt {Q : Nat → G → Prop} {nx : Value} {e : El G} (he : ElR h Q a nx e) : gf h a [(10, 0), (15, 0), (16, 0), (17, 0), (18, 0)] = some nx := by
  rcases e with p | t | g | g | gs
  · obtain ⟨pg, pff, _, _, _, p1, _⟩ := he
    simp (disch := first | omega | (simp only [hnew_21, hput_21, hnew_22, hput_22]; omega) | exact isR_ref | exact isR_null | exact isR_rf | exact isR_fmt | assumption | decide) only [gf, pf, clN, aln, gaI, gaL, gaR, saI, saR, isI, ctB, isB, gB, hput_n, hput_e, hput_21, hput_22, hnew_n, hnew_e, hnew_21, hnew_22, Option.bind_some, Option.map_some, List.lookup_cons, List.lookup_nil, beq_self_eq_true, List.getElem?_cons_zero, List.getElem?_cons_succ, List.set_cons_zero, List.set_cons_succ, List.length_cons, List.length_nil, Nat.reduceAdd, Nat.reduceLT, Nat.reduceLeDiff, Nat.reduceBEq, Nat.reduceEqDiff, okv_int, okv_oref, okv_onull, okv_orf, okv_aref, okv_b0, okv_b1, okv_z0, okv_bI, ckI_nI, lt31, leT, reduceCtorEq, List.mem_cons, List.mem_singleton, List.not_mem_nil, or_true, true_or, or_false, false_or, toR_ref, toR_null, ↓reduceIte, p1]
  · obtain ⟨te, j, q1, q2, q3⟩ := he
    simp (disch := first | omega | (simp only [hnew_21, hput_21, hnew_22, hput_22]; omega) | exact isR_ref | exact isR_null | exact isR_rf | exact isR_fmt | assumption | decide) only [gf, pf, clN, aln, gaI, gaL, gaR, saI, saR, isI, ctB, isB, gB, hput_n, hput_e, hput_21, hput_22, hnew_n, hnew_e, hnew_21, hnew_22, Option.bind_some, Option.map_some, List.lookup_cons, List.lookup_nil, beq_self_eq_true, List.getElem?_cons_zero, List.getElem?_cons_succ, List.set_cons_zero, List.set_cons_succ, List.length_cons, List.length_nil, Nat.reduceAdd, Nat.reduceLT, Nat.reduceLeDiff, Nat.reduceBEq, Nat.reduceEqDiff, okv_int, okv_oref, okv_onull, okv_orf, okv_aref, okv_b0, okv_b1, okv_z0, okv_bI, ckI_nI, lt31, leT, reduceCtorEq, List.mem_cons, List.mem_singleton, List.not_mem_nil, or_true, true_or, or_false, false_or, toR_ref, toR_null, ↓reduceIte, q2]
  · obtain ⟨ga, q1, q2⟩ := he
    simp (disch := first | omega | (simp only [hnew_21, hput_21, hnew_22, hput_22]; omega) | exact isR_ref | exact isR_null | exact isR_rf | exact isR_fmt | assumption | decide) only [gf, pf, clN, aln, gaI, gaL, gaR, saI, saR, isI, ctB, isB, gB, hput_n, hput_e, hput_21, hput_22, hnew_n, hnew_e, hnew_21, hnew_22, Option.bind_some, Option.map_some, List.lookup_cons, List.lookup_nil, beq_self_eq_true, List.getElem?_cons_zero, List.getElem?_cons_succ, List.set_cons_zero, List.set_cons_succ, List.length_cons, List.length_nil, Nat.reduceAdd, Nat.reduceLT, Nat.reduceLeDiff, Nat.reduceBEq, Nat.reduceEqDiff, okv_int, okv_oref, okv_onull, okv_orf, okv_aref, okv_b0, okv_b1, okv_z0, okv_bI, ckI_nI, lt31, leT, reduceCtorEq, List.mem_cons, List.mem_singleton, List.not_mem_nil, or_true, true_or, or_false, false_or, toR_ref, toR_null, ↓reduceIte, q1]
  · obtain ⟨ga, q1, q2⟩ := he
    simp (disch := first | omega | (simp only [hnew_21, hput_21, hnew_22, hput_22]; omega) | exact isR_ref | exact isR_null | exact isR_rf | exact isR_fmt | assumption | decide) only [gf, pf, clN, aln, gaI, gaL, gaR, saI, saR, isI, ctB, isB, gB, hput_n, hput_e, hput_21, hput_22, hnew_n, hnew_e, hnew_21, hnew_22, Option.bind_some, Option.map_some, List.lookup_cons, List.lookup_nil, beq_self_eq_true, List.getElem?_cons_zero, List.getElem?_cons_succ, List.set_cons_zero, List.set_cons_succ, List.length_cons, List.length_nil, Nat.reduceAdd, Nat.reduceLT, Nat.reduceLeDiff, Nat.reduceBEq, Nat.reduceEqDiff, okv_int, okv_oref, okv_onull, okv_orf, okv_aref, okv_b0, okv_b1, okv_z0, okv_bI, ckI_nI, lt31, leT, reduceCtorEq, List.mem_cons, List.mem_singleton, List.not_mem_nil, or_true, true_or, or_false, false_or, toR_ref, toR_null, ↓reduceIte, q1]
  · obtain ⟨arr, f, q1, q2, q3, q4⟩ := he
    simp (disch := first | omega | (simp only [hnew_21, hput_21, hnew_22, hput_22]; omega) | exact isR_ref | exact isR_null | exact isR_rf | exact isR_fmt | assumption | decide) only [gf, pf, clN, aln, gaI, gaL, gaR, saI, saR, isI, ctB, isB, gB, hput_n, hput_e, hput_21, hput_22, hnew_n, hnew_e, hnew_21, hnew_22, Option.bind_some, Option.map_some, List.lookup_cons, List.lookup_nil, beq_self_eq_true, List.getElem?_cons_zero, List.getElem?_cons_succ, List.set_cons_zero, List.set_cons_succ, List.length_cons, List.length_nil, Nat.reduceAdd, Nat.reduceLT, Nat.reduceLeDiff, Nat.reduceBEq, Nat.reduceEqDiff, okv_int, okv_oref, okv_onull, okv_orf, okv_aref, okv_b0, okv_b1, okv_z0, okv_bI, ckI_nI, lt31, leT, reduceCtorEq, List.mem_cons, List.mem_singleton, List.not_mem_nil, or_true, true_or, or_false, false_or, toR_ref, toR_null, ↓reduceIte, q1]
theorem c_fl1 (hG : HG Ω D L c P ev cn) (hsz : Ω.sz ≤ h0.2.1) {ga : Nat} (hL : StoT h0 c L) : ∀ (els : List (El G)) (v : Value) (h : AH) (A : List Sol) (sa sb K C : Nat), ChR h (P h) v els → FndA h sa sb A → h0.2.1 ≤ sa → h0.2.1 ≤ sb → Nx [] K C h0 h → (∃ r h' sa' sb', evEs ev L els A = some r ∧ gO PG Ω (D + 13) 128 24 [.ref ga, .ref c, .ref sa, v] [] h = gO PG Ω (D + 13) 128 43 [.ref ga, .ref c, .ref sa', .null] [] h' ∧ FndA h' sa' sb' r ∧ h0.2.1 ≤ sa' ∧ h0.2.1 ≤ sb' ∧ Nx [] (K + cK (cntL (cntA cn) els)) (C + cM (cntL (cntA cn) els)) h0 h') ∨ (evEs ev L els A = none ∧ Thr h0 (K + cK (cntL (cntA cn) els)) (C + cM (cntL (cntA cn) els)) (gO PG Ω (D + 13) 128 24 [.ref ga, .ref c, .ref sa, v] [] h)) := by
  intro els
  induction els with
  | nil =>
    intro v h A sa sb K C hc hA h1 h2 n
    have hv : v = .null := hc
    subst hv
    refine .inl ⟨A, h, sa, sb, rfl, ?_, hA, h1, h2, n.mono (fun _ q => q) (by unfold cntL cK; omega) (by unfold cntL cM; omega)⟩
    rw [e_X11_find_24]
    simp (disch := first | omega | (simp only [hnew_21, hput_21, hnew_22, hput_22]; omega) | exact isR_ref | exact isR_null | exact isR_rf | exact isR_fmt | assumption | decide) only [e_X11_find_25, e_X11_find_28, e_X11_find_29, e_X11_find_30, e_X11_find_31, e_X11_find_34, e_X11_find_35, e_X11_find_36, e_X11_find_39, e_X11_find_40, cR_ref, cR_null, cR_rf, c1_int, c1_ref, c1_null, c1_rf, kz_int, kz_ref, kz_null, kz_rf, kz_U, kz_long, nB_null, nB_ref, rf_none, rf_some, bV_ret, bV_thr, bA_ret, bA_thr, bX_ret, bX_thr, len4_0, len4_1, len4_2, len4_3, len4_4, true_and, and_true, and_self, if_true, if_false, Option.bind_some, nR_b1, nR_b0, nR_bI, nI_1z, nI_0z, bI_z, if_nn]
  | cons e els ih =>
    intro v h A sa sb K C hc hA h1 h2 n
    obtain ⟨p, nx, rfl, q2, q3, q4⟩ := hc
    have hszh : Ω.sz ≤ h.2.1 := by have := n.2.2.1; omega
    have hl := n.2.2.1
    have ecost : cK (cntL (cntA cn) (e :: els)) = cK (cntA cn e) + cK (cntL (cntA cn) els) := by simp only [cntL, cK]; omega
    have mcost : cM (cntL (cntA cn) (e :: els)) = cM (cntA cn e) + cM (cntL (cntA cn) els) := by simp only [cntL, cM]; omega
    unfold evEs
    rcases c_apply (Ω := Ω) hG hszh n.2.1 hA (hL.nx n) q2 with ⟨l, a', b', h', z1, z2, z3, z4, z5⟩ | ⟨z1, ex, h', z2, z3, z4⟩
    · rw [z1, Option.bind_some]
      have hP' : ∀ b g, P h b g → P h' b g := fun b g => hG.1 _ _ _ _ b g z5
      have hen := c_nxt (ElR.gs q2 z5 GS.nil hP')
      have hch := ChR.gs z5 GS.nil hP' els nx q3
      have hab : h0.2.1 ≤ a' ∧ h0.2.1 ≤ b' := by rcases z4 with ⟨rfl, rfl⟩ | ⟨y1, y2⟩ <;> omega
      have e1 : gO PG Ω (D + 13) 128 24 [.ref ga, .ref c, .ref sa, .ref p] [] h = gO PG Ω (D + 13) 128 24 [.ref ga, .ref c, .ref a', nx] [] h' := by
        rw [e_X11_find_24]
        rcases q4 with rfl | ⟨q, rfl⟩
        · simp (disch := first | omega | (simp only [hnew_21, hput_21, hnew_22, hput_22]; omega) | exact isR_ref | exact isR_null | exact isR_rf | exact isR_fmt | assumption | decide) only [e_X11_find_25, e_X11_find_28, e_X11_find_29, e_X11_find_30, e_X11_find_31, e_X11_find_34, e_X11_find_35, e_X11_find_36, e_X11_find_39, e_X11_find_40, cR_ref, cR_null, cR_rf, c1_int, c1_ref, c1_null, c1_rf, kz_int, kz_ref, kz_null, kz_rf, kz_U, kz_long, nB_null, nB_ref, rf_none, rf_some, bV_ret, bV_thr, bA_ret, bA_thr, bX_ret, bX_thr, len4_0, len4_1, len4_2, len4_3, len4_4, true_and, and_true, and_self, if_true, if_false, Option.bind_some, nR_b1, nR_b0, nR_bI, nI_1z, nI_0z, bI_z, if_nn, ↓z2, ↓hen]
        · simp (disch := first | omega | (simp only [hnew_21, hput_21, hnew_22, hput_22]; omega) | exact isR_ref | exact isR_null | exact isR_rf | exact isR_fmt | assumption | decide) only [e_X11_find_25, e_X11_find_28, e_X11_find_29, e_X11_find_30, e_X11_find_31, e_X11_find_34, e_X11_find_35, e_X11_find_36, e_X11_find_39, e_X11_find_40, cR_ref, cR_null, cR_rf, c1_int, c1_ref, c1_null, c1_rf, kz_int, kz_ref, kz_null, kz_rf, kz_U, kz_long, nB_null, nB_ref, rf_none, rf_some, bV_ret, bV_thr, bA_ret, bA_thr, bX_ret, bX_thr, len4_0, len4_1, len4_2, len4_3, len4_4, true_and, and_true, and_self, if_true, if_false, Option.bind_some, nR_b1, nR_b0, nR_bI, nI_1z, nI_0z, bI_z, if_nn, ↓z2, ↓hen]
      rw [e1]
      rcases ih nx h' l a' b' _ _ hch z3 hab.1 hab.2 (n.trans z5) with ⟨r, h3, sa', sb', r1, r2, r3, r4, r5, r6⟩ | ⟨r1, ex, h3, r2, r3, r4⟩
      · exact .inl ⟨r, h3, sa', sb', r1, r2, r3, r4, r5, r6.mono (fun _ q => q) (by omega) (by omega)⟩
      · exact .inr ⟨r1, ex, h3, r2, r3, r4.mono (fun _ q => q) (by omega) (by omega)⟩
    · rw [z1, Option.bind_none]
      refine .inr ⟨rfl, ex, h', ?_, z3, (n.trans z4).mono (fun _ q => q) (by omega) (by omega)⟩
      rw [e_X11_find_24]
      simp (disch := first | omega | (simp only [hnew_21, hput_21, hnew_22, hput_22]; omega) | exact isR_ref | exact isR_null | exact isR_rf | exact isR_fmt | assumption | decide) only [e_X11_find_25, e_X11_find_28, e_X11_find_29, e_X11_find_30, e_X11_find_31, e_X11_find_34, e_X11_find_35, e_X11_find_36, e_X11_find_39, e_X11_find_40, cR_ref, cR_null, cR_rf, c1_int, c1_ref, c1_null, c1_rf, kz_int, kz_ref, kz_null, kz_rf, kz_U, kz_long, nB_null, nB_ref, rf_none, rf_some, bV_ret, bV_thr, bA_ret, bA_thr, bX_ret, bX_thr, len4_0, len4_1, len4_2, len4_3, len4_4, true_and, and_true, and_self, if_true, if_false, Option.bind_some, nR_b1, nR_b0, nR_bI, nI_1z, nI_0z, bI_z, if_nn, ↓z2]
theorem c_fl2 (hHG : ∀ (h h' : AH) (k m b : Nat) (g : G), Nx [] k m h h' → P h b g → P h' b g) (hsz : Ω.sz ≤ h0.2.1) {ga : Nat} : ∀ (els : List (El G)) (v : Value) (h : AH) (A : List Sol) (sa sb K C : Nat), ChR h (P h) v els → FndA h sa sb A → h0.2.1 ≤ sa → h0.2.1 ≤ sb → Nx [] K C h0 h → ∃ h' sa' sb', gO PG Ω (D + 13) 128 48 [.ref ga, .ref c, .ref sa, v] [] h = some (.returned (some (.ref sa')), h') ∧ FndA h' sa' sb' (A.filter (fun s => (tsOf els).all (fun t => hoT t s))) ∧ h0.2.1 ≤ sa' ∧ h0.2.1 ≤ sb' ∧ Nx [] (K + 302 * (tsOf els).length) (C + 1202 * (tsOf els).length) h0 h' := by
  intro els
  induction els with
  | nil =>
    intro v h A sa sb K C hc hA h1 h2 n
    have hv : v = .null := hc
    subst hv
    have e0 : tsOf ([] : List (El G)) = [] := rfl
    refine ⟨h, sa, sb, ?_, by rw [e0]; have ef : A.filter (fun s => ([] : List Tst).all (fun t => hoT t s)) = A := List.filter_eq_self.mpr (fun _ _ => rfl); rw [ef]; exact hA, h1, h2, n.mono (fun _ q => q) (by omega) (by omega)⟩
    rw [e_X11_find_48]
    simp (disch := first | omega | (simp only [hnew_21, hput_21, hnew_22, hput_22]; omega) | exact isR_ref | exact isR_null | exact isR_rf | exact isR_fmt | assumption | decide) only [e_X11_find_49, e_X11_find_52, e_X11_find_53, e_X11_find_56, e_X11_find_59, e_X11_find_60, e_X11_find_63, e_X11_find_64, e_X11_find_67, e_X11_find_68, e_X11_find_69, e_X11_find_72, e_X11_find_73, e_X11_find_76, e_X11_find_77, cR_ref, cR_null, cR_rf, c1_int, c1_ref, c1_null, c1_rf, kz_int, kz_ref, kz_null, kz_rf, kz_U, kz_long, nB_null, nB_ref, rf_none, rf_some, bV_ret, bV_thr, bA_ret, bA_thr, bX_ret, bX_thr, len4_0, len4_1, len4_2, len4_3, len4_4, true_and, and_true, and_self, if_true, if_false, Option.bind_some, nR_b1, nR_b0, nR_bI, nI_1z, nI_0z, bI_z, if_nn]
  | cons e els ih =>
    intro v h A sa sb K C hc hA h1 h2 n
    obtain ⟨p, nx, rfl, q2, q3, q4⟩ := hc
    have hszh : Ω.sz ≤ h.2.1 := by have := n.2.2.1; omega
    have hl := n.2.2.1
    have skip : (tsOf (e :: els) = tsOf els) → isI [10] [15, 16, 17, 18] h (.ref p) = some 0 → ∃ h' sa' sb', gO PG Ω (D + 13) 128 48 [.ref ga, .ref c, .ref sa, .ref p] [] h = some (.returned (some (.ref sa')), h') ∧ FndA h' sa' sb' (A.filter (fun s => (tsOf (e :: els)).all (fun t => hoT t s))) ∧ h0.2.1 ≤ sa' ∧ h0.2.1 ≤ sb' ∧ Nx [] (K + 302 * (tsOf (e :: els)).length) (C + 1202 * (tsOf (e :: els)).length) h0 h' := by
      intro et hi
      have hen := c_nxt q2
      obtain ⟨h3, sa', sb', r1, r2, r3, r4, r5⟩ := ih nx h A sa sb K C q3 hA h1 h2 n
      rw [et]
      refine ⟨h3, sa', sb', ?_, r2, r3, r4, r5⟩
      rw [← r1, e_X11_find_48]
      rcases q4 with rfl | ⟨q, rfl⟩
      · simp (disch := first | omega | (simp only [hnew_21, hput_21, hnew_22, hput_22]; omega) | exact isR_ref | exact isR_null | exact isR_rf | exact isR_fmt | assumption | decide) only [e_X11_find_49, e_X11_find_52, e_X11_find_53, e_X11_find_56, e_X11_find_59, e_X11_find_60, e_X11_find_63, e_X11_find_64, e_X11_find_67, e_X11_find_68, e_X11_find_69, e_X11_find_72, e_X11_find_73, e_X11_find_76, e_X11_find_77, cR_ref, cR_null, cR_rf, c1_int, c1_ref, c1_null, c1_rf, kz_int, kz_ref, kz_null, kz_rf, kz_U, kz_long, nB_null, nB_ref, rf_none, rf_some, bV_ret, bV_thr, bA_ret, bA_thr, bX_ret, bX_thr, len4_0, len4_1, len4_2, len4_3, len4_4, true_and, and_true, and_self, if_true, if_false, Option.bind_some, nR_b1, nR_b0, nR_bI, nI_1z, nI_0z, bI_z, if_nn, ↓hi, ↓hen, t0z]
      · simp (disch := first | omega | (simp only [hnew_21, hput_21, hnew_22, hput_22]; omega) | exact isR_ref | exact isR_null | exact isR_rf | exact isR_fmt | assumption | decide) only [e_X11_find_49, e_X11_find_52, e_X11_find_53, e_X11_find_56, e_X11_find_59, e_X11_find_60, e_X11_find_63, e_X11_find_64, e_X11_find_67, e_X11_find_68, e_X11_find_69, e_X11_find_72, e_X11_find_73, e_X11_find_76, e_X11_find_77, cR_ref, cR_null, cR_rf, c1_int, c1_ref, c1_null, c1_rf, kz_int, kz_ref, kz_null, kz_rf, kz_U, kz_long, nB_null, nB_ref, rf_none, rf_some, bV_ret, bV_thr, bA_ret, bA_thr, bX_ret, bX_thr, len4_0, len4_1, len4_2, len4_3, len4_4, true_and, and_true, and_self, if_true, if_false, Option.bind_some, nR_b1, nR_b0, nR_bI, nI_1z, nI_0z, bI_z, if_nn, ↓hi, ↓hen, t0z]
    rcases e with pp | t | g | g | gs
    · obtain ⟨pg, pff, _, _, _, p1, _⟩ := q2
      exact skip rfl (by simp (disch := first | omega | (simp only [hnew_21, hput_21, hnew_22, hput_22]; omega) | exact isR_ref | exact isR_null | exact isR_rf | exact isR_fmt | assumption | decide) only [gf, pf, clN, aln, gaI, gaL, gaR, saI, saR, isI, ctB, isB, gB, hput_n, hput_e, hput_21, hput_22, hnew_n, hnew_e, hnew_21, hnew_22, Option.bind_some, Option.map_some, List.lookup_cons, List.lookup_nil, beq_self_eq_true, List.getElem?_cons_zero, List.getElem?_cons_succ, List.set_cons_zero, List.set_cons_succ, List.length_cons, List.length_nil, Nat.reduceAdd, Nat.reduceLT, Nat.reduceLeDiff, Nat.reduceBEq, Nat.reduceEqDiff, okv_int, okv_oref, okv_onull, okv_orf, okv_aref, okv_b0, okv_b1, okv_z0, okv_bI, ckI_nI, lt31, leT, reduceCtorEq, List.mem_cons, List.mem_singleton, List.not_mem_nil, or_true, true_or, or_false, false_or, toR_ref, toR_null, ↓reduceIte, p1])
    · have et : tsOf ((.inr (.inl t) : El G) :: els) = t :: tsOf els := rfl
      have q2' := q2
      obtain ⟨te, j, w1, w2, w3⟩ := q2'
      obtain ⟨h', f1, f2, f3⟩ := c_filtered (Ω := Ω) (d := D + 2) hszh n.2.1 hA.r w2 w1 w3
      have hP' : ∀ b g, P h b g → P h' b g := fun b g => hHG _ _ _ _ b g f3
      have hen := c_nxt (ElR.gs q2 f3 GS.nil hP')
      have hch := ChR.gs f3 GS.nil hP' els nx q3
      have w2' := f3.ob w2 (by decide) (by simp)
      obtain ⟨h3, sa', sb', r1, r2, r3, r4, r5⟩ := ih nx h' (A.filter (hoT t)) h.2.1 (h.2.1 + 1) (K + 302) (C + 1202) hch f2 hl (by omega) (n.trans f3)
      have hi : isI [10] [15, 16, 17, 18] h (.ref p) = some 1 := by simp (disch := first | omega | (simp only [hnew_21, hput_21, hnew_22, hput_22]; omega) | exact isR_ref | exact isR_null | exact isR_rf | exact isR_fmt | assumption | decide) only [gf, pf, clN, aln, gaI, gaL, gaR, saI, saR, isI, ctB, isB, gB, hput_n, hput_e, hput_21, hput_22, hnew_n, hnew_e, hnew_21, hnew_22, Option.bind_some, Option.map_some, List.lookup_cons, List.lookup_nil, beq_self_eq_true, List.getElem?_cons_zero, List.getElem?_cons_succ, List.set_cons_zero, List.set_cons_succ, List.length_cons, List.length_nil, Nat.reduceAdd, Nat.reduceLT, Nat.reduceLeDiff, Nat.reduceBEq, Nat.reduceEqDiff, okv_int, okv_oref, okv_onull, okv_orf, okv_aref, okv_b0, okv_b1, okv_z0, okv_bI, ckI_nI, lt31, leT, reduceCtorEq, List.mem_cons, List.mem_singleton, List.not_mem_nil, or_true, true_or, or_false, false_or, toR_ref, toR_null, ↓reduceIte, w2]
      rw [et]
      refine ⟨h3, sa', sb', ?_, ?_, r3, r4, r5.mono (fun _ q => q) (by rw [List.length_cons]; omega) (by rw [List.length_cons]; omega)⟩
      · rw [← r1, e_X11_find_48]
        rcases q4 with rfl | ⟨q, rfl⟩
        · simp (disch := first | omega | (simp only [hnew_21, hput_21, hnew_22, hput_22]; omega) | exact isR_ref | exact isR_null | exact isR_rf | exact isR_fmt | assumption | decide) only [e_X11_find_49, e_X11_find_52, e_X11_find_53, e_X11_find_56, e_X11_find_59, e_X11_find_60, e_X11_find_63, e_X11_find_64, e_X11_find_67, e_X11_find_68, e_X11_find_69, e_X11_find_72, e_X11_find_73, e_X11_find_76, e_X11_find_77, cR_ref, cR_null, cR_rf, c1_int, c1_ref, c1_null, c1_rf, kz_int, kz_ref, kz_null, kz_rf, kz_U, kz_long, nB_null, nB_ref, rf_none, rf_some, bV_ret, bV_thr, bA_ret, bA_thr, bX_ret, bX_thr, len4_0, len4_1, len4_2, len4_3, len4_4, true_and, and_true, and_self, if_true, if_false, Option.bind_some, nR_b1, nR_b0, nR_bI, nI_1z, nI_0z, bI_z, if_nn, ↓hi, ↓hen, t1z, gf, pf, clN, aln, gaI, gaL, gaR, saI, saR, isI, ctB, isB, gB, hput_n, hput_e, hput_21, hput_22, hnew_n, hnew_e, hnew_21, hnew_22, Option.bind_some, Option.map_some, List.lookup_cons, List.lookup_nil, beq_self_eq_true, List.getElem?_cons_zero, List.getElem?_cons_succ, List.set_cons_zero, List.set_cons_succ, List.length_cons, List.length_nil, Nat.reduceAdd, Nat.reduceLT, Nat.reduceLeDiff, Nat.reduceBEq, Nat.reduceEqDiff, okv_int, okv_oref, okv_onull, okv_orf, okv_aref, okv_b0, okv_b1, okv_z0, okv_bI, ckI_nI, lt31, leT, reduceCtorEq, List.mem_cons, List.mem_singleton, List.not_mem_nil, or_true, true_or, or_false, false_or, toR_ref, toR_null, ↓reduceIte, w2, w2', f1]
        · simp (disch := first | omega | (simp only [hnew_21, hput_21, hnew_22, hput_22]; omega) | exact isR_ref | exact isR_null | exact isR_rf | exact isR_fmt | assumption | decide) only [e_X11_find_49, e_X11_find_52, e_X11_find_53, e_X11_find_56, e_X11_find_59, e_X11_find_60, e_X11_find_63, e_X11_find_64, e_X11_find_67, e_X11_find_68, e_X11_find_69, e_X11_find_72, e_X11_find_73, e_X11_find_76, e_X11_find_77, cR_ref, cR_null, cR_rf, c1_int, c1_ref, c1_null, c1_rf, kz_int, kz_ref, kz_null, kz_rf, kz_U, kz_long, nB_null, nB_ref, rf_none, rf_some, bV_ret, bV_thr, bA_ret, bA_thr, bX_ret, bX_thr, len4_0, len4_1, len4_2, len4_3, len4_4, true_and, and_true, and_self, if_true, if_false, Option.bind_some, nR_b1, nR_b0, nR_bI, nI_1z, nI_0z, bI_z, if_nn, ↓hi, ↓hen, t1z, gf, pf, clN, aln, gaI, gaL, gaR, saI, saR, isI, ctB, isB, gB, hput_n, hput_e, hput_21, hput_22, hnew_n, hnew_e, hnew_21, hnew_22, Option.bind_some, Option.map_some, List.lookup_cons, List.lookup_nil, beq_self_eq_true, List.getElem?_cons_zero, List.getElem?_cons_succ, List.set_cons_zero, List.set_cons_succ, List.length_cons, List.length_nil, Nat.reduceAdd, Nat.reduceLT, Nat.reduceLeDiff, Nat.reduceBEq, Nat.reduceEqDiff, okv_int, okv_oref, okv_onull, okv_orf, okv_aref, okv_b0, okv_b1, okv_z0, okv_bI, ckI_nI, lt31, leT, reduceCtorEq, List.mem_cons, List.mem_singleton, List.not_mem_nil, or_true, true_or, or_false, false_or, toR_ref, toR_null, ↓reduceIte, w2, w2', f1]
      · rw [List.filter_filter] at r2
        have eq : (fun s => (t :: tsOf els).all (fun t => hoT t s)) = (fun s => (tsOf els).all (fun t => hoT t s) && hoT t s) := by
          funext s
          rw [List.all_cons, Bool.and_comm]
        rw [eq]
        exact r2
    · obtain ⟨gga, w1, w2⟩ := q2
      exact skip rfl (by simp (disch := first | omega | (simp only [hnew_21, hput_21, hnew_22, hput_22]; omega) | exact isR_ref | exact isR_null | exact isR_rf | exact isR_fmt | assumption | decide) only [gf, pf, clN, aln, gaI, gaL, gaR, saI, saR, isI, ctB, isB, gB, hput_n, hput_e, hput_21, hput_22, hnew_n, hnew_e, hnew_21, hnew_22, Option.bind_some, Option.map_some, List.lookup_cons, List.lookup_nil, beq_self_eq_true, List.getElem?_cons_zero, List.getElem?_cons_succ, List.set_cons_zero, List.set_cons_succ, List.length_cons, List.length_nil, Nat.reduceAdd, Nat.reduceLT, Nat.reduceLeDiff, Nat.reduceBEq, Nat.reduceEqDiff, okv_int, okv_oref, okv_onull, okv_orf, okv_aref, okv_b0, okv_b1, okv_z0, okv_bI, ckI_nI, lt31, leT, reduceCtorEq, List.mem_cons, List.mem_singleton, List.not_mem_nil, or_true, true_or, or_false, false_or, toR_ref, toR_null, ↓reduceIte, w1])
    · obtain ⟨gga, w1, w2⟩ := q2
      exact skip rfl (by simp (disch := first | omega | (simp only [hnew_21, hput_21, hnew_22, hput_22]; omega) | exact isR_ref | exact isR_null | exact isR_rf | exact isR_fmt | assumption | decide) only [gf, pf, clN, aln, gaI, gaL, gaR, saI, saR, isI, ctB, isB, gB, hput_n, hput_e, hput_21, hput_22, hnew_n, hnew_e, hnew_21, hnew_22, Option.bind_some, Option.map_some, List.lookup_cons, List.lookup_nil, beq_self_eq_true, List.getElem?_cons_zero, List.getElem?_cons_succ, List.set_cons_zero, List.set_cons_succ, List.length_cons, List.length_nil, Nat.reduceAdd, Nat.reduceLT, Nat.reduceLeDiff, Nat.reduceBEq, Nat.reduceEqDiff, okv_int, okv_oref, okv_onull, okv_orf, okv_aref, okv_b0, okv_b1, okv_z0, okv_bI, ckI_nI, lt31, leT, reduceCtorEq, List.mem_cons, List.mem_singleton, List.not_mem_nil, or_true, true_or, or_false, false_or, toR_ref, toR_null, ↓reduceIte, w1])
    · obtain ⟨arr, f, w1, _⟩ := q2
      exact skip rfl (by simp (disch := first | omega | (simp only [hnew_21, hput_21, hnew_22, hput_22]; omega) | exact isR_ref | exact isR_null | exact isR_rf | exact isR_fmt | assumption | decide) only [gf, pf, clN, aln, gaI, gaL, gaR, saI, saR, isI, ctB, isB, gB, hput_n, hput_e, hput_21, hput_22, hnew_n, hnew_e, hnew_21, hnew_22, Option.bind_some, Option.map_some, List.lookup_cons, List.lookup_nil, beq_self_eq_true, List.getElem?_cons_zero, List.getElem?_cons_succ, List.set_cons_zero, List.set_cons_succ, List.length_cons, List.length_nil, Nat.reduceAdd, Nat.reduceLT, Nat.reduceLeDiff, Nat.reduceBEq, Nat.reduceEqDiff, okv_int, okv_oref, okv_onull, okv_orf, okv_aref, okv_b0, okv_b1, okv_z0, okv_bI, ckI_nI, lt31, leT, reduceCtorEq, List.mem_cons, List.mem_singleton, List.not_mem_nil, or_true, true_or, or_false, false_or, toR_ref, toR_null, ↓reduceIte, w1])
/-- costs -/
theorem cost_le {els : List (El G)} : cK (cntL (cntA cn) els) + 302 * (tsOf els).length ≤ cK (cntL (cntE cn) els) ∧ cM (cntL (cntA cn) els) + 1202 * (tsOf els).length ≤ cM (cntL (cntE cn) els) := by
  induction els with
  | nil => exact ⟨Nat.le_refl _, Nat.le_refl _⟩
  | cons e els ih =>
    rw [tsOf_cons]
    rcases e with p | t | g | g | gs
    · simp only [cntL, cntA, cntE, cK, cM, List.nil_append] at *
      omega
    · simp only [cntL, cntA, cntE, cK, cM, List.singleton_append, List.length_cons] at *
      omega
    · simp only [cntL, cntA, cntE, cK, cM, List.nil_append] at *
      omega
    · simp only [cntL, cntA, cntE, cK, cM, List.nil_append] at *
      omega
    · simp only [cntL, cntA, cntE, cK, cM, List.nil_append] at *
      omega
end CLL
section CLM
variable {Ω : Om} {D : Nat} {h : AH} {a c : Nat} {L : List Tri}
theorem c_find1 {n : Nat} (hG : HG Ω D L c (fun h => GrR h n) (evG L n) (cnt n)) {g : GT (n + 1)} (hsz : Ω.sz ≤ h.2.1) (hFe : Fe h) (hL : StoT h c L) (hg : GrR h (n + 1) a g) : FRes h (cK (cnt (n + 1) g)) (cM (cnt (n + 1) g)) (evG L (n + 1) g) (gM PG Ω (D + 14) 128 [.ref a, .ref c] h) := by
  obtain ⟨fst, lst, g1, g2⟩ := hg
  have e1 := c_fnd0 (Ω := Ω) (d := D + 11) (h := h) hsz
  have n0 := fnd0_nx hFe
  have hszf : Ω.sz ≤ (fnd0 h).2.1 := by have := n0.2.2.1; omega
  have e2 := c_sol0 (Ω := Ω) (d := D + 11) hszf n0.2.1
  have n1 := sol0_nx n0.2.1
  have s1 := sol0_R n0.2.1
  have hf21 : (fnd0 h).2.1 = h.2.1 + 2 := rfl
  obtain ⟨h2, e3, e4, e5, e6⟩ := c_fadd (Ω := Ω) (d := D + 12) (a := h.2.1) (b := h.2.1 + 1) (show Ω.sz ≤ h.2.1 by omega) (by omega) n1.2.1 (fnd0_A.nx n1) s1 (by simp)
  rw [List.nil_append] at e4
  have n2 : Nx [] 4 159 h h2 := ((n0.trans n1).add e5 (fun q hq => by
    rcases List.mem_cons.mp hq with rfl | hq
    · exact Nat.le_refl _
    · rw [List.mem_singleton.mp hq]; omega)).mono (fun _ q => q) (by omega) (by omega)
  have g1' := n2.ob g1 (by decide) (by simp)
  have g2' := ChR.gs n2 GS.nil (GrR.gs n2 GS.nil n) g fst g2
  obtain ⟨fsx, cfa⟩ : ∃ fs, (hput (hnew (hnew (fnd0 h) (.inr (20, [.null])) 1) (arR "TripleStore$Term" 6 (fun _ => none)) 6) (fnd0 h).2.1 (.inr (20, [.ref ((fnd0 h).2.1 + 1)]))).1 h.2.1 = some (.inr (19, fs)) := by obtain ⟨_, z, _⟩ := fnd0_A.nx n1; exact ⟨_, z⟩
  have hfst : fst = .null ∨ ∃ q, fst = .ref q := by
    cases g with
    | nil => exact .inl g2
    | cons e es => obtain ⟨p, nx, q, _⟩ := g2; exact .inr ⟨p, q⟩
  have e7 : gM PG Ω (D + 14) 128 [.ref a, .ref c] h = gO PG Ω (D + 13) 128 24 [.ref a, .ref c, .ref h.2.1, fst] [] h2 := by
    rcases hfst with rfl | ⟨q, rfl⟩
    · simp (disch := first | omega | (simp only [hnew_21, hput_21, hnew_22, hput_22]; omega) | exact isR_ref | exact isR_null | exact isR_rf | exact isR_fmt | assumption | decide) only [n_X11_find, e_X11_find_0, e_X11_find_3, e_X11_find_4, e_X11_find_7, e_X11_find_8, cR_ref, cR_null, cR_rf, c1_int, c1_ref, c1_null, c1_rf, kz_int, kz_ref, kz_null, kz_rf, kz_U, kz_long, nB_null, nB_ref, rf_none, rf_some, bV_ret, bV_thr, bA_ret, bA_thr, bX_ret, bX_thr, len4_0, len4_1, len4_2, len4_3, len4_4, true_and, and_true, and_self, if_true, if_false, Option.bind_some, nR_b1, nR_b0, nR_bI, nI_1z, nI_0z, bI_z, if_nn, List.length_cons, List.length_nil, Nat.reduceAdd, Nat.reduceLeDiff, ↓reduceIte, e1]
      simp (disch := first | omega | (simp only [hnew_21, hput_21, hnew_22, hput_22]; omega) | exact isR_ref | exact isR_null | exact isR_rf | exact isR_fmt | assumption | decide) only [e_X11_find_9, e_X11_find_12, e_X11_find_13, cR_ref, cR_null, cR_rf, c1_int, c1_ref, c1_null, c1_rf, kz_int, kz_ref, kz_null, kz_rf, kz_U, kz_long, nB_null, nB_ref, rf_none, rf_some, bV_ret, bV_thr, bA_ret, bA_thr, bX_ret, bX_thr, len4_0, len4_1, len4_2, len4_3, len4_4, true_and, and_true, and_self, if_true, if_false, Option.bind_some, nR_b1, nR_b0, nR_bI, nI_1z, nI_0z, bI_z, if_nn, List.length_cons, List.length_nil, Nat.reduceAdd, Nat.reduceLeDiff, ↓reduceIte, e2]
      simp (disch := first | omega | (simp only [hnew_21, hput_21, hnew_22, hput_22]; omega) | exact isR_ref | exact isR_null | exact isR_rf | exact isR_fmt | assumption | decide) only [e_X11_find_16, e_X11_find_19, e_X11_find_20, e_X11_find_23, cR_ref, cR_null, cR_rf, c1_int, c1_ref, c1_null, c1_rf, kz_int, kz_ref, kz_null, kz_rf, kz_U, kz_long, nB_null, nB_ref, rf_none, rf_some, bV_ret, bV_thr, bA_ret, bA_thr, bX_ret, bX_thr, len4_0, len4_1, len4_2, len4_3, len4_4, true_and, and_true, and_self, if_true, if_false, Option.bind_some, nR_b1, nR_b0, nR_bI, nI_1z, nI_0z, bI_z, if_nn, clN1 cfa, e3, gf1 g1', List.getElem?_cons_zero]
    · simp (disch := first | omega | (simp only [hnew_21, hput_21, hnew_22, hput_22]; omega) | exact isR_ref | exact isR_null | exact isR_rf | exact isR_fmt | assumption | decide) only [n_X11_find, e_X11_find_0, e_X11_find_3, e_X11_find_4, e_X11_find_7, e_X11_find_8, cR_ref, cR_null, cR_rf, c1_int, c1_ref, c1_null, c1_rf, kz_int, kz_ref, kz_null, kz_rf, kz_U, kz_long, nB_null, nB_ref, rf_none, rf_some, bV_ret, bV_thr, bA_ret, bA_thr, bX_ret, bX_thr, len4_0, len4_1, len4_2, len4_3, len4_4, true_and, and_true, and_self, if_true, if_false, Option.bind_some, nR_b1, nR_b0, nR_bI, nI_1z, nI_0z, bI_z, if_nn, List.length_cons, List.length_nil, Nat.reduceAdd, Nat.reduceLeDiff, ↓reduceIte, e1]
      simp (disch := first | omega | (simp only [hnew_21, hput_21, hnew_22, hput_22]; omega) | exact isR_ref | exact isR_null | exact isR_rf | exact isR_fmt | assumption | decide) only [e_X11_find_9, e_X11_find_12, e_X11_find_13, cR_ref, cR_null, cR_rf, c1_int, c1_ref, c1_null, c1_rf, kz_int, kz_ref, kz_null, kz_rf, kz_U, kz_long, nB_null, nB_ref, rf_none, rf_some, bV_ret, bV_thr, bA_ret, bA_thr, bX_ret, bX_thr, len4_0, len4_1, len4_2, len4_3, len4_4, true_and, and_true, and_self, if_true, if_false, Option.bind_some, nR_b1, nR_b0, nR_bI, nI_1z, nI_0z, bI_z, if_nn, List.length_cons, List.length_nil, Nat.reduceAdd, Nat.reduceLeDiff, ↓reduceIte, e2]
      simp (disch := first | omega | (simp only [hnew_21, hput_21, hnew_22, hput_22]; omega) | exact isR_ref | exact isR_null | exact isR_rf | exact isR_fmt | assumption | decide) only [e_X11_find_16, e_X11_find_19, e_X11_find_20, e_X11_find_23, cR_ref, cR_null, cR_rf, c1_int, c1_ref, c1_null, c1_rf, kz_int, kz_ref, kz_null, kz_rf, kz_U, kz_long, nB_null, nB_ref, rf_none, rf_some, bV_ret, bV_thr, bA_ret, bA_thr, bX_ret, bX_thr, len4_0, len4_1, len4_2, len4_3, len4_4, true_and, and_true, and_self, if_true, if_false, Option.bind_some, nR_b1, nR_b0, nR_bI, nI_1z, nI_0z, bI_z, if_nn, clN1 cfa, e3, gf1 g1', List.getElem?_cons_zero]
  have hev : evG L (n + 1) g = (evEs (evG L n) L g [empS]).bind (fun so => some (so.filter (fun s => (tsOf g).all (fun t => hoT t s)))) := rfl
  have hcn : cnt (n + 1) g = ((cntL (cntE (cnt n)) g).1, (cntL (cntE (cnt n)) g).2 + 1) := rfl
  have hcl := cost_le (cn := cnt n) (els := g)
  have k1 : cK (cnt (n + 1) g) = cK (cntL (cntE (cnt n)) g) + 4 := by rw [hcn]; unfold cK; simp only; omega
  have k2' : cM (cnt (n + 1) g) = cM (cntL (cntE (cnt n)) g) + 159 := by rw [hcn]; unfold cM; simp only; omega
  rw [e7, hev]
  rcases c_fl1 (Ω := Ω) (h0 := h) (ga := a) hG hsz hL g fst h2 [empS] h.2.1 (h.2.1 + 1) 4 159 g2' e4 (Nat.le_refl _) (by omega) n2 with ⟨r, h3, sa', sb', r1, r2, r3, r4, r5, r6⟩ | ⟨r1, ex, h3, r2, r3, r4⟩
  · rw [r1, Option.bind_some, r2]
    have g1'' := r6.ob g1 (by decide) (by simp)
    have g2'' := ChR.gs r6 GS.nil (GrR.gs r6 GS.nil n) g fst g2
    obtain ⟨h4, sa2, sb2, t1, t2, t3, t4, t5⟩ := c_fl2 (Ω := Ω) (D := D) (c := c) (h0 := h) (ga := a) (P := fun h => GrR h n) hG.1 hsz g fst h3 r sa' sb' _ _ g2'' r3 r4 r5 r6
    have e8 : gO PG Ω (D + 13) 128 43 [.ref a, .ref c, .ref sa', .null] [] h3 = gO PG Ω (D + 13) 128 48 [.ref a, .ref c, .ref sa', fst] [] h3 := by
      rcases hfst with rfl | ⟨q, rfl⟩
      · simp (disch := first | omega | (simp only [hnew_21, hput_21, hnew_22, hput_22]; omega) | exact isR_ref | exact isR_null | exact isR_rf | exact isR_fmt | assumption | decide) only [e_X11_find_43, e_X11_find_44, e_X11_find_47, cR_ref, cR_null, cR_rf, c1_int, c1_ref, c1_null, c1_rf, kz_int, kz_ref, kz_null, kz_rf, kz_U, kz_long, nB_null, nB_ref, rf_none, rf_some, bV_ret, bV_thr, bA_ret, bA_thr, bX_ret, bX_thr, len4_0, len4_1, len4_2, len4_3, len4_4, true_and, and_true, and_self, if_true, if_false, Option.bind_some, nR_b1, nR_b0, nR_bI, nI_1z, nI_0z, bI_z, if_nn, gf, pf, clN, aln, gaI, gaL, gaR, saI, saR, isI, ctB, isB, gB, hput_n, hput_e, hput_21, hput_22, hnew_n, hnew_e, hnew_21, hnew_22, Option.bind_some, Option.map_some, List.lookup_cons, List.lookup_nil, beq_self_eq_true, List.getElem?_cons_zero, List.getElem?_cons_succ, List.set_cons_zero, List.set_cons_succ, List.length_cons, List.length_nil, Nat.reduceAdd, Nat.reduceLT, Nat.reduceLeDiff, Nat.reduceBEq, Nat.reduceEqDiff, okv_int, okv_oref, okv_onull, okv_orf, okv_aref, okv_b0, okv_b1, okv_z0, okv_bI, ckI_nI, lt31, leT, reduceCtorEq, List.mem_cons, List.mem_singleton, List.not_mem_nil, or_true, true_or, or_false, false_or, toR_ref, toR_null, ↓reduceIte, g1'']
      · simp (disch := first | omega | (simp only [hnew_21, hput_21, hnew_22, hput_22]; omega) | exact isR_ref | exact isR_null | exact isR_rf | exact isR_fmt | assumption | decide) only [e_X11_find_43, e_X11_find_44, e_X11_find_47, cR_ref, cR_null, cR_rf, c1_int, c1_ref, c1_null, c1_rf, kz_int, kz_ref, kz_null, kz_rf, kz_U, kz_long, nB_null, nB_ref, rf_none, rf_some, bV_ret, bV_thr, bA_ret, bA_thr, bX_ret, bX_thr, len4_0, len4_1, len4_2, len4_3, len4_4, true_and, and_true, and_self, if_true, if_false, Option.bind_some, nR_b1, nR_b0, nR_bI, nI_1z, nI_0z, bI_z, if_nn, gf, pf, clN, aln, gaI, gaL, gaR, saI, saR, isI, ctB, isB, gB, hput_n, hput_e, hput_21, hput_22, hnew_n, hnew_e, hnew_21, hnew_22, Option.bind_some, Option.map_some, List.lookup_cons, List.lookup_nil, beq_self_eq_true, List.getElem?_cons_zero, List.getElem?_cons_succ, List.set_cons_zero, List.set_cons_succ, List.length_cons, List.length_nil, Nat.reduceAdd, Nat.reduceLT, Nat.reduceLeDiff, Nat.reduceBEq, Nat.reduceEqDiff, okv_int, okv_oref, okv_onull, okv_orf, okv_aref, okv_b0, okv_b1, okv_z0, okv_bI, ckI_nI, lt31, leT, reduceCtorEq, List.mem_cons, List.mem_singleton, List.not_mem_nil, or_true, true_or, or_false, false_or, toR_ref, toR_null, ↓reduceIte, g1'']
    exact .inl ⟨_, sa2, sb2, h4, rfl, e8.trans t1, t2, t3, t4, t5.mono (fun _ q => q) (by omega) (by omega)⟩
  · rw [r1, Option.bind_none]
    exact .inr ⟨rfl, ex, h3, r2, r3, r4.mono (fun _ q => q) (by omega) (by omega)⟩
theorem HG.all : ∀ (n D : Nat), HG Ω (D + 2 * n) L c (fun h => GrR h n) (evG L n) (cnt n) := by
  intro n
  induction n with
  | zero => intro D; exact ⟨fun _ _ _ _ _ g => (nomatch g), fun _ _ g => (nomatch g), fun _ _ g => (nomatch g)⟩
  | succ n ih =>
    intro D
    refine ⟨fun h h' k m b g nx q => GrR.gs nx GS.nil (n + 1) b g q, fun h b g q => ?_, fun h b g h1 h2 h3 h4 => ?_⟩
    · obtain ⟨f, l, q1, _⟩ := q
      exact ⟨_, q1⟩
    · exact c_find1 (ih D) h1 h2 h3 h4
end CLM
