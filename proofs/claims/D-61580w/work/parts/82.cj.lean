/-! COMPONENT: groups -/
def ElR {G : Type} (h : AH) (P : Nat → G → Prop) (a : Nat) (nx : Value) (e : El G) : Prop := match e with
  | .inl p => PatR h a nx p
  | .inr (.inl t) => ∃ te j, j ≤ 4 ∧ h.1 a = some (.inr (10, [nx, .ref te])) ∧ TestR h j te t
  | .inr (.inr (.inl g)) => ∃ ga, h.1 a = some (.inr (15, [nx, .ref ga])) ∧ P ga g
  | .inr (.inr (.inr (.inl g))) => ∃ ga, h.1 a = some (.inr (16, [nx, .ref ga])) ∧ P ga g
  | .inr (.inr (.inr (.inr gs))) => ∃ arr f, h.1 a = some (.inr (17, [nx, .ref arr, .int (nI gs.length)])) ∧ h.1 arr = some (arR "TripleStore$Group" 12 f) ∧ gs.length ≤ 12 ∧ ∀ i g, gs[i]? = some g → ∃ ga, f i = some ga ∧ P ga g
def ChR {G : Type} (h : AH) (P : Nat → G → Prop) : Value → List (El G) → Prop
  | v, [] => v = .null
  | v, e :: es => ∃ p nx, v = .ref p ∧ ElR h P p nx e ∧ ChR h P nx es ∧ (nx = .null ∨ ∃ q, nx = .ref q)
def GrR (h : AH) : (n : Nat) → Nat → GT n → Prop
  | 0 => fun _ e => nomatch e
  | n + 1 => fun a els => ∃ fst lst, h.1 a = some (.inr (9, [fst, lst])) ∧ ChR h (GrR h n) fst els
section CJ
variable {Ω : Om} {d D : Nat} {h h' h0 h1 h2 : AH} {a b c : Nat} {s : Sol} {k m k' m' : Nat} {S : List Nat} {A B M l : List Sol} {L : List Tri} {p : Pat} {G : Type}
theorem ElR.gs {P P' : Nat → G → Prop} {nx : Value} {e : El G} (r : ElR h P a nx e) (n : Nx S k m h h') (hS : GS h S) (hP : ∀ b g, P b g → P' b g) : ElR h' P' a nx e := by
  rcases e with p | t | g | g | gs
  · exact PatR.gs r n hS
  · obtain ⟨te, j, q1, q2, q3⟩ := r
    exact ⟨te, j, q1, n.ob q2 (by decide) (hS.na q2 (by decide)), q3.gs n hS⟩
  · obtain ⟨ga, q1, q2⟩ := r
    exact ⟨ga, n.ob q1 (by decide) (hS.na q1 (by decide)), hP _ _ q2⟩
  · obtain ⟨ga, q1, q2⟩ := r
    exact ⟨ga, n.ob q1 (by decide) (hS.na q1 (by decide)), hP _ _ q2⟩
  · obtain ⟨arr, f, q1, q2, q3, q4⟩ := r
    refine ⟨arr, f, n.ob q1 (by decide) (hS.na q1 (by decide)), n.ar q2 (hS.ng q2), q3, fun i g hi => ?_⟩
    obtain ⟨ga, u1, u2⟩ := q4 i g hi
    exact ⟨ga, u1, hP _ _ u2⟩
theorem ChR.gs {P P' : Nat → G → Prop} (n : Nx S k m h h') (hS : GS h S) (hP : ∀ b g, P b g → P' b g) : ∀ (els : List (El G)) (v : Value), ChR h P v els → ChR h' P' v els := by
  intro els
  induction els with
  | nil => intro v q; exact q
  | cons e els ih =>
    intro v q
    obtain ⟨p, nx, q1, q2, q3, q4⟩ := q
    exact ⟨p, nx, q1, q2.gs n hS hP, ih nx q3, q4⟩
theorem GrR.gs (n : Nx S k m h h') (hS : GS h S) : ∀ (j : Nat) (a : Nat) (g : GT j), GrR h j a g → GrR h' j a g := by
  intro j
  induction j with
  | zero => intro a g; exact nomatch g
  | succ j ih =>
    intro a g q
    obtain ⟨f, l, q1, q2⟩ := q
    exact ⟨f, l, n.ob q1 (by decide) (hS.na q1 (by decide)), ChR.gs n hS ih g f q2⟩
/-- finding in a group answers as ev -/
def HG (Ω : Om) (D : Nat) (L : List Tri) (c : Nat) (P : AH → Nat → G → Prop) (ev : G → Option (List Sol)) (cn : G → Nat × Nat) : Prop := (∀ (h h' : AH) (k m b : Nat) (g : G), Nx [] k m h h' → P h b g → P h' b g) ∧ (∀ (h : AH) (b : Nat) (g : G), P h b g → ∃ fs, h.1 b = some (.inr (9, fs))) ∧ ∀ (h : AH) (b : Nat) (g : G), Ω.sz ≤ h.2.1 → Fe h → StoT h c L → P h b g → FRes h (cK (cn g)) (cM (cn g)) (ev g) (gM PG Ω (D + 12) 128 [.ref b, .ref c] h)
variable {P : AH → Nat → G → Prop} {ev : G → Option (List Sol)} {cn : G → Nat × Nat}
theorem c_opt (hG : HG Ω D L c P ev cn) (hsz : Ω.sz ≤ h.2.1) (hFe : Fe h) {nx : Value} {ga : Nat} {g : G} (hA : FndR h b A) (hL : StoT h c L) (h1 : h.1 a = some (.inr (15, [nx, .ref ga]))) (hP : P h ga g) : FRes h (cK (cn g) + 305) (cM (cn g) + 1215) ((ev g).bind (fun own => capL (optL A own))) (gM PG Ω (D + 13) 143 [.ref a, .ref b, .ref c] h) := by
  obtain ⟨fs, cg⟩ := hG.2.1 h ga g hP
  rcases hG.2.2 h ga g hsz hFe hL hP with ⟨own, oa, ob, h2, q1, q2, q3, qa, qb, q4⟩ | ⟨q1, e, h2, q2, q3, q4⟩
  · rw [q1, Option.bind_some]
    have hsz2 : Ω.sz ≤ h2.2.1 := by have := q4.2.2.1; omega
    have e1 := c_fnd0 (Ω := Ω) (d := D + 10) (h := h2) hsz2
    have e2 : gM PG Ω (D + 13) 143 [.ref a, .ref b, .ref c] h = gO PG Ω (D + 12) 143 21 [.ref a, .ref b, .ref c, .ref oa, .ref h2.2.1, .int (nI 0), U, U] [] (fnd0 h2) := by
      simp (disch := first | omega | (simp only [hnew_21, hput_21, hnew_22, hput_22]; omega) | exact isR_ref | exact isR_null | exact isR_rf | exact isR_fmt | assumption | decide) only [n_X19_apply, e_X19_apply_0, e_X19_apply_1, e_X19_apply_4, e_X19_apply_5, e_X19_apply_8, e_X19_apply_9, e_X19_apply_12, e_X19_apply_13, e_X19_apply_16, e_X19_apply_18, e_X19_apply_19, cR_ref, cR_null, cR_rf, c1_int, c1_ref, c1_null, c1_rf, kz_int, kz_ref, kz_null, kz_rf, kz_U, kz_long, nB_null, nB_ref, rf_none, rf_some, bV_ret, bV_thr, bA_ret, bA_thr, bX_ret, bX_thr, len4_0, len4_1, len4_2, len4_3, len4_4, true_and, and_true, and_self, if_true, if_false, Option.bind_some, nR_b1, nR_b0, nR_bI, nI_1z, nI_0z, bI_z, if_nn, gf, pf, clN, aln, gaI, gaL, gaR, saI, saR, isI, ctB, isB, gB, hput_n, hput_e, hput_21, hput_22, hnew_n, hnew_e, hnew_21, hnew_22, Option.bind_some, Option.map_some, List.lookup_cons, List.lookup_nil, beq_self_eq_true, List.getElem?_cons_zero, List.getElem?_cons_succ, List.set_cons_zero, List.set_cons_succ, List.length_cons, List.length_nil, Nat.reduceAdd, Nat.reduceLT, Nat.reduceLeDiff, Nat.reduceBEq, Nat.reduceEqDiff, okv_int, okv_oref, okv_onull, okv_orf, okv_aref, okv_b0, okv_b1, okv_z0, okv_bI, ckI_nI, lt31, leT, reduceCtorEq, List.mem_cons, List.mem_singleton, List.not_mem_nil, or_true, true_or, or_false, false_or, toR_ref, toR_null, ↓reduceIte, h1, cg, q2, e1]
    have hou := c_oou (Ω := Ω) (D := D) (h0 := h2) (a := b) (b := oa) (l0 := .ref a) (l2 := .ref c) (fa := h2.2.1) (fb := h2.2.1 + 1) (K := 2) (C := 152) hsz2 (Nat.le_refl _) (by omega) (hA.nx q4) q3.r A.length 0 (fnd0 h2) [] U U (by omega) ⟨fnd0_A, fnd0_nx q4.2.1⟩
    rw [List.drop_zero, List.nil_append] at hou
    rw [e2]
    unfold capL
    rw [optL_eq]
    rcases hou with ⟨g1, h3, g2, g3⟩ | ⟨g1, e, h3, g2, g3, g4⟩
    · rw [if_pos g1]
      exact .inl ⟨_, _, _, h3, rfl, g2, g3.1, q4.2.2.1, Nat.le_succ_of_le q4.2.2.1, (q4.trans g3.2).mono (fun _ q => q) (by omega) (by omega)⟩
    · rw [if_neg (by omega)]
      exact .inr ⟨rfl, e, h3, g2, g3, (q4.trans g4).mono (fun _ q => q) (by omega) (by omega)⟩
  · rw [q1, Option.bind_none]
    refine .inr ⟨rfl, e, h2, ?_, q3, q4.mono (fun _ q => q) (by omega) (by omega)⟩
    simp (disch := first | omega | (simp only [hnew_21, hput_21, hnew_22, hput_22]; omega) | exact isR_ref | exact isR_null | exact isR_rf | exact isR_fmt | assumption | decide) only [n_X19_apply, e_X19_apply_0, e_X19_apply_1, e_X19_apply_4, e_X19_apply_5, e_X19_apply_8, e_X19_apply_9, e_X19_apply_12, e_X19_apply_13, e_X19_apply_16, e_X19_apply_18, e_X19_apply_19, cR_ref, cR_null, cR_rf, c1_int, c1_ref, c1_null, c1_rf, kz_int, kz_ref, kz_null, kz_rf, kz_U, kz_long, nB_null, nB_ref, rf_none, rf_some, bV_ret, bV_thr, bA_ret, bA_thr, bX_ret, bX_thr, len4_0, len4_1, len4_2, len4_3, len4_4, true_and, and_true, and_self, if_true, if_false, Option.bind_some, nR_b1, nR_b0, nR_bI, nI_1z, nI_0z, bI_z, if_nn, gf, pf, clN, aln, gaI, gaL, gaR, saI, saR, isI, ctB, isB, gB, hput_n, hput_e, hput_21, hput_22, hnew_n, hnew_e, hnew_21, hnew_22, Option.bind_some, Option.map_some, List.lookup_cons, List.lookup_nil, beq_self_eq_true, List.getElem?_cons_zero, List.getElem?_cons_succ, List.set_cons_zero, List.set_cons_succ, List.length_cons, List.length_nil, Nat.reduceAdd, Nat.reduceLT, Nat.reduceLeDiff, Nat.reduceBEq, Nat.reduceEqDiff, okv_int, okv_oref, okv_onull, okv_orf, okv_aref, okv_b0, okv_b1, okv_z0, okv_bI, ckI_nI, lt31, leT, reduceCtorEq, List.mem_cons, List.mem_singleton, List.not_mem_nil, or_true, true_or, or_false, false_or, toR_ref, toR_null, ↓reduceIte, h1, cg, q2]
theorem c_minus (hG : HG Ω D L c P ev cn) (hsz : Ω.sz ≤ h.2.1) (hFe : Fe h) {nx : Value} {ga : Nat} {g : G} (hA : FndR h b A) (hL : StoT h c L) (h1 : h.1 a = some (.inr (16, [nx, .ref ga]))) (hP : P h ga g) : FRes h (cK (cn g) + 305) (cM (cn g) + 1215) ((ev g).bind (fun own => some (minL A own))) (gM PG Ω (D + 13) 145 [.ref a, .ref b, .ref c] h) := by
  obtain ⟨fs, cg⟩ := hG.2.1 h ga g hP
  rcases hG.2.2 h ga g hsz hFe hL hP with ⟨own, oa, ob, h2, q1, q2, q3, qa, qb, q4⟩ | ⟨q1, e, h2, q2, q3, q4⟩
  · rw [q1, Option.bind_some]
    have hsz2 : Ω.sz ≤ h2.2.1 := by have := q4.2.2.1; omega
    have e1 := c_fnd0 (Ω := Ω) (d := D + 10) (h := h2) hsz2
    have hAl : A.length ≤ 150 := by obtain ⟨_, _, _, _, q, _⟩ := hA; exact q
    have e2 : gM PG Ω (D + 13) 145 [.ref a, .ref b, .ref c] h = gO PG Ω (D + 12) 145 21 [.ref a, .ref b, .ref c, .ref oa, .ref h2.2.1, .int (nI 0)] [] (fnd0 h2) := by
      simp (disch := first | omega | (simp only [hnew_21, hput_21, hnew_22, hput_22]; omega) | exact isR_ref | exact isR_null | exact isR_rf | exact isR_fmt | assumption | decide) only [n_X20_apply, e_X20_apply_0, e_X20_apply_1, e_X20_apply_4, e_X20_apply_5, e_X20_apply_8, e_X20_apply_9, e_X20_apply_12, e_X20_apply_13, e_X20_apply_16, e_X20_apply_18, e_X20_apply_19, cR_ref, cR_null, cR_rf, c1_int, c1_ref, c1_null, c1_rf, kz_int, kz_ref, kz_null, kz_rf, kz_U, kz_long, nB_null, nB_ref, rf_none, rf_some, bV_ret, bV_thr, bA_ret, bA_thr, bX_ret, bX_thr, len4_0, len4_1, len4_2, len4_3, len4_4, true_and, and_true, and_self, if_true, if_false, Option.bind_some, nR_b1, nR_b0, nR_bI, nI_1z, nI_0z, bI_z, if_nn, gf, pf, clN, aln, gaI, gaL, gaR, saI, saR, isI, ctB, isB, gB, hput_n, hput_e, hput_21, hput_22, hnew_n, hnew_e, hnew_21, hnew_22, Option.bind_some, Option.map_some, List.lookup_cons, List.lookup_nil, beq_self_eq_true, List.getElem?_cons_zero, List.getElem?_cons_succ, List.set_cons_zero, List.set_cons_succ, List.length_cons, List.length_nil, Nat.reduceAdd, Nat.reduceLT, Nat.reduceLeDiff, Nat.reduceBEq, Nat.reduceEqDiff, okv_int, okv_oref, okv_onull, okv_orf, okv_aref, okv_b0, okv_b1, okv_z0, okv_bI, ckI_nI, lt31, leT, reduceCtorEq, List.mem_cons, List.mem_singleton, List.not_mem_nil, or_true, true_or, or_false, false_or, toR_ref, toR_null, ↓reduceIte, h1, cg, q2, e1]
    obtain ⟨h3, g2, g3⟩ := c_min1 (Ω := Ω) (D := D) (h0 := h2) (a := b) (b := oa) (l0 := .ref a) (l2 := .ref c) (fa := h2.2.1) (fb := h2.2.1 + 1) (K := 2) (C := 152) hsz2 (Nat.le_refl _) (by omega) (hA.nx q4) q3.r A.length 0 (fnd0 h2) [] (by omega) (by simp) ⟨fnd0_A, fnd0_nx q4.2.1⟩
    rw [List.drop_zero, List.nil_append] at g3
    have hle : (minL A own).length ≤ A.length := List.length_filter_le _ _
    rw [e2]
    exact .inl ⟨_, _, _, h3, rfl, g2, g3.1, q4.2.2.1, Nat.le_succ_of_le q4.2.2.1, (q4.trans g3.2).mono (fun _ q => q) (by omega) (by omega)⟩
  · rw [q1, Option.bind_none]
    refine .inr ⟨rfl, e, h2, ?_, q3, q4.mono (fun _ q => q) (by omega) (by omega)⟩
    simp (disch := first | omega | (simp only [hnew_21, hput_21, hnew_22, hput_22]; omega) | exact isR_ref | exact isR_null | exact isR_rf | exact isR_fmt | assumption | decide) only [n_X20_apply, e_X20_apply_0, e_X20_apply_1, e_X20_apply_4, e_X20_apply_5, e_X20_apply_8, e_X20_apply_9, e_X20_apply_12, e_X20_apply_13, e_X20_apply_16, e_X20_apply_18, e_X20_apply_19, cR_ref, cR_null, cR_rf, c1_int, c1_ref, c1_null, c1_rf, kz_int, kz_ref, kz_null, kz_rf, kz_U, kz_long, nB_null, nB_ref, rf_none, rf_some, bV_ret, bV_thr, bA_ret, bA_thr, bX_ret, bX_thr, len4_0, len4_1, len4_2, len4_3, len4_4, true_and, and_true, and_self, if_true, if_false, Option.bind_some, nR_b1, nR_b0, nR_bI, nI_1z, nI_0z, bI_z, if_nn, gf, pf, clN, aln, gaI, gaL, gaR, saI, saR, isI, ctB, isB, gB, hput_n, hput_e, hput_21, hput_22, hnew_n, hnew_e, hnew_21, hnew_22, Option.bind_some, Option.map_some, List.lookup_cons, List.lookup_nil, beq_self_eq_true, List.getElem?_cons_zero, List.getElem?_cons_succ, List.set_cons_zero, List.set_cons_succ, List.length_cons, List.length_nil, Nat.reduceAdd, Nat.reduceLT, Nat.reduceLeDiff, Nat.reduceBEq, Nat.reduceEqDiff, okv_int, okv_oref, okv_onull, okv_orf, okv_aref, okv_b0, okv_b1, okv_z0, okv_bI, ckI_nI, lt31, leT, reduceCtorEq, List.mem_cons, List.mem_singleton, List.not_mem_nil, or_true, true_or, or_false, false_or, toR_ref, toR_null, ↓reduceIte, h1, cg, q2]
end CJ
