/-! COMPONENT: unions, the whole group -/
def cntA {G : Type} (cn : G → Nat × Nat) (e : El G) : Nat × Nat := match e with
  | .inl _ => (1, 0)
  | .inr (.inl _) => (0, 0)
  | .inr (.inr (.inl g)) => ((cn g).1 + 1, (cn g).2)
  | .inr (.inr (.inr (.inl g))) => ((cn g).1 + 1, (cn g).2)
  | .inr (.inr (.inr (.inr gs))) => ((cntL cn gs).1 + 1, (cntL cn gs).2)
section CK
variable {Ω : Om} {d D : Nat} {h h' h0 h1 h2 : AH} {a b c : Nat} {s : Sol} {k m k' m' : Nat} {S : List Nat} {A B M l : List Sol} {L : List Tri} {p : Pat} {G : Type}
variable {P : AH → Nat → G → Prop} {ev : G → Option (List Sol)} {cn : G → Nat × Nat}
theorem FndA.keep {pa pb : Nat} (t : FndA h pa pb l) (n : Nx S k m h h') (hS : FS h S) (na : pa ∉ S) (nb : pb ∉ S) : FndA h' pa pb l := by
  obtain ⟨f, h1, h2, h3, h4⟩ := t
  refine ⟨f, n.ob h1 (by decide) na, n.ar h2 nb, h3, fun i s q => ?_⟩
  obtain ⟨t, q1, q2⟩ := h4 i s q
  exact ⟨t, q1, q2.fs n hS⟩
theorem c_uin (hsz : Ω.sz ≤ h0.2.1) {fa fb pa pb kk K C : Nat} {l0 l1 l2 : Value} (ha : h0.2.1 ≤ fa) (hb : h0.2.1 ≤ fb) {hb0 : AH} (hFS : FS hb0 [fa, fb]) (hB : FndA hb0 pa pb B) (npa : pa ∉ [fa, fb]) (npb : pb ∉ [fa, fb]) : ∀ (mm i : Nat) (h : AH) (M : List Sol), i + mm = B.length → FndA h fa fb M → Nx [] K C h0 h → Nx [fa, fb] 0 0 hb0 h → ((M ++ B.drop i).length ≤ 150 ∧ ∃ h', gO PG Ω (D + 12) 149 36 [l0, l1, l2, .ref fa, .int (nI kk), .ref pa, .int (nI i)] [] h = gO PG Ω (D + 12) 149 64 [l0, l1, l2, .ref fa, .int (nI kk), .ref pa, .int (nI B.length)] [] h' ∧ FndA h' fa fb (M ++ B.drop i) ∧ Nx [] K C h0 h') ∨ (150 < (M ++ B.drop i).length ∧ Thr h0 (K + 1) (C + 6) (gO PG Ω (D + 12) 149 36 [l0, l1, l2, .ref fa, .int (nI kk), .ref pa, .int (nI i)] [] h)) := by
  intro mm
  induction mm with
  | zero =>
    intro i h M hi F n n2
    have : i = B.length := by omega
    subst this
    obtain ⟨f2, t1, t2, t3, t4⟩ := hB.keep n2 hFS npa npb
    have hMl : M.length ≤ 150 := by obtain ⟨_, _, _, q, _⟩ := F; exact q
    rw [List.drop_length, List.append_nil]
    refine .inl ⟨hMl, h, ?_, F, n⟩
    rw [e_X21_apply_36]
    simp (disch := first | omega | (simp only [hnew_21, hput_21, hnew_22, hput_22]; omega) | exact isR_ref | exact isR_null | exact isR_rf | exact isR_fmt | assumption | decide) only [e_X21_apply_38, e_X21_apply_40, e_X21_apply_43, e_X21_apply_46, e_X21_apply_47, e_X21_apply_49, e_X21_apply_52, e_X21_apply_54, e_X21_apply_55, e_X21_apply_58, e_X21_apply_61, cR_ref, cR_null, cR_rf, c1_int, c1_ref, c1_null, c1_rf, kz_int, kz_ref, kz_null, kz_rf, kz_U, kz_long, nB_null, nB_ref, rf_none, rf_some, bV_ret, bV_thr, bA_ret, bA_thr, bX_ret, bX_thr, len4_0, len4_1, len4_2, len4_3, len4_4, true_and, and_true, and_self, if_true, if_false, Option.bind_some, nR_b1, nR_b0, nR_bI, nI_1z, nI_0z, bI_z, if_nn, gf, pf, clN, aln, gaI, gaL, gaR, saI, saR, isI, ctB, isB, gB, hput_n, hput_e, hput_21, hput_22, hnew_n, hnew_e, hnew_21, hnew_22, Option.bind_some, Option.map_some, List.lookup_cons, List.lookup_nil, beq_self_eq_true, List.getElem?_cons_zero, List.getElem?_cons_succ, List.set_cons_zero, List.set_cons_succ, List.length_cons, List.length_nil, Nat.reduceAdd, Nat.reduceLT, Nat.reduceLeDiff, Nat.reduceBEq, Nat.reduceEqDiff, okv_int, okv_oref, okv_onull, okv_orf, okv_aref, okv_b0, okv_b1, okv_z0, okv_bI, ckI_nI, lt31, leT, reduceCtorEq, List.mem_cons, List.mem_singleton, List.not_mem_nil, or_true, true_or, or_false, false_or, toR_ref, toR_null, ↓reduceIte, t1, ↓nI_lt_if, Nat.lt_irrefl]
  | succ mm ih =>
    intro i h M hi F n n2
    have hil : i < B.length := by omega
    have hg : B[i]? = some B[i] := List.getElem?_eq_getElem hil
    have hdr : B.drop i = B[i] :: B.drop (i + 1) := List.drop_eq_getElem_cons hil
    generalize B[i] = s at hg hdr
    obtain ⟨f2, t1, t2, t3, t4⟩ := hB.keep n2 hFS npa npb
    obtain ⟨u, u1, u2⟩ := t4 i s hg
    obtain ⟨fs1, cfa⟩ : ∃ fs, h.1 fa = some (.inr (19, fs)) := by obtain ⟨_, z, _⟩ := F; exact ⟨_, z⟩
    have hMl : M.length ≤ 150 := by obtain ⟨_, _, _, q, _⟩ := F; exact q
    rw [hdr]
    by_cases h150 : M.length < 150
    · obtain ⟨h2, e1, e2, e3, e4⟩ := c_fadd (Ω := Ω) (d := D + 11) (show Ω.sz ≤ fa by omega) (show Ω.sz ≤ fb by omega) n.2.1 F u2 h150
      have n3 : Nx [] K C h0 h2 := (n.add e3 (fun q hq => by
        rcases List.mem_cons.mp hq with rfl | hq
        · exact ha
        · rw [List.mem_singleton.mp hq]; exact hb)).mono (fun _ q => q) (by omega) (by omega)
      have estep : gO PG Ω (D + 12) 149 36 [l0, l1, l2, .ref fa, .int (nI kk), .ref pa, .int (nI i)] [] h = gO PG Ω (D + 12) 149 36 [l0, l1, l2, .ref fa, .int (nI kk), .ref pa, .int (nI (i + 1))] [] h2 := by
        rw [e_X21_apply_36]
        simp (disch := first | omega | (simp only [hnew_21, hput_21, hnew_22, hput_22]; omega) | exact isR_ref | exact isR_null | exact isR_rf | exact isR_fmt | assumption | decide) only [e_X21_apply_38, e_X21_apply_40, e_X21_apply_43, e_X21_apply_46, e_X21_apply_47, e_X21_apply_49, e_X21_apply_52, e_X21_apply_54, e_X21_apply_55, e_X21_apply_58, e_X21_apply_61, cR_ref, cR_null, cR_rf, c1_int, c1_ref, c1_null, c1_rf, kz_int, kz_ref, kz_null, kz_rf, kz_U, kz_long, nB_null, nB_ref, rf_none, rf_some, bV_ret, bV_thr, bA_ret, bA_thr, bX_ret, bX_thr, len4_0, len4_1, len4_2, len4_3, len4_4, true_and, and_true, and_self, if_true, if_false, Option.bind_some, nR_b1, nR_b0, nR_bI, nI_1z, nI_0z, bI_z, if_nn, gf, pf, clN, aln, gaI, gaL, gaR, saI, saR, isI, ctB, isB, gB, hput_n, hput_e, hput_21, hput_22, hnew_n, hnew_e, hnew_21, hnew_22, Option.bind_some, Option.map_some, List.lookup_cons, List.lookup_nil, beq_self_eq_true, List.getElem?_cons_zero, List.getElem?_cons_succ, List.set_cons_zero, List.set_cons_succ, List.length_cons, List.length_nil, Nat.reduceAdd, Nat.reduceLT, Nat.reduceLeDiff, Nat.reduceBEq, Nat.reduceEqDiff, okv_int, okv_oref, okv_onull, okv_orf, okv_aref, okv_b0, okv_b1, okv_z0, okv_bI, ckI_nI, lt31, leT, reduceCtorEq, List.mem_cons, List.mem_singleton, List.not_mem_nil, or_true, true_or, or_false, false_or, toR_ref, toR_null, ↓reduceIte, nI_add, pk_mul, t1, t2, u1, cfa, ↓nI_lt_if, hil, e1]
      have := ih (i + 1) h2 _ (by omega) e2 n3 ((n2.trans e3).mono (fun _ q => q) (by omega) (by omega))
      rw [List.append_assoc, List.singleton_append] at this
      rw [estep]
      exact this
    · have hM150 : M.length = 150 := by omega
      have e1 := c_fful (Ω := Ω) (d := D + 3) (c := u) F hM150
      refine .inr ⟨by rw [List.length_append, List.length_cons]; omega, h.2.1, hnew h (.inr (25, [])) 6, ?_, hnew_e, n.new.mono (fun _ q => q) (by omega) (by omega)⟩
      rw [e_X21_apply_36]
      simp (disch := first | omega | (simp only [hnew_21, hput_21, hnew_22, hput_22]; omega) | exact isR_ref | exact isR_null | exact isR_rf | exact isR_fmt | assumption | decide) only [e_X21_apply_38, e_X21_apply_40, e_X21_apply_43, e_X21_apply_46, e_X21_apply_47, e_X21_apply_49, e_X21_apply_52, e_X21_apply_54, e_X21_apply_55, e_X21_apply_58, e_X21_apply_61, cR_ref, cR_null, cR_rf, c1_int, c1_ref, c1_null, c1_rf, kz_int, kz_ref, kz_null, kz_rf, kz_U, kz_long, nB_null, nB_ref, rf_none, rf_some, bV_ret, bV_thr, bA_ret, bA_thr, bX_ret, bX_thr, len4_0, len4_1, len4_2, len4_3, len4_4, true_and, and_true, and_self, if_true, if_false, Option.bind_some, nR_b1, nR_b0, nR_bI, nI_1z, nI_0z, bI_z, if_nn, gf, pf, clN, aln, gaI, gaL, gaR, saI, saR, isI, ctB, isB, gB, hput_n, hput_e, hput_21, hput_22, hnew_n, hnew_e, hnew_21, hnew_22, Option.bind_some, Option.map_some, List.lookup_cons, List.lookup_nil, beq_self_eq_true, List.getElem?_cons_zero, List.getElem?_cons_succ, List.set_cons_zero, List.set_cons_succ, List.length_cons, List.length_nil, Nat.reduceAdd, Nat.reduceLT, Nat.reduceLeDiff, Nat.reduceBEq, Nat.reduceEqDiff, okv_int, okv_oref, okv_onull, okv_orf, okv_aref, okv_b0, okv_b1, okv_z0, okv_bI, ckI_nI, lt31, leT, reduceCtorEq, List.mem_cons, List.mem_singleton, List.not_mem_nil, or_true, true_or, or_false, false_or, toR_ref, toR_null, ↓reduceIte, nI_add, pk_mul, t1, t2, u1, cfa, ↓nI_lt_if, hil, e1]
set_option maxHeartbeats 1000000 in
theorem c_uou (hG : HG Ω D L c P ev cn) (hsz : Ω.sz ≤ h0.2.1) {fa fb arr : Nat} {nx l1 : Value} {f : Nat → Option Nat} {gs : List G} (ha : h0.2.1 ≤ fa) (hb : h0.2.1 ≤ fb) (hL : StoT h0 c L) (u1 : h0.1 a = some (.inr (17, [nx, .ref arr, .int (nI gs.length)]))) (u2 : h0.1 arr = some (arR "TripleStore$Group" 12 f)) (u3 : gs.length ≤ 12) (u4 : ∀ i g, gs[i]? = some g → ∃ ga, f i = some ga ∧ P h0 ga g) : ∀ (gs' : List G) (i : Nat) (h : AH) (M : List Sol) (K C : Nat) (l5 l6 : Value), gs.drop i = gs' → i ≤ gs.length → FndA h fa fb M → Nx [] K C h0 h → (∃ r h' l5' l6', uniE ev gs' M = some r ∧ gO PG Ω (D + 12) 149 11 [.ref a, l1, .ref c, .ref fa, .int (nI i), l5, l6] [] h = gO PG Ω (D + 12) 149 70 [.ref a, l1, .ref c, .ref fa, .int (nI gs.length), l5', l6'] [] h' ∧ FndA h' fa fb r ∧ Nx [] (K + cK (cntL cn gs')) (C + cM (cntL cn gs')) h0 h') ∨ (uniE ev gs' M = none ∧ Thr h0 (K + cK (cntL cn gs') + 1) (C + cM (cntL cn gs') + 6) (gO PG Ω (D + 12) 149 11 [.ref a, l1, .ref c, .ref fa, .int (nI i), l5, l6] [] h)) := by
  intro gs'
  induction gs' with
  | nil =>
    intro i h M K C l5 l6 hd hi F n
    have : i = gs.length := by have := List.drop_eq_nil_iff.mp hd; omega
    subst this
    have v1 := n.ob u1 (by decide) (by simp)
    refine .inl ⟨M, h, l5, l6, rfl, ?_, F, n.mono (fun _ q => q) (by unfold cntL cK; omega) (by unfold cntL cM; omega)⟩
    rw [e_X21_apply_11]
    simp (disch := first | omega | (simp only [hnew_21, hput_21, hnew_22, hput_22]; omega) | exact isR_ref | exact isR_null | exact isR_rf | exact isR_fmt | assumption | decide) only [e_X21_apply_13, e_X21_apply_14, e_X21_apply_17, e_X21_apply_20, e_X21_apply_21, e_X21_apply_24, e_X21_apply_26, e_X21_apply_27, e_X21_apply_28, e_X21_apply_31, e_X21_apply_33, e_X21_apply_34, cR_ref, cR_null, cR_rf, c1_int, c1_ref, c1_null, c1_rf, kz_int, kz_ref, kz_null, kz_rf, kz_U, kz_long, nB_null, nB_ref, rf_none, rf_some, bV_ret, bV_thr, bA_ret, bA_thr, bX_ret, bX_thr, len4_0, len4_1, len4_2, len4_3, len4_4, true_and, and_true, and_self, if_true, if_false, Option.bind_some, nR_b1, nR_b0, nR_bI, nI_1z, nI_0z, bI_z, if_nn, gf, pf, clN, aln, gaI, gaL, gaR, saI, saR, isI, ctB, isB, gB, hput_n, hput_e, hput_21, hput_22, hnew_n, hnew_e, hnew_21, hnew_22, Option.bind_some, Option.map_some, List.lookup_cons, List.lookup_nil, beq_self_eq_true, List.getElem?_cons_zero, List.getElem?_cons_succ, List.set_cons_zero, List.set_cons_succ, List.length_cons, List.length_nil, Nat.reduceAdd, Nat.reduceLT, Nat.reduceLeDiff, Nat.reduceBEq, Nat.reduceEqDiff, okv_int, okv_oref, okv_onull, okv_orf, okv_aref, okv_b0, okv_b1, okv_z0, okv_bI, ckI_nI, lt31, leT, reduceCtorEq, List.mem_cons, List.mem_singleton, List.not_mem_nil, or_true, true_or, or_false, false_or, toR_ref, toR_null, ↓reduceIte, v1, ↓nI_lt_if, Nat.lt_irrefl]
  | cons g gs' ih =>
    intro i h M K C l5 l6 hd hi F n
    have hil : i < gs.length := by
      by_cases q : i < gs.length
      · exact q
      · rw [List.drop_eq_nil_iff.mpr (by omega)] at hd; cases hd
    have hdr : gs.drop i = gs[i] :: gs.drop (i + 1) := List.drop_eq_getElem_cons hil
    have hgi : gs[i] = g := by rw [hd] at hdr; injection hdr with q _; exact q.symm
    have hd' : gs.drop (i + 1) = gs' := by rw [hd] at hdr; injection hdr with _ q; exact q.symm
    have hg : gs[i]? = some g := by rw [List.getElem?_eq_getElem hil, hgi]
    obtain ⟨ga, w1, w2⟩ := u4 i g hg
    have w2' := hG.1 _ _ _ _ _ _ n w2
    obtain ⟨fs, cg⟩ := hG.2.1 h ga g w2'
    have v1 := n.ob u1 (by decide) (by simp)
    have v2 := n.ar u2 (by simp)
    have hszh : Ω.sz ≤ h.2.1 := by have := n.2.2.1; omega
    have Fl : fa < h.2.1 ∧ fb < h.2.1 := by obtain ⟨_, z1, z2, _⟩ := F; exact ⟨n.2.1.lt z1, n.2.1.lt z2⟩
    have ecost : cK (cntL cn (g :: gs')) = cK (cn g) + cK (cntL cn gs') := by simp only [cntL, cK]; omega
    have mcost : cM (cntL cn (g :: gs')) = cM (cn g) + cM (cntL cn gs') := by simp only [cntL, cM]; omega
    unfold uniE
    rcases hG.2.2 h ga g hszh n.2.1 (hL.nx n) w2' with ⟨own, oa, ob, h2, q1, q2, q3, qa, qb, q4⟩ | ⟨q1, e, h2, q2, q3, q4⟩
    · rw [q1, Option.bind_some]
      have F2 := F.nx q4
      have e1 : gO PG Ω (D + 12) 149 11 [.ref a, l1, .ref c, .ref fa, .int (nI i), l5, l6] [] h = gO PG Ω (D + 12) 149 36 [.ref a, l1, .ref c, .ref fa, .int (nI i), .ref oa, .int (nI 0)] [] h2 := by
        rw [e_X21_apply_11]
        simp (disch := first | omega | (simp only [hnew_21, hput_21, hnew_22, hput_22]; omega) | exact isR_ref | exact isR_null | exact isR_rf | exact isR_fmt | assumption | decide) only [e_X21_apply_13, e_X21_apply_14, e_X21_apply_17, e_X21_apply_20, e_X21_apply_21, e_X21_apply_24, e_X21_apply_26, e_X21_apply_27, e_X21_apply_28, e_X21_apply_31, e_X21_apply_33, e_X21_apply_34, cR_ref, cR_null, cR_rf, c1_int, c1_ref, c1_null, c1_rf, kz_int, kz_ref, kz_null, kz_rf, kz_U, kz_long, nB_null, nB_ref, rf_none, rf_some, bV_ret, bV_thr, bA_ret, bA_thr, bX_ret, bX_thr, len4_0, len4_1, len4_2, len4_3, len4_4, true_and, and_true, and_self, if_true, if_false, Option.bind_some, nR_b1, nR_b0, nR_bI, nI_1z, nI_0z, bI_z, if_nn, gf, pf, clN, aln, gaI, gaL, gaR, saI, saR, isI, ctB, isB, gB, hput_n, hput_e, hput_21, hput_22, hnew_n, hnew_e, hnew_21, hnew_22, Option.bind_some, Option.map_some, List.lookup_cons, List.lookup_nil, beq_self_eq_true, List.getElem?_cons_zero, List.getElem?_cons_succ, List.set_cons_zero, List.set_cons_succ, List.length_cons, List.length_nil, Nat.reduceAdd, Nat.reduceLT, Nat.reduceLeDiff, Nat.reduceBEq, Nat.reduceEqDiff, okv_int, okv_oref, okv_onull, okv_orf, okv_aref, okv_b0, okv_b1, okv_z0, okv_bI, ckI_nI, lt31, leT, reduceCtorEq, List.mem_cons, List.mem_singleton, List.not_mem_nil, or_true, true_or, or_false, false_or, toR_ref, toR_null, ↓reduceIte, v1, v2, w1, cg, ↓nI_lt_if, hil, q2]
      have hin := c_uin (Ω := Ω) (D := D) (h0 := h0) (l0 := .ref a) (l1 := l1) (l2 := .ref c) (kk := i) hsz ha hb F2.fS q3 (by simp; omega) (by simp; omega) own.length 0 h2 M (by omega) F2 (n.trans q4) (Nx.rfl' q4.2.1)
      rw [List.drop_zero] at hin
      rw [e1]
      unfold capL
      rcases hin with ⟨g1, h3, g2, g3, g4⟩ | ⟨g1, e, h3, g2, g3, g4⟩
      · rw [if_pos g1, Option.bind_some]
        have e2 : gO PG Ω (D + 12) 149 64 [.ref a, l1, .ref c, .ref fa, .int (nI i), .ref oa, .int (nI own.length)] [] h3 = gO PG Ω (D + 12) 149 11 [.ref a, l1, .ref c, .ref fa, .int (nI (i + 1)), .ref oa, .int (nI own.length)] [] h3 := by
          simp (disch := first | omega | (simp only [hnew_21, hput_21, hnew_22, hput_22]; omega) | exact isR_ref | exact isR_null | exact isR_rf | exact isR_fmt | assumption | decide) only [e_X21_apply_64, e_X21_apply_67, cR_ref, cR_null, cR_rf, c1_int, c1_ref, c1_null, c1_rf, kz_int, kz_ref, kz_null, kz_rf, kz_U, kz_long, nB_null, nB_ref, rf_none, rf_some, bV_ret, bV_thr, bA_ret, bA_thr, bX_ret, bX_thr, len4_0, len4_1, len4_2, len4_3, len4_4, true_and, and_true, and_self, if_true, if_false, Option.bind_some, nR_b1, nR_b0, nR_bI, nI_1z, nI_0z, bI_z, if_nn, nI_add, pk_mul]
        rw [g2, e2]
        rcases ih (i + 1) h3 _ _ _ (.ref oa) (.int (nI own.length)) hd' (by omega) g3 g4 with ⟨r, h4, k5, k6, r1, r2, r3, r4⟩ | ⟨r1, e, h4, r2, r3, r4⟩
        · exact .inl ⟨r, h4, k5, k6, r1, r2, r3, r4.mono (fun _ q => q) (by omega) (by omega)⟩
        · exact .inr ⟨r1, e, h4, r2, r3, r4.mono (fun _ q => q) (by omega) (by omega)⟩
      · rw [if_neg (by omega), Option.bind_none]
        exact .inr ⟨rfl, e, h3, g2, g3, g4.mono (fun _ q => q) (by omega) (by omega)⟩
    · rw [q1, Option.bind_none]
      refine .inr ⟨rfl, e, h2, ?_, q3, (n.trans q4).mono (fun _ q => q) (by omega) (by omega)⟩
      rw [e_X21_apply_11]
      simp (disch := first | omega | (simp only [hnew_21, hput_21, hnew_22, hput_22]; omega) | exact isR_ref | exact isR_null | exact isR_rf | exact isR_fmt | assumption | decide) only [e_X21_apply_13, e_X21_apply_14, e_X21_apply_17, e_X21_apply_20, e_X21_apply_21, e_X21_apply_24, e_X21_apply_26, e_X21_apply_27, e_X21_apply_28, e_X21_apply_31, e_X21_apply_33, e_X21_apply_34, cR_ref, cR_null, cR_rf, c1_int, c1_ref, c1_null, c1_rf, kz_int, kz_ref, kz_null, kz_rf, kz_U, kz_long, nB_null, nB_ref, rf_none, rf_some, bV_ret, bV_thr, bA_ret, bA_thr, bX_ret, bX_thr, len4_0, len4_1, len4_2, len4_3, len4_4, true_and, and_true, and_self, if_true, if_false, Option.bind_some, nR_b1, nR_b0, nR_bI, nI_1z, nI_0z, bI_z, if_nn, gf, pf, clN, aln, gaI, gaL, gaR, saI, saR, isI, ctB, isB, gB, hput_n, hput_e, hput_21, hput_22, hnew_n, hnew_e, hnew_21, hnew_22, Option.bind_some, Option.map_some, List.lookup_cons, List.lookup_nil, beq_self_eq_true, List.getElem?_cons_zero, List.getElem?_cons_succ, List.set_cons_zero, List.set_cons_succ, List.length_cons, List.length_nil, Nat.reduceAdd, Nat.reduceLT, Nat.reduceLeDiff, Nat.reduceBEq, Nat.reduceEqDiff, okv_int, okv_oref, okv_onull, okv_orf, okv_aref, okv_b0, okv_b1, okv_z0, okv_bI, ckI_nI, lt31, leT, reduceCtorEq, List.mem_cons, List.mem_singleton, List.not_mem_nil, or_true, true_or, or_false, false_or, toR_ref, toR_null, ↓reduceIte, v1, v2, w1, cg, ↓nI_lt_if, hil, q2]
theorem c_union (hG : HG Ω D L c P ev cn) (hsz : Ω.sz ≤ h.2.1) (hFe : Fe h) {arr : Nat} {nx : Value} {f : Nat → Option Nat} {gs : List G} (hA : FndR h b A) (hL : StoT h c L) (u1 : h.1 a = some (.inr (17, [nx, .ref arr, .int (nI gs.length)]))) (u2 : h.1 arr = some (arR "TripleStore$Group" 12 f)) (u3 : gs.length ≤ 12) (u4 : ∀ i g, gs[i]? = some g → ∃ ga, f i = some ga ∧ P h ga g) : FRes h (cK (cntL cn gs) + 608) (cM (cntL cn gs) + 2400) ((uniE ev gs []).bind (fun own => capL (joinL A own))) (gM PG Ω (D + 13) 149 [.ref a, .ref b, .ref c] h) := by
  have e1 := c_fnd0 (Ω := Ω) (d := D + 10) (h := h) hsz
  have e2 : gM PG Ω (D + 13) 149 [.ref a, .ref b, .ref c] h = gO PG Ω (D + 12) 149 11 [.ref a, .ref b, .ref c, .ref h.2.1, .int (nI 0), U, U] [] (fnd0 h) := by
    simp (disch := first | omega | (simp only [hnew_21, hput_21, hnew_22, hput_22]; omega) | exact isR_ref | exact isR_null | exact isR_rf | exact isR_fmt | assumption | decide) only [n_X21_apply, e_X21_apply_0, e_X21_apply_3, e_X21_apply_4, e_X21_apply_7, e_X21_apply_8, e_X21_apply_9, cR_ref, cR_null, cR_rf, c1_int, c1_ref, c1_null, c1_rf, kz_int, kz_ref, kz_null, kz_rf, kz_U, kz_long, nB_null, nB_ref, rf_none, rf_some, bV_ret, bV_thr, bA_ret, bA_thr, bX_ret, bX_thr, len4_0, len4_1, len4_2, len4_3, len4_4, true_and, and_true, and_self, if_true, if_false, Option.bind_some, nR_b1, nR_b0, nR_bI, nI_1z, nI_0z, bI_z, if_nn, List.length_cons, List.length_nil, Nat.reduceAdd, Nat.reduceLeDiff, ↓reduceIte, e1]
  rw [e2]
  rcases c_uou (Ω := Ω) (D := D) (h0 := h) (fa := h.2.1) (fb := h.2.1 + 1) (l1 := .ref b) hG hsz (Nat.le_refl _) (by omega) hL u1 u2 u3 u4 gs 0 (fnd0 h) [] 2 152 U U List.drop_zero (Nat.zero_le _) fnd0_A (fnd0_nx hFe) with ⟨r, h1, l5', l6', r1, r2, r3, r4⟩ | ⟨r1, e, h1, r2, r3, r4⟩
  · rw [r1, Option.bind_some, r2]
    have hsz1 : Ω.sz ≤ h1.2.1 := by have := r4.2.2.1; omega
    have hl1 := r4.2.2.1
    have hj := c_joined (Ω := Ω) (d := D + 2) hsz1 r4.2.1 (hA.nx r4) r3.r
    obtain ⟨b1, f1, ks, _⟩ := hA.nx r4
    rcases hj with ⟨l, a', b', h2, j1, j2, j3, j5, j6, j4⟩ | ⟨j1, e, h2, j2, j3, j4⟩
    · refine .inl ⟨l, a', b', h2, j1, ?_, j3, by omega, by omega, (r4.trans j4).mono (fun _ q => q) (by omega) (by omega)⟩
      simp (disch := first | omega | (simp only [hnew_21, hput_21, hnew_22, hput_22]; omega) | exact isR_ref | exact isR_null | exact isR_rf | exact isR_fmt | assumption | decide) only [e_X21_apply_70, e_X21_apply_71, e_X21_apply_72, e_X21_apply_75, cR_ref, cR_null, cR_rf, c1_int, c1_ref, c1_null, c1_rf, kz_int, kz_ref, kz_null, kz_rf, kz_U, kz_long, nB_null, nB_ref, rf_none, rf_some, bV_ret, bV_thr, bA_ret, bA_thr, bX_ret, bX_thr, len4_0, len4_1, len4_2, len4_3, len4_4, true_and, and_true, and_self, if_true, if_false, Option.bind_some, nR_b1, nR_b0, nR_bI, nI_1z, nI_0z, bI_z, if_nn, gf, pf, clN, aln, gaI, gaL, gaR, saI, saR, isI, ctB, isB, gB, hput_n, hput_e, hput_21, hput_22, hnew_n, hnew_e, hnew_21, hnew_22, Option.bind_some, Option.map_some, List.lookup_cons, List.lookup_nil, beq_self_eq_true, List.getElem?_cons_zero, List.getElem?_cons_succ, List.set_cons_zero, List.set_cons_succ, List.length_cons, List.length_nil, Nat.reduceAdd, Nat.reduceLT, Nat.reduceLeDiff, Nat.reduceBEq, Nat.reduceEqDiff, okv_int, okv_oref, okv_onull, okv_orf, okv_aref, okv_b0, okv_b1, okv_z0, okv_bI, ckI_nI, lt31, leT, reduceCtorEq, List.mem_cons, List.mem_singleton, List.not_mem_nil, or_true, true_or, or_false, false_or, toR_ref, toR_null, ↓reduceIte, ks, j2]
    · refine .inr ⟨j1, e, h2, ?_, j3, (r4.trans j4).mono (fun _ q => q) (by omega) (by omega)⟩
      simp (disch := first | omega | (simp only [hnew_21, hput_21, hnew_22, hput_22]; omega) | exact isR_ref | exact isR_null | exact isR_rf | exact isR_fmt | assumption | decide) only [e_X21_apply_70, e_X21_apply_71, e_X21_apply_72, e_X21_apply_75, cR_ref, cR_null, cR_rf, c1_int, c1_ref, c1_null, c1_rf, kz_int, kz_ref, kz_null, kz_rf, kz_U, kz_long, nB_null, nB_ref, rf_none, rf_some, bV_ret, bV_thr, bA_ret, bA_thr, bX_ret, bX_thr, len4_0, len4_1, len4_2, len4_3, len4_4, true_and, and_true, and_self, if_true, if_false, Option.bind_some, nR_b1, nR_b0, nR_bI, nI_1z, nI_0z, bI_z, if_nn, gf, pf, clN, aln, gaI, gaL, gaR, saI, saR, isI, ctB, isB, gB, hput_n, hput_e, hput_21, hput_22, hnew_n, hnew_e, hnew_21, hnew_22, Option.bind_some, Option.map_some, List.lookup_cons, List.lookup_nil, beq_self_eq_true, List.getElem?_cons_zero, List.getElem?_cons_succ, List.set_cons_zero, List.set_cons_succ, List.length_cons, List.length_nil, Nat.reduceAdd, Nat.reduceLT, Nat.reduceLeDiff, Nat.reduceBEq, Nat.reduceEqDiff, okv_int, okv_oref, okv_onull, okv_orf, okv_aref, okv_b0, okv_b1, okv_z0, okv_bI, ckI_nI, lt31, leT, reduceCtorEq, List.mem_cons, List.mem_singleton, List.not_mem_nil, or_true, true_or, or_false, false_or, toR_ref, toR_null, ↓reduceIte, ks, j2]
  · rw [r1, Option.bind_none]
    exact .inr ⟨rfl, e, h1, r2, r3, r4.mono (fun _ q => q) (by omega) (by omega)⟩
/-- an element's answer; K is what goes on behind it -/
def ARes (h : AH) (sa sb : Nat) (C1 C2 : Nat) (r : Option (List Sol)) (o : (Value → AH → Option Rs) → Option Rs) : Prop := (∃ l a b h', r = some l ∧ (∀ K, o K = K (.ref a) h') ∧ FndA h' a b l ∧ ((a = sa ∧ b = sb) ∨ (h.2.1 ≤ a ∧ h.2.1 ≤ b)) ∧ Nx [] C1 C2 h h') ∨ (r = none ∧ ∃ e h', (∀ K, o K = some (.threw e, h')) ∧ h'.1 e = some (.inr (25, [])) ∧ Nx [] C1 C2 h h')
theorem ARes.of {sa sb C1 C2 : Nat} {r : Option (List Sol)} {g : Option Rs} {o : (Value → AH → Option Rs) → Option Rs} (x : FRes h C1 C2 r g) (ho : ∀ K, o K = bA g K) : ARes h sa sb C1 C2 r o := by
  rcases x with ⟨l, a, b, h', q1, q2, q3, q5, q6, q4⟩ | ⟨q1, e, h', q2, q3, q4⟩
  · exact .inl ⟨l, a, b, h', q1, fun K => by rw [ho, q2]; rfl, q3, .inr ⟨q5, q6⟩, q4⟩
  · exact .inr ⟨q1, e, h', fun K => by rw [ho, q2]; rfl, q3, q4⟩
theorem c_apply (hG : HG Ω D L c P ev cn) (hsz : Ω.sz ≤ h.2.1) (hFe : Fe h) {sa sb : Nat} {nx : Value} {e : El G} (hA : FndA h sa sb A) (hL : StoT h c L) (he : ElR h (P h) a nx e) : ARes h sa sb (cK (cntA cn e)) (cM (cntA cn e)) (evE ev L e A) (fun K => (clN h a).bind fun ci => (([(15, 143), (16, 145), (18, 151), (17, 149), (10, 131)] : List (Nat × Nat)).lookup ci).bind fun yy => bA (gM PG Ω (D + 13) yy (.ref a :: [.ref sa, .ref c]) h) K) := by
  rcases e with p | t | g | g | gs
  · have he' : PatR h a nx p := he
    have x := c_pat (Ω := Ω) (d := D + 2) hsz hFe he' hA.r hL
    obtain ⟨pg, pff, _, _, _, p1, _⟩ := he'
    refine ARes.of (x.mono (by simp only [cntA, cntE, cK]; omega) (by simp only [cntA, cntE, cM]; omega)) (fun K => ?_)
    simp (disch := first | omega | (simp only [hnew_21, hput_21, hnew_22, hput_22]; omega) | exact isR_ref | exact isR_null | exact isR_rf | exact isR_fmt | assumption | decide) only [gf, pf, clN, aln, gaI, gaL, gaR, saI, saR, isI, ctB, isB, gB, hput_n, hput_e, hput_21, hput_22, hnew_n, hnew_e, hnew_21, hnew_22, Option.bind_some, Option.map_some, List.lookup_cons, List.lookup_nil, beq_self_eq_true, List.getElem?_cons_zero, List.getElem?_cons_succ, List.set_cons_zero, List.set_cons_succ, List.length_cons, List.length_nil, Nat.reduceAdd, Nat.reduceLT, Nat.reduceLeDiff, Nat.reduceBEq, Nat.reduceEqDiff, okv_int, okv_oref, okv_onull, okv_orf, okv_aref, okv_b0, okv_b1, okv_z0, okv_bI, ckI_nI, lt31, leT, reduceCtorEq, List.mem_cons, List.mem_singleton, List.not_mem_nil, or_true, true_or, or_false, false_or, toR_ref, toR_null, ↓reduceIte, p1]
  · obtain ⟨te, j, q1, q2, q3⟩ := he
    refine .inl ⟨A, sa, sb, h, rfl, fun K => ?_, hA, .inl ⟨rfl, rfl⟩, (Nx.rfl' hFe).mono (fun _ q => q) (by omega) (by omega)⟩
    simp (disch := first | omega | (simp only [hnew_21, hput_21, hnew_22, hput_22]; omega) | exact isR_ref | exact isR_null | exact isR_rf | exact isR_fmt | assumption | decide) only [cR_ref, cR_null, cR_rf, c1_int, c1_ref, c1_null, c1_rf, kz_int, kz_ref, kz_null, kz_rf, kz_U, kz_long, nB_null, nB_ref, rf_none, rf_some, bV_ret, bV_thr, bA_ret, bA_thr, bX_ret, bX_thr, len4_0, len4_1, len4_2, len4_3, len4_4, true_and, and_true, and_self, if_true, if_false, Option.bind_some, nR_b1, nR_b0, nR_bI, nI_1z, nI_0z, bI_z, if_nn, gf, pf, clN, aln, gaI, gaL, gaR, saI, saR, isI, ctB, isB, gB, hput_n, hput_e, hput_21, hput_22, hnew_n, hnew_e, hnew_21, hnew_22, Option.bind_some, Option.map_some, List.lookup_cons, List.lookup_nil, beq_self_eq_true, List.getElem?_cons_zero, List.getElem?_cons_succ, List.set_cons_zero, List.set_cons_succ, List.length_cons, List.length_nil, Nat.reduceAdd, Nat.reduceLT, Nat.reduceLeDiff, Nat.reduceBEq, Nat.reduceEqDiff, okv_int, okv_oref, okv_onull, okv_orf, okv_aref, okv_b0, okv_b1, okv_z0, okv_bI, ckI_nI, lt31, leT, reduceCtorEq, List.mem_cons, List.mem_singleton, List.not_mem_nil, or_true, true_or, or_false, false_or, toR_ref, toR_null, ↓reduceIte, q2, n_X13_apply, e_X13_apply_0, e_X13_apply_1]
  · obtain ⟨ga, q1, q2⟩ := he
    have x := c_opt (Ω := Ω) hG hsz hFe hA.r hL q1 q2
    refine ARes.of (x.mono (by simp only [cntA, cntE, cK]; omega) (by simp only [cntA, cntE, cM]; omega)) (fun K => ?_)
    simp (disch := first | omega | (simp only [hnew_21, hput_21, hnew_22, hput_22]; omega) | exact isR_ref | exact isR_null | exact isR_rf | exact isR_fmt | assumption | decide) only [gf, pf, clN, aln, gaI, gaL, gaR, saI, saR, isI, ctB, isB, gB, hput_n, hput_e, hput_21, hput_22, hnew_n, hnew_e, hnew_21, hnew_22, Option.bind_some, Option.map_some, List.lookup_cons, List.lookup_nil, beq_self_eq_true, List.getElem?_cons_zero, List.getElem?_cons_succ, List.set_cons_zero, List.set_cons_succ, List.length_cons, List.length_nil, Nat.reduceAdd, Nat.reduceLT, Nat.reduceLeDiff, Nat.reduceBEq, Nat.reduceEqDiff, okv_int, okv_oref, okv_onull, okv_orf, okv_aref, okv_b0, okv_b1, okv_z0, okv_bI, ckI_nI, lt31, leT, reduceCtorEq, List.mem_cons, List.mem_singleton, List.not_mem_nil, or_true, true_or, or_false, false_or, toR_ref, toR_null, ↓reduceIte, q1]
  · obtain ⟨ga, q1, q2⟩ := he
    have x := c_minus (Ω := Ω) hG hsz hFe hA.r hL q1 q2
    refine ARes.of (x.mono (by simp only [cntA, cntE, cK]; omega) (by simp only [cntA, cntE, cM]; omega)) (fun K => ?_)
    simp (disch := first | omega | (simp only [hnew_21, hput_21, hnew_22, hput_22]; omega) | exact isR_ref | exact isR_null | exact isR_rf | exact isR_fmt | assumption | decide) only [gf, pf, clN, aln, gaI, gaL, gaR, saI, saR, isI, ctB, isB, gB, hput_n, hput_e, hput_21, hput_22, hnew_n, hnew_e, hnew_21, hnew_22, Option.bind_some, Option.map_some, List.lookup_cons, List.lookup_nil, beq_self_eq_true, List.getElem?_cons_zero, List.getElem?_cons_succ, List.set_cons_zero, List.set_cons_succ, List.length_cons, List.length_nil, Nat.reduceAdd, Nat.reduceLT, Nat.reduceLeDiff, Nat.reduceBEq, Nat.reduceEqDiff, okv_int, okv_oref, okv_onull, okv_orf, okv_aref, okv_b0, okv_b1, okv_z0, okv_bI, ckI_nI, lt31, leT, reduceCtorEq, List.mem_cons, List.mem_singleton, List.not_mem_nil, or_true, true_or, or_false, false_or, toR_ref, toR_null, ↓reduceIte, q1]
  · obtain ⟨arr, f, q1, q2, q3, q4⟩ := he
    have x := c_union (Ω := Ω) hG hsz hFe hA.r hL q1 q2 q3 q4
    refine ARes.of (x.mono (by simp only [cntA, cntE, cK]; omega) (by simp only [cntA, cntE, cM]; omega)) (fun K => ?_)
    simp (disch := first | omega | (simp only [hnew_21, hput_21, hnew_22, hput_22]; omega) | exact isR_ref | exact isR_null | exact isR_rf | exact isR_fmt | assumption | decide) only [gf, pf, clN, aln, gaI, gaL, gaR, saI, saR, isI, ctB, isB, gB, hput_n, hput_e, hput_21, hput_22, hnew_n, hnew_e, hnew_21, hnew_22, Option.bind_some, Option.map_some, List.lookup_cons, List.lookup_nil, beq_self_eq_true, List.getElem?_cons_zero, List.getElem?_cons_succ, List.set_cons_zero, List.set_cons_succ, List.length_cons, List.length_nil, Nat.reduceAdd, Nat.reduceLT, Nat.reduceLeDiff, Nat.reduceBEq, Nat.reduceEqDiff, okv_int, okv_oref, okv_onull, okv_orf, okv_aref, okv_b0, okv_b1, okv_z0, okv_bI, ckI_nI, lt31, leT, reduceCtorEq, List.mem_cons, List.mem_singleton, List.not_mem_nil, or_true, true_or, or_false, false_or, toR_ref, toR_null, ↓reduceIte, q1]
end CK
