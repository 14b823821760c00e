/-! COMPONENT: elements -/
def cntL {G : Type} (cn : G → Nat × Nat) : List G → Nat × Nat
  | [] => (0, 0)
  | g :: gs => ((cn g).1 + (cntL cn gs).1, (cn g).2 + (cntL cn gs).2)
def cntE {G : Type} (cn : G → Nat × Nat) (e : El G) : Nat × Nat := match e with
  | .inl _ => (1, 0)
  | .inr (.inl _) => (1, 0)
  | .inr (.inr (.inl g)) => ((cn g).1 + 1, (cn g).2)
  | .inr (.inr (.inr (.inl g))) => ((cn g).1 + 1, (cn g).2)
  | .inr (.inr (.inr (.inr gs))) => ((cntL cn gs).1 + 1, (cntL cn gs).2)
def cnt : (n : Nat) → GT n → Nat × Nat
  | 0 => fun e => nomatch e
  | n + 1 => fun els => ((cntL (cntE (cnt n)) els).1, (cntL (cntE (cnt n)) els).2 + 1)
def cK (u : Nat × Nat) : Nat := 610 * u.1 + 4 * u.2
def cM (u : Nat × Nat) : Nat := 2430 * u.1 + 159 * u.2
theorem FRes.mono {h : AH} {K C K' C' : Nat} {r : Option (List Sol)} {o : Option Rs} (x : FRes h K C r o) (hK : K ≤ K') (hC : C ≤ C') : FRes h K' C' r o := by
  rcases x with ⟨l, a, b, h', q1, q2, q3, q5, q6, q4⟩ | ⟨q1, e, h', q2, q3, q4⟩
  · exact .inl ⟨l, a, b, h', q1, q2, q3, q5, q6, q4.mono (fun _ q => q) hK hC⟩
  · exact .inr ⟨q1, e, h', q2, q3, q4.mono (fun _ q => q) hK hC⟩
section CI
variable {Ω : Om} {d D : Nat} {h h' h0 h1 h2 : AH} {a b c : Nat} {s : Sol} {k m k' m' : Nat} {S : List Nat} {A B M l : List Sol} {L : List Tri} {p : Pat}
set_option maxHeartbeats 2000000 in
theorem c_oin (hsz : Ω.sz ≤ h0.2.1) {fa fb i K C : Nat} {l0 l2 : Value} (ha : h0.2.1 ≤ fa) (hb : h0.2.1 ≤ fb) (hA : FndR h0 a A) (hB : FndR h0 b B) (hi : A[i]? = some s) : ∀ (m j : Nat) (h : AH) (M : List Sol) (any : Bool), j + m = B.length → Fil h0 K C fa fb M h → ((M ++ mtch s (B.drop j)).length ≤ 150 ∧ ∃ h', gO PG Ω (D + 12) 143 36 [l0, .ref a, l2, .ref b, .ref fa, .int (nI i), .int (bI any), .int (nI j)] [] h = gO PG Ω (D + 12) 143 99 [l0, .ref a, l2, .ref b, .ref fa, .int (nI i), .int (bI (any || (B.drop j).any (compB s))), .int (nI B.length)] [] h' ∧ Fil h0 K C fa fb (M ++ mtch s (B.drop j)) h') ∨ (150 < (M ++ mtch s (B.drop j)).length ∧ Thr h0 (K + 303) (C + 1063) (gO PG Ω (D + 12) 143 36 [l0, .ref a, l2, .ref b, .ref fa, .int (nI i), .int (bI any), .int (nI j)] [] h)) := by
  have hil := (List.getElem?_eq_some_iff.mp hi).1
  intro m
  induction m with
  | zero =>
    intro j h M any hj F
    have : j = B.length := by omega
    subst this
    have hB' := hB.nx F.2
    obtain ⟨b2, f2, t1, t2, t3, t4⟩ := hB'
    have hMl : M.length ≤ 150 := by obtain ⟨_, _, _, q, _⟩ := F.1; exact q
    rw [List.drop_length]
    have e0 : mtch s [] = [] := rfl
    rw [e0, List.append_nil, List.any_nil, Bool.or_false]
    refine .inl ⟨hMl, h, ?_, F⟩
    rw [e_X19_apply_36]
    simp (disch := first | omega | (simp only [hnew_21, hput_21, hnew_22, hput_22]; omega) | exact isR_ref | exact isR_null | exact isR_rf | exact isR_fmt | assumption | decide) only [e_X19_apply_38, e_X19_apply_39, e_X19_apply_42, e_X19_apply_45, e_X19_apply_46, e_X19_apply_49, e_X19_apply_51, e_X19_apply_52, e_X19_apply_53, e_X19_apply_56, e_X19_apply_58, e_X19_apply_59, e_X19_apply_62, e_X19_apply_65, e_X19_apply_68, e_X19_apply_70, e_X19_apply_71, e_X19_apply_74, e_X19_apply_76, e_X19_apply_77, e_X19_apply_78, e_X19_apply_81, e_X19_apply_83, e_X19_apply_84, e_X19_apply_87, e_X19_apply_90, e_X19_apply_91, e_X19_apply_93, e_X19_apply_96, cR_ref, cR_null, cR_rf, c1_int, c1_ref, c1_null, c1_rf, kz_int, kz_ref, kz_null, kz_rf, kz_U, kz_long, nB_null, nB_ref, rf_none, rf_some, bV_ret, bV_thr, bA_ret, bA_thr, bX_ret, bX_thr, len4_0, len4_1, len4_2, len4_3, len4_4, true_and, and_true, and_self, if_true, if_false, Option.bind_some, nR_b1, nR_b0, nR_bI, nI_1z, nI_0z, bI_z, if_nn, gf, pf, clN, aln, gaI, gaL, gaR, saI, saR, isI, ctB, isB, gB, hput_n, hput_e, hput_21, hput_22, hnew_n, hnew_e, hnew_21, hnew_22, Option.bind_some, Option.map_some, List.lookup_cons, List.lookup_nil, beq_self_eq_true, List.getElem?_cons_zero, List.getElem?_cons_succ, List.set_cons_zero, List.set_cons_succ, List.length_cons, List.length_nil, Nat.reduceAdd, Nat.reduceLT, Nat.reduceLeDiff, Nat.reduceBEq, Nat.reduceEqDiff, okv_int, okv_oref, okv_onull, okv_orf, okv_aref, okv_b0, okv_b1, okv_z0, okv_bI, ckI_nI, lt31, leT, reduceCtorEq, List.mem_cons, List.mem_singleton, List.not_mem_nil, or_true, true_or, or_false, false_or, toR_ref, toR_null, ↓reduceIte, t1, ↓nI_lt_if, Nat.lt_irrefl]
  | succ m ih =>
    intro j h M any hj F
    have hjl : j < B.length := by omega
    have hg : B[j]? = some B[j] := List.getElem?_eq_getElem hjl
    have hdr : B.drop j = B[j] :: B.drop (j + 1) := List.drop_eq_getElem_cons hjl
    generalize B[j] = t at hg hdr
    have hA' := hA.nx F.2
    have hB' := hB.nx F.2
    have hAl : A.length ≤ 150 := by obtain ⟨_, _, _, _, q, _⟩ := hA'; exact q
    have hBl : B.length ≤ 150 := by obtain ⟨_, _, _, _, q, _⟩ := hB'; exact q
    obtain ⟨b1, f1, p, s1, s2, s3, s4⟩ := hA'.at hi
    obtain ⟨b2, f2, q, t1, t2, t3, t4⟩ := hB'.at hg
    obtain ⟨fs0, cp⟩ : ∃ fs, h.1 p = some (.inr (20, fs)) := by obtain ⟨_, _, z, _⟩ := s4; exact ⟨_, z⟩
    obtain ⟨fs1, cfa⟩ : ∃ fs, h.1 fa = some (.inr (19, fs)) := by obtain ⟨_, z, _⟩ := F.1; exact ⟨_, z⟩
    have ec := c_compat (Ω := Ω) (d := D + 7) s4 t4
    have hFe := F.2.2.1
    have hszh : Ω.sz ≤ h.2.1 := by have := F.2.2.2.1; omega
    rw [hdr, List.any_cons]
    have hMl : M.length ≤ 150 := by obtain ⟨_, _, _, q, _⟩ := F.1; exact q
    cases hc : compB s t with
    | false =>
      rw [hc] at ec
      have estep : gO PG Ω (D + 12) 143 36 [l0, .ref a, l2, .ref b, .ref fa, .int (nI i), .int (bI any), .int (nI j)] [] h = gO PG Ω (D + 12) 143 36 [l0, .ref a, l2, .ref b, .ref fa, .int (nI i), .int (bI any), .int (nI (j + 1))] [] h := by
        rw [e_X19_apply_36]
        simp (disch := first | omega | (simp only [hnew_21, hput_21, hnew_22, hput_22]; omega) | exact isR_ref | exact isR_null | exact isR_rf | exact isR_fmt | assumption | decide) only [e_X19_apply_38, e_X19_apply_39, e_X19_apply_42, e_X19_apply_45, e_X19_apply_46, e_X19_apply_49, e_X19_apply_51, e_X19_apply_52, e_X19_apply_53, e_X19_apply_56, e_X19_apply_58, e_X19_apply_59, e_X19_apply_62, e_X19_apply_65, e_X19_apply_68, e_X19_apply_70, e_X19_apply_71, e_X19_apply_74, e_X19_apply_76, e_X19_apply_77, e_X19_apply_78, e_X19_apply_81, e_X19_apply_83, e_X19_apply_84, e_X19_apply_87, e_X19_apply_90, e_X19_apply_91, e_X19_apply_93, e_X19_apply_96, cR_ref, cR_null, cR_rf, c1_int, c1_ref, c1_null, c1_rf, kz_int, kz_ref, kz_null, kz_rf, kz_U, kz_long, nB_null, nB_ref, rf_none, rf_some, bV_ret, bV_thr, bA_ret, bA_thr, bX_ret, bX_thr, len4_0, len4_1, len4_2, len4_3, len4_4, true_and, and_true, and_self, if_true, if_false, Option.bind_some, nR_b1, nR_b0, nR_bI, nI_1z, nI_0z, bI_z, if_nn, gf, pf, clN, aln, gaI, gaL, gaR, saI, saR, isI, ctB, isB, gB, hput_n, hput_e, hput_21, hput_22, hnew_n, hnew_e, hnew_21, hnew_22, Option.bind_some, Option.map_some, List.lookup_cons, List.lookup_nil, beq_self_eq_true, List.getElem?_cons_zero, List.getElem?_cons_succ, List.set_cons_zero, List.set_cons_succ, List.length_cons, List.length_nil, Nat.reduceAdd, Nat.reduceLT, Nat.reduceLeDiff, Nat.reduceBEq, Nat.reduceEqDiff, okv_int, okv_oref, okv_onull, okv_orf, okv_aref, okv_b0, okv_b1, okv_z0, okv_bI, ckI_nI, lt31, leT, reduceCtorEq, List.mem_cons, List.mem_singleton, List.not_mem_nil, or_true, true_or, or_false, false_or, toR_ref, toR_null, ↓reduceIte, nI_add, pk_mul, cp, s1, s2, s3, t1, t2, t3, ↓nI_lt_if, hjl, ec]
      rw [estep, mtch_cons_f hc, Bool.false_or]
      exact ih (j + 1) h M any (by omega) F
    | true =>
      rw [hc] at ec
      obtain ⟨h1, j1, j2, j3⟩ := c_join (Ω := Ω) (d := D + 9) hszh hFe s4 t4
      obtain ⟨fs2, cfa1⟩ : ∃ fs, h1.1 fa = some (.inr (19, fs)) := by obtain ⟨_, z, _⟩ := F.1.nx j3; exact ⟨_, z⟩
      rw [mtch_cons_t hc, Bool.true_or, Bool.or_true]
      by_cases h150 : M.length < 150
      · obtain ⟨h2, r1, r2⟩ := Fil.add (Ω := Ω) (d := D + 11) hsz ha hb j3 (by omega) (by omega) F j2 h150
        have estep : gO PG Ω (D + 12) 143 36 [l0, .ref a, l2, .ref b, .ref fa, .int (nI i), .int (bI any), .int (nI j)] [] h = gO PG Ω (D + 12) 143 36 [l0, .ref a, l2, .ref b, .ref fa, .int (nI i), .int (bI true), .int (nI (j + 1))] [] h2 := by
          rw [e_X19_apply_36]
          simp (disch := first | omega | (simp only [hnew_21, hput_21, hnew_22, hput_22]; omega) | exact isR_ref | exact isR_null | exact isR_rf | exact isR_fmt | assumption | decide) only [e_X19_apply_38, e_X19_apply_39, e_X19_apply_42, e_X19_apply_45, e_X19_apply_46, e_X19_apply_49, e_X19_apply_51, e_X19_apply_52, e_X19_apply_53, e_X19_apply_56, e_X19_apply_58, e_X19_apply_59, e_X19_apply_62, e_X19_apply_65, e_X19_apply_68, e_X19_apply_70, e_X19_apply_71, e_X19_apply_74, e_X19_apply_76, e_X19_apply_77, e_X19_apply_78, e_X19_apply_81, e_X19_apply_83, e_X19_apply_84, e_X19_apply_87, e_X19_apply_90, e_X19_apply_91, e_X19_apply_93, e_X19_apply_96, cR_ref, cR_null, cR_rf, c1_int, c1_ref, c1_null, c1_rf, kz_int, kz_ref, kz_null, kz_rf, kz_U, kz_long, nB_null, nB_ref, rf_none, rf_some, bV_ret, bV_thr, bA_ret, bA_thr, bX_ret, bX_thr, len4_0, len4_1, len4_2, len4_3, len4_4, true_and, and_true, and_self, if_true, if_false, Option.bind_some, nR_b1, nR_b0, nR_bI, nI_1z, nI_0z, bI_z, if_nn, gf, pf, clN, aln, gaI, gaL, gaR, saI, saR, isI, ctB, isB, gB, hput_n, hput_e, hput_21, hput_22, hnew_n, hnew_e, hnew_21, hnew_22, Option.bind_some, Option.map_some, List.lookup_cons, List.lookup_nil, beq_self_eq_true, List.getElem?_cons_zero, List.getElem?_cons_succ, List.set_cons_zero, List.set_cons_succ, List.length_cons, List.length_nil, Nat.reduceAdd, Nat.reduceLT, Nat.reduceLeDiff, Nat.reduceBEq, Nat.reduceEqDiff, okv_int, okv_oref, okv_onull, okv_orf, okv_aref, okv_b0, okv_b1, okv_z0, okv_bI, ckI_nI, lt31, leT, reduceCtorEq, List.mem_cons, List.mem_singleton, List.not_mem_nil, or_true, true_or, or_false, false_or, toR_ref, toR_null, ↓reduceIte, nI_add, pk_mul, cp, cfa, cfa1, s1, s2, s3, t1, t2, t3, ↓nI_lt_if, hjl, ec, j1, r1, bI_t]
        rw [estep]
        have := ih (j + 1) h2 _ true (by omega) r2
        rw [List.append_assoc, List.singleton_append, Bool.true_or] at this
        exact this
      · have hM150 : M.length = 150 := by omega
        obtain ⟨e, h2, r1, r2, r3⟩ := Fil.ful (Ω := Ω) (d := D + 3) (c := h.2.1) j3 (by omega) (by omega) F hM150
        refine .inr ⟨by rw [List.length_append, List.length_cons]; omega, e, h2, ?_, r2, r3⟩
        rw [e_X19_apply_36]
        simp (disch := first | omega | (simp only [hnew_21, hput_21, hnew_22, hput_22]; omega) | exact isR_ref | exact isR_null | exact isR_rf | exact isR_fmt | assumption | decide) only [e_X19_apply_38, e_X19_apply_39, e_X19_apply_42, e_X19_apply_45, e_X19_apply_46, e_X19_apply_49, e_X19_apply_51, e_X19_apply_52, e_X19_apply_53, e_X19_apply_56, e_X19_apply_58, e_X19_apply_59, e_X19_apply_62, e_X19_apply_65, e_X19_apply_68, e_X19_apply_70, e_X19_apply_71, e_X19_apply_74, e_X19_apply_76, e_X19_apply_77, e_X19_apply_78, e_X19_apply_81, e_X19_apply_83, e_X19_apply_84, e_X19_apply_87, e_X19_apply_90, e_X19_apply_91, e_X19_apply_93, e_X19_apply_96, cR_ref, cR_null, cR_rf, c1_int, c1_ref, c1_null, c1_rf, kz_int, kz_ref, kz_null, kz_rf, kz_U, kz_long, nB_null, nB_ref, rf_none, rf_some, bV_ret, bV_thr, bA_ret, bA_thr, bX_ret, bX_thr, len4_0, len4_1, len4_2, len4_3, len4_4, true_and, and_true, and_self, if_true, if_false, Option.bind_some, nR_b1, nR_b0, nR_bI, nI_1z, nI_0z, bI_z, if_nn, gf, pf, clN, aln, gaI, gaL, gaR, saI, saR, isI, ctB, isB, gB, hput_n, hput_e, hput_21, hput_22, hnew_n, hnew_e, hnew_21, hnew_22, Option.bind_some, Option.map_some, List.lookup_cons, List.lookup_nil, beq_self_eq_true, List.getElem?_cons_zero, List.getElem?_cons_succ, List.set_cons_zero, List.set_cons_succ, List.length_cons, List.length_nil, Nat.reduceAdd, Nat.reduceLT, Nat.reduceLeDiff, Nat.reduceBEq, Nat.reduceEqDiff, okv_int, okv_oref, okv_onull, okv_orf, okv_aref, okv_b0, okv_b1, okv_z0, okv_bI, ckI_nI, lt31, leT, reduceCtorEq, List.mem_cons, List.mem_singleton, List.not_mem_nil, or_true, true_or, or_false, false_or, toR_ref, toR_null, ↓reduceIte, nI_add, pk_mul, cp, cfa, cfa1, s1, s2, s3, t1, t2, t3, ↓nI_lt_if, hjl, ec, j1, r1]
def oneO (B : List Sol) (s : Sol) : List Sol := if mtch s B = [] then [s] else mtch s B
theorem optL_eq : optL A B = A.flatMap (oneO B) := rfl
set_option maxHeartbeats 1000000 in
theorem c_oou (hsz : Ω.sz ≤ h0.2.1) {fa fb K C : Nat} {l0 l2 : Value} (ha : h0.2.1 ≤ fa) (hb : h0.2.1 ≤ fb) (hA : FndR h0 a A) (hB : FndR h0 b B) : ∀ (m i : Nat) (h : AH) (M : List Sol) (l6 l7 : Value), i + m = A.length → Fil h0 K C fa fb M h → ((M ++ (A.drop i).flatMap (oneO B)).length ≤ 150 ∧ ∃ h', gO PG Ω (D + 12) 143 21 [l0, .ref a, l2, .ref b, .ref fa, .int (nI i), l6, l7] [] h = some (.returned (some (.ref fa)), h') ∧ Fil h0 K C fa fb (M ++ (A.drop i).flatMap (oneO B)) h') ∨ (150 < (M ++ (A.drop i).flatMap (oneO B)).length ∧ Thr h0 (K + 303) (C + 1063) (gO PG Ω (D + 12) 143 21 [l0, .ref a, l2, .ref b, .ref fa, .int (nI i), l6, l7] [] h)) := by
  intro m
  induction m with
  | zero =>
    intro i h M l6 l7 hi F
    have : i = A.length := by omega
    subst this
    obtain ⟨b1, f1, s1, s2, s3, s4⟩ := hA.nx F.2
    have hMl : M.length ≤ 150 := by obtain ⟨_, _, _, q, _⟩ := F.1; exact q
    rw [List.drop_length, List.flatMap_nil, List.append_nil]
    refine .inl ⟨hMl, h, ?_, F⟩
    rw [e_X19_apply_21]
    simp (disch := first | omega | (simp only [hnew_21, hput_21, hnew_22, hput_22]; omega) | exact isR_ref | exact isR_null | exact isR_rf | exact isR_fmt | assumption | decide) only [e_X19_apply_23, e_X19_apply_24, e_X19_apply_27, e_X19_apply_30, e_X19_apply_31, e_X19_apply_33, e_X19_apply_34, e_X19_apply_122, e_X19_apply_124, cR_ref, cR_null, cR_rf, c1_int, c1_ref, c1_null, c1_rf, kz_int, kz_ref, kz_null, kz_rf, kz_U, kz_long, nB_null, nB_ref, rf_none, rf_some, bV_ret, bV_thr, bA_ret, bA_thr, bX_ret, bX_thr, len4_0, len4_1, len4_2, len4_3, len4_4, true_and, and_true, and_self, if_true, if_false, Option.bind_some, nR_b1, nR_b0, nR_bI, nI_1z, nI_0z, bI_z, if_nn, gf, pf, clN, aln, gaI, gaL, gaR, saI, saR, isI, ctB, isB, gB, hput_n, hput_e, hput_21, hput_22, hnew_n, hnew_e, hnew_21, hnew_22, Option.bind_some, Option.map_some, List.lookup_cons, List.lookup_nil, beq_self_eq_true, List.getElem?_cons_zero, List.getElem?_cons_succ, List.set_cons_zero, List.set_cons_succ, List.length_cons, List.length_nil, Nat.reduceAdd, Nat.reduceLT, Nat.reduceLeDiff, Nat.reduceBEq, Nat.reduceEqDiff, okv_int, okv_oref, okv_onull, okv_orf, okv_aref, okv_b0, okv_b1, okv_z0, okv_bI, ckI_nI, lt31, leT, reduceCtorEq, List.mem_cons, List.mem_singleton, List.not_mem_nil, or_true, true_or, or_false, false_or, toR_ref, toR_null, ↓reduceIte, s1, ↓nI_lt_if, Nat.lt_irrefl]
  | succ m ih =>
    intro i h M l6 l7 hi F
    have hil : i < A.length := by omega
    have hg : A[i]? = some A[i] := List.getElem?_eq_getElem hil
    have hdr : A.drop i = A[i] :: A.drop (i + 1) := List.drop_eq_getElem_cons hil
    generalize A[i] = s at hg hdr
    have hA' := hA.nx F.2
    have hAl : A.length ≤ 150 := by obtain ⟨_, _, _, _, q, _⟩ := hA'; exact q
    obtain ⟨b1, f1, s1, s2, s3, s4⟩ := hA'
    have e1 : gO PG Ω (D + 12) 143 21 [l0, .ref a, l2, .ref b, .ref fa, .int (nI i), l6, l7] [] h = gO PG Ω (D + 12) 143 36 [l0, .ref a, l2, .ref b, .ref fa, .int (nI i), .int (bI false), .int (nI 0)] [] h := by
      rw [e_X19_apply_21]
      simp (disch := first | omega | (simp only [hnew_21, hput_21, hnew_22, hput_22]; omega) | exact isR_ref | exact isR_null | exact isR_rf | exact isR_fmt | assumption | decide) only [e_X19_apply_23, e_X19_apply_24, e_X19_apply_27, e_X19_apply_30, e_X19_apply_31, e_X19_apply_33, e_X19_apply_34, cR_ref, cR_null, cR_rf, c1_int, c1_ref, c1_null, c1_rf, kz_int, kz_ref, kz_null, kz_rf, kz_U, kz_long, nB_null, nB_ref, rf_none, rf_some, bV_ret, bV_thr, bA_ret, bA_thr, bX_ret, bX_thr, len4_0, len4_1, len4_2, len4_3, len4_4, true_and, and_true, and_self, if_true, if_false, Option.bind_some, nR_b1, nR_b0, nR_bI, nI_1z, nI_0z, bI_z, if_nn, gf, pf, clN, aln, gaI, gaL, gaR, saI, saR, isI, ctB, isB, gB, hput_n, hput_e, hput_21, hput_22, hnew_n, hnew_e, hnew_21, hnew_22, Option.bind_some, Option.map_some, List.lookup_cons, List.lookup_nil, beq_self_eq_true, List.getElem?_cons_zero, List.getElem?_cons_succ, List.set_cons_zero, List.set_cons_succ, List.length_cons, List.length_nil, Nat.reduceAdd, Nat.reduceLT, Nat.reduceLeDiff, Nat.reduceBEq, Nat.reduceEqDiff, okv_int, okv_oref, okv_onull, okv_orf, okv_aref, okv_b0, okv_b1, okv_z0, okv_bI, ckI_nI, lt31, leT, reduceCtorEq, List.mem_cons, List.mem_singleton, List.not_mem_nil, or_true, true_or, or_false, false_or, toR_ref, toR_null, ↓reduceIte, s1, ↓nI_lt_if, hil, bI_f]
    rw [e1, hdr, List.flatMap_cons, ← List.append_assoc]
    have hin := c_oin (Ω := Ω) (D := D) (K := K) (C := C) (l0 := l0) (l2 := l2) hsz ha hb hA hB hg B.length 0 h M false (by omega) F
    rw [List.drop_zero, Bool.false_or] at hin
    rcases hin with ⟨g1, h1, g2, g3⟩ | ⟨g1, g2⟩
    · rw [g2]
      cases hany : B.any (compB s) with
      | true =>
        have hm : mtch s B ≠ [] := fun q => by rw [any_mtch.mpr q] at hany; cases hany
        have eo : oneO B s = mtch s B := by unfold oneO; rw [if_neg hm]
        have e2 : gO PG Ω (D + 12) 143 99 [l0, .ref a, l2, .ref b, .ref fa, .int (nI i), .int (bI true), .int (nI B.length)] [] h1 = gO PG Ω (D + 12) 143 21 [l0, .ref a, l2, .ref b, .ref fa, .int (nI (i + 1)), .int (bI true), .int (nI B.length)] [] h1 := by
          simp (disch := first | omega | (simp only [hnew_21, hput_21, hnew_22, hput_22]; omega) | exact isR_ref | exact isR_null | exact isR_rf | exact isR_fmt | assumption | decide) only [e_X19_apply_99, e_X19_apply_101, e_X19_apply_104, e_X19_apply_106, e_X19_apply_107, e_X19_apply_110, e_X19_apply_112, e_X19_apply_113, e_X19_apply_116, e_X19_apply_119, cR_ref, cR_null, cR_rf, c1_int, c1_ref, c1_null, c1_rf, kz_int, kz_ref, kz_null, kz_rf, kz_U, kz_long, nB_null, nB_ref, rf_none, rf_some, bV_ret, bV_thr, bA_ret, bA_thr, bX_ret, bX_thr, len4_0, len4_1, len4_2, len4_3, len4_4, true_and, and_true, and_self, if_true, if_false, Option.bind_some, nR_b1, nR_b0, nR_bI, nI_1z, nI_0z, bI_z, if_nn, reduceCtorEq, nI_add, pk_mul]
        rw [e2, eo]
        exact ih (i + 1) h1 _ _ _ (by omega) g3
      | false =>
        have hm : mtch s B = [] := any_mtch.mp hany
        have eo : oneO B s = [s] := by unfold oneO; rw [if_pos hm]
        rw [hm, List.append_nil] at g1 g3
        rw [eo]
        obtain ⟨b1', f1', p, s1', s2', s3', s4'⟩ := (hA.nx g3.2).at hg
        obtain ⟨fs1, cfa⟩ : ∃ fs, h1.1 fa = some (.inr (19, fs)) := by obtain ⟨_, z, _⟩ := g3.1; exact ⟨_, z⟩
        by_cases h150 : M.length < 150
        · obtain ⟨h2, r1, r2⟩ := Fil.add (Ω := Ω) (d := D + 11) (k := 0) (m := 0) hsz ha hb (Nx.rfl' g3.2.2.1) (by omega) (by omega) g3 s4' h150
          have e2 : gO PG Ω (D + 12) 143 99 [l0, .ref a, l2, .ref b, .ref fa, .int (nI i), .int (bI false), .int (nI B.length)] [] h1 = gO PG Ω (D + 12) 143 21 [l0, .ref a, l2, .ref b, .ref fa, .int (nI (i + 1)), .int (bI false), .int (nI B.length)] [] h2 := by
            simp (disch := first | omega | (simp only [hnew_21, hput_21, hnew_22, hput_22]; omega) | exact isR_ref | exact isR_null | exact isR_rf | exact isR_fmt | assumption | decide) only [e_X19_apply_99, e_X19_apply_101, e_X19_apply_104, e_X19_apply_106, e_X19_apply_107, e_X19_apply_110, e_X19_apply_112, e_X19_apply_113, e_X19_apply_116, e_X19_apply_119, cR_ref, cR_null, cR_rf, c1_int, c1_ref, c1_null, c1_rf, kz_int, kz_ref, kz_null, kz_rf, kz_U, kz_long, nB_null, nB_ref, rf_none, rf_some, bV_ret, bV_thr, bA_ret, bA_thr, bX_ret, bX_thr, len4_0, len4_1, len4_2, len4_3, len4_4, true_and, and_true, and_self, if_true, if_false, Option.bind_some, nR_b1, nR_b0, nR_bI, nI_1z, nI_0z, bI_z, if_nn, gf, pf, clN, aln, gaI, gaL, gaR, saI, saR, isI, ctB, isB, gB, hput_n, hput_e, hput_21, hput_22, hnew_n, hnew_e, hnew_21, hnew_22, Option.bind_some, Option.map_some, List.lookup_cons, List.lookup_nil, beq_self_eq_true, List.getElem?_cons_zero, List.getElem?_cons_succ, List.set_cons_zero, List.set_cons_succ, List.length_cons, List.length_nil, Nat.reduceAdd, Nat.reduceLT, Nat.reduceLeDiff, Nat.reduceBEq, Nat.reduceEqDiff, okv_int, okv_oref, okv_onull, okv_orf, okv_aref, okv_b0, okv_b1, okv_z0, okv_bI, ckI_nI, lt31, leT, reduceCtorEq, List.mem_cons, List.mem_singleton, List.not_mem_nil, or_true, true_or, or_false, false_or, toR_ref, toR_null, ↓reduceIte, nI_add, pk_mul, s1', s2', s3', cfa, r1]
          rw [e2]
          exact ih (i + 1) h2 _ _ _ (by omega) r2
        · have hM150 : M.length = 150 := by omega
          obtain ⟨e, h2, r1, r2, r3⟩ := Fil.ful (Ω := Ω) (d := D + 3) (c := p) (k := 0) (m := 0) (Nx.rfl' g3.2.2.1) (by omega) (by omega) g3 hM150
          refine .inr ⟨by rw [List.length_append, List.length_append, List.length_singleton]; omega, e, h2, ?_, r2, r3⟩
          simp (disch := first | omega | (simp only [hnew_21, hput_21, hnew_22, hput_22]; omega) | exact isR_ref | exact isR_null | exact isR_rf | exact isR_fmt | assumption | decide) only [e_X19_apply_99, e_X19_apply_101, e_X19_apply_104, e_X19_apply_106, e_X19_apply_107, e_X19_apply_110, e_X19_apply_112, e_X19_apply_113, e_X19_apply_116, e_X19_apply_119, cR_ref, cR_null, cR_rf, c1_int, c1_ref, c1_null, c1_rf, kz_int, kz_ref, kz_null, kz_rf, kz_U, kz_long, nB_null, nB_ref, rf_none, rf_some, bV_ret, bV_thr, bA_ret, bA_thr, bX_ret, bX_thr, len4_0, len4_1, len4_2, len4_3, len4_4, true_and, and_true, and_self, if_true, if_false, Option.bind_some, nR_b1, nR_b0, nR_bI, nI_1z, nI_0z, bI_z, if_nn, gf, pf, clN, aln, gaI, gaL, gaR, saI, saR, isI, ctB, isB, gB, hput_n, hput_e, hput_21, hput_22, hnew_n, hnew_e, hnew_21, hnew_22, Option.bind_some, Option.map_some, List.lookup_cons, List.lookup_nil, beq_self_eq_true, List.getElem?_cons_zero, List.getElem?_cons_succ, List.set_cons_zero, List.set_cons_succ, List.length_cons, List.length_nil, Nat.reduceAdd, Nat.reduceLT, Nat.reduceLeDiff, Nat.reduceBEq, Nat.reduceEqDiff, okv_int, okv_oref, okv_onull, okv_orf, okv_aref, okv_b0, okv_b1, okv_z0, okv_bI, ckI_nI, lt31, leT, reduceCtorEq, List.mem_cons, List.mem_singleton, List.not_mem_nil, or_true, true_or, or_false, false_or, toR_ref, toR_null, ↓reduceIte, nI_add, pk_mul, s1', s2', s3', cfa, r1]
    · refine .inr ⟨?_, g2⟩
      have hle : (mtch s B).length ≤ (oneO B s).length := by
        unfold oneO
        by_cases hm : mtch s B = []
        · rw [if_pos hm, hm]; simp
        · rw [if_neg hm]; exact Nat.le_refl _
      rw [List.length_append] at g1
      rw [List.length_append, List.length_append]
      omega
/-- excluded -/
theorem c_exc (hs : SolR h a s) (hB : FndR h b B) : gM PG Ω (D + 6) 146 [.ref a, .ref b] h = some (.returned (some (.int (bI (B.any (csB s))))), h) := by
  obtain ⟨fs0, cp⟩ : ∃ fs, h.1 a = some (.inr (20, fs)) := by obtain ⟨_, _, z, _⟩ := hs; exact ⟨_, z⟩
  have key : ∀ (m j : Nat), j + m = B.length → gO PG Ω (D + 5) 146 2 [.ref a, .ref b, .int (nI j)] [] h = some (.returned (some (.int (bI ((B.drop j).any (csB s))))), h) := by
    intro m
    induction m with
    | zero =>
      intro j hj
      have : j = B.length := by omega
      subst this
      obtain ⟨b2, f2, t1, t2, t3, t4⟩ := hB
      rw [e_X20_excluded_2]
      simp (disch := first | omega | (simp only [hnew_21, hput_21, hnew_22, hput_22]; omega) | exact isR_ref | exact isR_null | exact isR_rf | exact isR_fmt | assumption | decide) only [e_X20_excluded_3, e_X20_excluded_4, e_X20_excluded_7, e_X20_excluded_10, e_X20_excluded_11, e_X20_excluded_12, e_X20_excluded_15, e_X20_excluded_16, e_X20_excluded_17, e_X20_excluded_20, e_X20_excluded_23, e_X20_excluded_24, e_X20_excluded_25, e_X20_excluded_28, e_X20_excluded_29, e_X20_excluded_30, e_X20_excluded_33, e_X20_excluded_36, e_X20_excluded_37, e_X20_excluded_38, e_X20_excluded_41, e_X20_excluded_44, e_X20_excluded_45, cR_ref, cR_null, cR_rf, c1_int, c1_ref, c1_null, c1_rf, kz_int, kz_ref, kz_null, kz_rf, kz_U, kz_long, nB_null, nB_ref, rf_none, rf_some, bV_ret, bV_thr, bA_ret, bA_thr, bX_ret, bX_thr, len4_0, len4_1, len4_2, len4_3, len4_4, true_and, and_true, and_self, if_true, if_false, Option.bind_some, nR_b1, nR_b0, nR_bI, nI_1z, nI_0z, bI_z, if_nn, gf, pf, clN, aln, gaI, gaL, gaR, saI, saR, isI, ctB, isB, gB, hput_n, hput_e, hput_21, hput_22, hnew_n, hnew_e, hnew_21, hnew_22, Option.bind_some, Option.map_some, List.lookup_cons, List.lookup_nil, beq_self_eq_true, List.getElem?_cons_zero, List.getElem?_cons_succ, List.set_cons_zero, List.set_cons_succ, List.length_cons, List.length_nil, Nat.reduceAdd, Nat.reduceLT, Nat.reduceLeDiff, Nat.reduceBEq, Nat.reduceEqDiff, okv_int, okv_oref, okv_onull, okv_orf, okv_aref, okv_b0, okv_b1, okv_z0, okv_bI, ckI_nI, lt31, leT, reduceCtorEq, List.mem_cons, List.mem_singleton, List.not_mem_nil, or_true, true_or, or_false, false_or, toR_ref, toR_null, ↓reduceIte, t1, ↓nI_lt_if, Nat.lt_irrefl, List.drop_length, List.any_nil, bI_f]
    | succ m ih =>
      intro j hj
      have hjl : j < B.length := by omega
      have hg : B[j]? = some B[j] := List.getElem?_eq_getElem hjl
      have hdr : B.drop j = B[j] :: B.drop (j + 1) := List.drop_eq_getElem_cons hjl
      generalize B[j] = t at hg hdr
      have hBl : B.length ≤ 150 := by obtain ⟨_, _, _, _, q, _⟩ := hB; exact q
      obtain ⟨b2, f2, q, t1, t2, t3, t4⟩ := hB.at hg
      have ec := c_compat (Ω := Ω) (d := D) hs t4
      have es := c_shares (Ω := Ω) (d := D + 4) hs t4
      rw [hdr, List.any_cons]
      cases hc : compB s t with
      | false =>
        rw [hc] at ec
        have hcs : csB s t = false := by unfold csB; rw [hc]; rfl
        rw [hcs, Bool.false_or, ← ih (j + 1) (by omega), e_X20_excluded_2]
        simp (disch := first | omega | (simp only [hnew_21, hput_21, hnew_22, hput_22]; omega) | exact isR_ref | exact isR_null | exact isR_rf | exact isR_fmt | assumption | decide) only [e_X20_excluded_3, e_X20_excluded_4, e_X20_excluded_7, e_X20_excluded_10, e_X20_excluded_11, e_X20_excluded_12, e_X20_excluded_15, e_X20_excluded_16, e_X20_excluded_17, e_X20_excluded_20, e_X20_excluded_23, e_X20_excluded_24, e_X20_excluded_25, e_X20_excluded_28, e_X20_excluded_29, e_X20_excluded_30, e_X20_excluded_33, e_X20_excluded_36, e_X20_excluded_37, e_X20_excluded_38, e_X20_excluded_41, e_X20_excluded_44, e_X20_excluded_45, cR_ref, cR_null, cR_rf, c1_int, c1_ref, c1_null, c1_rf, kz_int, kz_ref, kz_null, kz_rf, kz_U, kz_long, nB_null, nB_ref, rf_none, rf_some, bV_ret, bV_thr, bA_ret, bA_thr, bX_ret, bX_thr, len4_0, len4_1, len4_2, len4_3, len4_4, true_and, and_true, and_self, if_true, if_false, Option.bind_some, nR_b1, nR_b0, nR_bI, nI_1z, nI_0z, bI_z, if_nn, gf, pf, clN, aln, gaI, gaL, gaR, saI, saR, isI, ctB, isB, gB, hput_n, hput_e, hput_21, hput_22, hnew_n, hnew_e, hnew_21, hnew_22, Option.bind_some, Option.map_some, List.lookup_cons, List.lookup_nil, beq_self_eq_true, List.getElem?_cons_zero, List.getElem?_cons_succ, List.set_cons_zero, List.set_cons_succ, List.length_cons, List.length_nil, Nat.reduceAdd, Nat.reduceLT, Nat.reduceLeDiff, Nat.reduceBEq, Nat.reduceEqDiff, okv_int, okv_oref, okv_onull, okv_orf, okv_aref, okv_b0, okv_b1, okv_z0, okv_bI, ckI_nI, lt31, leT, reduceCtorEq, List.mem_cons, List.mem_singleton, List.not_mem_nil, or_true, true_or, or_false, false_or, toR_ref, toR_null, ↓reduceIte, nI_add, pk_mul, cp, t1, t2, t3, ↓nI_lt_if, hjl, ec]
      | true =>
        rw [hc] at ec
        have hcs : csB s t = shrB s t := by unfold csB; rw [hc]; rfl
        rw [hcs]
        cases hsh : shrB s t with
        | false =>
          rw [hsh] at es
          rw [Bool.false_or, ← ih (j + 1) (by omega), e_X20_excluded_2]
          simp (disch := first | omega | (simp only [hnew_21, hput_21, hnew_22, hput_22]; omega) | exact isR_ref | exact isR_null | exact isR_rf | exact isR_fmt | assumption | decide) only [e_X20_excluded_3, e_X20_excluded_4, e_X20_excluded_7, e_X20_excluded_10, e_X20_excluded_11, e_X20_excluded_12, e_X20_excluded_15, e_X20_excluded_16, e_X20_excluded_17, e_X20_excluded_20, e_X20_excluded_23, e_X20_excluded_24, e_X20_excluded_25, e_X20_excluded_28, e_X20_excluded_29, e_X20_excluded_30, e_X20_excluded_33, e_X20_excluded_36, e_X20_excluded_37, e_X20_excluded_38, e_X20_excluded_41, e_X20_excluded_44, e_X20_excluded_45, cR_ref, cR_null, cR_rf, c1_int, c1_ref, c1_null, c1_rf, kz_int, kz_ref, kz_null, kz_rf, kz_U, kz_long, nB_null, nB_ref, rf_none, rf_some, bV_ret, bV_thr, bA_ret, bA_thr, bX_ret, bX_thr, len4_0, len4_1, len4_2, len4_3, len4_4, true_and, and_true, and_self, if_true, if_false, Option.bind_some, nR_b1, nR_b0, nR_bI, nI_1z, nI_0z, bI_z, if_nn, gf, pf, clN, aln, gaI, gaL, gaR, saI, saR, isI, ctB, isB, gB, hput_n, hput_e, hput_21, hput_22, hnew_n, hnew_e, hnew_21, hnew_22, Option.bind_some, Option.map_some, List.lookup_cons, List.lookup_nil, beq_self_eq_true, List.getElem?_cons_zero, List.getElem?_cons_succ, List.set_cons_zero, List.set_cons_succ, List.length_cons, List.length_nil, Nat.reduceAdd, Nat.reduceLT, Nat.reduceLeDiff, Nat.reduceBEq, Nat.reduceEqDiff, okv_int, okv_oref, okv_onull, okv_orf, okv_aref, okv_b0, okv_b1, okv_z0, okv_bI, ckI_nI, lt31, leT, reduceCtorEq, List.mem_cons, List.mem_singleton, List.not_mem_nil, or_true, true_or, or_false, false_or, toR_ref, toR_null, ↓reduceIte, nI_add, pk_mul, cp, t1, t2, t3, ↓nI_lt_if, hjl, ec, es]
        | true =>
          rw [hsh] at es
          rw [Bool.true_or, e_X20_excluded_2]
          simp (disch := first | omega | (simp only [hnew_21, hput_21, hnew_22, hput_22]; omega) | exact isR_ref | exact isR_null | exact isR_rf | exact isR_fmt | assumption | decide) only [e_X20_excluded_3, e_X20_excluded_4, e_X20_excluded_7, e_X20_excluded_10, e_X20_excluded_11, e_X20_excluded_12, e_X20_excluded_15, e_X20_excluded_16, e_X20_excluded_17, e_X20_excluded_20, e_X20_excluded_23, e_X20_excluded_24, e_X20_excluded_25, e_X20_excluded_28, e_X20_excluded_29, e_X20_excluded_30, e_X20_excluded_33, e_X20_excluded_36, e_X20_excluded_37, e_X20_excluded_38, e_X20_excluded_41, e_X20_excluded_44, e_X20_excluded_45, cR_ref, cR_null, cR_rf, c1_int, c1_ref, c1_null, c1_rf, kz_int, kz_ref, kz_null, kz_rf, kz_U, kz_long, nB_null, nB_ref, rf_none, rf_some, bV_ret, bV_thr, bA_ret, bA_thr, bX_ret, bX_thr, len4_0, len4_1, len4_2, len4_3, len4_4, true_and, and_true, and_self, if_true, if_false, Option.bind_some, nR_b1, nR_b0, nR_bI, nI_1z, nI_0z, bI_z, if_nn, gf, pf, clN, aln, gaI, gaL, gaR, saI, saR, isI, ctB, isB, gB, hput_n, hput_e, hput_21, hput_22, hnew_n, hnew_e, hnew_21, hnew_22, Option.bind_some, Option.map_some, List.lookup_cons, List.lookup_nil, beq_self_eq_true, List.getElem?_cons_zero, List.getElem?_cons_succ, List.set_cons_zero, List.set_cons_succ, List.length_cons, List.length_nil, Nat.reduceAdd, Nat.reduceLT, Nat.reduceLeDiff, Nat.reduceBEq, Nat.reduceEqDiff, okv_int, okv_oref, okv_onull, okv_orf, okv_aref, okv_b0, okv_b1, okv_z0, okv_bI, ckI_nI, lt31, leT, reduceCtorEq, List.mem_cons, List.mem_singleton, List.not_mem_nil, or_true, true_or, or_false, false_or, toR_ref, toR_null, ↓reduceIte, nI_add, pk_mul, cp, t1, t2, t3, ↓nI_lt_if, hjl, ec, es, bI_t]
  have := key B.length 0 (by omega)
  rw [List.drop_zero] at this
  rw [← this]
  simp (disch := first | omega | (simp only [hnew_21, hput_21, hnew_22, hput_22]; omega) | exact isR_ref | exact isR_null | exact isR_rf | exact isR_fmt | assumption | decide) only [n_X20_excluded, e_X20_excluded_0, e_X20_excluded_1, cR_ref, cR_null, cR_rf, c1_int, c1_ref, c1_null, c1_rf, kz_int, kz_ref, kz_null, kz_rf, kz_U, kz_long, nB_null, nB_ref, rf_none, rf_some, bV_ret, bV_thr, bA_ret, bA_thr, bX_ret, bX_thr, len4_0, len4_1, len4_2, len4_3, len4_4, true_and, and_true, and_self, if_true, if_false, Option.bind_some, nR_b1, nR_b0, nR_bI, nI_1z, nI_0z, bI_z, if_nn]
set_option maxHeartbeats 1000000 in
theorem c_min1 (hsz : Ω.sz ≤ h0.2.1) {fa fb K C : Nat} {l0 l2 : Value} (ha : h0.2.1 ≤ fa) (hb : h0.2.1 ≤ fb) (hA : FndR h0 a A) (hB : FndR h0 b B) : ∀ (m i : Nat) (h : AH) (M : List Sol), i + m = A.length → M.length ≤ i → Fil h0 K C fa fb M h → ∃ h', gO PG Ω (D + 12) 145 21 [l0, .ref a, l2, .ref b, .ref fa, .int (nI i)] [] h = some (.returned (some (.ref fa)), h') ∧ Fil h0 K C fa fb (M ++ minL (A.drop i) B) h' := by
  intro m
  induction m with
  | zero =>
    intro i h M hi hM F
    have : i = A.length := by omega
    subst this
    obtain ⟨b1, f1, s1, s2, s3, s4⟩ := hA.nx F.2
    refine ⟨h, ?_, ?_⟩
    · rw [e_X20_apply_21]
      simp (disch := first | omega | (simp only [hnew_21, hput_21, hnew_22, hput_22]; omega) | exact isR_ref | exact isR_null | exact isR_rf | exact isR_fmt | assumption | decide) only [e_X20_apply_23, e_X20_apply_24, e_X20_apply_27, e_X20_apply_30, e_X20_apply_31, e_X20_apply_34, e_X20_apply_36, e_X20_apply_37, e_X20_apply_38, e_X20_apply_41, e_X20_apply_44, e_X20_apply_46, e_X20_apply_47, e_X20_apply_50, e_X20_apply_52, e_X20_apply_53, e_X20_apply_56, e_X20_apply_59, e_X20_apply_62, e_X20_apply_64, cR_ref, cR_null, cR_rf, c1_int, c1_ref, c1_null, c1_rf, kz_int, kz_ref, kz_null, kz_rf, kz_U, kz_long, nB_null, nB_ref, rf_none, rf_some, bV_ret, bV_thr, bA_ret, bA_thr, bX_ret, bX_thr, len4_0, len4_1, len4_2, len4_3, len4_4, true_and, and_true, and_self, if_true, if_false, Option.bind_some, nR_b1, nR_b0, nR_bI, nI_1z, nI_0z, bI_z, if_nn, gf, pf, clN, aln, gaI, gaL, gaR, saI, saR, isI, ctB, isB, gB, hput_n, hput_e, hput_21, hput_22, hnew_n, hnew_e, hnew_21, hnew_22, Option.bind_some, Option.map_some, List.lookup_cons, List.lookup_nil, beq_self_eq_true, List.getElem?_cons_zero, List.getElem?_cons_succ, List.set_cons_zero, List.set_cons_succ, List.length_cons, List.length_nil, Nat.reduceAdd, Nat.reduceLT, Nat.reduceLeDiff, Nat.reduceBEq, Nat.reduceEqDiff, okv_int, okv_oref, okv_onull, okv_orf, okv_aref, okv_b0, okv_b1, okv_z0, okv_bI, ckI_nI, lt31, leT, reduceCtorEq, List.mem_cons, List.mem_singleton, List.not_mem_nil, or_true, true_or, or_false, false_or, toR_ref, toR_null, ↓reduceIte, s1, ↓nI_lt_if, Nat.lt_irrefl]
    · rw [List.drop_length]
      unfold minL
      rw [List.filter_nil, List.append_nil]; exact F
  | succ m ih =>
    intro i h M hi hM F
    have hil : i < A.length := by omega
    have hg : A[i]? = some A[i] := List.getElem?_eq_getElem hil
    have hdr : A.drop i = A[i] :: A.drop (i + 1) := List.drop_eq_getElem_cons hil
    generalize A[i] = s at hg hdr
    have hA' := hA.nx F.2
    have hAl : A.length ≤ 150 := by obtain ⟨_, _, _, _, q, _⟩ := hA'; exact q
    obtain ⟨b1, f1, p, s1, s2, s3, s4⟩ := hA'.at hg
    obtain ⟨fs1, cfa⟩ : ∃ fs, h.1 fa = some (.inr (19, fs)) := by obtain ⟨_, z, _⟩ := F.1; exact ⟨_, z⟩
    have ex := c_exc (Ω := Ω) (D := D + 6) s4 (hB.nx F.2)
    have em : (B.any fun b => compB s b && shrB s b) = B.any (csB s) := rfl
    rw [hdr]
    unfold minL
    cases hh : B.any (csB s) with
    | true =>
      rw [hh] at ex
      rw [List.filter_cons_of_neg (by rw [em, hh]; decide)]
      obtain ⟨h2, r1, r2⟩ := ih (i + 1) h M (by omega) (by omega) F
      refine ⟨h2, ?_, r2⟩
      rw [← r1, e_X20_apply_21]
      simp (disch := first | omega | (simp only [hnew_21, hput_21, hnew_22, hput_22]; omega) | exact isR_ref | exact isR_null | exact isR_rf | exact isR_fmt | assumption | decide) only [e_X20_apply_23, e_X20_apply_24, e_X20_apply_27, e_X20_apply_30, e_X20_apply_31, e_X20_apply_34, e_X20_apply_36, e_X20_apply_37, e_X20_apply_38, e_X20_apply_41, e_X20_apply_44, e_X20_apply_46, e_X20_apply_47, e_X20_apply_50, e_X20_apply_52, e_X20_apply_53, e_X20_apply_56, e_X20_apply_59, e_X20_apply_62, e_X20_apply_64, cR_ref, cR_null, cR_rf, c1_int, c1_ref, c1_null, c1_rf, kz_int, kz_ref, kz_null, kz_rf, kz_U, kz_long, nB_null, nB_ref, rf_none, rf_some, bV_ret, bV_thr, bA_ret, bA_thr, bX_ret, bX_thr, len4_0, len4_1, len4_2, len4_3, len4_4, true_and, and_true, and_self, if_true, if_false, Option.bind_some, nR_b1, nR_b0, nR_bI, nI_1z, nI_0z, bI_z, if_nn, gf, pf, clN, aln, gaI, gaL, gaR, saI, saR, isI, ctB, isB, gB, hput_n, hput_e, hput_21, hput_22, hnew_n, hnew_e, hnew_21, hnew_22, Option.bind_some, Option.map_some, List.lookup_cons, List.lookup_nil, beq_self_eq_true, List.getElem?_cons_zero, List.getElem?_cons_succ, List.set_cons_zero, List.set_cons_succ, List.length_cons, List.length_nil, Nat.reduceAdd, Nat.reduceLT, Nat.reduceLeDiff, Nat.reduceBEq, Nat.reduceEqDiff, okv_int, okv_oref, okv_onull, okv_orf, okv_aref, okv_b0, okv_b1, okv_z0, okv_bI, ckI_nI, lt31, leT, reduceCtorEq, List.mem_cons, List.mem_singleton, List.not_mem_nil, or_true, true_or, or_false, false_or, toR_ref, toR_null, ↓reduceIte, nI_add, pk_mul, s1, s2, s3, ↓nI_lt_if, hil, ex]
    | false =>
      rw [hh] at ex
      rw [List.filter_cons_of_pos (by rw [em, hh]; decide)]
      obtain ⟨h1, q1, q2⟩ := Fil.add (Ω := Ω) (d := D + 11) (k := 0) (m := 0) hsz ha hb (Nx.rfl' F.2.2.1) (by omega) (by omega) F s4 (by omega)
      obtain ⟨h2, r1, r2⟩ := ih (i + 1) h1 (M ++ [s]) (by omega) (by rw [List.length_append, List.length_singleton]; omega) q2
      rw [List.append_assoc] at r2
      refine ⟨h2, ?_, r2⟩
      rw [← r1, e_X20_apply_21]
      simp (disch := first | omega | (simp only [hnew_21, hput_21, hnew_22, hput_22]; omega) | exact isR_ref | exact isR_null | exact isR_rf | exact isR_fmt | assumption | decide) only [e_X20_apply_23, e_X20_apply_24, e_X20_apply_27, e_X20_apply_30, e_X20_apply_31, e_X20_apply_34, e_X20_apply_36, e_X20_apply_37, e_X20_apply_38, e_X20_apply_41, e_X20_apply_44, e_X20_apply_46, e_X20_apply_47, e_X20_apply_50, e_X20_apply_52, e_X20_apply_53, e_X20_apply_56, e_X20_apply_59, e_X20_apply_62, e_X20_apply_64, cR_ref, cR_null, cR_rf, c1_int, c1_ref, c1_null, c1_rf, kz_int, kz_ref, kz_null, kz_rf, kz_U, kz_long, nB_null, nB_ref, rf_none, rf_some, bV_ret, bV_thr, bA_ret, bA_thr, bX_ret, bX_thr, len4_0, len4_1, len4_2, len4_3, len4_4, true_and, and_true, and_self, if_true, if_false, Option.bind_some, nR_b1, nR_b0, nR_bI, nI_1z, nI_0z, bI_z, if_nn, gf, pf, clN, aln, gaI, gaL, gaR, saI, saR, isI, ctB, isB, gB, hput_n, hput_e, hput_21, hput_22, hnew_n, hnew_e, hnew_21, hnew_22, Option.bind_some, Option.map_some, List.lookup_cons, List.lookup_nil, beq_self_eq_true, List.getElem?_cons_zero, List.getElem?_cons_succ, List.set_cons_zero, List.set_cons_succ, List.length_cons, List.length_nil, Nat.reduceAdd, Nat.reduceLT, Nat.reduceLeDiff, Nat.reduceBEq, Nat.reduceEqDiff, okv_int, okv_oref, okv_onull, okv_orf, okv_aref, okv_b0, okv_b1, okv_z0, okv_bI, ckI_nI, lt31, leT, reduceCtorEq, List.mem_cons, List.mem_singleton, List.not_mem_nil, or_true, true_or, or_false, false_or, toR_ref, toR_null, ↓reduceIte, nI_add, pk_mul, s1, s2, s3, cfa, ↓nI_lt_if, hil, ex, q1]
end CI
