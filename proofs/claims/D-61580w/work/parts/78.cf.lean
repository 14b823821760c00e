/-! COMPONENT: lists of solutions -/
def fnd0 (h : AH) : AH := hput (hnew (hnew h (.inr (19, [.null, .int 0])) 2) (arR "TripleStore$Solution" 150 (fun _ => none)) 150) h.2.1 (.inr (19, [.ref (h.2.1 + 1), .int 0]))
section CF
variable {Ω : Om} {d : Nat} {h h' h0 h1 h2 : AH} {a b : Nat} {s t : Sol} {k m k' m' : Nat} {S : List Nat} {A B M l : List Sol}
theorem c_fnd0 (hsz : Ω.sz ≤ h.2.1) : gM PG Ω (d + 2) 153 [.ref h.2.1] (hnew h (.inr (19, [.null, .int 0])) 2) = some (.returned none, fnd0 h) := by
  simp (disch := first | omega | (simp only [hnew_21, hput_21, hnew_22, hput_22]; omega) | exact isR_ref | exact isR_null | exact isR_rf | exact isR_fmt | assumption | decide) only [n_X23_init, e_X23_init_0, e_X23_init_1, e_X23_init_4, e_X23_init_5, e_X23_init_8, e_X23_init_11, e_X23_init_14, cR_ref, cR_null, cR_rf, c1_int, c1_ref, c1_null, c1_rf, kz_int, kz_ref, kz_null, kz_rf, kz_U, kz_long, nB_null, nB_ref, rf_none, rf_some, bV_ret, bV_thr, bA_ret, bA_thr, bX_ret, bX_thr, len4_0, len4_1, len4_2, len4_3, len4_4, true_and, and_true, and_self, if_true, if_false, Option.bind_some, nR_b1, nR_b0, nR_bI, nI_1z, nI_0z, bI_z, if_nn, gf, pf, clN, aln, gaI, gaL, gaR, saI, saR, isI, ctB, isB, gB, hput_n, hput_e, hput_21, hput_22, hnew_n, hnew_e, hnew_21, hnew_22, Option.bind_some, Option.map_some, List.lookup_cons, List.lookup_nil, beq_self_eq_true, List.getElem?_cons_zero, List.getElem?_cons_succ, List.set_cons_zero, List.set_cons_succ, List.length_cons, List.length_nil, Nat.reduceAdd, Nat.reduceLT, Nat.reduceLeDiff, Nat.reduceBEq, Nat.reduceEqDiff, okv_int, okv_oref, okv_onull, okv_orf, okv_aref, okv_b0, okv_b1, okv_z0, okv_bI, ckI_nI, lt31, leT, reduceCtorEq, List.mem_cons, List.mem_singleton, List.not_mem_nil, or_true, true_or, or_false, false_or, toR_ref, toR_null, ↓reduceIte, fnd0]
theorem fnd0_nx (hFe : Fe h) : Nx [] 2 152 h (fnd0 h) := (((Nx.rfl' hFe).new.new).put (.inr (Nat.le_refl _)) (by rw [hnew_21, hnew_21]; omega)).mono (fun _ q => q) (by omega) (by omega)
theorem fnd0_R : FndR (fnd0 h) h.2.1 [] := ⟨h.2.1 + 1, fun _ => none, hput_e, by unfold fnd0; rw [hput_n (by omega)]; exact hnew_e, by simp, fun i s q => by simp at q⟩
theorem FndA.r (q : FndA h a b l) : FndR h a l := by obtain ⟨f, q⟩ := q; exact ⟨b, f, q⟩
theorem FndA.nx (t : FndA h a b l) (n : Nx [] k m h h') : FndA h' a b l := by
  obtain ⟨f, h1, h2, h3, h4⟩ := t
  refine ⟨f, n.ob h1 (by decide) (by simp), n.ar h2 (by simp), h3, fun i s q => ?_⟩
  obtain ⟨t, q1, q2⟩ := h4 i s q
  exact ⟨t, q1, q2.fs n FS.nil⟩
theorem fnd0_A : FndA (fnd0 h) h.2.1 (h.2.1 + 1) [] := ⟨fun _ => none, hput_e, by unfold fnd0; rw [hput_n (by omega)]; exact hnew_e, by simp, fun i s q => by simp at q⟩
theorem FndA.fS (q : FndA h a b l) : FS h [a, b] := by
  obtain ⟨f, h1, h2, _⟩ := q
  intro c hc e he
  rcases List.mem_cons.mp hc with rfl | hc
  · rw [h1] at he; cases he; show 19 ∉ _; decide
  · rw [List.mem_singleton.mp hc, h2] at he; cases he; exact ⟨by decide, fun q => nomatch q⟩
theorem c_fadd {c : Nat} (hza : Ω.sz ≤ a) (hzb : Ω.sz ≤ b) (hFe : Fe h) (hA : FndA h a b l) (hs : SolR h c s) (hl : l.length < 150) : ∃ h', gM PG Ω (d + 1) 154 [.ref a, .ref c] h = some (.returned none, h') ∧ FndA h' a b (l ++ [s]) ∧ Nx [a, b] 0 0 h h' ∧ h'.2 = h.2 := by
  have hFS := hA.fS
  obtain ⟨f, h1, h2, h3, h4⟩ := hA
  have hs' := hs
  obtain ⟨g, fs, s1, s2, s3⟩ := hs
  have hal := hFe.lt h1
  have hbl := hFe.lt h2
  have hab : b ≠ a := fun q => by subst q; rw [h1] at h2; cases h2
  have hlne : ¬ l.length = 150 := by omega
  have nx : Nx [a, b] 0 0 h (hput (hput h b (arR "TripleStore$Solution" 150 (va_up f l.length (some c)))) a (.inr (19, [.ref b, .int (nI (l.length + 1))]))) := ((Nx.rfl' hFe).put (.inl (by simp)) hbl).put (.inl (by simp)) hal
  refine ⟨hput (hput h b (arR "TripleStore$Solution" 150 (va_up f l.length (some c)))) a (.inr (19, [.ref b, .int (nI (l.length + 1))])), ?_, ⟨va_up f l.length (some c), by rw [hput_e, List.length_append]; rfl, by rw [hput_n hab, hput_e], by rw [List.length_append, List.length_singleton]; omega, fun i q hq => ?_⟩, nx, rfl⟩
  · simp (disch := first | omega | (simp only [hnew_21, hput_21, hnew_22, hput_22]; omega) | exact isR_ref | exact isR_null | exact isR_rf | exact isR_fmt | assumption | decide) only [n_X23_add, e_X23_add_0, e_X23_add_1, e_X23_add_4, e_X23_add_7, e_X23_add_18, e_X23_add_19, e_X23_add_22, e_X23_add_23, e_X23_add_26, e_X23_add_27, e_X23_add_28, e_X23_add_29, e_X23_add_30, e_X23_add_33, e_X23_add_34, e_X23_add_35, e_X23_add_38, cR_ref, cR_null, cR_rf, c1_int, c1_ref, c1_null, c1_rf, kz_int, kz_ref, kz_null, kz_rf, kz_U, kz_long, nB_null, nB_ref, rf_none, rf_some, bV_ret, bV_thr, bA_ret, bA_thr, bX_ret, bX_thr, len4_0, len4_1, len4_2, len4_3, len4_4, true_and, and_true, and_self, if_true, if_false, Option.bind_some, nR_b1, nR_b0, nR_bI, nI_1z, nI_0z, bI_z, if_nn, gf, pf, clN, aln, gaI, gaL, gaR, saI, saR, isI, ctB, isB, gB, hput_n, hput_e, hput_21, hput_22, hnew_n, hnew_e, hnew_21, hnew_22, Option.bind_some, Option.map_some, List.lookup_cons, List.lookup_nil, beq_self_eq_true, List.getElem?_cons_zero, List.getElem?_cons_succ, List.set_cons_zero, List.set_cons_succ, List.length_cons, List.length_nil, Nat.reduceAdd, Nat.reduceLT, Nat.reduceLeDiff, Nat.reduceBEq, Nat.reduceEqDiff, okv_int, okv_oref, okv_onull, okv_orf, okv_aref, okv_b0, okv_b1, okv_z0, okv_bI, ckI_nI, lt31, leT, reduceCtorEq, List.mem_cons, List.mem_singleton, List.not_mem_nil, or_true, true_or, or_false, false_or, toR_ref, toR_null, ↓reduceIte, nI_add, pk_mul, h1, h2, s1, ↓nI_eq_if, hlne]
  · unfold va_up
    rcases getE_snoc hq with q1 | ⟨rfl, rfl⟩
    · have := (List.getElem?_eq_some_iff.mp q1).1
      obtain ⟨t, u1, u2⟩ := h4 i q q1
      exact ⟨t, by rw [if_neg (by omega)]; exact u1, u2.fs nx hFS⟩
    · exact ⟨c, by rw [if_pos rfl], hs'.fs nx hFS⟩
theorem c_fful {c : Nat} (hA : FndA h a b l) (hl : l.length = 150) : gM PG Ω (d + 9) 154 [.ref a, .ref c] h = some (.threw h.2.1, hnew h (.inr (25, [])) 6) := by
  obtain ⟨f, h1, h2, h3, h4⟩ := hA
  rw [hl] at h1
  simp (disch := first | omega | (simp only [hnew_21, hput_21, hnew_22, hput_22]; omega) | exact isR_ref | exact isR_null | exact isR_rf | exact isR_fmt | assumption | decide) only [n_X23_add, e_X23_add_0, e_X23_add_1, e_X23_add_4, e_X23_add_7, e_X23_add_10, cR_ref, cR_null, cR_rf, c1_int, c1_ref, c1_null, c1_rf, kz_int, kz_ref, kz_null, kz_rf, kz_U, kz_long, nB_null, nB_ref, rf_none, rf_some, bV_ret, bV_thr, bA_ret, bA_thr, bX_ret, bX_thr, len4_0, len4_1, len4_2, len4_3, len4_4, true_and, and_true, and_self, if_true, if_false, Option.bind_some, nR_b1, nR_b0, nR_bI, nI_1z, nI_0z, bI_z, if_nn, gf, pf, clN, aln, gaI, gaL, gaR, saI, saR, isI, ctB, isB, gB, hput_n, hput_e, hput_21, hput_22, hnew_n, hnew_e, hnew_21, hnew_22, Option.bind_some, Option.map_some, List.lookup_cons, List.lookup_nil, beq_self_eq_true, List.getElem?_cons_zero, List.getElem?_cons_succ, List.set_cons_zero, List.set_cons_succ, List.length_cons, List.length_nil, Nat.reduceAdd, Nat.reduceLT, Nat.reduceLeDiff, Nat.reduceBEq, Nat.reduceEqDiff, okv_int, okv_oref, okv_onull, okv_orf, okv_aref, okv_b0, okv_b1, okv_z0, okv_bI, ckI_nI, lt31, leT, reduceCtorEq, List.mem_cons, List.mem_singleton, List.not_mem_nil, or_true, true_or, or_false, false_or, toR_ref, toR_null, ↓reduceIte, h1]
/-- the state of a loop that fills list a (array b) from h0 on -/
def Fil (h0 : AH) (K C : Nat) (a b : Nat) (l : List Sol) (h : AH) : Prop := FndA h a b l ∧ Nx [] (K + 2 * l.length) (C + 7 * l.length) h0 h
theorem Fil.add {c K C : Nat} (hsz : Ω.sz ≤ h0.2.1) (ha : h0.2.1 ≤ a) (hb : h0.2.1 ≤ b) (x : Nx [] k m h h') (hk : k ≤ 2) (hm : m ≤ 7) (F : Fil h0 K C a b l h) (hs : SolR h' c s) (hl : l.length < 150) : ∃ h2, gM PG Ω (d + 1) 154 [.ref a, .ref c] h' = some (.returned none, h2) ∧ Fil h0 K C a b (l ++ [s]) h2 := by
  obtain ⟨h2, e1, e2, e3, e4⟩ := c_fadd (Ω := Ω) (d := d) (by omega) (by omega) x.2.1 (F.1.nx x) hs hl
  refine ⟨h2, e1, e2, ((F.2.trans x).add e3 (fun q hq => ?_)).mono (fun _ q => q) ?_ ?_⟩
  · rcases List.mem_cons.mp hq with rfl | hq
    · exact ha
    · rw [List.mem_singleton.mp hq]; exact hb
  · rw [List.length_append, List.length_singleton]; omega
  · rw [List.length_append, List.length_singleton]; omega
/-- what the end of a full list is -/
def Thr (h0 : AH) (K C : Nat) (o : Option Rs) : Prop := ∃ e h', o = some (.threw e, h') ∧ h'.1 e = some (.inr (25, [])) ∧ Nx [] K C h0 h'
theorem Fil.ful {c K C : Nat} (x : Nx [] k m h h') (hk : k ≤ 2) (hm : m ≤ 7) (F : Fil h0 K C a b l h) (hl : l.length = 150) : Thr h0 (K + 303) (C + 1063) (gM PG Ω (d + 9) 154 [.ref a, .ref c] h') := by
  have e := c_fful (Ω := Ω) (d := d) (c := c) (F.1.nx x) hl
  refine ⟨h'.2.1, hnew h' (.inr (25, [])) 6, e, hnew_e, ((F.2.trans x).new).mono (fun _ q => q) ?_ ?_⟩
  · rw [hl]; omega
  · rw [hl]; omega
theorem FndR.at (F : FndR h a l) {i : Nat} (hi : l[i]? = some s) : ∃ b f c, h.1 a = some (.inr (19, [.ref b, .int (nI l.length)])) ∧ h.1 b = some (arR "TripleStore$Solution" 150 f) ∧ f i = some c ∧ SolR h c s := by
  obtain ⟨b, f, h1, h2, h3, h4⟩ := F
  obtain ⟨c, q1, q2⟩ := h4 i s hi
  exact ⟨b, f, c, h1, h2, q1, q2⟩
set_option maxHeartbeats 2000000 in
theorem c_jin (hsz : Ω.sz ≤ h0.2.1) {fa fb i K C : Nat} (ha : h0.2.1 ≤ fa) (hb : h0.2.1 ≤ fb) (hA : FndR h0 a A) (hB : FndR h0 b B) (hi : A[i]? = some s) : ∀ (m j : Nat) (h : AH) (M : List Sol), j + m = B.length → Fil h0 K C fa fb M h → ((M ++ mtch s (B.drop j)).length ≤ 150 ∧ ∃ h', gO PG Ω (d + 9) 155 21 [.ref a, .ref b, .ref fa, .int (nI i), .int (nI j)] [] h = gO PG Ω (d + 9) 155 75 [.ref a, .ref b, .ref fa, .int (nI i), .int (nI B.length)] [] h' ∧ Fil h0 K C fa fb (M ++ mtch s (B.drop j)) h') ∨ (150 < (M ++ mtch s (B.drop j)).length ∧ Thr h0 (K + 303) (C + 1063) (gO PG Ω (d + 9) 155 21 [.ref a, .ref b, .ref fa, .int (nI i), .int (nI j)] [] h)) := by
  have hil := (List.getElem?_eq_some_iff.mp hi).1
  intro m
  induction m with
  | zero =>
    intro j h M hj F
    have : j = B.length := by omega
    subst this
    have hB' := hB.nx F.2
    obtain ⟨b2, f2, t1, t2, t3, t4⟩ := hB'
    have hMl : M.length ≤ 150 := by obtain ⟨_, _, _, q, _⟩ := F.1; exact q
    rw [List.drop_length]
    have e0 : mtch s [] = [] := rfl
    rw [e0, List.append_nil]
    refine .inl ⟨hMl, h, ?_, F⟩
    rw [e_X23_joined_21]
    simp (disch := first | omega | (simp only [hnew_21, hput_21, hnew_22, hput_22]; omega) | exact isR_ref | exact isR_null | exact isR_rf | exact isR_fmt | assumption | decide) only [e_X23_joined_23, e_X23_joined_24, e_X23_joined_27, e_X23_joined_30, e_X23_joined_31, e_X23_joined_34, e_X23_joined_35, e_X23_joined_36, e_X23_joined_37, e_X23_joined_40, e_X23_joined_42, e_X23_joined_43, e_X23_joined_46, e_X23_joined_49, e_X23_joined_50, e_X23_joined_51, e_X23_joined_54, e_X23_joined_55, e_X23_joined_56, e_X23_joined_57, e_X23_joined_60, e_X23_joined_62, e_X23_joined_63, e_X23_joined_66, e_X23_joined_69, e_X23_joined_72, cR_ref, cR_null, cR_rf, c1_int, c1_ref, c1_null, c1_rf, kz_int, kz_ref, kz_null, kz_rf, kz_U, kz_long, nB_null, nB_ref, rf_none, rf_some, bV_ret, bV_thr, bA_ret, bA_thr, bX_ret, bX_thr, len4_0, len4_1, len4_2, len4_3, len4_4, true_and, and_true, and_self, if_true, if_false, Option.bind_some, nR_b1, nR_b0, nR_bI, nI_1z, nI_0z, bI_z, if_nn, gf, pf, clN, aln, gaI, gaL, gaR, saI, saR, isI, ctB, isB, gB, hput_n, hput_e, hput_21, hput_22, hnew_n, hnew_e, hnew_21, hnew_22, Option.bind_some, Option.map_some, List.lookup_cons, List.lookup_nil, beq_self_eq_true, List.getElem?_cons_zero, List.getElem?_cons_succ, List.set_cons_zero, List.set_cons_succ, List.length_cons, List.length_nil, Nat.reduceAdd, Nat.reduceLT, Nat.reduceLeDiff, Nat.reduceBEq, Nat.reduceEqDiff, okv_int, okv_oref, okv_onull, okv_orf, okv_aref, okv_b0, okv_b1, okv_z0, okv_bI, ckI_nI, lt31, leT, reduceCtorEq, List.mem_cons, List.mem_singleton, List.not_mem_nil, or_true, true_or, or_false, false_or, toR_ref, toR_null, ↓reduceIte, t1, ↓nI_lt_if, Nat.lt_irrefl]
  | succ m ih =>
    intro j h M hj F
    have hjl : j < B.length := by omega
    have hg : B[j]? = some B[j] := List.getElem?_eq_getElem hjl
    have hdr : B.drop j = B[j] :: B.drop (j + 1) := List.drop_eq_getElem_cons hjl
    generalize B[j] = t at hg hdr
    have hA' := hA.nx F.2
    have hB' := hB.nx F.2
    have hAl : A.length ≤ 150 := by obtain ⟨_, _, _, _, q, _⟩ := hA'; exact q
    have hBl : B.length ≤ 150 := by obtain ⟨_, _, _, _, q, _⟩ := hB'; exact q
    obtain ⟨b1, f1, p, s1, s2, s3, s4⟩ := hA'.at hi
    obtain ⟨b2, f2, q, t1, t2, t3, t4⟩ := hB'.at hg
    obtain ⟨fs0, cp⟩ : ∃ fs, h.1 p = some (.inr (20, fs)) := by obtain ⟨_, _, z, _⟩ := s4; exact ⟨_, z⟩
    obtain ⟨fs1, cfa⟩ : ∃ fs, h.1 fa = some (.inr (19, fs)) := by obtain ⟨_, z, _⟩ := F.1; exact ⟨_, z⟩
    have ec := c_compat (Ω := Ω) (d := d + 4) s4 t4
    have hFe := F.2.2.1
    have hszh : Ω.sz ≤ h.2.1 := by have := F.2.2.2.1; omega
    rw [hdr]
    have hMl : M.length ≤ 150 := by obtain ⟨_, _, _, q, _⟩ := F.1; exact q
    cases hc : compB s t with
    | false =>
      rw [hc] at ec
      have estep : gO PG Ω (d + 9) 155 21 [.ref a, .ref b, .ref fa, .int (nI i), .int (nI j)] [] h = gO PG Ω (d + 9) 155 21 [.ref a, .ref b, .ref fa, .int (nI i), .int (nI (j + 1))] [] h := by
        rw [e_X23_joined_21]
        simp (disch := first | omega | (simp only [hnew_21, hput_21, hnew_22, hput_22]; omega) | exact isR_ref | exact isR_null | exact isR_rf | exact isR_fmt | assumption | decide) only [e_X23_joined_23, e_X23_joined_24, e_X23_joined_27, e_X23_joined_30, e_X23_joined_31, e_X23_joined_34, e_X23_joined_35, e_X23_joined_36, e_X23_joined_37, e_X23_joined_40, e_X23_joined_42, e_X23_joined_43, e_X23_joined_46, e_X23_joined_49, e_X23_joined_50, e_X23_joined_51, e_X23_joined_54, e_X23_joined_55, e_X23_joined_56, e_X23_joined_57, e_X23_joined_60, e_X23_joined_62, e_X23_joined_63, e_X23_joined_66, e_X23_joined_69, e_X23_joined_72, cR_ref, cR_null, cR_rf, c1_int, c1_ref, c1_null, c1_rf, kz_int, kz_ref, kz_null, kz_rf, kz_U, kz_long, nB_null, nB_ref, rf_none, rf_some, bV_ret, bV_thr, bA_ret, bA_thr, bX_ret, bX_thr, len4_0, len4_1, len4_2, len4_3, len4_4, true_and, and_true, and_self, if_true, if_false, Option.bind_some, nR_b1, nR_b0, nR_bI, nI_1z, nI_0z, bI_z, if_nn, cp, gf, pf, clN, aln, gaI, gaL, gaR, saI, saR, isI, ctB, isB, gB, hput_n, hput_e, hput_21, hput_22, hnew_n, hnew_e, hnew_21, hnew_22, Option.bind_some, Option.map_some, List.lookup_cons, List.lookup_nil, beq_self_eq_true, List.getElem?_cons_zero, List.getElem?_cons_succ, List.set_cons_zero, List.set_cons_succ, List.length_cons, List.length_nil, Nat.reduceAdd, Nat.reduceLT, Nat.reduceLeDiff, Nat.reduceBEq, Nat.reduceEqDiff, okv_int, okv_oref, okv_onull, okv_orf, okv_aref, okv_b0, okv_b1, okv_z0, okv_bI, ckI_nI, lt31, leT, reduceCtorEq, List.mem_cons, List.mem_singleton, List.not_mem_nil, or_true, true_or, or_false, false_or, toR_ref, toR_null, ↓reduceIte, nI_add, pk_mul, s1, s2, s3, t1, t2, t3, ↓nI_lt_if, hjl, ec]
      rw [estep, mtch_cons_f hc]
      exact ih (j + 1) h M (by omega) F
    | true =>
      rw [hc] at ec
      obtain ⟨h1, j1, j2, j3⟩ := c_join (Ω := Ω) (d := d + 6) hszh hFe s4 t4
      obtain ⟨fs2, cfa1⟩ : ∃ fs, h1.1 fa = some (.inr (19, fs)) := by obtain ⟨_, z, _⟩ := F.1.nx j3; exact ⟨_, z⟩
      rw [mtch_cons_t hc]
      by_cases h150 : M.length < 150
      · obtain ⟨h2, r1, r2⟩ := Fil.add (Ω := Ω) (d := d + 8) hsz ha hb j3 (by omega) (by omega) F j2 h150
        have estep : gO PG Ω (d + 9) 155 21 [.ref a, .ref b, .ref fa, .int (nI i), .int (nI j)] [] h = gO PG Ω (d + 9) 155 21 [.ref a, .ref b, .ref fa, .int (nI i), .int (nI (j + 1))] [] h2 := by
          rw [e_X23_joined_21]
          simp (disch := first | omega | (simp only [hnew_21, hput_21, hnew_22, hput_22]; omega) | exact isR_ref | exact isR_null | exact isR_rf | exact isR_fmt | assumption | decide) only [e_X23_joined_23, e_X23_joined_24, e_X23_joined_27, e_X23_joined_30, e_X23_joined_31, e_X23_joined_34, e_X23_joined_35, e_X23_joined_36, e_X23_joined_37, e_X23_joined_40, e_X23_joined_42, e_X23_joined_43, e_X23_joined_46, e_X23_joined_49, e_X23_joined_50, e_X23_joined_51, e_X23_joined_54, e_X23_joined_55, e_X23_joined_56, e_X23_joined_57, e_X23_joined_60, e_X23_joined_62, e_X23_joined_63, e_X23_joined_66, e_X23_joined_69, e_X23_joined_72, cR_ref, cR_null, cR_rf, c1_int, c1_ref, c1_null, c1_rf, kz_int, kz_ref, kz_null, kz_rf, kz_U, kz_long, nB_null, nB_ref, rf_none, rf_some, bV_ret, bV_thr, bA_ret, bA_thr, bX_ret, bX_thr, len4_0, len4_1, len4_2, len4_3, len4_4, true_and, and_true, and_self, if_true, if_false, Option.bind_some, nR_b1, nR_b0, nR_bI, nI_1z, nI_0z, bI_z, if_nn, cp, cfa, cfa1, gf, pf, clN, aln, gaI, gaL, gaR, saI, saR, isI, ctB, isB, gB, hput_n, hput_e, hput_21, hput_22, hnew_n, hnew_e, hnew_21, hnew_22, Option.bind_some, Option.map_some, List.lookup_cons, List.lookup_nil, beq_self_eq_true, List.getElem?_cons_zero, List.getElem?_cons_succ, List.set_cons_zero, List.set_cons_succ, List.length_cons, List.length_nil, Nat.reduceAdd, Nat.reduceLT, Nat.reduceLeDiff, Nat.reduceBEq, Nat.reduceEqDiff, okv_int, okv_oref, okv_onull, okv_orf, okv_aref, okv_b0, okv_b1, okv_z0, okv_bI, ckI_nI, lt31, leT, reduceCtorEq, List.mem_cons, List.mem_singleton, List.not_mem_nil, or_true, true_or, or_false, false_or, toR_ref, toR_null, ↓reduceIte, nI_add, pk_mul, s1, s2, s3, t1, t2, t3, ↓nI_lt_if, hjl, ec, j1, r1]
        rw [estep]
        have := ih (j + 1) h2 _ (by omega) r2
        rw [List.append_assoc, List.singleton_append] at this
        exact this
      · have hM150 : M.length = 150 := by omega
        obtain ⟨e, h2, r1, r2, r3⟩ := Fil.ful (Ω := Ω) (d := d) (c := h.2.1) j3 (by omega) (by omega) F hM150
        refine .inr ⟨by rw [List.length_append, List.length_cons]; omega, e, h2, ?_, r2, r3⟩
        rw [e_X23_joined_21]
        simp (disch := first | omega | (simp only [hnew_21, hput_21, hnew_22, hput_22]; omega) | exact isR_ref | exact isR_null | exact isR_rf | exact isR_fmt | assumption | decide) only [e_X23_joined_23, e_X23_joined_24, e_X23_joined_27, e_X23_joined_30, e_X23_joined_31, e_X23_joined_34, e_X23_joined_35, e_X23_joined_36, e_X23_joined_37, e_X23_joined_40, e_X23_joined_42, e_X23_joined_43, e_X23_joined_46, e_X23_joined_49, e_X23_joined_50, e_X23_joined_51, e_X23_joined_54, e_X23_joined_55, e_X23_joined_56, e_X23_joined_57, e_X23_joined_60, e_X23_joined_62, e_X23_joined_63, e_X23_joined_66, e_X23_joined_69, e_X23_joined_72, cR_ref, cR_null, cR_rf, c1_int, c1_ref, c1_null, c1_rf, kz_int, kz_ref, kz_null, kz_rf, kz_U, kz_long, nB_null, nB_ref, rf_none, rf_some, bV_ret, bV_thr, bA_ret, bA_thr, bX_ret, bX_thr, len4_0, len4_1, len4_2, len4_3, len4_4, true_and, and_true, and_self, if_true, if_false, Option.bind_some, nR_b1, nR_b0, nR_bI, nI_1z, nI_0z, bI_z, if_nn, cp, cfa, cfa1, gf, pf, clN, aln, gaI, gaL, gaR, saI, saR, isI, ctB, isB, gB, hput_n, hput_e, hput_21, hput_22, hnew_n, hnew_e, hnew_21, hnew_22, Option.bind_some, Option.map_some, List.lookup_cons, List.lookup_nil, beq_self_eq_true, List.getElem?_cons_zero, List.getElem?_cons_succ, List.set_cons_zero, List.set_cons_succ, List.length_cons, List.length_nil, Nat.reduceAdd, Nat.reduceLT, Nat.reduceLeDiff, Nat.reduceBEq, Nat.reduceEqDiff, okv_int, okv_oref, okv_onull, okv_orf, okv_aref, okv_b0, okv_b1, okv_z0, okv_bI, ckI_nI, lt31, leT, reduceCtorEq, List.mem_cons, List.mem_singleton, List.not_mem_nil, or_true, true_or, or_false, false_or, toR_ref, toR_null, ↓reduceIte, nI_add, pk_mul, s1, s2, s3, t1, t2, t3, ↓nI_lt_if, hjl, ec, j1, r1]
set_option maxHeartbeats 1000000 in
theorem c_jou (hsz : Ω.sz ≤ h0.2.1) {fa fb K C : Nat} (ha : h0.2.1 ≤ fa) (hb : h0.2.1 ≤ fb) (hA : FndR h0 a A) (hB : FndR h0 b B) : ∀ (m i : Nat) (h : AH) (M : List Sol) (l4 : Value), i + m = A.length → Fil h0 K C fa fb M h → ((M ++ joinL (A.drop i) B).length ≤ 150 ∧ ∃ h', gO PG Ω (d + 9) 155 10 [.ref a, .ref b, .ref fa, .int (nI i), l4] [] h = some (.returned (some (.ref fa)), h') ∧ Fil h0 K C fa fb (M ++ joinL (A.drop i) B) h') ∨ (150 < (M ++ joinL (A.drop i) B).length ∧ Thr h0 (K + 303) (C + 1063) (gO PG Ω (d + 9) 155 10 [.ref a, .ref b, .ref fa, .int (nI i), l4] [] h)) := by
  intro m
  induction m with
  | zero =>
    intro i h M l4 hi F
    have : i = A.length := by omega
    subst this
    obtain ⟨b1, f1, s1, s2, s3, s4⟩ := hA.nx F.2
    have hMl : M.length ≤ 150 := by obtain ⟨_, _, _, q, _⟩ := F.1; exact q
    have e0 : joinL [] B = [] := rfl
    rw [List.drop_length, e0, List.append_nil]
    refine .inl ⟨hMl, h, ?_, F⟩
    rw [e_X23_joined_10]
    simp (disch := first | omega | (simp only [hnew_21, hput_21, hnew_22, hput_22]; omega) | exact isR_ref | exact isR_null | exact isR_rf | exact isR_fmt | assumption | decide) only [e_X23_joined_11, e_X23_joined_12, e_X23_joined_15, e_X23_joined_18, e_X23_joined_19, e_X23_joined_81, e_X23_joined_82, cR_ref, cR_null, cR_rf, c1_int, c1_ref, c1_null, c1_rf, kz_int, kz_ref, kz_null, kz_rf, kz_U, kz_long, nB_null, nB_ref, rf_none, rf_some, bV_ret, bV_thr, bA_ret, bA_thr, bX_ret, bX_thr, len4_0, len4_1, len4_2, len4_3, len4_4, true_and, and_true, and_self, if_true, if_false, Option.bind_some, nR_b1, nR_b0, nR_bI, nI_1z, nI_0z, bI_z, if_nn, gf, pf, clN, aln, gaI, gaL, gaR, saI, saR, isI, ctB, isB, gB, hput_n, hput_e, hput_21, hput_22, hnew_n, hnew_e, hnew_21, hnew_22, Option.bind_some, Option.map_some, List.lookup_cons, List.lookup_nil, beq_self_eq_true, List.getElem?_cons_zero, List.getElem?_cons_succ, List.set_cons_zero, List.set_cons_succ, List.length_cons, List.length_nil, Nat.reduceAdd, Nat.reduceLT, Nat.reduceLeDiff, Nat.reduceBEq, Nat.reduceEqDiff, okv_int, okv_oref, okv_onull, okv_orf, okv_aref, okv_b0, okv_b1, okv_z0, okv_bI, ckI_nI, lt31, leT, reduceCtorEq, List.mem_cons, List.mem_singleton, List.not_mem_nil, or_true, true_or, or_false, false_or, toR_ref, toR_null, ↓reduceIte, s1, ↓nI_lt_if, Nat.lt_irrefl]
  | succ m ih =>
    intro i h M l4 hi F
    have hil : i < A.length := by omega
    have hg : A[i]? = some A[i] := List.getElem?_eq_getElem hil
    have hdr : A.drop i = A[i] :: A.drop (i + 1) := List.drop_eq_getElem_cons hil
    generalize A[i] = s at hg hdr
    obtain ⟨b1, f1, s1, s2, s3, s4⟩ := hA.nx F.2
    have e1 : gO PG Ω (d + 9) 155 10 [.ref a, .ref b, .ref fa, .int (nI i), l4] [] h = gO PG Ω (d + 9) 155 21 [.ref a, .ref b, .ref fa, .int (nI i), .int (nI 0)] [] h := by
      rw [e_X23_joined_10]
      simp (disch := first | omega | (simp only [hnew_21, hput_21, hnew_22, hput_22]; omega) | exact isR_ref | exact isR_null | exact isR_rf | exact isR_fmt | assumption | decide) only [e_X23_joined_11, e_X23_joined_12, e_X23_joined_15, e_X23_joined_18, e_X23_joined_19, cR_ref, cR_null, cR_rf, c1_int, c1_ref, c1_null, c1_rf, kz_int, kz_ref, kz_null, kz_rf, kz_U, kz_long, nB_null, nB_ref, rf_none, rf_some, bV_ret, bV_thr, bA_ret, bA_thr, bX_ret, bX_thr, len4_0, len4_1, len4_2, len4_3, len4_4, true_and, and_true, and_self, if_true, if_false, Option.bind_some, nR_b1, nR_b0, nR_bI, nI_1z, nI_0z, bI_z, if_nn, gf, pf, clN, aln, gaI, gaL, gaR, saI, saR, isI, ctB, isB, gB, hput_n, hput_e, hput_21, hput_22, hnew_n, hnew_e, hnew_21, hnew_22, Option.bind_some, Option.map_some, List.lookup_cons, List.lookup_nil, beq_self_eq_true, List.getElem?_cons_zero, List.getElem?_cons_succ, List.set_cons_zero, List.set_cons_succ, List.length_cons, List.length_nil, Nat.reduceAdd, Nat.reduceLT, Nat.reduceLeDiff, Nat.reduceBEq, Nat.reduceEqDiff, okv_int, okv_oref, okv_onull, okv_orf, okv_aref, okv_b0, okv_b1, okv_z0, okv_bI, ckI_nI, lt31, leT, reduceCtorEq, List.mem_cons, List.mem_singleton, List.not_mem_nil, or_true, true_or, or_false, false_or, toR_ref, toR_null, ↓reduceIte, s1, ↓nI_lt_if, hil]
    have er : joinL (A.drop i) B = mtch s B ++ joinL (A.drop (i + 1)) B := by rw [hdr]; unfold joinL; rw [List.flatMap_cons]
    rw [e1, er, ← List.append_assoc]
    have hin := c_jin (Ω := Ω) (d := d) (K := K) (C := C) hsz ha hb hA hB hg B.length 0 h M (by omega) F
    rw [List.drop_zero] at hin
    rcases hin with ⟨g1, h1, g2, g3⟩ | ⟨g1, g2⟩
    · have e2 : gO PG Ω (d + 9) 155 75 [.ref a, .ref b, .ref fa, .int (nI i), .int (nI B.length)] [] h1 = gO PG Ω (d + 9) 155 10 [.ref a, .ref b, .ref fa, .int (nI (i + 1)), .int (nI B.length)] [] h1 := by
        simp (disch := first | omega | (simp only [hnew_21, hput_21, hnew_22, hput_22]; omega) | exact isR_ref | exact isR_null | exact isR_rf | exact isR_fmt | assumption | decide) only [e_X23_joined_75, e_X23_joined_78, cR_ref, cR_null, cR_rf, c1_int, c1_ref, c1_null, c1_rf, kz_int, kz_ref, kz_null, kz_rf, kz_U, kz_long, nB_null, nB_ref, rf_none, rf_some, bV_ret, bV_thr, bA_ret, bA_thr, bX_ret, bX_thr, len4_0, len4_1, len4_2, len4_3, len4_4, true_and, and_true, and_self, if_true, if_false, Option.bind_some, nR_b1, nR_b0, nR_bI, nI_1z, nI_0z, bI_z, if_nn, nI_add, pk_mul]
      rw [g2, e2]
      exact ih (i + 1) h1 _ _ (by omega) g3
    · refine .inr ⟨?_, g2⟩
      rw [List.length_append]
      omega
theorem c_joined (hsz : Ω.sz ≤ h.2.1) (hFe : Fe h) (hA : FndR h a A) (hB : FndR h b B) : FRes h 305 1215 (capL (joinL A B)) (gM PG Ω (d + 10) 155 [.ref a, .ref b] h) := by
  have e1 := c_fnd0 (Ω := Ω) (d := d + 7) (h := h) hsz
  have e2 : gM PG Ω (d + 10) 155 [.ref a, .ref b] h = gO PG Ω (d + 9) 155 10 [.ref a, .ref b, .ref h.2.1, .int (nI 0), U] [] (fnd0 h) := by
    simp (disch := first | omega | (simp only [hnew_21, hput_21, hnew_22, hput_22]; omega) | exact isR_ref | exact isR_null | exact isR_rf | exact isR_fmt | assumption | decide) only [n_X23_joined, e_X23_joined_0, e_X23_joined_3, e_X23_joined_4, e_X23_joined_7, e_X23_joined_8, e_X23_joined_9, cR_ref, cR_null, cR_rf, c1_int, c1_ref, c1_null, c1_rf, kz_int, kz_ref, kz_null, kz_rf, kz_U, kz_long, nB_null, nB_ref, rf_none, rf_some, bV_ret, bV_thr, bA_ret, bA_thr, bX_ret, bX_thr, len4_0, len4_1, len4_2, len4_3, len4_4, true_and, and_true, and_self, if_true, if_false, Option.bind_some, nR_b1, nR_b0, nR_bI, nI_1z, nI_0z, bI_z, if_nn, List.length_cons, List.length_nil, Nat.reduceAdd, Nat.reduceLeDiff, ↓reduceIte, e1]
  have hou := c_jou (Ω := Ω) (d := d) (h0 := h) (fa := h.2.1) (fb := h.2.1 + 1) (K := 2) (C := 152) hsz (Nat.le_refl _) (by omega) hA hB A.length 0 (fnd0 h) [] U (by omega) ⟨fnd0_A, fnd0_nx hFe⟩
  rw [List.drop_zero, List.nil_append] at hou
  rw [e2]
  unfold capL
  rcases hou with ⟨g1, h1, g2, g3⟩ | ⟨g1, e, h1, g2, g3, g4⟩
  · rw [if_pos g1]
    exact .inl ⟨_, _, _, h1, rfl, g2, g3.1, Nat.le_refl _, Nat.le_succ _, g3.2.mono (fun _ q => q) (by omega) (by omega)⟩
  · rw [if_neg (by omega)]
    exact .inr ⟨rfl, e, h1, g2, g3, g4.mono (fun _ q => q) (by omega) (by omega)⟩
end CF
