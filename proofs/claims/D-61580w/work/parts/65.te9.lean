/-! TWIN, answering: one operation -/
theorem any_mtch {s : Sol} {B : List Sol} : (B.any (compB s) = false) ↔ mtch s B = [] := by
  induction B with
  | nil => exact ⟨fun _ => rfl, fun _ => rfl⟩
  | cons t B ih =>
    rw [List.any_cons]
    cases hc : compB s t with
    | true => rw [mtch_cons_t hc, Bool.true_or]; exact ⟨fun q => (nomatch q), fun q => (nomatch q)⟩
    | false => rw [mtch_cons_f hc, Bool.false_or]; exact ih
theorem res0 {A B : List Sol} : resL 0 A B = joinL A B := by
  unfold resL joinL
  congr 1
  funext s
  unfold oneL madL addB
  simp
theorem res1 {A B : List Sol} : resL 1 A B = optL A B := by
  unfold resL optL
  congr 1
  funext s
  unfold oneL madL addB
  by_cases h : mtch s B = []
  · have := any_mtch.mpr h
    simp [h, this]
  · have : ¬ B.any (compB s) = false := fun q => h (any_mtch.mp q)
    have h2 : B.any (compB s) = true := by cases hq : B.any (compB s) with
      | true => rfl
      | false => exact absurd hq this
    rw [h2, if_neg h]
    simp
theorem res2 {A B : List Sol} : resL 2 A B = minL A B := by
  unfold resL minL
  induction A with
  | nil => rfl
  | cons s A ih =>
    rw [List.flatMap_cons, ih]
    unfold oneL madL addB
    have e : (B.any fun b => compB s b && shrB s b) = B.any (csB s) := rfl
    cases h : B.any (csB s) with
    | true => rw [List.filter_cons_of_neg (by rw [e, h]; decide)]; simp
    | false => rw [List.filter_cons_of_pos (by rw [e, h]; decide)]; simp
def PiS (σ : Tw) (S : List (List Sol)) : Prop := σ.1 50 = nI S.length ∧ ∀ i l, S[i]? = some l → PiR σ i l
abbrev FxP (σ σ' : Tw) : Prop := Fx [50, 51] [48, 49] [47] σ σ'
section TE9
variable {Ω : Om} {d : Nat} {h : AH} {x : Nat} {A : Nat → Nat} {σ σ' : Tw}
theorem PiS.put {S S0 : List (List Sol)} {l : List Sol} (hS : PiS σ S0) (hp : ∀ i q, i < S.length → S[i]? = some q → S0[i]? = some q) (hf : LsG S.length σ σ') (h50 : σ'.1 50 = nI (S.length + 1)) (hl : PiR σ' S.length l) : PiS σ' (S ++ [l]) := by
  refine ⟨by rw [h50, List.length_append]; rfl, fun i q hq => ?_⟩
  rcases getE_snoc hq with hq | ⟨rfl, hq2⟩
  · have hi := (List.getElem?_eq_some_iff.mp hq).1
    exact hf.2 i q hi (hS.2 i q (hp i q hi hq))
  · rw [hq2]; exact hl
theorem getE_pre {α : Type} {l m : List α} : ∀ i q, i < l.length → l[i]? = some q → (l ++ m)[i]? = some q := fun i q hi hq => by rw [List.getElem?_append_left hi]; exact hq
theorem LsG.pu {n : Nat} {v u : Int32} (hn : n < 10) : LsG n σ (sI (sA (sA σ 49 n v) 48 (150 * n) u) 50 (nI (n + 1))) := by
  refine ⟨((Fx.rfl'.sA (by decide)).sA (by decide)).sI (by decide), fun i l hi hl => ⟨?_, hl.2.1, fun r s q => ?_⟩⟩
  · rw [sI_2, sA_221, if_neg (by decide), sA_221, if_pos rfl]; unfold va_up; rw [if_neg (by omega)]; exact hl.1
  · have hr := (List.getElem?_eq_some_iff.mp q).1
    have := hl.2.1
    refine (hl.2.2 r s q).eq ⟨?_, fun _ _ => rfl⟩
    rw [sI_2, sA_221, if_pos rfl]; unfold va_up; rw [if_neg (by omega), sA_221, if_neg (by decide)]
theorem t_wk1 (hT : TwOk Ω.sz x A) {S : List (List Sol)} {a : Int32} (hS : PiS σ S) (hn : S.length < 10) : ∃ σ', gM PG Ω (d + 1) 77 [.ref x, .int (nI 1), .int a] (tW h x A σ) = some (.returned none, tW h x A σ') ∧ PiS σ' (S ++ [[empS]]) ∧ σ'.1 51 = σ.1 51 ∧ FxP σ σ' := by
  have h50 := hS.1
  refine ⟨sI (sA (sA σ 49 S.length (nI 1)) 48 (150 * S.length) (nI 0)) 50 (nI (S.length + 1)), ?_, hS.put (fun _ _ _ q => q) (LsG.pu hn) rfl ⟨?_, by simp, fun r s q => ?_⟩, rfl, (LsG.pu hn).1⟩
  · simp (disch := first | omega | decide) only [n_X2_work, e_X2_work_0, e_X2_work_1, e_X2_work_2, e_X2_work_5, e_X2_work_6, e_X2_work_8, e_X2_work_11, e_X2_work_12, e_X2_work_15, e_X2_work_16, e_X2_work_19, e_X2_work_20, e_X2_work_21, e_X2_work_24, e_X2_work_25, e_X2_work_28, e_X2_work_29, e_X2_work_30, e_X2_work_31, e_X2_work_34, e_X2_work_37, e_X2_work_38, e_X2_work_41, e_X2_work_42, e_X2_work_43, e_X2_work_44, e_X2_work_45, e_X2_work_46, e_X2_work_49, e_X2_work_50, e_X2_work_51, e_X2_work_54, e_X2_work_174, tw_cl, tg48, tg49, tg50, tp50 hT, tr48 hT, tr49 hT, ts48 hT, ts49 hT, cR_ref, cR_null, cR_rf, c1_int, c1_ref, c1_null, c1_rf, kz_int, kz_ref, kz_null, kz_rf, kz_U, kz_long, nB_null, nB_ref, rf_none, rf_some, bV_ret, bV_thr, bA_ret, bA_thr, bX_ret, bX_thr, len4_0, len4_1, len4_2, len4_3, len4_4, true_and, and_true, and_self, if_true, if_false, Option.bind_some, nR_b1, nR_b0, nR_bI, nI_1z, nI_0z, bI_z, if_nn, reduceCtorEq, one_ne0, nI_add, pk_mul, sI_1, sI_2, sT_1, sT_21, sT_22, sA_1, sA_21, sA_221, sA_222, sL_1, sL_21, sL_221, sL_222, Nat.reduceEqDiff, ↓reduceIte, h50, ↓nI_eq_if]
  · rw [sI_2, sA_221, if_neg (by decide), sA_221, if_pos rfl]; simp [va_up]
  · have hr := (List.getElem?_eq_some_iff.mp q).1
    have hr0 : r = 0 := by simp at hr; exact hr
    subst hr0
    cases q
    refine ⟨?_, fun v t _ ht => nomatch ht⟩
    rw [sI_2, sA_221, if_pos rfl]; simp [va_up]; rfl
theorem t_wk6 (hT : TwOk Ω.sz x A) {S : List (List Sol)} {a : Int32} (hS : PiS σ S) (hn : S.length < 10) : ∃ σ', gM PG Ω (d + 1) 77 [.ref x, .int (nI 6), .int a] (tW h x A σ) = some (.returned none, tW h x A σ') ∧ PiS σ' (S ++ [[]]) ∧ σ'.1 51 = σ.1 51 ∧ FxP σ σ' := by
  have h50 := hS.1
  refine ⟨sI (sA (sA σ 49 S.length (nI 0)) 48 (150 * S.length) (nI 0)) 50 (nI (S.length + 1)), ?_, hS.put (fun _ _ _ q => q) (LsG.pu hn) rfl ⟨?_, by simp, fun r s q => by simp at q⟩, rfl, (LsG.pu hn).1⟩
  · simp (disch := first | omega | decide) only [n_X2_work, e_X2_work_0, e_X2_work_1, e_X2_work_2, e_X2_work_5, e_X2_work_6, e_X2_work_8, e_X2_work_11, e_X2_work_12, e_X2_work_15, e_X2_work_16, e_X2_work_19, e_X2_work_20, e_X2_work_21, e_X2_work_24, e_X2_work_25, e_X2_work_28, e_X2_work_29, e_X2_work_30, e_X2_work_31, e_X2_work_34, e_X2_work_37, e_X2_work_38, e_X2_work_41, e_X2_work_42, e_X2_work_43, e_X2_work_44, e_X2_work_45, e_X2_work_46, e_X2_work_49, e_X2_work_50, e_X2_work_51, e_X2_work_54, e_X2_work_174, tw_cl, tg48, tg49, tg50, tp50 hT, tr48 hT, tr49 hT, ts48 hT, ts49 hT, cR_ref, cR_null, cR_rf, c1_int, c1_ref, c1_null, c1_rf, kz_int, kz_ref, kz_null, kz_rf, kz_U, kz_long, nB_null, nB_ref, rf_none, rf_some, bV_ret, bV_thr, bA_ret, bA_thr, bX_ret, bX_thr, len4_0, len4_1, len4_2, len4_3, len4_4, true_and, and_true, and_self, if_true, if_false, Option.bind_some, nR_b1, nR_b0, nR_bI, nI_1z, nI_0z, bI_z, if_nn, reduceCtorEq, one_ne0, nI_add, pk_mul, sI_1, sI_2, sT_1, sT_21, sT_22, sA_1, sA_21, sA_221, sA_222, sL_1, sL_21, sL_221, sL_222, Nat.reduceEqDiff, ↓reduceIte, h50, ↓nI_eq_if, Nat.reduceEqDiff]
  · rw [sI_2, sA_221, if_neg (by decide), sA_221, if_pos rfl]; simp [va_up]
/-- what a combining gives -/
def CbR (σ σ' : Tw) (S : List (List Sol)) (r : List Sol) : Prop := FxP σ σ' ∧ ((r.length ≤ 150 ∧ PiS σ' (S ++ [r]) ∧ σ'.1 51 = nI 0) ∨ (150 < r.length ∧ σ'.1 51 = nI 1))
theorem t_cmb (hT : TwOk Ω.sz x A) {S : List (List Sol)} {La Lb : List Sol} {how : Nat} (hh : how < 3) (hS : PiS σ (S ++ [La] ++ [Lb])) (hn : S.length + 1 < 10) (h51 : σ.1 51 = nI 0) : ∃ σ', gM PG Ω (d + 3) 79 [.ref x, .int (nI how)] (tW h x A σ) = some (.returned none, tW h x A σ') ∧ CbR σ σ' S (resL how La Lb) := by
  have h50 : σ.1 50 = nI (S.length + 2) := by rw [hS.1]; simp
  have hA : PiR σ S.length La := hS.2 _ _ (by rw [List.append_assoc, List.getElem?_append_right (Nat.le_refl _)]; simp)
  have hB : PiR σ (S.length + 1) Lb := hS.2 _ _ (by rw [List.append_assoc, List.getElem?_append_right (by omega)]; simp)
  obtain ⟨σ1, e1, e2, e3, e4⟩ := t_combine (d := d) (h := h) hT hn hh h50 hA hB h51
  refine ⟨σ1, e1, e3.1, ?_⟩
  rcases e4 with ⟨g1, g2, g3⟩ | ⟨g1, g2⟩
  · exact .inl ⟨g1, hS.put (fun i q hi hq => by rw [List.append_assoc]; exact getE_pre i q hi hq) e3 e2 g2, g3⟩
  · exact .inr ⟨g1, g2⟩
theorem t_wk4 (hT : TwOk Ω.sz x A) {S : List (List Sol)} {La Lb : List Sol} {a : Int32} (hS : PiS σ (S ++ [La] ++ [Lb])) (hn : S.length + 1 < 10) (h51 : σ.1 51 = nI 0) : ∃ σ', gM PG Ω (d + 4) 77 [.ref x, .int (nI 4), .int a] (tW h x A σ) = some (.returned none, tW h x A σ') ∧ CbR σ σ' S (optL La Lb) := by
  obtain ⟨σ1, e1, e2⟩ := t_cmb (d := d) (h := h) (how := 1) hT (by omega) hS hn h51
  rw [res1] at e2
  refine ⟨σ1, ?_, e2⟩
  simp (disch := first | omega | decide) only [n_X2_work, e_X2_work_0, e_X2_work_1, e_X2_work_2, e_X2_work_5, e_X2_work_6, e_X2_work_8, e_X2_work_11, e_X2_work_12, e_X2_work_15, e_X2_work_16, e_X2_work_19, e_X2_work_20, e_X2_work_21, e_X2_work_24, e_X2_work_25, e_X2_work_28, e_X2_work_29, e_X2_work_30, e_X2_work_31, e_X2_work_34, e_X2_work_37, e_X2_work_38, e_X2_work_41, e_X2_work_42, e_X2_work_43, e_X2_work_44, e_X2_work_45, e_X2_work_46, e_X2_work_49, e_X2_work_50, e_X2_work_51, e_X2_work_54, e_X2_work_57, e_X2_work_58, e_X2_work_59, e_X2_work_62, e_X2_work_63, e_X2_work_64, e_X2_work_67, e_X2_work_68, e_X2_work_69, e_X2_work_72, e_X2_work_75, e_X2_work_76, e_X2_work_77, e_X2_work_80, e_X2_work_81, e_X2_work_82, e_X2_work_85, e_X2_work_88, e_X2_work_89, e_X2_work_90, e_X2_work_93, e_X2_work_94, e_X2_work_95, e_X2_work_98, e_X2_work_101, e_X2_work_102, e_X2_work_103, e_X2_work_106, e_X2_work_107, e_X2_work_108, e_X2_work_111, e_X2_work_114, e_X2_work_115, e_X2_work_117, e_X2_work_120, e_X2_work_121, e_X2_work_122, e_X2_work_125, e_X2_work_174, tw_cl, tg48, tg49, tg50, tp50 hT, tr48 hT, tr49 hT, ts48 hT, ts49 hT, cR_ref, cR_null, cR_rf, c1_int, c1_ref, c1_null, c1_rf, kz_int, kz_ref, kz_null, kz_rf, kz_U, kz_long, nB_null, nB_ref, rf_none, rf_some, bV_ret, bV_thr, bA_ret, bA_thr, bX_ret, bX_thr, len4_0, len4_1, len4_2, len4_3, len4_4, true_and, and_true, and_self, if_true, if_false, Option.bind_some, nR_b1, nR_b0, nR_bI, nI_1z, nI_0z, bI_z, if_nn, reduceCtorEq, one_ne0, ↓nI_eq_if, Nat.reduceEqDiff, e1]
theorem t_wk5 (hT : TwOk Ω.sz x A) {S : List (List Sol)} {La Lb : List Sol} {a : Int32} (hS : PiS σ (S ++ [La] ++ [Lb])) (hn : S.length + 1 < 10) (h51 : σ.1 51 = nI 0) : ∃ σ', gM PG Ω (d + 4) 77 [.ref x, .int (nI 5), .int a] (tW h x A σ) = some (.returned none, tW h x A σ') ∧ CbR σ σ' S (minL La Lb) := by
  obtain ⟨σ1, e1, e2⟩ := t_cmb (d := d) (h := h) (how := 2) hT (by omega) hS hn h51
  rw [res2] at e2
  refine ⟨σ1, ?_, e2⟩
  simp (disch := first | omega | decide) only [n_X2_work, e_X2_work_0, e_X2_work_1, e_X2_work_2, e_X2_work_5, e_X2_work_6, e_X2_work_8, e_X2_work_11, e_X2_work_12, e_X2_work_15, e_X2_work_16, e_X2_work_19, e_X2_work_20, e_X2_work_21, e_X2_work_24, e_X2_work_25, e_X2_work_28, e_X2_work_29, e_X2_work_30, e_X2_work_31, e_X2_work_34, e_X2_work_37, e_X2_work_38, e_X2_work_41, e_X2_work_42, e_X2_work_43, e_X2_work_44, e_X2_work_45, e_X2_work_46, e_X2_work_49, e_X2_work_50, e_X2_work_51, e_X2_work_54, e_X2_work_57, e_X2_work_58, e_X2_work_59, e_X2_work_62, e_X2_work_63, e_X2_work_64, e_X2_work_67, e_X2_work_68, e_X2_work_69, e_X2_work_72, e_X2_work_75, e_X2_work_76, e_X2_work_77, e_X2_work_80, e_X2_work_81, e_X2_work_82, e_X2_work_85, e_X2_work_88, e_X2_work_89, e_X2_work_90, e_X2_work_93, e_X2_work_94, e_X2_work_95, e_X2_work_98, e_X2_work_101, e_X2_work_102, e_X2_work_103, e_X2_work_106, e_X2_work_107, e_X2_work_108, e_X2_work_111, e_X2_work_114, e_X2_work_115, e_X2_work_117, e_X2_work_120, e_X2_work_121, e_X2_work_122, e_X2_work_125, e_X2_work_174, tw_cl, tg48, tg49, tg50, tp50 hT, tr48 hT, tr49 hT, ts48 hT, ts49 hT, cR_ref, cR_null, cR_rf, c1_int, c1_ref, c1_null, c1_rf, kz_int, kz_ref, kz_null, kz_rf, kz_U, kz_long, nB_null, nB_ref, rf_none, rf_some, bV_ret, bV_thr, bA_ret, bA_thr, bX_ret, bX_thr, len4_0, len4_1, len4_2, len4_3, len4_4, true_and, and_true, and_self, if_true, if_false, Option.bind_some, nR_b1, nR_b0, nR_bI, nI_1z, nI_0z, bI_z, if_nn, reduceCtorEq, one_ne0, ↓nI_eq_if, Nat.reduceEqDiff, e1]
theorem t_wk8 (hT : TwOk Ω.sz x A) {S : List (List Sol)} {La Lb : List Sol} {a : Int32} (hS : PiS σ (S ++ [La] ++ [Lb])) (hn : S.length + 1 < 10) (h51 : σ.1 51 = nI 0) : ∃ σ', gM PG Ω (d + 4) 77 [.ref x, .int (nI 8), .int a] (tW h x A σ) = some (.returned none, tW h x A σ') ∧ CbR σ σ' S (joinL La Lb) := by
  obtain ⟨σ1, e1, e2⟩ := t_cmb (d := d) (h := h) (how := 0) hT (by omega) hS hn h51
  rw [res0] at e2
  refine ⟨σ1, ?_, e2⟩
  simp (disch := first | omega | decide) only [n_X2_work, e_X2_work_0, e_X2_work_1, e_X2_work_2, e_X2_work_5, e_X2_work_6, e_X2_work_8, e_X2_work_11, e_X2_work_12, e_X2_work_15, e_X2_work_16, e_X2_work_19, e_X2_work_20, e_X2_work_21, e_X2_work_24, e_X2_work_25, e_X2_work_28, e_X2_work_29, e_X2_work_30, e_X2_work_31, e_X2_work_34, e_X2_work_37, e_X2_work_38, e_X2_work_41, e_X2_work_42, e_X2_work_43, e_X2_work_44, e_X2_work_45, e_X2_work_46, e_X2_work_49, e_X2_work_50, e_X2_work_51, e_X2_work_54, e_X2_work_57, e_X2_work_58, e_X2_work_59, e_X2_work_62, e_X2_work_63, e_X2_work_64, e_X2_work_67, e_X2_work_68, e_X2_work_69, e_X2_work_72, e_X2_work_75, e_X2_work_76, e_X2_work_77, e_X2_work_80, e_X2_work_81, e_X2_work_82, e_X2_work_85, e_X2_work_88, e_X2_work_89, e_X2_work_90, e_X2_work_93, e_X2_work_94, e_X2_work_95, e_X2_work_98, e_X2_work_101, e_X2_work_102, e_X2_work_103, e_X2_work_106, e_X2_work_107, e_X2_work_108, e_X2_work_111, e_X2_work_114, e_X2_work_115, e_X2_work_117, e_X2_work_120, e_X2_work_121, e_X2_work_122, e_X2_work_125, e_X2_work_174, tw_cl, tg48, tg49, tg50, tp50 hT, tr48 hT, tr49 hT, ts48 hT, ts49 hT, cR_ref, cR_null, cR_rf, c1_int, c1_ref, c1_null, c1_rf, kz_int, kz_ref, kz_null, kz_rf, kz_U, kz_long, nB_null, nB_ref, rf_none, rf_some, bV_ret, bV_thr, bA_ret, bA_thr, bX_ret, bX_thr, len4_0, len4_1, len4_2, len4_3, len4_4, true_and, and_true, and_self, if_true, if_false, Option.bind_some, nR_b1, nR_b0, nR_bI, nI_1z, nI_0z, bI_z, if_nn, reduceCtorEq, one_ne0, ↓nI_eq_if, Nat.reduceEqDiff, e1]
theorem t_wk2 (hT : TwOk Ω.sz x A) {S : List (List Sol)} {so : List Sol} {at' : Nat} {p : Pat} {L : List Tri} (hat : at' + 3 ≤ 120) (hL : L.length ≤ 48) (h1 : σ.1 1 = nI L.length) (hTr : TrL (σ.2.2.2 0) L) (hp : SdS σ at' p.1 ∧ SdS σ (at' + 1) p.2.1 ∧ SdS σ (at' + 2) p.2.2) (hS : PiS σ (S ++ [so])) (hn : S.length + 1 < 10) (h51 : σ.1 51 = nI 0) : ∃ σ', gM PG Ω (d + 4) 77 [.ref x, .int (nI 2), .int (nI at')] (tW h x A σ) = some (.returned none, tW h x A σ') ∧ CbR σ σ' S (joinL so (patL p L)) := by
  obtain ⟨σ1, e1, e2, e3, e4, e5⟩ := t_match (d := d + 2) (h := h) (n := S.length + 1) hT hat (by omega) hL h1 hTr hp (by rw [hS.1]; simp)
  have hlen : (S ++ [so]).length = S.length + 1 := by simp
  have hS1 : PiS σ1 (S ++ [so] ++ [patL p L]) := hS.put (fun _ _ _ q => q) (by rw [hlen]; exact e5) (by rw [hlen]; exact e3) (by rw [hlen]; exact e2)
  obtain ⟨σ2, f1, f2, f3⟩ := t_cmb (d := d) (h := h) (how := 0) hT (by omega) hS1 hn (e4.trans h51)
  rw [res0] at f3
  refine ⟨σ2, ?_, e5.1.trans f2, f3⟩
  simp (disch := first | omega | decide) only [n_X2_work, e_X2_work_0, e_X2_work_1, e_X2_work_2, e_X2_work_5, e_X2_work_6, e_X2_work_8, e_X2_work_11, e_X2_work_12, e_X2_work_15, e_X2_work_16, e_X2_work_19, e_X2_work_20, e_X2_work_21, e_X2_work_24, e_X2_work_25, e_X2_work_28, e_X2_work_29, e_X2_work_30, e_X2_work_31, e_X2_work_34, e_X2_work_37, e_X2_work_38, e_X2_work_41, e_X2_work_42, e_X2_work_43, e_X2_work_44, e_X2_work_45, e_X2_work_46, e_X2_work_49, e_X2_work_50, e_X2_work_51, e_X2_work_54, e_X2_work_57, e_X2_work_58, e_X2_work_59, e_X2_work_62, e_X2_work_63, e_X2_work_64, e_X2_work_67, e_X2_work_68, e_X2_work_69, e_X2_work_72, e_X2_work_75, e_X2_work_76, e_X2_work_77, e_X2_work_80, e_X2_work_81, e_X2_work_82, e_X2_work_85, e_X2_work_88, e_X2_work_89, e_X2_work_90, e_X2_work_93, e_X2_work_94, e_X2_work_95, e_X2_work_98, e_X2_work_101, e_X2_work_102, e_X2_work_103, e_X2_work_106, e_X2_work_107, e_X2_work_108, e_X2_work_111, e_X2_work_114, e_X2_work_115, e_X2_work_117, e_X2_work_120, e_X2_work_121, e_X2_work_122, e_X2_work_125, e_X2_work_174, tw_cl, tg48, tg49, tg50, tp50 hT, tr48 hT, tr49 hT, ts48 hT, ts49 hT, cR_ref, cR_null, cR_rf, c1_int, c1_ref, c1_null, c1_rf, kz_int, kz_ref, kz_null, kz_rf, kz_U, kz_long, nB_null, nB_ref, rf_none, rf_some, bV_ret, bV_thr, bA_ret, bA_thr, bX_ret, bX_thr, len4_0, len4_1, len4_2, len4_3, len4_4, true_and, and_true, and_self, if_true, if_false, Option.bind_some, nR_b1, nR_b0, nR_bI, nI_1z, nI_0z, bI_z, if_nn, reduceCtorEq, one_ne0, ↓nI_eq_if, Nat.reduceEqDiff, e1, f1]
theorem t_wk3 (hT : TwOk Ω.sz x A) {S : List (List Sol)} {so : List Sol} {g : Nat} {T : List (Nat × Tst)} (hg : g < 1000) (hK : ∀ s ∈ so, SoK s) (hTK : TeK T) (hTe : TeR σ T) (hS : PiS σ (S ++ [so])) (hn : S.length < 10) : ∃ σ', gM PG Ω (d + 4) 77 [.ref x, .int (nI 3), .int (nI g)] (tW h x A σ) = some (.returned none, tW h x A σ') ∧ PiS σ' (S ++ [so.filter (fun s => T.all (teB g s))]) ∧ σ'.1 51 = σ.1 51 ∧ FxP σ σ' := by
  have hA : PiR σ S.length so := hS.2 _ _ (by rw [List.getElem?_append_right (Nat.le_refl _)]; simp)
  obtain ⟨σ1, e1, e2, e3, e4, e5⟩ := t_filter (d := d) (h := h) (n := S.length) hT hg hn (by rw [hS.1]; simp) hK hTK hTe hA
  refine ⟨σ1, ?_, hS.put getE_pre e5 e3 e2, e4, e5.1⟩
  simp (disch := first | omega | decide) only [n_X2_work, e_X2_work_0, e_X2_work_1, e_X2_work_2, e_X2_work_5, e_X2_work_6, e_X2_work_8, e_X2_work_11, e_X2_work_12, e_X2_work_15, e_X2_work_16, e_X2_work_19, e_X2_work_20, e_X2_work_21, e_X2_work_24, e_X2_work_25, e_X2_work_28, e_X2_work_29, e_X2_work_30, e_X2_work_31, e_X2_work_34, e_X2_work_37, e_X2_work_38, e_X2_work_41, e_X2_work_42, e_X2_work_43, e_X2_work_44, e_X2_work_45, e_X2_work_46, e_X2_work_49, e_X2_work_50, e_X2_work_51, e_X2_work_54, e_X2_work_57, e_X2_work_58, e_X2_work_59, e_X2_work_62, e_X2_work_63, e_X2_work_64, e_X2_work_67, e_X2_work_68, e_X2_work_69, e_X2_work_72, e_X2_work_75, e_X2_work_76, e_X2_work_77, e_X2_work_80, e_X2_work_81, e_X2_work_82, e_X2_work_85, e_X2_work_88, e_X2_work_89, e_X2_work_90, e_X2_work_93, e_X2_work_94, e_X2_work_95, e_X2_work_98, e_X2_work_101, e_X2_work_102, e_X2_work_103, e_X2_work_106, e_X2_work_107, e_X2_work_108, e_X2_work_111, e_X2_work_114, e_X2_work_115, e_X2_work_117, e_X2_work_120, e_X2_work_121, e_X2_work_122, e_X2_work_125, e_X2_work_174, tw_cl, tg48, tg49, tg50, tp50 hT, tr48 hT, tr49 hT, ts48 hT, ts49 hT, cR_ref, cR_null, cR_rf, c1_int, c1_ref, c1_null, c1_rf, kz_int, kz_ref, kz_null, kz_rf, kz_U, kz_long, nB_null, nB_ref, rf_none, rf_some, bV_ret, bV_thr, bA_ret, bA_thr, bX_ret, bX_thr, len4_0, len4_1, len4_2, len4_3, len4_4, true_and, and_true, and_self, if_true, if_false, Option.bind_some, nR_b1, nR_b0, nR_bI, nI_1z, nI_0z, bI_z, if_nn, reduceCtorEq, one_ne0, ↓nI_eq_if, Nat.reduceEqDiff, e1]
theorem t_ap1 (hT : TwOk Ω.sz x A) {n : Nat} (hn : n + 1 < 10) {Lb : List Sol} {l1 l2 : Value} (h2 : k2 l2 = l2) : ∀ (m i : Nat) (σ : Tw) (M : List Sol), i + m = Lb.length → σ.1 50 = nI (n + 1) → PiR σ n M → PiR σ (n + 1) Lb → (σ.1 51 = nI 0 ∨ (σ.1 51 = nI 1 ∧ M.length = 150)) → ∃ σ', gO PG Ω (d + 1) 77 140 [.ref x, l1, l2, .int (nI i)] [] (tW h x A σ) = some (.returned none, tW h x A σ') ∧ LsF n σ σ' ∧ ((σ.1 51 = nI 0 ∧ (M ++ Lb.drop i).length ≤ 150 ∧ PiR σ' n (M ++ Lb.drop i) ∧ σ'.1 51 = nI 0) ∨ ((150 < (M ++ Lb.drop i).length ∨ σ.1 51 = nI 1) ∧ σ'.1 51 = nI 1)) := by
  intro m
  induction m with
  | zero =>
    intro i σ M hi h50 hM hB h51
    have : i = Lb.length := by omega
    subst this
    have h49 := hB.1
    have hl := hB.2.1
    have hMl := hM.2.1
    refine ⟨σ, ?_, LsF.rfl', ?_⟩
    · rw [e_X2_work_140]
      simp (disch := omega) only [e_X2_work_141, e_X2_work_142, e_X2_work_145, e_X2_work_146, e_X2_work_149, e_X2_work_150, e_X2_work_153, e_X2_work_154, e_X2_work_155, e_X2_work_158, e_X2_work_159, e_X2_work_160, e_X2_work_161, e_X2_work_164, e_X2_work_165, e_X2_work_168, e_X2_work_171, e_X2_work_174, tw_cl, tg48, tg49, tg50, tp50 hT, tr48 hT, tr49 hT, ts48 hT, ts49 hT, cR_ref, cR_null, cR_rf, c1_int, c1_ref, c1_null, c1_rf, kz_int, kz_ref, kz_null, kz_rf, kz_U, kz_long, nB_null, nB_ref, rf_none, rf_some, bV_ret, bV_thr, bA_ret, bA_thr, bX_ret, bX_thr, len4_0, len4_1, len4_2, len4_3, len4_4, true_and, and_true, and_self, if_true, if_false, Option.bind_some, nR_b1, nR_b0, nR_bI, nI_1z, nI_0z, bI_z, if_nn, reduceCtorEq, one_ne0, ↓nI_lt_if, h49, h50, Nat.lt_irrefl]
    · rw [List.drop_length, List.append_nil]
      rcases h51 with q | ⟨q, q2⟩
      · exact .inl ⟨q, hMl, hM, q⟩
      · exact .inr ⟨.inr q, q⟩
  | succ m ih =>
    intro i σ M hi h50 hM hB h51
    have h49 := hB.1
    have hl := hB.2.1
    have hMl := hM.2.1
    have hil : i < Lb.length := by omega
    have hg' : Lb[i]? = some Lb[i] := List.getElem?_eq_getElem hil
    have hdr : Lb.drop i = Lb[i] :: Lb.drop (i + 1) := List.drop_eq_getElem_cons hil
    have hs := hB.2.2 i _ hg'
    generalize Lb[i] = s at hg' hdr hs
    rw [hdr]
    by_cases h150 : M.length < 150
    · have h510 : σ.1 51 = nI 0 := by
        rcases h51 with q | ⟨q, q2⟩
        · exact q
        · omega
      obtain ⟨σ1, j1, j2, j3, j4⟩ := t_addTo (d := d) (h := h) hT (j := n) (f := n + 1) (a := i) (by omega) (by omega) (by omega) (by omega) hM h150 hs
      obtain ⟨σ2, f1, f2, f3⟩ := ih (i + 1) σ1 (M ++ [s]) (by omega) (by rw [j4.1.1 50 (by decide)]; exact h50) j2 (hB.keep j4 (by omega)) (.inl (j3.trans h510))
      rw [List.append_assoc, List.singleton_append] at f3
      refine ⟨σ2, ?_, j4.trans f2, ?_⟩
      · rw [← f1, e_X2_work_140]
        simp (disch := omega) only [e_X2_work_141, e_X2_work_142, e_X2_work_145, e_X2_work_146, e_X2_work_149, e_X2_work_150, e_X2_work_153, e_X2_work_154, e_X2_work_155, e_X2_work_158, e_X2_work_159, e_X2_work_160, e_X2_work_161, e_X2_work_164, e_X2_work_165, e_X2_work_168, e_X2_work_171, e_X2_work_174, tw_cl, tg48, tg49, tg50, tp50 hT, tr48 hT, tr49 hT, ts48 hT, ts49 hT, cR_ref, cR_null, cR_rf, c1_int, c1_ref, c1_null, c1_rf, kz_int, kz_ref, kz_null, kz_rf, kz_U, kz_long, nB_null, nB_ref, rf_none, rf_some, bV_ret, bV_thr, bA_ret, bA_thr, bX_ret, bX_thr, len4_0, len4_1, len4_2, len4_3, len4_4, true_and, and_true, and_self, if_true, if_false, Option.bind_some, nR_b1, nR_b0, nR_bI, nI_1z, nI_0z, bI_z, if_nn, reduceCtorEq, one_ne0, nI_add, pk_mul, ↓nI_lt_if, h49, h50, hil, pk_sub, Nat.add_sub_cancel, j1, h2]
      · rcases f3 with ⟨g0, g1, g2, g3⟩ | ⟨g1 | g1, g3⟩
        · exact .inl ⟨h510, g1, g2, g3⟩
        · exact .inr ⟨.inl g1, g3⟩
        · exfalso
          rw [j3, h510] at g1
          exact absurd g1 (by decide)
    · have hM150 : M.length = 150 := by omega
      have h4910 : σ.2.2.1 49 n = nI 150 := by rw [hM.1, hM150]
      have j1 := t_add_no (d := d) (h := h) (f := nI (n + 1)) (a := nI i) hT (j := n) (by omega) h4910
      obtain ⟨σ2, f1, f2, f3⟩ := ih (i + 1) (sI σ 51 (nI 1)) M (by omega) h50 hM hB (.inr ⟨rfl, hM150⟩)
      refine ⟨σ2, ?_, LsF.rfl'.tm.trans f2, .inr ⟨.inl ?_, ?_⟩⟩
      · rw [← f1, e_X2_work_140]
        simp (disch := omega) only [e_X2_work_141, e_X2_work_142, e_X2_work_145, e_X2_work_146, e_X2_work_149, e_X2_work_150, e_X2_work_153, e_X2_work_154, e_X2_work_155, e_X2_work_158, e_X2_work_159, e_X2_work_160, e_X2_work_161, e_X2_work_164, e_X2_work_165, e_X2_work_168, e_X2_work_171, e_X2_work_174, tw_cl, tg48, tg49, tg50, tp50 hT, tr48 hT, tr49 hT, ts48 hT, ts49 hT, cR_ref, cR_null, cR_rf, c1_int, c1_ref, c1_null, c1_rf, kz_int, kz_ref, kz_null, kz_rf, kz_U, kz_long, nB_null, nB_ref, rf_none, rf_some, bV_ret, bV_thr, bA_ret, bA_thr, bX_ret, bX_thr, len4_0, len4_1, len4_2, len4_3, len4_4, true_and, and_true, and_self, if_true, if_false, Option.bind_some, nR_b1, nR_b0, nR_bI, nI_1z, nI_0z, bI_z, if_nn, reduceCtorEq, one_ne0, nI_add, pk_mul, ↓nI_lt_if, h49, h50, hil, pk_sub, Nat.add_sub_cancel, j1, h2]
      · rw [List.length_append, List.length_cons]; omega
      · rcases f3 with ⟨g0, g1, g2, g3⟩ | ⟨g1, g3⟩
        · exact absurd g0 (by rw [sI_1, if_pos rfl]; decide)
        · exact g3
theorem t_wk7 (hT : TwOk Ω.sz x A) {S : List (List Sol)} {La Lb : List Sol} {a : Int32} (hS : PiS σ (S ++ [La] ++ [Lb])) (hn : S.length + 1 < 10) (h51 : σ.1 51 = nI 0) : ∃ σ', gM PG Ω (d + 2) 77 [.ref x, .int (nI 7), .int a] (tW h x A σ) = some (.returned none, tW h x A σ') ∧ CbR σ σ' S (La ++ Lb) := by
  have h50 : σ.1 50 = nI (S.length + 2) := by rw [hS.1]; simp
  have hA : PiR σ S.length La := hS.2 _ _ (by rw [List.append_assoc, List.getElem?_append_right (Nat.le_refl _)]; simp)
  have hB : PiR σ (S.length + 1) Lb := hS.2 _ _ (by rw [List.append_assoc, List.getElem?_append_right (by omega)]; simp)
  obtain ⟨σ1, f1, f2, f3⟩ := t_ap1 (d := d) (h := h) (l1 := .int (nI 7)) (l2 := .int a) hT hn kz_int Lb.length 0 (sI σ 50 (nI (S.length + 1))) La (by omega) rfl hA hB (.inl h51)
  rw [List.drop_zero] at f3
  have hfx : FxP σ σ1 := (Fx.rfl'.sI (by decide)).trans (f2.1.mono (by decide) (by decide) (by decide))
  refine ⟨σ1, ?_, hfx, ?_⟩
  · rw [← f1]
    simp (disch := first | omega | decide) only [n_X2_work, e_X2_work_0, e_X2_work_1, e_X2_work_2, e_X2_work_5, e_X2_work_6, e_X2_work_8, e_X2_work_11, e_X2_work_12, e_X2_work_15, e_X2_work_16, e_X2_work_19, e_X2_work_20, e_X2_work_21, e_X2_work_24, e_X2_work_25, e_X2_work_28, e_X2_work_29, e_X2_work_30, e_X2_work_31, e_X2_work_34, e_X2_work_37, e_X2_work_38, e_X2_work_41, e_X2_work_42, e_X2_work_43, e_X2_work_44, e_X2_work_45, e_X2_work_46, e_X2_work_49, e_X2_work_50, e_X2_work_51, e_X2_work_54, e_X2_work_57, e_X2_work_58, e_X2_work_59, e_X2_work_62, e_X2_work_63, e_X2_work_64, e_X2_work_67, e_X2_work_68, e_X2_work_69, e_X2_work_72, e_X2_work_75, e_X2_work_76, e_X2_work_77, e_X2_work_80, e_X2_work_81, e_X2_work_82, e_X2_work_85, e_X2_work_88, e_X2_work_89, e_X2_work_90, e_X2_work_93, e_X2_work_94, e_X2_work_95, e_X2_work_98, e_X2_work_101, e_X2_work_102, e_X2_work_103, e_X2_work_106, e_X2_work_107, e_X2_work_108, e_X2_work_111, e_X2_work_114, e_X2_work_115, e_X2_work_117, e_X2_work_120, e_X2_work_121, e_X2_work_122, e_X2_work_125, e_X2_work_128, e_X2_work_129, e_X2_work_130, e_X2_work_133, e_X2_work_134, e_X2_work_135, e_X2_work_138, e_X2_work_139, tw_cl, tg48, tg49, tg50, tp50 hT, tr48 hT, tr49 hT, ts48 hT, ts49 hT, cR_ref, cR_null, cR_rf, c1_int, c1_ref, c1_null, c1_rf, kz_int, kz_ref, kz_null, kz_rf, kz_U, kz_long, nB_null, nB_ref, rf_none, rf_some, bV_ret, bV_thr, bA_ret, bA_thr, bX_ret, bX_thr, len4_0, len4_1, len4_2, len4_3, len4_4, true_and, and_true, and_self, if_true, if_false, Option.bind_some, nR_b1, nR_b0, nR_bI, nI_1z, nI_0z, bI_z, if_nn, reduceCtorEq, one_ne0, ↓nI_eq_if, Nat.reduceEqDiff, h50, pk_sub, show S.length + 2 - 1 = S.length + 1 from rfl]
  · rcases f3 with ⟨g0, g1, g2, g3⟩ | ⟨g1 | g1, g3⟩
    · refine .inl ⟨g1, hS.put (fun i q hi hq => by rw [List.append_assoc]; exact getE_pre i q hi hq) ⟨hfx, fun i l hi hl => ?_⟩ ?_ g2, g3⟩
      · have q : PiR (sI σ 50 (nI (S.length + 1))) i l := hl
        exact q.keep f2 (by omega)
      · rw [f2.1.1 50 (by decide)]; rfl
    · exact .inr ⟨g1, g3⟩
    · exfalso
      rw [sI_1, if_neg (by decide), h51] at g1
      exact absurd g1 (by decide)
end TE9
