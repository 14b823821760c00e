/-! TWIN, answering: filter -/
theorem bI_eq {a b : Bool} : (bI a = bI b) = (a = b) := by
  apply propext
  cases a <;> cases b
  · simp
  · exact ⟨fun q => absurd q (by decide), fun q => nomatch q⟩
  · exact ⟨fun q => absurd q (by decide), fun q => nomatch q⟩
  · simp
def teB (g : Nat) (s : Sol) (e : Nat × Tst) : Bool := !(decide (e.1 = g)) || hoT e.2 s
def TeK (T : List (Nat × Tst)) : Prop := T.length ≤ 12 ∧ ∀ e ∈ T, e.1 < 1000 ∧ CoK e.2.2
section TE8
variable {Ω : Om} {d : Nat} {h : AH} {x : Nat} {A : Nat → Nat} {σ σ' : Tw}
theorem CoS.fx {n : Nat} {c : Nat ⊕ (Sd × Nat × Sd)} {I AI AL : List Nat} (hs : CoS σ n c) (hf : Fx I AI AL σ σ') (h1 : 33 ∉ AI) (h2 : 34 ∉ AL) (h3 : 37 ∉ AI) : CoS σ' n c := by
  rcases c with v | ⟨a, g, b⟩
  · exact ⟨by rw [hf.2.1 37 h3]; exact hs.1, SdS.fx hs.2 hf h1 h2⟩
  · exact ⟨by rw [hf.2.1 37 h3]; exact hs.1, hs.2.1, SdS.fx hs.2.2.1 hf h1 h2, SdS.fx hs.2.2.2 hf h1 h2⟩
theorem TeR.fx2 {T : List (Nat × Tst)} {I AI AL : List Nat} (hs : TeR σ T) (hf : Fx I AI AL σ σ') (h0 : 39 ∉ I) (h1 : 33 ∉ AI) (h2 : 34 ∉ AL) (h3 : 37 ∉ AI) (h4 : 36 ∉ AI) (h5 : 38 ∉ AI) : TeR σ' T := ⟨by rw [hf.1 39 h0]; exact hs.1, fun i g t q => ⟨by rw [hf.2.1 36 h4]; exact (hs.2 i g t q).1, by rw [hf.2.1 38 h5]; exact (hs.2 i g t q).2.1, (hs.2 i g t q).2.2.fx hf h1 h2 h3⟩⟩
theorem t_fil1 (hT : TwOk Ω.sz x A) {g li i : Nat} {s : Sol} {T : List (Nat × Tst)} (hg : g < 1000) (hli : li < 10) (hi : i < 150) (hs : SoR σ (150 * li + i) s) (hK : SoK s) (hTe : TeR σ T) (hTK : TeK T) : ∀ (m t : Nat) (al : Bool), t + m = T.length → gO PG Ω (d + 2) 84 33 [.ref x, .int (nI g), .int (nI li), .int (nI i), .int (bI al), .int (nI t)] [] (tW h x A σ) = gO PG Ω (d + 2) 84 85 [.ref x, .int (nI g), .int (nI li), .int (nI i), .int (bI (al && (T.drop t).all (teB g s))), .int (nI T.length)] [] (tW h x A σ) := by
  have h39 := hTe.1
  have hTl := hTK.1
  intro m
  induction m with
  | zero =>
    intro t al ht
    have : t = T.length := by omega
    subst this
    rw [e_X2_filter_33]
    simp (disch := omega) only [e_X2_filter_35, e_X2_filter_36, e_X2_filter_39, e_X2_filter_42, e_X2_filter_43, e_X2_filter_46, e_X2_filter_48, e_X2_filter_49, e_X2_filter_50, e_X2_filter_53, e_X2_filter_54, e_X2_filter_56, e_X2_filter_59, e_X2_filter_60, e_X2_filter_61, e_X2_filter_62, e_X2_filter_63, e_X2_filter_66, e_X2_filter_67, e_X2_filter_70, e_X2_filter_72, e_X2_filter_73, e_X2_filter_76, e_X2_filter_77, e_X2_filter_79, e_X2_filter_82, tw_cl, tg36, tg38, tg39, tg49, tg50, tr36 hT, tr38 hT, tr49 hT, ts36 hT, ts38 hT, ts49 hT, cR_ref, cR_null, cR_rf, c1_int, c1_ref, c1_null, c1_rf, kz_int, kz_ref, kz_null, kz_rf, kz_U, kz_long, nB_null, nB_ref, rf_none, rf_some, bV_ret, bV_thr, bA_ret, bA_thr, bX_ret, bX_thr, len4_0, len4_1, len4_2, len4_3, len4_4, true_and, and_true, and_self, if_true, if_false, Option.bind_some, nR_b1, nR_b0, nR_bI, nI_1z, nI_0z, bI_z, if_nn, reduceCtorEq, one_ne0, ↓nI_lt_if, h39, Nat.lt_irrefl, List.drop_length, List.all_nil, Bool.and_true]
  | succ m ih =>
    intro t al ht
    have htl : t < T.length := by omega
    have hg' : T[t]? = some T[t] := List.getElem?_eq_getElem htl
    have hdr : T.drop t = T[t] :: T.drop (t + 1) := List.drop_eq_getElem_cons htl
    have hmem : T[t] ∈ T := List.getElem_mem htl
    generalize T[t] = e at hg' hdr hmem
    obtain ⟨g', tst⟩ := e
    obtain ⟨h36, h38, hco⟩ := hTe.2 t g' tst hg'
    obtain ⟨hg2, hcK⟩ := hTK.2 _ hmem
    simp only at hg2 hcK
    have eh := t_holds (d := d) (h := h) hT (show t < 14 by omega) (show 150 * li + i < 1650 by omega) hs hco hK hcK
    rw [hdr, List.all_cons]
    by_cases hgg : g' = g
    · subst hgg
      have e1 : teB g' s (g', tst) = (tst.1 ^^ hoC tst.2 s) := by simp [teB, hoT]
      by_cases hh : hoC tst.2 s = tst.1
      · have e2 : teB g' s (g', tst) = false := by rw [e1, hh]; simp
        rw [e2, Bool.false_and, Bool.and_false]
        have := ih (t + 1) false (by omega)
        rw [Bool.false_and] at this
        rw [← this, e_X2_filter_33]
        simp (disch := omega) only [e_X2_filter_35, e_X2_filter_36, e_X2_filter_39, e_X2_filter_42, e_X2_filter_43, e_X2_filter_46, e_X2_filter_48, e_X2_filter_49, e_X2_filter_50, e_X2_filter_53, e_X2_filter_54, e_X2_filter_56, e_X2_filter_59, e_X2_filter_60, e_X2_filter_61, e_X2_filter_62, e_X2_filter_63, e_X2_filter_66, e_X2_filter_67, e_X2_filter_70, e_X2_filter_72, e_X2_filter_73, e_X2_filter_76, e_X2_filter_77, e_X2_filter_79, e_X2_filter_82, tw_cl, tg36, tg38, tg39, tg49, tg50, tr36 hT, tr38 hT, tr49 hT, ts36 hT, ts38 hT, ts49 hT, cR_ref, cR_null, cR_rf, c1_int, c1_ref, c1_null, c1_rf, kz_int, kz_ref, kz_null, kz_rf, kz_U, kz_long, nB_null, nB_ref, rf_none, rf_some, bV_ret, bV_thr, bA_ret, bA_thr, bX_ret, bX_thr, len4_0, len4_1, len4_2, len4_3, len4_4, true_and, and_true, and_self, if_true, if_false, Option.bind_some, nR_b1, nR_b0, nR_bI, nI_1z, nI_0z, bI_z, if_nn, reduceCtorEq, one_ne0, nI_add, pk_mul, ↓nI_lt_if, h39, htl, h36, ↓nI_eq_if, eh, h38, bI_eq, hh, bI_f]
      · have e2 : teB g' s (g', tst) = true := by
          rw [e1]
          cases hq : hoC tst.2 s <;> cases hq2 : tst.1
          · rw [hq, hq2] at hh; exact absurd rfl hh
          · rfl
          · rfl
          · rw [hq, hq2] at hh; exact absurd rfl hh
        rw [e2, Bool.true_and, ← ih (t + 1) al (by omega), e_X2_filter_33]
        simp (disch := omega) only [e_X2_filter_35, e_X2_filter_36, e_X2_filter_39, e_X2_filter_42, e_X2_filter_43, e_X2_filter_46, e_X2_filter_48, e_X2_filter_49, e_X2_filter_50, e_X2_filter_53, e_X2_filter_54, e_X2_filter_56, e_X2_filter_59, e_X2_filter_60, e_X2_filter_61, e_X2_filter_62, e_X2_filter_63, e_X2_filter_66, e_X2_filter_67, e_X2_filter_70, e_X2_filter_72, e_X2_filter_73, e_X2_filter_76, e_X2_filter_77, e_X2_filter_79, e_X2_filter_82, tw_cl, tg36, tg38, tg39, tg49, tg50, tr36 hT, tr38 hT, tr49 hT, ts36 hT, ts38 hT, ts49 hT, cR_ref, cR_null, cR_rf, c1_int, c1_ref, c1_null, c1_rf, kz_int, kz_ref, kz_null, kz_rf, kz_U, kz_long, nB_null, nB_ref, rf_none, rf_some, bV_ret, bV_thr, bA_ret, bA_thr, bX_ret, bX_thr, len4_0, len4_1, len4_2, len4_3, len4_4, true_and, and_true, and_self, if_true, if_false, Option.bind_some, nR_b1, nR_b0, nR_bI, nI_1z, nI_0z, bI_z, if_nn, reduceCtorEq, one_ne0, nI_add, pk_mul, ↓nI_lt_if, h39, htl, h36, ↓nI_eq_if, eh, h38, bI_eq, hh]
    · have e2 : teB g s (g', tst) = true := by simp [teB, hgg]
      rw [e2, Bool.true_and, ← ih (t + 1) al (by omega), e_X2_filter_33]
      simp (disch := omega) only [e_X2_filter_35, e_X2_filter_36, e_X2_filter_39, e_X2_filter_42, e_X2_filter_43, e_X2_filter_46, e_X2_filter_48, e_X2_filter_49, e_X2_filter_50, e_X2_filter_53, e_X2_filter_54, e_X2_filter_56, e_X2_filter_59, e_X2_filter_60, e_X2_filter_61, e_X2_filter_62, e_X2_filter_63, e_X2_filter_66, e_X2_filter_67, e_X2_filter_70, e_X2_filter_72, e_X2_filter_73, e_X2_filter_76, e_X2_filter_77, e_X2_filter_79, e_X2_filter_82, tw_cl, tg36, tg38, tg39, tg49, tg50, tr36 hT, tr38 hT, tr49 hT, ts36 hT, ts38 hT, ts49 hT, cR_ref, cR_null, cR_rf, c1_int, c1_ref, c1_null, c1_rf, kz_int, kz_ref, kz_null, kz_rf, kz_U, kz_long, nB_null, nB_ref, rf_none, rf_some, bV_ret, bV_thr, bA_ret, bA_thr, bX_ret, bX_thr, len4_0, len4_1, len4_2, len4_3, len4_4, true_and, and_true, and_self, if_true, if_false, Option.bind_some, nR_b1, nR_b0, nR_bI, nI_1z, nI_0z, bI_z, if_nn, reduceCtorEq, one_ne0, nI_add, pk_mul, ↓nI_lt_if, h39, htl, h36, ↓nI_eq_if, hgg]
set_option maxHeartbeats 1000000 in
theorem t_fou (hT : TwOk Ω.sz x A) {g li : Nat} {l : List Sol} {T : List (Nat × Tst)} (hg : g < 1000) (hli : li < 10) (hK : ∀ s ∈ l, SoK s) (hTK : TeK T) : ∀ (m i : Nat) (σ : Tw) (M : List Sol) (l4 l5 : Value), i + m = l.length → PiR σ li l → PiR σ 10 M → M.length ≤ i → TeR σ T → ∃ σ' l4' l5', gO PG Ω (d + 2) 84 17 [.ref x, .int (nI g), .int (nI li), .int (nI i), l4, l5] [] (tW h x A σ) = gO PG Ω (d + 2) 84 104 [.ref x, .int (nI g), .int (nI li), .int (nI l.length), l4', l5'] [] (tW h x A σ') ∧ PiR σ' 10 (M ++ (l.drop i).filter (fun s => T.all (teB g s))) ∧ σ'.1 51 = σ.1 51 ∧ LsF 10 σ σ' := by
  intro m
  induction m with
  | zero =>
    intro i σ M l4 l5 hi hl hM hMi hTe
    have : i = l.length := by omega
    subst this
    have h49 := hl.1
    have hll := hl.2.1
    refine ⟨σ, l4, l5, ?_, ?_, rfl, LsF.rfl'⟩
    · rw [e_X2_filter_17]
      simp (disch := omega) only [e_X2_filter_18, e_X2_filter_19, e_X2_filter_22, e_X2_filter_23, e_X2_filter_24, e_X2_filter_27, e_X2_filter_28, e_X2_filter_30, e_X2_filter_31, tw_cl, tg36, tg38, tg39, tg49, tg50, tr36 hT, tr38 hT, tr49 hT, ts36 hT, ts38 hT, ts49 hT, cR_ref, cR_null, cR_rf, c1_int, c1_ref, c1_null, c1_rf, kz_int, kz_ref, kz_null, kz_rf, kz_U, kz_long, nB_null, nB_ref, rf_none, rf_some, bV_ret, bV_thr, bA_ret, bA_thr, bX_ret, bX_thr, len4_0, len4_1, len4_2, len4_3, len4_4, true_and, and_true, and_self, if_true, if_false, Option.bind_some, nR_b1, nR_b0, nR_bI, nI_1z, nI_0z, bI_z, if_nn, reduceCtorEq, one_ne0, ↓nI_lt_if, h49, Nat.lt_irrefl]
    · rw [List.drop_length, List.filter_nil, List.append_nil]; exact hM
  | succ m ih =>
    intro i σ M l4 l5 hi hl hM hMi hTe
    have h49 := hl.1
    have hll := hl.2.1
    have hil : i < l.length := by omega
    have hg' : l[i]? = some l[i] := List.getElem?_eq_getElem hil
    have hdr : l.drop i = l[i] :: l.drop (i + 1) := List.drop_eq_getElem_cons hil
    have hmem : l[i] ∈ l := List.getElem_mem hil
    have hs := hl.2.2 i _ hg'
    generalize l[i] = s at hg' hdr hmem hs
    have ef := t_fil1 (d := d) (h := h) hT hg hli (show i < 150 by omega) hs (hK s hmem) hTe hTK T.length 0 true (by omega)
    rw [List.drop_zero, Bool.true_and] at ef
    have e1 : gO PG Ω (d + 2) 84 17 [.ref x, .int (nI g), .int (nI li), .int (nI i), l4, l5] [] (tW h x A σ) = gO PG Ω (d + 2) 84 85 [.ref x, .int (nI g), .int (nI li), .int (nI i), .int (bI (T.all (teB g s))), .int (nI T.length)] [] (tW h x A σ) := by
      rw [← ef, e_X2_filter_17]
      simp (disch := omega) only [e_X2_filter_18, e_X2_filter_19, e_X2_filter_22, e_X2_filter_23, e_X2_filter_24, e_X2_filter_27, e_X2_filter_28, e_X2_filter_30, e_X2_filter_31, tw_cl, tg36, tg38, tg39, tg49, tg50, tr36 hT, tr38 hT, tr49 hT, ts36 hT, ts38 hT, ts49 hT, cR_ref, cR_null, cR_rf, c1_int, c1_ref, c1_null, c1_rf, kz_int, kz_ref, kz_null, kz_rf, kz_U, kz_long, nB_null, nB_ref, rf_none, rf_some, bV_ret, bV_thr, bA_ret, bA_thr, bX_ret, bX_thr, len4_0, len4_1, len4_2, len4_3, len4_4, true_and, and_true, and_self, if_true, if_false, Option.bind_some, nR_b1, nR_b0, nR_bI, nI_1z, nI_0z, bI_z, if_nn, reduceCtorEq, one_ne0, ↓nI_lt_if, h49, hil, bI_t]
    rw [e1, hdr]
    cases hal : T.all (teB g s) with
    | false =>
      obtain ⟨σ1, k4, k5, f1, f2, f3, f4⟩ := ih (i + 1) σ M (.int (bI false)) (.int (nI T.length)) (by omega) hl hM (by omega) hTe
      rw [List.filter_cons_of_neg (by rw [hal]; decide)]
      refine ⟨σ1, k4, k5, ?_, f2, f3, f4⟩
      rw [← f1]
      simp (disch := omega) only [e_X2_filter_85, e_X2_filter_87, e_X2_filter_90, e_X2_filter_91, e_X2_filter_93, e_X2_filter_94, e_X2_filter_95, e_X2_filter_98, e_X2_filter_101, tw_cl, tg36, tg38, tg39, tg49, tg50, tr36 hT, tr38 hT, tr49 hT, ts36 hT, ts38 hT, ts49 hT, cR_ref, cR_null, cR_rf, c1_int, c1_ref, c1_null, c1_rf, kz_int, kz_ref, kz_null, kz_rf, kz_U, kz_long, nB_null, nB_ref, rf_none, rf_some, bV_ret, bV_thr, bA_ret, bA_thr, bX_ret, bX_thr, len4_0, len4_1, len4_2, len4_3, len4_4, true_and, and_true, and_self, if_true, if_false, Option.bind_some, nR_b1, nR_b0, nR_bI, nI_1z, nI_0z, bI_z, if_nn, reduceCtorEq, one_ne0, nI_add, pk_mul]
    | true =>
      obtain ⟨σ1, j1, j2, j3, j4⟩ := t_addTo (d := d + 1) (h := h) hT (j := 10) (f := li) (a := i) (by omega) (by omega) (by omega) (by omega) hM (by omega) hs
      obtain ⟨σ2, k4, k5, f1, f2, f3, f4⟩ := ih (i + 1) σ1 (M ++ [s]) (.int (bI true)) (.int (nI T.length)) (by omega) (hl.keep j4 (by omega)) j2 (by rw [List.length_append, List.length_singleton]; omega) (hTe.fx2 j4.1 (by decide) (by decide) (by decide) (by decide) (by decide) (by decide))
      rw [List.filter_cons_of_pos (by exact hal)]
      rw [List.append_assoc] at f2
      refine ⟨σ2, k4, k5, ?_, f2, f3.trans j3, j4.trans f4⟩
      rw [← f1]
      simp (disch := omega) only [e_X2_filter_85, e_X2_filter_87, e_X2_filter_90, e_X2_filter_91, e_X2_filter_93, e_X2_filter_94, e_X2_filter_95, e_X2_filter_98, e_X2_filter_101, tw_cl, tg36, tg38, tg39, tg49, tg50, tr36 hT, tr38 hT, tr49 hT, ts36 hT, ts38 hT, ts49 hT, cR_ref, cR_null, cR_rf, c1_int, c1_ref, c1_null, c1_rf, kz_int, kz_ref, kz_null, kz_rf, kz_U, kz_long, nB_null, nB_ref, rf_none, rf_some, bV_ret, bV_thr, bA_ret, bA_thr, bX_ret, bX_thr, len4_0, len4_1, len4_2, len4_3, len4_4, true_and, and_true, and_self, if_true, if_false, Option.bind_some, nR_b1, nR_b0, nR_bI, nI_1z, nI_0z, bI_z, if_nn, reduceCtorEq, one_ne0, nI_add, pk_mul, j1]
theorem t_filter (hT : TwOk Ω.sz x A) {g n : Nat} {l : List Sol} {T : List (Nat × Tst)} (hg : g < 1000) (hn : n < 10) (h50 : σ.1 50 = nI (n + 1)) (hK : ∀ s ∈ l, SoK s) (hTK : TeK T) (hTe : TeR σ T) (hl : PiR σ n l) : ∃ σ', gM PG Ω (d + 3) 84 [.ref x, .int (nI g)] (tW h x A σ) = some (.returned none, tW h x A σ') ∧ PiR σ' n (l.filter (fun s => T.all (teB g s))) ∧ σ'.1 50 = nI (n + 1) ∧ σ'.1 51 = σ.1 51 ∧ LsG n σ σ' := by
  have hz : LsF 10 σ (sA σ 49 10 (nI 0)) := LsF.sz
  obtain ⟨σ1, k4, k5, f1, f2, f3, f4⟩ := t_fou (d := d) (h := h) hT hg hn hK hTK l.length 0 (sA σ 49 10 (nI 0)) [] U U (by omega) (hl.keep hz (by omega)) PiR.nil (by simp) (hTe.fx2 hz.1 (by decide) (by decide) (by decide) (by decide) (by decide) (by decide))
  rw [List.drop_zero, List.nil_append] at f2
  obtain ⟨σ2, c1', c2, c3, c4⟩ := t_copy (d := d) (h := h) hT (f := 10) (j := n) (by omega) (by omega) (by omega) f2
  have h2 := hz.trans f4
  refine ⟨σ2, ?_, c2, ?_, (c3.trans f3).trans rfl, ((h2.1.trans c4.1).mono (by decide) (by decide) (by decide)), fun i l' hi hl' => (hl'.keep h2 (by omega)).keep c4 (by omega)⟩
  · simp (disch := first | omega | decide) only [n_X2_filter, e_X2_filter_0, e_X2_filter_1, e_X2_filter_4, e_X2_filter_5, e_X2_filter_6, e_X2_filter_7, e_X2_filter_8, e_X2_filter_11, e_X2_filter_13, e_X2_filter_14, e_X2_filter_15, e_X2_filter_16, tw_cl, tg36, tg38, tg39, tg49, tg50, tr36 hT, tr38 hT, tr49 hT, ts36 hT, ts38 hT, ts49 hT, cR_ref, cR_null, cR_rf, c1_int, c1_ref, c1_null, c1_rf, kz_int, kz_ref, kz_null, kz_rf, kz_U, kz_long, nB_null, nB_ref, rf_none, rf_some, bV_ret, bV_thr, bA_ret, bA_thr, bX_ret, bX_thr, len4_0, len4_1, len4_2, len4_3, len4_4, true_and, and_true, and_self, if_true, if_false, Option.bind_some, nR_b1, nR_b0, nR_bI, nI_1z, nI_0z, bI_z, if_nn, reduceCtorEq, one_ne0, nI_add, pk_mul, h50, pk_sub, Nat.add_sub_cancel]
    rw [f1]
    simp (disch := first | omega | decide) only [e_X2_filter_104, e_X2_filter_105, e_X2_filter_107, e_X2_filter_108, e_X2_filter_111, tw_cl, tg36, tg38, tg39, tg49, tg50, tr36 hT, tr38 hT, tr49 hT, ts36 hT, ts38 hT, ts49 hT, cR_ref, cR_null, cR_rf, c1_int, c1_ref, c1_null, c1_rf, kz_int, kz_ref, kz_null, kz_rf, kz_U, kz_long, nB_null, nB_ref, rf_none, rf_some, bV_ret, bV_thr, bA_ret, bA_thr, bX_ret, bX_thr, len4_0, len4_1, len4_2, len4_3, len4_4, true_and, and_true, and_self, if_true, if_false, Option.bind_some, nR_b1, nR_b0, nR_bI, nI_1z, nI_0z, bI_z, if_nn, reduceCtorEq, one_ne0, c1']
  · rw [c4.1.1 50 (by decide), f4.1.1 50 (by decide)]; exact h50
end TE8
