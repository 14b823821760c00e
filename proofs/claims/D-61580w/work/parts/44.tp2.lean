/-! TWIN, reading: variables, sides -/
def fiN (nm : List (List Nat)) (w : List Nat) : Nat := nm.findIdx (fun v => decide (v = w))
theorem fiN_in {nm : List (List Nat)} {w : List Nat} (h : fiN nm w < nm.length) : nm[fiN nm w]? = some w := by
  have e := List.findIdx_getElem (w := h)
  rw [List.getElem?_eq_getElem h]
  exact congrArg some (of_decide_eq_true e)
theorem fiN_le {nm : List (List Nat)} {w : List Nat} : fiN nm w ≤ nm.length := List.findIdx_le_length
theorem fiN_no {nm : List (List Nat)} {w : List Nat} {j : Nat} (h : j < fiN nm w) : nm[j]? ≠ some w := by
  intro q
  have hj := (List.getElem?_eq_some_iff.mp q)
  have := List.not_of_lt_findIdx h
  rw [hj.2] at this
  simp at this
theorem fiN_eq {nm : List (List Nat)} {w : List Nat} {j : Nat} (hn : nm.Nodup) (h : nm[j]? = some w) : fiN nm w = j := by
  have hj := (List.getElem?_eq_some_iff.mp h).1
  have hle : fiN nm w ≤ j := by
    rcases Nat.lt_or_ge j (fiN nm w) with q | q
    · exact absurd h (fiN_no q)
    · exact q
  have hl : fiN nm w < nm.length := by omega
  have e := fiN_in hl
  exact (List.getElem?_inj hl hn).mp (e.trans h.symm)
theorem pVar_ok {cs : List Nat} {s s' : PS} {v : Nat} (h : pVar cs s = .ok (v, s')) : (tk cs s).1 = 3 ∧ v = fiN s.2.1 (tk cs s).2.1 ∧ v < 6 ∧ s' = ((tk cs s).2.2.2, if v = s.2.1.length then s.2.1 ++ [(tk cs s).2.1] else s.2.1, s.2.2) := by
  unfold pVar at h
  by_cases h3 : (tk cs s).1 = 3
  · rw [if_pos h3] at h
    dsimp only at h
    split at h
    · injection h with h
      injection h with h1 h2
      subst h1
      exact ⟨h3, rfl, by assumption, h2.symm⟩
    · cases h
  · rw [if_neg h3] at h; cases h
theorem pVar_er {cs : List Nat} {s : PS} {q : Nat} (h : pVar cs s = .error q) : q = (tk cs s).2.2.1 ∧ ((tk cs s).1 = 3 → 6 ≤ fiN s.2.1 (tk cs s).2.1) := by
  unfold pVar at h
  by_cases h3 : (tk cs s).1 = 3
  · rw [if_pos h3] at h
    dsimp only at h
    split at h
    · cases h
    · injection h with h
      refine ⟨h.symm, fun _ => ?_⟩
      unfold fiN
      omega
  · rw [if_neg h3] at h
    injection h with h
    exact ⟨h.symm, fun q => absurd q h3⟩
section TP2
variable {Ω : Om} {d : Nat} {h : AH} {x : Nat} {A : Nat → Nat} {σ : Tw} {cs : List Nat} {s : PS}
theorem t_rv1 (hT : TwOk Ω.sz x A) (hp : PL σ cs s) : ∀ (m i : Nat) (vv : Int32), i + m = s.2.1.length → ((tk cs s).1 = 3 → (fiN s.2.1 (tk cs s).2.1 < i → vv = nI (fiN s.2.1 (tk cs s).2.1)) ∧ (i ≤ fiN s.2.1 (tk cs s).2.1 → vv = -1)) → ∃ vv' l2, gO PG Ω d 66 4 [.ref x, .int vv, .int (nI i)] [] (tW h x A σ) = gO PG Ω d 66 34 [.ref x, .int vv', .int l2] [] (tW h x A σ) ∧ ((tk cs s).1 = 3 → vv' = if fiN s.2.1 (tk cs s).2.1 < s.2.1.length then nI (fiN s.2.1 (tk cs s).2.1) else -1) := by
  obtain ⟨h1, h2, h3, h4, ⟨n1, n2, n3, n4⟩, h6, h7⟩ := hp
  intro m
  induction m with
  | zero =>
    intro i vv hi hv
    refine ⟨vv, nI i, ?_, fun q => ?_⟩
    · rw [e_X2_readVariable_4]
      simp (disch := omega) only [e_X2_readVariable_5, e_X2_readVariable_6, e_X2_readVariable_9, e_X2_readVariable_12, e_X2_readVariable_13, e_X2_readVariable_16, e_X2_readVariable_17, e_X2_readVariable_18, e_X2_readVariable_19, e_X2_readVariable_22, e_X2_readVariable_23, e_X2_readVariable_26, e_X2_readVariable_27, e_X2_readVariable_28, e_X2_readVariable_31, tw_cl, tg15, tg16, tg23, tg24, tp24 hT, tr23 hT, ts23 hT, cR_ref, cR_null, cR_rf, c1_int, c1_ref, c1_null, c1_rf, kz_int, kz_ref, kz_null, kz_rf, kz_U, kz_long, nB_null, nB_ref, rf_none, rf_some, bV_ret, bV_thr, bA_ret, bA_thr, bX_ret, bX_thr, len4_0, len4_1, len4_2, len4_3, len4_4, true_and, and_true, and_self, if_true, if_false, Option.bind_some, nR_b1, nR_b0, nR_bI, nI_1z, nI_0z, bI_z, if_nn, nI_add, pk_mul, n1, ↓nI_lt_if]
      rw [if_neg (by omega)]
    · have := hv q
      split
      · exact this.1 (by omega)
      · exact this.2 (by omega)
  | succ m ih =>
    intro i vv hi hv
    have hil : i < s.2.1.length := by omega
    obtain ⟨e1, e2⟩ := n3 i _ (List.getElem?_eq_getElem hil)
    by_cases hq : wcode s.2.1[i] = σ.2.1
    · obtain ⟨vv', l2, a1, a2⟩ := ih (i + 1) (nI i) (by omega) (fun q => by
        have hw := (lex_w h3).1
        have e : s.2.1[i] = (tk cs s).2.1 := wcode_inj e2 (hw.1 (Or.inr q)) (hq.trans (h2.2.1 (Or.inr q)))
        have hf : fiN s.2.1 (tk cs s).2.1 = i := fiN_eq n4 (by rw [← e]; exact List.getElem?_eq_getElem hil)
        exact ⟨fun _ => by rw [hf], fun z => by omega⟩)
      refine ⟨vv', l2, ?_, a2⟩
      rw [← a1, e_X2_readVariable_4]
      simp (disch := omega) only [e_X2_readVariable_5, e_X2_readVariable_6, e_X2_readVariable_9, e_X2_readVariable_12, e_X2_readVariable_13, e_X2_readVariable_16, e_X2_readVariable_17, e_X2_readVariable_18, e_X2_readVariable_19, e_X2_readVariable_22, e_X2_readVariable_23, e_X2_readVariable_26, e_X2_readVariable_27, e_X2_readVariable_28, e_X2_readVariable_31, tw_cl, tg15, tg16, tg23, tg24, tp24 hT, tr23 hT, ts23 hT, cR_ref, cR_null, cR_rf, c1_int, c1_ref, c1_null, c1_rf, kz_int, kz_ref, kz_null, kz_rf, kz_U, kz_long, nB_null, nB_ref, rf_none, rf_some, bV_ret, bV_thr, bA_ret, bA_thr, bX_ret, bX_thr, len4_0, len4_1, len4_2, len4_3, len4_4, true_and, and_true, and_self, if_true, if_false, Option.bind_some, nR_b1, nR_b0, nR_bI, nI_1z, nI_0z, bI_z, if_nn, nI_add, pk_mul, n1, ↓nI_lt_if, hil, e1, lg_cmp_z, hq]
    · obtain ⟨vv', l2, a1, a2⟩ := ih (i + 1) vv (by omega) (fun q => by
        have hne : fiN s.2.1 (tk cs s).2.1 ≠ i := fun z => hq (by
          have := fiN_in (nm := s.2.1) (w := (tk cs s).2.1) (by omega)
          rw [z, List.getElem?_eq_getElem hil] at this
          injection this with this
          rw [this]; exact (h2.2.1 (Or.inr q)).symm)
        exact ⟨fun z => (hv q).1 (by omega), fun z => (hv q).2 (by omega)⟩)
      refine ⟨vv', l2, ?_, a2⟩
      rw [← a1, e_X2_readVariable_4]
      simp (disch := omega) only [e_X2_readVariable_5, e_X2_readVariable_6, e_X2_readVariable_9, e_X2_readVariable_12, e_X2_readVariable_13, e_X2_readVariable_16, e_X2_readVariable_17, e_X2_readVariable_18, e_X2_readVariable_19, e_X2_readVariable_22, e_X2_readVariable_23, e_X2_readVariable_26, e_X2_readVariable_27, e_X2_readVariable_28, e_X2_readVariable_31, tw_cl, tg15, tg16, tg23, tg24, tp24 hT, tr23 hT, ts23 hT, cR_ref, cR_null, cR_rf, c1_int, c1_ref, c1_null, c1_rf, kz_int, kz_ref, kz_null, kz_rf, kz_U, kz_long, nB_null, nB_ref, rf_none, rf_some, bV_ret, bV_thr, bA_ret, bA_thr, bX_ret, bX_thr, len4_0, len4_1, len4_2, len4_3, len4_4, true_and, and_true, and_self, if_true, if_false, Option.bind_some, nR_b1, nR_b0, nR_bI, nI_1z, nI_0z, bI_z, if_nn, nI_add, pk_mul, n1, ↓nI_lt_if, hil, e1, lg_cmp_z, hq]
/-- what reading of names touches -/
def FxV (σ σ' : Tw) : Prop := Fx [15, 17, 18, 19, 20, 24] [] [23] σ σ'
set_option maxHeartbeats 1000000 in
theorem t_rv_ok (hT : TwOk Ω.sz x A) (hp : PL σ cs s) {v : Nat} {s' : PS} (hv : pVar cs s = .ok (v, s')) : ∃ σ', gM PG Ω (d + 7) 66 [.ref x] (tW h x A σ) = some (.returned (some (.int (nI v))), tW h x A σ') ∧ PL σ' cs s' ∧ FxV σ σ' := by
  obtain ⟨c1, c2, c3, c4⟩ := pVar_ok hv
  obtain ⟨vv, l2, a1, a2⟩ := t_rv1 (d := d + 6) (h := h) hT hp s.2.1.length 0 (-1) (by omega) (fun q => ⟨fun z => absurd z (Nat.not_lt_zero _), fun _ => rfl⟩)
  have a2 := a2 c1
  have hp' := hp
  obtain ⟨h1, h2, h3, h4, ⟨n1, n2, n3, n4⟩, h6, h7⟩ := hp
  have hm1 : (-1 : Int32) < 0 := by decide
  rw [← c2] at a2
  have hle : v ≤ s.2.1.length := by rw [c2]; exact fiN_le
  by_cases hl : v < s.2.1.length
  · rw [if_pos hl] at a2
    rw [if_neg (by omega)] at c4
    obtain ⟨σ', e1, e2, e3⟩ := t_goOn1 (d := d) (h := h) hT hp'
    refine ⟨σ', ?_, by rw [c4]; exact e2, e3.mono (by decide) (by decide) (by decide)⟩
    have hv0 : ¬ nI v < 0 := nI_pos (by omega)
    simp (disch := first | omega | decide) only [n_X2_readVariable, e_X2_readVariable_0, e_X2_readVariable_1, e_X2_readVariable_2, e_X2_readVariable_3, tw_cl, tg15, tg16, tg23, tg24, tp24 hT, tr23 hT, ts23 hT, cR_ref, cR_null, cR_rf, c1_int, c1_ref, c1_null, c1_rf, kz_int, kz_ref, kz_null, kz_rf, kz_U, kz_long, nB_null, nB_ref, rf_none, rf_some, bV_ret, bV_thr, bA_ret, bA_thr, bX_ret, bX_thr, len4_0, len4_1, len4_2, len4_3, len4_4, true_and, and_true, and_self, if_true, if_false, Option.bind_some, nR_b1, nR_b0, nR_bI, nI_1z, nI_0z, bI_z, if_nn]
    rw [a1, a2]
    simp (disch := first | omega | decide) only [e_X2_readVariable_34, e_X2_readVariable_35, e_X2_readVariable_38, e_X2_readVariable_39, e_X2_readVariable_42, e_X2_readVariable_43, e_X2_readVariable_46, e_X2_readVariable_47, e_X2_readVariable_50, e_X2_readVariable_52, e_X2_readVariable_55, e_X2_readVariable_56, e_X2_readVariable_59, e_X2_readVariable_60, e_X2_readVariable_63, e_X2_readVariable_64, e_X2_readVariable_67, e_X2_readVariable_68, e_X2_readVariable_69, e_X2_readVariable_72, e_X2_readVariable_73, e_X2_readVariable_74, e_X2_readVariable_75, e_X2_readVariable_78, e_X2_readVariable_79, e_X2_readVariable_80, e_X2_readVariable_83, e_X2_readVariable_84, e_X2_readVariable_85, e_X2_readVariable_88, e_X2_readVariable_89, e_X2_readVariable_92, e_X2_readVariable_93, e_X2_readVariable_96, e_X2_readVariable_97, e_X2_readVariable_100, e_X2_readVariable_101, e_X2_readVariable_104, e_X2_readVariable_107, e_X2_readVariable_108, e_X2_readVariable_111, e_X2_readVariable_112, tw_cl, tg15, tg16, tg23, tg24, tp24 hT, tr23 hT, ts23 hT, cR_ref, cR_null, cR_rf, c1_int, c1_ref, c1_null, c1_rf, kz_int, kz_ref, kz_null, kz_rf, kz_U, kz_long, nB_null, nB_ref, rf_none, rf_some, bV_ret, bV_thr, bA_ret, bA_thr, bX_ret, bX_thr, len4_0, len4_1, len4_2, len4_3, len4_4, true_and, and_true, and_self, if_true, if_false, Option.bind_some, nR_b1, nR_b0, nR_bI, nI_1z, nI_0z, bI_z, if_nn, h2.1, c1, ↓nI_eq_if, hv0, e1]
  · have hvl : v = s.2.1.length := by omega
    rw [if_neg hl] at a2
    rw [if_pos hvl] at c4
    have hq : PL (sI (sL σ 23 s.2.1.length (wcode (tk cs s).2.1)) 24 (nI (s.2.1.length + 1))) cs (s.1, s.2.1 ++ [(tk cs s).2.1], s.2.2) := by
      refine ⟨h1, ⟨h2.1, h2.2.1, h2.2.2.1, h2.2.2.2.1, h2.2.2.2.2.1, h2.2.2.2.2.2⟩, h3, h4, ⟨?_, ?_, fun i w hw => ?_, ?_⟩, h6, h7⟩
      · simp [sI_1]
      · show (s.2.1 ++ [(tk cs s).2.1]).length ≤ 6
        simp; omega
      · rw [sI_2, sL_222, if_pos rfl]
        unfold va_up
        change (s.2.1 ++ [(tk cs s).2.1])[i]? = some w at hw
        by_cases hi : i < s.2.1.length
        · rw [List.getElem?_append_left hi] at hw
          rw [if_neg (by omega)]; exact n3 i w hw
        · have hil : i = s.2.1.length := by
            have := (List.getElem?_eq_some_iff.mp hw).1
            simp at this; omega
          subst hil
          simp at hw
          rw [if_pos rfl, hw]
          exact ⟨rfl, by rw [← hw]; exact (lex_w h3).1.1 (Or.inr c1)⟩
      · show (s.2.1 ++ [(tk cs s).2.1]).Nodup
        rw [List.nodup_append]
        refine ⟨n4, by simp, fun a ha b hb => ?_⟩
        rw [List.mem_singleton.mp hb]
        intro z
        rw [z] at ha
        obtain ⟨j, hj, e⟩ := List.mem_iff_getElem.mp ha
        have := fiN_eq n4 (by rw [List.getElem?_eq_getElem hj, e])
        omega
    obtain ⟨σ', e1, e2, e3⟩ := t_goOn1 (d := d) (h := h) hT hq
    refine ⟨σ', ?_, by rw [c4]; exact e2, ((Fx.sI (I := [15, 17, 18, 19, 20, 24]) (AI := []) (AL := [23]) (Fx.sL Fx.rfl' (by decide)) (by decide))).trans (e3.mono (by decide) (by decide) (by decide))⟩
    have hv0 : ¬ nI s.2.1.length < 0 := nI_pos (by omega)
    have hl6 : s.2.1.length < 6 := by omega
    have htk := h2.2.1 (Or.inr c1)
    simp (disch := first | omega | decide) only [n_X2_readVariable, e_X2_readVariable_0, e_X2_readVariable_1, e_X2_readVariable_2, e_X2_readVariable_3, tw_cl, tg15, tg16, tg23, tg24, tp24 hT, tr23 hT, ts23 hT, cR_ref, cR_null, cR_rf, c1_int, c1_ref, c1_null, c1_rf, kz_int, kz_ref, kz_null, kz_rf, kz_U, kz_long, nB_null, nB_ref, rf_none, rf_some, bV_ret, bV_thr, bA_ret, bA_thr, bX_ret, bX_thr, len4_0, len4_1, len4_2, len4_3, len4_4, true_and, and_true, and_self, if_true, if_false, Option.bind_some, nR_b1, nR_b0, nR_bI, nI_1z, nI_0z, bI_z, if_nn]
    rw [a1, a2]
    simp (disch := first | omega | decide) only [e_X2_readVariable_34, e_X2_readVariable_35, e_X2_readVariable_38, e_X2_readVariable_39, e_X2_readVariable_42, e_X2_readVariable_43, e_X2_readVariable_46, e_X2_readVariable_47, e_X2_readVariable_50, e_X2_readVariable_52, e_X2_readVariable_55, e_X2_readVariable_56, e_X2_readVariable_59, e_X2_readVariable_60, e_X2_readVariable_63, e_X2_readVariable_64, e_X2_readVariable_67, e_X2_readVariable_68, e_X2_readVariable_69, e_X2_readVariable_72, e_X2_readVariable_73, e_X2_readVariable_74, e_X2_readVariable_75, e_X2_readVariable_78, e_X2_readVariable_79, e_X2_readVariable_80, e_X2_readVariable_83, e_X2_readVariable_84, e_X2_readVariable_85, e_X2_readVariable_88, e_X2_readVariable_89, e_X2_readVariable_92, e_X2_readVariable_93, e_X2_readVariable_96, e_X2_readVariable_97, e_X2_readVariable_100, e_X2_readVariable_101, e_X2_readVariable_104, e_X2_readVariable_107, e_X2_readVariable_108, e_X2_readVariable_111, e_X2_readVariable_112, tw_cl, tg15, tg16, tg23, tg24, tp24 hT, tr23 hT, ts23 hT, cR_ref, cR_null, cR_rf, c1_int, c1_ref, c1_null, c1_rf, kz_int, kz_ref, kz_null, kz_rf, kz_U, kz_long, nB_null, nB_ref, rf_none, rf_some, bV_ret, bV_thr, bA_ret, bA_thr, bX_ret, bX_thr, len4_0, len4_1, len4_2, len4_3, len4_4, true_and, and_true, and_self, if_true, if_false, Option.bind_some, nR_b1, nR_b0, nR_bI, nI_1z, nI_0z, bI_z, if_nn, sI_1, sI_2, sT_1, sT_21, sT_22, sA_1, sA_21, sA_221, sA_222, sL_1, sL_21, sL_221, sL_222, Nat.reduceEqDiff, ↓reduceIte, nI_add, pk_mul, h2.1, c1, ↓nI_eq_if, ↓nI_lt_if, hm1, hv0, n1, hl6, htk, e1, hvl]
set_option maxHeartbeats 1000000 in
theorem t_rv_er (hT : TwOk Ω.sz x A) (hp : PL σ cs s) {q : Nat} (hv : pVar cs s = .error q) : gM PG Ω (d + 7) 66 [.ref x] (tW h x A σ) = some (.returned (some (.int (-1))), tW h x A (sI σ 20 (nI q))) := by
  obtain ⟨c1, c2⟩ := pVar_er hv
  obtain ⟨vv, l2, a1, a2⟩ := t_rv1 (d := d + 6) (h := h) hT hp s.2.1.length 0 (-1) (by omega) (fun q => ⟨fun z => absurd z (Nat.not_lt_zero _), fun _ => rfl⟩)
  have hp' := hp
  obtain ⟨h1, h2, h3, h4, ⟨n1, n2, n3, n4⟩, h6, h7⟩ := hp
  have hm1 : (-1 : Int32) < 0 := by decide
  have h5 := hp'.w.2.2.2
  subst c1
  have e0 := t_goOn0 (d := d + 4) (h := h) hT hp'
  simp (disch := first | omega | decide) only [n_X2_readVariable, e_X2_readVariable_0, e_X2_readVariable_1, e_X2_readVariable_2, e_X2_readVariable_3, tw_cl, tg15, tg16, tg23, tg24, tp24 hT, tr23 hT, ts23 hT, cR_ref, cR_null, cR_rf, c1_int, c1_ref, c1_null, c1_rf, kz_int, kz_ref, kz_null, kz_rf, kz_U, kz_long, nB_null, nB_ref, rf_none, rf_some, bV_ret, bV_thr, bA_ret, bA_thr, bX_ret, bX_thr, len4_0, len4_1, len4_2, len4_3, len4_4, true_and, and_true, and_self, if_true, if_false, Option.bind_some, nR_b1, nR_b0, nR_bI, nI_1z, nI_0z, bI_z, if_nn]
  rw [a1]
  by_cases h33 : (tk cs s).1 = 3
  · have c2 := c2 h33
    have hle := fiN_le (nm := s.2.1) (w := (tk cs s).2.1)
    have hl6 : s.2.1.length = 6 := by omega
    have a2 := a2 h33
    rw [if_neg (by omega)] at a2
    rw [a2]
    simp (disch := first | omega | decide) only [e_X2_readVariable_34, e_X2_readVariable_35, e_X2_readVariable_38, e_X2_readVariable_39, e_X2_readVariable_42, e_X2_readVariable_43, e_X2_readVariable_46, e_X2_readVariable_47, e_X2_readVariable_50, e_X2_readVariable_52, e_X2_readVariable_55, e_X2_readVariable_56, e_X2_readVariable_59, e_X2_readVariable_60, e_X2_readVariable_63, e_X2_readVariable_64, e_X2_readVariable_67, e_X2_readVariable_68, e_X2_readVariable_69, e_X2_readVariable_72, e_X2_readVariable_73, e_X2_readVariable_74, e_X2_readVariable_75, e_X2_readVariable_78, e_X2_readVariable_79, e_X2_readVariable_80, e_X2_readVariable_83, e_X2_readVariable_84, e_X2_readVariable_85, e_X2_readVariable_88, e_X2_readVariable_89, e_X2_readVariable_92, e_X2_readVariable_93, e_X2_readVariable_96, e_X2_readVariable_97, e_X2_readVariable_100, e_X2_readVariable_101, e_X2_readVariable_104, e_X2_readVariable_107, e_X2_readVariable_108, e_X2_readVariable_111, e_X2_readVariable_112, tw_cl, tg15, tg16, tg23, tg24, tp24 hT, tr23 hT, ts23 hT, cR_ref, cR_null, cR_rf, c1_int, c1_ref, c1_null, c1_rf, kz_int, kz_ref, kz_null, kz_rf, kz_U, kz_long, nB_null, nB_ref, rf_none, rf_some, bV_ret, bV_thr, bA_ret, bA_thr, bX_ret, bX_thr, len4_0, len4_1, len4_2, len4_3, len4_4, true_and, and_true, and_self, if_true, if_false, Option.bind_some, nR_b1, nR_b0, nR_bI, nI_1z, nI_0z, bI_z, if_nn, sI_1, sI_2, sT_1, sT_21, sT_22, sA_1, sA_21, sA_221, sA_222, sL_1, sL_21, sL_221, sL_222, Nat.reduceEqDiff, ↓reduceIte, nI_add, pk_mul, h2.1, h33, ↓nI_eq_if, ↓nI_lt_if, hm1, n1, hl6, Nat.lt_irrefl, e0]
  · simp (disch := first | omega | decide) only [e_X2_readVariable_34, e_X2_readVariable_35, e_X2_readVariable_38, e_X2_readVariable_39, e_X2_readVariable_42, e_X2_readVariable_43, e_X2_readVariable_46, e_X2_readVariable_47, e_X2_readVariable_50, e_X2_readVariable_52, e_X2_readVariable_55, e_X2_readVariable_56, e_X2_readVariable_59, e_X2_readVariable_60, e_X2_readVariable_63, e_X2_readVariable_64, e_X2_readVariable_67, e_X2_readVariable_68, e_X2_readVariable_69, e_X2_readVariable_72, e_X2_readVariable_73, e_X2_readVariable_74, e_X2_readVariable_75, e_X2_readVariable_78, e_X2_readVariable_79, e_X2_readVariable_80, e_X2_readVariable_83, e_X2_readVariable_84, e_X2_readVariable_85, e_X2_readVariable_88, e_X2_readVariable_89, e_X2_readVariable_92, e_X2_readVariable_93, e_X2_readVariable_96, e_X2_readVariable_97, e_X2_readVariable_100, e_X2_readVariable_101, e_X2_readVariable_104, e_X2_readVariable_107, e_X2_readVariable_108, e_X2_readVariable_111, e_X2_readVariable_112, tw_cl, tg15, tg16, tg23, tg24, tp24 hT, tr23 hT, ts23 hT, cR_ref, cR_null, cR_rf, c1_int, c1_ref, c1_null, c1_rf, kz_int, kz_ref, kz_null, kz_rf, kz_U, kz_long, nB_null, nB_ref, rf_none, rf_some, bV_ret, bV_thr, bA_ret, bA_thr, bX_ret, bX_thr, len4_0, len4_1, len4_2, len4_3, len4_4, true_and, and_true, and_self, if_true, if_false, Option.bind_some, nR_b1, nR_b0, nR_bI, nI_1z, nI_0z, bI_z, if_nn, sI_1, sI_2, sT_1, sT_21, sT_22, sA_1, sA_21, sA_221, sA_222, sL_1, sL_21, sL_221, sL_222, Nat.reduceEqDiff, ↓reduceIte, nI_add, pk_mul, h2.1, h33, ↓nI_eq_if, ↓nI_lt_if, e0]
theorem TkS.fx {t : Tok} {σ' : Tw} {I AI AL : List Nat} (hk : TkS σ t) (hf : Fx I AI AL σ σ') (h1 : ∀ j ∈ [15, 17, 18, 19], j ∉ I) (ht : σ'.2.1 = σ.2.1) : TkS σ' t := by
  unfold TkS at *
  rw [hf.1 15 (h1 15 (by decide)), hf.1 18 (h1 18 (by decide)), hf.1 19 (h1 19 (by decide)), hf.1 17 (h1 17 (by decide)), ht]
  exact hk
theorem PL.fx {σ' : Tw} {I AI AL : List Nat} (hp : PL σ cs s) (hf : Fx I AI AL σ σ') (hi : ∀ j ∈ [13, 15, 17, 18, 19, 20, 24, 25], j ∉ I) (h12 : 12 ∉ AI) (h23 : 23 ∉ AL) (ht : σ'.2.1 = σ.2.1) : PL σ' cs s := by
  obtain ⟨h1, h2, h3, h4, h5, h6, h7⟩ := hp
  refine ⟨h1.fx hf (hi 13 (by decide)) h12, h2.fx hf (fun j hj => hi j (by revert hj; revert j; decide)) ht, h3, by rw [hf.1 20 (hi 20 (by decide))]; exact h4, ⟨by rw [hf.1 24 (hi 24 (by decide))]; exact h5.1, h5.2.1, fun i w hw => by rw [hf.2.2 23 h23]; exact h5.2.2.1 i w hw, h5.2.2.2⟩, by rw [hf.1 25 (hi 25 (by decide))]; exact h6, h7⟩
theorem PL.q {s : PS} (hp : PL σ cs s) : (tk cs s).2.2.1 ≤ 160 := by
  have h2 := (lex_w hp.2.2.1).2.2
  have h3 := hp.1.2.1
  unfold tk
  omega
/-- a side is written -/
def SdS (σ : Tw) (at' : Nat) (sd : Sd) : Prop := match sd with
  | .inl v => v < 6 ∧ σ.2.2.1 33 at' = nI v
  | .inr c => σ.2.2.1 33 at' = -1 ∧ σ.2.2.2 34 at' = c
/-- only the sides from lo to below hi -/
def FxD (lo hi : Nat) (σ σ' : Tw) : Prop := Fx [15, 17, 18, 19, 20, 24] [33] [23, 34] σ σ' ∧ ∀ i, (i < lo ∨ hi ≤ i) → σ'.2.2.1 33 i = σ.2.2.1 33 i ∧ σ'.2.2.2 34 i = σ.2.2.2 34 i
theorem FxD.trans {lo hi : Nat} {σ σ' σ'' : Tw} (h : FxD lo hi σ σ') (h' : FxD lo hi σ' σ'') : FxD lo hi σ σ'' := ⟨h.1.trans h'.1, fun i hi => ⟨(h'.2 i hi).1.trans (h.2 i hi).1, (h'.2 i hi).2.trans (h.2 i hi).2⟩⟩
theorem FxD.mono {lo hi lo' hi' : Nat} {σ σ' : Tw} (h : FxD lo hi σ σ') (h1 : lo' ≤ lo) (h2 : hi ≤ hi') : FxD lo' hi' σ σ' := ⟨h.1, fun i q => h.2 i (by omega)⟩
theorem FxV.D {σ σ' : Tw} {lo hi : Nat} (h : FxV σ σ') : FxD lo hi σ σ' := ⟨h.mono (by decide) (by decide) (by decide), fun i _ => ⟨by rw [h.2.1 33 (by decide)], by rw [h.2.2 34 (by decide)]⟩⟩
theorem FxD.sA {σ σ' : Tw} {lo hi i : Nat} {v : Int32} (h : FxD lo hi σ σ') (h1 : lo ≤ i) (h2 : i < hi) : FxD lo hi σ (sA σ' 33 i v) := by
  refine ⟨h.1.sA (by decide), fun j hj => ?_⟩
  rw [sA_221, if_pos rfl, sA_222]
  unfold va_up
  rw [if_neg (by omega)]
  exact h.2 j hj
theorem FxD.sL {σ σ' : Tw} {lo hi i : Nat} {v : Int64} (h : FxD lo hi σ σ') (h1 : lo ≤ i) (h2 : i < hi) : FxD lo hi σ (sL σ' 34 i v) := by
  refine ⟨h.1.sL (by decide), fun j hj => ?_⟩
  rw [sL_221, sL_222, if_pos rfl]
  unfold va_up
  rw [if_neg (by omega)]
  exact h.2 j hj
theorem FxD.rfl' {σ : Tw} {lo hi : Nat} : FxD lo hi σ σ := ⟨Fx.rfl', fun _ _ => ⟨rfl, rfl⟩⟩
theorem FxD.er {σ σ' : Tw} {lo hi : Nat} {v : Int32} (h : FxD lo hi σ σ') : FxD lo hi σ (sI σ' 20 v) := ⟨h.1.sI (by decide), h.2⟩
theorem SdS.keep {σ σ' : Tw} {lo hi i : Nat} {sd : Sd} (h : SdS σ i sd) (hf : FxD lo hi σ σ') (hi : i < lo ∨ hi ≤ i) : SdS σ' i sd := by
  unfold SdS at *
  cases sd with
  | inl v => exact ⟨h.1, by rw [(hf.2 i hi).1]; exact h.2⟩
  | inr c => exact ⟨by rw [(hf.2 i hi).1]; exact h.1, by rw [(hf.2 i hi).2]; exact h.2⟩
set_option maxHeartbeats 1000000 in
theorem t_rs_ok (hT : TwOk Ω.sz x A) (hp : PL σ cs s) {i : Nat} (hi : i < 120) {sd : Sd} {s' : PS} (hv : pSide cs s = .ok (sd, s')) : ∃ σ', gM PG Ω (d + 8) 74 [.ref x, .int (nI i)] (tW h x A σ) = some (.returned none, tW h x A σ') ∧ PL σ' cs s' ∧ SdS σ' i sd ∧ FxD i (i + 1) σ σ' := by
  have h5 := hp.w.2.2.2
  have hp1 : PL (sA σ 33 i (-1)) cs s := hp.fx (Fx.sA (I := []) (AI := [33]) (AL := []) Fx.rfl' (by decide)) (by decide) (by decide) (by decide) rfl
  unfold pSide at hv
  by_cases h3 : (tk cs s).1 = 3
  · rw [if_pos h3] at hv
    cases hq : pVar cs s with
    | error q => rw [hq] at hv; cases hv
    | ok r =>
      obtain ⟨v, s1⟩ := r
      rw [hq] at hv
      cases hv
      obtain ⟨σ', e1, e2, e3⟩ := t_rv_ok (d := d) (h := h) hT hp1 hq
      refine ⟨sA σ' 33 i (nI v), ?_, e2.fx (Fx.sA (I := []) (AI := [33]) (AL := []) Fx.rfl' (by decide)) (by decide) (by decide) (by decide) rfl, ⟨(pVar_ok hq).2.2.1, by rw [sA_221, if_pos rfl]; simp [va_up]⟩, ((FxD.rfl'.sA (Nat.le_refl _) (by omega)).trans e3.D).sA (Nat.le_refl _) (by omega)⟩
      simp (disch := first | omega | decide) only [n_X2_readSide, e_X2_readSide_0, e_X2_readSide_1, e_X2_readSide_4, e_X2_readSide_5, e_X2_readSide_6, e_X2_readSide_7, e_X2_readSide_8, e_X2_readSide_11, e_X2_readSide_12, e_X2_readSide_15, e_X2_readSide_16, e_X2_readSide_19, e_X2_readSide_20, e_X2_readSide_21, e_X2_readSide_24, e_X2_readSide_25, e_X2_readSide_28, e_X2_readSide_29, e_X2_readSide_32, e_X2_readSide_33, e_X2_readSide_34, e_X2_readSide_37, e_X2_readSide_38, e_X2_readSide_41, e_X2_readSide_44, e_X2_readSide_45, e_X2_readSide_48, e_X2_readSide_49, e_X2_readSide_52, e_X2_readSide_53, e_X2_readSide_56, e_X2_readSide_57, e_X2_readSide_58, e_X2_readSide_59, e_X2_readSide_62, e_X2_readSide_65, e_X2_readSide_66, tw_cl, tg15, tg16, tg33, tg34, tr33 hT, tr34 hT, ts33 hT, ts34 hT, cR_ref, cR_null, cR_rf, c1_int, c1_ref, c1_null, c1_rf, kz_int, kz_ref, kz_null, kz_rf, kz_U, kz_long, nB_null, nB_ref, rf_none, rf_some, bV_ret, bV_thr, bA_ret, bA_thr, bX_ret, bX_thr, len4_0, len4_1, len4_2, len4_3, len4_4, true_and, and_true, and_self, if_true, if_false, Option.bind_some, nR_b1, nR_b0, nR_bI, nI_1z, nI_0z, bI_z, if_nn, sI_1, sI_2, sT_1, sT_21, sT_22, sA_1, sA_21, sA_221, sA_222, sL_1, sL_21, sL_221, sL_222, Nat.reduceEqDiff, ↓reduceIte, hp.2.1.1, h3, ↓nI_eq_if, e1]
  · rw [if_neg h3] at hv
    by_cases h2 : (tk cs s).1 = 2
    · rw [if_pos h2] at hv
      cases hv
      have htm : isTm (tk cs s) = true := by unfold isTm; exact decide_eq_true (Or.inl h2)
      have hp2 : PL (sL (sA σ 33 i (-1)) 34 i (-1 - ncode (tk cs s).2.1)) cs s := hp1.fx (Fx.sL (I := []) (AI := []) (AL := [34]) Fx.rfl' (by decide)) (by decide) (by decide) (by decide) rfl
      obtain ⟨σ', e1, e2, e3⟩ := t_goOn1 (d := d + 1) (h := h) hT hp2
      have ht := t_isTerm (d := d + 5) (h := h) hT hp2.2.1 hp2.w
      rw [htm] at ht
      have hfd : FxD i (i + 1) σ (sL (sA σ 33 i (-1)) 34 i (-1 - ncode (tk cs s).2.1)) := (FxD.rfl'.sA (Nat.le_refl _) (by omega)).sL (Nat.le_refl _) (by omega)
      have hv3 : FxV (sL (sA σ 33 i (-1)) 34 i (-1 - ncode (tk cs s).2.1)) σ' := e3.mono (by decide) (by decide) (by decide)
      refine ⟨σ', ?_, e2, ⟨?_, ?_⟩, hfd.trans hv3.D⟩
      · have hn := hp.2.1.2.2.1 h2
        simp (disch := first | omega | decide) only [n_X2_readSide, e_X2_readSide_0, e_X2_readSide_1, e_X2_readSide_4, e_X2_readSide_5, e_X2_readSide_6, e_X2_readSide_7, e_X2_readSide_8, e_X2_readSide_11, e_X2_readSide_12, e_X2_readSide_15, e_X2_readSide_16, e_X2_readSide_19, e_X2_readSide_20, e_X2_readSide_21, e_X2_readSide_24, e_X2_readSide_25, e_X2_readSide_28, e_X2_readSide_29, e_X2_readSide_32, e_X2_readSide_33, e_X2_readSide_34, e_X2_readSide_37, e_X2_readSide_38, e_X2_readSide_41, e_X2_readSide_44, e_X2_readSide_45, e_X2_readSide_48, e_X2_readSide_49, e_X2_readSide_52, e_X2_readSide_53, e_X2_readSide_56, e_X2_readSide_57, e_X2_readSide_58, e_X2_readSide_59, e_X2_readSide_62, e_X2_readSide_65, e_X2_readSide_66, tw_cl, tg15, tg16, tg33, tg34, tr33 hT, tr34 hT, ts33 hT, ts34 hT, cR_ref, cR_null, cR_rf, c1_int, c1_ref, c1_null, c1_rf, kz_int, kz_ref, kz_null, kz_rf, kz_U, kz_long, nB_null, nB_ref, rf_none, rf_some, bV_ret, bV_thr, bA_ret, bA_thr, bX_ret, bX_thr, len4_0, len4_1, len4_2, len4_3, len4_4, true_and, and_true, and_self, if_true, if_false, Option.bind_some, nR_b1, nR_b0, nR_bI, nI_1z, nI_0z, bI_z, if_nn, sI_1, sI_2, sT_1, sT_21, sT_22, sA_1, sA_21, sA_221, sA_222, sL_1, sL_21, sL_221, sL_222, Nat.reduceEqDiff, ↓reduceIte, hp.2.1.1, h2, ↓nI_eq_if, Nat.reduceEqDiff, hn, ht, bI_t, e1]
      · rw [e3.2.1 33 (by decide)]; simp [sL_221, sA_221, va_up]
      · rw [e3.2.2 34 (by decide)]; simp [sL_222, va_up]
    · rw [if_neg h2] at hv
      by_cases h1 : isTm (tk cs s) = true
      · rw [if_pos h1] at hv
        cases hv
        have hk1 : (tk cs s).1 = 1 := by
          have := of_decide_eq_true h1
          rcases this with q | q
          · exact absurd q h2
          · exact q.1
        have hp2 : PL (sL (sA σ 33 i (-1)) 34 i (wcode (tk cs s).2.1)) cs s := hp1.fx (Fx.sL (I := []) (AI := []) (AL := [34]) Fx.rfl' (by decide)) (by decide) (by decide) (by decide) rfl
        obtain ⟨σ', e1, e2, e3⟩ := t_goOn1 (d := d + 1) (h := h) hT hp2
        have ht := t_isTerm (d := d + 5) (h := h) hT hp2.2.1 hp2.w
        rw [h1] at ht
        have hfd : FxD i (i + 1) σ (sL (sA σ 33 i (-1)) 34 i (wcode (tk cs s).2.1)) := (FxD.rfl'.sA (Nat.le_refl _) (by omega)).sL (Nat.le_refl _) (by omega)
        have hv3 : FxV (sL (sA σ 33 i (-1)) 34 i (wcode (tk cs s).2.1)) σ' := e3.mono (by decide) (by decide) (by decide)
        refine ⟨σ', ?_, e2, ⟨?_, ?_⟩, hfd.trans hv3.D⟩
        · have hn := hp.2.1.2.1 (Or.inl hk1)
          simp (disch := first | omega | decide) only [n_X2_readSide, e_X2_readSide_0, e_X2_readSide_1, e_X2_readSide_4, e_X2_readSide_5, e_X2_readSide_6, e_X2_readSide_7, e_X2_readSide_8, e_X2_readSide_11, e_X2_readSide_12, e_X2_readSide_15, e_X2_readSide_16, e_X2_readSide_19, e_X2_readSide_20, e_X2_readSide_21, e_X2_readSide_24, e_X2_readSide_25, e_X2_readSide_28, e_X2_readSide_29, e_X2_readSide_32, e_X2_readSide_33, e_X2_readSide_34, e_X2_readSide_37, e_X2_readSide_38, e_X2_readSide_41, e_X2_readSide_44, e_X2_readSide_45, e_X2_readSide_48, e_X2_readSide_49, e_X2_readSide_52, e_X2_readSide_53, e_X2_readSide_56, e_X2_readSide_57, e_X2_readSide_58, e_X2_readSide_59, e_X2_readSide_62, e_X2_readSide_65, e_X2_readSide_66, tw_cl, tg15, tg16, tg33, tg34, tr33 hT, tr34 hT, ts33 hT, ts34 hT, cR_ref, cR_null, cR_rf, c1_int, c1_ref, c1_null, c1_rf, kz_int, kz_ref, kz_null, kz_rf, kz_U, kz_long, nB_null, nB_ref, rf_none, rf_some, bV_ret, bV_thr, bA_ret, bA_thr, bX_ret, bX_thr, len4_0, len4_1, len4_2, len4_3, len4_4, true_and, and_true, and_self, if_true, if_false, Option.bind_some, nR_b1, nR_b0, nR_bI, nI_1z, nI_0z, bI_z, if_nn, sI_1, sI_2, sT_1, sT_21, sT_22, sA_1, sA_21, sA_221, sA_222, sL_1, sL_21, sL_221, sL_222, Nat.reduceEqDiff, ↓reduceIte, hp.2.1.1, hk1, ↓nI_eq_if, Nat.reduceEqDiff, hn, ht, bI_t, e1]
        · rw [e3.2.1 33 (by decide)]; simp [sL_221, sA_221, va_up]
        · rw [e3.2.2 34 (by decide)]; simp [sL_222, va_up]
      · rw [if_neg h1] at hv; cases hv
set_option maxHeartbeats 1000000 in
theorem t_rs_er (hT : TwOk Ω.sz x A) (hp : PL σ cs s) {i : Nat} (hi : i < 120) {q : Nat} (hv : pSide cs s = .error q) : ∃ σ', gM PG Ω (d + 8) 74 [.ref x, .int (nI i)] (tW h x A σ) = some (.returned none, tW h x A σ') ∧ σ'.1 20 = nI q ∧ q ≤ 160 ∧ FxD i (i + 1) σ σ' := by
  have h5 := hp.w.2.2.2
  have hp1 : PL (sA σ 33 i (-1)) cs s := hp.fx (Fx.sA (I := []) (AI := [33]) (AL := []) Fx.rfl' (by decide)) (by decide) (by decide) (by decide) rfl
  unfold pSide at hv
  by_cases h3 : (tk cs s).1 = 3
  · rw [if_pos h3] at hv
    cases hq : pVar cs s with
    | error q' =>
      rw [hq] at hv
      cases hv
      have e1 := t_rv_er (d := d) (h := h) hT hp1 hq
      refine ⟨sA (sI (sA σ 33 i (-1)) 20 (nI q)) 33 i (-1), ?_, rfl, by rw [(pVar_er hq).1]; exact hp.q, (FxD.rfl'.sA (Nat.le_refl _) (by omega)).er.sA (Nat.le_refl _) (by omega)⟩
      simp (disch := first | omega | decide) only [n_X2_readSide, e_X2_readSide_0, e_X2_readSide_1, e_X2_readSide_4, e_X2_readSide_5, e_X2_readSide_6, e_X2_readSide_7, e_X2_readSide_8, e_X2_readSide_11, e_X2_readSide_12, e_X2_readSide_15, e_X2_readSide_16, e_X2_readSide_19, e_X2_readSide_20, e_X2_readSide_21, e_X2_readSide_24, e_X2_readSide_25, e_X2_readSide_28, e_X2_readSide_29, e_X2_readSide_32, e_X2_readSide_33, e_X2_readSide_34, e_X2_readSide_37, e_X2_readSide_38, e_X2_readSide_41, e_X2_readSide_44, e_X2_readSide_45, e_X2_readSide_48, e_X2_readSide_49, e_X2_readSide_52, e_X2_readSide_53, e_X2_readSide_56, e_X2_readSide_57, e_X2_readSide_58, e_X2_readSide_59, e_X2_readSide_62, e_X2_readSide_65, e_X2_readSide_66, tw_cl, tg15, tg16, tg33, tg34, tr33 hT, tr34 hT, ts33 hT, ts34 hT, cR_ref, cR_null, cR_rf, c1_int, c1_ref, c1_null, c1_rf, kz_int, kz_ref, kz_null, kz_rf, kz_U, kz_long, nB_null, nB_ref, rf_none, rf_some, bV_ret, bV_thr, bA_ret, bA_thr, bX_ret, bX_thr, len4_0, len4_1, len4_2, len4_3, len4_4, true_and, and_true, and_self, if_true, if_false, Option.bind_some, nR_b1, nR_b0, nR_bI, nI_1z, nI_0z, bI_z, if_nn, sI_1, sI_2, sT_1, sT_21, sT_22, sA_1, sA_21, sA_221, sA_222, sL_1, sL_21, sL_221, sL_222, Nat.reduceEqDiff, ↓reduceIte, hp.2.1.1, h3, ↓nI_eq_if, e1]
    | ok r => rw [hq] at hv; cases hv
  · rw [if_neg h3] at hv
    by_cases h2 : (tk cs s).1 = 2
    · rw [if_pos h2] at hv; cases hv
    · rw [if_neg h2] at hv
      by_cases h1 : isTm (tk cs s) = true
      · rw [if_pos h1] at hv; cases hv
      · rw [if_neg h1] at hv
        cases hv
        have hp2 : PL (sL (sA σ 33 i (-1)) 34 i σ.2.1) cs s := hp1.fx (Fx.sL (I := []) (AI := []) (AL := [34]) Fx.rfl' (by decide)) (by decide) (by decide) (by decide) rfl
        have e1 := t_goOn0 (d := d + 5) (h := h) hT hp2
        have ht := t_isTerm (d := d + 5) (h := h) hT hp2.2.1 hp2.w
        rw [Bool.eq_false_iff.mpr h1] at ht
        refine ⟨sI (sL (sA σ 33 i (-1)) 34 i σ.2.1) 20 (nI (tk cs s).2.2.1), ?_, rfl, hp.q, ((FxD.rfl'.sA (Nat.le_refl _) (by omega)).sL (Nat.le_refl _) (by omega)).er⟩
        simp (disch := first | omega | decide) only [n_X2_readSide, e_X2_readSide_0, e_X2_readSide_1, e_X2_readSide_4, e_X2_readSide_5, e_X2_readSide_6, e_X2_readSide_7, e_X2_readSide_8, e_X2_readSide_11, e_X2_readSide_12, e_X2_readSide_15, e_X2_readSide_16, e_X2_readSide_19, e_X2_readSide_20, e_X2_readSide_21, e_X2_readSide_24, e_X2_readSide_25, e_X2_readSide_28, e_X2_readSide_29, e_X2_readSide_32, e_X2_readSide_33, e_X2_readSide_34, e_X2_readSide_37, e_X2_readSide_38, e_X2_readSide_41, e_X2_readSide_44, e_X2_readSide_45, e_X2_readSide_48, e_X2_readSide_49, e_X2_readSide_52, e_X2_readSide_53, e_X2_readSide_56, e_X2_readSide_57, e_X2_readSide_58, e_X2_readSide_59, e_X2_readSide_62, e_X2_readSide_65, e_X2_readSide_66, tw_cl, tg15, tg16, tg33, tg34, tr33 hT, tr34 hT, ts33 hT, ts34 hT, cR_ref, cR_null, cR_rf, c1_int, c1_ref, c1_null, c1_rf, kz_int, kz_ref, kz_null, kz_rf, kz_U, kz_long, nB_null, nB_ref, rf_none, rf_some, bV_ret, bV_thr, bA_ret, bA_thr, bX_ret, bX_thr, len4_0, len4_1, len4_2, len4_3, len4_4, true_and, and_true, and_self, if_true, if_false, Option.bind_some, nR_b1, nR_b0, nR_bI, nI_1z, nI_0z, bI_z, if_nn, sI_1, sI_2, sT_1, sT_21, sT_22, sA_1, sA_21, sA_221, sA_222, sL_1, sL_21, sL_221, sL_222, Nat.reduceEqDiff, ↓reduceIte, hp.2.1.1, h2, h3, ↓nI_eq_if, ht, bI_f, e1]
end TP2
