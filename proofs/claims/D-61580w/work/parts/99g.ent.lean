/-! COMPONENT: a row is entered -/
abbrev ccE (v0 v1 v2 v3 v4 v5 v6 v7 v8 v9 v10 v13 : Value) (ra : Nat) (n : Int32) : Ce := .inr (0, [v0, v1, v2, v3, v4, v5, v6, v7, v8, v9, v10, .ref ra, .int n, v13])
def RwsF (h : AH) (N : Nat) (R : List Rw) (f : Nat → Option Nat) : Prop := R.length ≤ N ∧ ∀ i r, R[i]? = some r → ∃ a, f i = some a ∧ RowR h a r
def insP (fa : Bool) (r : Rw) (R : List Rw) : Nat → Nat
  | 0 => 0
  | k + 1 => match R[k]? with
    | some x => if befR fa r x = true then insP fa r R k else k + 1
    | none => k + 1
def insR (fa : Bool) (r : Rw) (R : List Rw) : List Rw := R.take (insP fa r R R.length) ++ r :: R.drop (insP fa r R R.length)
def fiR (r : Rw) (R : List Rw) : Nat := R.findIdx (fun x => decide (byL x.2 r.2 = 0))
def entR (di fa : Bool) (r : Rw) (R : List Rw) : List Rw := if di = true then (match R[fiR r R]? with
  | some x => if befR fa r x = true then insR fa r (R.eraseIdx (fiR r R)) else R
  | none => insR fa r R) else insR fa r R
theorem insP_le {fa : Bool} {r : Rw} {R : List Rw} (k : Nat) : insP fa r R k ≤ k := by
  induction k with
  | zero => exact Nat.le_refl _
  | succ k ih =>
    unfold insP
    split
    · split
      · omega
      · exact Nat.le_refl _
    · exact Nat.le_refl _
theorem insA_get {r : Rw} {R : List Rw} {p i : Nat} (hp : p ≤ R.length) : (R.take p ++ r :: R.drop p)[i]? = if i < p then R[i]? else if i = p then some r else R[i - 1]? := by
  have hl : (R.take p).length = p := by rw [List.length_take]; omega
  by_cases h1 : i < p
  · rw [if_pos h1, List.getElem?_append_left (by omega), List.getElem?_take_of_lt h1]
  · rw [if_neg h1, List.getElem?_append_right (by omega), hl]
    by_cases h2 : i = p
    · rw [if_pos h2, h2, Nat.sub_self]; rfl
    · rw [if_neg h2]
      obtain ⟨j, rfl⟩ : ∃ j, i = p + (j + 1) := ⟨i - p - 1, by omega⟩
      rw [show p + (j + 1) - p = j + 1 by omega, List.getElem?_cons_succ, List.getElem?_drop, show p + (j + 1) - 1 = p + j by omega]
theorem insR_len {fa : Bool} {r : Rw} {R : List Rw} : (insR fa r R).length = R.length + 1 := by
  have := insP_le (fa := fa) (r := r) (R := R) R.length
  unfold insR
  rw [List.length_append, List.length_cons, List.length_take, List.length_drop]
  omega
section ENT
variable {Ω : Om} {d : Nat} {h h' h0 h1 h2 : AH} {b c q ra N : Nat} {r : Rw} {R : List Rw} {v0 v1 v2 v3 v4 v5 v6 v7 v8 v9 v10 v13 q1 q2 q3 q4 q6 l4 : Value} {di fa : Bool} {f : Nat → Option Nat}
theorem FS.cr {N : Nat} {fs : List Value} (hc : h.1 c = some (.inr (0, fs))) (ha : h.1 ra = some (arR "TripleStore$Row" N f)) : FS h [c, ra] := by
  intro x hx e he
  rcases List.mem_cons.mp hx with rfl | hx
  · rw [hc] at he; cases he; show 0 ∉ _; decide
  · rw [List.mem_singleton.mp hx, ha] at he; cases he; exact ⟨by decide, fun z => by cases z⟩
/-- the insertion -/
theorem c_ins (hR : RwsF h N R f) (hra : h.1 ra = some (arR "TripleStore$Row" N f)) (hc0 : h.1 c = some (ccE v0 v1 v2 v3 v4 v5 v6 v7 v8 v9 v10 v13 ra (nI R.length))) (hN : R.length < N) (hN2 : N ≤ 150) (hr : RowR h b r) (hlen : ∀ x ∈ R, x.2.length = r.2.length) {q0 : Value} (hq : h.1 q = some (.inr (8, [q0, q1, q2, q3, q4, .int (bI fa), q6]))) (hFe : Fe h) (hzc : Ω.sz ≤ c) (hzr : Ω.sz ≤ ra) {l3 : Value} : ∃ h' f', gO PG Ω (d + 8) 33 104 [.ref c, .ref b, .ref q, l3, l4] [] h = some (.returned none, h') ∧ h'.1 c = some (ccE v0 v1 v2 v3 v4 v5 v6 v7 v8 v9 v10 v13 ra (nI (insR fa r R).length)) ∧ h'.1 ra = some (arR "TripleStore$Row" N f') ∧ RwsF h' N (insR fa r R) f' ∧ Nx [c, ra] 0 0 h h' := by
  have hFS := FS.cr hc0 hra
  have hne : ra ≠ c := fun z => by rw [z, hc0] at hra; cases hra
  have hnq : q ∉ [c, ra] := fun z => by
    rcases List.mem_cons.mp z with rfl | z
    · rw [hc0] at hq; cases hq
    · rw [List.mem_singleton.mp z, hra] at hq; cases hq
  have key : ∀ (k : Nat) (H : AH) (F : Nat → Option Nat), k ≤ R.length → Nx [c, ra] 0 0 h H → H.1 c = some (ccE v0 v1 v2 v3 v4 v5 v6 v7 v8 v9 v10 v13 ra (nI R.length)) → H.1 ra = some (arR "TripleStore$Row" N F) → (∀ j, j < k → F j = f j) → (∀ j, k ≤ j → j < R.length → F (j + 1) = f j) → ∃ H' F', gO PG Ω (d + 8) 33 109 [.ref c, .ref b, .ref q, .int (nI k), l4] [] H = gO PG Ω (d + 8) 33 152 [.ref c, .ref b, .ref q, .int (nI (insP fa r R k)), l4] [] H' ∧ Nx [c, ra] 0 0 h H' ∧ H'.1 c = some (ccE v0 v1 v2 v3 v4 v5 v6 v7 v8 v9 v10 v13 ra (nI R.length)) ∧ H'.1 ra = some (arR "TripleStore$Row" N F') ∧ (∀ j, j < insP fa r R k → F' j = f j) ∧ (∀ j, insP fa r R k ≤ j → j < R.length → F' (j + 1) = f j) := by
    intro k
    induction k with
    | zero =>
      intro H F hk nn c1 c2 c3 c4
      refine ⟨H, F, ?_, nn, c1, c2, c3, c4⟩
      rw [e_X1_enter_109]
      simp (disch := first | omega | (simp only [hnew_21, hput_21, hnew_22, hput_22]; omega) | exact isR_ref | exact isR_null | exact isR_rf | exact isR_fmt | assumption | decide) only [e_X1_enter_110, cR_ref, cR_null, cR_rf, c1_int, c1_ref, c1_null, c1_rf, kz_int, kz_ref, kz_null, kz_rf, kz_U, kz_long, nB_null, nB_ref, rf_none, rf_some, bV_ret, bV_thr, bA_ret, bA_thr, bX_ret, bX_thr, len4_0, len4_1, len4_2, len4_3, len4_4, true_and, and_true, and_self, if_true, if_false, Option.bind_some, nR_b1, nR_b0, nR_bI, nI_1z, nI_0z, bI_z, if_nn, nI_gt0, Nat.lt_irrefl]
      rfl
    | succ k ih =>
      intro H F hk nn c1 c2 c3 c4
      have hkl : k < R.length := by omega
      have hg : R[k]? = some R[k] := List.getElem?_eq_getElem hkl
      have hl := hlen R[k] (List.getElem_mem hkl)
      generalize R[k] = x at hg hl
      obtain ⟨w, w1, w2⟩ := hR.2 k x hg
      have w3 := w2.fs nn hFS
      have hFk : F k = some w := by rw [c3 k (by omega)]; exact w1
      have eb := c_bef (Ω := Ω) (d := d) (fa := fa) (hr.fs nn hFS) w3 hl.symm
      have hqq := nn.ob hq (by decide) hnq
      obtain ⟨o, gg, ff, wc, _⟩ := w3
      obtain ⟨o', gg', ff', bc, _⟩ := hr.fs nn hFS
      have hp : 0 < k + 1 := Nat.succ_pos k
      unfold insP
      rw [hg]
      dsimp only
      cases hb : befR fa r x with
      | false =>
        rw [if_neg (by decide)]
        rw [hb] at eb
        refine ⟨H, F, ?_, nn, c1, c2, c3, c4⟩
        rw [e_X1_enter_109]
        simp (disch := first | omega | (simp only [hnew_21, hput_21, hnew_22, hput_22]; omega) | exact isR_ref | exact isR_null | exact isR_rf | exact isR_fmt | assumption | decide) only [e_X1_enter_110, e_X1_enter_113, e_X1_enter_114, e_X1_enter_115, e_X1_enter_118, e_X1_enter_119, e_X1_enter_120, e_X1_enter_121, e_X1_enter_122, e_X1_enter_123, e_X1_enter_126, e_X1_enter_129, e_X1_enter_132, e_X1_enter_133, e_X1_enter_136, e_X1_enter_137, e_X1_enter_138, e_X1_enter_141, e_X1_enter_142, e_X1_enter_143, e_X1_enter_144, e_X1_enter_145, e_X1_enter_146, e_X1_enter_149, cR_ref, cR_null, cR_rf, c1_int, c1_ref, c1_null, c1_rf, kz_int, kz_ref, kz_null, kz_rf, kz_U, kz_long, nB_null, nB_ref, rf_none, rf_some, bV_ret, bV_thr, bA_ret, bA_thr, bX_ret, bX_thr, len4_0, len4_1, len4_2, len4_3, len4_4, true_and, and_true, and_self, if_true, if_false, Option.bind_some, nR_b1, nR_b0, nR_bI, nI_1z, nI_0z, bI_z, if_nn, gf, pf, clN, aln, gaI, gaL, gaR, saI, saR, isI, ctB, isB, gB, hput_n, hput_e, hput_21, hput_22, hnew_n, hnew_e, hnew_21, hnew_22, Option.bind_some, Option.map_some, List.lookup_cons, List.lookup_nil, beq_self_eq_true, List.getElem?_cons_zero, List.getElem?_cons_succ, List.set_cons_zero, List.set_cons_succ, List.length_cons, List.length_nil, Nat.reduceAdd, Nat.reduceLT, Nat.reduceLeDiff, Nat.reduceBEq, Nat.reduceEqDiff, okv_int, okv_oref, okv_onull, okv_orf, okv_aref, okv_b0, okv_b1, okv_z0, okv_bI, ckI_nI, lt31, leT, reduceCtorEq, List.mem_cons, List.mem_singleton, List.not_mem_nil, or_true, true_or, or_false, false_or, toR_ref, toR_null, ↓reduceIte, nI_gt0, hp, c1, c2, hqq, pk_pred, hFk, bc, eb, bI_f]
      | true =>
        rw [if_pos rfl]
        rw [hb] at eb
        have lra := nn.2.1.lt c2
        obtain ⟨H', F', g1, g2, g3, g4, g5, g6⟩ := ih (hput H ra (arR "TripleStore$Row" N (va_up F (k + 1) (some w)))) (va_up F (k + 1) (some w)) (by omega) (nn.put (.inl (by simp)) lra) (by rw [hput_n (Ne.symm hne)]; exact c1) hput_e (fun j hj => by unfold va_up; rw [if_neg (by omega)]; exact c3 j (by omega)) (fun j h1 h2 => by
          unfold va_up
          by_cases hjk : j = k
          · subst hjk; rw [if_pos rfl]; exact w1.symm
          · rw [if_neg (by omega)]; exact c4 j (by omega) h2)
        refine ⟨H', F', ?_, g2, g3, g4, g5, g6⟩
        rw [← g1, e_X1_enter_109]
        simp (disch := first | omega | (simp only [hnew_21, hput_21, hnew_22, hput_22]; omega) | exact isR_ref | exact isR_null | exact isR_rf | exact isR_fmt | assumption | decide) only [e_X1_enter_110, e_X1_enter_113, e_X1_enter_114, e_X1_enter_115, e_X1_enter_118, e_X1_enter_119, e_X1_enter_120, e_X1_enter_121, e_X1_enter_122, e_X1_enter_123, e_X1_enter_126, e_X1_enter_129, e_X1_enter_132, e_X1_enter_133, e_X1_enter_136, e_X1_enter_137, e_X1_enter_138, e_X1_enter_141, e_X1_enter_142, e_X1_enter_143, e_X1_enter_144, e_X1_enter_145, e_X1_enter_146, e_X1_enter_149, cR_ref, cR_null, cR_rf, c1_int, c1_ref, c1_null, c1_rf, kz_int, kz_ref, kz_null, kz_rf, kz_U, kz_long, nB_null, nB_ref, rf_none, rf_some, bV_ret, bV_thr, bA_ret, bA_thr, bX_ret, bX_thr, len4_0, len4_1, len4_2, len4_3, len4_4, true_and, and_true, and_self, if_true, if_false, Option.bind_some, nR_b1, nR_b0, nR_bI, nI_1z, nI_0z, bI_z, if_nn, gf, pf, clN, aln, gaI, gaL, gaR, saI, saR, isI, ctB, isB, gB, hput_n, hput_e, hput_21, hput_22, hnew_n, hnew_e, hnew_21, hnew_22, Option.bind_some, Option.map_some, List.lookup_cons, List.lookup_nil, beq_self_eq_true, List.getElem?_cons_zero, List.getElem?_cons_succ, List.set_cons_zero, List.set_cons_succ, List.length_cons, List.length_nil, Nat.reduceAdd, Nat.reduceLT, Nat.reduceLeDiff, Nat.reduceBEq, Nat.reduceEqDiff, okv_int, okv_oref, okv_onull, okv_orf, okv_aref, okv_b0, okv_b1, okv_z0, okv_bI, ckI_nI, lt31, leT, reduceCtorEq, List.mem_cons, List.mem_singleton, List.not_mem_nil, or_true, true_or, or_false, false_or, toR_ref, toR_null, ↓reduceIte, nI_gt0, hp, c1, c2, hqq, pk_pred, nI_dec, hFk, bc, wc, eb, bI_t]
  obtain ⟨H, F, g1, g2, g3, g4, g5, g6⟩ := key R.length h f (Nat.le_refl _) (Nx.rfl' hFe) hc0 hra (fun _ _ => rfl) (fun j h1 h2 => by omega)
  have hple := insP_le (fa := fa) (r := r) (R := R) R.length
  have hpN : insP fa r R R.length < N := by omega
  obtain ⟨o', gg', ff', bc, _⟩ := hr.fs g2 hFS
  have n3 : Nx [c, ra] 0 0 h (hput (hput H ra (arR "TripleStore$Row" N (va_up F (insP fa r R R.length) (some b)))) c (ccE v0 v1 v2 v3 v4 v5 v6 v7 v8 v9 v10 v13 ra (nI (R.length + 1)))) := (g2.put (.inl (by simp)) (g2.2.1.lt g4)).put (.inl (by simp)) (by rw [hput_21]; exact g2.2.1.lt g3)
  refine ⟨hput (hput H ra (arR "TripleStore$Row" N (va_up F (insP fa r R R.length) (some b)))) c (ccE v0 v1 v2 v3 v4 v5 v6 v7 v8 v9 v10 v13 ra (nI (R.length + 1))), va_up F (insP fa r R R.length) (some b), ?_, by rw [hput_e, insR_len], by rw [hput_n hne, hput_e], ⟨by rw [insR_len]; omega, fun i x hx => ?_⟩, n3⟩
  · simp (disch := first | omega | (simp only [hnew_21, hput_21, hnew_22, hput_22]; omega) | exact isR_ref | exact isR_null | exact isR_rf | exact isR_fmt | assumption | decide) only [e_X1_enter_104, e_X1_enter_105, e_X1_enter_108, cR_ref, cR_null, cR_rf, c1_int, c1_ref, c1_null, c1_rf, kz_int, kz_ref, kz_null, kz_rf, kz_U, kz_long, nB_null, nB_ref, rf_none, rf_some, bV_ret, bV_thr, bA_ret, bA_thr, bX_ret, bX_thr, len4_0, len4_1, len4_2, len4_3, len4_4, true_and, and_true, and_self, if_true, if_false, Option.bind_some, nR_b1, nR_b0, nR_bI, nI_1z, nI_0z, bI_z, if_nn, gf, pf, clN, aln, gaI, gaL, gaR, saI, saR, isI, ctB, isB, gB, hput_n, hput_e, hput_21, hput_22, hnew_n, hnew_e, hnew_21, hnew_22, Option.bind_some, Option.map_some, List.lookup_cons, List.lookup_nil, beq_self_eq_true, List.getElem?_cons_zero, List.getElem?_cons_succ, List.set_cons_zero, List.set_cons_succ, List.length_cons, List.length_nil, Nat.reduceAdd, Nat.reduceLT, Nat.reduceLeDiff, Nat.reduceBEq, Nat.reduceEqDiff, okv_int, okv_oref, okv_onull, okv_orf, okv_aref, okv_b0, okv_b1, okv_z0, okv_bI, ckI_nI, lt31, leT, reduceCtorEq, List.mem_cons, List.mem_singleton, List.not_mem_nil, or_true, true_or, or_false, false_or, toR_ref, toR_null, ↓reduceIte, hc0]
    rw [g1]
    simp (disch := first | omega | (simp only [hnew_21, hput_21, hnew_22, hput_22]; omega) | exact isR_ref | exact isR_null | exact isR_rf | exact isR_fmt | assumption | decide) only [e_X1_enter_152, e_X1_enter_153, e_X1_enter_156, e_X1_enter_157, e_X1_enter_158, e_X1_enter_159, e_X1_enter_160, e_X1_enter_161, e_X1_enter_164, e_X1_enter_165, e_X1_enter_166, e_X1_enter_169, cR_ref, cR_null, cR_rf, c1_int, c1_ref, c1_null, c1_rf, kz_int, kz_ref, kz_null, kz_rf, kz_U, kz_long, nB_null, nB_ref, rf_none, rf_some, bV_ret, bV_thr, bA_ret, bA_thr, bX_ret, bX_thr, len4_0, len4_1, len4_2, len4_3, len4_4, true_and, and_true, and_self, if_true, if_false, Option.bind_some, nR_b1, nR_b0, nR_bI, nI_1z, nI_0z, bI_z, if_nn, gf, pf, clN, aln, gaI, gaL, gaR, saI, saR, isI, ctB, isB, gB, hput_n, hput_e, hput_21, hput_22, hnew_n, hnew_e, hnew_21, hnew_22, Option.bind_some, Option.map_some, List.lookup_cons, List.lookup_nil, beq_self_eq_true, List.getElem?_cons_zero, List.getElem?_cons_succ, List.set_cons_zero, List.set_cons_succ, List.length_cons, List.length_nil, Nat.reduceAdd, Nat.reduceLT, Nat.reduceLeDiff, Nat.reduceBEq, Nat.reduceEqDiff, okv_int, okv_oref, okv_onull, okv_orf, okv_aref, okv_b0, okv_b1, okv_z0, okv_bI, ckI_nI, lt31, leT, reduceCtorEq, List.mem_cons, List.mem_singleton, List.not_mem_nil, or_true, true_or, or_false, false_or, toR_ref, toR_null, ↓reduceIte, nI_add, pk_mul, g3, g4, bc, hne]
  · unfold insR at hx
    rw [insA_get hple] at hx
    unfold va_up
    by_cases h1 : i < insP fa r R R.length
    · rw [if_pos h1] at hx
      rw [if_neg (by omega), g5 i h1]
      obtain ⟨w, w1, w2⟩ := hR.2 i x hx
      exact ⟨w, w1, w2.fs n3 hFS⟩
    · rw [if_neg h1] at hx
      by_cases h2 : i = insP fa r R R.length
      · rw [if_pos h2] at hx
        cases hx
        exact ⟨b, by rw [if_pos h2], hr.fs n3 hFS⟩
      · rw [if_neg h2] at hx
        rw [if_neg h2]
        have hil := (List.getElem?_eq_some_iff.mp hx).1
        have := g6 (i - 1) (by omega) hil
        rw [show i - 1 + 1 = i by omega] at this
        rw [this]
        obtain ⟨w, w1, w2⟩ := hR.2 (i - 1) x hx
        exact ⟨w, w1, w2.fs n3 hFS⟩
end ENT
