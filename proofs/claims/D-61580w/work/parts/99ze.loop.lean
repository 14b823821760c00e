/-! LAW: its loop, all of it -/
section LOO
variable {Ω : Om} {d : Nat} {H H1 : AH} {s N w x c i : Nat} {A : Nat → Nat} {σ : Tw} {f : Nat → Int32} {l5 l6 l7 : Value}
theorem Iv.up (I : Iv Ω H s N f w x A σ c i) : Iv Ω H s N f w x A σ c (i + 1) := by
  obtain ⟨L, op, Cu, Cm, cm, tx, fa, R, a, cols, rows, W, C, S, T, X, Q, hm, hf, b1, b2⟩ := I
  exact ⟨L, op, Cu, Cm, cm, tx, fa, R, a, cols, rows, W, C, S, T, X, Q, hm, hf, by omega, by omega⟩
theorem law_head (hN : N ≤ 336) (h7 : 7 * i + 7 ≤ N) (I : Iv Ω H s N f w x A σ c i) : ∃ m5 m6 m7 σ' H2, gO PG Ω (d + 40) 0 23 [.ref s, .ref c, .ref x, .ref w, .int (nI (7 * i)), l5, l6, l7] [] H = gO PG Ω (d + 40) 0 23 [.ref s, .ref c, .ref x, .ref w, .int (nI (7 * (i + 1))), m5, m6, m7] [] H2 ∧ Iv Ω H2 s N f w x A σ' c (i + 1) ∧ Gr 12000 150000 H H2 := by
  have hs : H.1 s = some (arI .int N f) := by
    obtain ⟨L, op, Cu, Cm, cm, tx, fa, R, a, cols, rows, W, _⟩ := I
    exact W.ws
  have r0 := gaI1 (tys := [.int]) (i := 7 * i) hs (by decide) (by omega) (by omega)
  have es : nI N - nI 7 = nI (N - 7) := pk_sub (by omega)
  have hlt : ¬ N - 7 < 7 * i := by omega
  have ea : aln H s = some N := by
    unfold aln
    rw [hs]
  have hd : gO PG Ω (d + 40) 0 23 [.ref s, .ref c, .ref x, .ref w, .int (nI (7 * i)), l5, l6, l7] [] H = gO PG Ω (d + 40) 0 40 [.ref s, .ref c, .ref x, .ref w, .int (nI (7 * i)), l5, l6, l7] [.int (f (7 * i) &&& nI 15)] H := by
    rw [e_L_law_23]
    simp (disch := first | omega | (simp only [hnew_21, hput_21, hnew_22, hput_22]; omega) | exact isR_ref | exact isR_null | exact isR_rf | exact isR_fmt | assumption | decide) only [e_L_law_25, e_L_law_26, e_L_law_27, e_L_law_29, e_L_law_30, e_L_law_33, e_L_law_34, e_L_law_36, e_L_law_37, e_L_law_39, cR_ref, cR_null, cR_rf, c1_int, c1_ref, c1_null, c1_rf, kz_int, kz_ref, kz_null, kz_rf, kz_U, kz_long, nB_null, nB_ref, rf_none, rf_some, bV_ret, bV_thr, bA_ret, bA_thr, bX_ret, bX_thr, len4_0, len4_1, len4_2, len4_3, len4_4, true_and, and_true, and_self, if_true, if_false, Option.bind_some, nR_b1, nR_b0, nR_bI, nI_1z, nI_0z, bI_z, if_nn, ea, es, ↓nI_lt_if, hlt, r0, ↓reduceIte]
  have tail : ∀ {m5 m6 m7 : Value} {H2 : AH}, gO PG Ω (d + 40) 0 941 [.ref s, .ref c, .ref x, .ref w, .int (nI (7 * i)), m5, m6, m7] [] H2 = gO PG Ω (d + 40) 0 23 [.ref s, .ref c, .ref x, .ref w, .int (nI (7 * (i + 1))), m5, m6, m7] [] H2 := fun {m5 m6 m7 H2} => by
    simp (disch := first | omega | (simp only [hnew_21, hput_21, hnew_22, hput_22]; omega) | exact isR_ref | exact isR_null | exact isR_rf | exact isR_fmt | assumption | decide) only [e_L_law_941, e_L_law_944, cR_ref, cR_null, cR_rf, c1_int, c1_ref, c1_null, c1_rf, kz_int, kz_ref, kz_null, kz_rf, kz_U, kz_long, nB_null, nB_ref, rf_none, rf_some, bV_ret, bV_thr, bA_ret, bA_thr, bX_ret, bX_thr, len4_0, len4_1, len4_2, len4_3, len4_4, true_and, and_true, and_self, if_true, if_false, Option.bind_some, nR_b1, nR_b0, nR_bI, nI_1z, nI_0z, bI_z, if_nn, nI_add, pk_mul]
    rfl
  have use : ∀ {pc : Nat}, gO PG Ω (d + 40) 0 40 [.ref s, .ref c, .ref x, .ref w, .int (nI (7 * i)), l5, l6, l7] [.int (f (7 * i) &&& nI 15)] H = gO PG Ω (d + 40) 0 pc [.ref s, .ref c, .ref x, .ref w, .int (nI (7 * i)), l5, l6, l7] [] H → StpL Ω d H s N f w x A c i l5 l6 l7 pc → ∃ m5 m6 m7 σ' H2, gO PG Ω (d + 40) 0 23 [.ref s, .ref c, .ref x, .ref w, .int (nI (7 * i)), l5, l6, l7] [] H = gO PG Ω (d + 40) 0 23 [.ref s, .ref c, .ref x, .ref w, .int (nI (7 * (i + 1))), m5, m6, m7] [] H2 ∧ Iv Ω H2 s N f w x A σ' c (i + 1) ∧ Gr 12000 150000 H H2 := fun {pc} e st => by
    obtain ⟨m5, m6, m7, σ', H2, g1, g2, g3⟩ := st
    exact ⟨m5, m6, m7, σ', H2, by rw [hd, e, g1, tail], g2, g3⟩
  generalize hq : f (7 * i) &&& nI 15 = q at *
  by_cases k0 : q = nI 0
  · exact use (by rw [e_L_law_40, if_pos k0]) (s_add h7 hN I)
  by_cases k1 : q = nI 1
  · exact use (by rw [e_L_law_40, if_neg k0, if_pos k1]) (s_remove h7 hN I)
  by_cases k2 : q = nI 2
  · exact use (by rw [e_L_law_40, if_neg k0, if_neg k1, if_pos k2]) (s_begin h7 hN I)
  by_cases k3 : q = nI 3
  · exact use (by rw [e_L_law_40, if_neg k0, if_neg k1, if_neg k2, if_pos k3]) (s_commit h7 hN I)
  by_cases k4 : q = nI 4
  · exact use (by rw [e_L_law_40, if_neg k0, if_neg k1, if_neg k2, if_neg k3, if_pos k4]) (s_rollback h7 hN I)
  by_cases k5 : q = nI 5
  · exact use (by rw [e_L_law_40, if_neg k0, if_neg k1, if_neg k2, if_neg k3, if_neg k4, if_pos k5]) (s_sync h7 hN I)
  by_cases k6 : q = nI 6
  · exact use (by rw [e_L_law_40, if_neg k0, if_neg k1, if_neg k2, if_neg k3, if_neg k4, if_neg k5, if_pos k6]) (s_crash h7 hN I)
  by_cases k7 : q = nI 7
  · exact use (by rw [e_L_law_40, if_neg k0, if_neg k1, if_neg k2, if_neg k3, if_neg k4, if_neg k5, if_neg k6, if_pos k7]) (s_append h7 hN I)
  by_cases k8 : q = nI 8
  · exact use (by rw [e_L_law_40, if_neg k0, if_neg k1, if_neg k2, if_neg k3, if_neg k4, if_neg k5, if_neg k6, if_neg k7, if_pos k8]) (s_ask h7 hN I)
  by_cases k9 : q = nI 9
  · exact use (by rw [e_L_law_40, if_neg k0, if_neg k1, if_neg k2, if_neg k3, if_neg k4, if_neg k5, if_neg k6, if_neg k7, if_neg k8, if_pos k9]) (s_fault h7 hN I)
  by_cases k10 : q = nI 10
  · exact use (by rw [e_L_law_40, if_neg k0, if_neg k1, if_neg k2, if_neg k3, if_neg k4, if_neg k5, if_neg k6, if_neg k7, if_neg k8, if_neg k9, if_pos k10]) (s_cell h7 hN I)
  by_cases k11 : q = nI 11
  · exact use (by rw [e_L_law_40, if_neg k0, if_neg k1, if_neg k2, if_neg k3, if_neg k4, if_neg k5, if_neg k6, if_neg k7, if_neg k8, if_neg k9, if_neg k10, if_pos k11]) (s_count h7 hN I)
  · refine ⟨l5, l6, l7, σ, H, ?_, I.up, ⟨Nat.le_refl _, by omega, Nat.le_refl _, by omega⟩⟩
    rw [hd, e_L_law_40, if_neg k0, if_neg k1, if_neg k2, if_neg k3, if_neg k4, if_neg k5, if_neg k6, if_neg k7, if_neg k8, if_neg k9, if_neg k10, if_neg k11, tail]
theorem small7 : ∀ n, n < 7 → nI n - nI 7 < nI 0 := by decide
theorem law_loop (hN : N ≤ 336) : ∀ (m i : Nat) (H : AH) (σ : Tw) (l5 l6 l7 : Value), i + m = N / 7 → Iv Ω H s N f w x A σ c i → ∃ H', gO PG Ω (d + 40) 0 23 [.ref s, .ref c, .ref x, .ref w, .int (nI (7 * i)), l5, l6, l7] [] H = some (.returned (some (.int (nI 1))), H') ∧ Gr (12000 * m) (150000 * m) H H' := by
  intro m
  induction m with
  | zero =>
    intro i H σ l5 l6 l7 hi I
    have hs : H.1 s = some (arI .int N f) := by
      obtain ⟨L, op, Cu, Cm, cm, tx, fa, R, a, cols, rows, W, _⟩ := I
      exact W.ws
    have ea : aln H s = some N := by
      unfold aln
      rw [hs]
    refine ⟨H, ?_, ⟨Nat.le_refl _, by omega, Nat.le_refl _, by omega⟩⟩
    have hc : nI N - nI 7 < nI (7 * i) := by
      rcases Nat.lt_or_ge N 7 with h | h
      · have : i = 0 := by omega
        subst this
        exact small7 N h
      · rw [pk_sub (by omega)]
        exact (nI_ltI (by omega) (by omega)).mpr (by omega)
    rw [e_L_law_23]
    simp (disch := first | omega | (simp only [hnew_21, hput_21, hnew_22, hput_22]; omega) | exact isR_ref | exact isR_null | exact isR_rf | exact isR_fmt | assumption | decide) only [e_L_law_25, e_L_law_26, e_L_law_27, e_L_law_29, e_L_law_30, e_L_law_947, e_L_law_948, cR_ref, cR_null, cR_rf, c1_int, c1_ref, c1_null, c1_rf, kz_int, kz_ref, kz_null, kz_rf, kz_U, kz_long, nB_null, nB_ref, rf_none, rf_some, bV_ret, bV_thr, bA_ret, bA_thr, bX_ret, bX_thr, len4_0, len4_1, len4_2, len4_3, len4_4, true_and, and_true, and_self, if_true, if_false, Option.bind_some, nR_b1, nR_b0, nR_bI, nI_1z, nI_0z, bI_z, if_nn, ea, hc, ↓reduceIte]
  | succ m ih =>
    intro i H σ l5 l6 l7 hi I
    obtain ⟨m5, m6, m7, σ', H2, g1, g2, g3⟩ := law_head (d := d) (l5 := l5) (l6 := l6) (l7 := l7) hN (by omega) I
    obtain ⟨H', k1, k2⟩ := ih (i + 1) H2 σ' m5 m6 m7 (by omega) g2
    refine ⟨H', by rw [g1, k1], ?_⟩
    obtain ⟨a1, a2, a3, a4⟩ := g3
    obtain ⟨c1, c2, c3, c4⟩ := k2
    exact ⟨by omega, by omega, by omega, by omega⟩
theorem Tk.tx1 {h : AH} {fs : List Value} (hx : h.1 x = some (.inr (1, fs))) : ∀ q ∈ [x], ∀ e, h.1 q = some e → Tk e := fun q hq e he => by
  rw [List.mem_singleton.mp hq, hx] at he
  cases he
  rfl
set_option maxHeartbeats 1000000 in
theorem law_all {h : AH} (hN : N ≤ 336) (hs : h.1 s = some (arI .int N f)) (hFe : Fe h) (hL : LitR Ω h) (hz : Ω.sz ≤ h.2.1) : ∃ H', gO PG Ω (d + 40) 0 0 [.ref s, U, U, U, U, U, U, U] [] h = some (.returned (some (.int (nI 1))), H') ∧ Gr 576100 7220000 h H' := by
  have ls := hFe.lt hs
  -- the component
  have n0 : Nx [] 1 14 h (hnew h (.inr (0, [.null, .int 0, .int 0, .null, .int 0, .null, .null, .int 0, .int 0, .null, .int 0, .null, .int 0, .int 0])) 14) := (Nx.rfl' hFe).new
  obtain ⟨H1, a1, a2, a3⟩ := c_init (Ω := Ω) (d := d + 36) (H := hnew h (.inr (0, [.null, .int 0, .int 0, .null, .int 0, .null, .null, .int 0, .int 0, .null, .int 0, .null, .int 0, .int 0])) 14) (c := h.2.1) hnew_e hz (by rw [hnew_21]; omega) n0.2.1 (hL.nx n0)
  have x1 : Nx [] 5 226 h H1 := ((n0.mono (S' := [h.2.1]) (fun _ q => nomatch q) (Nat.le_refl _) (Nat.le_refl _)).trans a3).low (fun q hq => .inr (by simp at hq; omega))
  have z1 : Ω.sz ≤ H1.2.1 := Nat.le_trans hz x1.2.2.1
  -- the twin
  have n2 : Nx [] 1 59 H1 (hnew H1 (.inr (1, [.null, .int 0, .null, .int 0, .null, .null, .null, .int 0, .int 0, .int 0, .int 0, .int 0, .null, .int 0, .int 0, .int 0, .long 0, .int 0, .int 0, .int 0, .int 0, .int 0, .int 0, .null, .int 0, .int 0, .int 0, .int 0, .null, .null, .null, .null, .int 0, .null, .null, .int 0, .null, .null, .null, .int 0, .null, .int 0, .null, .int 0, .int 0, .int 0, .int 0, .null, .null, .null, .int 0, .int 0, .null, .null, .null, .int 0, .null, .int 0, .int 0])) 59) := (Nx.rfl' x1.2.1).new
  have hx2 : (hnew H1 (.inr (1, [.null, .int 0, .null, .int 0, .null, .null, .null, .int 0, .int 0, .int 0, .int 0, .int 0, .null, .int 0, .int 0, .int 0, .long 0, .int 0, .int 0, .int 0, .int 0, .int 0, .int 0, .null, .int 0, .int 0, .int 0, .int 0, .null, .null, .null, .null, .int 0, .null, .null, .int 0, .null, .null, .null, .int 0, .null, .int 0, .null, .int 0, .int 0, .int 0, .int 0, .null, .null, .null, .int 0, .int 0, .null, .null, .null, .int 0, .null, .int 0, .int 0])) 59).1 H1.2.1 = _ := hnew_e
  have z2 : (hnew H1 (.inr (1, [.null, .int 0, .null, .int 0, .null, .null, .null, .int 0, .int 0, .int 0, .int 0, .int 0, .null, .int 0, .int 0, .int 0, .long 0, .int 0, .int 0, .int 0, .int 0, .int 0, .int 0, .null, .int 0, .int 0, .int 0, .int 0, .null, .null, .null, .null, .int 0, .null, .null, .int 0, .null, .null, .null, .int 0, .null, .int 0, .null, .int 0, .int 0, .int 0, .int 0, .null, .null, .null, .int 0, .int 0, .null, .null, .null, .int 0, .null, .int 0, .int 0])) 59).2.1 = H1.2.1 + 1 := hnew_21
  obtain ⟨A, H2, b1, b2, b3, b4, b5⟩ := t_init (Ω := Ω) (d := d + 38) hx2 z1 (by rw [z2]; omega) n2.2.1
  rw [z2] at b5
  have C2 := (a2.nx n2).keep b4 (Tk.tx1 hx2)
  have s2 : H2.1 s = some (arI .int N f) := b4.ar (n2.ar (x1.ar hs (by simp)) (by simp)) (by have := x1.2.2.1; simp; omega)
  have hx3 : H2.1 H1.2.1 = some (.inr (1, twF A σ0)) := (congrArg (fun h : AH => h.1 H1.2.1) b3).symm.trans tw_x
  have ha3 : ∀ q ∈ twArr, H2.1 (A q.1) = some (twE σ0 q) := fun q hq => (congrArg (fun h : AH => h.1 (A q.1)) b3).symm.trans (tw_a b2 hq)
  -- the answer's cell
  have n3 : Nx [] 1 1 H2 (hnew H2 (arL 1 (fun _ => 0)) 1) := (Nx.rfl' b4.2.1).new
  have C3 := C2.nx n3
  have lx := b4.2.1.lt hx3
  have ls2 := b4.2.1.lt s2
  have W3 : Wd Ω (hnew H2 (arL 1 (fun _ => 0)) 1) s N f H2.2.1 H1.2.1 A σ0 := ⟨b2, tw_id (by rw [hnew_n (by omega)]; exact hx3) (fun q hq => by
    have := b4.2.1.lt (ha3 q hq)
    rw [hnew_n (by omega)]; exact ha3 q hq), by rw [hnew_n (by omega)]; exact s2, ⟨_, hnew_e⟩, ⟨by have := x1.2.2.1; omega, by omega, fun q hq => ⟨by have := b5 q hq; have := x1.2.2.1; omega, by have := b4.2.1.lt (ha3 q hq); omega⟩⟩, by have := b4.2.2.1; omega, n3.2.1⟩
  have I : Iv Ω (hnew H2 (arL 1 (fun _ => 0)) 1) s N f H2.2.1 H1.2.1 A σ0 h.2.1 0 := ⟨[], false, [], [], 0, [], -1, [], ([], [], [], 0, 0, 0, false), [], [], W3, C3, StR.ini, σ0_sto, σ0_tx, σ0_rw, rfl, rfl, Nat.le_refl _, Nat.le_refl _⟩
  obtain ⟨H', g1, g2⟩ := law_loop (Ω := Ω) (d := d) (s := s) (f := f) (w := H2.2.1) (x := H1.2.1) (c := h.2.1) (A := A) hN (N / 7) 0 (hnew H2 (arL 1 (fun _ => 0)) 1) σ0 U U U (by omega) I
  refine ⟨H', ?_, ?_⟩
  · rw [← g1]
    simp (disch := first | omega | (simp only [hnew_21, hput_21, hnew_22, hput_22]; omega) | exact isR_ref | exact isR_null | exact isR_rf | exact isR_fmt | assumption | decide) only [e_L_law_0, e_L_law_3, e_L_law_4, cR_ref, cR_null, cR_rf, c1_int, c1_ref, c1_null, c1_rf, kz_int, kz_ref, kz_null, kz_rf, kz_U, kz_long, nB_null, nB_ref, rf_none, rf_some, bV_ret, bV_thr, bA_ret, bA_thr, bX_ret, bX_thr, len4_0, len4_1, len4_2, len4_3, len4_4, true_and, and_true, and_self, if_true, if_false, Option.bind_some, nR_b1, nR_b0, nR_bI, nI_1z, nI_0z, bI_z, if_nn, a1]
    simp (disch := first | omega | (simp only [hnew_21, hput_21, hnew_22, hput_22]; omega) | exact isR_ref | exact isR_null | exact isR_rf | exact isR_fmt | assumption | decide) only [e_L_law_7, e_L_law_8, e_L_law_11, e_L_law_12, cR_ref, cR_null, cR_rf, c1_int, c1_ref, c1_null, c1_rf, kz_int, kz_ref, kz_null, kz_rf, kz_U, kz_long, nB_null, nB_ref, rf_none, rf_some, bV_ret, bV_thr, bA_ret, bA_thr, bX_ret, bX_thr, len4_0, len4_1, len4_2, len4_3, len4_4, true_and, and_true, and_self, if_true, if_false, Option.bind_some, nR_b1, nR_b0, nR_bI, nI_1z, nI_0z, bI_z, if_nn, b1]
    simp (disch := first | omega | (simp only [hnew_21, hput_21, hnew_22, hput_22]; omega) | exact isR_ref | exact isR_null | exact isR_rf | exact isR_fmt | assumption | decide) only [e_L_law_15, e_L_law_16, e_L_law_17, e_L_law_19, e_L_law_20, e_L_law_21, cR_ref, cR_null, cR_rf, c1_int, c1_ref, c1_null, c1_rf, kz_int, kz_ref, kz_null, kz_rf, kz_U, kz_long, nB_null, nB_ref, rf_none, rf_some, bV_ret, bV_thr, bA_ret, bA_thr, bX_ret, bX_thr, len4_0, len4_1, len4_2, len4_3, len4_4, true_and, and_true, and_self, if_true, if_false, Option.bind_some, nR_b1, nR_b0, nR_bI, nI_1z, nI_0z, bI_z, if_nn, ckI_nI, lt31, leT, zL, Option.bind_some, Nat.mul_zero]
  · obtain ⟨c1, c2, c3, c4⟩ := g2
    have q1 := x1.2.2
    have q2 := n2.2.2
    have q3 := b4.2.2
    have q4 := n3.2.2
    refine ⟨by omega, by omega, by omega, by omega⟩
end LOO
