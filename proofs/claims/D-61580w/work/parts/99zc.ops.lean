/-! LAW: each call keeps both sides together -/
section OPS
variable {Ω : Om} {d : Nat} {H H1 : AH} {s N w x c i : Nat} {A : Nat → Nat} {σ : Tw} {f : Nat → Int32} {L : List Tri} {op b : Bool} {Cu : List Chg} {Cm : List (List Chg)} {cm : Nat} {a : TA} {t : Tri} {l5 l6 l7 : Value} {cols : List Nat} {rows : List Sol} {R : List Rw}
theorem tAR_bad (h : ¬ okTri t.1 t.2.1 t.2.2) : tAR a b t = (1, 0, a) := by unfold tAR; rw [if_pos (dec_f h)]
theorem tAR_same (h : okTri t.1 t.2.1 t.2.2) (hd : decide (t ∈ a.1) = b) : tAR a b t = (0, 0, a) := by unfold tAR; rw [if_neg (by rw [dec_t h]; decide), if_pos hd]
theorem tAR_full (h : okTri t.1 t.2.1 t.2.2) (hm : t ∉ a.1) (hl : a.1.length = 48) : tAR a true t = (2, 0, a) := by unfold tAR; rw [if_neg (by rw [dec_t h]; decide), if_neg (by rw [decide_eq_false hm]; decide), if_pos ⟨rfl, hl⟩]
theorem tAR_do (h : okTri t.1 t.2.1 t.2.2) (hd : ¬ decide (t ∈ a.1) = b) (hl : ¬ (b = true ∧ a.1.length = 48)) : tAR a b t = (0, 1, tDo a b t) := by unfold tAR; rw [if_neg (by rw [dec_t h]; decide), if_neg hd, if_neg hl]
theorem s_add (h7 : 7 * i + 7 ≤ N) (hN : N ≤ 336) (I : Iv Ω H s N f w x A σ c i) : StpL Ω d H s N f w x A c i l5 l6 l7 104 := by
  obtain ⟨L, op, Cu, Cm, cm, tx, fa, R, a, cols, rows, W, C, S, T, X, Q, hm, hf, b1, b2⟩ := I
  obtain ⟨fs, hc⟩ := C.cl
  obtain ⟨sb, ra, C0, up⟩ := C.up
  have h48 : a.1.length ≤ 48 := by rw [S.perm.length_eq]; exact S.l48
  have h8 : a.2.2.1.length < 800 := by rw [S.chl]; omega
  have tt := fun h => t_add (d := d + 35) (h := h) W.1 T h48 h8 (s := lj (f (7 * i + 1)) (f (7 * i + 2))) (p := lj (f (7 * i + 3)) (f (7 * i + 4))) (o := lj (f (7 * i + 5)) (f (7 * i + 6)))
  generalize hv0 : lj (f (7 * i + 1)) (f (7 * i + 2)) = v0 at tt
  generalize hv1 : lj (f (7 * i + 3)) (f (7 * i + 4)) = v1 at tt
  generalize hv2 : lj (f (7 * i + 5)) (f (7 * i + 6)) = v2 at tt
  by_cases ok : okTri v0 v1 v2
  · by_cases hin : (v0, v1, v2) ∈ L
    · rw [tAR_same (t := (v0, v1, v2)) ok (decide_eq_true (S.mem.mp hin))] at tt
      obtain ⟨H1, e, n⟩ := c_add_in (d := d + 28) C0 ok hin
      subst hv0 hv1 hv2
      refine p_add_ok h7 hN W hc e (NW.of n) (by decide) (by decide) (up (C0.nx n) (NS.of n)) (fun h => ?_) S hm (by omega) (by omega)
      obtain ⟨σ', e1, e2, e3, e4⟩ := tt h
      exact ⟨σ', e1, e2, e3, X.fx e4 (by decide) (by decide), Q.fx e4 (by decide) (by decide) (by decide), (e4.1 14 (by decide)).trans hf⟩
    · have hin' : (v0, v1, v2) ∉ a.1 := fun q => hin (S.mem.mpr q)
      by_cases hl : L.length = 48
      · rw [tAR_full (t := (v0, v1, v2)) ok hin' (by rw [S.perm.length_eq]; exact hl)] at tt
        obtain ⟨e0, H1, e, he, n⟩ := c_add_full (d := d + 28) C0 ok hin hl
        subst hv0 hv1 hv2
        refine p_add_2 h7 hN W hc e he (NW.of n) (by decide) (by decide) (up (C0.nx n) (NS.of n)) (fun h => ?_) S hm (by omega) (by omega)
        obtain ⟨σ', e1, e2, e3, e4⟩ := tt h
        exact ⟨σ', _, e1, e2, e3, X.fx e4 (by decide) (by decide), Q.fx e4 (by decide) (by decide) (by decide), (e4.1 14 (by decide)).trans hf⟩
      · have hl48 := S.l48
        rw [tAR_do (t := (v0, v1, v2)) ok (by rw [decide_eq_false hin']; decide) (fun q => hl (by rw [← S.perm.length_eq]; exact q.2))] at tt
        obtain ⟨H1, e, g1, g2, n⟩ := c_add_new (d := d + 28) C0 ok hin (by omega)
        obtain ⟨q1, q2⟩ := S.dof (b := true) (t := (v0, v1, v2)) (by unfold eff; rw [if_pos rfl]; exact hin) (fun _ => by omega)
        subst hv0 hv1 hv2
        cases op with
        | true =>
          refine p_add_ok h7 hN W hc e n.w (by decide) (by decide) (up (g1 rfl) n) (fun h => ?_) (q1 rfl) hm (by rw [List.length_cons]; omega) (by omega)
          obtain ⟨σ', e1, e2, e3, e4⟩ := tt h
          exact ⟨σ', e1, e2, e3, X.fx e4 (by decide) (by decide), Q.fx e4 (by decide) (by decide) (by decide), (e4.1 14 (by decide)).trans hf⟩
        | false =>
          refine p_add_ok h7 hN W hc e n.w (by decide) (by decide) (up (g2 rfl) n) (fun h => ?_) (q2 rfl) hm (by rw [flC_app, flC_one, List.length_append, List.length_reverse, List.length_cons, List.length_nil]; omega) (by rw [List.length_append, List.length_singleton]; omega)
          obtain ⟨σ', e1, e2, e3, e4⟩ := tt h
          exact ⟨σ', e1, e2, e3, X.fx e4 (by decide) (by decide), Q.fx e4 (by decide) (by decide) (by decide), (e4.1 14 (by decide)).trans hf⟩
  · rw [tAR_bad (t := (v0, v1, v2)) ok] at tt
    obtain ⟨e0, H1, e, he, n⟩ := c_add_bad (d := d + 28) C0 ok
    subst hv0 hv1 hv2
    refine p_add_1 h7 hN W hc e he (NW.of n) (by decide) (by decide) (up (C0.nx n) (NS.of n)) (fun h => ?_) S hm (by omega) (by omega)
    obtain ⟨σ', e1, e2, e3, e4⟩ := tt h
    exact ⟨σ', _, e1, e2, e3, X.fx e4 (by decide) (by decide), Q.fx e4 (by decide) (by decide) (by decide), (e4.1 14 (by decide)).trans hf⟩
theorem s_remove (h7 : 7 * i + 7 ≤ N) (hN : N ≤ 336) (I : Iv Ω H s N f w x A σ c i) : StpL Ω d H s N f w x A c i l5 l6 l7 282 := by
  obtain ⟨L, op, Cu, Cm, cm, tx, fa, R, a, cols, rows, W, C, S, T, X, Q, hm, hf, b1, b2⟩ := I
  obtain ⟨fs, hc⟩ := C.cl
  obtain ⟨sb, ra, C0, up⟩ := C.up
  have h48 : a.1.length ≤ 48 := by rw [S.perm.length_eq]; exact S.l48
  have h8 : a.2.2.1.length < 800 := by rw [S.chl]; omega
  have tt := fun h => t_remove (d := d + 35) (h := h) W.1 T h48 h8 (s := lj (f (7 * i + 1)) (f (7 * i + 2))) (p := lj (f (7 * i + 3)) (f (7 * i + 4))) (o := lj (f (7 * i + 5)) (f (7 * i + 6)))
  generalize hv0 : lj (f (7 * i + 1)) (f (7 * i + 2)) = v0 at tt
  generalize hv1 : lj (f (7 * i + 3)) (f (7 * i + 4)) = v1 at tt
  generalize hv2 : lj (f (7 * i + 5)) (f (7 * i + 6)) = v2 at tt
  by_cases ok : okTri v0 v1 v2
  · by_cases hin : (v0, v1, v2) ∈ L
    · have hin' : (v0, v1, v2) ∈ a.1 := S.mem.mp hin
      rw [tAR_do (b := false) (t := (v0, v1, v2)) ok (by rw [decide_eq_true hin']; decide) (fun q => nomatch q.1)] at tt
      obtain ⟨H1, e, g1, g2, n⟩ := c_rem_yes (d := d + 28) C0 ok hin
      obtain ⟨q1, q2⟩ := S.dof (b := false) (t := (v0, v1, v2)) (by unfold eff; rw [if_neg (fun z => nomatch z)]; exact hin) (fun q => nomatch q)
      subst hv0 hv1 hv2
      cases op with
      | true =>
        refine p_remove_ok h7 hN W hc e n.w (by decide) (by decide) (up (g1 rfl) n) (fun h => ?_) (q1 rfl) hm (by rw [List.length_cons]; omega) (by omega)
        obtain ⟨σ', e1, e2, e3, e4⟩ := tt h
        exact ⟨σ', e1, e2, e3, X.fx e4 (by decide) (by decide), Q.fx e4 (by decide) (by decide) (by decide), (e4.1 14 (by decide)).trans hf⟩
      | false =>
        refine p_remove_ok h7 hN W hc e n.w (by decide) (by decide) (up (g2 rfl) n) (fun h => ?_) (q2 rfl) hm (by rw [flC_app, flC_one, List.length_append, List.length_reverse, List.length_cons, List.length_nil]; omega) (by rw [List.length_append, List.length_singleton]; omega)
        obtain ⟨σ', e1, e2, e3, e4⟩ := tt h
        exact ⟨σ', e1, e2, e3, X.fx e4 (by decide) (by decide), Q.fx e4 (by decide) (by decide) (by decide), (e4.1 14 (by decide)).trans hf⟩
    · have hin' : (v0, v1, v2) ∉ a.1 := fun q => hin (S.mem.mpr q)
      rw [tAR_same (t := (v0, v1, v2)) ok (decide_eq_false hin')] at tt
      obtain ⟨H1, e, n⟩ := c_rem_no (d := d + 28) C0 ok hin
      subst hv0 hv1 hv2
      refine p_remove_ok h7 hN W hc e (NW.of n) (by decide) (by decide) (up (C0.nx n) (NS.of n)) (fun h => ?_) S hm (by omega) (by omega)
      obtain ⟨σ', e1, e2, e3, e4⟩ := tt h
      exact ⟨σ', e1, e2, e3, X.fx e4 (by decide) (by decide), Q.fx e4 (by decide) (by decide) (by decide), (e4.1 14 (by decide)).trans hf⟩
  · rw [tAR_bad (t := (v0, v1, v2)) ok] at tt
    obtain ⟨e0, H1, e, he, n⟩ := c_rem_bad (d := d + 28) C0 ok
    subst hv0 hv1 hv2
    refine p_remove_1 h7 hN W hc e he (NW.of n) (by decide) (by decide) (up (C0.nx n) (NS.of n)) (fun h => ?_) S hm (by omega) (by omega)
    obtain ⟨σ', e1, e2, e3, e4⟩ := tt h
    exact ⟨σ', _, e1, e2, e3, X.fx e4 (by decide) (by decide), Q.fx e4 (by decide) (by decide) (by decide), (e4.1 14 (by decide)).trans hf⟩
theorem s_begin (h7 : 7 * i + 7 ≤ N) (hN : N ≤ 336) (I : Iv Ω H s N f w x A σ c i) : StpL Ω d H s N f w x A c i l5 l6 l7 460 := by
  obtain ⟨L, op, Cu, Cm, cm, tx, fa, R, a, cols, rows, W, C, S, T, X, Q, hm, hf, b1, b2⟩ := I
  obtain ⟨fs, hc⟩ := C.cl
  obtain ⟨sb, ra, C0, up⟩ := C.up
  have S0 := S
  obtain ⟨Lt, K, oF, rfl, s1, s2, _⟩ := S0
  have tt := fun h => t_begin (d := d + 38) (h := h) W.1 T
  cases op with
  | true =>
    obtain ⟨e0, H1, e, he, n⟩ := (c_begin (d := d + 30) C0).1 rfl
    refine p_begin_1 h7 hN W hc e he (NW.of n) (by decide) (by decide) (up (C0.nx n) (NS.of n)) (fun h => ?_) S hm (by omega) (by omega)
    obtain ⟨σ', e1, e2, e3, e4⟩ := tt h
    exact ⟨σ', _, e1, e2, e3, X.fx e4 (by decide) (by decide), Q.fx e4 (by decide) (by decide) (by decide), (e4.1 14 (by decide)).trans hf⟩
  | false =>
    obtain ⟨H1, e, g, n⟩ := (c_begin (d := d + 30) C0).2 rfl
    refine p_begin_ok h7 hN W hc e n.w (by decide) (by decide) (up g n) (fun h => ?_) S.beg hm (by omega) (by omega)
    obtain ⟨σ', e1, e2, e3, e4⟩ := tt h
    exact ⟨σ', e1, e2, e3, X.fx e4 (by decide) (by decide), Q.fx e4 (by decide) (by decide) (by decide), (e4.1 14 (by decide)).trans hf⟩
theorem s_commit (h7 : 7 * i + 7 ≤ N) (hN : N ≤ 336) (I : Iv Ω H s N f w x A σ c i) : StpL Ω d H s N f w x A c i l5 l6 l7 504 := by
  obtain ⟨L, op, Cu, Cm, cm, tx, fa, R, a, cols, rows, W, C, S, T, X, Q, hm, hf, b1, b2⟩ := I
  obtain ⟨fs, hc⟩ := C.cl
  obtain ⟨sb, ra, C0, up⟩ := C.up
  cases op with
  | true =>
    obtain ⟨q1, q2, q3⟩ := S.com
    have S0 := S
    obtain ⟨Lt, K, oF, rfl, s1, s2, _⟩ := S0
    have tt := fun h => t_commit (d := d + 38) (h := h) W.1 T (fun _ => q3)
    obtain ⟨H1, e, g, n⟩ := (c_commit (d := d + 29) C0).2 rfl
    refine p_commit_ok h7 hN W hc e n.w (by decide) (by decide) (up g n) (fun h => ?_) q1 hm (by rw [flC_app, flC_one, List.length_append, List.length_reverse, List.length_nil]; omega) (by rw [List.length_append, List.length_singleton]; omega)
    obtain ⟨σ', e1, e2, e3, e4⟩ := tt h
    rw [if_pos rfl] at e1 e2 e3
    have q2' : (ixC 0 Cm ++ Cu.reverse.map (fun c => (c, Cm.length))).length - oF = Cu.length := q2
    rw [q2'] at e1
    exact ⟨σ', e1, e2, e3, X.fx e4 (by decide) (by decide), Q.fx e4 (by decide) (by decide) (by decide), (e4.1 14 (by decide)).trans hf⟩
  | false =>
    have S0 := S
    obtain ⟨Lt, K, oF, rfl, s1, s2, _⟩ := S0
    have tt := fun h => t_commit (d := d + 38) (h := h) W.1 T (fun q => nomatch q)
    obtain ⟨e0, H1, e, he, n⟩ := (c_commit (d := d + 29) C0).1 rfl
    refine p_commit_1 h7 hN W hc e he (NW.of n) (by decide) (by decide) (up (C0.nx n) (NS.of n)) (fun h => ?_) S hm (by omega) (by omega)
    obtain ⟨σ', e1, e2, e3, e4⟩ := tt h
    exact ⟨σ', _, e1, e2, e3, X.fx e4 (by decide) (by decide), Q.fx e4 (by decide) (by decide) (by decide), (e4.1 14 (by decide)).trans hf⟩
theorem s_rollback (h7 : 7 * i + 7 ≤ N) (hN : N ≤ 336) (I : Iv Ω H s N f w x A σ c i) : StpL Ω d H s N f w x A c i l5 l6 l7 548 := by
  obtain ⟨L, op, Cu, Cm, cm, tx, fa, R, a, cols, rows, W, C, S, T, X, Q, hm, hf, b1, b2⟩ := I
  obtain ⟨fs, hc⟩ := C.cl
  obtain ⟨sb, ra, C0, up⟩ := C.up
  have hch := S.chl
  obtain ⟨ok, Lt, K, oF, rfl, s1, s2, s3, s4⟩ := S.rol
  have h8 : (ixC 0 Cm ++ cuT Cu Cm).length < 800 := by
    have : (ixC 0 Cm ++ cuT Cu Cm).length = _ := hch
    omega
  have tt := fun h => t_rollback (d := d + 36) (h := h) W.1 T s1 h8 (fun _ => s3)
  cases op with
  | true =>
    obtain ⟨H1, e, g, n⟩ := (c_rollback (d := d + 29) C0).2 rfl ok
    refine p_rollback_ok h7 hN W hc e n.w (by decide) (by decide) (up g n) (fun h => ?_) s4 hm (by rw [List.length_nil]; omega) (by omega)
    obtain ⟨σ', e1, e2, e3, e4⟩ := tt h
    rw [if_pos rfl, cuT_len] at e1
    rw [if_pos rfl] at e2 e3
    exact ⟨σ', e1, e2, e3, X.fx e4 (by decide) (by decide), Q.fx e4 (by decide) (by decide) (by decide), (e4.1 14 (by decide)).trans hf⟩
  | false =>
    obtain ⟨e0, H1, e, he, n⟩ := (c_rollback (d := d + 29) C0).1 rfl
    refine p_rollback_1 h7 hN W hc e he (NW.of n) (by decide) (by decide) (up (C0.nx n) (NS.of n)) (fun h => ?_) S hm (by omega) (by omega)
    obtain ⟨σ', e1, e2, e3, e4⟩ := tt h
    exact ⟨σ', _, e1, e2, e3, X.fx e4 (by decide) (by decide), Q.fx e4 (by decide) (by decide) (by decide), (e4.1 14 (by decide)).trans hf⟩
theorem s_sync (h7 : 7 * i + 7 ≤ N) (hN : N ≤ 336) (I : Iv Ω H s N f w x A σ c i) : StpL Ω d H s N f w x A c i l5 l6 l7 592 := by
  obtain ⟨L, op, Cu, Cm, cm, tx, fa, R, a, cols, rows, W, C, S, T, X, Q, hm, hf, b1, b2⟩ := I
  obtain ⟨fs, hc⟩ := C.cl
  obtain ⟨sb, ra, C0, up⟩ := C.up
  have hch := S.chl
  obtain ⟨Lt, K, oF, rfl, s1, s2, s3, s4⟩ := S.syn
  have h8 : (ixC 0 Cm ++ cuT Cu Cm).length < 800 := by
    have : (ixC 0 Cm ++ cuT Cu Cm).length = _ := hch
    omega
  have tt := fun h => t_sync (d := d + 35) (h := h) W.1 T s1 h8 s2 s3
  obtain ⟨H1, e, g, n⟩ := c_sync (d := d + 39) C0
  refine p_sync W hc e n.w (by decide) (by decide) (up g n) (fun h => ?_) s4 hm (by show 0 + Cu.length ≤ _; omega) (by rw [List.length_nil]; omega)
  obtain ⟨σ', e1, e2, e3⟩ := tt h
  exact ⟨σ', e1, e2, X.fx e3 (by decide) (by decide), Q.fx e3 (by decide) (by decide) (by decide), (e3.1 14 (by decide)).trans hf⟩
theorem s_crash (h7 : 7 * i + 7 ≤ N) (hN : N ≤ 336) (I : Iv Ω H s N f w x A σ c i) : StpL Ω d H s N f w x A c i l5 l6 l7 605 := by
  obtain ⟨L, op, Cu, Cm, cm, tx, fa, R, a, cols, rows, W, C, S, T, X, Q, hm, hf, b1, b2⟩ := I
  obtain ⟨fs, hc⟩ := C.cl
  obtain ⟨sb, ra, C0, up⟩ := C.up
  generalize hkk : f (7 * i + 1) = kk
  by_cases hr : nI 0 ≤ kk ∧ kk ≤ nI 1000
  · obtain ⟨q, hq1, hq2⟩ := nI_of2 (M := nI 1000) (n := 1000) (by decide) (fun z => absurd hr.1 (Int32.not_le.mpr z)) hr.2
    have hch := S.chl
    obtain ⟨k1, k2, Lt, K, oF, rfl, s1, s2, s3, s4, s5, s6, s7⟩ := S.cra q
    have h8 : (ixC 0 Cm ++ cuT Cu Cm).length < 800 := by
      have : (ixC 0 Cm ++ cuT Cu Cm).length = _ := hch
      omega
    have tt := fun h => t_crash (d := d + 35) (h := h) W.1 T s1 h8 s2 hq1 (fun c hc => by have := s3 c hc; omega) s4 s5
    obtain ⟨H1, e, g, n⟩ := c_crash (d := d + 30) C0 hq1 k1 k2 (by omega)
    rw [← hq2, ← hkk] at e
    refine p_crash_ok h7 hN W hc e n.w (by decide) (by omega) (up g n) (fun h => ?_) s7 hm (by show 0 + 0 ≤ _; omega) (by rw [List.length_nil]; omega)
    obtain ⟨σ', e1, e2, e3, e4⟩ := tt h
    rw [← hq2, ← hkk, s6] at e1
    exact ⟨σ', e1, e2, e3, X.fx e4 (by decide) (by decide), Q.fx e4 (by decide) (by decide) (by decide), (e4.1 14 (by decide)).trans hf⟩
  · have hbad : kk < 0 ∨ nI 1000 < kk := by
      by_cases z : kk < 0
      · exact .inl z
      · exact .inr (Int32.not_le.mp (fun u => hr ⟨Int32.not_lt.mp z, u⟩))
    have tt := fun h => t_crash_bad (d := d + 35) (h := h) W.1 T hr
    obtain ⟨e0, H1, e, he, n⟩ := c_crash_bad (Ω := Ω) (d := d + 30) (c := c) C.fe hbad
    rw [← hkk] at e
    refine p_crash_1 h7 hN W hc e he (NW.of n) (by decide) (by decide) (up (C0.nx n) (NS.of n)) (fun h => ?_) S hm (by omega) (by omega)
    have e1 := tt h
    rw [← hkk] at e1
    have e4 : Fx [58] [] [] σ (sI σ 58 (nI 1)) := Fx.rfl'.sI (by decide)
    exact ⟨_, _, e1, rfl, T.fx e4 (by decide) (by decide) (by decide), X.fx e4 (by decide) (by decide), Q.fx e4 (by decide) (by decide) (by decide), (e4.1 14 (by decide)).trans hf⟩
theorem s_append (h7 : 7 * i + 7 ≤ N) (hN : N ≤ 336) (I : Iv Ω H s N f w x A σ c i) : StpL Ω d H s N f w x A c i l5 l6 l7 661 := by
  obtain ⟨L, op, Cu, Cm, cm, tx, fa, R, a, cols, rows, W, C, S, T, X, Q, hm, hf, b1, b2⟩ := I
  obtain ⟨fs, hc⟩ := C.cl
  have tt := fun h => t_append (d := d + 38) (h := h) W.1 X (v := lj (f (7 * i + 1)) (f (7 * i + 2))) (n := f (7 * i + 3))
  rcases c_append (Ω := Ω) (d := d + 30) (v := lj (f (7 * i + 1)) (f (7 * i + 2))) (n := f (7 * i + 3)) C with ⟨k0, H1, e, g, n⟩ | ⟨k0, k1, e0, H1, e, he, n⟩ | ⟨k0, k1, e0, H1, e, he, n⟩
  · refine p_append_ok h7 hN W hc e n (by decide) (by decide) g (fun h => ?_) S hm (by omega) (by omega)
    obtain ⟨σ', e1, e2, e3, e4⟩ := tt h
    rw [k0] at e2
    exact ⟨σ', e1, e2, T.fx e4 (by decide) (by decide) (by decide), e3, Q.fx e4 (by decide) (by decide) (by decide), (e4.1 14 (by decide)).trans hf⟩
  · refine p_append_1 h7 hN W hc e he (NW.of n) (by decide) (by decide) (C.nx n) (fun h => ?_) S hm (by omega) (by omega)
    obtain ⟨σ', e1, e2, e3, e4⟩ := tt h
    rw [k0] at e2
    rw [k1] at e3
    exact ⟨σ', _, e1, e2, T.fx e4 (by decide) (by decide) (by decide), e3, Q.fx e4 (by decide) (by decide) (by decide), (e4.1 14 (by decide)).trans hf⟩
  · refine p_append_2 h7 hN W hc e he (NW.of n) (by decide) (by decide) (C.nx n) (fun h => ?_) S hm (by omega) (by omega)
    obtain ⟨σ', e1, e2, e3, e4⟩ := tt h
    rw [k0] at e2
    rw [k1] at e3
    exact ⟨σ', _, e1, e2, T.fx e4 (by decide) (by decide) (by decide), e3, Q.fx e4 (by decide) (by decide) (by decide), (e4.1 14 (by decide)).trans hf⟩
theorem s_fault (h7 : 7 * i + 7 ≤ N) (hN : N ≤ 336) (I : Iv Ω H s N f w x A σ c i) : StpL Ω d H s N f w x A c i l5 l6 l7 805 := by
  obtain ⟨L, op, Cu, Cm, cm, tx, fa, R, a, cols, rows, W, C, S, T, X, Q, hm, hf, b1, b2⟩ := I
  obtain ⟨fs, hc⟩ := C.cl
  have tt := fun h => t_fault (Ω := Ω) (d := d + 39) (h := h) (σ := σ) W.1
  rw [hf] at tt
  have e := c_fault (Ω := Ω) (d := d + 39) C
  have e4 : Fx [58] [] [] σ (sI σ 58 (nI 0)) := Fx.rfl'.sI (by decide)
  exact p_fault W hc e (NW.of (Nx.rfl' C.fe)) (by decide) (by decide) C (fun h => ⟨_, tt h, T.fx e4 (by decide) (by decide) (by decide), X.fx e4 (by decide) (by decide), Q.fx e4 (by decide) (by decide) (by decide), (e4.1 14 (by decide)).trans hf⟩) S hm (by omega) (by omega)
theorem rows_len (hm : R.map (fun r => r.2) = rows.map (fun q => cols.map q)) : R.length = rows.length := by
  have := congrArg List.length hm
  rwa [List.length_map, List.length_map] at this
theorem cnt_eq {tx : List Nat} (S : StR L op Cu Cm cm a) (hm : R.map (fun r => r.2) = rows.map (fun q => cols.map q)) {n : Nat} (hn : n ≤ 6) : tCnt a tx cols rows n = cCnt L Cu Cm cm tx R cols.length n := by
  have p := S.perm.length_eq
  have hch := S.chl
  obtain ⟨f1, f2, f3, f4⟩ := S.flds
  have hrl := rows_len hm
  unfold tCnt cCnt
  rw [p, f1, f2, f3, hrl]
  have e5 : (if op = true then a.2.2.1.length - a.2.2.2.2.2.1 else 0) = Cu.length := by
    cases op with
    | true => rw [if_pos rfl, hch, f4 rfl, ixC_len]; omega
    | false => rw [if_neg (by decide), S.cur]; rfl
  rw [e5]
theorem s_count (h7 : 7 * i + 7 ≤ N) (hN : N ≤ 336) (I : Iv Ω H s N f w x A σ c i) : StpL Ω d H s N f w x A c i l5 l6 l7 885 := by
  obtain ⟨L, op, Cu, Cm, cm, tx, fa, R, a, cols, rows, W, C, S, T, X, Q, hm, hf, b1, b2⟩ := I
  obtain ⟨fs, hc⟩ := C.cl
  generalize hkk : f (7 * i + 1) = kk
  have hch := S.chl
  obtain ⟨f1, f2, f3, f4⟩ := S.flds
  by_cases hr : nI 0 ≤ kk ∧ kk ≤ nI 6
  · obtain ⟨q, hq1, hq2⟩ := nI_of2 (M := nI 6) (n := 6) (by decide) (fun z => absurd hr.1 (Int32.not_le.mpr z)) hr.2
    have tt := fun h => t_count (d := d + 38) (h := h) W.1 T (fun z => by rw [f4 (f3.symm.trans z), hch, ixC_len]; omega) X Q hq1
    rw [cnt_eq S hm hq1] at tt
    have e := c_count (Ω := Ω) (d := d + 30) C hq1
    rw [← hq2, ← hkk] at e
    refine p_count_ok h7 hN W hc e (NW.of (Nx.rfl' C.fe)) (by decide) (by decide) C (fun h => ?_) S hm (by omega) (by omega)
    have e1 := tt h
    rw [← hq2, ← hkk] at e1
    have e4 : Fx [58] [] [] σ (sI σ 58 (nI 0)) := Fx.rfl'.sI (by decide)
    exact ⟨_, e1, rfl, T.fx e4 (by decide) (by decide) (by decide), X.fx e4 (by decide) (by decide), Q.fx e4 (by decide) (by decide) (by decide), (e4.1 14 (by decide)).trans hf⟩
  · have tt := fun h => t_count_bad (Ω := Ω) (d := d + 38) (h := h) (σ := σ) W.1 hr
    obtain ⟨e0, H1, e, he, n⟩ := c_count_bad (Ω := Ω) (d := d + 30) (c := c) C.fe hr
    rw [← hkk] at e
    refine p_count_1 h7 hN W hc e he (NW.of n) (by decide) (by decide) (C.nx n) (fun h => ?_) S hm (by omega) (by omega)
    have e1 := tt h
    rw [← hkk] at e1
    have e4 : Fx [58] [] [] σ (sI σ 58 (nI 1)) := Fx.rfl'.sI (by decide)
    exact ⟨_, _, e1, rfl, T.fx e4 (by decide) (by decide) (by decide), X.fx e4 (by decide) (by decide), Q.fx e4 (by decide) (by decide) (by decide), (e4.1 14 (by decide)).trans hf⟩
theorem nI_rng {r : Int32} {n : Nat} (hn : n < 2 ^ 31) (h0 : nI 0 ≤ r) (h1 : r < nI n) : ∃ k, k < n ∧ r = nI k := by
  obtain ⟨k, k1, k2⟩ := nI_of2 (M := nI n) (n := n) (by rw [nI_toInt hn]) (fun z => absurd h0 (Int32.not_le.mpr z)) (Int32.le_of_lt h1)
  refine ⟨k, ?_, k2⟩
  rw [k2, Int32.lt_iff_toInt_lt, nI_toInt (by omega), nI_toInt hn] at h1
  omega
theorem s_cell (h7 : 7 * i + 7 ≤ N) (hN : N ≤ 336) (I : Iv Ω H s N f w x A σ c i) : StpL Ω d H s N f w x A c i l5 l6 l7 818 := by
  obtain ⟨L, op, Cu, Cm, cm, tx, fa, R, a, cols, rows, W, C, S, T, X, Q, hm, hf, b1, b2⟩ := I
  obtain ⟨fs, hc⟩ := C.cl
  generalize hk1 : f (7 * i + 1) = r
  generalize hk2 : f (7 * i + 2) = cc
  have hrl := rows_len hm
  have hQ3 := Q.2.2.1
  have hQ4 := Q.2.2.2.1
  by_cases hr : (nI 0 ≤ r ∧ r < nI rows.length) ∧ nI 0 ≤ cc ∧ cc < nI cols.length
  · obtain ⟨p, p1, p2⟩ := nI_rng (by omega) hr.1.1 hr.1.2
    obtain ⟨q, q1, q2⟩ := nI_rng (by omega) hr.2.1 hr.2.2
    have gp : rows[p]? = some rows[p] := List.getElem?_eq_getElem p1
    have gq : cols[q]? = some cols[q] := List.getElem?_eq_getElem q1
    generalize rows[p] = sol at gp
    generalize cols[q] = va at gq
    have gR : R[p]? = some R[p] := List.getElem?_eq_getElem (by omega)
    generalize R[p] = rw at gR
    have e2 : rw.2 = cols.map sol := by
      have := congrArg (fun l : List (List (Option Int64)) => l[p]?) hm
      simp only [List.getElem?_map, gp, gR, Option.map_some] at this
      exact Option.some.inj this
    have gj : rw.2[q]? = some (sol va) := by rw [e2, List.getElem?_map, gq]; rfl
    have tt := fun h => t_cell (d := d + 38) (h := h) W.1 Q gp gq
    obtain ⟨c1, c2⟩ := c_cell (Ω := Ω) (d := d + 30) C gR gj
    cases hs : sol va with
    | some y =>
      have e := c1 y hs
      rw [← p2, ← q2, ← hk1, ← hk2] at e
      refine p_cell_ok h7 hN W hc e (NW.of (Nx.rfl' C.fe)) (by decide) (by decide) C (fun h => ?_) S hm (by omega) (by omega)
      obtain ⟨σ', e1, e3, e4⟩ := tt h
      rw [← p2, ← q2, ← hk1, ← hk2, hs] at e1
      rw [hs] at e3
      exact ⟨σ', e1, e3, T.fx e4 (by decide) (by decide) (by decide), X.fx e4 (by decide) (by decide), Q.fx e4 (by decide) (by decide) (by decide), (e4.1 14 (by decide)).trans hf⟩
    | none =>
      obtain ⟨e0, H1, e, he, n⟩ := c2 hs
      rw [← p2, ← q2, ← hk1, ← hk2] at e
      refine p_cell_2 h7 hN W hc e he (NW.of n) (by decide) (by decide) (C.nx n) (fun h => ?_) S hm (by omega) (by omega)
      obtain ⟨σ', e1, e3, e4⟩ := tt h
      rw [← p2, ← q2, ← hk1, ← hk2, hs] at e1
      rw [hs] at e3
      exact ⟨σ', _, e1, e3, T.fx e4 (by decide) (by decide) (by decide), X.fx e4 (by decide) (by decide), Q.fx e4 (by decide) (by decide) (by decide), (e4.1 14 (by decide)).trans hf⟩
  · have tt := fun h => t_cell_bad (d := d + 38) (h := h) W.1 Q hr
    rw [← hrl] at hr
    obtain ⟨e0, H1, e, he, n⟩ := c_cell_bad (Ω := Ω) (d := d + 30) C hr
    rw [← hk1, ← hk2] at e
    refine p_cell_1 h7 hN W hc e he (NW.of n) (by decide) (by decide) (C.nx n) (fun h => ?_) S hm (by omega) (by omega)
    have e1 := tt h
    rw [← hk1, ← hk2] at e1
    have e4 : Fx [58] [] [] σ (sI σ 58 (nI 1)) := Fx.rfl'.sI (by decide)
    exact ⟨_, _, e1, rfl, T.fx e4 (by decide) (by decide) (by decide), X.fx e4 (by decide) (by decide), Q.fx e4 (by decide) (by decide) (by decide), (e4.1 14 (by decide)).trans hf⟩
end OPS
