/-! COMPONENT: ask -/
def TrA (h : AH) (tr : Nat) (L : List Tri) : Prop := ∃ f : Nat → Option Nat, h.1 tr = some (arR "TripleStore$Triple" 48 f) ∧ L.length ≤ 48 ∧ ∀ i t, L[i]? = some t → ∃ a, f i = some a ∧ TriR h a t
theorem litL8 {i : Nat} {w : List Nat} (h : litWs[i]? = some w) : w.length ≤ 8 := by
  have : ∀ w ∈ litWs, w.length ≤ 8 := by decide
  exact this w (List.mem_of_getElem? h)
section AS2
variable {Ω : Om} {d : Nat} {h h' : AH} {a b N c ra sb bb tr k m : Nat} {v2 v3 v4 v5 v6 v7 v8 : Value} {fa rc co : Int32} {L : List Tri} {cs w : List Nat} {S : List Nat}
theorem TrA.fs (x : TrA h tr L) (n : Nx S k m h h') (hS : FS h S) (ht : tr ∉ S) : TrA h' tr L := by
  obtain ⟨f, a1, a2, a3⟩ := x
  refine ⟨f, n.ar a1 ht, a2, fun i t q => ?_⟩
  obtain ⟨u, u1, u2⟩ := a3 i t q
  exact ⟨u, u1, u2.fs n hS⟩
theorem LitR.fs (x : LitR Ω h) (n : Nx S k m h h') (hS : FS h S) : LitR Ω h' := fun i w q => (x i w q).fs n hS (litL8 q)
theorem SbR.nx (x : SbR h a b N w) (n : Nx S k m h h') (ha : a ∉ S) (hb : b ∉ S) : SbR h' a b N w := by
  obtain ⟨z, f, a1, a2, a3⟩ := x
  exact ⟨z, f, n.ob a1 (by decide) ha, n.ar a2 hb, a3⟩
theorem TrA.sto {rest : List Value} (x : TrA h tr L) (hc : h.1 c = some (.inr (0, .ref tr :: .int (nI L.length) :: rest))) : StoT h c L := by
  obtain ⟨f, a1, a2, a3⟩ := x
  exact ⟨tr, rest, f, hc, a1, a2, a3⟩
theorem FS.ob {ci : Nat} {fs : List Value} (hc : h.1 c = some (.inr (ci, fs))) (hi : ci ∉ [2, 3, 4, 5, 20, 21, 23]) : FS h [c] := fun q hq e he => by
  rw [List.mem_singleton.mp hq, hc] at he
  cases he
  exact hi
theorem GS.ob {ci : Nat} {fs : List Value} (hc : h.1 c = some (.inr (ci, fs))) (hi : ci ∉ [2, 3, 4, 5, 9, 10, 11, 12, 13, 14, 15, 16, 17, 18, 20, 21, 23]) : GS h [c] := fun q hq e he => by
  rw [List.mem_singleton.mp hq, hc] at he
  cases he
  exact hi
theorem ne_cl {ci cj : Nat} {fs gs : List Value} (ha : h.1 a = some (.inr (ci, fs))) (hb : h.1 b = some (.inr (cj, gs))) (hn : ci ≠ cj) : a ≠ b := fun q => by
  rw [q, hb] at ha
  cases ha
  exact hn rfl
theorem ne_ca {ci : Nat} {fs : List Value} {q : FieldType × vp_A} (ha : h.1 a = some (.inr (ci, fs))) (hb : h.1 b = some (.inl q)) : a ≠ b := fun q => by
  rw [q, hb] at ha
  cases ha
/-- the text is taken, a reader made -/
theorem c_a1 (hc : h.1 c = some (acE (.ref tr) (.int (nI L.length)) v2 v3 v4 v5 v6 v7 v8 sb fa ra rc co)) (hT : TrA h tr L) (hB : SbR h sb bb 160 cs) (hL : LitR Ω h) (hFe : Fe h) (hzc : Ω.sz ≤ c) (hzs : Ω.sz ≤ sb) (hzb : Ω.sz ≤ bb) (hz : Ω.sz ≤ h.2.1) : ∃ tx r nm h4, (∀ o, gM PG Ω (d + 25) 114 [.ref r] h4 = o → gM PG Ω (d + 26) 32 [.ref c] h = bA o (fun v h' => gO PG Ω (d + 25) 32 28 [.ref c, .ref tx, U, U, U] [v] h')) ∧ RdR Ω h4 r c tx nm cs (0, [], 0) 0 ∧ SbR h4 sb bb 160 [] ∧ h4.1 c = some (acE (.ref tr) (.int (nI L.length)) v2 v3 v4 v5 v6 v7 v8 sb fa ra rc co) ∧ TrA h4 tr L ∧ Nx [sb] 6 345 h h4 ∧ h.2.1 ≤ r ∧ h.2.1 ≤ nm := by
  have hB0 := hB
  obtain ⟨z, fz, s1, s2, _, _, s5, s6⟩ := hB0
  obtain ⟨h1, a1, a2, a3, a4⟩ := bb_str (Ω := Ω) (d := d + 19) hzb hz hFe hB
  have c1 : h1.1 c = _ := (a4 c (hFe.lt hc)).trans hc
  have B1 : SbR h1 sb bb 160 cs := hB.nx a3 (by simp) (by simp)
  have s1' : h1.1 sb = _ := (a4 sb (hFe.lt s1)).trans s1
  obtain ⟨h2, b1, b2, b3, b4, b5⟩ := bb_set0 (Ω := Ω) (d := d + 22) hzs a3.2.1 B1
  have ncs : c ≠ sb := ne_cl hc s1 (by decide)
  have c2 : h2.1 c = _ := (b5 c ncs).trans c1
  have t2 : StrH h2 h.2.1 cs := by
    obtain ⟨b', z1, z2, f', q1, q2, q3⟩ := a2
    exact ⟨b', z1, z2, f', (b5 _ (ne_cl q1 s1' (by decide))).trans q1, (b5 _ (ne_ca s1' q2).symm).trans q2, q3⟩
  have fs1 : FS h1 [sb] := FS.ob s1' (by decide)
  have L2 : LitR Ω h2 := (hL.nx a3).fs b3 fs1
  have T2 : TrA h2 tr L := (hT.fs a3 FS.nil (by simp)).fs b3 fs1 (by
    obtain ⟨f, t1, _⟩ := hT
    have := a3.ar t1 (by simp)
    exact fun q => ne_ca s1' this (List.mem_singleton.mp q).symm)
  have n3 : Nx [] 1 11 h2 (hnew h2 (.inr (7, [.null, .null, .null, .int 0, .int 0, .null, .int 0, .int 0, .int 0, .int 0, .int 0])) 11) := (Nx.rfl' b3.2.1).new
  have hz2 : Ω.sz ≤ h2.2.1 := by rw [b4]; exact Nat.le_trans hz a3.2.2.1
  have hl2 : c < h2.2.1 := b3.2.1.lt c2
  have c3 := n3.ob c2 (by decide) (by simp)
  have hzr : Ω.sz ≤ h.2.1 := hz
  obtain ⟨h4, g1, g2, g3⟩ := r_init (Ω := Ω) (d := d + 18) (h := hnew h2 (.inr (7, [.null, .null, .null, .int 0, .int 0, .null, .int 0, .int 0, .int 0, .int 0, .int 0])) 11) (r := h2.2.1) (tx := h.2.1) (cs := cs) hnew_e c3 rfl (t2.low b3.2.1 (fun q hq => hnew_n (by omega))) (L2.nx n3) n3.2.1 hz2 hz hzc (by rw [hnew_21]; omega)
  have hB2 := b2
  obtain ⟨z', fz', s1'', s2'', _⟩ := hB2
  have ls := b3.2.1.lt s1''
  have lb := b3.2.1.lt s2''
  have fs3 : FS (hnew h2 (.inr (7, [.null, .null, .null, .int 0, .int 0, .null, .int 0, .int 0, .int 0, .int 0, .int 0])) 11) [h2.2.1] := FS.ob hnew_e (by decide)
  have T3 := T2.fs n3 FS.nil (by simp)
  obtain ⟨wd, p, w1, _⟩ := g2.cell
  have e2 : h2.2.1 = h1.2.1 := by rw [b4]
  have e1 := a3.2.2.1
  refine ⟨h.2.1, h2.2.1, _, h4, fun o ho => ?_, g2, (b2.nx n3 (by simp) (by simp)).nx g3 (by simp; omega) (by simp; omega), g3.ob c3 (by decide) (by simp; omega), T3.fs g3 fs3 (by
    obtain ⟨f, t1, _⟩ := T2
    have := b3.2.1.lt t1
    simp; omega), ?_, by omega, by rw [hnew_21]; omega⟩
  · simp (disch := first | omega | (simp only [hnew_21, hput_21, hnew_22, hput_22]; omega) | exact isR_ref | exact isR_null | exact isR_rf | exact isR_fmt | assumption | decide) only [n_X1_ask, e_X1_ask_0, e_X1_ask_1, e_X1_ask_4, cR_ref, cR_null, cR_rf, c1_int, c1_ref, c1_null, c1_rf, kz_int, kz_ref, kz_null, kz_rf, kz_U, kz_long, nB_null, nB_ref, rf_none, rf_some, bV_ret, bV_thr, bA_ret, bA_thr, bX_ret, bX_thr, len4_0, len4_1, len4_2, len4_3, len4_4, true_and, and_true, and_self, if_true, if_false, Option.bind_some, nR_b1, nR_b0, nR_bI, nI_1z, nI_0z, bI_z, if_nn, gf, pf, clN, aln, gaI, gaL, gaR, saI, saR, isI, ctB, isB, gB, hput_n, hput_e, hput_21, hput_22, hnew_n, hnew_e, hnew_21, hnew_22, Option.bind_some, Option.map_some, List.lookup_cons, List.lookup_nil, beq_self_eq_true, List.getElem?_cons_zero, List.getElem?_cons_succ, List.set_cons_zero, List.set_cons_succ, List.length_cons, List.length_nil, Nat.reduceAdd, Nat.reduceLT, Nat.reduceLeDiff, Nat.reduceBEq, Nat.reduceEqDiff, okv_int, okv_oref, okv_onull, okv_orf, okv_aref, okv_b0, okv_b1, okv_z0, okv_bI, ckI_nI, lt31, leT, reduceCtorEq, List.mem_cons, List.mem_singleton, List.not_mem_nil, or_true, true_or, or_false, false_or, toR_ref, toR_null, ↓reduceIte, hc, s1, a1]
    simp (disch := first | omega | (simp only [hnew_21, hput_21, hnew_22, hput_22]; omega) | exact isR_ref | exact isR_null | exact isR_rf | exact isR_fmt | assumption | decide) only [e_X1_ask_7, e_X1_ask_8, e_X1_ask_9, e_X1_ask_12, e_X1_ask_13, cR_ref, cR_null, cR_rf, c1_int, c1_ref, c1_null, c1_rf, kz_int, kz_ref, kz_null, kz_rf, kz_U, kz_long, nB_null, nB_ref, rf_none, rf_some, bV_ret, bV_thr, bA_ret, bA_thr, bX_ret, bX_thr, len4_0, len4_1, len4_2, len4_3, len4_4, true_and, and_true, and_self, if_true, if_false, Option.bind_some, nR_b1, nR_b0, nR_bI, nI_1z, nI_0z, bI_z, if_nn, gf, pf, clN, aln, gaI, gaL, gaR, saI, saR, isI, ctB, isB, gB, hput_n, hput_e, hput_21, hput_22, hnew_n, hnew_e, hnew_21, hnew_22, Option.bind_some, Option.map_some, List.lookup_cons, List.lookup_nil, beq_self_eq_true, List.getElem?_cons_zero, List.getElem?_cons_succ, List.set_cons_zero, List.set_cons_succ, List.length_cons, List.length_nil, Nat.reduceAdd, Nat.reduceLT, Nat.reduceLeDiff, Nat.reduceBEq, Nat.reduceEqDiff, okv_int, okv_oref, okv_onull, okv_orf, okv_aref, okv_b0, okv_b1, okv_z0, okv_bI, ckI_nI, lt31, leT, reduceCtorEq, List.mem_cons, List.mem_singleton, List.not_mem_nil, or_true, true_or, or_false, false_or, toR_ref, toR_null, ↓reduceIte, c1, s1', b1]
    simp (disch := first | omega | (simp only [hnew_21, hput_21, hnew_22, hput_22]; omega) | exact isR_ref | exact isR_null | exact isR_rf | exact isR_fmt | assumption | decide) only [e_X1_ask_16, e_X1_ask_19, e_X1_ask_20, e_X1_ask_21, e_X1_ask_22, cR_ref, cR_null, cR_rf, c1_int, c1_ref, c1_null, c1_rf, kz_int, kz_ref, kz_null, kz_rf, kz_U, kz_long, nB_null, nB_ref, rf_none, rf_some, bV_ret, bV_thr, bA_ret, bA_thr, bX_ret, bX_thr, len4_0, len4_1, len4_2, len4_3, len4_4, true_and, and_true, and_self, if_true, if_false, Option.bind_some, nR_b1, nR_b0, nR_bI, nI_1z, nI_0z, bI_z, if_nn, gf, pf, clN, aln, gaI, gaL, gaR, saI, saR, isI, ctB, isB, gB, hput_n, hput_e, hput_21, hput_22, hnew_n, hnew_e, hnew_21, hnew_22, Option.bind_some, Option.map_some, List.lookup_cons, List.lookup_nil, beq_self_eq_true, List.getElem?_cons_zero, List.getElem?_cons_succ, List.set_cons_zero, List.set_cons_succ, List.length_cons, List.length_nil, Nat.reduceAdd, Nat.reduceLT, Nat.reduceLeDiff, Nat.reduceBEq, Nat.reduceEqDiff, okv_int, okv_oref, okv_onull, okv_orf, okv_aref, okv_b0, okv_b1, okv_z0, okv_bI, ckI_nI, lt31, leT, reduceCtorEq, List.mem_cons, List.mem_singleton, List.not_mem_nil, or_true, true_or, or_false, false_or, toR_ref, toR_null, ↓reduceIte, g1]
    simp (disch := first | omega | (simp only [hnew_21, hput_21, hnew_22, hput_22]; omega) | exact isR_ref | exact isR_null | exact isR_rf | exact isR_fmt | assumption | decide) only [e_X1_ask_25, cR_ref, cR_null, cR_rf, c1_int, c1_ref, c1_null, c1_rf, kz_int, kz_ref, kz_null, kz_rf, kz_U, kz_long, nB_null, nB_ref, rf_none, rf_some, bV_ret, bV_thr, bA_ret, bA_thr, bX_ret, bX_thr, len4_0, len4_1, len4_2, len4_3, len4_4, true_and, and_true, and_self, if_true, if_false, Option.bind_some, nR_b1, nR_b0, nR_bI, nI_1z, nI_0z, bI_z, if_nn, gf, pf, clN, aln, gaI, gaL, gaR, saI, saR, isI, ctB, isB, gB, hput_n, hput_e, hput_21, hput_22, hnew_n, hnew_e, hnew_21, hnew_22, Option.bind_some, Option.map_some, List.lookup_cons, List.lookup_nil, beq_self_eq_true, List.getElem?_cons_zero, List.getElem?_cons_succ, List.set_cons_zero, List.set_cons_succ, List.length_cons, List.length_nil, Nat.reduceAdd, Nat.reduceLT, Nat.reduceLeDiff, Nat.reduceBEq, Nat.reduceEqDiff, okv_int, okv_oref, okv_onull, okv_orf, okv_aref, okv_b0, okv_b1, okv_z0, okv_bI, ckI_nI, lt31, leT, reduceCtorEq, List.mem_cons, List.mem_singleton, List.not_mem_nil, or_true, true_or, or_false, false_or, toR_ref, toR_null, ↓reduceIte, w1, ho]
  · have x1 : Nx [sb, h2.2.1] 6 345 h h4 := ((((a3.mono (fun _ q => nomatch q) (Nat.le_refl _) (Nat.le_refl _)).trans (b3.mono (S' := [sb, h2.2.1]) (fun _ q => by simp at q ⊢; exact .inl q) (Nat.le_refl _) (Nat.le_refl _))).trans (n3.mono (fun _ q => nomatch q) (Nat.le_refl _) (Nat.le_refl _))).trans (g3.mono (fun _ q => by simp at q ⊢; exact .inr q) (Nat.le_refl _) (Nat.le_refl _))).mono (fun _ q => q) (by omega) (by omega)
    exact x1.low (fun q hq => by
      rcases List.mem_cons.mp hq with z | z
      · exact .inl (by rw [z]; simp)
      · exact .inr (by rw [List.mem_singleton.mp z]; omega))
theorem c_ask_er {q : Nat} (hc : h.1 c = some (acE (.ref tr) (.int (nI L.length)) v2 v3 v4 v5 v6 v7 v8 sb fa ra rc co)) (hT : TrA h tr L) (hB : SbR h sb bb 160 cs) (hL : LitR Ω h) (hFe : Fe h) (hzc : Ω.sz ≤ c) (hzs : Ω.sz ≤ sb) (hzb : Ω.sz ≤ bb) (hz : Ω.sz ≤ h.2.1) (hq : pQry cs = .error q) : ∃ e h', gM PG Ω (d + 26) 32 [.ref c] h = some (.threw e, h') ∧ h'.1 e = some (.inr (24, [])) ∧ h'.1 c = some (acE (.ref tr) (.int (nI L.length)) v2 v3 v4 v5 v6 v7 v8 sb (nI q) ra rc co) ∧ SbR h' sb bb 160 [] ∧ Nx [c, sb] 12000 150000 h h' := by
  obtain ⟨tx, r, nm, h4, a1, a2, a3, a4, a5, a6, a7, a8⟩ := c_a1 (d := d) hc hT hB hL hFe hzc hzs hzb hz
  obtain ⟨e, h5, hf, e1, e2, e3, e4, e5⟩ := (r_read (d := d) a2).2 q hq
  rw [a4] at e3
  cases e3
  have hlt := hFe.lt hc
  obtain ⟨z, fz, s1, s2, _⟩ := a3
  obtain ⟨z', fz', u1, u2, _⟩ := hB
  have l1 := hFe.lt u1
  have l2 := hFe.lt u2
  have na : sb ∉ [r, nm, c] := by
    have := ne_cl s1 a4 (by decide)
    simp; omega
  have nb : bb ∉ [r, nm, c] := by
    have := ne_ca a4 s2
    simp; omega
  refine ⟨e, h5, by rw [a1 _ e1, bA_thr], e2, e4, SbR.nx ⟨z, fz, s1, s2, by assumption⟩ e5 na nb, ?_⟩
  have x1 : Nx [c, sb, r, nm] 12000 150000 h h5 := ((a6.mono (S' := [c, sb, r, nm]) (fun _ q => by simp at q ⊢; exact .inr (.inl q)) (Nat.le_refl _) (Nat.le_refl _)).trans (e5.mono (fun x q => by simp at q ⊢; omega) (Nat.le_refl _) (Nat.le_refl _))).mono (fun _ q => q) (by omega) (by omega)
  exact x1.low (fun q hq => by simp at hq ⊢; omega)
set_option maxHeartbeats 1000000 in
theorem c_ask_ok {y : Qry} (hc : h.1 c = some (acE (.ref tr) (.int (nI L.length)) v2 v3 v4 v5 v6 v7 v8 sb fa ra rc co)) (hT : TrA h tr L) (hB : SbR h sb bb 160 cs) (hL : LitR Ω h) (hFe : Fe h) (hzc : Ω.sz ≤ c) (hzs : Ω.sz ≤ sb) (hzb : Ω.sz ≤ bb) (hz : Ω.sz ≤ h.2.1) (hq : pQry cs = .ok y) : (evG L 4 y.2.2.1 = none → ∃ e h', gM PG Ω (d + 26) 32 [.ref c] h = some (.threw e, h') ∧ h'.1 e = some (.inr (25, [])) ∧ h'.1 c = some (acE (.ref tr) (.int (nI L.length)) v2 v3 v4 v5 v6 v7 v8 sb (-1) ra (nI 0) (nI y.2.1.length)) ∧ SbR h' sb bb 160 [] ∧ Nx [c, sb] 12000 150000 h h') ∧ (∀ l, evG L 4 y.2.2.1 = some l → ∃ ra' fr h' R, R = (rwsK y.1 y.2.2.2.1.2 y.2.2.2.1.1 y.2.1 l l.length).take (y.2.2.2.2.getD 150) ∧ gM PG Ω (d + 26) 32 [.ref c] h = some (.returned (some (.int (nI R.length))), h') ∧ h'.1 c = some (acE (.ref tr) (.int (nI L.length)) v2 v3 v4 v5 v6 v7 v8 sb (-1) ra' (nI R.length) (nI y.2.1.length)) ∧ h'.1 ra' = some (arR "TripleStore$Row" l.length fr) ∧ RwsF h' l.length R fr ∧ l.length ≤ 150 ∧ Ω.sz ≤ ra' ∧ SbR h' sb bb 160 [] ∧ Nx [c, sb] 12000 150000 h h') := by
  obtain ⟨tx, r, nm, h4, a1, a2, a3, a4, a5, a6, a7, a8⟩ := c_a1 (d := d) hc hT hB hL hFe hzc hzs hzb hz
  obtain ⟨qa, h5, e1, e2, ⟨s', e3⟩, e4⟩ := (r_read (d := d) a2).1 y hq
  obtain ⟨q1, q2, q3, q4, q5, q6⟩ := pQ_K hq
  obtain ⟨k1, k2⟩ := pQ_cnt hq
  have hcs := a2.len
  obtain ⟨ar, ga, fI, w1, w2, w3, w4, w5, fsg, w6⟩ := e2
  have gs4 := a2.gs
  have nc4 : c ∉ [r, nm] := a2.na a4 (by decide)
  have c5 := e4.ob a4 (by decide) nc4
  obtain ⟨z, fz, s1, s2, s3⟩ := a3
  obtain ⟨z', fz', u1, u2, _⟩ := hB
  have l1 := hFe.lt u1
  have l2 := hFe.lt u2
  have l3 := hFe.lt hc
  have B5 : SbR h5 sb bb 160 [] := SbR.nx ⟨z, fz, s1, s2, s3⟩ e4 (by simp; omega) (by simp; omega)
  have T5 : TrA h5 tr L := a5.fs e4 gs4.f (by
    obtain ⟨f, t1, _⟩ := hT
    have := hFe.lt t1
    simp; omega)
  have hFe5 := e4.2.1
  have hlc := hFe5.lt c5
  have n6 : Nx [c] 0 0 h5 (hput h5 c (acE (.ref tr) (.int (nI L.length)) v2 v3 v4 v5 v6 v7 v8 sb (-1) ra (nI 0) (nI y.2.1.length))) := (Nx.rfl' hFe5).put (.inl (by simp)) hlc
  have hgq : hput h5 c (acE (.ref tr) (.int (nI L.length)) v2 v3 v4 v5 v6 v7 v8 sb (-1) ra (nI 0) (nI y.2.1.length)) = hput h5 c (acE (.ref tr) (.int (nI L.length)) v2 v3 v4 v5 v6 v7 v8 sb (-1) ra (nI 0) (nI y.2.1.length)) := rfl
  have c6 : (hput h5 c (acE (.ref tr) (.int (nI L.length)) v2 v3 v4 v5 v6 v7 v8 sb (-1) ra (nI 0) (nI y.2.1.length))).1 c = some (acE (.ref tr) (.int (nI L.length)) v2 v3 v4 v5 v6 v7 v8 sb (-1) ra (nI 0) (nI y.2.1.length)) := hput_e
  generalize hh6 : hput h5 c (acE (.ref tr) (.int (nI L.length)) v2 v3 v4 v5 v6 v7 v8 sb (-1) ra (nI 0) (nI y.2.1.length)) = h6 at n6 c6
  clear hgq
  obtain ⟨z5, fz5, s15, s25, s35⟩ := B5
  have ncs : c ≠ sb := ne_cl hc u1 (by decide)
  have ncb : c ≠ bb := ne_ca hc u2
  have nct : c ≠ tr := by
    obtain ⟨f, t1, _⟩ := hT
    exact ne_ca hc t1
  have B6 : SbR h6 sb bb 160 [] := SbR.nx ⟨z5, fz5, s15, s25, s35⟩ n6 (by simp; omega) (by simp; omega)
  have T6 : TrA h6 tr L := T5.fs n6 (FS.ob c5 (by decide)) (by simp; omega)
  have G6 := GrR.gs n6 (GS.ob c5 (by decide)) 4 ga y.2.2.1 w5
  have hFe6 := n6.2.1
  have hz6 : Ω.sz ≤ h6.2.1 := by
    have := a6.2.2.1
    have := e4.2.2.1
    have := n6.2.2.1
    omega
  have w1' := n6.ob w1 (by decide) (by have := ne_cl c5 w1 (by decide); simp; omega)
  have w2' := n6.ar w2 (by have := ne_ca c5 w2; simp; omega)
  have w6' := n6.ob w6 (by decide) (by have := ne_cl c5 w6 (by decide); simp; omega)
  have F := (HG.all (Ω := Ω) (L := L) (c := c) 4 (d + 5)).2.2 h6 ga y.2.2.1 hz6 hFe6 (T6.sto c6) G6
  have X6 : Nx [c, sb] (6 + 1600) (345 + 48000) h h6 := (((a6.mono (S' := [c, sb, r, nm]) (fun _ q => by simp at q ⊢; exact .inr (.inl q)) (Nat.le_refl _) (Nat.le_refl _)).trans (e4.mono (fun x q => by simp at q ⊢; omega) (Nat.le_refl _) (Nat.le_refl _))).trans (n6.mono (fun x q => by simp at q ⊢; omega) (Nat.le_refl _) (Nat.le_refl _))).mono (fun _ q => q) (by omega) (by omega) |>.low (fun q hq => by simp at hq ⊢; omega)
  have hcK : cK (cnt 4 y.2.2.1) ≤ 7960 := by unfold cK; omega
  have hcM : cM (cnt 4 y.2.2.1) ≤ 54600 := by unfold cM; omega
  have st1 : gO PG Ω (d + 25) 32 28 [.ref c, .ref tx, U, U, U] [.ref qa] h5 = bA (gM PG Ω (d + 25) 128 [.ref ga, .ref c] h6) (fun v h' => gO PG Ω (d + 25) 32 55 [.ref c, .ref tx, .ref qa, U, U] [v] h') := by
    rw [← hh6] at w6' ⊢
    have nq := ne_cl c5 w1 (by decide)
    have ng := ne_cl c5 w6 (by decide)
    simp (disch := first | omega | (simp only [hnew_21, hput_21, hnew_22, hput_22]; omega) | exact isR_ref | exact isR_null | exact isR_rf | exact isR_fmt | assumption | decide) only [e_X1_ask_28, e_X1_ask_29, e_X1_ask_30, e_X1_ask_31, e_X1_ask_34, e_X1_ask_35, e_X1_ask_36, e_X1_ask_39, e_X1_ask_40, e_X1_ask_41, e_X1_ask_44, e_X1_ask_47, e_X1_ask_48, e_X1_ask_51, e_X1_ask_52, cR_ref, cR_null, cR_rf, c1_int, c1_ref, c1_null, c1_rf, kz_int, kz_ref, kz_null, kz_rf, kz_U, kz_long, nB_null, nB_ref, rf_none, rf_some, bV_ret, bV_thr, bA_ret, bA_thr, bX_ret, bX_thr, len4_0, len4_1, len4_2, len4_3, len4_4, true_and, and_true, and_self, if_true, if_false, Option.bind_some, nR_b1, nR_b0, nR_bI, nI_1z, nI_0z, bI_z, if_nn, gf, pf, clN, aln, gaI, gaL, gaR, saI, saR, isI, ctB, isB, gB, hput_n, hput_e, hput_21, hput_22, hnew_n, hnew_e, hnew_21, hnew_22, Option.bind_some, Option.map_some, List.lookup_cons, List.lookup_nil, beq_self_eq_true, List.getElem?_cons_zero, List.getElem?_cons_succ, List.set_cons_zero, List.set_cons_succ, List.length_cons, List.length_nil, Nat.reduceAdd, Nat.reduceLT, Nat.reduceLeDiff, Nat.reduceBEq, Nat.reduceEqDiff, okv_int, okv_oref, okv_onull, okv_orf, okv_aref, okv_b0, okv_b1, okv_z0, okv_bI, ckI_nI, lt31, leT, reduceCtorEq, List.mem_cons, List.mem_singleton, List.not_mem_nil, or_true, true_or, or_false, false_or, toR_ref, toR_null, ↓reduceIte, c5, w1, w6, nq, nq.symm, ng, ng.symm, hput2]
  constructor
  · intro hn
    rcases F with ⟨l, a, b, h7, f1, _⟩ | ⟨_, e, h7, f2, f3, f4⟩
    · rw [hn] at f1; cases f1
    · refine ⟨e, h7, ?_, f3, f4.ob c6 (by decide) (by simp), B6.nx f4 (by simp) (by simp), (X6.trans (f4.mono (fun _ q => nomatch q) (Nat.le_refl _) (Nat.le_refl _))).mono (fun _ q => q) (by omega) (by omega)⟩
      rw [a1 _ e1, bA_ret, st1]
      rw [f2, bA_thr]
  · intro l hl
    rcases F with ⟨l', a, b, h7, f1, f2, f3, f4, f5, f6⟩ | ⟨hn, _⟩
    · rw [hl] at f1
      cases f1
      obtain ⟨ff, b1, b2, b3, b4⟩ := f3
      have hFe7 := f6.2.1
      have c7 := f6.ob c6 (by decide) (by simp)
      have hlc7 := hFe7.lt c7
      have la7 := hFe7.lt b1
      have lb7 := hFe7.lt b2
      have n8 : Nx [c] 1 l.length h7 (hput (hnew h7 (arR "TripleStore$Row" l.length (fun _ => none)) l.length) c (acE (.ref tr) (.int (nI L.length)) v2 v3 v4 v5 v6 v7 v8 sb (-1) h7.2.1 (nI 0) (nI y.2.1.length))) := (((Nx.rfl' hFe7).new (e := arR "TripleStore$Row" l.length (fun _ => none)) (N := l.length)).put (.inl (by simp)) (by rw [hnew_21]; omega)).mono (fun _ q => q) (by omega) (by omega)
      have c8 : (hput (hnew h7 (arR "TripleStore$Row" l.length (fun _ => none)) l.length) c (acE (.ref tr) (.int (nI L.length)) v2 v3 v4 v5 v6 v7 v8 sb (-1) h7.2.1 (nI 0) (nI y.2.1.length))).1 c = some (acE (.ref tr) (.int (nI L.length)) v2 v3 v4 v5 v6 v7 v8 sb (-1) h7.2.1 (nI 0) (nI y.2.1.length)) := hput_e
      have r8 : (hput (hnew h7 (arR "TripleStore$Row" l.length (fun _ => none)) l.length) c (acE (.ref tr) (.int (nI L.length)) v2 v3 v4 v5 v6 v7 v8 sb (-1) h7.2.1 (nI 0) (nI y.2.1.length))).1 h7.2.1 = some (arR "TripleStore$Row" l.length (fun _ => none)) := by
        rw [hput_n (by omega)]; exact hnew_e
      have z8 : h7.2.1 + 1 = (hput (hnew h7 (arR "TripleStore$Row" l.length (fun _ => none)) l.length) c (acE (.ref tr) (.int (nI L.length)) v2 v3 v4 v5 v6 v7 v8 sb (-1) h7.2.1 (nI 0) (nI y.2.1.length))).2.1 := by rw [hput_21, hnew_21]
      have st2 : gO PG Ω (d + 25) 32 55 [.ref c, .ref tx, .ref qa, U, U] [.ref a] h7 = gO PG Ω (d + 25) 32 70 [.ref c, .ref tx, .ref qa, .ref a, .int (nI 0)] [] (hput (hnew h7 (arR "TripleStore$Row" l.length (fun _ => none)) l.length) c (acE (.ref tr) (.int (nI L.length)) v2 v3 v4 v5 v6 v7 v8 sb (-1) h7.2.1 (nI 0) (nI y.2.1.length))) := by
        have nca := ne_cl c7 b1 (by decide)
        simp (disch := first | omega | (simp only [hnew_21, hput_21, hnew_22, hput_22]; omega) | exact isR_ref | exact isR_null | exact isR_rf | exact isR_fmt | assumption | decide) only [e_X1_ask_55, e_X1_ask_56, e_X1_ask_57, e_X1_ask_58, e_X1_ask_61, e_X1_ask_64, e_X1_ask_67, e_X1_ask_68, cR_ref, cR_null, cR_rf, c1_int, c1_ref, c1_null, c1_rf, kz_int, kz_ref, kz_null, kz_rf, kz_U, kz_long, nB_null, nB_ref, rf_none, rf_some, bV_ret, bV_thr, bA_ret, bA_thr, bX_ret, bX_thr, len4_0, len4_1, len4_2, len4_3, len4_4, true_and, and_true, and_self, if_true, if_false, Option.bind_some, nR_b1, nR_b0, nR_bI, nI_1z, nI_0z, bI_z, if_nn, gf, pf, clN, aln, gaI, gaL, gaR, saI, saR, isI, ctB, isB, gB, hput_n, hput_e, hput_21, hput_22, hnew_n, hnew_e, hnew_21, hnew_22, Option.bind_some, Option.map_some, List.lookup_cons, List.lookup_nil, beq_self_eq_true, List.getElem?_cons_zero, List.getElem?_cons_succ, List.set_cons_zero, List.set_cons_succ, List.length_cons, List.length_nil, Nat.reduceAdd, Nat.reduceLT, Nat.reduceLeDiff, Nat.reduceBEq, Nat.reduceEqDiff, okv_int, okv_oref, okv_onull, okv_orf, okv_aref, okv_b0, okv_b1, okv_z0, okv_bI, ckI_nI, lt31, leT, reduceCtorEq, List.mem_cons, List.mem_singleton, List.not_mem_nil, or_true, true_or, or_false, false_or, toR_ref, toR_null, ↓reduceIte, c7, b1, nca, nca.symm]
      generalize hput (hnew h7 (arR "TripleStore$Row" l.length (fun _ => none)) l.length) c (acE (.ref tr) (.int (nI L.length)) v2 v3 v4 v5 v6 v7 v8 sb (-1) h7.2.1 (nI 0) (nI y.2.1.length)) = h8 at n8 c8 r8 z8 st2
      have fs7 : FS h7 [c] := FS.ob c7 (by decide)
      have hz7 : Ω.sz ≤ h7.2.1 := Nat.le_trans hz6 f6.2.2.1
      have e0 : rwsK y.1 y.2.2.2.1.2 y.2.2.2.1.1 y.2.1 l 0 = [] := by
        unfold rwsK
        rw [List.take_zero]
        rfl
      obtain ⟨h9, f9, x1, x2, x3, x4, x5⟩ := c_al (Ω := Ω) (d := d) (hB := h8) (c := c) (ra := h7.2.1) (sb := sb) (qa := qa) (ar := ar) (fo := a) (fb := b) (l1 := tx) (v0 := .ref tr) (v1 := .int (nI L.length)) (v2 := v2) (v3 := v3) (v4 := v4) (v5 := v5) (v6 := v6) (v7 := v7) (v8 := v8) (fa := -1) (co := nI y.2.1.length) (di := y.1) (fl := y.2.2.2.1.2) (o := y.2.2.2.1.1) (cols := y.2.1) (l := l) (fI := fI) (ff := ff)
        (n8.ob (f6.ob w1' (by decide) (by simp)) (by decide) (by have := ne_cl c5 w1 (by decide); simp; omega)) (n8.ar (f6.ar w2' (by simp)) (by have := ne_ca c5 w2; simp; omega)) w3 q2 q1 q3 (n8.ob b1 (by decide) (by have := ne_cl c7 b1 (by decide); simp; omega)) (n8.ar b2 (by have := ne_ca c7 b2; simp; omega)) b3 (fun i s q => by
          obtain ⟨t, t1, t2⟩ := b4 i s q
          exact ⟨t, t1, t2.fs n8 fs7⟩) c8 r8 (by omega) hzc hz7 l.length 0 h8 (fun _ => none) (by omega) (Nx.rfl' n8.2.1) (by rw [e0]; exact c8) r8 (by rw [e0]; exact ⟨Nat.zero_le _, fun i r q => by simp at q⟩)
      have hlR := rwsK_len (di := y.1) (fl := y.2.2.2.1.2) (o := y.2.2.2.1.1) (cols := y.2.1) (l := l) l.length (Nat.le_refl _)
      generalize hR : rwsK y.1 y.2.2.2.1.2 y.2.2.2.1.1 y.2.1 l l.length = R at x3 x5 hlR
      have hlc9 := x2.2.1.lt x3
      have hq9 : h9.1 qa = some (.inr (8, [.int (bI y.1), .ref ar, .int (nI y.2.1.length), .ref ga, .int (ordV y.2.2.2.1.1), .int (bI y.2.2.2.1.2), .int (nI (y.2.2.2.2.getD 150))])) := x2.ob (n8.ob (f6.ob w1' (by decide) (by simp)) (by decide) (by have := ne_cl c5 w1 (by decide); simp; omega)) (by decide) (by
        have := ne_cl c5 w1 (by decide)
        have := hFe6.lt w1'
        have := f6.2.2.1
        simp; omega)
      have n10 : Nx [c] 0 0 h9 (hput h9 c (acE (.ref tr) (.int (nI L.length)) v2 v3 v4 v5 v6 v7 v8 sb (-1) h7.2.1 (nI (min R.length (y.2.2.2.2.getD 150))) (nI y.2.1.length))) := (Nx.rfl' x2.2.1).put (.inl (by simp)) hlc9
      have em : (R.take (y.2.2.2.2.getD 150)).length = min R.length (y.2.2.2.2.getD 150) := by rw [List.length_take, Nat.min_comm]
      have fs9 : FS h9 [c] := FS.ob x3 (by decide)
      have ls6 := hFe6.lt (show h6.1 sb = _ from B6.choose_spec.choose_spec.1)
      have lb6 := hFe6.lt (show h6.1 bb = _ from B6.choose_spec.choose_spec.2.1)
      have l67 := f6.2.2.1
      refine ⟨h7.2.1, f9, _, R.take (y.2.2.2.2.getD 150), rfl, ?_, by rw [em]; exact hput_e, by rw [hput_n (by omega)]; exact x4, RwsF.fs ⟨?_, fun i r q => ?_⟩ n10 fs9, b3, hz7, (((B6.nx f6 (by simp) (by simp)).nx n8 (by simp; omega) (by simp; omega)).nx x2 (by simp; omega) (by simp; omega)).nx n10 (by simp; omega) (by simp; omega), ?_⟩
      · rw [a1 _ e1, bA_ret, st1, f2, bA_ret, st2, x1]
        have ncq := ne_cl x3 hq9 (by decide)
        rw [em]
        simp (disch := first | omega | (simp only [hnew_21, hput_21, hnew_22, hput_22]; omega) | exact isR_ref | exact isR_null | exact isR_rf | exact isR_fmt | assumption | decide) only [e_X1_ask_105, e_X1_ask_106, e_X1_ask_107, e_X1_ask_110, e_X1_ask_111, e_X1_ask_114, e_X1_ask_117, e_X1_ask_120, e_X1_ask_121, e_X1_ask_124, cR_ref, cR_null, cR_rf, c1_int, c1_ref, c1_null, c1_rf, kz_int, kz_ref, kz_null, kz_rf, kz_U, kz_long, nB_null, nB_ref, rf_none, rf_some, bV_ret, bV_thr, bA_ret, bA_thr, bX_ret, bX_thr, len4_0, len4_1, len4_2, len4_3, len4_4, true_and, and_true, and_self, if_true, if_false, Option.bind_some, nR_b1, nR_b0, nR_bI, nI_1z, nI_0z, bI_z, if_nn, gf, pf, clN, aln, gaI, gaL, gaR, saI, saR, isI, ctB, isB, gB, hput_n, hput_e, hput_21, hput_22, hnew_n, hnew_e, hnew_21, hnew_22, Option.bind_some, Option.map_some, List.lookup_cons, List.lookup_nil, beq_self_eq_true, List.getElem?_cons_zero, List.getElem?_cons_succ, List.set_cons_zero, List.set_cons_succ, List.length_cons, List.length_nil, Nat.reduceAdd, Nat.reduceLT, Nat.reduceLeDiff, Nat.reduceBEq, Nat.reduceEqDiff, okv_int, okv_oref, okv_onull, okv_orf, okv_aref, okv_b0, okv_b1, okv_z0, okv_bI, ckI_nI, lt31, leT, reduceCtorEq, List.mem_cons, List.mem_singleton, List.not_mem_nil, or_true, true_or, or_false, false_or, toR_ref, toR_null, ↓reduceIte, x3, hq9, ncq, ncq.symm, j_min]
      · rw [em]
        have := Nat.min_le_left R.length (y.2.2.2.2.getD 150)
        omega
      · rw [List.getElem?_take] at q
        split at q
        · exact x5.2 i r q
        · cases q
      · have x9 : Nx [c, sb, h7.2.1] 12000 150000 h (hput h9 c (acE (.ref tr) (.int (nI L.length)) v2 v3 v4 v5 v6 v7 v8 sb (-1) h7.2.1 (nI (min R.length (y.2.2.2.2.getD 150))) (nI y.2.1.length))) := (((((X6.mono (S' := [c, sb, h7.2.1]) (fun x q => by simp at q ⊢; omega) (Nat.le_refl _) (Nat.le_refl _)).trans (f6.mono (fun _ q => nomatch q) (Nat.le_refl _) (Nat.le_refl _))).trans (n8.mono (fun x q => by simp at q ⊢; omega) (Nat.le_refl _) (Nat.le_refl _))).trans (x2.mono (fun x q => by simp at q ⊢; omega) (Nat.le_refl _) (Nat.le_refl _))).trans (n10.mono (fun x q => by simp at q ⊢; omega) (Nat.le_refl _) (Nat.le_refl _))).mono (fun _ q => q) (by omega) (by omega)
        have l06 := X6.2.2.1
        exact x9.low (fun q hq => by simp at hq ⊢; omega)
    · rw [hl] at hn; cases hn
end AS2
