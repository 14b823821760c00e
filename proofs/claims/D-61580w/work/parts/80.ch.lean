/-! COMPONENT: patterns -/
def TriR (h : AH) (a : Nat) (t : Tri) : Prop := ∃ (g : Nat) (f : Nat → Option Nat) (p q r : Nat), h.1 a = some (.inr (2, [.ref g])) ∧ h.1 g = some (arR "TripleStore$Term" 3 f) ∧ f 0 = some p ∧ f 1 = some q ∧ f 2 = some r ∧ TrmR h p t.1 ∧ TrmR h q t.2.1 ∧ TrmR h r t.2.2
def StoT (h : AH) (c : Nat) (L : List Tri) : Prop := ∃ (tr : Nat) (rest : List Value) (f : Nat → Option Nat), h.1 c = some (.inr (0, .ref tr :: .int (nI L.length) :: rest)) ∧ h.1 tr = some (arR "TripleStore$Triple" 48 f) ∧ L.length ≤ 48 ∧ ∀ i t, L[i]? = some t → ∃ a, f i = some a ∧ TriR h a t
def PatR (h : AH) (a : Nat) (nx : Value) (p : Pat) : Prop := ∃ (g : Nat) (f : Nat → Option Nat) (u v w : Nat), h.1 a = some (.inr (18, [nx, .ref g])) ∧ h.1 g = some (arR "TripleStore$Side" 3 f) ∧ f 0 = some u ∧ f 1 = some v ∧ f 2 = some w ∧ SideR h u p.1 ∧ SideR h v p.2.1 ∧ SideR h w p.2.2
section CH
variable {Ω : Om} {d : Nat} {h h' h0 h1 h2 : AH} {a b : Nat} {s : Sol} {k m k' m' : Nat} {S : List Nat} {A B M l : List Sol} {L : List Tri} {p : Pat}
theorem TriR.fs {t : Tri} (r : TriR h a t) (n : Nx S k m h h') (hS : FS h S) : TriR h' a t := by
  obtain ⟨g, f, p, q, r, h1, h2, h3, h4, h5, h6, h7, h8⟩ := r
  exact ⟨g, f, p, q, r, n.ob h1 (by decide) (hS.na h1 (by decide)), n.ar h2 (hS.nt h2), h3, h4, h5, h6.fs n hS, h7.fs n hS, h8.fs n hS⟩
theorem StoT.nx (r : StoT h a L) (n : Nx [] k m h h') : StoT h' a L := by
  obtain ⟨tr, rest, f, h1, h2, h3, h4⟩ := r
  refine ⟨tr, rest, f, n.ob h1 (by decide) (by simp), n.ar h2 (by simp), h3, fun i t q => ?_⟩
  obtain ⟨u, u1, u2⟩ := h4 i t q
  exact ⟨u, u1, u2.fs n FS.nil⟩
theorem PatR.gs {nx : Value} (r : PatR h a nx p) (n : Nx S k m h h') (hS : GS h S) : PatR h' a nx p := by
  obtain ⟨g, f, u, v, w, h1, h2, h3, h4, h5, h6, h7, h8⟩ := r
  exact ⟨g, f, u, v, w, n.ob h1 (by decide) (hS.na h1 (by decide)), n.ar h2 (hS.ns h2), h3, h4, h5, h6.gs n hS, h7.gs n hS, h8.gs n hS⟩
def SolG (h : AH) (c g : Nat) (s : Sol) : Prop := ∃ f, SolA h c g f ∧ SolF h f s 6
theorem SolG.r {c g : Nat} (q : SolG h c g s) : SolR h c s := by
  obtain ⟨f, ⟨h1, h2⟩, h3⟩ := q
  exact ⟨g, f, h1, h2, h3⟩
def trmK (t : Tri) (k : Nat) : Int64 := if k = 0 then t.1 else if k = 1 then t.2.1 else t.2.2
set_option maxHeartbeats 2000000 in
theorem c_mst (hsz : Ω.sz ≤ h0.2.1) {pa pg c g k ta tg sa x' : Nat} {nx : Value} {fp ft : Nat → Option Nat} {sd : Sd} {x : Int64} {l4 : Value} (hg : h0.2.1 ≤ g) (hk : k < 3) (hp1 : h.1 pa = some (.inr (18, [nx, .ref pg]))) (hp2 : h.1 pg = some (arR "TripleStore$Side" 3 fp)) (hp3 : fp k = some sa) (hp4 : SideR h sa sd) (ht1 : h.1 ta = some (.inr (2, [.ref tg]))) (ht2 : h.1 tg = some (arR "TripleStore$Term" 3 ft)) (ht3 : ft k = some x') (ht4 : TrmR h x' x) (hS : SolG h c g s) (n : Nx [] 2 7 h0 h) : (stM s sd x = none ∧ gO PG Ω (d + 4) 152 10 [.ref pa, .ref ta, .ref c, .int (nI k), l4] [] h = some (.returned (some .null), h)) ∨ ∃ s' h' l4', stM s sd x = some s' ∧ gO PG Ω (d + 4) 152 10 [.ref pa, .ref ta, .ref c, .int (nI k), l4] [] h = gO PG Ω (d + 4) 152 10 [.ref pa, .ref ta, .ref c, .int (nI (k + 1)), l4'] [] h' ∧ SolG h' c g s' ∧ Nx [] 2 7 h0 h' ∧ Nx [g] 0 0 h h' := by
  have hS0 := hS
  have hsr := hS.r
  obtain ⟨f, ⟨A1, A2⟩, hF⟩ := hS
  have gl := n.2.1.lt A2
  have hcg : c ≠ g := fun q => by rw [q, A2] at A1; cases A1
  have hzg : Ω.sz ≤ g := by omega
  obtain ⟨ci, fs, c1', c2⟩ := ht4.cl
  have hmem : (ci = 3 ∨ ci = 4) = True := eq_true c2
  have ein := c_in (Ω := Ω) (d := d + 3) hp4 hsr
  have nput : ∀ f', Nx [g] 0 0 h (hput h g (arR "TripleStore$Term" 6 f')) := fun o => (Nx.rfl' n.2.1).put (.inl (by simp)) gl
  have trg : ∀ (h' : AH) (u : Nat) (y : Int64), Nx [g] 0 0 h h' → TrmR h u y → TrmR h' u y := by
    intro h' u y n q3
    rcases q3 with ⟨nn, n1, n2, n3⟩ | ⟨ss, ww, w1, w2, w3, w4⟩
    · exact .inl ⟨nn, n1, n2, n.ob n3 (by decide) (fun q => by rw [List.mem_singleton.mp q, A2] at n3; cases n3)⟩
    · exact .inr ⟨ss, ww, w1, w2, n.ob w3 (by decide) (fun q => by rw [List.mem_singleton.mp q, A2] at w3; cases w3), w4.nx n (fun b hb => by rw [List.mem_singleton.mp hb]; exact .inr (.inl ⟨_, _, _, by simp, A2⟩))⟩
  cases sd with
  | inr e =>
    obtain ⟨u, w, t1, t2⟩ := hp4
    rcases ein with ⟨q1, _⟩ | ⟨u', y, q1, q2, q3⟩
    · cases q1
    · have hye : y = e := by have : some e = some y := q1; injection this with z; exact z.symm
      subst hye
      by_cases hyx : y = x
      · refine .inr ⟨s, h, .ref u', by simp [stM, hyx], ?_, hS0, n, (Nx.rfl' n.2.1)⟩
        rw [e_X22_match_10]
        simp (disch := first | omega | (simp only [hnew_21, hput_21, hnew_22, hput_22]; omega) | exact isR_ref | exact isR_null | exact isR_rf | exact isR_fmt | assumption | decide) only [e_X22_match_11, e_X22_match_12, e_X22_match_15, e_X22_match_16, e_X22_match_19, e_X22_match_20, e_X22_match_21, e_X22_match_22, e_X22_match_25, e_X22_match_27, e_X22_match_29, e_X22_match_32, e_X22_match_34, e_X22_match_35, e_X22_match_38, e_X22_match_39, cR_ref, cR_null, cR_rf, c1_int, c1_ref, c1_null, c1_rf, kz_int, kz_ref, kz_null, kz_rf, kz_U, kz_long, nB_null, nB_ref, rf_none, rf_some, bV_ret, bV_thr, bA_ret, bA_thr, bX_ret, bX_thr, len4_0, len4_1, len4_2, len4_3, len4_4, true_and, and_true, and_self, if_true, if_false, Option.bind_some, nR_b1, nR_b0, nR_bI, nI_1z, nI_0z, bI_z, if_nn, gf, pf, clN, aln, gaI, gaL, gaR, saI, saR, isI, ctB, isB, gB, hput_n, hput_e, hput_21, hput_22, hnew_n, hnew_e, hnew_21, hnew_22, Option.bind_some, Option.map_some, List.lookup_cons, List.lookup_nil, beq_self_eq_true, List.getElem?_cons_zero, List.getElem?_cons_succ, List.set_cons_zero, List.set_cons_succ, List.length_cons, List.length_nil, Nat.reduceAdd, Nat.reduceLT, Nat.reduceLeDiff, Nat.reduceBEq, Nat.reduceEqDiff, okv_int, okv_oref, okv_onull, okv_orf, okv_aref, okv_b0, okv_b1, okv_z0, okv_bI, ckI_nI, lt31, leT, reduceCtorEq, List.mem_cons, List.mem_singleton, List.not_mem_nil, or_true, true_or, or_false, false_or, toR_ref, toR_null, ↓reduceIte, nI_add, pk_mul, hp1, hp2, hp3, ht1, ht2, ht3, t1, q3, ↓nI_lt_if, hk]
        simp (disch := first | omega | (simp only [hnew_21, hput_21, hnew_22, hput_22]; omega) | exact isR_ref | exact isR_null | exact isR_rf | exact isR_fmt | assumption | decide) only [e_X22_match_40, e_X22_match_43, e_X22_match_46, e_X22_match_47, e_X22_match_48, e_X22_match_49, e_X22_match_52, e_X22_match_53, e_X22_match_54, e_X22_match_57, e_X22_match_60, e_X22_match_61, e_X22_match_64, e_X22_match_65, e_X22_match_68, e_X22_match_69, e_X22_match_70, e_X22_match_73, e_X22_match_74, e_X22_match_77, e_X22_match_78, e_X22_match_79, e_X22_match_80, e_X22_match_83, cR_ref, cR_null, cR_rf, c1_int, c1_ref, c1_null, c1_rf, kz_int, kz_ref, kz_null, kz_rf, kz_U, kz_long, nB_null, nB_ref, rf_none, rf_some, bV_ret, bV_thr, bA_ret, bA_thr, bX_ret, bX_thr, len4_0, len4_1, len4_2, len4_3, len4_4, true_and, and_true, and_self, if_true, if_false, Option.bind_some, nR_b1, nR_b0, nR_bI, nI_1z, nI_0z, bI_z, if_nn, ↓c_same (Ω := Ω) (d := d + 1) q2 ht4, gf, pf, clN, aln, gaI, gaL, gaR, saI, saR, isI, ctB, isB, gB, hput_n, hput_e, hput_21, hput_22, hnew_n, hnew_e, hnew_21, hnew_22, Option.bind_some, Option.map_some, List.lookup_cons, List.lookup_nil, beq_self_eq_true, List.getElem?_cons_zero, List.getElem?_cons_succ, List.set_cons_zero, List.set_cons_succ, List.length_cons, List.length_nil, Nat.reduceAdd, Nat.reduceLT, Nat.reduceLeDiff, Nat.reduceBEq, Nat.reduceEqDiff, okv_int, okv_oref, okv_onull, okv_orf, okv_aref, okv_b0, okv_b1, okv_z0, okv_bI, ckI_nI, lt31, leT, reduceCtorEq, List.mem_cons, List.mem_singleton, List.not_mem_nil, or_true, true_or, or_false, false_or, toR_ref, toR_null, ↓reduceIte, nI_add, pk_mul, hp1, hp2, hp3, ht1, ht2, ht3, t1, q3, ↓nI_lt_if, hk, hyx, decide_true]
      · refine .inl ⟨by simp [stM, hyx], ?_⟩
        rw [e_X22_match_10]
        simp (disch := first | omega | (simp only [hnew_21, hput_21, hnew_22, hput_22]; omega) | exact isR_ref | exact isR_null | exact isR_rf | exact isR_fmt | assumption | decide) only [e_X22_match_11, e_X22_match_12, e_X22_match_15, e_X22_match_16, e_X22_match_19, e_X22_match_20, e_X22_match_21, e_X22_match_22, e_X22_match_25, e_X22_match_27, e_X22_match_29, e_X22_match_32, e_X22_match_34, e_X22_match_35, e_X22_match_38, e_X22_match_39, cR_ref, cR_null, cR_rf, c1_int, c1_ref, c1_null, c1_rf, kz_int, kz_ref, kz_null, kz_rf, kz_U, kz_long, nB_null, nB_ref, rf_none, rf_some, bV_ret, bV_thr, bA_ret, bA_thr, bX_ret, bX_thr, len4_0, len4_1, len4_2, len4_3, len4_4, true_and, and_true, and_self, if_true, if_false, Option.bind_some, nR_b1, nR_b0, nR_bI, nI_1z, nI_0z, bI_z, if_nn, gf, pf, clN, aln, gaI, gaL, gaR, saI, saR, isI, ctB, isB, gB, hput_n, hput_e, hput_21, hput_22, hnew_n, hnew_e, hnew_21, hnew_22, Option.bind_some, Option.map_some, List.lookup_cons, List.lookup_nil, beq_self_eq_true, List.getElem?_cons_zero, List.getElem?_cons_succ, List.set_cons_zero, List.set_cons_succ, List.length_cons, List.length_nil, Nat.reduceAdd, Nat.reduceLT, Nat.reduceLeDiff, Nat.reduceBEq, Nat.reduceEqDiff, okv_int, okv_oref, okv_onull, okv_orf, okv_aref, okv_b0, okv_b1, okv_z0, okv_bI, ckI_nI, lt31, leT, reduceCtorEq, List.mem_cons, List.mem_singleton, List.not_mem_nil, or_true, true_or, or_false, false_or, toR_ref, toR_null, ↓reduceIte, nI_add, pk_mul, hp1, hp2, hp3, ht1, ht2, ht3, t1, q3, ↓nI_lt_if, hk]
        simp (disch := first | omega | (simp only [hnew_21, hput_21, hnew_22, hput_22]; omega) | exact isR_ref | exact isR_null | exact isR_rf | exact isR_fmt | assumption | decide) only [e_X22_match_40, e_X22_match_43, e_X22_match_46, e_X22_match_47, e_X22_match_48, e_X22_match_49, e_X22_match_52, e_X22_match_53, e_X22_match_54, e_X22_match_57, e_X22_match_60, e_X22_match_61, e_X22_match_64, e_X22_match_65, e_X22_match_68, e_X22_match_69, e_X22_match_70, e_X22_match_73, e_X22_match_74, e_X22_match_77, e_X22_match_78, e_X22_match_79, e_X22_match_80, e_X22_match_83, cR_ref, cR_null, cR_rf, c1_int, c1_ref, c1_null, c1_rf, kz_int, kz_ref, kz_null, kz_rf, kz_U, kz_long, nB_null, nB_ref, rf_none, rf_some, bV_ret, bV_thr, bA_ret, bA_thr, bX_ret, bX_thr, len4_0, len4_1, len4_2, len4_3, len4_4, true_and, and_true, and_self, if_true, if_false, Option.bind_some, nR_b1, nR_b0, nR_bI, nI_1z, nI_0z, bI_z, if_nn, ↓c_same (Ω := Ω) (d := d + 1) q2 ht4, gf, pf, clN, aln, gaI, gaL, gaR, saI, saR, isI, ctB, isB, gB, hput_n, hput_e, hput_21, hput_22, hnew_n, hnew_e, hnew_21, hnew_22, Option.bind_some, Option.map_some, List.lookup_cons, List.lookup_nil, beq_self_eq_true, List.getElem?_cons_zero, List.getElem?_cons_succ, List.set_cons_zero, List.set_cons_succ, List.length_cons, List.length_nil, Nat.reduceAdd, Nat.reduceLT, Nat.reduceLeDiff, Nat.reduceBEq, Nat.reduceEqDiff, okv_int, okv_oref, okv_onull, okv_orf, okv_aref, okv_b0, okv_b1, okv_z0, okv_bI, ckI_nI, lt31, leT, reduceCtorEq, List.mem_cons, List.mem_singleton, List.not_mem_nil, or_true, true_or, or_false, false_or, toR_ref, toR_null, ↓reduceIte, nI_add, pk_mul, hp1, hp2, hp3, ht1, ht2, ht3, t1, q3, ↓nI_lt_if, hk, hyx, decide_false]
  | inl v =>
    obtain ⟨hv, t1⟩ := hp4
    have newF : ∀ s' : Sol, (∀ w, w ≠ v → s' w = s w) → s' v = some x → SolG (hput h g (arR "TripleStore$Term" 6 (va_up f v (some x')))) c g s' := fun s' h1 h2 => ⟨va_up f v (some x'), ⟨by rw [hput_n hcg]; exact A1, hput_e⟩, fun w hw => by
      unfold va_up
      by_cases e : w = v
      · subst e
        rw [if_pos rfl]
        exact .inr ⟨x', x, rfl, h2, trg _ _ _ (nput _) ht4⟩
      · rw [if_neg e, h1 w e]
        rcases hF w hw with q | ⟨u, y, q1, q2, q3⟩
        · exact .inl q
        · exact .inr ⟨u, y, q1, q2, trg _ _ _ (nput _) q3⟩⟩
    have nn : Nx [] 2 7 h0 (hput h g (arR "TripleStore$Term" 6 (va_up f v (some x')))) := n.put (.inr hg) gl
    rcases ein with ⟨q1, q3⟩ | ⟨u', y, q1, q2, q3⟩
    · have hsv : s v = none := q1
      refine .inr ⟨updS s v x, _, .null, by simp [stM, hsv], ?_, newF _ (fun w e => by simp [updS, e]) (by simp [updS]), nn, nput _⟩
      rw [e_X22_match_10]
      simp (disch := first | omega | (simp only [hnew_21, hput_21, hnew_22, hput_22]; omega) | exact isR_ref | exact isR_null | exact isR_rf | exact isR_fmt | assumption | decide) only [e_X22_match_11, e_X22_match_12, e_X22_match_15, e_X22_match_16, e_X22_match_19, e_X22_match_20, e_X22_match_21, e_X22_match_22, e_X22_match_25, e_X22_match_27, e_X22_match_29, e_X22_match_32, e_X22_match_34, e_X22_match_35, e_X22_match_38, e_X22_match_39, e_X22_match_40, e_X22_match_43, e_X22_match_46, e_X22_match_47, e_X22_match_48, e_X22_match_49, e_X22_match_52, e_X22_match_53, e_X22_match_54, e_X22_match_57, e_X22_match_60, e_X22_match_61, e_X22_match_64, e_X22_match_65, e_X22_match_68, e_X22_match_69, e_X22_match_70, e_X22_match_73, e_X22_match_74, e_X22_match_77, e_X22_match_78, e_X22_match_79, e_X22_match_80, e_X22_match_83, cR_ref, cR_null, cR_rf, c1_int, c1_ref, c1_null, c1_rf, kz_int, kz_ref, kz_null, kz_rf, kz_U, kz_long, nB_null, nB_ref, rf_none, rf_some, bV_ret, bV_thr, bA_ret, bA_thr, bX_ret, bX_thr, len4_0, len4_1, len4_2, len4_3, len4_4, true_and, and_true, and_self, if_true, if_false, Option.bind_some, nR_b1, nR_b0, nR_bI, nI_1z, nI_0z, bI_z, if_nn, gf, pf, clN, aln, gaI, gaL, gaR, saI, saR, isI, ctB, isB, gB, hput_n, hput_e, hput_21, hput_22, hnew_n, hnew_e, hnew_21, hnew_22, Option.bind_some, Option.map_some, List.lookup_cons, List.lookup_nil, beq_self_eq_true, List.getElem?_cons_zero, List.getElem?_cons_succ, List.set_cons_zero, List.set_cons_succ, List.length_cons, List.length_nil, Nat.reduceAdd, Nat.reduceLT, Nat.reduceLeDiff, Nat.reduceBEq, Nat.reduceEqDiff, okv_int, okv_oref, okv_onull, okv_orf, okv_aref, okv_b0, okv_b1, okv_z0, okv_bI, ckI_nI, lt31, leT, reduceCtorEq, List.mem_cons, List.mem_singleton, List.not_mem_nil, or_true, true_or, or_false, false_or, toR_ref, toR_null, ↓reduceIte, nI_add, pk_mul, hp1, hp2, hp3, ht1, ht2, ht3, t1, q3, ↓nI_lt_if, hk, A1, A2, c1', hmem]
    · have hsv : s v = some y := q1
      by_cases hyx : y = x
      · refine .inr ⟨s, _, .ref u', by simp [stM, hsv, hyx], ?_, newF _ (fun w _ => rfl) (by rw [hsv, hyx]), nn, nput _⟩
        rw [e_X22_match_10]
        simp (disch := first | omega | (simp only [hnew_21, hput_21, hnew_22, hput_22]; omega) | exact isR_ref | exact isR_null | exact isR_rf | exact isR_fmt | assumption | decide) only [e_X22_match_11, e_X22_match_12, e_X22_match_15, e_X22_match_16, e_X22_match_19, e_X22_match_20, e_X22_match_21, e_X22_match_22, e_X22_match_25, e_X22_match_27, e_X22_match_29, e_X22_match_32, e_X22_match_34, e_X22_match_35, e_X22_match_38, e_X22_match_39, cR_ref, cR_null, cR_rf, c1_int, c1_ref, c1_null, c1_rf, kz_int, kz_ref, kz_null, kz_rf, kz_U, kz_long, nB_null, nB_ref, rf_none, rf_some, bV_ret, bV_thr, bA_ret, bA_thr, bX_ret, bX_thr, len4_0, len4_1, len4_2, len4_3, len4_4, true_and, and_true, and_self, if_true, if_false, Option.bind_some, nR_b1, nR_b0, nR_bI, nI_1z, nI_0z, bI_z, if_nn, gf, pf, clN, aln, gaI, gaL, gaR, saI, saR, isI, ctB, isB, gB, hput_n, hput_e, hput_21, hput_22, hnew_n, hnew_e, hnew_21, hnew_22, Option.bind_some, Option.map_some, List.lookup_cons, List.lookup_nil, beq_self_eq_true, List.getElem?_cons_zero, List.getElem?_cons_succ, List.set_cons_zero, List.set_cons_succ, List.length_cons, List.length_nil, Nat.reduceAdd, Nat.reduceLT, Nat.reduceLeDiff, Nat.reduceBEq, Nat.reduceEqDiff, okv_int, okv_oref, okv_onull, okv_orf, okv_aref, okv_b0, okv_b1, okv_z0, okv_bI, ckI_nI, lt31, leT, reduceCtorEq, List.mem_cons, List.mem_singleton, List.not_mem_nil, or_true, true_or, or_false, false_or, toR_ref, toR_null, ↓reduceIte, nI_add, pk_mul, hp1, hp2, hp3, ht1, ht2, ht3, t1, q3, ↓nI_lt_if, hk]
        simp (disch := first | omega | (simp only [hnew_21, hput_21, hnew_22, hput_22]; omega) | exact isR_ref | exact isR_null | exact isR_rf | exact isR_fmt | assumption | decide) only [e_X22_match_40, e_X22_match_43, e_X22_match_46, e_X22_match_47, e_X22_match_48, e_X22_match_49, e_X22_match_52, e_X22_match_53, e_X22_match_54, e_X22_match_57, e_X22_match_60, e_X22_match_61, e_X22_match_64, e_X22_match_65, e_X22_match_68, e_X22_match_69, e_X22_match_70, e_X22_match_73, e_X22_match_74, e_X22_match_77, e_X22_match_78, e_X22_match_79, e_X22_match_80, e_X22_match_83, cR_ref, cR_null, cR_rf, c1_int, c1_ref, c1_null, c1_rf, kz_int, kz_ref, kz_null, kz_rf, kz_U, kz_long, nB_null, nB_ref, rf_none, rf_some, bV_ret, bV_thr, bA_ret, bA_thr, bX_ret, bX_thr, len4_0, len4_1, len4_2, len4_3, len4_4, true_and, and_true, and_self, if_true, if_false, Option.bind_some, nR_b1, nR_b0, nR_bI, nI_1z, nI_0z, bI_z, if_nn, ↓c_same (Ω := Ω) (d := d + 1) q2 ht4, gf, pf, clN, aln, gaI, gaL, gaR, saI, saR, isI, ctB, isB, gB, hput_n, hput_e, hput_21, hput_22, hnew_n, hnew_e, hnew_21, hnew_22, Option.bind_some, Option.map_some, List.lookup_cons, List.lookup_nil, beq_self_eq_true, List.getElem?_cons_zero, List.getElem?_cons_succ, List.set_cons_zero, List.set_cons_succ, List.length_cons, List.length_nil, Nat.reduceAdd, Nat.reduceLT, Nat.reduceLeDiff, Nat.reduceBEq, Nat.reduceEqDiff, okv_int, okv_oref, okv_onull, okv_orf, okv_aref, okv_b0, okv_b1, okv_z0, okv_bI, ckI_nI, lt31, leT, reduceCtorEq, List.mem_cons, List.mem_singleton, List.not_mem_nil, or_true, true_or, or_false, false_or, toR_ref, toR_null, ↓reduceIte, nI_add, pk_mul, hp1, hp2, hp3, ht1, ht2, ht3, t1, q3, ↓nI_lt_if, hk, hyx, decide_true, A1, A2, c1', hmem]
      · refine .inl ⟨by simp [stM, hsv, hyx], ?_⟩
        rw [e_X22_match_10]
        simp (disch := first | omega | (simp only [hnew_21, hput_21, hnew_22, hput_22]; omega) | exact isR_ref | exact isR_null | exact isR_rf | exact isR_fmt | assumption | decide) only [e_X22_match_11, e_X22_match_12, e_X22_match_15, e_X22_match_16, e_X22_match_19, e_X22_match_20, e_X22_match_21, e_X22_match_22, e_X22_match_25, e_X22_match_27, e_X22_match_29, e_X22_match_32, e_X22_match_34, e_X22_match_35, e_X22_match_38, e_X22_match_39, cR_ref, cR_null, cR_rf, c1_int, c1_ref, c1_null, c1_rf, kz_int, kz_ref, kz_null, kz_rf, kz_U, kz_long, nB_null, nB_ref, rf_none, rf_some, bV_ret, bV_thr, bA_ret, bA_thr, bX_ret, bX_thr, len4_0, len4_1, len4_2, len4_3, len4_4, true_and, and_true, and_self, if_true, if_false, Option.bind_some, nR_b1, nR_b0, nR_bI, nI_1z, nI_0z, bI_z, if_nn, gf, pf, clN, aln, gaI, gaL, gaR, saI, saR, isI, ctB, isB, gB, hput_n, hput_e, hput_21, hput_22, hnew_n, hnew_e, hnew_21, hnew_22, Option.bind_some, Option.map_some, List.lookup_cons, List.lookup_nil, beq_self_eq_true, List.getElem?_cons_zero, List.getElem?_cons_succ, List.set_cons_zero, List.set_cons_succ, List.length_cons, List.length_nil, Nat.reduceAdd, Nat.reduceLT, Nat.reduceLeDiff, Nat.reduceBEq, Nat.reduceEqDiff, okv_int, okv_oref, okv_onull, okv_orf, okv_aref, okv_b0, okv_b1, okv_z0, okv_bI, ckI_nI, lt31, leT, reduceCtorEq, List.mem_cons, List.mem_singleton, List.not_mem_nil, or_true, true_or, or_false, false_or, toR_ref, toR_null, ↓reduceIte, nI_add, pk_mul, hp1, hp2, hp3, ht1, ht2, ht3, t1, q3, ↓nI_lt_if, hk]
        simp (disch := first | omega | (simp only [hnew_21, hput_21, hnew_22, hput_22]; omega) | exact isR_ref | exact isR_null | exact isR_rf | exact isR_fmt | assumption | decide) only [e_X22_match_40, e_X22_match_43, e_X22_match_46, e_X22_match_47, e_X22_match_48, e_X22_match_49, e_X22_match_52, e_X22_match_53, e_X22_match_54, e_X22_match_57, e_X22_match_60, e_X22_match_61, e_X22_match_64, e_X22_match_65, e_X22_match_68, e_X22_match_69, e_X22_match_70, e_X22_match_73, e_X22_match_74, e_X22_match_77, e_X22_match_78, e_X22_match_79, e_X22_match_80, e_X22_match_83, cR_ref, cR_null, cR_rf, c1_int, c1_ref, c1_null, c1_rf, kz_int, kz_ref, kz_null, kz_rf, kz_U, kz_long, nB_null, nB_ref, rf_none, rf_some, bV_ret, bV_thr, bA_ret, bA_thr, bX_ret, bX_thr, len4_0, len4_1, len4_2, len4_3, len4_4, true_and, and_true, and_self, if_true, if_false, Option.bind_some, nR_b1, nR_b0, nR_bI, nI_1z, nI_0z, bI_z, if_nn, ↓c_same (Ω := Ω) (d := d + 1) q2 ht4, gf, pf, clN, aln, gaI, gaL, gaR, saI, saR, isI, ctB, isB, gB, hput_n, hput_e, hput_21, hput_22, hnew_n, hnew_e, hnew_21, hnew_22, Option.bind_some, Option.map_some, List.lookup_cons, List.lookup_nil, beq_self_eq_true, List.getElem?_cons_zero, List.getElem?_cons_succ, List.set_cons_zero, List.set_cons_succ, List.length_cons, List.length_nil, Nat.reduceAdd, Nat.reduceLT, Nat.reduceLeDiff, Nat.reduceBEq, Nat.reduceEqDiff, okv_int, okv_oref, okv_onull, okv_orf, okv_aref, okv_b0, okv_b1, okv_z0, okv_bI, ckI_nI, lt31, leT, reduceCtorEq, List.mem_cons, List.mem_singleton, List.not_mem_nil, or_true, true_or, or_false, false_or, toR_ref, toR_null, ↓reduceIte, nI_add, pk_mul, hp1, hp2, hp3, ht1, ht2, ht3, t1, q3, ↓nI_lt_if, hk, hyx, decide_false]
theorem c_match (hsz : Ω.sz ≤ h.2.1) (hFe : Fe h) {pa ta : Nat} {nx : Value} {t : Tri} (hp : PatR h pa nx p) (ht : TriR h ta t) : ∃ h', Nx [] 2 7 h h' ∧ ((matP p t = none ∧ gM PG Ω (d + 5) 152 [.ref pa, .ref ta] h = some (.returned (some .null), h')) ∨ ∃ s, matP p t = some s ∧ gM PG Ω (d + 5) 152 [.ref pa, .ref ta] h = some (.returned (some (.ref h.2.1)), h') ∧ SolR h' h.2.1 s) := by
  have e1 := c_sol0 (Ω := Ω) (d := d + 2) hsz hFe
  have n0 := sol0_nx hFe
  have e2 : gM PG Ω (d + 5) 152 [.ref pa, .ref ta] h = gO PG Ω (d + 4) 152 10 [.ref pa, .ref ta, .ref h.2.1, .int (nI 0), U] [] (hput (hnew (hnew h (.inr (20, [.null])) 1) (arR "TripleStore$Term" 6 (fun _ => none)) 6) h.2.1 (.inr (20, [.ref (h.2.1 + 1)]))) := by
    simp (disch := first | omega | (simp only [hnew_21, hput_21, hnew_22, hput_22]; omega) | exact isR_ref | exact isR_null | exact isR_rf | exact isR_fmt | assumption | decide) only [n_X22_match, e_X22_match_0, e_X22_match_3, e_X22_match_4, e_X22_match_7, e_X22_match_8, e_X22_match_9, cR_ref, cR_null, cR_rf, c1_int, c1_ref, c1_null, c1_rf, kz_int, kz_ref, kz_null, kz_rf, kz_U, kz_long, nB_null, nB_ref, rf_none, rf_some, bV_ret, bV_thr, bA_ret, bA_thr, bX_ret, bX_thr, len4_0, len4_1, len4_2, len4_3, len4_4, true_and, and_true, and_self, if_true, if_false, Option.bind_some, nR_b1, nR_b0, nR_bI, nI_1z, nI_0z, bI_z, if_nn, List.length_cons, List.length_nil, Nat.reduceAdd, Nat.reduceLeDiff, ↓reduceIte, e1]
  have S0 : SolG (hput (hnew (hnew h (.inr (20, [.null])) 1) (arR "TripleStore$Term" 6 (fun _ => none)) 6) h.2.1 (.inr (20, [.ref (h.2.1 + 1)]))) h.2.1 (h.2.1 + 1) empS := ⟨fun _ => none, ⟨hput_e, by rw [hput_n (by omega)]; exact hnew_e⟩, fun v _ => .inl ⟨rfl, rfl⟩⟩
  rw [e2]
  generalize hput (hnew (hnew h (.inr (20, [.null])) 1) (arR "TripleStore$Term" 6 (fun _ => none)) 6) h.2.1 (.inr (20, [.ref (h.2.1 + 1)])) = ha at n0 S0
  have go : ∀ (k : Nat) (hk : k < 3) (hc : AH) (sc : Sol) (l4 : Value), Nx [] 2 7 h hc → SolG hc h.2.1 (h.2.1 + 1) sc → (stM sc (paK p k) (trK t k) = none ∧ gO PG Ω (d + 4) 152 10 [.ref pa, .ref ta, .ref h.2.1, .int (nI k), l4] [] hc = some (.returned (some .null), hc)) ∨ ∃ s' h' l4', stM sc (paK p k) (trK t k) = some s' ∧ gO PG Ω (d + 4) 152 10 [.ref pa, .ref ta, .ref h.2.1, .int (nI k), l4] [] hc = gO PG Ω (d + 4) 152 10 [.ref pa, .ref ta, .ref h.2.1, .int (nI (k + 1)), l4'] [] h' ∧ SolG h' h.2.1 (h.2.1 + 1) s' ∧ Nx [] 2 7 h h' := by
    intro k hk hc sc l4 n S
    obtain ⟨g, f, u, v, w, p1, p2, p3, p4, p5, p6, p7, p8⟩ := hp.gs n GS.nil
    obtain ⟨tg, ft, q1, q2, q3, t1, t2, t3, t4, t5, t6, t7, t8⟩ := ht.fs n FS.nil
    have hk3 : k = 0 ∨ k = 1 ∨ k = 2 := by omega
    rcases hk3 with rfl | rfl | rfl
    · rcases c_mst (Ω := Ω) (d := d) (l4 := l4) hsz (show h.2.1 ≤ h.2.1 + 1 by omega) hk p1 p2 p3 p6 t1 t2 t3 t6 S n with z | ⟨s', h', l4', z1, z2, z3, z4, _⟩
      · exact .inl z
      · exact .inr ⟨s', h', l4', z1, z2, z3, z4⟩
    · rcases c_mst (Ω := Ω) (d := d) (l4 := l4) hsz (show h.2.1 ≤ h.2.1 + 1 by omega) hk p1 p2 p4 p7 t1 t2 t4 t7 S n with z | ⟨s', h', l4', z1, z2, z3, z4, _⟩
      · exact .inl z
      · exact .inr ⟨s', h', l4', z1, z2, z3, z4⟩
    · rcases c_mst (Ω := Ω) (d := d) (l4 := l4) hsz (show h.2.1 ≤ h.2.1 + 1 by omega) hk p1 p2 p5 p8 t1 t2 t5 t8 S n with z | ⟨s', h', l4', z1, z2, z3, z4, _⟩
      · exact .inl z
      · exact .inr ⟨s', h', l4', z1, z2, z3, z4⟩
  have em : matP p t = ((stM empS (paK p 0) (trK t 0)).bind (fun s => stM s (paK p 1) (trK t 1))).bind (fun s => stM s (paK p 2) (trK t 2)) := rfl
  rw [em]
  rcases go 0 (by omega) ha empS U n0 S0 with ⟨z1, z2⟩ | ⟨s1, h1, l1, z1, z2, z3, z4⟩
  · exact ⟨ha, n0, .inl ⟨by rw [z1]; rfl, z2⟩⟩
  · rw [z1, z2, Option.bind_some]
    rcases go 1 (by omega) h1 s1 l1 z4 z3 with ⟨y1, y2⟩ | ⟨s2, h2, l2, y1, y2, y3, y4⟩
    · exact ⟨h1, z4, .inl ⟨by rw [y1]; rfl, y2⟩⟩
    · rw [y1, y2, Option.bind_some]
      rcases go 2 (by omega) h2 s2 l2 y4 y3 with ⟨x1, x2⟩ | ⟨s3, h3, l3, x1, x2, x3, x4⟩
      · exact ⟨h2, y4, .inl ⟨x1, x2⟩⟩
      · refine ⟨h3, x4, .inr ⟨s3, x1, ?_, x3.r⟩⟩
        rw [x2, e_X22_match_10]
        simp (disch := first | omega | (simp only [hnew_21, hput_21, hnew_22, hput_22]; omega) | exact isR_ref | exact isR_null | exact isR_rf | exact isR_fmt | assumption | decide) only [e_X22_match_11, e_X22_match_12, e_X22_match_86, e_X22_match_87, cR_ref, cR_null, cR_rf, c1_int, c1_ref, c1_null, c1_rf, kz_int, kz_ref, kz_null, kz_rf, kz_U, kz_long, nB_null, nB_ref, rf_none, rf_some, bV_ret, bV_thr, bA_ret, bA_thr, bX_ret, bX_thr, len4_0, len4_1, len4_2, len4_3, len4_4, true_and, and_true, and_self, if_true, if_false, Option.bind_some, nR_b1, nR_b0, nR_bI, nI_1z, nI_0z, bI_z, if_nn, ↓nI_lt_if, Nat.lt_irrefl]
set_option maxHeartbeats 1000000 in
theorem c_pat1 (hsz : Ω.sz ≤ h0.2.1) {pa so c fa fb : Nat} {nx : Value} (ha : h0.2.1 ≤ fa) (hb : h0.2.1 ≤ fb) (hp : PatR h0 pa nx p) (hL : StoT h0 c L) : ∀ (m i : Nat) (h : AH) (M : List Sol) (l5 : Value), i + m = L.length → M.length ≤ i → FndA h fa fb M → Nx [] (2 + 2 * i) (152 + 7 * i) h0 h → ∃ h' l5', gO PG Ω (d + 5) 151 11 [.ref pa, .ref so, .ref c, .ref fa, .int (nI i), l5] [] h = gO PG Ω (d + 5) 151 50 [.ref pa, .ref so, .ref c, .ref fa, .int (nI L.length), l5'] [] h' ∧ FndA h' fa fb (M ++ patL p (L.drop i)) ∧ Nx [] (2 + 2 * L.length) (152 + 7 * L.length) h0 h' := by
  intro m
  induction m with
  | zero =>
    intro i h M l5 hi hM F n
    have : i = L.length := by omega
    subst this
    obtain ⟨tr, rest, f, s1, s2, s3, s4⟩ := hL.nx n
    refine ⟨h, l5, ?_, ?_, n⟩
    · rw [e_X22_apply_11]
      simp (disch := first | omega | (simp only [hnew_21, hput_21, hnew_22, hput_22]; omega) | exact isR_ref | exact isR_null | exact isR_rf | exact isR_fmt | assumption | decide) only [e_X22_apply_13, e_X22_apply_14, e_X22_apply_17, e_X22_apply_20, e_X22_apply_21, e_X22_apply_22, e_X22_apply_25, e_X22_apply_27, e_X22_apply_28, e_X22_apply_31, e_X22_apply_33, e_X22_apply_35, e_X22_apply_38, e_X22_apply_39, e_X22_apply_41, e_X22_apply_44, e_X22_apply_47, cR_ref, cR_null, cR_rf, c1_int, c1_ref, c1_null, c1_rf, kz_int, kz_ref, kz_null, kz_rf, kz_U, kz_long, nB_null, nB_ref, rf_none, rf_some, bV_ret, bV_thr, bA_ret, bA_thr, bX_ret, bX_thr, len4_0, len4_1, len4_2, len4_3, len4_4, true_and, and_true, and_self, if_true, if_false, Option.bind_some, nR_b1, nR_b0, nR_bI, nI_1z, nI_0z, bI_z, if_nn, gf, pf, clN, aln, gaI, gaL, gaR, saI, saR, isI, ctB, isB, gB, hput_n, hput_e, hput_21, hput_22, hnew_n, hnew_e, hnew_21, hnew_22, Option.bind_some, Option.map_some, List.lookup_cons, List.lookup_nil, beq_self_eq_true, List.getElem?_cons_zero, List.getElem?_cons_succ, List.set_cons_zero, List.set_cons_succ, List.length_cons, List.length_nil, Nat.reduceAdd, Nat.reduceLT, Nat.reduceLeDiff, Nat.reduceBEq, Nat.reduceEqDiff, okv_int, okv_oref, okv_onull, okv_orf, okv_aref, okv_b0, okv_b1, okv_z0, okv_bI, ckI_nI, lt31, leT, reduceCtorEq, List.mem_cons, List.mem_singleton, List.not_mem_nil, or_true, true_or, or_false, false_or, toR_ref, toR_null, ↓reduceIte, s1, ↓nI_lt_if, Nat.lt_irrefl]
    · rw [List.drop_length]
      unfold patL
      rw [List.filterMap_nil, List.append_nil]; exact F
  | succ m ih =>
    intro i h M l5 hi hM F n
    have hil : i < L.length := by omega
    have hg : L[i]? = some L[i] := List.getElem?_eq_getElem hil
    have hdr : L.drop i = L[i] :: L.drop (i + 1) := List.drop_eq_getElem_cons hil
    generalize L[i] = t at hg hdr
    obtain ⟨tr, rest, f, s1, s2, s3, s4⟩ := hL.nx n
    obtain ⟨ta, u1, u2⟩ := s4 i t hg
    have hp' := hp.gs n GS.nil
    have hp'' := hp'
    obtain ⟨pg, pff, _, _, _, p1, _⟩ := hp''
    have hszh : Ω.sz ≤ h.2.1 := by have := n.2.2.1; omega
    obtain ⟨h1, n1, hm⟩ := c_match (Ω := Ω) (d := d) hszh n.2.1 hp' u2
    rw [hdr]
    unfold patL
    rw [List.filterMap_cons]
    have F1 := F.nx n1
    obtain ⟨fs1, cfa⟩ : ∃ fs, h1.1 fa = some (.inr (19, fs)) := by obtain ⟨_, z, _⟩ := F1; exact ⟨_, z⟩
    rcases hm with ⟨z1, z2⟩ | ⟨s, z1, z2, z3⟩
    · rw [z1]
      obtain ⟨h2, l5', r1, r2, r3⟩ := ih (i + 1) h1 M .null (by omega) (by omega) F1 ((n.trans n1).mono (fun _ q => q) (by omega) (by omega))
      refine ⟨h2, l5', ?_, r2, r3⟩
      rw [← r1, e_X22_apply_11]
      simp (disch := first | omega | (simp only [hnew_21, hput_21, hnew_22, hput_22]; omega) | exact isR_ref | exact isR_null | exact isR_rf | exact isR_fmt | assumption | decide) only [e_X22_apply_13, e_X22_apply_14, e_X22_apply_17, e_X22_apply_20, e_X22_apply_21, e_X22_apply_22, e_X22_apply_25, e_X22_apply_27, e_X22_apply_28, e_X22_apply_31, e_X22_apply_33, e_X22_apply_35, e_X22_apply_38, e_X22_apply_39, e_X22_apply_41, e_X22_apply_44, e_X22_apply_47, cR_ref, cR_null, cR_rf, c1_int, c1_ref, c1_null, c1_rf, kz_int, kz_ref, kz_null, kz_rf, kz_U, kz_long, nB_null, nB_ref, rf_none, rf_some, bV_ret, bV_thr, bA_ret, bA_thr, bX_ret, bX_thr, len4_0, len4_1, len4_2, len4_3, len4_4, true_and, and_true, and_self, if_true, if_false, Option.bind_some, nR_b1, nR_b0, nR_bI, nI_1z, nI_0z, bI_z, if_nn, gf, pf, clN, aln, gaI, gaL, gaR, saI, saR, isI, ctB, isB, gB, hput_n, hput_e, hput_21, hput_22, hnew_n, hnew_e, hnew_21, hnew_22, Option.bind_some, Option.map_some, List.lookup_cons, List.lookup_nil, beq_self_eq_true, List.getElem?_cons_zero, List.getElem?_cons_succ, List.set_cons_zero, List.set_cons_succ, List.length_cons, List.length_nil, Nat.reduceAdd, Nat.reduceLT, Nat.reduceLeDiff, Nat.reduceBEq, Nat.reduceEqDiff, okv_int, okv_oref, okv_onull, okv_orf, okv_aref, okv_b0, okv_b1, okv_z0, okv_bI, ckI_nI, lt31, leT, reduceCtorEq, List.mem_cons, List.mem_singleton, List.not_mem_nil, or_true, true_or, or_false, false_or, toR_ref, toR_null, ↓reduceIte, nI_add, pk_mul, s1, s2, u1, p1, z2, ↓nI_lt_if, hil]
    · rw [z1]
      obtain ⟨h2, e1, e2, e3, e4⟩ := c_fadd (Ω := Ω) (d := d + 4) (show Ω.sz ≤ fa by omega) (show Ω.sz ≤ fb by omega) n1.2.1 F1 z3 (by omega)
      have n2 : Nx [] (2 + 2 * (i + 1)) (152 + 7 * (i + 1)) h0 h2 := ((n.trans n1).add e3 (fun q hq => by
        rcases List.mem_cons.mp hq with rfl | hq
        · exact ha
        · rw [List.mem_singleton.mp hq]; exact hb)).mono (fun _ q => q) (by omega) (by omega)
      obtain ⟨h3, l5', r1, r2, r3⟩ := ih (i + 1) h2 (M ++ [s]) (.ref h.2.1) (by omega) (by rw [List.length_append, List.length_singleton]; omega) e2 n2
      rw [List.append_assoc] at r2
      refine ⟨h3, l5', ?_, r2, r3⟩
      rw [← r1, e_X22_apply_11]
      simp (disch := first | omega | (simp only [hnew_21, hput_21, hnew_22, hput_22]; omega) | exact isR_ref | exact isR_null | exact isR_rf | exact isR_fmt | assumption | decide) only [e_X22_apply_13, e_X22_apply_14, e_X22_apply_17, e_X22_apply_20, e_X22_apply_21, e_X22_apply_22, e_X22_apply_25, e_X22_apply_27, e_X22_apply_28, e_X22_apply_31, e_X22_apply_33, e_X22_apply_35, e_X22_apply_38, e_X22_apply_39, e_X22_apply_41, e_X22_apply_44, e_X22_apply_47, cR_ref, cR_null, cR_rf, c1_int, c1_ref, c1_null, c1_rf, kz_int, kz_ref, kz_null, kz_rf, kz_U, kz_long, nB_null, nB_ref, rf_none, rf_some, bV_ret, bV_thr, bA_ret, bA_thr, bX_ret, bX_thr, len4_0, len4_1, len4_2, len4_3, len4_4, true_and, and_true, and_self, if_true, if_false, Option.bind_some, nR_b1, nR_b0, nR_bI, nI_1z, nI_0z, bI_z, if_nn, gf, pf, clN, aln, gaI, gaL, gaR, saI, saR, isI, ctB, isB, gB, hput_n, hput_e, hput_21, hput_22, hnew_n, hnew_e, hnew_21, hnew_22, Option.bind_some, Option.map_some, List.lookup_cons, List.lookup_nil, beq_self_eq_true, List.getElem?_cons_zero, List.getElem?_cons_succ, List.set_cons_zero, List.set_cons_succ, List.length_cons, List.length_nil, Nat.reduceAdd, Nat.reduceLT, Nat.reduceLeDiff, Nat.reduceBEq, Nat.reduceEqDiff, okv_int, okv_oref, okv_onull, okv_orf, okv_aref, okv_b0, okv_b1, okv_z0, okv_bI, ckI_nI, lt31, leT, reduceCtorEq, List.mem_cons, List.mem_singleton, List.not_mem_nil, or_true, true_or, or_false, false_or, toR_ref, toR_null, ↓reduceIte, nI_add, pk_mul, s1, s2, u1, p1, z2, cfa, ↓nI_lt_if, hil, e1]
theorem c_pat (hsz : Ω.sz ≤ h.2.1) (hFe : Fe h) {pa so c : Nat} {nx : Value} (hp : PatR h pa nx p) (hA : FndR h so A) (hL : StoT h c L) : FRes h 403 1703 (capL (joinL A (patL p L))) (gM PG Ω (d + 11) 151 [.ref pa, .ref so, .ref c] h) := by
  have e1 := c_fnd0 (Ω := Ω) (d := d + 8) (h := h) hsz
  have hL48 : L.length ≤ 48 := by obtain ⟨_, _, _, _, _, q, _⟩ := hL; exact q
  obtain ⟨h1, l5', r1, r2, r3⟩ := c_pat1 (Ω := Ω) (d := d + 5) (h0 := h) (so := so) (fa := h.2.1) (fb := h.2.1 + 1) hsz (Nat.le_refl _) (by omega) hp hL L.length 0 (fnd0 h) [] U (by omega) (by simp) fnd0_A ((fnd0_nx hFe).mono (fun _ q => q) (by omega) (by omega))
  rw [List.drop_zero, List.nil_append] at r2
  have hsz1 : Ω.sz ≤ h1.2.1 := by have := r3.2.2.1; omega
  have hj := c_joined (Ω := Ω) (d := d) hsz1 r3.2.1 (hA.nx r3) r2.r
  obtain ⟨b1, f1, ks, _⟩ := hA.nx r3
  have e2 : gM PG Ω (d + 11) 151 [.ref pa, .ref so, .ref c] h = gO PG Ω (d + 10) 151 50 [.ref pa, .ref so, .ref c, .ref h.2.1, .int (nI L.length), l5'] [] h1 := by
    rw [← r1]
    simp (disch := first | omega | (simp only [hnew_21, hput_21, hnew_22, hput_22]; omega) | exact isR_ref | exact isR_null | exact isR_rf | exact isR_fmt | assumption | decide) only [n_X22_apply, e_X22_apply_0, e_X22_apply_3, e_X22_apply_4, e_X22_apply_7, e_X22_apply_8, e_X22_apply_9, cR_ref, cR_null, cR_rf, c1_int, c1_ref, c1_null, c1_rf, kz_int, kz_ref, kz_null, kz_rf, kz_U, kz_long, nB_null, nB_ref, rf_none, rf_some, bV_ret, bV_thr, bA_ret, bA_thr, bX_ret, bX_thr, len4_0, len4_1, len4_2, len4_3, len4_4, true_and, and_true, and_self, if_true, if_false, Option.bind_some, nR_b1, nR_b0, nR_bI, nI_1z, nI_0z, bI_z, if_nn, List.length_cons, List.length_nil, Nat.reduceAdd, Nat.reduceLeDiff, ↓reduceIte, e1]
  rw [e2]
  rcases hj with ⟨l, a', b', h2, j1, j2, j3, j5, j6, j4⟩ | ⟨j1, e, h2, j2, j3, j4⟩
  · have r3l := r3.2.2.1
    refine .inl ⟨l, a', b', h2, j1, ?_, j3, by omega, by omega, (r3.trans j4).mono (fun _ q => q) (by omega) (by omega)⟩
    simp (disch := first | omega | (simp only [hnew_21, hput_21, hnew_22, hput_22]; omega) | exact isR_ref | exact isR_null | exact isR_rf | exact isR_fmt | assumption | decide) only [e_X22_apply_50, e_X22_apply_51, e_X22_apply_52, e_X22_apply_55, cR_ref, cR_null, cR_rf, c1_int, c1_ref, c1_null, c1_rf, kz_int, kz_ref, kz_null, kz_rf, kz_U, kz_long, nB_null, nB_ref, rf_none, rf_some, bV_ret, bV_thr, bA_ret, bA_thr, bX_ret, bX_thr, len4_0, len4_1, len4_2, len4_3, len4_4, true_and, and_true, and_self, if_true, if_false, Option.bind_some, nR_b1, nR_b0, nR_bI, nI_1z, nI_0z, bI_z, if_nn, gf, pf, clN, aln, gaI, gaL, gaR, saI, saR, isI, ctB, isB, gB, hput_n, hput_e, hput_21, hput_22, hnew_n, hnew_e, hnew_21, hnew_22, Option.bind_some, Option.map_some, List.lookup_cons, List.lookup_nil, beq_self_eq_true, List.getElem?_cons_zero, List.getElem?_cons_succ, List.set_cons_zero, List.set_cons_succ, List.length_cons, List.length_nil, Nat.reduceAdd, Nat.reduceLT, Nat.reduceLeDiff, Nat.reduceBEq, Nat.reduceEqDiff, okv_int, okv_oref, okv_onull, okv_orf, okv_aref, okv_b0, okv_b1, okv_z0, okv_bI, ckI_nI, lt31, leT, reduceCtorEq, List.mem_cons, List.mem_singleton, List.not_mem_nil, or_true, true_or, or_false, false_or, toR_ref, toR_null, ↓reduceIte, ks, j2]
  · refine .inr ⟨j1, e, h2, ?_, j3, (r3.trans j4).mono (fun _ q => q) (by omega) (by omega)⟩
    simp (disch := first | omega | (simp only [hnew_21, hput_21, hnew_22, hput_22]; omega) | exact isR_ref | exact isR_null | exact isR_rf | exact isR_fmt | assumption | decide) only [e_X22_apply_50, e_X22_apply_51, e_X22_apply_52, e_X22_apply_55, cR_ref, cR_null, cR_rf, c1_int, c1_ref, c1_null, c1_rf, kz_int, kz_ref, kz_null, kz_rf, kz_U, kz_long, nB_null, nB_ref, rf_none, rf_some, bV_ret, bV_thr, bA_ret, bA_thr, bX_ret, bX_thr, len4_0, len4_1, len4_2, len4_3, len4_4, true_and, and_true, and_self, if_true, if_false, Option.bind_some, nR_b1, nR_b0, nR_bI, nI_1z, nI_0z, bI_z, if_nn, gf, pf, clN, aln, gaI, gaL, gaR, saI, saR, isI, ctB, isB, gB, hput_n, hput_e, hput_21, hput_22, hnew_n, hnew_e, hnew_21, hnew_22, Option.bind_some, Option.map_some, List.lookup_cons, List.lookup_nil, beq_self_eq_true, List.getElem?_cons_zero, List.getElem?_cons_succ, List.set_cons_zero, List.set_cons_succ, List.length_cons, List.length_nil, Nat.reduceAdd, Nat.reduceLT, Nat.reduceLeDiff, Nat.reduceBEq, Nat.reduceEqDiff, okv_int, okv_oref, okv_onull, okv_orf, okv_aref, okv_b0, okv_b1, okv_z0, okv_bI, ckI_nI, lt31, leT, reduceCtorEq, List.mem_cons, List.mem_singleton, List.not_mem_nil, or_true, true_or, or_false, false_or, toR_ref, toR_null, ↓reduceIte, ks, j2]
end CH
