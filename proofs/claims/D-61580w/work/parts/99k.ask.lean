/-! COMPONENT: ask, the rows -/
abbrev acE (v0 v1 v2 v3 v4 v5 v6 v7 v8 : Value) (sb : Nat) (fa : Int32) (ra : Nat) (rc co : Int32) : Ce := .inr (0, [v0, v1, v2, v3, v4, v5, v6, v7, v8, .ref sb, .int fa, .ref ra, .int rc, .int co])
def rwsK (di fl : Bool) (o : Option Nat) (cols : List Nat) (l : List Sol) (k : Nat) : List Rw := etR di fl ((l.take k).map (rowOf o cols)) []
theorem rwsK_succ {di fl : Bool} {o : Option Nat} {cols : List Nat} {l : List Sol} {k : Nat} {s : Sol} (h : l[k]? = some s) : rwsK di fl o cols l (k + 1) = entR di fl (rowOf o cols s) (rwsK di fl o cols l k) := by
  unfold rwsK
  have e : l.take (k + 1) = l.take k ++ [s] := by rw [List.take_add_one, h]; rfl
  rw [e, List.map_append]
  exact etR_snoc
theorem rwsK_len {di fl : Bool} {o : Option Nat} {cols : List Nat} {l : List Sol} : ∀ k, k ≤ l.length → (rwsK di fl o cols l k).length ≤ k := by
  intro k
  induction k with
  | zero => intro _; unfold rwsK; rw [List.take_zero]; exact Nat.le_refl _
  | succ k ih =>
    intro hk
    rw [rwsK_succ (List.getElem?_eq_getElem (by omega))]
    have := ih (by omega)
    have := entR_len (di := di) (fa := fl) (r := rowOf o cols l[k]) (R := rwsK di fl o cols l k)
    omega
theorem rwsK_cl {di fl : Bool} {o : Option Nat} {cols : List Nat} {l : List Sol} : ∀ k, k ≤ l.length → ∀ x ∈ rwsK di fl o cols l k, x.2.length = cols.length := by
  intro k
  induction k with
  | zero => intro _ x hx; unfold rwsK at hx; rw [List.take_zero] at hx; cases hx
  | succ k ih =>
    intro hk x hx
    rw [rwsK_succ (List.getElem?_eq_getElem (by omega))] at hx
    rcases entR_mem hx with rfl | z
    · show (cols.map _).length = _
      rw [List.length_map]
    · exact ih (by omega) x z
section ASK
variable {Ω : Om} {d : Nat} {h h' hB : AH} {c ra sb qa ar fo fb l1 : Nat} {v0 v1 v2 v3 v4 v5 v6 v7 v8 q3 : Value} {fa co q6 : Int32} {di fl : Bool} {o : Option Nat} {cols : List Nat} {l : List Sol} {fI : Nat → Int32} {ff fr0 : Nat → Option Nat} {cfs : List Value}
theorem RwsF.fs {S : List Nat} {k m N : Nat} {R : List Rw} {f : Nat → Option Nat} (x : RwsF h N R f) (n : Nx S k m h h') (hS : FS h S) : RwsF h' N R f := ⟨x.1, fun i r q => by
  obtain ⟨a, a1, a2⟩ := x.2 i r q
  exact ⟨a, a1, a2.fs n hS⟩⟩
set_option maxHeartbeats 1000000 in
theorem c_al (hq : hB.1 qa = some (.inr (8, [.int (bI di), .ref ar, .int (nI cols.length), q3, .int (ordV o), .int (bI fl), .int q6]))) (har : hB.1 ar = some (arI .int 6 fI)) (hfI : ∀ i v, cols[i]? = some v → fI i = nI v) (hcl : cols.length ≤ 6) (hv : ∀ v ∈ cols, v < 6) (ho : ∀ v, o = some v → v < 6) (hfo : hB.1 fo = some (.inr (19, [.ref fb, .int (nI l.length)]))) (hfb : hB.1 fb = some (arR "TripleStore$Solution" 150 ff)) (hl : l.length ≤ 150) (hsol : ∀ i s, l[i]? = some s → ∃ t, ff i = some t ∧ SolR hB t s) (hcB : hB.1 c = some (.inr (0, cfs))) (hraB : hB.1 ra = some (arR "TripleStore$Row" l.length fr0)) (hzB : Ω.sz ≤ hB.2.1) (hzc : Ω.sz ≤ c) (hzr : Ω.sz ≤ ra) : ∀ (m k : Nat) (H : AH) (f : Nat → Option Nat), k + m = l.length → Nx [c, ra] (2 * k) (8 * k) hB H → H.1 c = some (acE v0 v1 v2 v3 v4 v5 v6 v7 v8 sb fa ra (nI (rwsK di fl o cols l k).length) co) → H.1 ra = some (arR "TripleStore$Row" l.length f) → RwsF H l.length (rwsK di fl o cols l k) f → ∃ H' f', gO PG Ω (d + 25) 32 70 [.ref c, .ref l1, .ref qa, .ref fo, .int (nI k)] [] H = gO PG Ω (d + 25) 32 105 [.ref c, .ref l1, .ref qa, .ref fo, .int (nI l.length)] [] H' ∧ Nx [c, ra] (2 * l.length) (8 * l.length) hB H' ∧ H'.1 c = some (acE v0 v1 v2 v3 v4 v5 v6 v7 v8 sb fa ra (nI (rwsK di fl o cols l l.length).length) co) ∧ H'.1 ra = some (arR "TripleStore$Row" l.length f') ∧ RwsF H' l.length (rwsK di fl o cols l l.length) f' := by
  have hFS := FS.cr hcB hraB
  have hnq : qa ∉ [c, ra] := fun z => by
    rcases List.mem_cons.mp z with rfl | z
    · rw [hcB] at hq; cases hq
    · rw [List.mem_singleton.mp z, hraB] at hq; cases hq
  have hnr : ar ∉ [c, ra] := fun z => by
    rcases List.mem_cons.mp z with rfl | z
    · rw [hcB] at har; cases har
    · rw [List.mem_singleton.mp z, hraB] at har; cases har
  have hno : fo ∉ [c, ra] := fun z => by
    rcases List.mem_cons.mp z with rfl | z
    · rw [hcB] at hfo; cases hfo
    · rw [List.mem_singleton.mp z, hraB] at hfo; cases hfo
  have hnb : fb ∉ [c, ra] := fun z => by
    rcases List.mem_cons.mp z with rfl | z
    · rw [hcB] at hfb; cases hfb
    · rw [List.mem_singleton.mp z, hraB] at hfb
      simp only [arR, Option.some.injEq, Sum.inl.injEq, Prod.mk.injEq] at hfb
      exact absurd hfb.1 (by decide)
  intro m
  induction m with
  | zero =>
    intro k H f hk nn c1 c2 c3
    have hkl : k = l.length := by omega
    subst hkl
    refine ⟨H, f, ?_, nn, c1, c2, c3⟩
    have e1 := nn.ob hfo (by decide) hno
    rw [e_X1_ask_70]
    simp (disch := first | omega | (simp only [hnew_21, hput_21, hnew_22, hput_22]; omega) | exact isR_ref | exact isR_null | exact isR_rf | exact isR_fmt | assumption | decide) only [e_X1_ask_72, e_X1_ask_73, e_X1_ask_76, cR_ref, cR_null, cR_rf, c1_int, c1_ref, c1_null, c1_rf, kz_int, kz_ref, kz_null, kz_rf, kz_U, kz_long, nB_null, nB_ref, rf_none, rf_some, bV_ret, bV_thr, bA_ret, bA_thr, bX_ret, bX_thr, len4_0, len4_1, len4_2, len4_3, len4_4, true_and, and_true, and_self, if_true, if_false, Option.bind_some, nR_b1, nR_b0, nR_bI, nI_1z, nI_0z, bI_z, if_nn, gf, pf, clN, aln, gaI, gaL, gaR, saI, saR, isI, ctB, isB, gB, hput_n, hput_e, hput_21, hput_22, hnew_n, hnew_e, hnew_21, hnew_22, Option.bind_some, Option.map_some, List.lookup_cons, List.lookup_nil, beq_self_eq_true, List.getElem?_cons_zero, List.getElem?_cons_succ, List.set_cons_zero, List.set_cons_succ, List.length_cons, List.length_nil, Nat.reduceAdd, Nat.reduceLT, Nat.reduceLeDiff, Nat.reduceBEq, Nat.reduceEqDiff, okv_int, okv_oref, okv_onull, okv_orf, okv_aref, okv_b0, okv_b1, okv_z0, okv_bI, ckI_nI, lt31, leT, reduceCtorEq, List.mem_cons, List.mem_singleton, List.not_mem_nil, or_true, true_or, or_false, false_or, toR_ref, toR_null, ↓reduceIte, e1, ↓nI_lt_if, Nat.lt_irrefl]
  | succ m ih =>
    intro k H f hk nn c1 c2 c3
    have hkl : k < l.length := by omega
    have hg : l[k]? = some l[k] := List.getElem?_eq_getElem hkl
    generalize l[k] = s at hg
    obtain ⟨t, t1, t2⟩ := hsol k s hg
    have hFe := nn.2.1
    have hzH : Ω.sz ≤ H.2.1 := Nat.le_trans hzB nn.2.2.1
    have n1 : Nx [] 1 2 H (hnew H (.inr (21, [.null, .null])) 2) := (Nx.rfl' hFe).new
    have e1 := nn.ob hfo (by decide) hno
    have e2 := nn.ar hfb hnb
    obtain ⟨H2, g1, g2, g3⟩ := c_row (Ω := Ω) (d := d + 23) (q := qa) (ar := ar) (so := t) (sol := s) (o := o) n1 (Nat.le_refl _) hnew_e hzH (by rw [hnew_21]; omega) (nn.ob hq (by decide) hnq) (nn.ar har hnr) hfI hcl hv ho (t2.fs nn hFS)
    have hlen := rwsK_len (di := di) (fl := fl) (o := o) (cols := cols) k (by omega : k ≤ l.length)
    have k1 := g3.ob (show H.1 c = some (.inr (0, _)) from c1) (by decide) (by simp)
    obtain ⟨H3, f3, y1, y2, y3, y4, y5⟩ := c_enter (Ω := Ω) (d := d + 16) (c := c) (ra := ra) (q := qa) (di := di) (fa := fl) (c3.fs g3 FS.nil) (g3.ar c2 (by simp)) k1 (by omega) hl g2 (fun x hx => by rw [rwsK_cl k (by omega) x hx]; show _ = (cols.map s).length; rw [List.length_map]) (g3.ob (nn.ob hq (by decide) hnq) (by decide) (by simp)) g3.2.1 hzc hzr
    rw [← rwsK_succ hg] at y2 y4
    have n3 : Nx [c, ra] (2 * (k + 1)) (8 * (k + 1)) hB H3 := ((nn.trans (g3.mono (fun _ z => nomatch z) (Nat.le_refl _) (Nat.le_refl _))).trans y5).mono (fun _ z => z) (by omega) (by omega)
    obtain ⟨H', f', x1, x2, x3, x4, x5⟩ := ih (k + 1) H3 f3 (by omega) n3 y2 y3 y4
    refine ⟨H', f', ?_, x2, x3, x4, x5⟩
    have fol := hFe.lt e1
    have fbl := hFe.lt e2
    have hn1 : fo ≠ H.2.1 := by omega
    have hn2 : fb ≠ H.2.1 := by omega
    rw [← x1, e_X1_ask_70]
    simp (disch := first | omega | (simp only [hnew_21, hput_21, hnew_22, hput_22]; omega) | exact isR_ref | exact isR_null | exact isR_rf | exact isR_fmt | assumption | decide) only [e_X1_ask_72, e_X1_ask_73, e_X1_ask_76, e_X1_ask_79, e_X1_ask_80, e_X1_ask_83, e_X1_ask_84, e_X1_ask_85, e_X1_ask_86, e_X1_ask_89, e_X1_ask_91, e_X1_ask_92, cR_ref, cR_null, cR_rf, c1_int, c1_ref, c1_null, c1_rf, kz_int, kz_ref, kz_null, kz_rf, kz_U, kz_long, nB_null, nB_ref, rf_none, rf_some, bV_ret, bV_thr, bA_ret, bA_thr, bX_ret, bX_thr, len4_0, len4_1, len4_2, len4_3, len4_4, true_and, and_true, and_self, if_true, if_false, Option.bind_some, nR_b1, nR_b0, nR_bI, nI_1z, nI_0z, bI_z, if_nn, gf, pf, aln, gaI, gaL, gaR, saI, saR, isI, ctB, isB, gB, hput_n, hput_e, hput_21, hput_22, hnew_n, hnew_e, hnew_21, hnew_22, Option.bind_some, Option.map_some, List.lookup_cons, List.lookup_nil, beq_self_eq_true, List.getElem?_cons_zero, List.getElem?_cons_succ, List.set_cons_zero, List.set_cons_succ, List.length_cons, List.length_nil, Nat.reduceAdd, Nat.reduceLT, Nat.reduceLeDiff, Nat.reduceBEq, Nat.reduceEqDiff, okv_int, okv_oref, okv_onull, okv_orf, okv_aref, okv_b0, okv_b1, okv_z0, okv_bI, ckI_nI, lt31, leT, reduceCtorEq, List.mem_cons, List.mem_singleton, List.not_mem_nil, or_true, true_or, or_false, false_or, toR_ref, toR_null, ↓reduceIte, e1, e2, t1, hn1, hn2, ↓nI_lt_if, hkl, g1]
    simp (disch := first | omega | (simp only [hnew_21, hput_21, hnew_22, hput_22]; omega) | exact isR_ref | exact isR_null | exact isR_rf | exact isR_fmt | assumption | decide) only [e_X1_ask_95, e_X1_ask_96, e_X1_ask_99, e_X1_ask_102, cR_ref, cR_null, cR_rf, c1_int, c1_ref, c1_null, c1_rf, kz_int, kz_ref, kz_null, kz_rf, kz_U, kz_long, nB_null, nB_ref, rf_none, rf_some, bV_ret, bV_thr, bA_ret, bA_thr, bX_ret, bX_thr, len4_0, len4_1, len4_2, len4_3, len4_4, true_and, and_true, and_self, if_true, if_false, Option.bind_some, nR_b1, nR_b0, nR_bI, nI_1z, nI_0z, bI_z, if_nn, gf, pf, clN, aln, gaI, gaL, gaR, saI, saR, isI, ctB, isB, gB, hput_n, hput_e, hput_21, hput_22, hnew_n, hnew_e, hnew_21, hnew_22, Option.bind_some, Option.map_some, List.lookup_cons, List.lookup_nil, beq_self_eq_true, List.getElem?_cons_zero, List.getElem?_cons_succ, List.set_cons_zero, List.set_cons_succ, List.length_cons, List.length_nil, Nat.reduceAdd, Nat.reduceLT, Nat.reduceLeDiff, Nat.reduceBEq, Nat.reduceEqDiff, okv_int, okv_oref, okv_onull, okv_orf, okv_aref, okv_b0, okv_b1, okv_z0, okv_bI, ckI_nI, lt31, leT, reduceCtorEq, List.mem_cons, List.mem_singleton, List.not_mem_nil, or_true, true_or, or_false, false_or, toR_ref, toR_null, ↓reduceIte, nI_add, pk_mul, k1, y1]
end ASK
