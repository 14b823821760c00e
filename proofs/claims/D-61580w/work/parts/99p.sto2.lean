/-! COMPONENT: the store's face -/
theorem okL_app {L : List Tri} : ∀ {xs ys : List Chg}, okL L (xs ++ ys) → okL L xs ∧ okL (apL L xs) ys := by
  intro xs
  induction xs generalizing L with
  | nil => intro ys h; exact ⟨okL_len h, h⟩
  | cons x xs ih =>
    intro ys h
    obtain ⟨h1, h2⟩ := h
    obtain ⟨a1, a2⟩ := ih h2
    exact ⟨⟨h1, a1⟩, a2⟩
theorem apL_app {L : List Tri} {xs ys : List Chg} : apL L (xs ++ ys) = apL (apL L xs) ys := by unfold apL; rw [List.foldl_append]
/-- what the crash undoes -/
def unC (Cm : List (List Chg)) : List Chg := Cm.reverse.flatten.map inv
theorem unC_snoc {Cm : List (List Chg)} {C : List Chg} : unC (Cm ++ [C]) = C.map inv ++ unC Cm := by
  unfold unC
  rw [List.reverse_append, List.reverse_singleton, List.singleton_append, List.flatten_cons, List.map_append]
section STO2
variable {Ω : Om} {d : Nat} {h h' hB : AH} {a b c p q r tr sb ra k m cm : Nat} {t u : Tri} {L : List Tri} {S : List Nat} {v0 v1 v2 v3 v4 v5 v6 v7 v8 : Value} {fa rc co : Int32} {op : Bool} {Cu : List Chg} {Cm : List (List Chg)} {ch : Option Nat} {A : List Nat} {x y o : Int64}
theorem CpS.cell (H : CpS Ω h c L op Cu Cm cm sb fa ra rc co) : ∃ v0 v3 v5 v6, h.1 c = some (acE v0 (.int (nI L.length)) (.int (bI op)) v3 (.int (nI Cu.length)) v5 v6 (.int (nI cm)) (.int (nI Cm.length)) sb fa ra rc co) := by
  obtain ⟨tr, ch, A, hc, _⟩ := H
  exact ⟨_, _, _, _, hc⟩
theorem CpS.fe (H : CpS Ω h c L op Cu Cm cm sb fa ra rc co) : Fe h := by
  obtain ⟨tr, ch, A, hc, hT, hCh, hA, hFe, z1, z2, z3⟩ := H
  exact hFe
theorem CpS.sz (H : CpS Ω h c L op Cu Cm cm sb fa ra rc co) : Ω.sz ≤ h.2.1 := by
  obtain ⟨tr, ch, A, hc, hT, hCh, hA, hFe, z1, z2, z3⟩ := H
  exact z3
theorem CpS.len (H : CpS Ω h c L op Cu Cm cm sb fa ra rc co) : L.length ≤ 48 := by
  obtain ⟨tr, ch, A, hc, ⟨f, f1, f2, f3⟩, _⟩ := H
  exact f2
/-- what stands untouched -/
theorem CpS.nx (H : CpS Ω h c L op Cu Cm cm sb fa ra rc co) (n : Nx [] k m h h') : CpS Ω h' c L op Cu Cm cm sb fa ra rc co := by
  obtain ⟨tr, ch, A, hc, hT, hCh, hA, hFe, z1, z2, z3⟩ := H
  exact ⟨tr, ch, A, n.ob hc (by decide) (by simp), hT.fs n FS.nil (by simp), ChnR.fs n FS.nil _ _ hCh, hA.fs n FS.nil (by simp), n.2.1, z1, z2, Nat.le_trans z3 n.2.2.1⟩
/-- the component's own cell written anew -/
theorem CpS.put {L' : List Tri} (hT : TrA h tr L') {op' : Bool} {Cu' : List Chg} {Cm' : List (List Chg)} {cm' sb' : Nat} {fa' : Int32} {ra' : Nat} {rc' co' : Int32} {fs : List Value} (hc : h.1 c = some (.inr (0, fs))) (hCh : ChnR h Cu' ch) (hA : CmA Ω h A Cm') (hFe : Fe h) (z1 : Ω.sz ≤ c) (z2 : Ω.sz ≤ tr) (z3 : Ω.sz ≤ h.2.1) : CpS Ω (hput h c (acE (.ref tr) (.int (nI L'.length)) (.int (bI op')) (va_rf ch) (.int (nI Cu'.length)) (va_rf A.head?) (va_rf A.getLast?) (.int (nI cm')) (.int (nI Cm'.length)) sb' fa' ra' rc' co')) c L' op' Cu' Cm' cm' sb' fa' ra' rc' co' ∧ NS 0 0 h (hput h c (acE (.ref tr) (.int (nI L'.length)) (.int (bI op')) (va_rf ch) (.int (nI Cu'.length)) (va_rf A.head?) (va_rf A.getLast?) (.int (nI cm')) (.int (nI Cm'.length)) sb' fa' ra' rc' co')) := by
  have n : Nx [c] 0 0 h (hput h c (acE (.ref tr) (.int (nI L'.length)) (.int (bI op')) (va_rf ch) (.int (nI Cu'.length)) (va_rf A.head?) (va_rf A.getLast?) (.int (nI cm')) (.int (nI Cm'.length)) sb' fa' ra' rc' co')) := (Nx.rfl' hFe).put (.inl (by simp)) (hFe.lt hc)
  have hS : FS h [c] := FS.ob hc (by decide)
  have hT0 := hT
  obtain ⟨f, f1, _⟩ := hT0
  have hct : c ≠ tr := ne_ca hc f1
  refine ⟨⟨tr, ch, A, hput_e, hT.fs n hS (by simp; omega), ChnR.fs n hS _ _ hCh, hA.fs n hS (fun q hq => ?_), n.2.1, z1, z2, Nat.le_trans z3 n.2.2.1⟩, ⟨[c], n, fun q hq e he => by rw [List.mem_singleton.mp hq, hc] at he; cases he; exact .inl rfl⟩⟩
  obtain ⟨fs, hfs⟩ := hA.cl hq
  have := ne_cl hfs hc (by decide)
  simp; omega
theorem c_begin (H : CpS Ω h c L op Cu Cm cm sb fa ra rc co) : (op = true → ∃ e h', gM PG Ω (d + 9) 23 [.ref c] h = some (.threw e, h') ∧ h'.1 e = some (.inr (25, [])) ∧ Nx [] 1 6 h h') ∧ (op = false → ∃ h', gM PG Ω (d + 9) 23 [.ref c] h = some (.returned (some (.int (nI cm))), h') ∧ CpS Ω h' c L true Cu Cm cm sb fa ra rc co ∧ NS 0 0 h h') := by
  obtain ⟨tr, ch, A, hc, hT, hCh, hA, hFe, z1, z2, z3⟩ := H
  constructor
  · intro q
    subst q
    refine ⟨h.2.1, hnew h (.inr (25, [])) 6, ?_, hnew_e, (Nx.rfl' hFe).new.mono (fun _ q => q) (by omega) (by omega)⟩
    simp (disch := first | omega | (simp only [hnew_21, hput_21, hnew_22, hput_22]; omega) | exact isR_ref | exact isR_null | exact isR_rf | exact isR_fmt | assumption | decide) only [n_X1_begin, e_X1_begin_0, e_X1_begin_1, e_X1_begin_4, e_X1_begin_7, e_X1_begin_15, e_X1_begin_16, e_X1_begin_17, e_X1_begin_20, e_X1_begin_21, e_X1_begin_24, cR_ref, cR_null, cR_rf, c1_int, c1_ref, c1_null, c1_rf, kz_int, kz_ref, kz_null, kz_rf, kz_U, kz_long, nB_null, nB_ref, rf_none, rf_some, bV_ret, bV_thr, bA_ret, bA_thr, bX_ret, bX_thr, len4_0, len4_1, len4_2, len4_3, len4_4, true_and, and_true, and_self, if_true, if_false, Option.bind_some, nR_b1, nR_b0, nR_bI, nI_1z, nI_0z, bI_z, if_nn, gf, pf, clN, aln, gaI, gaL, gaR, saI, saR, isI, ctB, isB, gB, hput_n, hput_e, hput_21, hput_22, hnew_n, hnew_e, hnew_21, hnew_22, Option.bind_some, Option.map_some, List.lookup_cons, List.lookup_nil, beq_self_eq_true, List.getElem?_cons_zero, List.getElem?_cons_succ, List.set_cons_zero, List.set_cons_succ, List.length_cons, List.length_nil, Nat.reduceAdd, Nat.reduceLT, Nat.reduceLeDiff, Nat.reduceBEq, Nat.reduceEqDiff, okv_int, okv_oref, okv_onull, okv_orf, okv_aref, okv_b0, okv_b1, okv_z0, okv_bI, ckI_nI, lt31, leT, reduceCtorEq, List.mem_cons, List.mem_singleton, List.not_mem_nil, or_true, true_or, or_false, false_or, toR_ref, toR_null, ↓reduceIte, hc, bI_t]
  · intro q
    subst q
    obtain ⟨g1, g2⟩ := CpS.put (op' := true) (cm' := cm) (sb' := sb) (fa' := fa) (ra' := ra) (rc' := rc) (co' := co) hT hc hCh hA hFe z1 z2 z3
    refine ⟨_, ?_, g1, g2⟩
    simp (disch := first | omega | (simp only [hnew_21, hput_21, hnew_22, hput_22]; omega) | exact isR_ref | exact isR_null | exact isR_rf | exact isR_fmt | assumption | decide) only [n_X1_begin, e_X1_begin_0, e_X1_begin_1, e_X1_begin_4, e_X1_begin_7, e_X1_begin_15, e_X1_begin_16, e_X1_begin_17, e_X1_begin_20, e_X1_begin_21, e_X1_begin_24, cR_ref, cR_null, cR_rf, c1_int, c1_ref, c1_null, c1_rf, kz_int, kz_ref, kz_null, kz_rf, kz_U, kz_long, nB_null, nB_ref, rf_none, rf_some, bV_ret, bV_thr, bA_ret, bA_thr, bX_ret, bX_thr, len4_0, len4_1, len4_2, len4_3, len4_4, true_and, and_true, and_self, if_true, if_false, Option.bind_some, nR_b1, nR_b0, nR_bI, nI_1z, nI_0z, bI_z, if_nn, gf, pf, clN, aln, gaI, gaL, gaR, saI, saR, isI, ctB, isB, gB, hput_n, hput_e, hput_21, hput_22, hnew_n, hnew_e, hnew_21, hnew_22, Option.bind_some, Option.map_some, List.lookup_cons, List.lookup_nil, beq_self_eq_true, List.getElem?_cons_zero, List.getElem?_cons_succ, List.set_cons_zero, List.set_cons_succ, List.length_cons, List.length_nil, Nat.reduceAdd, Nat.reduceLT, Nat.reduceLeDiff, Nat.reduceBEq, Nat.reduceEqDiff, okv_int, okv_oref, okv_onull, okv_orf, okv_aref, okv_b0, okv_b1, okv_z0, okv_bI, ckI_nI, lt31, leT, reduceCtorEq, List.mem_cons, List.mem_singleton, List.not_mem_nil, or_true, true_or, or_false, false_or, toR_ref, toR_null, ↓reduceIte, hc, bI_f, bI_t]
theorem c_need (H : CpS Ω h c L op Cu Cm cm sb fa ra rc co) : (op = false → gM PG Ω (d + 9) 25 [.ref c] h = some (.threw h.2.1, hnew h (.inr (25, [])) 6)) ∧ (op = true → gM PG Ω (d + 9) 25 [.ref c] h = some (.returned none, h)) := by
  obtain ⟨v0, v3, v5, v6, hc⟩ := H.cell
  constructor
  · intro q
    subst q
    simp (disch := first | omega | (simp only [hnew_21, hput_21, hnew_22, hput_22]; omega) | exact isR_ref | exact isR_null | exact isR_rf | exact isR_fmt | assumption | decide) only [n_X1_needOpen, e_X1_needOpen_0, e_X1_needOpen_1, e_X1_needOpen_4, e_X1_needOpen_7, e_X1_needOpen_15, cR_ref, cR_null, cR_rf, c1_int, c1_ref, c1_null, c1_rf, kz_int, kz_ref, kz_null, kz_rf, kz_U, kz_long, nB_null, nB_ref, rf_none, rf_some, bV_ret, bV_thr, bA_ret, bA_thr, bX_ret, bX_thr, len4_0, len4_1, len4_2, len4_3, len4_4, true_and, and_true, and_self, if_true, if_false, Option.bind_some, nR_b1, nR_b0, nR_bI, nI_1z, nI_0z, bI_z, if_nn, gf, pf, clN, aln, gaI, gaL, gaR, saI, saR, isI, ctB, isB, gB, hput_n, hput_e, hput_21, hput_22, hnew_n, hnew_e, hnew_21, hnew_22, Option.bind_some, Option.map_some, List.lookup_cons, List.lookup_nil, beq_self_eq_true, List.getElem?_cons_zero, List.getElem?_cons_succ, List.set_cons_zero, List.set_cons_succ, List.length_cons, List.length_nil, Nat.reduceAdd, Nat.reduceLT, Nat.reduceLeDiff, Nat.reduceBEq, Nat.reduceEqDiff, okv_int, okv_oref, okv_onull, okv_orf, okv_aref, okv_b0, okv_b1, okv_z0, okv_bI, ckI_nI, lt31, leT, reduceCtorEq, List.mem_cons, List.mem_singleton, List.not_mem_nil, or_true, true_or, or_false, false_or, toR_ref, toR_null, ↓reduceIte, hc, bI_f]
  · intro q
    subst q
    simp (disch := first | omega | (simp only [hnew_21, hput_21, hnew_22, hput_22]; omega) | exact isR_ref | exact isR_null | exact isR_rf | exact isR_fmt | assumption | decide) only [n_X1_needOpen, e_X1_needOpen_0, e_X1_needOpen_1, e_X1_needOpen_4, e_X1_needOpen_7, e_X1_needOpen_15, cR_ref, cR_null, cR_rf, c1_int, c1_ref, c1_null, c1_rf, kz_int, kz_ref, kz_null, kz_rf, kz_U, kz_long, nB_null, nB_ref, rf_none, rf_some, bV_ret, bV_thr, bA_ret, bA_thr, bX_ret, bX_thr, len4_0, len4_1, len4_2, len4_3, len4_4, true_and, and_true, and_self, if_true, if_false, Option.bind_some, nR_b1, nR_b0, nR_bI, nI_1z, nI_0z, bI_z, if_nn, gf, pf, clN, aln, gaI, gaL, gaR, saI, saR, isI, ctB, isB, gB, hput_n, hput_e, hput_21, hput_22, hnew_n, hnew_e, hnew_21, hnew_22, Option.bind_some, Option.map_some, List.lookup_cons, List.lookup_nil, beq_self_eq_true, List.getElem?_cons_zero, List.getElem?_cons_succ, List.set_cons_zero, List.set_cons_succ, List.length_cons, List.length_nil, Nat.reduceAdd, Nat.reduceLT, Nat.reduceLeDiff, Nat.reduceBEq, Nat.reduceEqDiff, okv_int, okv_oref, okv_onull, okv_orf, okv_aref, okv_b0, okv_b1, okv_z0, okv_bI, ckI_nI, lt31, leT, reduceCtorEq, List.mem_cons, List.mem_singleton, List.not_mem_nil, or_true, true_or, or_false, false_or, toR_ref, toR_null, ↓reduceIte, hc, bI_t]
theorem c_commit (H : CpS Ω h c L op Cu Cm cm sb fa ra rc co) : (op = false → ∃ e h', gM PG Ω (d + 10) 24 [.ref c] h = some (.threw e, h') ∧ h'.1 e = some (.inr (25, [])) ∧ Nx [] 1 6 h h') ∧ (op = true → ∃ h', gM PG Ω (d + 10) 24 [.ref c] h = some (.returned (some (.int (nI Cu.length))), h') ∧ CpS Ω h' c L false [] (Cm ++ [Cu]) (cm + 1) sb fa ra rc co ∧ NS 1 2 h h') := by
  obtain ⟨v0, v3, v5, v6, hc⟩ := H.cell
  constructor
  · intro q
    have e := (c_need (Ω := Ω) (d := d) H).1 q
    refine ⟨h.2.1, hnew h (.inr (25, [])) 6, ?_, hnew_e, (Nx.rfl' H.fe).new.mono (fun _ q => q) (by omega) (by omega)⟩
    simp (disch := first | omega | (simp only [hnew_21, hput_21, hnew_22, hput_22]; omega) | exact isR_ref | exact isR_null | exact isR_rf | exact isR_fmt | assumption | decide) only [n_X1_commit, e_X1_commit_0, e_X1_commit_1, e_X1_commit_4, e_X1_commit_5, e_X1_commit_8, e_X1_commit_9, e_X1_commit_10, e_X1_commit_13, e_X1_commit_14, cR_ref, cR_null, cR_rf, c1_int, c1_ref, c1_null, c1_rf, kz_int, kz_ref, kz_null, kz_rf, kz_U, kz_long, nB_null, nB_ref, rf_none, rf_some, bV_ret, bV_thr, bA_ret, bA_thr, bX_ret, bX_thr, len4_0, len4_1, len4_2, len4_3, len4_4, true_and, and_true, and_self, if_true, if_false, Option.bind_some, nR_b1, nR_b0, nR_bI, nI_1z, nI_0z, bI_z, if_nn, gf, pf, clN, aln, gaI, gaL, gaR, saI, saR, isI, ctB, isB, gB, hput_n, hput_e, hput_21, hput_22, hnew_n, hnew_e, hnew_21, hnew_22, Option.bind_some, Option.map_some, List.lookup_cons, List.lookup_nil, beq_self_eq_true, List.getElem?_cons_zero, List.getElem?_cons_succ, List.set_cons_zero, List.set_cons_succ, List.length_cons, List.length_nil, Nat.reduceAdd, Nat.reduceLT, Nat.reduceLeDiff, Nat.reduceBEq, Nat.reduceEqDiff, okv_int, okv_oref, okv_onull, okv_orf, okv_aref, okv_b0, okv_b1, okv_z0, okv_bI, ckI_nI, lt31, leT, reduceCtorEq, List.mem_cons, List.mem_singleton, List.not_mem_nil, or_true, true_or, or_false, false_or, toR_ref, toR_null, ↓reduceIte, hc, e]
  · intro q
    have e := (c_need (Ω := Ω) (d := d) H).2 q
    obtain ⟨h', g1, g2, g3⟩ := c_close (d := d + 6) H
    refine ⟨h', ?_, g2, g3⟩
    simp (disch := first | omega | (simp only [hnew_21, hput_21, hnew_22, hput_22]; omega) | exact isR_ref | exact isR_null | exact isR_rf | exact isR_fmt | assumption | decide) only [n_X1_commit, e_X1_commit_0, e_X1_commit_1, e_X1_commit_4, e_X1_commit_5, e_X1_commit_8, e_X1_commit_9, e_X1_commit_10, e_X1_commit_13, e_X1_commit_14, cR_ref, cR_null, cR_rf, c1_int, c1_ref, c1_null, c1_rf, kz_int, kz_ref, kz_null, kz_rf, kz_U, kz_long, nB_null, nB_ref, rf_none, rf_some, bV_ret, bV_thr, bA_ret, bA_thr, bX_ret, bX_thr, len4_0, len4_1, len4_2, len4_3, len4_4, true_and, and_true, and_self, if_true, if_false, Option.bind_some, nR_b1, nR_b0, nR_bI, nI_1z, nI_0z, bI_z, if_nn, gf, pf, clN, aln, gaI, gaL, gaR, saI, saR, isI, ctB, isB, gB, hput_n, hput_e, hput_21, hput_22, hnew_n, hnew_e, hnew_21, hnew_22, Option.bind_some, Option.map_some, List.lookup_cons, List.lookup_nil, beq_self_eq_true, List.getElem?_cons_zero, List.getElem?_cons_succ, List.set_cons_zero, List.set_cons_succ, List.length_cons, List.length_nil, Nat.reduceAdd, Nat.reduceLT, Nat.reduceLeDiff, Nat.reduceBEq, Nat.reduceEqDiff, okv_int, okv_oref, okv_onull, okv_orf, okv_aref, okv_b0, okv_b1, okv_z0, okv_bI, ckI_nI, lt31, leT, reduceCtorEq, List.mem_cons, List.mem_singleton, List.not_mem_nil, or_true, true_or, or_false, false_or, toR_ref, toR_null, ↓reduceIte, hc, e, g1]
theorem c_uo (H : CpS Ω h c L op Cu Cm cm sb fa ra rc co) (hok : okL L (Cu.map inv)) : ∃ h', gM PG Ω (d + 7) 27 [.ref c] h = some (.returned (some (.int (nI Cu.length))), h') ∧ CpS Ω h' c (apL L (Cu.map inv)) false [] Cm cm sb fa ra rc co ∧ NS 0 0 h h' := by
  obtain ⟨tr, ch, A, hc, hT, hCh, hA, hFe, z1, z2, z3⟩ := H
  obtain ⟨h1, a1, a2, a3, a4⟩ := c_undo (Ω := Ω) (d := d) trivial Cu ch L h ch hc hT hCh hok hFe z1 z2
  have e1 : gM PG Ω (d + 6) 28 [.ref c, va_rf ch] h = some (.returned none, h1) := by
    rw [← a1]
    simp (disch := first | omega | (simp only [hnew_21, hput_21, hnew_22, hput_22]; omega) | exact isR_ref | exact isR_null | exact isR_rf | exact isR_fmt | assumption | decide) only [n_X1_undo, e_X1_undo_0, e_X1_undo_1, e_X1_undo_3, e_X1_undo_6, e_X1_undo_7, e_X1_undo_10, e_X1_undo_13, e_X1_undo_14, e_X1_undo_15, e_X1_undo_16, e_X1_undo_19, e_X1_undo_22, e_X1_undo_25, e_X1_undo_28, e_X1_undo_29, e_X1_undo_30, e_X1_undo_33, e_X1_undo_36, e_X1_undo_37, e_X1_undo_40, e_X1_undo_41, e_X1_undo_44, cR_ref, cR_null, cR_rf, c1_int, c1_ref, c1_null, c1_rf, kz_int, kz_ref, kz_null, kz_rf, kz_U, kz_long, nB_null, nB_ref, rf_none, rf_some, bV_ret, bV_thr, bA_ret, bA_thr, bX_ret, bX_thr, len4_0, len4_1, len4_2, len4_3, len4_4, true_and, and_true, and_self, if_true, if_false, Option.bind_some, nR_b1, nR_b0, nR_bI, nI_1z, nI_0z, bI_z, if_nn]
  have hT0 := hT
  obtain ⟨f, f1, _⟩ := hT0
  have hS := FS.ct hc f1
  have hA1 : CmA Ω h1 A Cm := hA.fs a4 hS (fun q hq => by
    obtain ⟨fs, hfs⟩ := hA.cl hq
    have := ne_cl hfs hc (by decide)
    have := ne_ca hfs f1
    simp; omega)
  obtain ⟨g1, g2⟩ := CpS.put (op' := false) (ch := none) (Cu' := []) (cm' := cm) (sb' := sb) (fa' := fa) (ra' := ra) (rc' := rc) (co' := co) a3 a2 rfl hA1 a4.2.1 z1 z2 (Nat.le_trans z3 a4.2.2.1)
  refine ⟨_, ?_, g1, (NS.trans ⟨[c, tr], a4, fun q hq e he => ?_⟩ g2)⟩
  · simp (disch := first | omega | (simp only [hnew_21, hput_21, hnew_22, hput_22]; omega) | exact isR_ref | exact isR_null | exact isR_rf | exact isR_fmt | assumption | decide) only [n_X1_undoOpen, e_X1_undoOpen_0, e_X1_undoOpen_1, e_X1_undoOpen_4, e_X1_undoOpen_5, e_X1_undoOpen_6, e_X1_undoOpen_7, e_X1_undoOpen_10, e_X1_undoOpen_13, e_X1_undoOpen_14, e_X1_undoOpen_15, e_X1_undoOpen_18, e_X1_undoOpen_19, e_X1_undoOpen_20, e_X1_undoOpen_23, e_X1_undoOpen_24, e_X1_undoOpen_25, e_X1_undoOpen_28, e_X1_undoOpen_29, cR_ref, cR_null, cR_rf, c1_int, c1_ref, c1_null, c1_rf, kz_int, kz_ref, kz_null, kz_rf, kz_U, kz_long, nB_null, nB_ref, rf_none, rf_some, bV_ret, bV_thr, bA_ret, bA_thr, bX_ret, bX_thr, len4_0, len4_1, len4_2, len4_3, len4_4, true_and, and_true, and_self, if_true, if_false, Option.bind_some, nR_b1, nR_b0, nR_bI, nI_1z, nI_0z, bI_z, if_nn, gf, pf, clN, aln, gaI, gaL, gaR, saI, saR, isI, ctB, isB, gB, hput_n, hput_e, hput_21, hput_22, hnew_n, hnew_e, hnew_21, hnew_22, Option.bind_some, Option.map_some, List.lookup_cons, List.lookup_nil, beq_self_eq_true, List.getElem?_cons_zero, List.getElem?_cons_succ, List.set_cons_zero, List.set_cons_succ, List.length_cons, List.length_nil, Nat.reduceAdd, Nat.reduceLT, Nat.reduceLeDiff, Nat.reduceBEq, Nat.reduceEqDiff, okv_int, okv_oref, okv_onull, okv_orf, okv_aref, okv_b0, okv_b1, okv_z0, okv_bI, ckI_nI, lt31, leT, reduceCtorEq, List.mem_cons, List.mem_singleton, List.not_mem_nil, or_true, true_or, or_false, false_or, toR_ref, toR_null, ↓reduceIte, hc, e1, a2, hput2, bI_f, List.length_nil, List.head?_nil]
  · rcases List.mem_cons.mp hq with z | z
    · rw [z, hc] at he; cases he; exact .inl rfl
    · rw [List.mem_singleton.mp z, f1] at he; cases he; rfl
theorem c_rollback (H : CpS Ω h c L op Cu Cm cm sb fa ra rc co) : (op = false → ∃ e h', gM PG Ω (d + 10) 26 [.ref c] h = some (.threw e, h') ∧ h'.1 e = some (.inr (25, [])) ∧ Nx [] 1 6 h h') ∧ (op = true → okL L (Cu.map inv) → ∃ h', gM PG Ω (d + 10) 26 [.ref c] h = some (.returned (some (.int (nI Cu.length))), h') ∧ CpS Ω h' c (apL L (Cu.map inv)) false [] Cm cm sb fa ra rc co ∧ NS 0 0 h h') := by
  obtain ⟨v0, v3, v5, v6, hc⟩ := H.cell
  constructor
  · intro q
    have e := (c_need (Ω := Ω) (d := d) H).1 q
    refine ⟨h.2.1, hnew h (.inr (25, [])) 6, ?_, hnew_e, (Nx.rfl' H.fe).new.mono (fun _ q => q) (by omega) (by omega)⟩
    simp (disch := first | omega | (simp only [hnew_21, hput_21, hnew_22, hput_22]; omega) | exact isR_ref | exact isR_null | exact isR_rf | exact isR_fmt | assumption | decide) only [n_X1_rollback, e_X1_rollback_0, e_X1_rollback_1, e_X1_rollback_4, e_X1_rollback_5, e_X1_rollback_8, cR_ref, cR_null, cR_rf, c1_int, c1_ref, c1_null, c1_rf, kz_int, kz_ref, kz_null, kz_rf, kz_U, kz_long, nB_null, nB_ref, rf_none, rf_some, bV_ret, bV_thr, bA_ret, bA_thr, bX_ret, bX_thr, len4_0, len4_1, len4_2, len4_3, len4_4, true_and, and_true, and_self, if_true, if_false, Option.bind_some, nR_b1, nR_b0, nR_bI, nI_1z, nI_0z, bI_z, if_nn, gf, pf, clN, aln, gaI, gaL, gaR, saI, saR, isI, ctB, isB, gB, hput_n, hput_e, hput_21, hput_22, hnew_n, hnew_e, hnew_21, hnew_22, Option.bind_some, Option.map_some, List.lookup_cons, List.lookup_nil, beq_self_eq_true, List.getElem?_cons_zero, List.getElem?_cons_succ, List.set_cons_zero, List.set_cons_succ, List.length_cons, List.length_nil, Nat.reduceAdd, Nat.reduceLT, Nat.reduceLeDiff, Nat.reduceBEq, Nat.reduceEqDiff, okv_int, okv_oref, okv_onull, okv_orf, okv_aref, okv_b0, okv_b1, okv_z0, okv_bI, ckI_nI, lt31, leT, reduceCtorEq, List.mem_cons, List.mem_singleton, List.not_mem_nil, or_true, true_or, or_false, false_or, toR_ref, toR_null, ↓reduceIte, hc, e]
  · intro q hok
    have e := (c_need (Ω := Ω) (d := d) H).2 q
    obtain ⟨h', g1, g2, g3⟩ := c_uo (d := d + 2) H hok
    refine ⟨h', ?_, g2, g3⟩
    simp (disch := first | omega | (simp only [hnew_21, hput_21, hnew_22, hput_22]; omega) | exact isR_ref | exact isR_null | exact isR_rf | exact isR_fmt | assumption | decide) only [n_X1_rollback, e_X1_rollback_0, e_X1_rollback_1, e_X1_rollback_4, e_X1_rollback_5, e_X1_rollback_8, cR_ref, cR_null, cR_rf, c1_int, c1_ref, c1_null, c1_rf, kz_int, kz_ref, kz_null, kz_rf, kz_U, kz_long, nB_null, nB_ref, rf_none, rf_some, bV_ret, bV_thr, bA_ret, bA_thr, bX_ret, bX_thr, len4_0, len4_1, len4_2, len4_3, len4_4, true_and, and_true, and_self, if_true, if_false, Option.bind_some, nR_b1, nR_b0, nR_bI, nI_1z, nI_0z, bI_z, if_nn, gf, pf, clN, aln, gaI, gaL, gaR, saI, saR, isI, ctB, isB, gB, hput_n, hput_e, hput_21, hput_22, hnew_n, hnew_e, hnew_21, hnew_22, Option.bind_some, Option.map_some, List.lookup_cons, List.lookup_nil, beq_self_eq_true, List.getElem?_cons_zero, List.getElem?_cons_succ, List.set_cons_zero, List.set_cons_succ, List.length_cons, List.length_nil, Nat.reduceAdd, Nat.reduceLT, Nat.reduceLeDiff, Nat.reduceBEq, Nat.reduceEqDiff, okv_int, okv_oref, okv_onull, okv_orf, okv_aref, okv_b0, okv_b1, okv_z0, okv_bI, ckI_nI, lt31, leT, reduceCtorEq, List.mem_cons, List.mem_singleton, List.not_mem_nil, or_true, true_or, or_false, false_or, toR_ref, toR_null, ↓reduceIte, hc, e, g1]
theorem c_sync (H : CpS Ω h c L op Cu Cm cm sb fa ra rc co) : ∃ h', gM PG Ω (d + 1) 12 [.ref c] h = some (.returned (some (.int (nI Cm.length))), h') ∧ CpS Ω h' c L op Cu [] cm sb fa ra rc co ∧ NS 0 0 h h' := by
  obtain ⟨tr, ch, A, hc, hT, hCh, hA, hFe, z1, z2, z3⟩ := H
  obtain ⟨g1, g2⟩ := CpS.put (Ω := Ω) (A := []) (op' := op) (Cm' := []) (cm' := cm) (sb' := sb) (fa' := fa) (ra' := ra) (rc' := rc) (co' := co) hT hc hCh ⟨rfl, List.nodup_nil, fun a ha => (nomatch ha), fun i a C q => by simp at q⟩ hFe z1 z2 z3
  refine ⟨_, ?_, g1, g2⟩
  simp (disch := first | omega | (simp only [hnew_21, hput_21, hnew_22, hput_22]; omega) | exact isR_ref | exact isR_null | exact isR_rf | exact isR_fmt | assumption | decide) only [n_X1_sync, e_X1_sync_0, e_X1_sync_1, e_X1_sync_4, e_X1_sync_5, e_X1_sync_6, e_X1_sync_7, e_X1_sync_10, e_X1_sync_11, e_X1_sync_12, e_X1_sync_15, e_X1_sync_16, e_X1_sync_17, e_X1_sync_20, e_X1_sync_21, cR_ref, cR_null, cR_rf, c1_int, c1_ref, c1_null, c1_rf, kz_int, kz_ref, kz_null, kz_rf, kz_U, kz_long, nB_null, nB_ref, rf_none, rf_some, bV_ret, bV_thr, bA_ret, bA_thr, bX_ret, bX_thr, len4_0, len4_1, len4_2, len4_3, len4_4, true_and, and_true, and_self, if_true, if_false, Option.bind_some, nR_b1, nR_b0, nR_bI, nI_1z, nI_0z, bI_z, if_nn, gf, pf, clN, aln, gaI, gaL, gaR, saI, saR, isI, ctB, isB, gB, hput_n, hput_e, hput_21, hput_22, hnew_n, hnew_e, hnew_21, hnew_22, Option.bind_some, Option.map_some, List.lookup_cons, List.lookup_nil, beq_self_eq_true, List.getElem?_cons_zero, List.getElem?_cons_succ, List.set_cons_zero, List.set_cons_succ, List.length_cons, List.length_nil, Nat.reduceAdd, Nat.reduceLT, Nat.reduceLeDiff, Nat.reduceBEq, Nat.reduceEqDiff, okv_int, okv_oref, okv_onull, okv_orf, okv_aref, okv_b0, okv_b1, okv_z0, okv_bI, ckI_nI, lt31, leT, reduceCtorEq, List.mem_cons, List.mem_singleton, List.not_mem_nil, or_true, true_or, or_false, false_or, toR_ref, toR_null, ↓reduceIte, hc, hput2]
  rfl
set_option maxHeartbeats 1000000 in
theorem c_uf (kk : Nat) (hc : h.1 c = some (acE (.ref tr) (.int (nI L.length)) v2 v3 v4 v5 v6 v7 (.int (nI Cm.length)) sb fa ra rc co)) (hT : TrA h tr L) (hA : CmA Ω h A Cm) (hok : okL L (unC (Cm.drop kk))) (hFe : Fe h) (z1 : Ω.sz ≤ c) (z2 : Ω.sz ≤ tr) (z3 : Ω.sz ≤ h.2.1) (hN : Cm.length ≤ 800) : ∃ h', gM PG Ω (d + 7) 30 [.ref c, va_rf A[kk]?] h = some (.returned none, h') ∧ h'.1 c = some (acE (.ref tr) (.int (nI (apL L (unC (Cm.drop kk))).length)) v2 v3 v4 v5 v6 v7 (.int (nI Cm.length)) sb fa ra rc co) ∧ TrA h' tr (apL L (unC (Cm.drop kk))) ∧ Nx [c, tr] 1 Cm.length h h' := by
  obtain ⟨A1, A2, A3, A4⟩ := hA
  have lc := hFe.lt hc
  have hne : c ≠ h.2.1 := by omega
  have hT0 := hT
  obtain ⟨f, f1, _⟩ := hT0
  have lt := hFe.lt f1
  have cl : ∀ a ∈ A, ∃ fs, h.1 a = some (.inr (6, fs)) := fun a ha => CmA.cl (Ω := Ω) ⟨A1, A2, A3, A4⟩ ha
  -- the first loop
  have lp1 : ∀ (mm j : Nat) (H : AH) (F : Nat → Option Nat), j + mm = Cm.length - kk → Nx [] 1 Cm.length h H → H.1 h.2.1 = some (arR "TripleStore$Commit" Cm.length F) → (∀ i, i < j → F i = A[kk + i]?) → ∃ H' F', gO PG Ω (d + 6) 30 13 [.ref c, va_rf A[kk]?, .ref h.2.1, .int (nI j), va_rf A[kk + j]?] [] H = gO PG Ω (d + 6) 30 36 [.ref c, va_rf A[kk]?, .ref h.2.1, .int (nI (Cm.length - kk)), .null] [] H' ∧ Nx [] 1 Cm.length h H' ∧ H'.1 h.2.1 = some (arR "TripleStore$Commit" Cm.length F') ∧ (∀ i, i < Cm.length - kk → F' i = A[kk + i]?) := by
    intro mm
    induction mm with
    | zero =>
      intro j H F hj nn g1 g2
      have hjN : j = Cm.length - kk := by omega
      subst hjN
      refine ⟨H, F, ?_, nn, g1, g2⟩
      rw [List.getElem?_eq_none (l := A) (i := kk + (Cm.length - kk)) (by omega), e_X1_undoFrom_13]
      simp (disch := first | omega | (simp only [hnew_21, hput_21, hnew_22, hput_22]; omega) | exact isR_ref | exact isR_null | exact isR_rf | exact isR_fmt | assumption | decide) only [e_X1_undoFrom_15, cR_ref, cR_null, cR_rf, c1_int, c1_ref, c1_null, c1_rf, kz_int, kz_ref, kz_null, kz_rf, kz_U, kz_long, nB_null, nB_ref, rf_none, rf_some, bV_ret, bV_thr, bA_ret, bA_thr, bX_ret, bX_thr, len4_0, len4_1, len4_2, len4_3, len4_4, true_and, and_true, and_self, if_true, if_false, Option.bind_some, nR_b1, nR_b0, nR_bI, nI_1z, nI_0z, bI_z, if_nn]
    | succ mm ih =>
      intro j H F hj nn g1 g2
      have hl : kk + j < A.length := by omega
      have hg : A[kk + j]? = some A[kk + j] := List.getElem?_eq_getElem hl
      generalize A[kk + j] = w at hg
      obtain ⟨l, l1, _⟩ := A4 (kk + j) w _ hg (List.getElem?_eq_getElem (by omega))
      have lw := hFe.lt l1
      have l1' := nn.ob l1 (by decide) (by simp)
      have wn : w ≠ h.2.1 := by omega
      obtain ⟨H', F', x1, x2, x3, x4⟩ := ih (j + 1) (hput H h.2.1 (arR "TripleStore$Commit" Cm.length (va_up F j (some w)))) (va_up F j (some w)) (by omega) (nn.put (.inr (Nat.le_refl _)) (nn.2.1.lt g1)) hput_e (fun i hi => by
        unfold va_up
        by_cases hij : i = j
        · rw [if_pos hij, hij, hg]
        · rw [if_neg hij]; exact g2 i (by omega))
      refine ⟨H', F', ?_, x2, x3, x4⟩
      rw [← x1, hg, e_X1_undoFrom_13]
      rw [show kk + (j + 1) = kk + j + 1 from rfl]
      have hjN : j < Cm.length := by omega
      simp (disch := first | omega | (simp only [hnew_21, hput_21, hnew_22, hput_22]; omega) | exact isR_ref | exact isR_null | exact isR_rf | exact isR_fmt | assumption | decide) only [e_X1_undoFrom_15, e_X1_undoFrom_18, e_X1_undoFrom_19, e_X1_undoFrom_20, e_X1_undoFrom_22, e_X1_undoFrom_23, e_X1_undoFrom_26, e_X1_undoFrom_28, e_X1_undoFrom_31, e_X1_undoFrom_33, cR_ref, cR_null, cR_rf, c1_int, c1_ref, c1_null, c1_rf, kz_int, kz_ref, kz_null, kz_rf, kz_U, kz_long, nB_null, nB_ref, rf_none, rf_some, bV_ret, bV_thr, bA_ret, bA_thr, bX_ret, bX_thr, len4_0, len4_1, len4_2, len4_3, len4_4, true_and, and_true, and_self, if_true, if_false, Option.bind_some, nR_b1, nR_b0, nR_bI, nI_1z, nI_0z, bI_z, if_nn, gf, pf, clN, aln, gaI, gaL, gaR, saI, saR, isI, ctB, isB, gB, hput_n, hput_e, hput_21, hput_22, hnew_n, hnew_e, hnew_21, hnew_22, Option.bind_some, Option.map_some, List.lookup_cons, List.lookup_nil, beq_self_eq_true, List.getElem?_cons_zero, List.getElem?_cons_succ, List.set_cons_zero, List.set_cons_succ, List.length_cons, List.length_nil, Nat.reduceAdd, Nat.reduceLT, Nat.reduceLeDiff, Nat.reduceBEq, Nat.reduceEqDiff, okv_int, okv_oref, okv_onull, okv_orf, okv_aref, okv_b0, okv_b1, okv_z0, okv_bI, ckI_nI, lt31, leT, reduceCtorEq, List.mem_cons, List.mem_singleton, List.not_mem_nil, or_true, true_or, or_false, false_or, toR_ref, toR_null, ↓reduceIte, nI_add, pk_mul, l1', g1, wn]
  have x0 : Nx [] 1 Cm.length h (hnew h (arR "TripleStore$Commit" Cm.length (fun _ => none)) Cm.length) := (Nx.rfl' hFe).new.mono (fun _ q => q) (by omega) (by omega)
  obtain ⟨H1, F1, a1, a2, a3, a4⟩ := lp1 (Cm.length - kk) 0 (hnew h (arR "TripleStore$Commit" Cm.length (fun _ => none)) Cm.length) (fun _ => none) (by omega) x0 hnew_e (fun i hi => absurd hi (Nat.not_lt_zero _))
  have c1 := a2.ob hc (by decide) (by simp)
  have T1 := hT.fs a2 FS.nil (by simp)
  -- the second loop
  have lp2 : ∀ (mm : Nat) (L : List Tri) (H : AH), mm ≤ Cm.length - kk → H.1 c = some (acE (.ref tr) (.int (nI L.length)) v2 v3 v4 v5 v6 v7 (.int (nI Cm.length)) sb fa ra rc co) → TrA H tr L → okL L (unC ((Cm.drop kk).take mm)) → Nx [c, tr] 0 0 H1 H → ∃ H', gO PG Ω (d + 6) 30 41 [.ref c, va_rf A[kk]?, .ref h.2.1, .int (nI (Cm.length - kk)), .int (nI mm - nI 1)] [] H = some (.returned none, H') ∧ H'.1 c = some (acE (.ref tr) (.int (nI (apL L (unC ((Cm.drop kk).take mm))).length)) v2 v3 v4 v5 v6 v7 (.int (nI Cm.length)) sb fa ra rc co) ∧ TrA H' tr (apL L (unC ((Cm.drop kk).take mm))) ∧ Nx [c, tr] 0 0 H1 H' := by
    intro mm
    induction mm with
    | zero =>
      intro L H hm g1 g2 g3 nn
      refine ⟨H, ?_, g1, g2, nn⟩
      have hneg : (nI 0 - nI 1 < 0) = True := eq_true (by decide)
      rw [e_X1_undoFrom_41]
      simp (disch := first | omega | (simp only [hnew_21, hput_21, hnew_22, hput_22]; omega) | exact isR_ref | exact isR_null | exact isR_rf | exact isR_fmt | assumption | decide) only [e_X1_undoFrom_43, e_X1_undoFrom_63, cR_ref, cR_null, cR_rf, c1_int, c1_ref, c1_null, c1_rf, kz_int, kz_ref, kz_null, kz_rf, kz_U, kz_long, nB_null, nB_ref, rf_none, rf_some, bV_ret, bV_thr, bA_ret, bA_thr, bX_ret, bX_thr, len4_0, len4_1, len4_2, len4_3, len4_4, true_and, and_true, and_self, if_true, if_false, Option.bind_some, nR_b1, nR_b0, nR_bI, nI_1z, nI_0z, bI_z, if_nn, hneg]
    | succ mm ih =>
      intro L H hm g1 g2 g3 nn
      have hl : kk + mm < Cm.length := by omega
      have hg : Cm[kk + mm]? = some Cm[kk + mm] := List.getElem?_eq_getElem hl
      have hgA : A[kk + mm]? = some A[kk + mm] := List.getElem?_eq_getElem (by omega)
      generalize Cm[kk + mm] = C at hg
      generalize A[kk + mm] = w at hgA
      have et : (Cm.drop kk).take (mm + 1) = (Cm.drop kk).take mm ++ [C] := by
        rw [List.take_add_one, List.getElem?_drop, hg]; rfl
      rw [et, unC_snoc] at g3 ⊢
      rw [apL_app]
      obtain ⟨o1, o2⟩ := okL_app g3
      obtain ⟨l, l1, l2⟩ := A4 (kk + mm) w C hgA hg
      have f1' := a2.ar f1 (by simp)
      have hS1 := FS.ct c1 f1'
      have l1a := a2.ob l1 (by decide) (by simp)
      have l1b := nn.ob l1a (by decide) (by have := ne_cl l1a c1 (by decide); have := ne_ca l1a f1'; simp; omega)
      have l2b := ChnR.fs nn hS1 C l (ChnR.fs a2 FS.nil C l l2)
      have a3b := nn.ar a3 (by
        have := hFe.lt f1
        simp; omega)
      obtain ⟨H2, b1, b2, b3, b4⟩ := c_undo (Ω := Ω) (d := d) trivial C l L H l g1 g2 l2b o1 nn.2.1 z1 z2
      have e1 : gM PG Ω (d + 6) 28 [.ref c, va_rf l] H = some (.returned none, H2) := by
        rw [← b1]
        simp (disch := first | omega | (simp only [hnew_21, hput_21, hnew_22, hput_22]; omega) | exact isR_ref | exact isR_null | exact isR_rf | exact isR_fmt | assumption | decide) only [n_X1_undo, e_X1_undo_0, e_X1_undo_1, e_X1_undo_3, e_X1_undo_6, e_X1_undo_7, e_X1_undo_10, e_X1_undo_13, e_X1_undo_14, e_X1_undo_15, e_X1_undo_16, e_X1_undo_19, e_X1_undo_22, e_X1_undo_25, e_X1_undo_28, e_X1_undo_29, e_X1_undo_30, e_X1_undo_33, e_X1_undo_36, e_X1_undo_37, e_X1_undo_40, e_X1_undo_41, e_X1_undo_44, cR_ref, cR_null, cR_rf, c1_int, c1_ref, c1_null, c1_rf, kz_int, kz_ref, kz_null, kz_rf, kz_U, kz_long, nB_null, nB_ref, rf_none, rf_some, bV_ret, bV_thr, bA_ret, bA_thr, bX_ret, bX_thr, len4_0, len4_1, len4_2, len4_3, len4_4, true_and, and_true, and_self, if_true, if_false, Option.bind_some, nR_b1, nR_b0, nR_bI, nI_1z, nI_0z, bI_z, if_nn]
      obtain ⟨H', x1, x2, x3, x4⟩ := ih (apL L (C.map inv)) H2 (by omega) b2 b3 o2 (nn.trans b4)
      refine ⟨H', ?_, x2, x3, x4⟩
      have hF := a4 mm (by omega)
      rw [hgA] at hF
      rw [← x1, e_X1_undoFrom_41]
      simp (disch := first | omega | (simp only [hnew_21, hput_21, hnew_22, hput_22]; omega) | exact isR_ref | exact isR_null | exact isR_rf | exact isR_fmt | assumption | decide) only [e_X1_undoFrom_43, e_X1_undoFrom_46, e_X1_undoFrom_47, e_X1_undoFrom_48, e_X1_undoFrom_50, e_X1_undoFrom_51, e_X1_undoFrom_54, e_X1_undoFrom_57, e_X1_undoFrom_60, cR_ref, cR_null, cR_rf, c1_int, c1_ref, c1_null, c1_rf, kz_int, kz_ref, kz_null, kz_rf, kz_U, kz_long, nB_null, nB_ref, rf_none, rf_some, bV_ret, bV_thr, bA_ret, bA_thr, bX_ret, bX_thr, len4_0, len4_1, len4_2, len4_3, len4_4, true_and, and_true, and_self, if_true, if_false, Option.bind_some, nR_b1, nR_b0, nR_bI, nI_1z, nI_0z, bI_z, if_nn, gf, pf, clN, aln, gaI, gaL, gaR, saI, saR, isI, ctB, isB, gB, hput_n, hput_e, hput_21, hput_22, hnew_n, hnew_e, hnew_21, hnew_22, Option.bind_some, Option.map_some, List.lookup_cons, List.lookup_nil, beq_self_eq_true, List.getElem?_cons_zero, List.getElem?_cons_succ, List.set_cons_zero, List.set_cons_succ, List.length_cons, List.length_nil, Nat.reduceAdd, Nat.reduceLT, Nat.reduceLeDiff, Nat.reduceBEq, Nat.reduceEqDiff, okv_int, okv_oref, okv_onull, okv_orf, okv_aref, okv_b0, okv_b1, okv_z0, okv_bI, ckI_nI, lt31, leT, reduceCtorEq, List.mem_cons, List.mem_singleton, List.not_mem_nil, or_true, true_or, or_false, false_or, toR_ref, toR_null, ↓reduceIte, pk_pred, nI_ng, g1, l1b, a3b, hF, e1, dec1]
  have ek : (Cm.drop kk).take (Cm.length - kk) = Cm.drop kk := by
    rw [← List.length_drop]; exact List.take_length
  obtain ⟨H', b1, b2, b3, b4⟩ := lp2 (Cm.length - kk) L H1 (Nat.le_refl _) c1 T1 (by rw [ek]; exact hok) (Nx.rfl' a2.2.1)
  rw [ek] at b2 b3
  refine ⟨H', ?_, b2, b3, ((a2.mono (fun _ q => nomatch q) (Nat.le_refl _) (Nat.le_refl _)).trans b4)⟩
  rw [← b1]
  simp (disch := first | omega | (simp only [hnew_21, hput_21, hnew_22, hput_22]; omega) | exact isR_ref | exact isR_null | exact isR_rf | exact isR_fmt | assumption | decide) only [n_X1_undoFrom, e_X1_undoFrom_0, e_X1_undoFrom_1, e_X1_undoFrom_4, e_X1_undoFrom_7, e_X1_undoFrom_8, e_X1_undoFrom_9, e_X1_undoFrom_10, e_X1_undoFrom_11, cR_ref, cR_null, cR_rf, c1_int, c1_ref, c1_null, c1_rf, kz_int, kz_ref, kz_null, kz_rf, kz_U, kz_long, nB_null, nB_ref, rf_none, rf_some, bV_ret, bV_thr, bA_ret, bA_thr, bX_ret, bX_thr, len4_0, len4_1, len4_2, len4_3, len4_4, true_and, and_true, and_self, if_true, if_false, Option.bind_some, nR_b1, nR_b0, nR_bI, nI_1z, nI_0z, bI_z, if_nn, gf, pf, clN, aln, gaI, gaL, gaR, saI, saR, isI, ctB, isB, gB, hput_n, hput_e, hput_21, hput_22, hnew_n, hnew_e, hnew_21, hnew_22, Option.bind_some, Option.map_some, List.lookup_cons, List.lookup_nil, beq_self_eq_true, List.getElem?_cons_zero, List.getElem?_cons_succ, List.set_cons_zero, List.set_cons_succ, List.length_cons, List.length_nil, Nat.reduceAdd, Nat.reduceLT, Nat.reduceLeDiff, Nat.reduceBEq, Nat.reduceEqDiff, okv_int, okv_oref, okv_onull, okv_orf, okv_aref, okv_b0, okv_b1, okv_z0, okv_bI, ckI_nI, lt31, leT, reduceCtorEq, List.mem_cons, List.mem_singleton, List.not_mem_nil, or_true, true_or, or_false, false_or, toR_ref, toR_null, ↓reduceIte, hc]
  simp only [Nat.add_zero] at a1
  rw [a1]
  simp (disch := first | omega | (simp only [hnew_21, hput_21, hnew_22, hput_22]; omega) | exact isR_ref | exact isR_null | exact isR_rf | exact isR_fmt | assumption | decide) only [e_X1_undoFrom_36, e_X1_undoFrom_37, e_X1_undoFrom_38, e_X1_undoFrom_39, cR_ref, cR_null, cR_rf, c1_int, c1_ref, c1_null, c1_rf, kz_int, kz_ref, kz_null, kz_rf, kz_U, kz_long, nB_null, nB_ref, rf_none, rf_some, bV_ret, bV_thr, bA_ret, bA_thr, bX_ret, bX_thr, len4_0, len4_1, len4_2, len4_3, len4_4, true_and, and_true, and_self, if_true, if_false, Option.bind_some, nR_b1, nR_b0, nR_bI, nI_1z, nI_0z, bI_z, if_nn]
theorem c_crash_bad (hFe : Fe h) {kk : Int32} (hk : kk < 0 ∨ nI 1000 < kk) : ∃ e h', gM PG Ω (d + 9) 29 [.ref c, .int kk] h = some (.threw e, h') ∧ h'.1 e = some (.inr (24, [])) ∧ Nx [] 1 6 h h' := by
  refine ⟨h.2.1, hnew h (.inr (24, [])) 6, ?_, hnew_e, (Nx.rfl' hFe).new.mono (fun _ q => q) (by omega) (by omega)⟩
  by_cases h1 : kk < 0
  · simp (disch := first | omega | (simp only [hnew_21, hput_21, hnew_22, hput_22]; omega) | exact isR_ref | exact isR_null | exact isR_rf | exact isR_fmt | assumption | decide) only [n_X1_crash, e_X1_crash_0, e_X1_crash_1, e_X1_crash_4, e_X1_crash_5, e_X1_crash_8, e_X1_crash_11, cR_ref, cR_null, cR_rf, c1_int, c1_ref, c1_null, c1_rf, kz_int, kz_ref, kz_null, kz_rf, kz_U, kz_long, nB_null, nB_ref, rf_none, rf_some, bV_ret, bV_thr, bA_ret, bA_thr, bX_ret, bX_thr, len4_0, len4_1, len4_2, len4_3, len4_4, true_and, and_true, and_self, if_true, if_false, Option.bind_some, nR_b1, nR_b0, nR_bI, nI_1z, nI_0z, bI_z, if_nn, h1]
  · have h2 : nI 1000 < kk := by rcases hk with z | z; exact absurd z h1; exact z
    simp (disch := first | omega | (simp only [hnew_21, hput_21, hnew_22, hput_22]; omega) | exact isR_ref | exact isR_null | exact isR_rf | exact isR_fmt | assumption | decide) only [n_X1_crash, e_X1_crash_0, e_X1_crash_1, e_X1_crash_4, e_X1_crash_5, e_X1_crash_8, e_X1_crash_11, cR_ref, cR_null, cR_rf, c1_int, c1_ref, c1_null, c1_rf, kz_int, kz_ref, kz_null, kz_rf, kz_U, kz_long, nB_null, nB_ref, rf_none, rf_some, bV_ret, bV_thr, bA_ret, bA_thr, bX_ret, bX_thr, len4_0, len4_1, len4_2, len4_3, len4_4, true_and, and_true, and_self, if_true, if_false, Option.bind_some, nR_b1, nR_b0, nR_bI, nI_1z, nI_0z, bI_z, if_nn, h1, h2]
theorem c_crash (H : CpS Ω h c L op Cu Cm cm sb fa ra rc co) {kk : Nat} (hkk : kk ≤ 1000) (hok : okL L (Cu.map inv)) (hok2 : okL (apL L (Cu.map inv)) (unC (Cm.drop kk))) (hN : Cm.length ≤ 800) : ∃ h', gM PG Ω (d + 9) 29 [.ref c, .int (nI kk)] h = some (.returned (some (.int (nI (apL (apL L (Cu.map inv)) (unC (Cm.drop kk))).length))), h') ∧ CpS Ω h' c (apL (apL L (Cu.map inv)) (unC (Cm.drop kk))) false [] [] cm sb fa ra rc co ∧ NS 1 Cm.length h h' := by
  obtain ⟨h1, a1, a2, a3⟩ := c_uo (d := d + 1) H hok
  have hc0 := H.cell
  obtain ⟨u0, u3, u5, u6, hc0⟩ := hc0
  obtain ⟨tr, ch, A, hc, hT, hCh, hA, hFe, z1, z2, z3⟩ := a2
  have hA0 := hA
  obtain ⟨A1, A2, A3, A4⟩ := hA0
  have lp : ∀ (mm j : Nat), j + mm = kk → gO PG Ω (d + 8) 29 31 [.ref c, .int (nI kk), va_rf A[j]?, .int (nI j)] [] h1 = bV (gM PG Ω (d + 8) 30 [.ref c, va_rf A[kk]?] h1) (fun h' => gO PG Ω (d + 8) 29 56 [.ref c, .int (nI kk), va_rf A[kk]?, .int (nI (min kk (max j A.length)))] [] h') := by
    intro mm
    induction mm with
    | zero =>
      intro j hj
      have : j = kk := by omega
      subst this
      have hn : ¬ j < j := by omega
      have em : min j (max j A.length) = j := by omega
      rw [e_X1_crash_31, em]
      simp (disch := first | omega | (simp only [hnew_21, hput_21, hnew_22, hput_22]; omega) | exact isR_ref | exact isR_null | exact isR_rf | exact isR_fmt | assumption | decide) only [e_X1_crash_32, e_X1_crash_33, e_X1_crash_51, e_X1_crash_52, e_X1_crash_53, cR_ref, cR_null, cR_rf, c1_int, c1_ref, c1_null, c1_rf, kz_int, kz_ref, kz_null, kz_rf, kz_U, kz_long, nB_null, nB_ref, rf_none, rf_some, bV_ret, bV_thr, bA_ret, bA_thr, bX_ret, bX_thr, len4_0, len4_1, len4_2, len4_3, len4_4, true_and, and_true, and_self, if_true, if_false, Option.bind_some, nR_b1, nR_b0, nR_bI, nI_1z, nI_0z, bI_z, if_nn, gf, pf, clN, aln, gaI, gaL, gaR, saI, saR, isI, ctB, isB, gB, hput_n, hput_e, hput_21, hput_22, hnew_n, hnew_e, hnew_21, hnew_22, Option.bind_some, Option.map_some, List.lookup_cons, List.lookup_nil, beq_self_eq_true, List.getElem?_cons_zero, List.getElem?_cons_succ, List.set_cons_zero, List.set_cons_succ, List.length_cons, List.length_nil, Nat.reduceAdd, Nat.reduceLT, Nat.reduceLeDiff, Nat.reduceBEq, Nat.reduceEqDiff, okv_int, okv_oref, okv_onull, okv_orf, okv_aref, okv_b0, okv_b1, okv_z0, okv_bI, ckI_nI, lt31, leT, reduceCtorEq, List.mem_cons, List.mem_singleton, List.not_mem_nil, or_true, true_or, or_false, false_or, toR_ref, toR_null, ↓reduceIte, hc, ↓nI_lt_if, hn]
    | succ mm ih =>
      intro j hj
      have hlt : j < kk := by omega
      by_cases hl : j < A.length
      · have hg : A[j]? = some A[j] := List.getElem?_eq_getElem hl
        generalize A[j] = w at hg
        obtain ⟨l, l1, _⟩ := A4 j w _ hg (List.getElem?_eq_getElem (by omega))
        have em : min kk (max j A.length) = min kk (max (j + 1) A.length) := by omega
        rw [em, ← ih (j + 1) (by omega), hg, e_X1_crash_31]
        simp (disch := first | omega | (simp only [hnew_21, hput_21, hnew_22, hput_22]; omega) | exact isR_ref | exact isR_null | exact isR_rf | exact isR_fmt | assumption | decide) only [e_X1_crash_32, e_X1_crash_33, e_X1_crash_36, e_X1_crash_37, e_X1_crash_40, e_X1_crash_41, e_X1_crash_44, e_X1_crash_45, e_X1_crash_48, cR_ref, cR_null, cR_rf, c1_int, c1_ref, c1_null, c1_rf, kz_int, kz_ref, kz_null, kz_rf, kz_U, kz_long, nB_null, nB_ref, rf_none, rf_some, bV_ret, bV_thr, bA_ret, bA_thr, bX_ret, bX_thr, len4_0, len4_1, len4_2, len4_3, len4_4, true_and, and_true, and_self, if_true, if_false, Option.bind_some, nR_b1, nR_b0, nR_bI, nI_1z, nI_0z, bI_z, if_nn, gf, pf, clN, aln, gaI, gaL, gaR, saI, saR, isI, ctB, isB, gB, hput_n, hput_e, hput_21, hput_22, hnew_n, hnew_e, hnew_21, hnew_22, Option.bind_some, Option.map_some, List.lookup_cons, List.lookup_nil, beq_self_eq_true, List.getElem?_cons_zero, List.getElem?_cons_succ, List.set_cons_zero, List.set_cons_succ, List.length_cons, List.length_nil, Nat.reduceAdd, Nat.reduceLT, Nat.reduceLeDiff, Nat.reduceBEq, Nat.reduceEqDiff, okv_int, okv_oref, okv_onull, okv_orf, okv_aref, okv_b0, okv_b1, okv_z0, okv_bI, ckI_nI, lt31, leT, reduceCtorEq, List.mem_cons, List.mem_singleton, List.not_mem_nil, or_true, true_or, or_false, false_or, toR_ref, toR_null, ↓reduceIte, nI_add, pk_mul, l1, ↓nI_lt_if, hlt]
      · have em : min kk (max j A.length) = j := by omega
        rw [List.getElem?_eq_none (l := A) (i := j) (by omega), List.getElem?_eq_none (l := A) (i := kk) (by omega), em, e_X1_crash_31]
        simp (disch := first | omega | (simp only [hnew_21, hput_21, hnew_22, hput_22]; omega) | exact isR_ref | exact isR_null | exact isR_rf | exact isR_fmt | assumption | decide) only [e_X1_crash_32, e_X1_crash_33, e_X1_crash_36, e_X1_crash_37, e_X1_crash_51, e_X1_crash_52, e_X1_crash_53, cR_ref, cR_null, cR_rf, c1_int, c1_ref, c1_null, c1_rf, kz_int, kz_ref, kz_null, kz_rf, kz_U, kz_long, nB_null, nB_ref, rf_none, rf_some, bV_ret, bV_thr, bA_ret, bA_thr, bX_ret, bX_thr, len4_0, len4_1, len4_2, len4_3, len4_4, true_and, and_true, and_self, if_true, if_false, Option.bind_some, nR_b1, nR_b0, nR_bI, nI_1z, nI_0z, bI_z, if_nn, gf, pf, clN, aln, gaI, gaL, gaR, saI, saR, isI, ctB, isB, gB, hput_n, hput_e, hput_21, hput_22, hnew_n, hnew_e, hnew_21, hnew_22, Option.bind_some, Option.map_some, List.lookup_cons, List.lookup_nil, beq_self_eq_true, List.getElem?_cons_zero, List.getElem?_cons_succ, List.set_cons_zero, List.set_cons_succ, List.length_cons, List.length_nil, Nat.reduceAdd, Nat.reduceLT, Nat.reduceLeDiff, Nat.reduceBEq, Nat.reduceEqDiff, okv_int, okv_oref, okv_onull, okv_orf, okv_aref, okv_b0, okv_b1, okv_z0, okv_bI, ckI_nI, lt31, leT, reduceCtorEq, List.mem_cons, List.mem_singleton, List.not_mem_nil, or_true, true_or, or_false, false_or, toR_ref, toR_null, ↓reduceIte, hc, ↓nI_lt_if, hlt]
  obtain ⟨h2, b1, b2, b3, b4⟩ := c_uf (Ω := Ω) (d := d + 1) kk hc hT hA hok2 hFe z1 z2 z3 hN
  have hT0 := hT
  obtain ⟨f, f1, _⟩ := hT0
  have hS := FS.ct hc f1
  have C2 : CpS Ω h2 c (apL (apL L (Cu.map inv)) (unC (Cm.drop kk))) false [] Cm cm sb fa ra rc co := ⟨tr, ch, A, b2, b3, ChnR.fs b4 hS _ _ hCh, hA.fs b4 hS (fun q hq => by
    obtain ⟨fs, hfs⟩ := hA.cl hq
    have := ne_cl hfs hc (by decide)
    have := ne_ca hfs f1
    simp; omega), b4.2.1, z1, z2, Nat.le_trans z3 b4.2.2.1⟩
  obtain ⟨h3, d1, d2, d3⟩ := c_sync (d := d + 7) C2
  obtain ⟨w0, w3, w5, w6, hc3⟩ := d2.cell
  refine ⟨h3, ?_, d2, ((a3.trans ⟨[c, tr], b4, fun q hq e he => ?_⟩).trans d3).mono (by omega) (by omega)⟩
  · have k1 : ¬ nI kk < 0 := by rw [nI_ng (by omega)]; exact fun z => z
    have k2 : ¬ 1000 < kk := by omega
    have e0 := lp kk 0 (by omega)
    rw [b1, bV_ret] at e0
    rw [← List.head?_eq_getElem?] at e0
    simp (disch := first | omega | (simp only [hnew_21, hput_21, hnew_22, hput_22]; omega) | exact isR_ref | exact isR_null | exact isR_rf | exact isR_fmt | assumption | decide) only [n_X1_crash, e_X1_crash_0, e_X1_crash_1, e_X1_crash_4, e_X1_crash_5, e_X1_crash_8, e_X1_crash_11, e_X1_crash_19, e_X1_crash_20, cR_ref, cR_null, cR_rf, c1_int, c1_ref, c1_null, c1_rf, kz_int, kz_ref, kz_null, kz_rf, kz_U, kz_long, nB_null, nB_ref, rf_none, rf_some, bV_ret, bV_thr, bA_ret, bA_thr, bX_ret, bX_thr, len4_0, len4_1, len4_2, len4_3, len4_4, true_and, and_true, and_self, if_true, if_false, Option.bind_some, nR_b1, nR_b0, nR_bI, nI_1z, nI_0z, bI_z, if_nn, gf, pf, clN, aln, gaI, gaL, gaR, saI, saR, isI, ctB, isB, gB, hput_n, hput_e, hput_21, hput_22, hnew_n, hnew_e, hnew_21, hnew_22, Option.bind_some, Option.map_some, List.lookup_cons, List.lookup_nil, beq_self_eq_true, List.getElem?_cons_zero, List.getElem?_cons_succ, List.set_cons_zero, List.set_cons_succ, List.length_cons, List.length_nil, Nat.reduceAdd, Nat.reduceLT, Nat.reduceLeDiff, Nat.reduceBEq, Nat.reduceEqDiff, okv_int, okv_oref, okv_onull, okv_orf, okv_aref, okv_b0, okv_b1, okv_z0, okv_bI, ckI_nI, lt31, leT, reduceCtorEq, List.mem_cons, List.mem_singleton, List.not_mem_nil, or_true, true_or, or_false, false_or, toR_ref, toR_null, ↓reduceIte, k1, ↓nI_lt_if, k2, hc0, a1]
    simp (disch := first | omega | (simp only [hnew_21, hput_21, hnew_22, hput_22]; omega) | exact isR_ref | exact isR_null | exact isR_rf | exact isR_fmt | assumption | decide) only [e_X1_crash_23, e_X1_crash_24, e_X1_crash_25, e_X1_crash_28, e_X1_crash_29, e_X1_crash_30, cR_ref, cR_null, cR_rf, c1_int, c1_ref, c1_null, c1_rf, kz_int, kz_ref, kz_null, kz_rf, kz_U, kz_long, nB_null, nB_ref, rf_none, rf_some, bV_ret, bV_thr, bA_ret, bA_thr, bX_ret, bX_thr, len4_0, len4_1, len4_2, len4_3, len4_4, true_and, and_true, and_self, if_true, if_false, Option.bind_some, nR_b1, nR_b0, nR_bI, nI_1z, nI_0z, bI_z, if_nn, gf, pf, clN, aln, gaI, gaL, gaR, saI, saR, isI, ctB, isB, gB, hput_n, hput_e, hput_21, hput_22, hnew_n, hnew_e, hnew_21, hnew_22, Option.bind_some, Option.map_some, List.lookup_cons, List.lookup_nil, beq_self_eq_true, List.getElem?_cons_zero, List.getElem?_cons_succ, List.set_cons_zero, List.set_cons_succ, List.length_cons, List.length_nil, Nat.reduceAdd, Nat.reduceLT, Nat.reduceLeDiff, Nat.reduceBEq, Nat.reduceEqDiff, okv_int, okv_oref, okv_onull, okv_orf, okv_aref, okv_b0, okv_b1, okv_z0, okv_bI, ckI_nI, lt31, leT, reduceCtorEq, List.mem_cons, List.mem_singleton, List.not_mem_nil, or_true, true_or, or_false, false_or, toR_ref, toR_null, ↓reduceIte, hc]
    rw [e0]
    simp (disch := first | omega | (simp only [hnew_21, hput_21, hnew_22, hput_22]; omega) | exact isR_ref | exact isR_null | exact isR_rf | exact isR_fmt | assumption | decide) only [e_X1_crash_56, e_X1_crash_57, cR_ref, cR_null, cR_rf, c1_int, c1_ref, c1_null, c1_rf, kz_int, kz_ref, kz_null, kz_rf, kz_U, kz_long, nB_null, nB_ref, rf_none, rf_some, bV_ret, bV_thr, bA_ret, bA_thr, bX_ret, bX_thr, len4_0, len4_1, len4_2, len4_3, len4_4, true_and, and_true, and_self, if_true, if_false, Option.bind_some, nR_b1, nR_b0, nR_bI, nI_1z, nI_0z, bI_z, if_nn, gf, pf, clN, aln, gaI, gaL, gaR, saI, saR, isI, ctB, isB, gB, hput_n, hput_e, hput_21, hput_22, hnew_n, hnew_e, hnew_21, hnew_22, Option.bind_some, Option.map_some, List.lookup_cons, List.lookup_nil, beq_self_eq_true, List.getElem?_cons_zero, List.getElem?_cons_succ, List.set_cons_zero, List.set_cons_succ, List.length_cons, List.length_nil, Nat.reduceAdd, Nat.reduceLT, Nat.reduceLeDiff, Nat.reduceBEq, Nat.reduceEqDiff, okv_int, okv_oref, okv_onull, okv_orf, okv_aref, okv_b0, okv_b1, okv_z0, okv_bI, ckI_nI, lt31, leT, reduceCtorEq, List.mem_cons, List.mem_singleton, List.not_mem_nil, or_true, true_or, or_false, false_or, toR_ref, toR_null, ↓reduceIte, b2, d1]
    simp (disch := first | omega | (simp only [hnew_21, hput_21, hnew_22, hput_22]; omega) | exact isR_ref | exact isR_null | exact isR_rf | exact isR_fmt | assumption | decide) only [e_X1_crash_60, e_X1_crash_61, e_X1_crash_62, e_X1_crash_65, cR_ref, cR_null, cR_rf, c1_int, c1_ref, c1_null, c1_rf, kz_int, kz_ref, kz_null, kz_rf, kz_U, kz_long, nB_null, nB_ref, rf_none, rf_some, bV_ret, bV_thr, bA_ret, bA_thr, bX_ret, bX_thr, len4_0, len4_1, len4_2, len4_3, len4_4, true_and, and_true, and_self, if_true, if_false, Option.bind_some, nR_b1, nR_b0, nR_bI, nI_1z, nI_0z, bI_z, if_nn, gf, pf, clN, aln, gaI, gaL, gaR, saI, saR, isI, ctB, isB, gB, hput_n, hput_e, hput_21, hput_22, hnew_n, hnew_e, hnew_21, hnew_22, Option.bind_some, Option.map_some, List.lookup_cons, List.lookup_nil, beq_self_eq_true, List.getElem?_cons_zero, List.getElem?_cons_succ, List.set_cons_zero, List.set_cons_succ, List.length_cons, List.length_nil, Nat.reduceAdd, Nat.reduceLT, Nat.reduceLeDiff, Nat.reduceBEq, Nat.reduceEqDiff, okv_int, okv_oref, okv_onull, okv_orf, okv_aref, okv_b0, okv_b1, okv_z0, okv_bI, ckI_nI, lt31, leT, reduceCtorEq, List.mem_cons, List.mem_singleton, List.not_mem_nil, or_true, true_or, or_false, false_or, toR_ref, toR_null, ↓reduceIte, hc3]
  · rcases List.mem_cons.mp hq with z | z
    · rw [z, hc] at he; cases he; exact .inl rfl
    · rw [List.mem_singleton.mp z, f1] at he; cases he; rfl
theorem c_add_bad (H : CpS Ω h c L op Cu Cm cm sb fa ra rc co) (hn : ¬ okTri x y o) : ∃ e h', gM PG Ω (d + 11) 14 [.ref c, .long x, .long y, .long o] h = some (.threw e, h') ∧ h'.1 e = some (.inr (24, [])) ∧ Nx [] 20 91 h h' := by
  obtain ⟨e, h1, b1, b2, b3⟩ := (c_tof (Ω := Ω) (d := d) (x := x) (y := y) (o := o) H.fe H.sz).2 hn
  refine ⟨e, h1, ?_, b2, b3.mono (fun _ q => q) (by omega) (by omega)⟩
  simp (disch := first | omega | (simp only [hnew_21, hput_21, hnew_22, hput_22]; omega) | exact isR_ref | exact isR_null | exact isR_rf | exact isR_fmt | assumption | decide) only [n_X1_add, e_X1_add_0, e_X1_add_1, e_X1_add_2, e_X1_add_4, e_X1_add_7, e_X1_add_9, e_X1_add_10, e_X1_add_12, e_X1_add_15, e_X1_add_18, e_X1_add_19, e_X1_add_20, e_X1_add_21, e_X1_add_24, e_X1_add_26, e_X1_add_29, e_X1_add_37, e_X1_add_38, e_X1_add_40, e_X1_add_43, e_X1_add_44, e_X1_add_45, e_X1_add_47, e_X1_add_50, e_X1_add_51, cR_ref, cR_null, cR_rf, c1_int, c1_ref, c1_null, c1_rf, kz_int, kz_ref, kz_null, kz_rf, kz_U, kz_long, nB_null, nB_ref, rf_none, rf_some, bV_ret, bV_thr, bA_ret, bA_thr, bX_ret, bX_thr, len4_0, len4_1, len4_2, len4_3, len4_4, true_and, and_true, and_self, if_true, if_false, Option.bind_some, nR_b1, nR_b0, nR_bI, nI_1z, nI_0z, bI_z, if_nn, b1]
theorem c_add_in (H : CpS Ω h c L op Cu Cm cm sb fa ra rc co) (hok : okTri x y o) (hm : (x, y, o) ∈ L) : ∃ h', gM PG Ω (d + 11) 14 [.ref c, .long x, .long y, .long o] h = some (.returned (some (.int (nI 0))), h') ∧ Nx [] 20 91 h h' := by
  obtain ⟨a, h1, b1, b2, b3⟩ := (c_tof (Ω := Ω) (d := d) (x := x) (y := y) (o := o) H.fe H.sz).1 hok
  have hlen := H.len
  obtain ⟨tr, ch, A, hc, hT, hCh, hA, hFe, z1, z2, z3⟩ := H.nx b3
  have e1 := (c_find (Ω := Ω) (d := d + 5) hc hT b2).1 hm
  have hf := fiT_lt.mpr hm
  refine ⟨h1, ?_, b3.mono (fun _ q => q) (by omega) (by omega)⟩
  simp (disch := first | omega | (simp only [hnew_21, hput_21, hnew_22, hput_22]; omega) | exact isR_ref | exact isR_null | exact isR_rf | exact isR_fmt | assumption | decide) only [n_X1_add, e_X1_add_0, e_X1_add_1, e_X1_add_2, e_X1_add_4, cR_ref, cR_null, cR_rf, c1_int, c1_ref, c1_null, c1_rf, kz_int, kz_ref, kz_null, kz_rf, kz_U, kz_long, nB_null, nB_ref, rf_none, rf_some, bV_ret, bV_thr, bA_ret, bA_thr, bX_ret, bX_thr, len4_0, len4_1, len4_2, len4_3, len4_4, true_and, and_true, and_self, if_true, if_false, Option.bind_some, nR_b1, nR_b0, nR_bI, nI_1z, nI_0z, bI_z, if_nn, b1]
  simp (disch := first | omega | (simp only [hnew_21, hput_21, hnew_22, hput_22]; omega) | exact isR_ref | exact isR_null | exact isR_rf | exact isR_fmt | assumption | decide) only [e_X1_add_7, e_X1_add_9, e_X1_add_10, e_X1_add_12, e_X1_add_15, e_X1_add_18, e_X1_add_19, cR_ref, cR_null, cR_rf, c1_int, c1_ref, c1_null, c1_rf, kz_int, kz_ref, kz_null, kz_rf, kz_U, kz_long, nB_null, nB_ref, rf_none, rf_some, bV_ret, bV_thr, bA_ret, bA_thr, bX_ret, bX_thr, len4_0, len4_1, len4_2, len4_3, len4_4, true_and, and_true, and_self, if_true, if_false, Option.bind_some, nR_b1, nR_b0, nR_bI, nI_1z, nI_0z, bI_z, if_nn, gf, pf, clN, aln, gaI, gaL, gaR, saI, saR, isI, ctB, isB, gB, hput_n, hput_e, hput_21, hput_22, hnew_n, hnew_e, hnew_21, hnew_22, Option.bind_some, Option.map_some, List.lookup_cons, List.lookup_nil, beq_self_eq_true, List.getElem?_cons_zero, List.getElem?_cons_succ, List.set_cons_zero, List.set_cons_succ, List.length_cons, List.length_nil, Nat.reduceAdd, Nat.reduceLT, Nat.reduceLeDiff, Nat.reduceBEq, Nat.reduceEqDiff, okv_int, okv_oref, okv_onull, okv_orf, okv_aref, okv_b0, okv_b1, okv_z0, okv_bI, ckI_nI, lt31, leT, reduceCtorEq, List.mem_cons, List.mem_singleton, List.not_mem_nil, or_true, true_or, or_false, false_or, toR_ref, toR_null, ↓reduceIte, hc, e1, nI_ng]
theorem c_add_full (H : CpS Ω h c L op Cu Cm cm sb fa ra rc co) (hok : okTri x y o) (hm : (x, y, o) ∉ L) (hl : L.length = 48) : ∃ e h', gM PG Ω (d + 11) 14 [.ref c, .long x, .long y, .long o] h = some (.threw e, h') ∧ h'.1 e = some (.inr (25, [])) ∧ Nx [] 20 91 h h' := by
  obtain ⟨a, h1, b1, b2, b3⟩ := (c_tof (Ω := Ω) (d := d) (x := x) (y := y) (o := o) H.fe H.sz).1 hok
  obtain ⟨tr, ch, A, hc, hT, hCh, hA, hFe, z1, z2, z3⟩ := H.nx b3
  have e1 := (c_find (Ω := Ω) (d := d + 5) hc hT b2).2 hm
  rw [hl] at hc
  refine ⟨h1.2.1, hnew h1 (.inr (25, [])) 6, ?_, hnew_e, b3.new.mono (fun _ q => q) (by omega) (by omega)⟩
  simp (disch := first | omega | (simp only [hnew_21, hput_21, hnew_22, hput_22]; omega) | exact isR_ref | exact isR_null | exact isR_rf | exact isR_fmt | assumption | decide) only [n_X1_add, e_X1_add_0, e_X1_add_1, e_X1_add_2, e_X1_add_4, cR_ref, cR_null, cR_rf, c1_int, c1_ref, c1_null, c1_rf, kz_int, kz_ref, kz_null, kz_rf, kz_U, kz_long, nB_null, nB_ref, rf_none, rf_some, bV_ret, bV_thr, bA_ret, bA_thr, bX_ret, bX_thr, len4_0, len4_1, len4_2, len4_3, len4_4, true_and, and_true, and_self, if_true, if_false, Option.bind_some, nR_b1, nR_b0, nR_bI, nI_1z, nI_0z, bI_z, if_nn, b1]
  simp (disch := first | omega | (simp only [hnew_21, hput_21, hnew_22, hput_22]; omega) | exact isR_ref | exact isR_null | exact isR_rf | exact isR_fmt | assumption | decide) only [e_X1_add_7, e_X1_add_9, e_X1_add_10, e_X1_add_12, e_X1_add_15, e_X1_add_18, e_X1_add_19, e_X1_add_20, e_X1_add_21, e_X1_add_24, e_X1_add_26, e_X1_add_29, cR_ref, cR_null, cR_rf, c1_int, c1_ref, c1_null, c1_rf, kz_int, kz_ref, kz_null, kz_rf, kz_U, kz_long, nB_null, nB_ref, rf_none, rf_some, bV_ret, bV_thr, bA_ret, bA_thr, bX_ret, bX_thr, len4_0, len4_1, len4_2, len4_3, len4_4, true_and, and_true, and_self, if_true, if_false, Option.bind_some, nR_b1, nR_b0, nR_bI, nI_1z, nI_0z, bI_z, if_nn, gf, pf, clN, aln, gaI, gaL, gaR, saI, saR, isI, ctB, isB, gB, hput_n, hput_e, hput_21, hput_22, hnew_n, hnew_e, hnew_21, hnew_22, Option.bind_some, Option.map_some, List.lookup_cons, List.lookup_nil, beq_self_eq_true, List.getElem?_cons_zero, List.getElem?_cons_succ, List.set_cons_zero, List.set_cons_succ, List.length_cons, List.length_nil, Nat.reduceAdd, Nat.reduceLT, Nat.reduceLeDiff, Nat.reduceBEq, Nat.reduceEqDiff, okv_int, okv_oref, okv_onull, okv_orf, okv_aref, okv_b0, okv_b1, okv_z0, okv_bI, ckI_nI, lt31, leT, reduceCtorEq, List.mem_cons, List.mem_singleton, List.not_mem_nil, or_true, true_or, or_false, false_or, toR_ref, toR_null, ↓reduceIte, hc, e1, neg1, ↓nI_eq_if]
theorem c_add_new (H : CpS Ω h c L op Cu Cm cm sb fa ra rc co) (hok : okTri x y o) (hm : (x, y, o) ∉ L) (hl : L.length < 48) : ∃ h', gM PG Ω (d + 11) 14 [.ref c, .long x, .long y, .long o] h = some (.returned (some (.int (nI 1))), h') ∧ (op = true → CpS Ω h' c (L ++ [(x, y, o)]) true ((true, (x, y, o)) :: Cu) Cm cm sb fa ra rc co) ∧ (op = false → CpS Ω h' c (L ++ [(x, y, o)]) false [] (Cm ++ [(true, (x, y, o)) :: Cu]) (cm + 1) sb fa ra rc co) ∧ NS 20 91 h h' := by
  obtain ⟨a, h1, b1, b2, b3⟩ := (c_tof (Ω := Ω) (d := d) (x := x) (y := y) (o := o) H.fe H.sz).1 hok
  obtain ⟨tr, ch, A, hc, hT, hCh, hA, hFe, z1, z2, z3⟩ := H.nx b3
  have e1 := (c_find (Ω := Ω) (d := d + 5) hc hT b2).2 hm
  obtain ⟨h2, d1, d2, d3, d4⟩ := c_place (Ω := Ω) (d := d + 9) hc hT b2 hl hFe z1 z2
  have hT0 := hT
  obtain ⟨f, f1, _⟩ := hT0
  have hS := FS.ct hc f1
  have C2 : CpS Ω h2 c (L ++ [(x, y, o)]) op Cu Cm cm sb fa ra rc co := ⟨tr, ch, A, d2, d3, ChnR.fs d4 hS _ _ hCh, hA.fs d4 hS (fun q hq => by
    obtain ⟨fs, hfs⟩ := hA.cl hq
    have := ne_cl hfs hc (by decide)
    have := ne_ca hfs f1
    simp; omega), d4.2.1, z1, z2, Nat.le_trans z3 d4.2.2.1⟩
  obtain ⟨h3, g1, g2, g3, g4⟩ := c_note (d := d + 6) (b := true) C2 (b2.fs d4 hS)
  have hl48 : ¬ L.length = 48 := by omega
  rw [bI_t] at g1
  refine ⟨h3, ?_, g2, g3, (((NS.of b3).trans ⟨[c, tr], d4, fun q hq e he => ?_⟩).trans g4).mono (by omega) (by omega)⟩
  · simp (disch := first | omega | (simp only [hnew_21, hput_21, hnew_22, hput_22]; omega) | exact isR_ref | exact isR_null | exact isR_rf | exact isR_fmt | assumption | decide) only [n_X1_add, e_X1_add_0, e_X1_add_1, e_X1_add_2, e_X1_add_4, cR_ref, cR_null, cR_rf, c1_int, c1_ref, c1_null, c1_rf, kz_int, kz_ref, kz_null, kz_rf, kz_U, kz_long, nB_null, nB_ref, rf_none, rf_some, bV_ret, bV_thr, bA_ret, bA_thr, bX_ret, bX_thr, len4_0, len4_1, len4_2, len4_3, len4_4, true_and, and_true, and_self, if_true, if_false, Option.bind_some, nR_b1, nR_b0, nR_bI, nI_1z, nI_0z, bI_z, if_nn, b1]
    simp (disch := first | omega | (simp only [hnew_21, hput_21, hnew_22, hput_22]; omega) | exact isR_ref | exact isR_null | exact isR_rf | exact isR_fmt | assumption | decide) only [e_X1_add_7, e_X1_add_9, e_X1_add_10, e_X1_add_12, e_X1_add_15, e_X1_add_18, e_X1_add_19, e_X1_add_20, e_X1_add_21, e_X1_add_24, e_X1_add_26, e_X1_add_29, e_X1_add_37, e_X1_add_38, e_X1_add_40, cR_ref, cR_null, cR_rf, c1_int, c1_ref, c1_null, c1_rf, kz_int, kz_ref, kz_null, kz_rf, kz_U, kz_long, nB_null, nB_ref, rf_none, rf_some, bV_ret, bV_thr, bA_ret, bA_thr, bX_ret, bX_thr, len4_0, len4_1, len4_2, len4_3, len4_4, true_and, and_true, and_self, if_true, if_false, Option.bind_some, nR_b1, nR_b0, nR_bI, nI_1z, nI_0z, bI_z, if_nn, gf, pf, clN, aln, gaI, gaL, gaR, saI, saR, isI, ctB, isB, gB, hput_n, hput_e, hput_21, hput_22, hnew_n, hnew_e, hnew_21, hnew_22, Option.bind_some, Option.map_some, List.lookup_cons, List.lookup_nil, beq_self_eq_true, List.getElem?_cons_zero, List.getElem?_cons_succ, List.set_cons_zero, List.set_cons_succ, List.length_cons, List.length_nil, Nat.reduceAdd, Nat.reduceLT, Nat.reduceLeDiff, Nat.reduceBEq, Nat.reduceEqDiff, okv_int, okv_oref, okv_onull, okv_orf, okv_aref, okv_b0, okv_b1, okv_z0, okv_bI, ckI_nI, lt31, leT, reduceCtorEq, List.mem_cons, List.mem_singleton, List.not_mem_nil, or_true, true_or, or_false, false_or, toR_ref, toR_null, ↓reduceIte, hc, e1, neg1, ↓nI_eq_if, hl48, d1]
    simp (disch := first | omega | (simp only [hnew_21, hput_21, hnew_22, hput_22]; omega) | exact isR_ref | exact isR_null | exact isR_rf | exact isR_fmt | assumption | decide) only [e_X1_add_43, e_X1_add_44, e_X1_add_45, e_X1_add_47, e_X1_add_50, e_X1_add_51, cR_ref, cR_null, cR_rf, c1_int, c1_ref, c1_null, c1_rf, kz_int, kz_ref, kz_null, kz_rf, kz_U, kz_long, nB_null, nB_ref, rf_none, rf_some, bV_ret, bV_thr, bA_ret, bA_thr, bX_ret, bX_thr, len4_0, len4_1, len4_2, len4_3, len4_4, true_and, and_true, and_self, if_true, if_false, Option.bind_some, nR_b1, nR_b0, nR_bI, nI_1z, nI_0z, bI_z, if_nn, gf, pf, clN, aln, gaI, gaL, gaR, saI, saR, isI, ctB, isB, gB, hput_n, hput_e, hput_21, hput_22, hnew_n, hnew_e, hnew_21, hnew_22, Option.bind_some, Option.map_some, List.lookup_cons, List.lookup_nil, beq_self_eq_true, List.getElem?_cons_zero, List.getElem?_cons_succ, List.set_cons_zero, List.set_cons_succ, List.length_cons, List.length_nil, Nat.reduceAdd, Nat.reduceLT, Nat.reduceLeDiff, Nat.reduceBEq, Nat.reduceEqDiff, okv_int, okv_oref, okv_onull, okv_orf, okv_aref, okv_b0, okv_b1, okv_z0, okv_bI, ckI_nI, lt31, leT, reduceCtorEq, List.mem_cons, List.mem_singleton, List.not_mem_nil, or_true, true_or, or_false, false_or, toR_ref, toR_null, ↓reduceIte, d2, g1]
  · rcases List.mem_cons.mp hq with z | z
    · rw [z, hc] at he; cases he; exact .inl rfl
    · rw [List.mem_singleton.mp z, f1] at he; cases he; rfl
theorem c_rem_bad (H : CpS Ω h c L op Cu Cm cm sb fa ra rc co) (hn : ¬ okTri x y o) : ∃ e h', gM PG Ω (d + 11) 21 [.ref c, .long x, .long y, .long o] h = some (.threw e, h') ∧ h'.1 e = some (.inr (24, [])) ∧ Nx [] 20 91 h h' := by
  obtain ⟨e, h1, b1, b2, b3⟩ := (c_tof (Ω := Ω) (d := d) (x := x) (y := y) (o := o) H.fe H.sz).2 hn
  refine ⟨e, h1, ?_, b2, b3.mono (fun _ q => q) (by omega) (by omega)⟩
  simp (disch := first | omega | (simp only [hnew_21, hput_21, hnew_22, hput_22]; omega) | exact isR_ref | exact isR_null | exact isR_rf | exact isR_fmt | assumption | decide) only [n_X1_remove, e_X1_remove_0, e_X1_remove_1, e_X1_remove_2, e_X1_remove_4, e_X1_remove_7, e_X1_remove_9, e_X1_remove_10, e_X1_remove_12, e_X1_remove_15, e_X1_remove_17, e_X1_remove_19, e_X1_remove_22, e_X1_remove_23, e_X1_remove_24, e_X1_remove_25, e_X1_remove_27, e_X1_remove_30, e_X1_remove_31, e_X1_remove_32, e_X1_remove_34, e_X1_remove_37, e_X1_remove_38, cR_ref, cR_null, cR_rf, c1_int, c1_ref, c1_null, c1_rf, kz_int, kz_ref, kz_null, kz_rf, kz_U, kz_long, nB_null, nB_ref, rf_none, rf_some, bV_ret, bV_thr, bA_ret, bA_thr, bX_ret, bX_thr, len4_0, len4_1, len4_2, len4_3, len4_4, true_and, and_true, and_self, if_true, if_false, Option.bind_some, nR_b1, nR_b0, nR_bI, nI_1z, nI_0z, bI_z, if_nn, b1]
theorem c_rem_no (H : CpS Ω h c L op Cu Cm cm sb fa ra rc co) (hok : okTri x y o) (hm : (x, y, o) ∉ L) : ∃ h', gM PG Ω (d + 11) 21 [.ref c, .long x, .long y, .long o] h = some (.returned (some (.int (nI 0))), h') ∧ Nx [] 20 91 h h' := by
  obtain ⟨a, h1, b1, b2, b3⟩ := (c_tof (Ω := Ω) (d := d) (x := x) (y := y) (o := o) H.fe H.sz).1 hok
  obtain ⟨tr, ch, A, hc, hT, hCh, hA, hFe, z1, z2, z3⟩ := H.nx b3
  have e1 := (c_find (Ω := Ω) (d := d + 5) hc hT b2).2 hm
  refine ⟨h1, ?_, b3.mono (fun _ q => q) (by omega) (by omega)⟩
  simp (disch := first | omega | (simp only [hnew_21, hput_21, hnew_22, hput_22]; omega) | exact isR_ref | exact isR_null | exact isR_rf | exact isR_fmt | assumption | decide) only [n_X1_remove, e_X1_remove_0, e_X1_remove_1, e_X1_remove_2, e_X1_remove_4, cR_ref, cR_null, cR_rf, c1_int, c1_ref, c1_null, c1_rf, kz_int, kz_ref, kz_null, kz_rf, kz_U, kz_long, nB_null, nB_ref, rf_none, rf_some, bV_ret, bV_thr, bA_ret, bA_thr, bX_ret, bX_thr, len4_0, len4_1, len4_2, len4_3, len4_4, true_and, and_true, and_self, if_true, if_false, Option.bind_some, nR_b1, nR_b0, nR_bI, nI_1z, nI_0z, bI_z, if_nn, b1]
  simp (disch := first | omega | (simp only [hnew_21, hput_21, hnew_22, hput_22]; omega) | exact isR_ref | exact isR_null | exact isR_rf | exact isR_fmt | assumption | decide) only [e_X1_remove_7, e_X1_remove_9, e_X1_remove_10, e_X1_remove_12, e_X1_remove_15, e_X1_remove_17, e_X1_remove_19, e_X1_remove_22, e_X1_remove_23, cR_ref, cR_null, cR_rf, c1_int, c1_ref, c1_null, c1_rf, kz_int, kz_ref, kz_null, kz_rf, kz_U, kz_long, nB_null, nB_ref, rf_none, rf_some, bV_ret, bV_thr, bA_ret, bA_thr, bX_ret, bX_thr, len4_0, len4_1, len4_2, len4_3, len4_4, true_and, and_true, and_self, if_true, if_false, Option.bind_some, nR_b1, nR_b0, nR_bI, nI_1z, nI_0z, bI_z, if_nn, gf, pf, clN, aln, gaI, gaL, gaR, saI, saR, isI, ctB, isB, gB, hput_n, hput_e, hput_21, hput_22, hnew_n, hnew_e, hnew_21, hnew_22, Option.bind_some, Option.map_some, List.lookup_cons, List.lookup_nil, beq_self_eq_true, List.getElem?_cons_zero, List.getElem?_cons_succ, List.set_cons_zero, List.set_cons_succ, List.length_cons, List.length_nil, Nat.reduceAdd, Nat.reduceLT, Nat.reduceLeDiff, Nat.reduceBEq, Nat.reduceEqDiff, okv_int, okv_oref, okv_onull, okv_orf, okv_aref, okv_b0, okv_b1, okv_z0, okv_bI, ckI_nI, lt31, leT, reduceCtorEq, List.mem_cons, List.mem_singleton, List.not_mem_nil, or_true, true_or, or_false, false_or, toR_ref, toR_null, ↓reduceIte, hc, e1, neg1]
theorem c_rem_yes (H : CpS Ω h c L op Cu Cm cm sb fa ra rc co) (hok : okTri x y o) (hm : (x, y, o) ∈ L) : ∃ h', gM PG Ω (d + 11) 21 [.ref c, .long x, .long y, .long o] h = some (.returned (some (.int (nI 1))), h') ∧ (op = true → CpS Ω h' c (swr L (fiT L (x, y, o))) true ((false, (x, y, o)) :: Cu) Cm cm sb fa ra rc co) ∧ (op = false → CpS Ω h' c (swr L (fiT L (x, y, o))) false [] (Cm ++ [(false, (x, y, o)) :: Cu]) (cm + 1) sb fa ra rc co) ∧ NS 20 91 h h' := by
  obtain ⟨a, h1, b1, b2, b3⟩ := (c_tof (Ω := Ω) (d := d) (x := x) (y := y) (o := o) H.fe H.sz).1 hok
  have hlen := H.len
  obtain ⟨tr, ch, A, hc, hT, hCh, hA, hFe, z1, z2, z3⟩ := H.nx b3
  have e1 := (c_find (Ω := Ω) (d := d + 5) hc hT b2).1 hm
  have hf := fiT_lt.mpr hm
  obtain ⟨h2, d1, d2, d3, d4⟩ := c_take (Ω := Ω) (d := d + 9) hc hT hf hFe z1 z2
  have hT0 := hT
  obtain ⟨f, f1, _⟩ := hT0
  have hS := FS.ct hc f1
  have C2 : CpS Ω h2 c (swr L (fiT L (x, y, o))) op Cu Cm cm sb fa ra rc co := ⟨tr, ch, A, d2, d3, ChnR.fs d4 hS _ _ hCh, hA.fs d4 hS (fun q hq => by
    obtain ⟨fs, hfs⟩ := hA.cl hq
    have := ne_cl hfs hc (by decide)
    have := ne_ca hfs f1
    simp; omega), d4.2.1, z1, z2, Nat.le_trans z3 d4.2.2.1⟩
  obtain ⟨h3, g1, g2, g3, g4⟩ := c_note (d := d + 6) (b := false) C2 (b2.fs d4 hS)
  rw [bI_f] at g1
  refine ⟨h3, ?_, g2, g3, (((NS.of b3).trans ⟨[c, tr], d4, fun q hq e he => ?_⟩).trans g4).mono (by omega) (by omega)⟩
  · simp (disch := first | omega | (simp only [hnew_21, hput_21, hnew_22, hput_22]; omega) | exact isR_ref | exact isR_null | exact isR_rf | exact isR_fmt | assumption | decide) only [n_X1_remove, e_X1_remove_0, e_X1_remove_1, e_X1_remove_2, e_X1_remove_4, cR_ref, cR_null, cR_rf, c1_int, c1_ref, c1_null, c1_rf, kz_int, kz_ref, kz_null, kz_rf, kz_U, kz_long, nB_null, nB_ref, rf_none, rf_some, bV_ret, bV_thr, bA_ret, bA_thr, bX_ret, bX_thr, len4_0, len4_1, len4_2, len4_3, len4_4, true_and, and_true, and_self, if_true, if_false, Option.bind_some, nR_b1, nR_b0, nR_bI, nI_1z, nI_0z, bI_z, if_nn, b1]
    simp (disch := first | omega | (simp only [hnew_21, hput_21, hnew_22, hput_22]; omega) | exact isR_ref | exact isR_null | exact isR_rf | exact isR_fmt | assumption | decide) only [e_X1_remove_7, e_X1_remove_9, e_X1_remove_10, e_X1_remove_12, e_X1_remove_15, e_X1_remove_17, e_X1_remove_19, e_X1_remove_22, e_X1_remove_23, e_X1_remove_24, e_X1_remove_25, e_X1_remove_27, cR_ref, cR_null, cR_rf, c1_int, c1_ref, c1_null, c1_rf, kz_int, kz_ref, kz_null, kz_rf, kz_U, kz_long, nB_null, nB_ref, rf_none, rf_some, bV_ret, bV_thr, bA_ret, bA_thr, bX_ret, bX_thr, len4_0, len4_1, len4_2, len4_3, len4_4, true_and, and_true, and_self, if_true, if_false, Option.bind_some, nR_b1, nR_b0, nR_bI, nI_1z, nI_0z, bI_z, if_nn, gf, pf, clN, aln, gaI, gaL, gaR, saI, saR, isI, ctB, isB, gB, hput_n, hput_e, hput_21, hput_22, hnew_n, hnew_e, hnew_21, hnew_22, Option.bind_some, Option.map_some, List.lookup_cons, List.lookup_nil, beq_self_eq_true, List.getElem?_cons_zero, List.getElem?_cons_succ, List.set_cons_zero, List.set_cons_succ, List.length_cons, List.length_nil, Nat.reduceAdd, Nat.reduceLT, Nat.reduceLeDiff, Nat.reduceBEq, Nat.reduceEqDiff, okv_int, okv_oref, okv_onull, okv_orf, okv_aref, okv_b0, okv_b1, okv_z0, okv_bI, ckI_nI, lt31, leT, reduceCtorEq, List.mem_cons, List.mem_singleton, List.not_mem_nil, or_true, true_or, or_false, false_or, toR_ref, toR_null, ↓reduceIte, hc, e1, nI_ng, d1]
    simp (disch := first | omega | (simp only [hnew_21, hput_21, hnew_22, hput_22]; omega) | exact isR_ref | exact isR_null | exact isR_rf | exact isR_fmt | assumption | decide) only [e_X1_remove_30, e_X1_remove_31, e_X1_remove_32, e_X1_remove_34, e_X1_remove_37, e_X1_remove_38, cR_ref, cR_null, cR_rf, c1_int, c1_ref, c1_null, c1_rf, kz_int, kz_ref, kz_null, kz_rf, kz_U, kz_long, nB_null, nB_ref, rf_none, rf_some, bV_ret, bV_thr, bA_ret, bA_thr, bX_ret, bX_thr, len4_0, len4_1, len4_2, len4_3, len4_4, true_and, and_true, and_self, if_true, if_false, Option.bind_some, nR_b1, nR_b0, nR_bI, nI_1z, nI_0z, bI_z, if_nn, gf, pf, clN, aln, gaI, gaL, gaR, saI, saR, isI, ctB, isB, gB, hput_n, hput_e, hput_21, hput_22, hnew_n, hnew_e, hnew_21, hnew_22, Option.bind_some, Option.map_some, List.lookup_cons, List.lookup_nil, beq_self_eq_true, List.getElem?_cons_zero, List.getElem?_cons_succ, List.set_cons_zero, List.set_cons_succ, List.length_cons, List.length_nil, Nat.reduceAdd, Nat.reduceLT, Nat.reduceLeDiff, Nat.reduceBEq, Nat.reduceEqDiff, okv_int, okv_oref, okv_onull, okv_orf, okv_aref, okv_b0, okv_b1, okv_z0, okv_bI, ckI_nI, lt31, leT, reduceCtorEq, List.mem_cons, List.mem_singleton, List.not_mem_nil, or_true, true_or, or_false, false_or, toR_ref, toR_null, ↓reduceIte, d2, g1]
  · rcases List.mem_cons.mp hq with z | z
    · rw [z, hc] at he; cases he; exact .inl rfl
    · rw [List.mem_singleton.mp z, f1] at he; cases he; rfl
end STO2
