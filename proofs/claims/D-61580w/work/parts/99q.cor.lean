/-! COMPONENT: all of it -/
def CpR (Ω : Om) (h : AH) (c : Nat) (L : List Tri) (op : Bool) (Cu : List Chg) (Cm : List (List Chg)) (cm : Nat) (tx : List Nat) (fa : Int32) (R : List Rw) (co : Nat) : Prop := ∃ (sb bb ra N : Nat) (fr : Nat → Option Nat), CpS Ω h c L op Cu Cm cm sb fa ra (nI R.length) (nI co) ∧ SbR h sb bb 160 tx ∧ h.1 ra = some (arR "TripleStore$Row" N fr) ∧ RwsF h N R fr ∧ N ≤ 150 ∧ LitR Ω h ∧ Ω.sz ≤ sb ∧ Ω.sz ≤ bb ∧ Ω.sz ≤ ra ∧ (∀ x ∈ R, x.2.length = co) ∧ co ≤ 6
/-- cells that the component writes -/
def Wr (e : Ce) : Prop := match e with
  | .inr (ci, _) => ci = 0 ∨ ci = 6 ∨ ci = 22
  | .inl (ty, _) => ty = .object "TripleStore$Triple" ∨ ty = .byte
def NW (k m : Nat) (h h' : AH) : Prop := ∃ S, Nx S k m h h' ∧ ∀ q ∈ S, ∀ e, h.1 q = some e → Wr e
theorem NS.w {k m : Nat} {h h' : AH} (x : NS k m h h') : NW k m h h' := by
  obtain ⟨S, n, hS⟩ := x
  refine ⟨S, n, fun q hq e he => ?_⟩
  have := hS q hq e he
  rcases e with ⟨ty, N, f⟩ | ⟨ci, fs⟩
  · exact .inl this
  · rcases (this : ci = 0 ∨ ci = 6) with z | z
    · exact .inl z
    · exact .inr (.inl z)
theorem NW.of {k m : Nat} {h h' : AH} (n : Nx [] k m h h') : NW k m h h' := ⟨[], n, fun q hq => (nomatch hq)⟩
theorem NW.mono {k m k' m' : Nat} {h h' : AH} (x : NW k m h h') (hk : k ≤ k') (hm : m ≤ m') : NW k' m' h h' := by
  obtain ⟨S, n, hS⟩ := x
  exact ⟨S, n.mono (fun _ q => q) hk hm, hS⟩
/-- cells that others write: the twin's, numbers -/
def Tk (e : Ce) : Prop := match e with
  | .inr (ci, _) => ci = 1
  | .inl (ty, _) => ty = .int ∨ ty = .long ∨ ty = .boolean
section COR
variable {Ω : Om} {d : Nat} {h h' hB : AH} {a b c p q r tr sb bb ra k m cm co : Nat} {L L' : List Tri} {S tx : List Nat} {fa : Int32} {op op' : Bool} {Cu Cu' : List Chg} {Cm Cm' : List (List Chg)} {R : List Rw} {v : Int64}
theorem CpR.up (H : CpR Ω h c L op Cu Cm cm tx fa R co) : ∃ sb ra, CpS Ω h c L op Cu Cm cm sb fa ra (nI R.length) (nI co) ∧ ∀ {h' : AH} {L' : List Tri} {op' : Bool} {Cu' : List Chg} {Cm' : List (List Chg)} {cm' k m : Nat}, CpS Ω h' c L' op' Cu' Cm' cm' sb fa ra (nI R.length) (nI co) → NS k m h h' → CpR Ω h' c L' op' Cu' Cm' cm' tx fa R co := by
  obtain ⟨sb, bb, ra, N, fr, h1, h2, h3, h4, h5, h6, h7, h8, h9, h10, h11⟩ := H
  refine ⟨sb, ra, h1, fun {h' L' op' Cu' Cm' cm' k m} g n => ?_⟩
  obtain ⟨S, n1, n2, n3⟩ := n.fs
  have h20 := h2
  obtain ⟨z, f, s1, s2, _⟩ := h20
  exact ⟨sb, bb, ra, N, fr, g, h2.nx n1 (So.na n3 s1 (by decide)) (So.nr n3 s2 (fun z => nomatch z)), n1.ar h3 (So.nr n3 h3 (by show FieldType.object "TripleStore$Row" ≠ FieldType.object "TripleStore$Triple"; decide)), h4.fs n1 n2, h5, h6.fs n1 n2, h7, h8, h9, h10, h11⟩
theorem CpR.nx (H : CpR Ω h c L op Cu Cm cm tx fa R co) (n : Nx [] k m h h') : CpR Ω h' c L op Cu Cm cm tx fa R co := by
  obtain ⟨sb, ra, h1, h2⟩ := H.up
  exact h2 (h1.nx n) (NS.of n)
theorem CpR.fe (H : CpR Ω h c L op Cu Cm cm tx fa R co) : Fe h := by
  obtain ⟨sb, ra, h1, h2⟩ := H.up
  exact h1.fe
theorem CpR.sz (H : CpR Ω h c L op Cu Cm cm tx fa R co) : Ω.sz ≤ h.2.1 := by
  obtain ⟨sb, ra, h1, h2⟩ := H.up
  exact h1.sz
theorem CpR.len (H : CpR Ω h c L op Cu Cm cm tx fa R co) : L.length ≤ 48 := by
  obtain ⟨sb, ra, h1, h2⟩ := H.up
  exact h1.len
theorem CpR.cl (H : CpR Ω h c L op Cu Cm cm tx fa R co) : ∃ fs, h.1 c = some (.inr (0, fs)) := by
  obtain ⟨sb, ra, h1, h2⟩ := H.up
  obtain ⟨v0, v3, v5, v6, hc⟩ := h1.cell
  exact ⟨_, hc⟩
theorem FS.sbb (hB : SbR h sb bb 160 tx) : FS h [sb, bb] := fun q hq e he => by
  obtain ⟨z, f, s1, s2, _⟩ := hB
  rcases List.mem_cons.mp hq with w | w
  · rw [w, s1] at he; cases he; show 22 ∉ _; decide
  · rw [List.mem_singleton.mp w, s2] at he; cases he; exact ⟨(fun z => nomatch z), fun _ => by decide⟩
theorem CpS.txx {fa rc co : Int32} (H : CpS Ω h c L op Cu Cm cm sb fa ra rc co) (hB : SbR h sb bb 160 tx) (n : Nx [sb, bb] k m h h') : CpS Ω h' c L op Cu Cm cm sb fa ra rc co := by
  have hS := FS.sbb hB
  obtain ⟨z, f, s1, s2, _⟩ := hB
  obtain ⟨tr, ch, A, hc, hT, hCh, hA, hFe, z1, z2, z3⟩ := H
  have hT0 := hT
  obtain ⟨f', f1, _⟩ := hT0
  have n1 := ne_cl hc s1 (by decide)
  have n2 := ne_ca hc s2
  have n3 := ne_ca s1 f1
  have n4 : tr ≠ bb := fun q => by rw [q, s2] at f1; cases f1
  exact ⟨tr, ch, A, n.ob hc (by decide) (by simp; omega), hT.fs n hS (by simp; omega), ChnR.fs n hS _ _ hCh, hA.fs n hS (fun q hq => by
    obtain ⟨fs, hfs⟩ := hA.cl hq
    have := ne_cl hfs s1 (by decide)
    have := ne_ca hfs s2
    simp; omega), n.2.1, z1, z2, Nat.le_trans z3 n.2.2.1⟩
theorem c_ap1 {n : Nat} (hn : n ≤ 8) : ∀ (mm i : Nat) (l5 : Value), i + mm = n → (∀ j, j < i → 32 ≤ byt v j ∧ byt v j ≤ 126) → (okB v n → ∃ l5', gO PG Ω (d + 8) 31 22 [.ref c, .long v, U, .int (nI n), .int (nI i), l5] [] h = gO PG Ω (d + 8) 31 70 [.ref c, .long v, U, .int (nI n), .int (nI n), l5'] [] h) ∧ (¬ okB v n → gO PG Ω (d + 8) 31 22 [.ref c, .long v, U, .int (nI n), .int (nI i), l5] [] h = some (.threw h.2.1, hnew h (.inr (24, [])) 6)) := by
  intro mm
  induction mm with
  | zero =>
    intro i l5 hi hb
    have : i = n := by omega
    subst this
    refine ⟨fun _ => ⟨l5, ?_⟩, fun q => absurd hb q⟩
    rw [e_X1_append_22]
    simp (disch := first | omega | (simp only [hnew_21, hput_21, hnew_22, hput_22]; omega) | exact isR_ref | exact isR_null | exact isR_rf | exact isR_fmt | assumption | decide) only [e_X1_append_24, e_X1_append_25, cR_ref, cR_null, cR_rf, c1_int, c1_ref, c1_null, c1_rf, kz_int, kz_ref, kz_null, kz_rf, kz_U, kz_long, nB_null, nB_ref, rf_none, rf_some, bV_ret, bV_thr, bA_ret, bA_thr, bX_ret, bX_thr, len4_0, len4_1, len4_2, len4_3, len4_4, true_and, and_true, and_self, if_true, if_false, Option.bind_some, nR_b1, nR_b0, nR_bI, nI_1z, nI_0z, bI_z, if_nn, ↓nI_lt_if, Nat.lt_irrefl, ↓reduceIte]
  | succ mm ih =>
    intro i l5 hi hb
    have hil : i < n := by omega
    have hbl := byt_lt v i
    by_cases hc : 32 ≤ byt v i ∧ byt v i ≤ 126
    · obtain ⟨g1, g2⟩ := ih (i + 1) (.int (nI (byt v i))) (by omega) (fun j hj => by
        rcases Nat.lt_or_ge j i with z | z
        · exact hb j z
        · have : j = i := by omega
          rw [this]; exact hc)
      have eg : gO PG Ω (d + 8) 31 22 [.ref c, .long v, U, .int (nI n), .int (nI i), l5] [] h = gO PG Ω (d + 8) 31 22 [.ref c, .long v, U, .int (nI n), .int (nI (i + 1)), .int (nI (byt v i))] [] h := by
        have c1 : ¬ byt v i < 32 := by omega
        have c2 : ¬ 126 < byt v i := by omega
        rw [e_X1_append_22]
        simp (disch := first | omega | (simp only [hnew_21, hput_21, hnew_22, hput_22]; omega) | exact isR_ref | exact isR_null | exact isR_rf | exact isR_fmt | assumption | decide) only [e_X1_append_24, e_X1_append_25, e_X1_append_28, e_X1_append_29, e_X1_append_31, e_X1_append_33, e_X1_append_34, e_X1_append_35, e_X1_append_36, e_X1_append_39, e_X1_append_40, e_X1_append_42, e_X1_append_44, e_X1_append_46, e_X1_append_49, e_X1_append_51, e_X1_append_53, e_X1_append_56, e_X1_append_64, e_X1_append_67, cR_ref, cR_null, cR_rf, c1_int, c1_ref, c1_null, c1_rf, kz_int, kz_ref, kz_null, kz_rf, kz_U, kz_long, nB_null, nB_ref, rf_none, rf_some, bV_ret, bV_thr, bA_ret, bA_thr, bX_ret, bX_thr, len4_0, len4_1, len4_2, len4_3, len4_4, true_and, and_true, and_self, if_true, if_false, Option.bind_some, nR_b1, nR_b0, nR_bI, nI_1z, nI_0z, bI_z, if_nn, nI_add, pk_mul, ↓nI_lt_if, hil, byt_eq, c1, c2, ↓reduceIte]
      rw [eg]
      exact ⟨g1, g2⟩
    · refine ⟨fun q => absurd (q i hil) hc, fun _ => ?_⟩
      rw [e_X1_append_22]
      by_cases c1 : byt v i < 32
      · simp (disch := first | omega | (simp only [hnew_21, hput_21, hnew_22, hput_22]; omega) | exact isR_ref | exact isR_null | exact isR_rf | exact isR_fmt | assumption | decide) only [e_X1_append_24, e_X1_append_25, e_X1_append_28, e_X1_append_29, e_X1_append_31, e_X1_append_33, e_X1_append_34, e_X1_append_35, e_X1_append_36, e_X1_append_39, e_X1_append_40, e_X1_append_42, e_X1_append_44, e_X1_append_46, e_X1_append_49, e_X1_append_51, e_X1_append_53, e_X1_append_56, e_X1_append_64, e_X1_append_67, cR_ref, cR_null, cR_rf, c1_int, c1_ref, c1_null, c1_rf, kz_int, kz_ref, kz_null, kz_rf, kz_U, kz_long, nB_null, nB_ref, rf_none, rf_some, bV_ret, bV_thr, bA_ret, bA_thr, bX_ret, bX_thr, len4_0, len4_1, len4_2, len4_3, len4_4, true_and, and_true, and_self, if_true, if_false, Option.bind_some, nR_b1, nR_b0, nR_bI, nI_1z, nI_0z, bI_z, if_nn, nI_add, pk_mul, ↓nI_lt_if, hil, byt_eq, c1, ↓reduceIte]
      · have c2 : 126 < byt v i := by omega
        simp (disch := first | omega | (simp only [hnew_21, hput_21, hnew_22, hput_22]; omega) | exact isR_ref | exact isR_null | exact isR_rf | exact isR_fmt | assumption | decide) only [e_X1_append_24, e_X1_append_25, e_X1_append_28, e_X1_append_29, e_X1_append_31, e_X1_append_33, e_X1_append_34, e_X1_append_35, e_X1_append_36, e_X1_append_39, e_X1_append_40, e_X1_append_42, e_X1_append_44, e_X1_append_46, e_X1_append_49, e_X1_append_51, e_X1_append_53, e_X1_append_56, e_X1_append_64, e_X1_append_67, cR_ref, cR_null, cR_rf, c1_int, c1_ref, c1_null, c1_rf, kz_int, kz_ref, kz_null, kz_rf, kz_U, kz_long, nB_null, nB_ref, rf_none, rf_some, bV_ret, bV_thr, bA_ret, bA_thr, bX_ret, bX_thr, len4_0, len4_1, len4_2, len4_3, len4_4, true_and, and_true, and_self, if_true, if_false, Option.bind_some, nR_b1, nR_b0, nR_bI, nI_1z, nI_0z, bI_z, if_nn, nI_add, pk_mul, ↓nI_lt_if, hil, byt_eq, c1, c2, ↓reduceIte]
theorem c_ap2 {v0 v1 v2 v3 v4 v5 v6 v7 v8 : Value} {rc co : Int32} {w3 : Int32} (z1 : Ω.sz ≤ sb) (z2 : Ω.sz ≤ bb) : ∀ (mm : Nat) (H : AH) (cs : List Nat) (l5 : Value), mm ≤ 8 → H.1 c = some (acE v0 v1 v2 v3 v4 v5 v6 v7 v8 sb fa ra rc co) → SbR H sb bb 160 cs → Fe H → cs.length + mm ≤ 160 → okB v mm → ∃ H', gO PG Ω (d + 3) 31 98 [.ref c, .long v, U, .int w3, .int (nI mm - nI 1), l5] [] H = some (.returned (some (.int (nI (cs ++ apB v mm).length))), H') ∧ SbR H' sb bb 160 (cs ++ apB v mm) ∧ Nx [sb, bb] 0 0 H H' := by
  intro mm
  induction mm with
  | zero =>
    intro H cs l5 hm hc hB hFe hl ho
    have e : cs ++ apB v 0 = cs := by rw [show apB v 0 = [] from rfl, List.append_nil]
    rw [e]
    refine ⟨H, ?_, hB, Nx.rfl' hFe⟩
    have e0 := bb_len (Ω := Ω) (d := d + 1) hB
    obtain ⟨z, f, s1, s2, _⟩ := hB
    have hneg : (nI 0 - nI 1 < 0) = True := eq_true (by decide)
    rw [e_X1_append_98]
    simp (disch := first | omega | (simp only [hnew_21, hput_21, hnew_22, hput_22]; omega) | exact isR_ref | exact isR_null | exact isR_rf | exact isR_fmt | assumption | decide) only [e_X1_append_100, e_X1_append_130, e_X1_append_131, e_X1_append_134, e_X1_append_137, cR_ref, cR_null, cR_rf, c1_int, c1_ref, c1_null, c1_rf, kz_int, kz_ref, kz_null, kz_rf, kz_U, kz_long, nB_null, nB_ref, rf_none, rf_some, bV_ret, bV_thr, bA_ret, bA_thr, bX_ret, bX_thr, len4_0, len4_1, len4_2, len4_3, len4_4, true_and, and_true, and_self, if_true, if_false, Option.bind_some, nR_b1, nR_b0, nR_bI, nI_1z, nI_0z, bI_z, if_nn, gf, pf, clN, aln, gaI, gaL, gaR, saI, saR, isI, ctB, isB, gB, hput_n, hput_e, hput_21, hput_22, hnew_n, hnew_e, hnew_21, hnew_22, Option.bind_some, Option.map_some, List.lookup_cons, List.lookup_nil, beq_self_eq_true, List.getElem?_cons_zero, List.getElem?_cons_succ, List.set_cons_zero, List.set_cons_succ, List.length_cons, List.length_nil, Nat.reduceAdd, Nat.reduceLT, Nat.reduceLeDiff, Nat.reduceBEq, Nat.reduceEqDiff, okv_int, okv_oref, okv_onull, okv_orf, okv_aref, okv_b0, okv_b1, okv_z0, okv_bI, ckI_nI, lt31, leT, reduceCtorEq, List.mem_cons, List.mem_singleton, List.not_mem_nil, or_true, true_or, or_false, false_or, toR_ref, toR_null, ↓reduceIte, hneg, hc, s1, e0]
  | succ mm ih =>
    intro H cs l5 hm hc hB hFe hl ho
    have hb := ho mm (by omega)
    obtain ⟨H1, a1, a2, a3, a4, a5⟩ := bb_app (Ω := Ω) (d := d) (c := byt v mm) z1 z2 hFe hB (by omega) (by omega)
    have hB0 := hB
    obtain ⟨z, f, s1, s2, _⟩ := hB0
    have n1 := ne_cl hc s1 (by decide)
    have n2 := ne_ca hc s2
    obtain ⟨H', b1, b2, b3⟩ := ih H1 (cs ++ [byt v mm]) l5 (by omega) (a3.ob hc (by decide) (by simp; omega)) a2 a3.2.1 (by rw [List.length_append, List.length_singleton]; omega) (fun i hi => ho i (by omega))
    have ea : cs ++ apB v (mm + 1) = cs ++ [byt v mm] ++ apB v mm := by simp [apB]
    rw [ea]
    refine ⟨H', ?_, b2, a3.trans b3⟩
    rw [← b1, e_X1_append_98]
    simp (disch := first | omega | (simp only [hnew_21, hput_21, hnew_22, hput_22]; omega) | exact isR_ref | exact isR_null | exact isR_rf | exact isR_fmt | assumption | decide) only [e_X1_append_100, e_X1_append_103, e_X1_append_104, e_X1_append_107, e_X1_append_108, e_X1_append_110, e_X1_append_112, e_X1_append_113, e_X1_append_114, e_X1_append_115, e_X1_append_118, e_X1_append_119, e_X1_append_120, e_X1_append_123, e_X1_append_124, e_X1_append_127, cR_ref, cR_null, cR_rf, c1_int, c1_ref, c1_null, c1_rf, kz_int, kz_ref, kz_null, kz_rf, kz_U, kz_long, nB_null, nB_ref, rf_none, rf_some, bV_ret, bV_thr, bA_ret, bA_thr, bX_ret, bX_thr, len4_0, len4_1, len4_2, len4_3, len4_4, true_and, and_true, and_self, if_true, if_false, Option.bind_some, nR_b1, nR_b0, nR_bI, nI_1z, nI_0z, bI_z, if_nn, gf, pf, clN, aln, gaI, gaL, gaR, saI, saR, isI, ctB, isB, gB, hput_n, hput_e, hput_21, hput_22, hnew_n, hnew_e, hnew_21, hnew_22, Option.bind_some, Option.map_some, List.lookup_cons, List.lookup_nil, beq_self_eq_true, List.getElem?_cons_zero, List.getElem?_cons_succ, List.set_cons_zero, List.set_cons_succ, List.length_cons, List.length_nil, Nat.reduceAdd, Nat.reduceLT, Nat.reduceLeDiff, Nat.reduceBEq, Nat.reduceEqDiff, okv_int, okv_oref, okv_onull, okv_orf, okv_aref, okv_b0, okv_b1, okv_z0, okv_bI, ckI_nI, lt31, leT, reduceCtorEq, List.mem_cons, List.mem_singleton, List.not_mem_nil, or_true, true_or, or_false, false_or, toR_ref, toR_null, ↓reduceIte, nI_add, pk_mul, pk_pred, nI_ng, byt_eq, ch16, hc, s1, a1, dec1]
theorem c_append (H : CpR Ω h c L op Cu Cm cm tx fa R co) {n : Int32} : ((sAp tx v n).1 = 0 ∧ ∃ h', gM PG Ω (d + 9) 31 [.ref c, .long v, .int n] h = some (.returned (some (.int (nI (sAp tx v n).2.1))), h') ∧ CpR Ω h' c L op Cu Cm cm (sAp tx v n).2.2 fa R co ∧ NW 0 0 h h') ∨ ((sAp tx v n).1 = 1 ∧ (sAp tx v n).2.2 = tx ∧ ∃ e h', gM PG Ω (d + 9) 31 [.ref c, .long v, .int n] h = some (.threw e, h') ∧ h'.1 e = some (.inr (24, [])) ∧ Nx [] 1 6 h h') ∨ ((sAp tx v n).1 = 2 ∧ (sAp tx v n).2.2 = tx ∧ ∃ e h', gM PG Ω (d + 9) 31 [.ref c, .long v, .int n] h = some (.threw e, h') ∧ h'.1 e = some (.inr (25, [])) ∧ Nx [] 1 6 h h') := by
  have hFe := H.fe
  have nx1 : ∀ {ci : Nat}, Nx [] 1 6 h (hnew h (.inr (ci, [])) 6) := (Nx.rfl' hFe).new.mono (fun _ q => q) (by omega) (by omega)
  by_cases h1 : nI 1 ≤ n ∧ n ≤ nI 8
  · obtain ⟨mm, hm8, rfl⟩ := nI_of2 (M := nI 8) (n := 8) (by decide) (fun q => absurd h1.1 (by
      have := Int32.lt_iff_toInt_lt.mp q
      intro z
      have z' := Int32.le_iff_toInt_le.mp z
      have e1 : (nI 1).toInt = 1 := by decide
      have e0 : (0 : Int32).toInt = 0 := by decide
      omega)) h1.2
    have hm1 : 1 ≤ mm := (nI_leI (by decide) (by omega)).mp h1.1
    have hcl : (nI mm).toNatClampNeg = mm := nI_clamp (by omega)
    have k1 : ¬ mm < 1 := by omega
    have k2 : ¬ 8 < mm := by omega
    obtain ⟨g1, g2⟩ := c_ap1 (Ω := Ω) (d := d) (h := h) (c := c) (v := v) hm8 mm 0 U (by omega) (fun j hj => absurd hj (Nat.not_lt_zero j))
    have e0 : gM PG Ω (d + 9) 31 [.ref c, .long v, .int (nI mm)] h = gO PG Ω (d + 8) 31 22 [.ref c, .long v, U, .int (nI mm), .int (nI 0), U] [] h := by
      simp (disch := first | omega | (simp only [hnew_21, hput_21, hnew_22, hput_22]; omega) | exact isR_ref | exact isR_null | exact isR_rf | exact isR_fmt | assumption | decide) only [n_X1_append, e_X1_append_0, e_X1_append_1, e_X1_append_2, e_X1_append_5, e_X1_append_6, e_X1_append_8, e_X1_append_11, e_X1_append_19, e_X1_append_20, cR_ref, cR_null, cR_rf, c1_int, c1_ref, c1_null, c1_rf, kz_int, kz_ref, kz_null, kz_rf, kz_U, kz_long, nB_null, nB_ref, rf_none, rf_some, bV_ret, bV_thr, bA_ret, bA_thr, bX_ret, bX_thr, len4_0, len4_1, len4_2, len4_3, len4_4, true_and, and_true, and_self, if_true, if_false, Option.bind_some, nR_b1, nR_b0, nR_bI, nI_1z, nI_0z, bI_z, if_nn, ↓nI_lt_if, k1, k2, ↓reduceIte]
    rw [e0]
    by_cases h2 : okB v mm
    · have hd : dec (nI 1 ≤ nI mm ∧ nI mm ≤ nI 8 ∧ okB v (nI mm).toNatClampNeg) = true := dec_t ⟨h1.1, h1.2, by rw [hcl]; exact h2⟩
      obtain ⟨l5, g3⟩ := g1 h2
      rw [g3]
      obtain ⟨sb, bb, ra, N, fr, a1, a2, a3, a4, a5, a6, a7, a8, a9, a10, a11⟩ := H
      have hl160 : tx.length ≤ 160 := by
        obtain ⟨_, _, _, _, _, _, z, _⟩ := a2
        exact z
      obtain ⟨v0, v3, v5, v6, hc⟩ := a1.cell
      have e3 := bb_len (Ω := Ω) (d := d + 6) a2
      have a20 := a2
      obtain ⟨z, f, s1, s2, _⟩ := a20
      by_cases h3 : 160 < tx.length + mm
      · have e : sAp tx v (nI mm) = (2, 0, tx) := by unfold sAp; rw [if_neg (by rw [hd]; decide), hcl, if_pos h3]
        rw [e]
        refine .inr (.inr ⟨rfl, rfl, h.2.1, hnew h (.inr (25, [])) 6, ?_, hnew_e, nx1⟩)
        simp (disch := first | omega | (simp only [hnew_21, hput_21, hnew_22, hput_22]; omega) | exact isR_ref | exact isR_null | exact isR_rf | exact isR_fmt | assumption | decide) only [e_X1_append_70, e_X1_append_71, e_X1_append_74, e_X1_append_77, e_X1_append_78, e_X1_append_79, e_X1_append_82, e_X1_append_85, cR_ref, cR_null, cR_rf, c1_int, c1_ref, c1_null, c1_rf, kz_int, kz_ref, kz_null, kz_rf, kz_U, kz_long, nB_null, nB_ref, rf_none, rf_some, bV_ret, bV_thr, bA_ret, bA_thr, bX_ret, bX_thr, len4_0, len4_1, len4_2, len4_3, len4_4, true_and, and_true, and_self, if_true, if_false, Option.bind_some, nR_b1, nR_b0, nR_bI, nI_1z, nI_0z, bI_z, if_nn, gf, pf, clN, aln, gaI, gaL, gaR, saI, saR, isI, ctB, isB, gB, hput_n, hput_e, hput_21, hput_22, hnew_n, hnew_e, hnew_21, hnew_22, Option.bind_some, Option.map_some, List.lookup_cons, List.lookup_nil, beq_self_eq_true, List.getElem?_cons_zero, List.getElem?_cons_succ, List.set_cons_zero, List.set_cons_succ, List.length_cons, List.length_nil, Nat.reduceAdd, Nat.reduceLT, Nat.reduceLeDiff, Nat.reduceBEq, Nat.reduceEqDiff, okv_int, okv_oref, okv_onull, okv_orf, okv_aref, okv_b0, okv_b1, okv_z0, okv_bI, ckI_nI, lt31, leT, reduceCtorEq, List.mem_cons, List.mem_singleton, List.not_mem_nil, or_true, true_or, or_false, false_or, toR_ref, toR_null, ↓reduceIte, nI_add, pk_mul, hc, s1, e3, ↓nI_lt_if, h3]
      · have e : sAp tx v (nI mm) = (0, tx.length + mm, tx ++ apB v mm) := by unfold sAp; rw [if_neg (by rw [hd]; decide), hcl, if_neg h3]
        rw [e]
        obtain ⟨h', b1, b2, b3⟩ := c_ap2 (Ω := Ω) (d := d + 5) (w3 := nI mm) a7 a8 mm h tx l5 hm8 hc a2 hFe (by omega) h2
        have hS := FS.sbb a2
        have nr : ra ∉ [sb, bb] := by
          have := ne_ca s1 a3
          have : ra ≠ bb := fun q => by rw [q, s2] at a3; cases a3
          simp; omega
        refine .inl ⟨rfl, h', ?_, ⟨sb, bb, ra, N, fr, a1.txx a2 b3, b2, b3.ar a3 nr, a4.fs b3 hS, a5, a6.fs b3 hS, a7, a8, a9, a10, a11⟩, ⟨[sb, bb], b3, fun q hq e he => ?_⟩⟩
        · rw [List.length_append, apB_len] at b1
          rw [← b1]
          simp (disch := first | omega | (simp only [hnew_21, hput_21, hnew_22, hput_22]; omega) | exact isR_ref | exact isR_null | exact isR_rf | exact isR_fmt | assumption | decide) only [e_X1_append_70, e_X1_append_71, e_X1_append_74, e_X1_append_77, e_X1_append_78, e_X1_append_79, e_X1_append_82, e_X1_append_85, e_X1_append_93, e_X1_append_94, e_X1_append_95, e_X1_append_96, cR_ref, cR_null, cR_rf, c1_int, c1_ref, c1_null, c1_rf, kz_int, kz_ref, kz_null, kz_rf, kz_U, kz_long, nB_null, nB_ref, rf_none, rf_some, bV_ret, bV_thr, bA_ret, bA_thr, bX_ret, bX_thr, len4_0, len4_1, len4_2, len4_3, len4_4, true_and, and_true, and_self, if_true, if_false, Option.bind_some, nR_b1, nR_b0, nR_bI, nI_1z, nI_0z, bI_z, if_nn, gf, pf, clN, aln, gaI, gaL, gaR, saI, saR, isI, ctB, isB, gB, hput_n, hput_e, hput_21, hput_22, hnew_n, hnew_e, hnew_21, hnew_22, Option.bind_some, Option.map_some, List.lookup_cons, List.lookup_nil, beq_self_eq_true, List.getElem?_cons_zero, List.getElem?_cons_succ, List.set_cons_zero, List.set_cons_succ, List.length_cons, List.length_nil, Nat.reduceAdd, Nat.reduceLT, Nat.reduceLeDiff, Nat.reduceBEq, Nat.reduceEqDiff, okv_int, okv_oref, okv_onull, okv_orf, okv_aref, okv_b0, okv_b1, okv_z0, okv_bI, ckI_nI, lt31, leT, reduceCtorEq, List.mem_cons, List.mem_singleton, List.not_mem_nil, or_true, true_or, or_false, false_or, toR_ref, toR_null, ↓reduceIte, nI_add, pk_mul, hc, s1, e3, ↓nI_lt_if, h3]
        · rcases List.mem_cons.mp hq with w | w
          · rw [w, s1] at he; cases he; exact .inr (.inr rfl)
          · rw [List.mem_singleton.mp w, s2] at he; cases he; exact .inr rfl
    · have e : sAp tx v (nI mm) = (1, 0, tx) := by unfold sAp; rw [if_pos (dec_f (fun q => h2 (by have := q.2.2; rwa [hcl] at this)))]
      rw [e]
      exact .inr (.inl ⟨rfl, rfl, _, _, g2 h2, hnew_e, nx1⟩)
  · have e : sAp tx v n = (1, 0, tx) := by unfold sAp; rw [if_pos (dec_f (fun q => h1 ⟨q.1, q.2.1⟩))]
    rw [e]
    refine .inr (.inl ⟨rfl, rfl, h.2.1, hnew h (.inr (24, [])) 6, ?_, hnew_e, nx1⟩)
    by_cases k1 : n < nI 1
    · simp (disch := first | omega | (simp only [hnew_21, hput_21, hnew_22, hput_22]; omega) | exact isR_ref | exact isR_null | exact isR_rf | exact isR_fmt | assumption | decide) only [n_X1_append, e_X1_append_0, e_X1_append_1, e_X1_append_2, e_X1_append_5, e_X1_append_6, e_X1_append_8, e_X1_append_11, cR_ref, cR_null, cR_rf, c1_int, c1_ref, c1_null, c1_rf, kz_int, kz_ref, kz_null, kz_rf, kz_U, kz_long, nB_null, nB_ref, rf_none, rf_some, bV_ret, bV_thr, bA_ret, bA_thr, bX_ret, bX_thr, len4_0, len4_1, len4_2, len4_3, len4_4, true_and, and_true, and_self, if_true, if_false, Option.bind_some, nR_b1, nR_b0, nR_bI, nI_1z, nI_0z, bI_z, if_nn, k1, ↓reduceIte]
    · have k2 : nI 8 < n := Int32.not_le.mp (fun z => h1 ⟨Int32.not_lt.mp k1, z⟩)
      simp (disch := first | omega | (simp only [hnew_21, hput_21, hnew_22, hput_22]; omega) | exact isR_ref | exact isR_null | exact isR_rf | exact isR_fmt | assumption | decide) only [n_X1_append, e_X1_append_0, e_X1_append_1, e_X1_append_2, e_X1_append_5, e_X1_append_6, e_X1_append_8, e_X1_append_11, cR_ref, cR_null, cR_rf, c1_int, c1_ref, c1_null, c1_rf, kz_int, kz_ref, kz_null, kz_rf, kz_U, kz_long, nB_null, nB_ref, rf_none, rf_some, bV_ret, bV_thr, bA_ret, bA_thr, bX_ret, bX_thr, len4_0, len4_1, len4_2, len4_3, len4_4, true_and, and_true, and_self, if_true, if_false, Option.bind_some, nR_b1, nR_b0, nR_bI, nI_1z, nI_0z, bI_z, if_nn, k1, k2, ↓reduceIte]
theorem c_fault (H : CpR Ω h c L op Cu Cm cm tx fa R co) : gM PG Ω (d + 1) 13 [.ref c] h = some (.returned (some (.int fa)), h) := by
  obtain ⟨sb, ra, h1, h2⟩ := H.up
  obtain ⟨v0, v3, v5, v6, hc⟩ := h1.cell
  simp (disch := first | omega | (simp only [hnew_21, hput_21, hnew_22, hput_22]; omega) | exact isR_ref | exact isR_null | exact isR_rf | exact isR_fmt | assumption | decide) only [n_X1_fault, e_X1_fault_0, e_X1_fault_1, e_X1_fault_4, cR_ref, cR_null, cR_rf, c1_int, c1_ref, c1_null, c1_rf, kz_int, kz_ref, kz_null, kz_rf, kz_U, kz_long, nB_null, nB_ref, rf_none, rf_some, bV_ret, bV_thr, bA_ret, bA_thr, bX_ret, bX_thr, len4_0, len4_1, len4_2, len4_3, len4_4, true_and, and_true, and_self, if_true, if_false, Option.bind_some, nR_b1, nR_b0, nR_bI, nI_1z, nI_0z, bI_z, if_nn, gf, pf, clN, aln, gaI, gaL, gaR, saI, saR, isI, ctB, isB, gB, hput_n, hput_e, hput_21, hput_22, hnew_n, hnew_e, hnew_21, hnew_22, Option.bind_some, Option.map_some, List.lookup_cons, List.lookup_nil, beq_self_eq_true, List.getElem?_cons_zero, List.getElem?_cons_succ, List.set_cons_zero, List.set_cons_succ, List.length_cons, List.length_nil, Nat.reduceAdd, Nat.reduceLT, Nat.reduceLeDiff, Nat.reduceBEq, Nat.reduceEqDiff, okv_int, okv_oref, okv_onull, okv_orf, okv_aref, okv_b0, okv_b1, okv_z0, okv_bI, ckI_nI, lt31, leT, reduceCtorEq, List.mem_cons, List.mem_singleton, List.not_mem_nil, or_true, true_or, or_false, false_or, toR_ref, toR_null, ↓reduceIte, hc]
/-- what count answers -/
def cCnt (L : List Tri) (Cu : List Chg) (Cm : List (List Chg)) (cm : Nat) (tx : List Nat) (R : List Rw) (co n : Nat) : Nat := if n = 0 then L.length else if n = 1 then co else if n = 2 then R.length else if n = 3 then cm else if n = 4 then Cm.length else if n = 5 then Cu.length else tx.length
theorem c_count (H : CpR Ω h c L op Cu Cm cm tx fa R co) {n : Nat} (hn : n ≤ 6) : gM PG Ω (d + 9) 35 [.ref c, .int (nI n)] h = some (.returned (some (.int (nI (cCnt L Cu Cm cm tx R co n)))), h) := by
  obtain ⟨sb, bb, ra, N, fr, a1, a2, _⟩ := H
  obtain ⟨v0, v3, v5, v6, hc⟩ := a1.cell
  have e3 := bb_len (Ω := Ω) (d := d + 6) a2
  obtain ⟨z, f, s1, s2, _⟩ := a2
  have : n = 0 ∨ n = 1 ∨ n = 2 ∨ n = 3 ∨ n = 4 ∨ n = 5 ∨ n = 6 := by omega
  rcases this with rfl | rfl | rfl | rfl | rfl | rfl | rfl <;> simp (disch := first | omega | (simp only [hnew_21, hput_21, hnew_22, hput_22]; omega) | exact isR_ref | exact isR_null | exact isR_rf | exact isR_fmt | assumption | decide) only [n_X1_count, e_X1_count_0, e_X1_count_1, e_X1_count_44, e_X1_count_45, e_X1_count_48, e_X1_count_49, e_X1_count_50, e_X1_count_53, e_X1_count_54, e_X1_count_55, e_X1_count_58, e_X1_count_59, e_X1_count_60, e_X1_count_63, e_X1_count_64, e_X1_count_65, e_X1_count_68, e_X1_count_69, e_X1_count_70, e_X1_count_73, e_X1_count_74, e_X1_count_75, e_X1_count_78, e_X1_count_81, e_X1_count_82, cR_ref, cR_null, cR_rf, c1_int, c1_ref, c1_null, c1_rf, kz_int, kz_ref, kz_null, kz_rf, kz_U, kz_long, nB_null, nB_ref, rf_none, rf_some, bV_ret, bV_thr, bA_ret, bA_thr, bX_ret, bX_thr, len4_0, len4_1, len4_2, len4_3, len4_4, true_and, and_true, and_self, if_true, if_false, Option.bind_some, nR_b1, nR_b0, nR_bI, nI_1z, nI_0z, bI_z, if_nn, gf, pf, clN, aln, gaI, gaL, gaR, saI, saR, isI, ctB, isB, gB, hput_n, hput_e, hput_21, hput_22, hnew_n, hnew_e, hnew_21, hnew_22, Option.bind_some, Option.map_some, List.lookup_cons, List.lookup_nil, beq_self_eq_true, List.getElem?_cons_zero, List.getElem?_cons_succ, List.set_cons_zero, List.set_cons_succ, List.length_cons, List.length_nil, Nat.reduceAdd, Nat.reduceLT, Nat.reduceLeDiff, Nat.reduceBEq, Nat.reduceEqDiff, okv_int, okv_oref, okv_onull, okv_orf, okv_aref, okv_b0, okv_b1, okv_z0, okv_bI, ckI_nI, lt31, leT, reduceCtorEq, List.mem_cons, List.mem_singleton, List.not_mem_nil, or_true, true_or, or_false, false_or, toR_ref, toR_null, ↓reduceIte, hc, s1, e3, ↓nI_eq_if, cCnt]
theorem c_count_bad (hFe : Fe h) {n : Int32} (hn : ¬ (nI 0 ≤ n ∧ n ≤ nI 6)) : ∃ e h', gM PG Ω (d + 9) 35 [.ref c, .int n] h = some (.threw e, h') ∧ h'.1 e = some (.inr (24, [])) ∧ Nx [] 1 6 h h' := by
  refine ⟨h.2.1, hnew h (.inr (24, [])) 6, ?_, hnew_e, (Nx.rfl' hFe).new.mono (fun _ q => q) (by omega) (by omega)⟩
  have k0 : ¬ n = nI 0 := fun q => hn (by rw [q]; decide)
  have k1 : ¬ n = nI 1 := fun q => hn (by rw [q]; decide)
  have k2 : ¬ n = nI 2 := fun q => hn (by rw [q]; decide)
  have k3 : ¬ n = nI 3 := fun q => hn (by rw [q]; decide)
  have k4 : ¬ n = nI 4 := fun q => hn (by rw [q]; decide)
  have k5 : ¬ n = nI 5 := fun q => hn (by rw [q]; decide)
  have k6 : ¬ n = nI 6 := fun q => hn (by rw [q]; decide)
  simp (disch := first | omega | (simp only [hnew_21, hput_21, hnew_22, hput_22]; omega) | exact isR_ref | exact isR_null | exact isR_rf | exact isR_fmt | assumption | decide) only [n_X1_count, e_X1_count_0, e_X1_count_1, e_X1_count_44, e_X1_count_45, e_X1_count_48, e_X1_count_49, e_X1_count_50, e_X1_count_53, e_X1_count_54, e_X1_count_55, e_X1_count_58, e_X1_count_59, e_X1_count_60, e_X1_count_63, e_X1_count_64, e_X1_count_65, e_X1_count_68, e_X1_count_69, e_X1_count_70, e_X1_count_73, e_X1_count_74, e_X1_count_75, e_X1_count_78, e_X1_count_81, e_X1_count_82, cR_ref, cR_null, cR_rf, c1_int, c1_ref, c1_null, c1_rf, kz_int, kz_ref, kz_null, kz_rf, kz_U, kz_long, nB_null, nB_ref, rf_none, rf_some, bV_ret, bV_thr, bA_ret, bA_thr, bX_ret, bX_thr, len4_0, len4_1, len4_2, len4_3, len4_4, true_and, and_true, and_self, if_true, if_false, Option.bind_some, nR_b1, nR_b0, nR_bI, nI_1z, nI_0z, bI_z, if_nn, k0, k1, k2, k3, k4, k5, k6]
theorem c_cell_bad (H : CpR Ω h c L op Cu Cm cm tx fa R co) {r cc : Int32} (hn : ¬ ((nI 0 ≤ r ∧ r < nI R.length) ∧ nI 0 ≤ cc ∧ cc < nI co)) : ∃ e h', gM PG Ω (d + 9) 34 [.ref c, .int r, .int cc] h = some (.threw e, h') ∧ h'.1 e = some (.inr (26, [])) ∧ Nx [] 1 6 h h' := by
  obtain ⟨sb, ra, h1, h2⟩ := H.up
  obtain ⟨v0, v3, v5, v6, hc⟩ := h1.cell
  refine ⟨h.2.1, hnew h (.inr (26, [])) 6, ?_, hnew_e, (Nx.rfl' H.fe).new.mono (fun _ q => q) (by omega) (by omega)⟩
  by_cases k1 : r < 0
  · simp (disch := first | omega | (simp only [hnew_21, hput_21, hnew_22, hput_22]; omega) | exact isR_ref | exact isR_null | exact isR_rf | exact isR_fmt | assumption | decide) only [n_X1_cell, e_X1_cell_0, e_X1_cell_1, e_X1_cell_4, e_X1_cell_5, e_X1_cell_6, e_X1_cell_9, e_X1_cell_12, e_X1_cell_13, e_X1_cell_16, e_X1_cell_17, e_X1_cell_18, e_X1_cell_21, e_X1_cell_24, cR_ref, cR_null, cR_rf, c1_int, c1_ref, c1_null, c1_rf, kz_int, kz_ref, kz_null, kz_rf, kz_U, kz_long, nB_null, nB_ref, rf_none, rf_some, bV_ret, bV_thr, bA_ret, bA_thr, bX_ret, bX_thr, len4_0, len4_1, len4_2, len4_3, len4_4, true_and, and_true, and_self, if_true, if_false, Option.bind_some, nR_b1, nR_b0, nR_bI, nI_1z, nI_0z, bI_z, if_nn, gf, pf, clN, aln, gaI, gaL, gaR, saI, saR, isI, ctB, isB, gB, hput_n, hput_e, hput_21, hput_22, hnew_n, hnew_e, hnew_21, hnew_22, Option.bind_some, Option.map_some, List.lookup_cons, List.lookup_nil, beq_self_eq_true, List.getElem?_cons_zero, List.getElem?_cons_succ, List.set_cons_zero, List.set_cons_succ, List.length_cons, List.length_nil, Nat.reduceAdd, Nat.reduceLT, Nat.reduceLeDiff, Nat.reduceBEq, Nat.reduceEqDiff, okv_int, okv_oref, okv_onull, okv_orf, okv_aref, okv_b0, okv_b1, okv_z0, okv_bI, ckI_nI, lt31, leT, reduceCtorEq, List.mem_cons, List.mem_singleton, List.not_mem_nil, or_true, true_or, or_false, false_or, toR_ref, toR_null, ↓reduceIte, hc, k1]
  · by_cases k2 : r < nI R.length
    · by_cases k3 : cc < 0
      · simp (disch := first | omega | (simp only [hnew_21, hput_21, hnew_22, hput_22]; omega) | exact isR_ref | exact isR_null | exact isR_rf | exact isR_fmt | assumption | decide) only [n_X1_cell, e_X1_cell_0, e_X1_cell_1, e_X1_cell_4, e_X1_cell_5, e_X1_cell_6, e_X1_cell_9, e_X1_cell_12, e_X1_cell_13, e_X1_cell_16, e_X1_cell_17, e_X1_cell_18, e_X1_cell_21, e_X1_cell_24, cR_ref, cR_null, cR_rf, c1_int, c1_ref, c1_null, c1_rf, kz_int, kz_ref, kz_null, kz_rf, kz_U, kz_long, nB_null, nB_ref, rf_none, rf_some, bV_ret, bV_thr, bA_ret, bA_thr, bX_ret, bX_thr, len4_0, len4_1, len4_2, len4_3, len4_4, true_and, and_true, and_self, if_true, if_false, Option.bind_some, nR_b1, nR_b0, nR_bI, nI_1z, nI_0z, bI_z, if_nn, gf, pf, clN, aln, gaI, gaL, gaR, saI, saR, isI, ctB, isB, gB, hput_n, hput_e, hput_21, hput_22, hnew_n, hnew_e, hnew_21, hnew_22, Option.bind_some, Option.map_some, List.lookup_cons, List.lookup_nil, beq_self_eq_true, List.getElem?_cons_zero, List.getElem?_cons_succ, List.set_cons_zero, List.set_cons_succ, List.length_cons, List.length_nil, Nat.reduceAdd, Nat.reduceLT, Nat.reduceLeDiff, Nat.reduceBEq, Nat.reduceEqDiff, okv_int, okv_oref, okv_onull, okv_orf, okv_aref, okv_b0, okv_b1, okv_z0, okv_bI, ckI_nI, lt31, leT, reduceCtorEq, List.mem_cons, List.mem_singleton, List.not_mem_nil, or_true, true_or, or_false, false_or, toR_ref, toR_null, ↓reduceIte, hc, k1, k2, k3]
      · have k4 : ¬ cc < nI co := fun z => hn ⟨⟨Int32.not_lt.mp k1, k2⟩, Int32.not_lt.mp k3, z⟩
        simp (disch := first | omega | (simp only [hnew_21, hput_21, hnew_22, hput_22]; omega) | exact isR_ref | exact isR_null | exact isR_rf | exact isR_fmt | assumption | decide) only [n_X1_cell, e_X1_cell_0, e_X1_cell_1, e_X1_cell_4, e_X1_cell_5, e_X1_cell_6, e_X1_cell_9, e_X1_cell_12, e_X1_cell_13, e_X1_cell_16, e_X1_cell_17, e_X1_cell_18, e_X1_cell_21, e_X1_cell_24, cR_ref, cR_null, cR_rf, c1_int, c1_ref, c1_null, c1_rf, kz_int, kz_ref, kz_null, kz_rf, kz_U, kz_long, nB_null, nB_ref, rf_none, rf_some, bV_ret, bV_thr, bA_ret, bA_thr, bX_ret, bX_thr, len4_0, len4_1, len4_2, len4_3, len4_4, true_and, and_true, and_self, if_true, if_false, Option.bind_some, nR_b1, nR_b0, nR_bI, nI_1z, nI_0z, bI_z, if_nn, gf, pf, clN, aln, gaI, gaL, gaR, saI, saR, isI, ctB, isB, gB, hput_n, hput_e, hput_21, hput_22, hnew_n, hnew_e, hnew_21, hnew_22, Option.bind_some, Option.map_some, List.lookup_cons, List.lookup_nil, beq_self_eq_true, List.getElem?_cons_zero, List.getElem?_cons_succ, List.set_cons_zero, List.set_cons_succ, List.length_cons, List.length_nil, Nat.reduceAdd, Nat.reduceLT, Nat.reduceLeDiff, Nat.reduceBEq, Nat.reduceEqDiff, okv_int, okv_oref, okv_onull, okv_orf, okv_aref, okv_b0, okv_b1, okv_z0, okv_bI, ckI_nI, lt31, leT, reduceCtorEq, List.mem_cons, List.mem_singleton, List.not_mem_nil, or_true, true_or, or_false, false_or, toR_ref, toR_null, ↓reduceIte, hc, k1, k2, k3, k4]
    · simp (disch := first | omega | (simp only [hnew_21, hput_21, hnew_22, hput_22]; omega) | exact isR_ref | exact isR_null | exact isR_rf | exact isR_fmt | assumption | decide) only [n_X1_cell, e_X1_cell_0, e_X1_cell_1, e_X1_cell_4, e_X1_cell_5, e_X1_cell_6, e_X1_cell_9, e_X1_cell_12, e_X1_cell_13, e_X1_cell_16, e_X1_cell_17, e_X1_cell_18, e_X1_cell_21, e_X1_cell_24, cR_ref, cR_null, cR_rf, c1_int, c1_ref, c1_null, c1_rf, kz_int, kz_ref, kz_null, kz_rf, kz_U, kz_long, nB_null, nB_ref, rf_none, rf_some, bV_ret, bV_thr, bA_ret, bA_thr, bX_ret, bX_thr, len4_0, len4_1, len4_2, len4_3, len4_4, true_and, and_true, and_self, if_true, if_false, Option.bind_some, nR_b1, nR_b0, nR_bI, nI_1z, nI_0z, bI_z, if_nn, gf, pf, clN, aln, gaI, gaL, gaR, saI, saR, isI, ctB, isB, gB, hput_n, hput_e, hput_21, hput_22, hnew_n, hnew_e, hnew_21, hnew_22, Option.bind_some, Option.map_some, List.lookup_cons, List.lookup_nil, beq_self_eq_true, List.getElem?_cons_zero, List.getElem?_cons_succ, List.set_cons_zero, List.set_cons_succ, List.length_cons, List.length_nil, Nat.reduceAdd, Nat.reduceLT, Nat.reduceLeDiff, Nat.reduceBEq, Nat.reduceEqDiff, okv_int, okv_oref, okv_onull, okv_orf, okv_aref, okv_b0, okv_b1, okv_z0, okv_bI, ckI_nI, lt31, leT, reduceCtorEq, List.mem_cons, List.mem_singleton, List.not_mem_nil, or_true, true_or, or_false, false_or, toR_ref, toR_null, ↓reduceIte, hc, k1, k2]
theorem c_cell (H : CpR Ω h c L op Cu Cm cm tx fa R co) {i j : Nat} {x : Rw} {y : Option Int64} (hi : R[i]? = some x) (hj : x.2[j]? = some y) : (∀ w, y = some w → gM PG Ω (d + 9) 34 [.ref c, .int (nI i), .int (nI j)] h = some (.returned (some (.long w)), h)) ∧ (y = none → ∃ e h', gM PG Ω (d + 9) 34 [.ref c, .int (nI i), .int (nI j)] h = some (.threw e, h') ∧ h'.1 e = some (.inr (27, [])) ∧ Nx [] 1 6 h h') := by
  have hFe := H.fe
  obtain ⟨sb, bb, ra, N, fr, a1, a2, a3, a4, a5, a6, a7, a8, a9, a10, a11⟩ := H
  obtain ⟨v0, v3, v5, v6, hc⟩ := a1.cell
  have hil := (List.getElem?_eq_some_iff.mp hi).1
  have hjl := (List.getElem?_eq_some_iff.mp hj).1
  have hco := a10 x (List.mem_of_getElem? hi)
  have hR := a4.1
  obtain ⟨w, w1, o, g, f, w2, w3, w4, w5, w6⟩ := a4.2 i x hi
  have t := w6 j y hj
  have k1 : i < R.length := hil
  have k2 : j < co := by omega
  have k3 : i < N := by omega
  constructor
  · intro u hu
    rcases t with ⟨_, t2⟩ | ⟨tt, y', t1, t2, t3⟩
    · rw [t2] at hu; cases hu
    · rw [t2] at hu
      cases hu
      simp (disch := first | omega | (simp only [hnew_21, hput_21, hnew_22, hput_22]; omega) | exact isR_ref | exact isR_null | exact isR_rf | exact isR_fmt | assumption | decide) only [n_X1_cell, e_X1_cell_0, e_X1_cell_1, e_X1_cell_4, e_X1_cell_5, e_X1_cell_6, e_X1_cell_9, e_X1_cell_12, e_X1_cell_13, e_X1_cell_16, e_X1_cell_17, e_X1_cell_18, e_X1_cell_21, e_X1_cell_24, e_X1_cell_32, e_X1_cell_33, e_X1_cell_36, e_X1_cell_37, e_X1_cell_38, e_X1_cell_41, e_X1_cell_42, e_X1_cell_43, e_X1_cell_44, e_X1_cell_45, e_X1_cell_48, e_X1_cell_56, e_X1_cell_57, e_X1_cell_60, cR_ref, cR_null, cR_rf, c1_int, c1_ref, c1_null, c1_rf, kz_int, kz_ref, kz_null, kz_rf, kz_U, kz_long, nB_null, nB_ref, rf_none, rf_some, bV_ret, bV_thr, bA_ret, bA_thr, bX_ret, bX_thr, len4_0, len4_1, len4_2, len4_3, len4_4, true_and, and_true, and_self, if_true, if_false, Option.bind_some, nR_b1, nR_b0, nR_bI, nI_1z, nI_0z, bI_z, if_nn, ↓c_coded (Ω := Ω) (d := d + 3) t3, gf, pf, clN, aln, gaI, gaL, gaR, saI, saR, isI, ctB, isB, gB, hput_n, hput_e, hput_21, hput_22, hnew_n, hnew_e, hnew_21, hnew_22, Option.bind_some, Option.map_some, List.lookup_cons, List.lookup_nil, beq_self_eq_true, List.getElem?_cons_zero, List.getElem?_cons_succ, List.set_cons_zero, List.set_cons_succ, List.length_cons, List.length_nil, Nat.reduceAdd, Nat.reduceLT, Nat.reduceLeDiff, Nat.reduceBEq, Nat.reduceEqDiff, okv_int, okv_oref, okv_onull, okv_orf, okv_aref, okv_b0, okv_b1, okv_z0, okv_bI, ckI_nI, lt31, leT, reduceCtorEq, List.mem_cons, List.mem_singleton, List.not_mem_nil, or_true, true_or, or_false, false_or, toR_ref, toR_null, ↓reduceIte, hc, nI_ng, ↓nI_lt_if, k1, k2, a3, w1, w2, w4, t1]
  · intro hy
    rcases t with ⟨t1, _⟩ | ⟨tt, y', t1, t2, t3⟩
    · refine ⟨h.2.1, hnew h (.inr (27, [])) 6, ?_, hnew_e, (Nx.rfl' hFe).new.mono (fun _ q => q) (by omega) (by omega)⟩
      simp (disch := first | omega | (simp only [hnew_21, hput_21, hnew_22, hput_22]; omega) | exact isR_ref | exact isR_null | exact isR_rf | exact isR_fmt | assumption | decide) only [n_X1_cell, e_X1_cell_0, e_X1_cell_1, e_X1_cell_4, e_X1_cell_5, e_X1_cell_6, e_X1_cell_9, e_X1_cell_12, e_X1_cell_13, e_X1_cell_16, e_X1_cell_17, e_X1_cell_18, e_X1_cell_21, e_X1_cell_24, e_X1_cell_32, e_X1_cell_33, e_X1_cell_36, e_X1_cell_37, e_X1_cell_38, e_X1_cell_41, e_X1_cell_42, e_X1_cell_43, e_X1_cell_44, e_X1_cell_45, e_X1_cell_48, e_X1_cell_56, e_X1_cell_57, e_X1_cell_60, cR_ref, cR_null, cR_rf, c1_int, c1_ref, c1_null, c1_rf, kz_int, kz_ref, kz_null, kz_rf, kz_U, kz_long, nB_null, nB_ref, rf_none, rf_some, bV_ret, bV_thr, bA_ret, bA_thr, bX_ret, bX_thr, len4_0, len4_1, len4_2, len4_3, len4_4, true_and, and_true, and_self, if_true, if_false, Option.bind_some, nR_b1, nR_b0, nR_bI, nI_1z, nI_0z, bI_z, if_nn, gf, pf, clN, aln, gaI, gaL, gaR, saI, saR, isI, ctB, isB, gB, hput_n, hput_e, hput_21, hput_22, hnew_n, hnew_e, hnew_21, hnew_22, Option.bind_some, Option.map_some, List.lookup_cons, List.lookup_nil, beq_self_eq_true, List.getElem?_cons_zero, List.getElem?_cons_succ, List.set_cons_zero, List.set_cons_succ, List.length_cons, List.length_nil, Nat.reduceAdd, Nat.reduceLT, Nat.reduceLeDiff, Nat.reduceBEq, Nat.reduceEqDiff, okv_int, okv_oref, okv_onull, okv_orf, okv_aref, okv_b0, okv_b1, okv_z0, okv_bI, ckI_nI, lt31, leT, reduceCtorEq, List.mem_cons, List.mem_singleton, List.not_mem_nil, or_true, true_or, or_false, false_or, toR_ref, toR_null, ↓reduceIte, hc, nI_ng, ↓nI_lt_if, k1, k2, a3, w1, w2, w4, t1]
    · rw [t2] at hy; cases hy
end COR
