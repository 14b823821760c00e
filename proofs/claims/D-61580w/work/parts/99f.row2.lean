/-! COMPONENT: a row is made -/
section ROW2
variable {Ω : Om} {d : Nat} {h h' h0 h1 h2 : AH} {a q ar so g k0 m0 K M : Nat} {cols : List Nat} {sol : Sol} {o : Option Nat} {f : Nat → Int32} {q0 q5 q6 : Int32} {q3 : Value}
theorem neg1 : ((-1 : Int32) < 0) = True := eq_true (by decide)
theorem nI_ng {v : Nat} (h : v < 2 ^ 31) : (nI v < 0) = False := by
  apply eq_false
  rw [Int32.lt_iff_toInt_lt, nI_toInt h]
  intro z
  have : (0 : Int32).toInt = 0 := rfl
  omega
set_option maxHeartbeats 1000000 in
theorem c_row (n0 : Nx [] k0 m0 h0 h) (ha0 : h0.2.1 ≤ a) (ha : h.1 a = some (.inr (21, [.null, .null]))) (hza : Ω.sz ≤ a) (hz : Ω.sz ≤ h.2.1) (hq : h0.1 q = some (.inr (8, [.int q0, .ref ar, .int (nI cols.length), q3, .int (ordV o), .int q5, .int q6]))) (har : h0.1 ar = some (arI .int 6 f)) (hf : ∀ i v, cols[i]? = some v → f i = nI v) (hcl : cols.length ≤ 6) (hv : ∀ v ∈ cols, v < 6) (ho : ∀ v, o = some v → v < 6) (hs : SolR h0 so sol) : ∃ h', gM PG Ω (d + 2) 160 [.ref a, .ref q, .ref so] h = some (.returned none, h') ∧ RowR h' a (rowOf o cols sol) ∧ Nx [] (k0 + 1) (m0 + 6) h0 h' := by
  have hFe := n0.2.1
  have hla := hFe.lt ha
  have hle := n0.2.2.1
  obtain ⟨gs, tf, s1, s2, s3⟩ := hs
  have s3' : ∀ v, v < 6 → OTm h0 (tf v) (sol v) := s3
  have key : ∀ (m k : Nat) (H : AH) (F : Nat → Option Nat) (ov : Value) (g : Nat), k + m = cols.length → h0.2.1 ≤ g → Ω.sz ≤ g → a ≠ g → Nx [] (k0 + 1) (m0 + 6) h0 H → H.1 a = some (.inr (21, [ov, .ref g])) → H.1 g = some (arR "TripleStore$Term" cols.length F) → (∀ j v, j < k → cols[j]? = some v → F j = tf v) → ∃ H' F', gO PG Ω (d + 1) 160 41 [.ref a, .ref q, .ref so, .int (nI k)] [] H = some (.returned none, H') ∧ Nx [] (k0 + 1) (m0 + 6) h0 H' ∧ H'.1 a = some (.inr (21, [ov, .ref g])) ∧ H'.1 g = some (arR "TripleStore$Term" cols.length F') ∧ ∀ j v, cols[j]? = some v → F' j = tf v := by
    intro m
    induction m with
    | zero =>
      intro k H F ov g hk h1 h2 h3 nn c1 c2 c3
      have hn : ¬ k < cols.length := by omega
      refine ⟨H, F, ?_, nn, c1, c2, fun j v hj => c3 j v (by have := (List.getElem?_eq_some_iff.mp hj).1; omega) hj⟩
      rw [e_X25_init_41]
      simp (disch := first | omega | (simp only [hnew_21, hput_21, hnew_22, hput_22]; omega) | exact isR_ref | exact isR_null | exact isR_rf | exact isR_fmt | assumption | decide) only [e_X25_init_42, e_X25_init_43, e_X25_init_46, e_X25_init_47, e_X25_init_50, e_X25_init_51, e_X25_init_54, e_X25_init_55, e_X25_init_56, e_X25_init_59, e_X25_init_60, e_X25_init_63, e_X25_init_64, e_X25_init_65, e_X25_init_66, e_X25_init_67, e_X25_init_70, e_X25_init_73, cR_ref, cR_null, cR_rf, c1_int, c1_ref, c1_null, c1_rf, kz_int, kz_ref, kz_null, kz_rf, kz_U, kz_long, nB_null, nB_ref, rf_none, rf_some, bV_ret, bV_thr, bA_ret, bA_thr, bX_ret, bX_thr, len4_0, len4_1, len4_2, len4_3, len4_4, true_and, and_true, and_self, if_true, if_false, Option.bind_some, nR_b1, nR_b0, nR_bI, nI_1z, nI_0z, bI_z, if_nn, gf, pf, clN, aln, gaI, gaL, gaR, saI, saR, isI, ctB, isB, gB, hput_n, hput_e, hput_21, hput_22, hnew_n, hnew_e, hnew_21, hnew_22, Option.bind_some, Option.map_some, List.lookup_cons, List.lookup_nil, beq_self_eq_true, List.getElem?_cons_zero, List.getElem?_cons_succ, List.set_cons_zero, List.set_cons_succ, List.length_cons, List.length_nil, Nat.reduceAdd, Nat.reduceLT, Nat.reduceLeDiff, Nat.reduceBEq, Nat.reduceEqDiff, okv_int, okv_oref, okv_onull, okv_orf, okv_aref, okv_b0, okv_b1, okv_z0, okv_bI, ckI_nI, lt31, leT, reduceCtorEq, List.mem_cons, List.mem_singleton, List.not_mem_nil, or_true, true_or, or_false, false_or, toR_ref, toR_null, ↓reduceIte, c1, c2, ↓nI_lt_if, hn]
    | succ m ih =>
      intro k H F ov g hk h1 h2 h3 nn c1 c2 c3
      have hk1 : k < cols.length := by omega
      have hcv : cols[k]? = some cols[k] := List.getElem?_eq_getElem hk1
      have hv6 := hv cols[k] (List.getElem_mem hk1)
      generalize cols[k] = v at hcv hv6
      have e1 := nn.ob s1 (by decide) (by simp)
      have e2 := nn.ar s2 (by simp)
      have e3 := nn.ob hq (by decide) (by simp)
      have e4 := nn.ar har (by simp)
      have e5 := (s3' v hv6).fs nn FS.nil
      have e6 := saR_t (z := Ω.sz) (i := k) e5 c2 h2 hk1 (by omega)
      have e7 := hf k v hcv
      obtain ⟨H', F', g1, g2, g3, g4, g5⟩ := ih (k + 1) (hput H g (arR "TripleStore$Term" cols.length (va_up F k (tf v)))) (va_up F k (tf v)) ov g (by omega) h1 h2 h3 (nn.put (.inr h1) (nn.2.1.lt c2)) (by rw [hput_n h3]; exact c1) hput_e (fun j v' hj hc => by
        unfold va_up
        by_cases hjk : j = k
        · subst hjk
          rw [hcv] at hc; cases hc
          rw [if_pos rfl]
        · rw [if_neg hjk]; exact c3 j v' (by omega) hc)
      refine ⟨H', F', ?_, g2, g3, g4, g5⟩
      rw [← g1, e_X25_init_41]
      simp (disch := first | omega | (simp only [hnew_21, hput_21, hnew_22, hput_22]; omega) | exact isR_ref | exact isR_null | exact isR_rf | exact isR_fmt | assumption | decide) only [e_X25_init_42, e_X25_init_43, e_X25_init_46, e_X25_init_47, e_X25_init_50, e_X25_init_51, e_X25_init_54, e_X25_init_55, e_X25_init_56, e_X25_init_59, e_X25_init_60, e_X25_init_63, e_X25_init_64, e_X25_init_65, e_X25_init_66, e_X25_init_67, e_X25_init_70, cR_ref, cR_null, cR_rf, c1_int, c1_ref, c1_null, c1_rf, kz_int, kz_ref, kz_null, kz_rf, kz_U, kz_long, nB_null, nB_ref, rf_none, rf_some, bV_ret, bV_thr, bA_ret, bA_thr, bX_ret, bX_thr, len4_0, len4_1, len4_2, len4_3, len4_4, true_and, and_true, and_self, if_true, if_false, Option.bind_some, nR_b1, nR_b0, nR_bI, nI_1z, nI_0z, bI_z, if_nn, gf, aln, gaI, gaR, Option.bind_some, Option.map_some, List.lookup_cons, List.lookup_nil, beq_self_eq_true, List.getElem?_cons_zero, List.getElem?_cons_succ, List.length_cons, List.length_nil, Nat.reduceAdd, Nat.reduceLT, Nat.reduceLeDiff, Nat.reduceBEq, Nat.reduceEqDiff, ckI_nI, lt31, leT, List.mem_singleton, ↓reduceIte, nI_add, pk_mul, c1, c2, e1, e2, e3, e4, e6, e7, ↓nI_lt_if, hk1]
  have hne : a ≠ h.2.1 := by omega
  have e1 := n0.ob s1 (by decide) (by simp)
  have e2 := n0.ar s2 (by simp)
  have e3 := n0.ob hq (by decide) (by simp)
  have haq : q ≠ a := fun z => by rw [z, ha] at e3; cases e3
  have hql := hFe.lt e3
  have hqn : q ≠ h.2.1 := by omega
  have main : ∀ ov : Option Nat, OTm h0 ov (o.bind sol) → gM PG Ω (d + 2) 160 [.ref a, .ref q, .ref so] h = gO PG Ω (d + 1) 160 41 [.ref a, .ref q, .ref so, .int (nI 0)] [] (hput (hnew (hput h a (.inr (21, [va_rf ov, .null]))) (arR "TripleStore$Term" cols.length (fun _ => none)) cols.length) a (.inr (21, [va_rf ov, .ref h.2.1]))) → ∃ h', gM PG Ω (d + 2) 160 [.ref a, .ref q, .ref so] h = some (.returned none, h') ∧ RowR h' a (rowOf o cols sol) ∧ Nx [] (k0 + 1) (m0 + 6) h0 h' := by
    intro ov hov e
    have nn : Nx [] (k0 + 1) (m0 + 6) h0 (hput (hnew (hput h a (.inr (21, [va_rf ov, .null]))) (arR "TripleStore$Term" cols.length (fun _ => none)) cols.length) a (.inr (21, [va_rf ov, .ref h.2.1]))) := (((n0.put (e := .inr (21, [va_rf ov, .null])) (.inr ha0) hla).new (e := arR "TripleStore$Term" cols.length (fun _ => none)) (N := cols.length)).put (.inr ha0) (by rw [hnew_21, hput_21]; omega)).mono (fun _ z => z) (Nat.le_refl _) (by omega)
    obtain ⟨H', F', g1, g2, g3, g4, g5⟩ := key cols.length 0 _ (fun _ => none) (va_rf ov) h.2.1 (by omega) hle hz hne nn hput_e (by rw [hput_n (Ne.symm hne)]; exact hnew_e (h := hput h a _)) (fun j v hj => absurd hj (Nat.not_lt_zero _))
    refine ⟨H', by rw [e, g1], ⟨ov, h.2.1, F', g3, hov.fs g2 FS.nil, ?_, ?_, fun i x hx => ?_⟩, g2⟩
    · show H'.1 h.2.1 = some (arR "TripleStore$Term" (cols.map sol).length F')
      rw [List.length_map]; exact g4
    · show (cols.map sol).length ≤ 6
      rw [List.length_map]; exact hcl
    · have hx' : (cols.map sol)[i]? = some x := hx
      rw [List.getElem?_map] at hx'
      cases hc : cols[i]? with
      | none => rw [hc] at hx'; cases hx'
      | some v =>
        rw [hc] at hx'
        cases hx'
        rw [g5 i v hc]
        exact (s3' v (hv v (List.mem_of_getElem? hc))).fs g2 FS.nil
  cases o with
  | none =>
    have e3' : h.1 q = some (.inr (8, [.int q0, .ref ar, .int (nI cols.length), q3, .int (-1), .int q5, .int q6])) := e3
    refine main none (.inl ⟨rfl, rfl⟩) ?_
    simp (disch := first | omega | (simp only [hnew_21, hput_21, hnew_22, hput_22]; omega) | exact isR_ref | exact isR_null | exact isR_rf | exact isR_fmt | assumption | decide) only [n_X25_init, e_X25_init_0, e_X25_init_1, e_X25_init_4, e_X25_init_5, e_X25_init_6, e_X25_init_9, e_X25_init_12, e_X25_init_13, e_X25_init_16, e_X25_init_17, e_X25_init_20, e_X25_init_21, e_X25_init_24, e_X25_init_25, e_X25_init_28, e_X25_init_29, e_X25_init_30, e_X25_init_33, e_X25_init_36, e_X25_init_39, e_X25_init_40, cR_ref, cR_null, cR_rf, c1_int, c1_ref, c1_null, c1_rf, kz_int, kz_ref, kz_null, kz_rf, kz_U, kz_long, nB_null, nB_ref, rf_none, rf_some, bV_ret, bV_thr, bA_ret, bA_thr, bX_ret, bX_thr, len4_0, len4_1, len4_2, len4_3, len4_4, true_and, and_true, and_self, if_true, if_false, Option.bind_some, nR_b1, nR_b0, nR_bI, nI_1z, nI_0z, bI_z, if_nn, gf, pf, clN, aln, gaI, gaL, gaR, saI, saR, isI, ctB, isB, gB, hput_n, hput_e, hput_21, hput_22, hnew_n, hnew_e, hnew_21, hnew_22, Option.bind_some, Option.map_some, List.lookup_cons, List.lookup_nil, beq_self_eq_true, List.getElem?_cons_zero, List.getElem?_cons_succ, List.set_cons_zero, List.set_cons_succ, List.length_cons, List.length_nil, Nat.reduceAdd, Nat.reduceLT, Nat.reduceLeDiff, Nat.reduceBEq, Nat.reduceEqDiff, okv_int, okv_oref, okv_onull, okv_orf, okv_aref, okv_b0, okv_b1, okv_z0, okv_bI, ckI_nI, lt31, leT, reduceCtorEq, List.mem_cons, List.mem_singleton, List.not_mem_nil, or_true, true_or, or_false, false_or, toR_ref, toR_null, ↓reduceIte, ha, e3', neg1, haq, hne, hqn, hput2]
  | some v =>
    have hv6 := ho v rfl
    have e3' : h.1 q = some (.inr (8, [.int q0, .ref ar, .int (nI cols.length), q3, .int (nI v), .int q5, .int q6])) := e3
    refine main (tf v) (s3' v hv6) ?_
    simp (disch := first | omega | (simp only [hnew_21, hput_21, hnew_22, hput_22]; omega) | exact isR_ref | exact isR_null | exact isR_rf | exact isR_fmt | assumption | decide) only [n_X25_init, e_X25_init_0, e_X25_init_1, e_X25_init_4, e_X25_init_5, e_X25_init_6, e_X25_init_9, e_X25_init_12, e_X25_init_13, e_X25_init_16, e_X25_init_17, e_X25_init_20, e_X25_init_21, e_X25_init_24, e_X25_init_25, e_X25_init_28, e_X25_init_29, e_X25_init_30, e_X25_init_33, e_X25_init_36, e_X25_init_39, e_X25_init_40, cR_ref, cR_null, cR_rf, c1_int, c1_ref, c1_null, c1_rf, kz_int, kz_ref, kz_null, kz_rf, kz_U, kz_long, nB_null, nB_ref, rf_none, rf_some, bV_ret, bV_thr, bA_ret, bA_thr, bX_ret, bX_thr, len4_0, len4_1, len4_2, len4_3, len4_4, true_and, and_true, and_self, if_true, if_false, Option.bind_some, nR_b1, nR_b0, nR_bI, nI_1z, nI_0z, bI_z, if_nn, gf, pf, clN, aln, gaI, gaL, gaR, saI, saR, isI, ctB, isB, gB, hput_n, hput_e, hput_21, hput_22, hnew_n, hnew_e, hnew_21, hnew_22, Option.bind_some, Option.map_some, List.lookup_cons, List.lookup_nil, beq_self_eq_true, List.getElem?_cons_zero, List.getElem?_cons_succ, List.set_cons_zero, List.set_cons_succ, List.length_cons, List.length_nil, Nat.reduceAdd, Nat.reduceLT, Nat.reduceLeDiff, Nat.reduceBEq, Nat.reduceEqDiff, okv_int, okv_oref, okv_onull, okv_orf, okv_aref, okv_b0, okv_b1, okv_z0, okv_bI, ckI_nI, lt31, leT, reduceCtorEq, List.mem_cons, List.mem_singleton, List.not_mem_nil, or_true, true_or, or_false, false_or, toR_ref, toR_null, ↓reduceIte, ha, e1, e2, e3', nI_ng, haq, hne, hqn, hput2]
end ROW2
