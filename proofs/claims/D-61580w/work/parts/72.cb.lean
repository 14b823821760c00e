/-! THE COMPONENT'S HEAP -/
theorem hput_e {h : AH} {a : Nat} {e : Ce} : (hput h a e).1 a = some e := by unfold hput va_up; simp
theorem hput_n {h : AH} {a b : Nat} {e : Ce} (hb : b ≠ a) : (hput h a e).1 b = h.1 b := by unfold hput va_up; simp [hb]
theorem hput_21 {h : AH} {a : Nat} {e : Ce} : (hput h a e).2.1 = h.2.1 := rfl
theorem hput_22 {h : AH} {a : Nat} {e : Ce} : (hput h a e).2.2 = h.2.2 := rfl
theorem hnew_e {h : AH} {e : Ce} {N : Nat} : (hnew h e N).1 h.2.1 = some e := by unfold hnew va_up; simp
theorem hnew_n {h : AH} {b N : Nat} {e : Ce} (hb : b ≠ h.2.1) : (hnew h e N).1 b = h.1 b := by unfold hnew va_up; simp [hb]
theorem hnew_21 {h : AH} {e : Ce} {N : Nat} : (hnew h e N).2.1 = h.2.1 + 1 := rfl
theorem hnew_22 {h : AH} {e : Ce} {N : Nat} : (hnew h e N).2.2 = h.2.2 + N := rfl
theorem lt31 {N : Nat} (h : N < 2 ^ 31) : (N < 2 ^ 31) = True := eq_true h
theorem leT {a b : Nat} (h : a ≤ b) : (a ≤ b) = True := eq_true h
theorem isR_fmt {Ω : Om} : isR (fmtV Ω) = true := by unfold fmtV; split <;> rfl
theorem toR_ref {a : Nat} : toR (.ref a) = some (some a) := rfl
theorem toR_null : toR .null = some none := rfl
/-- nothing stands behind the heap's end -/
def Fe (h : AH) : Prop := ∀ a, h.2.1 ≤ a → h.1 a = none
/-- a string's cached hash does not count -/
def nrmC (c : Ce) : Ce := match c with
  | .inr (23, [x, y, .int _, .int _]) => .inr (23, [x, y, .int 0, .int 0])
  | c => c
theorem nrmC_ob {ci : Nat} {fs : List Value} (hc : ci ≠ 23) : nrmC (.inr (ci, fs)) = .inr (ci, fs) := by
  unfold nrmC
  split
  · next q => cases q; exact absurd rfl hc
  · rfl
theorem nrmC_ar {q : FieldType × vp_A} : nrmC (.inl q) = .inl q := rfl
theorem nrmC_st {x y : Value} {z1 z2 : Int32} : nrmC (.inr (23, [x, y, .int z1, .int z2])) = .inr (23, [x, y, .int 0, .int 0]) := rfl
theorem nrmC_cases (c : Ce) : nrmC c = c ∨ ∃ x y z1 z2, c = .inr (23, [x, y, .int z1, .int z2]) := by
  unfold nrmC
  split
  · exact .inr ⟨_, _, _, _, rfl⟩
  · exact .inl rfl
theorem nrm_ob {c : Ce} {ci : Nat} {fs : List Value} (hc : ci ≠ 23) (h : nrmC c = nrmC (.inr (ci, fs))) : c = .inr (ci, fs) := by
  rw [nrmC_ob hc] at h
  rcases nrmC_cases c with q | ⟨x, y, z1, z2, rfl⟩
  · rw [← q]; exact h
  · rw [nrmC_st] at h; cases h; exact absurd rfl hc
theorem nrm_ar {c : Ce} {x : FieldType × vp_A} (h : nrmC c = nrmC (.inl x)) : c = .inl x := by
  rw [nrmC_ar] at h
  rcases nrmC_cases c with q | ⟨x, y, z1, z2, rfl⟩
  · rw [← q]; exact h
  · rw [nrmC_st] at h; cases h
theorem nrm_st {c : Ce} {x y : Value} {z1 z2 : Int32} (h : nrmC c = nrmC (.inr (23, [x, y, .int z1, .int z2]))) : ∃ z1' z2', c = .inr (23, [x, y, .int z1', .int z2']) := by
  rw [nrmC_st] at h
  rcases nrmC_cases c with q | ⟨x', y', z1', z2', rfl⟩
  · exact ⟨0, 0, by rw [← q]; exact h⟩
  · rw [nrmC_st] at h; cases h; exact ⟨z1', z2', rfl⟩
theorem Fe.lt {h : AH} (hf : Fe h) {a : Nat} {c : Ce} (ha : h.1 a = some c) : a < h.2.1 := by
  by_cases q : a < h.2.1
  · exact q
  · rw [hf a (by omega)] at ha; cases ha
theorem Fe.new {h : AH} {e : Ce} {N : Nat} (hf : Fe h) : Fe (hnew h e N) := fun a ha => by
  rw [hnew_21] at ha
  rw [hnew_n (by omega)]; exact hf a (by omega)
theorem Fe.put {h : AH} {a : Nat} {e : Ce} (hf : Fe h) (ha : a < h.2.1) : Fe (hput h a e) := fun b hb => by
  rw [hput_21] at hb
  rw [hput_n (by omega)]; exact hf b hb
/-- from h to h': cells outside S stand; at most k cells and m slots are made -/
def Nx (S : List Nat) (k m : Nat) (h h' : AH) : Prop := Fe h ∧ Fe h' ∧ h.2.1 ≤ h'.2.1 ∧ h'.2.1 ≤ h.2.1 + k ∧ h.2.2 ≤ h'.2.2 ∧ h'.2.2 ≤ h.2.2 + m ∧ ∀ a c, a ∉ S → h.1 a = some c → ∃ c', h'.1 a = some c' ∧ nrmC c' = nrmC c
section NX
variable {S S' : List Nat} {k m k' m' : Nat} {h h' h'' : AH} {a : Nat} {e : Ce}
theorem Nx.rfl' (hf : Fe h) : Nx S 0 0 h h := ⟨hf, hf, Nat.le_refl _, Nat.le_refl _, Nat.le_refl _, Nat.le_refl _, fun _ c _ q => ⟨c, q, rfl⟩⟩
theorem Nx.trans (x : Nx S k m h h') (y : Nx S k' m' h' h'') : Nx S (k + k') (m + m') h h'' := by
  obtain ⟨a1, a2, a3, a4, a5, a6, a7⟩ := x
  obtain ⟨b1, b2, b3, b4, b5, b6, b7⟩ := y
  refine ⟨a1, b2, by omega, by omega, by omega, by omega, fun a c ha hc => ?_⟩
  obtain ⟨c', q1, q2⟩ := a7 a c ha hc
  obtain ⟨c'', q3, q4⟩ := b7 a c' ha q1
  exact ⟨c'', q3, q4.trans q2⟩
theorem Nx.mono (x : Nx S k m h h') (hS : ∀ a ∈ S, a ∈ S') (hk : k ≤ k') (hm : m ≤ m') : Nx S' k' m' h h' := by
  obtain ⟨a1, a2, a3, a4, a5, a6, a7⟩ := x
  exact ⟨a1, a2, a3, by omega, a5, by omega, fun a c ha hc => a7 a c (fun q => ha (hS a q)) hc⟩
theorem Nx.new {N : Nat} (x : Nx S k m h h') : Nx S (k + 1) (m + N) h (hnew h' e N) := by
  obtain ⟨a1, a2, a3, a4, a5, a6, a7⟩ := x
  refine ⟨a1, a2.new, by rw [hnew_21]; omega, by rw [hnew_21]; omega, by rw [hnew_22]; omega, by rw [hnew_22]; omega, fun a c ha hc => ?_⟩
  obtain ⟨c', q1, q2⟩ := a7 a c ha hc
  have := a2.lt q1
  exact ⟨c', by rw [hnew_n (by omega)]; exact q1, q2⟩
theorem Nx.put (x : Nx S k m h h') (ha : a ∈ S ∨ h.2.1 ≤ a) (hl : a < h'.2.1) : Nx S k m h (hput h' a e) := by
  obtain ⟨a1, a2, a3, a4, a5, a6, a7⟩ := x
  refine ⟨a1, a2.put hl, a3, a4, a5, a6, fun b c hb hc => ?_⟩
  have hbl := a1.lt hc
  have hne : b ≠ a := fun q => by subst q; rcases ha with z | z; exact hb z; omega
  obtain ⟨c', q1, q2⟩ := a7 b c hb hc
  exact ⟨c', by rw [hput_n hne]; exact q1, q2⟩
/-- what is written anew is none of h's -/
theorem Nx.low (x : Nx S k m h h') (hS : ∀ a ∈ S, a ∈ S' ∨ h.2.1 ≤ a) : Nx S' k m h h' := by
  obtain ⟨a1, a2, a3, a4, a5, a6, a7⟩ := x
  refine ⟨a1, a2, a3, a4, a5, a6, fun a c ha hc => a7 a c (fun q => ?_) hc⟩
  have := a1.lt hc
  rcases hS a q with z | z
  · exact ha z
  · omega
theorem Nx.ob (x : Nx S k m h h') {ci : Nat} {fs : List Value} (ha : h.1 a = some (.inr (ci, fs))) (hc : ci ≠ 23) (hS : a ∉ S) : h'.1 a = some (.inr (ci, fs)) := by
  obtain ⟨c', q1, q2⟩ := x.2.2.2.2.2.2 a _ hS ha
  rw [q1, nrm_ob hc q2]
theorem Nx.ar (x : Nx S k m h h') {q : FieldType × vp_A} (ha : h.1 a = some (.inl q)) (hS : a ∉ S) : h'.1 a = some (.inl q) := by
  obtain ⟨c', q1, q2⟩ := x.2.2.2.2.2.2 a _ hS ha
  rw [q1, nrm_ar q2]
theorem Nx.st (x : Nx S k m h h') {u v : Value} {z1 z2 : Int32} (ha : h.1 a = some (.inr (23, [u, v, .int z1, .int z2]))) (hS : a ∉ S) : ∃ z1' z2', h'.1 a = some (.inr (23, [u, v, .int z1', .int z2'])) := by
  obtain ⟨c', q1, q2⟩ := x.2.2.2.2.2.2 a _ hS ha
  obtain ⟨z1', z2', q3⟩ := nrm_st q2
  exact ⟨z1', z2', by rw [q1, q3]⟩
end NX
/-- a string of letters below 128 -/
def StrR (h : AH) (a : Nat) (w : List Nat) : Prop := ∃ (b : Nat) (z1 z2 : Int32) (f : Nat → Int32), h.1 a = some (.inr (23, [.ref b, .int 0, .int z1, .int z2])) ∧ h.1 b = some (arI .byte w.length f) ∧ (∀ i c, w[i]? = some c → f i = nI c) ∧ (∀ c ∈ w, c < 128) ∧ w.length ≤ 160
theorem StrR.nx {S : List Nat} {k m : Nat} {h h' : AH} {a : Nat} {w : List Nat} (s : StrR h a w) (x : Nx S k m h h') (hS : ∀ b ∈ S, (∃ ci fs, ci ≠ 23 ∧ h.1 b = some (.inr (ci, fs))) ∨ (∃ ty N f, ty ≠ .byte ∧ h.1 b = some (.inl (ty, (N, f)))) ∨ h.1 b = none ∨ (∃ N f, N ≠ w.length ∧ h.1 b = some (.inl (.byte, (N, f))))) : StrR h' a w := by
  obtain ⟨b, z1, z2, f, h1, h2, h3, h4, h5⟩ := s
  have na : a ∉ S := fun q => by
    rcases hS a q with ⟨ci, fs, c1, c2⟩ | ⟨ty, N, g, c1, c2⟩ | c2 | ⟨N, g, c1, c2⟩
    · rw [h1] at c2; cases c2; exact c1 rfl
    · rw [h1] at c2; cases c2
    · rw [h1] at c2; cases c2
    · rw [h1] at c2; cases c2
  have nb : b ∉ S := fun q => by
    rcases hS b q with ⟨ci, fs, c1, c2⟩ | ⟨ty, N, g, c1, c2⟩ | c2 | ⟨N, g, c1, c2⟩
    · rw [h2] at c2; cases c2
    · rw [h2] at c2; cases c2; exact c1 rfl
    · rw [h2] at c2; cases c2
    · rw [h2] at c2; cases c2; exact c1 rfl
  obtain ⟨z1', z2', q⟩ := x.st h1 na
  exact ⟨b, z1', z2', f, q, x.ar h2 nb, h3, h4, h5⟩
theorem StrR.nx0 {k m : Nat} {h h' : AH} {a : Nat} {w : List Nat} (s : StrR h a w) (x : Nx [] k m h h') : StrR h' a w := s.nx x (fun _ q => nomatch q)
theorem StrR.uniq {h : AH} {a : Nat} {w v : List Nat} (s : StrR h a w) (t : StrR h a v) : w = v := by
  obtain ⟨b, z1, z2, f, h1, h2, h3, h4, h5⟩ := s
  obtain ⟨b', z1', z2', f', g1, g2, g3, g4, g5⟩ := t
  rw [h1] at g1
  cases g1
  rw [h2] at g2
  injection g2 with g2
  injection g2 with g2
  injection g2 with _ g2
  injection g2 with gl g2
  injection g2 with gf'
  apply List.ext_getElem?
  intro i
  by_cases hi : i < w.length
  · have e1 := h3 i _ (List.getElem?_eq_getElem hi)
    have hi' : i < v.length := by omega
    have e2 := g3 i _ (List.getElem?_eq_getElem hi')
    rw [List.getElem?_eq_getElem hi, List.getElem?_eq_getElem hi']
    have m1 := h4 _ (List.getElem_mem hi)
    have m2 := g4 _ (List.getElem_mem hi')
    rw [← gf', e1] at e2
    rw [(nI_eq (by omega) (by omega)).mp e2]
  · rw [List.getElem?_eq_none (by omega), List.getElem?_eq_none (by omega)]
theorem sh_0 {x : Int32} : x >>> ((0 : Int32) &&& 31) = x := by
  apply Int32.toBitVec_inj.mp
  show x.toBitVec.sshiftRight ((0 &&& 31 : Int32).toBitVec.smod 32).toNat = x.toBitVec
  have : ((0 &&& 31 : Int32).toBitVec.smod 32).toNat = 0 := by decide
  rw [this, BitVec.sshiftRight_zero]
theorem nR_y0 {k : Option Rs} : nR .byte 0 k = k := if_pos (by decide)
theorem t1z : ((1 : Int32) = 0) = False := by decide
theorem t0z : ((0 : Int32) = 0) = True := by decide
section CB
variable {Ω : Om} {d : Nat} {h : AH} {a b : Nat} {w v : List Nat}
theorem j_coder {z1 z2 : Int32} {r : Value} (ha : h.1 a = some (.inr (23, [r, .int 0, .int z1, .int z2]))) : gM PG Ω (d + 1) 180 [.ref a] h = some (.returned (some (.int 0)), h) := by
  simp (disch := first | omega | (simp only [hnew_21, hput_21, hnew_22, hput_22]; omega) | exact isR_ref | exact isR_null | exact isR_rf | exact isR_fmt | assumption | decide) only [n_J2_coder, e_J2_coder_0, e_J2_coder_3, e_J2_coder_6, e_J2_coder_7, e_J2_coder_10, e_J2_coder_13, e_J2_coder_14, cR_ref, cR_null, cR_rf, c1_int, c1_ref, c1_null, c1_rf, kz_int, kz_ref, kz_null, kz_rf, kz_U, kz_long, nB_null, nB_ref, rf_none, rf_some, bV_ret, bV_thr, bA_ret, bA_thr, bX_ret, bX_thr, len4_0, len4_1, len4_2, len4_3, len4_4, true_and, and_true, and_self, if_true, if_false, Option.bind_some, nR_b1, nR_b0, nR_bI, nI_1z, nI_0z, bI_z, if_nn, gf, pf, clN, aln, gaI, gaL, gaR, saI, saR, isI, ctB, isB, gB, hput_n, hput_e, hput_21, hput_22, hnew_n, hnew_e, hnew_21, hnew_22, Option.bind_some, Option.map_some, List.lookup_cons, List.lookup_nil, beq_self_eq_true, List.getElem?_cons_zero, List.getElem?_cons_succ, List.set_cons_zero, List.set_cons_succ, List.length_cons, List.length_nil, Nat.reduceAdd, Nat.reduceLT, Nat.reduceLeDiff, Nat.reduceBEq, Nat.reduceEqDiff, okv_int, okv_oref, okv_onull, okv_orf, okv_aref, okv_b0, okv_b1, okv_z0, okv_bI, ckI_nI, lt31, leT, reduceCtorEq, List.mem_cons, List.mem_singleton, List.not_mem_nil, or_true, true_or, or_false, false_or, toR_ref, toR_null, ↓reduceIte, ha, nR_y0, t1z]
theorem j_latin {z1 z2 : Int32} {r : Value} (ha : h.1 a = some (.inr (23, [r, .int 0, .int z1, .int z2]))) : gM PG Ω (d + 1) 183 [.ref a] h = some (.returned (some (.int (nI 1))), h) := by
  simp (disch := first | omega | (simp only [hnew_21, hput_21, hnew_22, hput_22]; omega) | exact isR_ref | exact isR_null | exact isR_rf | exact isR_fmt | assumption | decide) only [n_J2_isLatin1, e_J2_isLatin1_0, e_J2_isLatin1_3, e_J2_isLatin1_6, e_J2_isLatin1_7, e_J2_isLatin1_10, e_J2_isLatin1_13, e_J2_isLatin1_14, e_J2_isLatin1_17, e_J2_isLatin1_18, cR_ref, cR_null, cR_rf, c1_int, c1_ref, c1_null, c1_rf, kz_int, kz_ref, kz_null, kz_rf, kz_U, kz_long, nB_null, nB_ref, rf_none, rf_some, bV_ret, bV_thr, bA_ret, bA_thr, bX_ret, bX_thr, len4_0, len4_1, len4_2, len4_3, len4_4, true_and, and_true, and_self, if_true, if_false, Option.bind_some, nR_b1, nR_b0, nR_bI, nI_1z, nI_0z, bI_z, if_nn, gf, pf, clN, aln, gaI, gaL, gaR, saI, saR, isI, ctB, isB, gB, hput_n, hput_e, hput_21, hput_22, hnew_n, hnew_e, hnew_21, hnew_22, Option.bind_some, Option.map_some, List.lookup_cons, List.lookup_nil, beq_self_eq_true, List.getElem?_cons_zero, List.getElem?_cons_succ, List.set_cons_zero, List.set_cons_succ, List.length_cons, List.length_nil, Nat.reduceAdd, Nat.reduceLT, Nat.reduceLeDiff, Nat.reduceBEq, Nat.reduceEqDiff, okv_int, okv_oref, okv_onull, okv_orf, okv_aref, okv_b0, okv_b1, okv_z0, okv_bI, ckI_nI, lt31, leT, reduceCtorEq, List.mem_cons, List.mem_singleton, List.not_mem_nil, or_true, true_or, or_false, false_or, toR_ref, toR_null, ↓reduceIte, ha, t1z]
theorem j_length (hs : StrR h a w) : gM PG Ω (d + 2) 179 [.ref a] h = some (.returned (some (.int (nI w.length))), h) := by
  obtain ⟨b, z1, z2, f, h1, h2, h3, h4, h5⟩ := hs
  have e := j_coder (Ω := Ω) (d := d) h1
  simp (disch := first | omega | (simp only [hnew_21, hput_21, hnew_22, hput_22]; omega) | exact isR_ref | exact isR_null | exact isR_rf | exact isR_fmt | assumption | decide) only [n_J2_length, e_J2_length_0, e_J2_length_1, e_J2_length_4, e_J2_length_5, e_J2_length_6, e_J2_length_9, e_J2_length_10, cR_ref, cR_null, cR_rf, c1_int, c1_ref, c1_null, c1_rf, kz_int, kz_ref, kz_null, kz_rf, kz_U, kz_long, nB_null, nB_ref, rf_none, rf_some, bV_ret, bV_thr, bA_ret, bA_thr, bX_ret, bX_thr, len4_0, len4_1, len4_2, len4_3, len4_4, true_and, and_true, and_self, if_true, if_false, Option.bind_some, nR_b1, nR_b0, nR_bI, nI_1z, nI_0z, bI_z, if_nn, gf, pf, clN, aln, gaI, gaL, gaR, saI, saR, isI, ctB, isB, gB, hput_n, hput_e, hput_21, hput_22, hnew_n, hnew_e, hnew_21, hnew_22, Option.bind_some, Option.map_some, List.lookup_cons, List.lookup_nil, beq_self_eq_true, List.getElem?_cons_zero, List.getElem?_cons_succ, List.set_cons_zero, List.set_cons_succ, List.length_cons, List.length_nil, Nat.reduceAdd, Nat.reduceLT, Nat.reduceLeDiff, Nat.reduceBEq, Nat.reduceEqDiff, okv_int, okv_oref, okv_onull, okv_orf, okv_aref, okv_b0, okv_b1, okv_z0, okv_bI, ckI_nI, lt31, leT, reduceCtorEq, List.mem_cons, List.mem_singleton, List.not_mem_nil, or_true, true_or, or_false, false_or, toR_ref, toR_null, ↓reduceIte, h1, h2, e, sh_0]
end CB
