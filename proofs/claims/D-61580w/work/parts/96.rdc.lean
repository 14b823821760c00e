/-! COMPONENT: reader, unions -/
def UnI (n lo hi : Nat) (h : AH) (a arr : Nat) (gs : List (GT n)) : Prop := lo ≤ a ∧ a < hi ∧ lo ≤ arr ∧ arr < hi ∧ ∃ f : Nat → Option Nat, h.1 a = some (.inr (17, [.null, .ref arr, .int (nI gs.length)])) ∧ h.1 arr = some (arR "TripleStore$Group" 12 f) ∧ gs.length ≤ 12 ∧ ∀ i g, gs[i]? = some g → ∃ ga l u, f i = some ga ∧ GrF n l u h ga g ∧ lo ≤ l ∧ u ≤ hi ∧ a < l ∧ arr < l
section RDC
variable {Ω : Om} {d n lo hi lo2 hi2 : Nat} {h h' h0 h1 h2 : AH} {a b arr r c tx nm dp k m : Nat} {w cs : List Nat} {s s' s0 : PS} {fs : List Value} {x y : Value} {gs : List (GT n)}
theorem AgX.agr0 {ci : Nat} (z : AgX a lo hi h h') (ha : h.1 a = some (.inr (ci, fs))) (hc : ci ≠ 3 ∧ ci ≠ 4 ∧ ci ≠ 23) (ho : a < lo2 ∨ hi2 ≤ a) (hl : lo ≤ lo2) (hh : hi2 ≤ hi) : Agr lo2 hi2 h h' := fun q e h1 h2 => by
  have hqa : q ≠ a := fun w => by
    subst w
    rcases h2 with y | y
    · omega
    · rw [ha] at h1; cases h1
      have y' : ci = 3 ∨ ci = 4 ∨ ci = 23 := y
      omega
  exact z q e hqa h1 (by rcases h2 with y | y; exact .inl ⟨by omega, by omega⟩; exact .inr y)
theorem UnI.el (x : UnI n lo hi h a arr gs) : ElS n lo hi h a .null (.inr (.inr (.inr (.inr gs)))) := by
  obtain ⟨x1, x2, x3, x4, f, x5, x6, x7, x8⟩ := x
  refine ⟨x1, x2, 17, [.ref arr, .int (nI gs.length)], .inr (.inr (.inr (.inl rfl))), x5, fun h'' nx' z1 z2 => ?_⟩
  have hne : arr ≠ a := fun q => by rw [q, x5] at x6; cases x6
  obtain ⟨e', q1, q2⟩ := z2 arr _ hne x6 (.inl ⟨x3, x4⟩)
  refine ⟨arr, f, z1, by rw [q1, nrm_ar q2], x7, fun i g hg => ?_⟩
  obtain ⟨ga, l, u, y1, y2, y3, y4, y5, y6⟩ := x8 i g hg
  exact ⟨ga, y1, y2 h'' (z2.agr0 x5 ⟨by decide, by decide, by decide⟩ (.inl y5) y3 y4)⟩
/-- the reader has gone on -/
theorem UnI.to (x : UnI n lo hi h a arr gs) (t : RdR Ω h r c tx nm cs s dp) (nn : Nx [r, nm] k m h h') (hr : r < lo) (hm : nm < lo) (hh : hi ≤ hi2) : UnI n lo hi2 h' a arr gs := by
  obtain ⟨x1, x2, x3, x4, f, x5, x6, x7, x8⟩ := x
  refine ⟨x1, by omega, x3, by omega, f, nn.ob x5 (by decide) (t.na x5 (by decide)), nn.ar x6 (by simp; omega), x7, fun i g hg => ?_⟩
  obtain ⟨ga, l, u, y1, y2, y3, y4, y5, y6⟩ := x8 i g hg
  exact ⟨ga, l, u, y1, y2.to (t.agr nn (by omega) (by omega)), y3, by omega, y5, y6⟩
/-- one more group -/
theorem r_uadd {g : GT n} {u l v : Nat} (hza : Ω.sz ≤ a) (hzb : Ω.sz ≤ arr) (x : UnI n lo hi h a arr gs) (hl : gs.length < 12) (t : RdR Ω h r c tx nm cs s dp) (hg : GrF n l v h u g) (hc : ∃ fs, h.1 u = some (.inr (9, fs))) (h1 : lo ≤ l) (h2 : v ≤ hi) (h3 : a < l) (h4 : arr < l) : ∃ h', gM PG Ω (d + 1) 148 [.ref a, .ref u] h = some (.returned none, h') ∧ UnI n lo hi h' a arr (gs ++ [g]) ∧ RdR Ω h' r c tx nm cs s dp ∧ (∀ (S : List Nat) (K M : Nat) (h0 : AH), Nx S K M h0 h → h0.2.1 ≤ a → h0.2.1 ≤ arr → Nx S K M h0 h') ∧ h'.2 = h.2 := by
  obtain ⟨x1, x2, x3, x4, f, x5, x6, x7, x8⟩ := x
  obtain ⟨fs, hc⟩ := hc
  have hFe := t.fe
  have la := hFe.lt x5
  have lb := hFe.lt x6
  have hne : arr ≠ a := fun q => by rw [q, x5] at x6; cases x6
  have k1 : Ku h (hput h arr (arR "TripleStore$Group" 12 (va_up f gs.length (some u)))) := Ku.puta hFe x6 ⟨by decide, by decide⟩
  have ca : (hput h arr (arR "TripleStore$Group" 12 (va_up f gs.length (some u)))).1 a = some (.inr (17, [.null, .ref arr, .int (nI gs.length)])) := by rw [hput_n (Ne.symm hne)]; exact x5
  have k2' : Ku (hput h arr (arR "TripleStore$Group" 12 (va_up f gs.length (some u)))) (hput (hput h arr (arR "TripleStore$Group" 12 (va_up f gs.length (some u)))) a (.inr (17, [.null, .ref arr, .int (nI (gs.length + 1))]))) := Ku.put k1.1 ca ⟨by decide, by decide, by decide⟩
  have ag : ∀ l' v', a < l' → arr < l' → Agr l' v' h (hput (hput h arr (arR "TripleStore$Group" 12 (va_up f gs.length (some u)))) a (.inr (17, [.null, .ref arr, .int (nI (gs.length + 1))]))) := fun l' v' q1 q2 => (Agr.puta x6 (by decide) (.inl q2)).trans (Agr.put ca ⟨by decide, by decide, by decide⟩ (.inl q1))
  refine ⟨hput (hput h arr (arR "TripleStore$Group" 12 (va_up f gs.length (some u)))) a (.inr (17, [.null, .ref arr, .int (nI (gs.length + 1))])), ?_, ⟨x1, x2, x3, x4, va_up f gs.length (some u), by rw [hput_e, List.length_append]; rfl, by rw [hput_n hne, hput_e], by rw [List.length_append, List.length_singleton]; omega, fun i g' hi' => ?_⟩, (t.ku k1).ku k2', fun S K M h0 q1 q2 q3 => (q1.put (.inr q3) lb).put (.inr q2) (by rw [hput_21]; exact la), rfl⟩
  · simp (disch := first | omega | (simp only [hnew_21, hput_21, hnew_22, hput_22]; omega) | exact isR_ref | exact isR_null | exact isR_rf | exact isR_fmt | assumption | decide) only [n_X21_add, e_X21_add_0, e_X21_add_1, e_X21_add_4, e_X21_add_5, e_X21_add_8, e_X21_add_9, e_X21_add_10, e_X21_add_11, e_X21_add_12, e_X21_add_15, e_X21_add_16, e_X21_add_17, e_X21_add_20, cR_ref, cR_null, cR_rf, c1_int, c1_ref, c1_null, c1_rf, kz_int, kz_ref, kz_null, kz_rf, kz_U, kz_long, nB_null, nB_ref, rf_none, rf_some, bV_ret, bV_thr, bA_ret, bA_thr, bX_ret, bX_thr, len4_0, len4_1, len4_2, len4_3, len4_4, true_and, and_true, and_self, if_true, if_false, Option.bind_some, nR_b1, nR_b0, nR_bI, nI_1z, nI_0z, bI_z, if_nn, gf, pf, clN, aln, gaI, gaL, gaR, saI, saR, isI, ctB, isB, gB, hput_n, hput_e, hput_21, hput_22, hnew_n, hnew_e, hnew_21, hnew_22, Option.bind_some, Option.map_some, List.lookup_cons, List.lookup_nil, beq_self_eq_true, List.getElem?_cons_zero, List.getElem?_cons_succ, List.set_cons_zero, List.set_cons_succ, List.length_cons, List.length_nil, Nat.reduceAdd, Nat.reduceLT, Nat.reduceLeDiff, Nat.reduceBEq, Nat.reduceEqDiff, okv_int, okv_oref, okv_onull, okv_orf, okv_aref, okv_b0, okv_b1, okv_z0, okv_bI, ckI_nI, lt31, leT, reduceCtorEq, List.mem_cons, List.mem_singleton, List.not_mem_nil, or_true, true_or, or_false, false_or, toR_ref, toR_null, ↓reduceIte, nI_add, pk_mul, x5, x6, hc]
  · unfold va_up
    rcases getE_snoc hi' with q | ⟨rfl, rfl⟩
    · have hil := (List.getElem?_eq_some_iff.mp q).1
      obtain ⟨ga, l', u', y1, y2, y3, y4, y5, y6⟩ := x8 i g' q
      exact ⟨ga, l', u', by rw [if_neg (by omega)]; exact y1, y2.to (ag l' u' y5 y6), y3, y4, y5, y6⟩
    · exact ⟨u, l, v, by rw [if_pos rfl], hg.to (ag l v h3 h4), h1, h2, h3, h4⟩
theorem UnI.mono (x : UnI n lo hi h a arr gs) (hh : hi ≤ hi2) : UnI n lo hi2 h a arr gs := by
  obtain ⟨x1, x2, x3, x4, f, x5, x6, x7, x8⟩ := x
  refine ⟨x1, by omega, x3, by omega, f, x5, x6, x7, fun i g hg => ?_⟩
  obtain ⟨ga, l, u, y1, y2, y3, y4, y5, y6⟩ := x8 i g hg
  exact ⟨ga, l, u, y1, y2, y3, by omega, y5, y6⟩
set_option maxHeartbeats 2000000 in
theorem r_uni (hG : HGr Ω (d + 16) r c tx nm cs n dp) (t0 : RdR Ω h0 r c tx nm cs s0 dp) {l1 : Value} (hga : h0.2.1 ≤ a) (hgb : h0.2.1 ≤ arr) : ∀ (k : Nat) (gs : List (GT n)) (h : AH) (s : PS) (K M : Nat), gs.length + k = 12 → RdR Ω h r c tx nm cs s dp → Nx [r, nm] K M h0 h → s0.1 ≤ s.1 → K ≤ 10 * (s.1 - s0.1) → M ≤ 300 * (s.1 - s0.1) → UnI n h0.2.1 h.2.1 h a arr gs → (∀ gs' s', pUni cs (pG cs n) k s = .ok (gs', s') → s.1 ≤ s'.1 ∧ ∃ h', gO PG Ω (d + 16) 120 191 [.ref r, l1, .ref a] [] h = some (.returned (some (.ref a)), h') ∧ RdR Ω h' r c tx nm cs s' dp ∧ Nx [r, nm] (10 * (s'.1 - s0.1)) (300 * (s'.1 - s0.1)) h0 h' ∧ UnI n h0.2.1 h'.2.1 h' a arr (gs ++ gs')) ∧ (∀ q, pUni cs (pG cs n) k s = .error q → REr h0 r c nm s0 q 3 (gO PG Ω (d + 16) 120 191 [.ref r, l1, .ref a] [] h)) := by
  obtain ⟨lr, ln, lc⟩ := t0.lts
  have hz0 : Ω.sz ≤ h0.2.1 := t0.2.2.2.2.2.2.2.2.1.2.2.2.2
  intro k
  induction k with
  | zero =>
    intro gs h s K M hk t nn hs0 hK hM hU
    obtain ⟨wd, p, a1, a2⟩ := t.cell
    have hs5 := t.2.2.2.2.1
    unfold pUni
    by_cases hu : isKy (tk cs s) 8 = true
    · rw [if_pos hu]
      refine ⟨fun gs' s' hh => (nomatch hh), fun q hh => ?_⟩
      have hq' : q = (tk cs (nx cs s)).2.2.1 := by unfold er at hh; injection hh with hh; exact hh.symm
      rw [hq']
      obtain ⟨h1, e1, e2, e3, _⟩ := r_take1 (d := d + 9) t (i := 8) (by omega) hu
      have hlt := nx_lt hs5 (isKy_0 hu)
      have hU1 := hU.to (hi2 := h1.2.1) t e3 lr ln e3.2.2.1
      obtain ⟨wd1, p1, a11, _⟩ := e2.cell
      obtain ⟨x1, x2, x3, x4, f, x5, x6, x7, x8⟩ := hU1
      have hg12 : ¬ gs.length < 12 := by omega
      obtain ⟨ex, h', hf', g1, g2⟩ := r_chk0 (d := d + 7) e2 (q := (tk cs (nx cs s)).2.2.1)
      have er' : REr h1 r c nm (nx cs s) (tk cs (nx cs s)).2.2.1 1 (gO PG Ω (d + 16) 120 191 [.ref r, l1, .ref a] [] h) := by
        refine ⟨ex, h', hf', ?_, g2⟩
        rw [e_X9_element_191]
        simp (disch := first | omega | (simp only [hnew_21, hput_21, hnew_22, hput_22]; omega) | exact isR_ref | exact isR_null | exact isR_rf | exact isR_fmt | assumption | decide) only [e_X9_element_192, e_X9_element_194, e_X9_element_197, e_X9_element_200, e_X9_element_201, e_X9_element_202, e_X9_element_205, e_X9_element_207, e_X9_element_210, e_X9_element_211, e_X9_element_214, e_X9_element_215, e_X9_element_216, e_X9_element_219, e_X9_element_222, cR_ref, cR_null, cR_rf, c1_int, c1_ref, c1_null, c1_rf, kz_int, kz_ref, kz_null, kz_rf, kz_U, kz_long, nB_null, nB_ref, rf_none, rf_some, bV_ret, bV_thr, bA_ret, bA_thr, bX_ret, bX_thr, len4_0, len4_1, len4_2, len4_3, len4_4, true_and, and_true, and_self, if_true, if_false, Option.bind_some, nR_b1, nR_b0, nR_bI, nI_1z, nI_0z, bI_z, if_nn, gf, pf, clN, aln, gaI, gaL, gaR, saI, saR, isI, ctB, isB, gB, hput_n, hput_e, hput_21, hput_22, hnew_n, hnew_e, hnew_21, hnew_22, Option.bind_some, Option.map_some, List.lookup_cons, List.lookup_nil, beq_self_eq_true, List.getElem?_cons_zero, List.getElem?_cons_succ, List.set_cons_zero, List.set_cons_succ, List.length_cons, List.length_nil, Nat.reduceAdd, Nat.reduceLT, Nat.reduceLeDiff, Nat.reduceBEq, Nat.reduceEqDiff, okv_int, okv_oref, okv_onull, okv_orf, okv_aref, okv_b0, okv_b1, okv_z0, okv_bI, ckI_nI, lt31, leT, reduceCtorEq, List.mem_cons, List.mem_singleton, List.not_mem_nil, or_true, true_or, or_false, false_or, toR_ref, toR_null, ↓reduceIte, a1, a11, e1, x5, ↓nI_lt_if, hg12, g1]
      exact er'.back2 t0 (nn.trans e3) (by omega) e2.2.2.2.2.1 (by omega) (by omega)
    · rw [if_neg hu]
      have hu' : isKy (tk cs s) 8 = false := by cases hq : isKy (tk cs s) 8 with
        | true => exact absurd hq hu
        | false => rfl
      refine ⟨fun gs' s' hh => ?_, fun q hh => (nomatch hh)⟩
      cases hh
      have e0 := r_take0 (d := d + 12) t (i := 8) (by omega) hu'
      refine ⟨Nat.le_refl _, h, ?_, t, nn.mono (fun _ z => z) hK hM, by rw [List.append_nil]; exact hU⟩
      rw [e_X9_element_191]
      simp (disch := first | omega | (simp only [hnew_21, hput_21, hnew_22, hput_22]; omega) | exact isR_ref | exact isR_null | exact isR_rf | exact isR_fmt | assumption | decide) only [e_X9_element_192, e_X9_element_194, e_X9_element_197, e_X9_element_200, e_X9_element_201, e_X9_element_202, e_X9_element_205, e_X9_element_207, e_X9_element_210, e_X9_element_211, e_X9_element_214, e_X9_element_215, e_X9_element_216, e_X9_element_219, e_X9_element_222, e_X9_element_223, e_X9_element_224, e_X9_element_227, e_X9_element_230, e_X9_element_233, e_X9_element_234, cR_ref, cR_null, cR_rf, c1_int, c1_ref, c1_null, c1_rf, kz_int, kz_ref, kz_null, kz_rf, kz_U, kz_long, nB_null, nB_ref, rf_none, rf_some, bV_ret, bV_thr, bA_ret, bA_thr, bX_ret, bX_thr, len4_0, len4_1, len4_2, len4_3, len4_4, true_and, and_true, and_self, if_true, if_false, Option.bind_some, nR_b1, nR_b0, nR_bI, nI_1z, nI_0z, bI_z, if_nn, gf, pf, clN, aln, gaI, gaL, gaR, saI, saR, isI, ctB, isB, gB, hput_n, hput_e, hput_21, hput_22, hnew_n, hnew_e, hnew_21, hnew_22, Option.bind_some, Option.map_some, List.lookup_cons, List.lookup_nil, beq_self_eq_true, List.getElem?_cons_zero, List.getElem?_cons_succ, List.set_cons_zero, List.set_cons_succ, List.length_cons, List.length_nil, Nat.reduceAdd, Nat.reduceLT, Nat.reduceLeDiff, Nat.reduceBEq, Nat.reduceEqDiff, okv_int, okv_oref, okv_onull, okv_orf, okv_aref, okv_b0, okv_b1, okv_z0, okv_bI, ckI_nI, lt31, leT, reduceCtorEq, List.mem_cons, List.mem_singleton, List.not_mem_nil, or_true, true_or, or_false, false_or, toR_ref, toR_null, ↓reduceIte, a1, e0]
  | succ k ih =>
    intro gs h s K M hk t nn hs0 hK hM hU
    obtain ⟨wd, p, a1, a2⟩ := t.cell
    have hs5 := t.2.2.2.2.1
    unfold pUni
    by_cases hu : isKy (tk cs s) 8 = true
    · rw [if_pos hu]
      obtain ⟨h1, e1, e2, e3, _⟩ := r_take1 (d := d + 9) t (i := 8) (by omega) hu
      have hlt := nx_lt hs5 (isKy_0 hu)
      have hU1 := hU.to (hi2 := h1.2.1) t e3 lr ln e3.2.2.1
      obtain ⟨wd1, p1, a11, _⟩ := e2.cell
      have hU1c := hU1
      obtain ⟨x1, x2, x3, x4, f, x5, x6, x7, x8⟩ := hU1
      have hg12 : gs.length < 12 := by omega
      have ec := r_chk1 (Ω := Ω) (d := d + 15) (h := h1) (r := r) (x := nI (tk cs (nx cs s)).2.2.1)
      have rg := hG e2
      have N1 := nn.trans e3
      have pre : ∀ {o : Option Rs}, True → gO PG Ω (d + 16) 120 191 [.ref r, l1, .ref a] [] h = bA (gM PG Ω (d + 16) 119 [.ref r] h1) (fun v h' => gO PG Ω (d + 16) 120 227 [.ref r, l1, .ref a] [v, .ref a] h') := by
        intro o _
        rw [e_X9_element_191]
        simp (disch := first | omega | (simp only [hnew_21, hput_21, hnew_22, hput_22]; omega) | exact isR_ref | exact isR_null | exact isR_rf | exact isR_fmt | assumption | decide) only [e_X9_element_192, e_X9_element_194, e_X9_element_197, e_X9_element_200, e_X9_element_201, e_X9_element_202, e_X9_element_205, e_X9_element_207, e_X9_element_210, e_X9_element_211, e_X9_element_214, e_X9_element_215, e_X9_element_216, e_X9_element_219, e_X9_element_222, e_X9_element_223, e_X9_element_224, cR_ref, cR_null, cR_rf, c1_int, c1_ref, c1_null, c1_rf, kz_int, kz_ref, kz_null, kz_rf, kz_U, kz_long, nB_null, nB_ref, rf_none, rf_some, bV_ret, bV_thr, bA_ret, bA_thr, bX_ret, bX_thr, len4_0, len4_1, len4_2, len4_3, len4_4, true_and, and_true, and_self, if_true, if_false, Option.bind_some, nR_b1, nR_b0, nR_bI, nI_1z, nI_0z, bI_z, if_nn, gf, pf, clN, aln, gaI, gaL, gaR, saI, saR, isI, ctB, isB, gB, hput_n, hput_e, hput_21, hput_22, hnew_n, hnew_e, hnew_21, hnew_22, Option.bind_some, Option.map_some, List.lookup_cons, List.lookup_nil, beq_self_eq_true, List.getElem?_cons_zero, List.getElem?_cons_succ, List.set_cons_zero, List.set_cons_succ, List.length_cons, List.length_nil, Nat.reduceAdd, Nat.reduceLT, Nat.reduceLeDiff, Nat.reduceBEq, Nat.reduceEqDiff, okv_int, okv_oref, okv_onull, okv_orf, okv_aref, okv_b0, okv_b1, okv_z0, okv_bI, ckI_nI, lt31, leT, reduceCtorEq, List.mem_cons, List.mem_singleton, List.not_mem_nil, or_true, true_or, or_false, false_or, toR_ref, toR_null, ↓reduceIte, a1, a11, e1, x5, ↓nI_lt_if, hg12, ec]
      rw [pre (o := none) trivial]
      cases hq : pG cs n (nx cs s) with
      | error q =>
        refine ⟨fun gs' s' hh => (nomatch hh), fun q' hh => ?_⟩
        cases hh
        obtain ⟨ex, h', hf', g1, g2⟩ := rg.2 q hq
        have er' : REr h1 r c nm (nx cs s) q 1 (bA (gM PG Ω (d + 16) 119 [.ref r] h1) (fun v h' => gO PG Ω (d + 16) 120 227 [.ref r, l1, .ref a] [v, .ref a] h')) := by
          refine ⟨ex, h', hf', ?_, g2⟩
          rw [g1]; rfl
        exact er'.back2 t0 N1 (by omega) e2.2.2.2.2.1 (by omega) (by omega)
      | ok v1 =>
        obtain ⟨g, s1⟩ := v1
        dsimp only
        obtain ⟨hlt2, u, h2, f1, f2, f3, f4, f5, f6, f7⟩ := rg.1 g s1 hq
        have hU2 := hU1c.to (hi2 := h2.2.1) e2 f3 lr ln f3.2.2.1
        obtain ⟨h3, q1, q2, q3, q4, q5⟩ := r_uadd (Ω := Ω) (d := d + 15) (show Ω.sz ≤ a by omega) (show Ω.sz ≤ arr by omega) hU2 hg12 f2 f4 f7 (by have := N1.2.2.1; omega) (Nat.le_refl _) (by omega) (by omega)
        have N3 := q4 _ _ _ _ (N1.trans f3) hga hgb
        have c17 : ∃ fs, h2.1 a = some (.inr (17, fs)) := by obtain ⟨_, _, _, _, _, z, _⟩ := hU2; exact ⟨_, z⟩
        obtain ⟨fs17, c17⟩ := c17
        have eg : bA (gM PG Ω (d + 16) 119 [.ref r] h1) (fun v h' => gO PG Ω (d + 16) 120 227 [.ref r, l1, .ref a] [v, .ref a] h') = gO PG Ω (d + 16) 120 191 [.ref r, l1, .ref a] [] h3 := by
          rw [f1]
          simp (disch := first | omega | (simp only [hnew_21, hput_21, hnew_22, hput_22]; omega) | exact isR_ref | exact isR_null | exact isR_rf | exact isR_fmt | assumption | decide) only [e_X9_element_227, e_X9_element_230, cR_ref, cR_null, cR_rf, c1_int, c1_ref, c1_null, c1_rf, kz_int, kz_ref, kz_null, kz_rf, kz_U, kz_long, nB_null, nB_ref, rf_none, rf_some, bV_ret, bV_thr, bA_ret, bA_thr, bX_ret, bX_thr, len4_0, len4_1, len4_2, len4_3, len4_4, true_and, and_true, and_self, if_true, if_false, Option.bind_some, nR_b1, nR_b0, nR_bI, nI_1z, nI_0z, bI_z, if_nn, gf, pf, clN, aln, gaI, gaL, gaR, saI, saR, isI, ctB, isB, gB, hput_n, hput_e, hput_21, hput_22, hnew_n, hnew_e, hnew_21, hnew_22, Option.bind_some, Option.map_some, List.lookup_cons, List.lookup_nil, beq_self_eq_true, List.getElem?_cons_zero, List.getElem?_cons_succ, List.set_cons_zero, List.set_cons_succ, List.length_cons, List.length_nil, Nat.reduceAdd, Nat.reduceLT, Nat.reduceLeDiff, Nat.reduceBEq, Nat.reduceEqDiff, okv_int, okv_oref, okv_onull, okv_orf, okv_aref, okv_b0, okv_b1, okv_z0, okv_bI, ckI_nI, lt31, leT, reduceCtorEq, List.mem_cons, List.mem_singleton, List.not_mem_nil, or_true, true_or, or_false, false_or, toR_ref, toR_null, ↓reduceIte, c17, q1]
        rw [eg]
        have hU3 : UnI n h0.2.1 h3.2.1 h3 a arr (gs ++ [g]) := by rw [q5]; exact q2
        have ih' := ih (gs ++ [g]) h3 s1 _ _ (by rw [List.length_append, List.length_singleton]; omega) q3 N3 (by omega) (by omega) (by omega) hU3
        cases hq2 : pUni cs (pG cs n) k s1 with
        | error q =>
          refine ⟨fun gs' s' hh => (nomatch hh), fun q' hh => ?_⟩
          cases hh
          exact ih'.2 q hq2
        | ok v2 =>
          obtain ⟨gs2, s2⟩ := v2
          refine ⟨fun gs' s' hh => ?_, fun q' hh => (nomatch hh)⟩
          cases hh
          obtain ⟨z1, h4, z2, z3, z4, z5⟩ := ih'.1 gs2 s2 hq2
          rw [List.append_assoc] at z5
          exact ⟨by omega, h4, z2, z3, z4, z5⟩
    · rw [if_neg hu]
      have hu' : isKy (tk cs s) 8 = false := by cases hq : isKy (tk cs s) 8 with
        | true => exact absurd hq hu
        | false => rfl
      refine ⟨fun gs' s' hh => ?_, fun q hh => (nomatch hh)⟩
      cases hh
      have e0 := r_take0 (d := d + 12) t (i := 8) (by omega) hu'
      refine ⟨Nat.le_refl _, h, ?_, t, nn.mono (fun _ z => z) hK hM, by rw [List.append_nil]; exact hU⟩
      rw [e_X9_element_191]
      simp (disch := first | omega | (simp only [hnew_21, hput_21, hnew_22, hput_22]; omega) | exact isR_ref | exact isR_null | exact isR_rf | exact isR_fmt | assumption | decide) only [e_X9_element_192, e_X9_element_194, e_X9_element_197, e_X9_element_200, e_X9_element_201, e_X9_element_202, e_X9_element_205, e_X9_element_207, e_X9_element_210, e_X9_element_211, e_X9_element_214, e_X9_element_215, e_X9_element_216, e_X9_element_219, e_X9_element_222, e_X9_element_223, e_X9_element_224, e_X9_element_227, e_X9_element_230, e_X9_element_233, e_X9_element_234, cR_ref, cR_null, cR_rf, c1_int, c1_ref, c1_null, c1_rf, kz_int, kz_ref, kz_null, kz_rf, kz_U, kz_long, nB_null, nB_ref, rf_none, rf_some, bV_ret, bV_thr, bA_ret, bA_thr, bX_ret, bX_thr, len4_0, len4_1, len4_2, len4_3, len4_4, true_and, and_true, and_self, if_true, if_false, Option.bind_some, nR_b1, nR_b0, nR_bI, nI_1z, nI_0z, bI_z, if_nn, gf, pf, clN, aln, gaI, gaL, gaR, saI, saR, isI, ctB, isB, gB, hput_n, hput_e, hput_21, hput_22, hnew_n, hnew_e, hnew_21, hnew_22, Option.bind_some, Option.map_some, List.lookup_cons, List.lookup_nil, beq_self_eq_true, List.getElem?_cons_zero, List.getElem?_cons_succ, List.set_cons_zero, List.set_cons_succ, List.length_cons, List.length_nil, Nat.reduceAdd, Nat.reduceLT, Nat.reduceLeDiff, Nat.reduceBEq, Nat.reduceEqDiff, okv_int, okv_oref, okv_onull, okv_orf, okv_aref, okv_b0, okv_b1, okv_z0, okv_bI, ckI_nI, lt31, leT, reduceCtorEq, List.mem_cons, List.mem_singleton, List.not_mem_nil, or_true, true_or, or_false, false_or, toR_ref, toR_null, ↓reduceIte, a1, e0]
end RDC
