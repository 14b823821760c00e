/-! COMPONENT: reader, groups -/
def lsI (L : List (Nat × Nat × Nat)) : Value := match L.getLast? with
  | some p => .ref p.1
  | none => .null
def GcR (h : AH) (ga : Nat) (L : List (Nat × Nat × Nat)) : Prop := h.1 ga = some (.inr (9, [nxI L 0, lsI L]))
section RDF
variable {Ω : Om} {d n lo hi lo' hi' : Nat} {h h' h0 h1 h2 : AH} {a b ga r c tx nm dp k m K M : Nat} {w cs : List Nat} {s s' s0 : PS} {fs : List Value} {L : List (Nat × Nat × Nat)} {els : List (El (GT n))} {e : El (GT n)}
theorem nxI_app {p : Nat × Nat × Nat} (h : L ≠ []) : nxI (L ++ [p]) 0 = nxI L 0 := by
  unfold nxI
  rw [List.getElem?_append_left (List.length_pos_iff.mpr h)]
theorem lsI_app {p : Nat × Nat × Nat} : lsI (L ++ [p]) = .ref p.1 := by unfold lsI; simp
theorem nxI_rf (L : List (Nat × Nat × Nat)) (i : Nat) : nxI L i = .null ∨ ∃ q, nxI L i = .ref q := by
  unfold nxI
  cases L[i]? with
  | none => exact .inl rfl
  | some p => exact .inr ⟨p.1, rfl⟩
set_option maxHeartbeats 2000000 in
theorem r_gadd (hzg : Ω.sz ≤ ga) (hzl : Ω.sz ≤ lo) (t : RdR Ω h r c tx nm cs s dp) (hg : GcR h ga L) (hgl : ga < lo) (x : ChI n lo hi h L els) (hle : hi ≤ lo') (hlo : lo ≤ lo') (hh : hi' ≤ h.2.1) (y : ElS n lo' hi' h b .null e) : ∃ h', gM PG Ω (d + 1) 127 [.ref ga, .ref b] h = some (.returned none, h') ∧ GcR h' ga (L ++ [(b, lo', hi')]) ∧ ChI n lo h.2.1 h' (L ++ [(b, lo', hi')]) (els ++ [e]) ∧ RdR Ω h' r c tx nm cs s dp ∧ h'.2 = h.2 ∧ (∀ (S : List Nat) (K M : Nat) (h0 : AH), Nx S K M h0 h → h0.2.1 ≤ ga → Nx S K M h0 h') := by
  have hFe := t.fe
  have lg := hFe.lt hg
  by_cases hL : L = []
  · subst hL
    have he : els = [] := List.length_eq_zero_iff.mp (by rw [← x.1]; rfl)
    subst he
    have hg' : h.1 ga = some (.inr (9, [.null, .null])) := hg
    refine ⟨hput h ga (.inr (9, [.ref b, .ref b])), ?_, by unfold GcR; rw [hput_e]; rfl, ?_, t.ku (Ku.put hFe hg' ⟨by decide, by decide, by decide⟩), rfl, fun S K M h0 q1 q2 => q1.put (.inr q2) lg⟩
    · simp (disch := first | omega | (simp only [hnew_21, hput_21, hnew_22, hput_22]; omega) | exact isR_ref | exact isR_null | exact isR_rf | exact isR_fmt | assumption | decide) only [n_X11_add, e_X11_add_0, e_X11_add_1, e_X11_add_4, e_X11_add_7, e_X11_add_8, e_X11_add_9, e_X11_add_12, e_X11_add_15, e_X11_add_16, e_X11_add_19, e_X11_add_20, e_X11_add_23, e_X11_add_24, e_X11_add_25, e_X11_add_28, cR_ref, cR_null, cR_rf, c1_int, c1_ref, c1_null, c1_rf, kz_int, kz_ref, kz_null, kz_rf, kz_U, kz_long, nB_null, nB_ref, rf_none, rf_some, bV_ret, bV_thr, bA_ret, bA_thr, bX_ret, bX_thr, len4_0, len4_1, len4_2, len4_3, len4_4, true_and, and_true, and_self, if_true, if_false, Option.bind_some, nR_b1, nR_b0, nR_bI, nI_1z, nI_0z, bI_z, if_nn, gf, pf, clN, aln, gaI, gaL, gaR, saI, saR, isI, ctB, isB, gB, hput_n, hput_e, hput_21, hput_22, hnew_n, hnew_e, hnew_21, hnew_22, Option.bind_some, Option.map_some, List.lookup_cons, List.lookup_nil, beq_self_eq_true, List.getElem?_cons_zero, List.getElem?_cons_succ, List.set_cons_zero, List.set_cons_succ, List.length_cons, List.length_nil, Nat.reduceAdd, Nat.reduceLT, Nat.reduceLeDiff, Nat.reduceBEq, Nat.reduceEqDiff, okv_int, okv_oref, okv_onull, okv_orf, okv_aref, okv_b0, okv_b1, okv_z0, okv_bI, ckI_nI, lt31, leT, reduceCtorEq, List.mem_cons, List.mem_singleton, List.not_mem_nil, or_true, true_or, or_false, false_or, toR_ref, toR_null, ↓reduceIte, hg', hput2]
    · exact ChI.one hlo hh (y.to (Agr.put hg' ⟨by decide, by decide, by decide⟩ (.inl (by omega))))
  · have hlen : 0 < L.length := List.length_pos_iff.mpr hL
    obtain ⟨⟨a0, l0, u0⟩, hlast⟩ : ∃ p, L.getLast? = some p := ⟨_, List.getLast?_eq_some_getLast hL⟩
    have hlast' : L[L.length - 1]? = some (a0, l0, u0) := by rw [← List.getLast?_eq_getElem?]; exact hlast
    obtain ⟨elast, hel⟩ : ∃ e0, els[L.length - 1]? = some e0 := ⟨_, List.getElem?_eq_getElem (by rw [← x.1]; omega)⟩
    have hnl : nxI L (L.length - 1 + 1) = .null := by
      unfold nxI
      rw [List.getElem?_eq_none (by omega)]
    obtain ⟨w1, w2, w3⟩ := x.2.1 _ _ _ _ _ hlast' hel
    rw [hnl] at w3
    obtain ⟨v1, v2, ci, rest, v3, v4, _⟩ := w3
    have hne : ga ≠ a0 := fun q => by rw [q] at hgl; omega
    have hn9 : ci ≠ 9 := by omega
    have hls : lsI L = .ref a0 := by unfold lsI; rw [hlast]
    obtain ⟨f0, hf0⟩ : ∃ q, nxI L 0 = .ref q := by
      unfold nxI
      rw [List.getElem?_eq_getElem hlen]
      exact ⟨_, rfl⟩
    have hg' : h.1 ga = some (.inr (9, [.ref f0, .ref a0])) := by
      have : h.1 ga = some (.inr (9, [nxI L 0, lsI L])) := hg
      rw [hf0, hls] at this; exact this
    have la := hFe.lt v4
    have kA : Ku h (hput h a0 (.inr (ci, .ref b :: rest))) := Ku.put hFe v4 ⟨by omega, by omega, by omega⟩
    have cg : (hput h a0 (.inr (ci, .ref b :: rest))).1 ga = some (.inr (9, [.ref f0, .ref a0])) := by rw [hput_n hne]; exact hg'
    have kB : Ku (hput h a0 (.inr (ci, .ref b :: rest))) (hput (hput h a0 (.inr (ci, .ref b :: rest))) ga (.inr (9, [.ref f0, .ref b]))) := Ku.put kA.1 cg ⟨by decide, by decide, by decide⟩
    have hza : Ω.sz ≤ a0 := by omega
    have sn := x.snoc hlast v4 hle hh (show hi ≤ h.2.1 by have := y.1; have := y.2.1; omega) y
    refine ⟨hput (hput h a0 (.inr (ci, .ref b :: rest))) ga (.inr (9, [.ref f0, .ref b])), ?_, by unfold GcR; rw [hput_e, nxI_app hL, lsI_app, hf0], sn.to (Agr.put cg ⟨by decide, by decide, by decide⟩ (.inl hgl)), (t.ku kA).ku kB, rfl, fun S K M h0 q1 q2 => (q1.put (.inr (by omega)) la).put (.inr q2) (by rw [hput_21]; exact lg)⟩
    rcases v3 with rfl | rfl | rfl | rfl | rfl <;> simp (disch := first | omega | (simp only [hnew_21, hput_21, hnew_22, hput_22]; omega) | exact isR_ref | exact isR_null | exact isR_rf | exact isR_fmt | assumption | decide) only [n_X11_add, e_X11_add_0, e_X11_add_1, e_X11_add_4, e_X11_add_7, e_X11_add_8, e_X11_add_9, e_X11_add_12, e_X11_add_15, e_X11_add_16, e_X11_add_19, e_X11_add_20, e_X11_add_23, e_X11_add_24, e_X11_add_25, e_X11_add_28, cR_ref, cR_null, cR_rf, c1_int, c1_ref, c1_null, c1_rf, kz_int, kz_ref, kz_null, kz_rf, kz_U, kz_long, nB_null, nB_ref, rf_none, rf_some, bV_ret, bV_thr, bA_ret, bA_thr, bX_ret, bX_thr, len4_0, len4_1, len4_2, len4_3, len4_4, true_and, and_true, and_self, if_true, if_false, Option.bind_some, nR_b1, nR_b0, nR_bI, nI_1z, nI_0z, bI_z, if_nn, gf, pf, clN, aln, gaI, gaL, gaR, saI, saR, isI, ctB, isB, gB, hput_n, hput_e, hput_21, hput_22, hnew_n, hnew_e, hnew_21, hnew_22, Option.bind_some, Option.map_some, List.lookup_cons, List.lookup_nil, beq_self_eq_true, List.getElem?_cons_zero, List.getElem?_cons_succ, List.set_cons_zero, List.set_cons_succ, List.length_cons, List.length_nil, Nat.reduceAdd, Nat.reduceLT, Nat.reduceLeDiff, Nat.reduceBEq, Nat.reduceEqDiff, okv_int, okv_oref, okv_onull, okv_orf, okv_aref, okv_b0, okv_b1, okv_z0, okv_bI, ckI_nI, lt31, leT, reduceCtorEq, List.mem_cons, List.mem_singleton, List.not_mem_nil, or_true, true_or, or_false, false_or, toR_ref, toR_null, ↓reduceIte, hg', v4, Nat.zero_lt_succ]
end RDF
