/-! TWIN, reading: what is compiled -/
def OpR (σ : Tw) (ops : List (Nat × Nat)) : Prop := σ.1 32 = nI ops.length ∧ ∀ i o a, ops[i]? = some (o, a) → σ.2.2.1 30 i = nI o ∧ σ.2.2.1 31 i = nI a
def PaR (σ : Tw) (P : List Pat) : Prop := σ.1 35 = nI P.length ∧ ∀ i p, P[i]? = some p → SdS σ (3 * i) p.1 ∧ SdS σ (3 * i + 1) p.2.1 ∧ SdS σ (3 * i + 2) p.2.2
def TeR (σ : Tw) (T : List (Nat × Tst)) : Prop := σ.1 39 = nI T.length ∧ ∀ i g t, T[i]? = some (g, t) → σ.2.2.1 36 i = nI g ∧ σ.2.2.1 38 i = bI t.1 ∧ CoS σ i t.2
def SkR (σ : Tw) (G : Nat) (stk : List (Nat × Nat × Nat)) : Prop := σ.1 26 = nI G ∧ σ.1 27 = nI stk.length ∧ ∀ j w g c, stk[j]? = some (w, g, c) → σ.2.2.1 28 j = nI w ∧ σ.2.2.1 29 j = nI g ∧ (w = 3 → σ.2.2.1 42 j = nI c)
abbrev CSt : Type := List (Nat × Nat) × List Pat × List (Nat × Tst) × Nat × List (Nat × Nat × Nat)
def CR (σ : Tw) (c : CSt) : Prop := OpR σ c.1 ∧ PaR σ c.2.1 ∧ TeR σ c.2.2.1 ∧ SkR σ c.2.2.2.1 c.2.2.2.2
/-- the bounds -/
def CI (c : CSt) (s : PS) : Prop := c.1.length + c.2.2.2.2.length ≤ 2 * s.1 + s.2.2 ∧ c.2.2.2.1 ≤ s.1 ∧ c.2.1.length + c.2.2.1.length ≤ s.2.2 ∧ c.2.2.2.2.length ≤ 4 ∧ ∀ e ∈ c.2.2.2.2, e.1 ≤ 3 ∧ e.2.1 < c.2.2.2.1 ∧ e.2.2 ≤ 12
/-- all that reading touches -/
def FxQ (σ σ' : Tw) : Prop := Fx [15, 17, 18, 19, 20, 21, 22, 24, 25, 26, 27, 32, 35, 39] [28, 29, 30, 31, 33, 36, 37, 38, 42] [23, 34] σ σ'
section TP4
variable {Ω : Om} {d : Nat} {h : AH} {x : Nat} {A : Nat → Nat} {σ σ' : Tw} {cs : List Nat} {s : PS}
theorem getE_snoc {α : Type} {l : List α} {a b : α} {i : Nat} (h : (l ++ [a])[i]? = some b) : l[i]? = some b ∨ (i = l.length ∧ b = a) := by
  by_cases hi : i < l.length
  · rw [List.getElem?_append_left hi] at h; exact Or.inl h
  · have hl := (List.getElem?_eq_some_iff.mp h).1
    have : i = l.length := by simp at hl; omega
    subst this
    simp at h
    exact Or.inr ⟨rfl, h.symm⟩
theorem SdS.eq {i : Nat} {sd : Sd} (h : SdS σ i sd) (h1 : σ'.2.2.1 33 i = σ.2.2.1 33 i) (h2 : σ'.2.2.2 34 i = σ.2.2.2 34 i) : SdS σ' i sd := by
  unfold SdS at *
  cases sd with
  | inl v => exact ⟨h.1, h1.trans h.2⟩
  | inr c => exact ⟨h1.trans h.1, h2.trans h.2⟩
theorem CoS.eq {n : Nat} {c : Nat ⊕ (Sd × Nat × Sd)} (h : CoS σ n c) (h0 : σ'.2.2.1 37 n = σ.2.2.1 37 n) (h1 : ∀ i, 60 + 2 * n ≤ i → i < 62 + 2 * n → σ'.2.2.1 33 i = σ.2.2.1 33 i ∧ σ'.2.2.2 34 i = σ.2.2.2 34 i) : CoS σ' n c := by
  unfold CoS at *
  have a1 := h1 (60 + 2 * n) (by omega) (by omega)
  have a2 := h1 (61 + 2 * n) (by omega) (by omega)
  cases c with
  | inl v => exact ⟨h0.trans h.1, h.2.eq a1.1 a1.2⟩
  | inr q => exact ⟨h0.trans h.1, h.2.1, h.2.2.1.eq a1.1 a1.2, h.2.2.2.eq a2.1 a2.2⟩
section FXC
variable {I AI AL : List Nat}
theorem OpR.fx {ops : List (Nat × Nat)} (hf : Fx I AI AL σ σ') (h : OpR σ ops) (h1 : 32 ∉ I) (h2 : 30 ∉ AI) (h3 : 31 ∉ AI) : OpR σ' ops := ⟨by rw [hf.1 32 h1]; exact h.1, fun i o a q => by rw [hf.2.1 30 h2, hf.2.1 31 h3]; exact h.2 i o a q⟩
theorem PaR.fx {P : List Pat} (hf : Fx I AI AL σ σ') (h : PaR σ P) (h1 : 35 ∉ I) (h2 : 33 ∉ AI) (h3 : 34 ∉ AL) : PaR σ' P := ⟨by rw [hf.1 35 h1]; exact h.1, fun i p q => by
  have e1 := hf.2.1 33 h2
  have e2 := hf.2.2 34 h3
  obtain ⟨a, b, c⟩ := h.2 i p q
  exact ⟨a.eq (by rw [e1]) (by rw [e2]), b.eq (by rw [e1]) (by rw [e2]), c.eq (by rw [e1]) (by rw [e2])⟩⟩
theorem TeR.fx {T : List (Nat × Tst)} (hf : Fx I AI AL σ σ') (h : TeR σ T) (h1 : 39 ∉ I) (h2 : ∀ j ∈ [33, 36, 37, 38], j ∉ AI) (h3 : 34 ∉ AL) : TeR σ' T := ⟨by rw [hf.1 39 h1]; exact h.1, fun i g t q => by
  obtain ⟨a, b, c⟩ := h.2 i g t q
  exact ⟨by rw [hf.2.1 36 (h2 36 (by decide))]; exact a, by rw [hf.2.1 38 (h2 38 (by decide))]; exact b, c.eq (by rw [hf.2.1 37 (h2 37 (by decide))]) (fun i _ _ => ⟨by rw [hf.2.1 33 (h2 33 (by decide))], by rw [hf.2.2 34 h3]⟩)⟩⟩
theorem SkR.fx {G : Nat} {stk : List (Nat × Nat × Nat)} (hf : Fx I AI AL σ σ') (h : SkR σ G stk) (h1 : 26 ∉ I) (h2 : 27 ∉ I) (h3 : ∀ j ∈ [28, 29, 42], j ∉ AI) : SkR σ' G stk := ⟨by rw [hf.1 26 h1]; exact h.1, by rw [hf.1 27 h2]; exact h.2.1, fun j w g c q => by rw [hf.2.1 28 (h3 28 (by decide)), hf.2.1 29 (h3 29 (by decide)), hf.2.1 42 (h3 42 (by decide))]; exact h.2.2 j w g c q⟩
theorem CR.fx {c : CSt} (hf : Fx I AI AL σ σ') (h : CR σ c) (h1 : ∀ j ∈ [26, 27, 32, 35, 39], j ∉ I) (h2 : ∀ j ∈ [28, 29, 30, 31, 33, 36, 37, 38, 42], j ∉ AI) (h3 : 34 ∉ AL) : CR σ' c :=
  ⟨h.1.fx hf (h1 32 (by decide)) (h2 30 (by decide)) (h2 31 (by decide)), h.2.1.fx hf (h1 35 (by decide)) (h2 33 (by decide)) h3, h.2.2.1.fx hf (h1 39 (by decide)) (fun j hj => h2 j (by revert hj; revert j; decide)) h3, h.2.2.2.fx hf (h1 26 (by decide)) (h1 27 (by decide)) (fun j hj => h2 j (by revert hj; revert j; decide))⟩
end FXC
/-- emit, on what is compiled -/
theorem OpR.push {ops : List (Nat × Nat)} {o a : Nat} (h : OpR σ ops) : OpR (sI (sA (sA σ 30 ops.length (nI o)) 31 ops.length (nI a)) 32 (nI (ops.length + 1))) (ops ++ [(o, a)]) := by
  refine ⟨by simp [sI_1], fun i o' a' q => ?_⟩
  rcases getE_snoc q with q | ⟨rfl, q2⟩
  · have hi := (List.getElem?_eq_some_iff.mp q).1
    have hne : ¬ i = ops.length := by omega
    simp [sI_2, sA_221, va_up, hne, h.2 i o' a' q]
  · cases q2
    simp [sI_2, sA_221, va_up]
theorem t_em (hT : TwOk Ω.sz x A) {c : CSt} (hc : CR σ c) (hl : c.1.length < 400) {o a : Nat} (hp : PL σ cs s) : ∃ σ', gM PG Ω (d + 1) 70 [.ref x, .int (nI o), .int (nI a)] (tW h x A σ) = some (.returned none, tW h x A σ') ∧ CR σ' (c.1 ++ [(o, a)], c.2) ∧ PL σ' cs s ∧ Fx [32] [30, 31] [] σ σ' := by
  have hf : Fx [32] [30, 31] [] σ (sI (sA (sA σ 30 c.1.length (nI o)) 31 c.1.length (nI a)) 32 (nI (c.1.length + 1))) := ((Fx.rfl'.sA (by decide)).sA (by decide)).sI (by decide)
  exact ⟨_, t_emit hT hc.1.1 hl, ⟨hc.1.push, hc.2.1.fx hf (by decide) (by decide) (by decide), hc.2.2.1.fx hf (by decide) (by decide) (by decide), hc.2.2.2.fx hf (by decide) (by decide) (by decide)⟩, hp.fx hf (by decide) (by decide) (by decide) rfl, hf⟩
theorem SkR.push {G : Nat} {stk : List (Nat × Nat × Nat)} {w c : Nat} {v : Int32} (h : SkR σ G stk) (hv : w = 3 → v = nI c) : SkR (sI (sI (sA (sA (sA σ 42 stk.length v) 28 stk.length (nI w)) 29 stk.length (nI G)) 26 (nI (G + 1))) 27 (nI (stk.length + 1))) (G + 1) (stk ++ [(w, G, c)]) := by
  refine ⟨by simp [sI_1], by simp [sI_1], fun j w' g' c' q => ?_⟩
  rcases getE_snoc q with q | ⟨rfl, q2⟩
  · have hi := (List.getElem?_eq_some_iff.mp q).1
    have hne : ¬ j = stk.length := by omega
    simp [sI_2, sA_221, va_up, hne]
    exact h.2.2 j w' g' c' q
  · cases q2
    simp [sI_2, sA_221, va_up]
    exact hv
theorem FxV.Q (h : FxV σ σ') : FxQ σ σ' := h.mono (by decide) (by decide) (by decide)
theorem Fx.Q4 (h : Fx [15, 17, 18, 19] [] [] σ σ') : FxQ σ σ' := h.mono (by decide) (by decide) (by decide)
theorem PL.room {c : CSt} (hp : PL σ cs s) (hI : CI c s) : c.1.length ≤ 332 := by
  have h1 := hp.2.2.1
  have h2 := hp.1.2.1
  have h3 := hp.2.2.2.2.2.2
  have h4 := hI.1
  omega
set_option maxHeartbeats 1000000 in
theorem t_st_ok (hT : TwOk Ω.sz x A) (hp : PL σ cs s) {c : CSt} (hc : CR σ c) (hI : CI c s) {w : Nat} (hw : w ≤ 3) (hsg : isSg (tk cs s) 123 = true) (hd : c.2.2.2.2.length < 4) {b : Nat} (hb : w = 3 → σ.2.2.1 42 c.2.2.2.2.length = nI b ∧ b < 12) : ∃ σ', gM PG Ω (d + 7) 68 [.ref x, .int (nI w)] (tW h x A σ) = some (.returned none, tW h x A σ') ∧ PL σ' cs (nx cs s) ∧ CR σ' (c.1 ++ [(1, 0)], c.2.1, c.2.2.1, c.2.2.2.1 + 1, c.2.2.2.2 ++ [(w, c.2.2.2.1, b + 1)]) ∧ σ'.1 21 = nI 1 ∧ FxQ σ σ' := by
  obtain ⟨ops, P, T, G, stk⟩ := c
  dsimp only at *
  have hro := hp.room hI
  dsimp only at hro
  obtain ⟨σ1, e1, e2, e3⟩ := t_goOn1 (d := d) (h := h) hT hp
  have hc1 := hc.fx e3 (by decide) (by decide) (by decide)
  have ks := t_isSign (d := d + 5) (h := h) hT hp.2.1 hp.w (c := 123) (by decide)
  rw [hsg] at ks
  have h27 := hc.2.2.2.2.1
  have g26 := hc1.2.2.2.1
  have g27 := hc1.2.2.2.2.1
  dsimp only at h27 g26 g27
  have hf2 : Fx [21, 26, 27, 32] [28, 29, 30, 31, 42] [] σ1 (sI (sI (sA (sA (sA σ1 42 stk.length (σ1.2.2.1 42 stk.length + nI 1)) 28 stk.length (nI w)) 29 stk.length (nI G)) 26 (nI (G + 1))) 27 (nI (stk.length + 1))) := ((((Fx.rfl'.sA (by decide)).sA (by decide)).sA (by decide)).sI (by decide)).sI (by decide)
  have hk2 : SkR (sI (sI (sA (sA (sA σ1 42 stk.length (σ1.2.2.1 42 stk.length + nI 1)) 28 stk.length (nI w)) 29 stk.length (nI G)) 26 (nI (G + 1))) 27 (nI (stk.length + 1))) (G + 1) (stk ++ [(w, G, b + 1)]) := hc1.2.2.2.push (fun q => by rw [e3.2.1 42 (by decide), (hb q).1, nI_add])
  have hf3 : Fx [26, 27] [28, 29, 42] [] σ1 (sI (sI (sA (sA (sA σ1 42 stk.length (σ1.2.2.1 42 stk.length + nI 1)) 28 stk.length (nI w)) 29 stk.length (nI G)) 26 (nI (G + 1))) 27 (nI (stk.length + 1))) := ((((Fx.rfl'.sA (by decide)).sA (by decide)).sA (by decide)).sI (by decide)).sI (by decide)
  have hc2 : CR (sI (sI (sA (sA (sA σ1 42 stk.length (σ1.2.2.1 42 stk.length + nI 1)) 28 stk.length (nI w)) 29 stk.length (nI G)) 26 (nI (G + 1))) 27 (nI (stk.length + 1))) (ops, P, T, G + 1, stk ++ [(w, G, b + 1)]) := ⟨hc1.1.fx hf3 (by decide) (by decide) (by decide), hc1.2.1.fx hf3 (by decide) (by decide) (by decide), hc1.2.2.1.fx hf3 (by decide) (by decide) (by decide), hk2⟩
  have hp2 := e2.fx hf2 (by decide) (by decide) (by decide) rfl
  obtain ⟨σ3, g1, g2, g3, g4⟩ := t_em (d := d + 5) (h := h) hT hc2 (by dsimp only; omega) (o := 1) (a := 0) hp2
  refine ⟨sI σ3 21 (nI 1), ?_, g3.fx (Fx.sI (I := [21]) (AI := []) (AL := []) Fx.rfl' (by decide)) (by decide) (by decide) (by decide) rfl, g2.fx (Fx.sI (I := [21]) (AI := []) (AL := []) Fx.rfl' (by decide)) (by decide) (by decide) (by decide), rfl, ((e3.Q4.trans (hf2.mono (by decide) (by decide) (by decide))).trans (g4.mono (by decide) (by decide) (by decide))).sI (by decide)⟩
  have h5 : stk.length < 5 := by omega
  by_cases h3 : w = 3
  · obtain ⟨b1, b2⟩ := hb h3
    have hb12 : ¬ b = 12 := by omega
    subst h3
    simp (disch := first | omega | decide) only [n_X2_readStart, e_X2_readStart_0, e_X2_readStart_1, e_X2_readStart_2, e_X2_readStart_5, e_X2_readStart_6, e_X2_readStart_9, e_X2_readStart_10, e_X2_readStart_13, e_X2_readStart_14, e_X2_readStart_16, e_X2_readStart_19, e_X2_readStart_20, e_X2_readStart_23, e_X2_readStart_24, e_X2_readStart_25, e_X2_readStart_26, e_X2_readStart_27, e_X2_readStart_29, e_X2_readStart_32, e_X2_readStart_35, e_X2_readStart_36, e_X2_readStart_39, e_X2_readStart_40, e_X2_readStart_43, e_X2_readStart_44, e_X2_readStart_47, e_X2_readStart_48, e_X2_readStart_51, e_X2_readStart_52, e_X2_readStart_55, e_X2_readStart_58, e_X2_readStart_59, e_X2_readStart_60, e_X2_readStart_63, e_X2_readStart_64, e_X2_readStart_67, e_X2_readStart_68, e_X2_readStart_69, e_X2_readStart_70, e_X2_readStart_71, e_X2_readStart_72, e_X2_readStart_73, e_X2_readStart_76, e_X2_readStart_77, e_X2_readStart_80, e_X2_readStart_81, e_X2_readStart_82, e_X2_readStart_83, e_X2_readStart_86, e_X2_readStart_87, e_X2_readStart_90, e_X2_readStart_91, e_X2_readStart_94, e_X2_readStart_95, e_X2_readStart_96, e_X2_readStart_97, e_X2_readStart_100, e_X2_readStart_101, e_X2_readStart_102, e_X2_readStart_105, e_X2_readStart_106, e_X2_readStart_107, e_X2_readStart_110, e_X2_readStart_111, e_X2_readStart_112, e_X2_readStart_115, e_X2_readStart_116, e_X2_readStart_117, e_X2_readStart_118, e_X2_readStart_121, e_X2_readStart_122, e_X2_readStart_123, e_X2_readStart_126, tw_cl, tg26, tg27, tg28, tg29, tg42, tp21 hT, tp26 hT, tp27 hT, tr28 hT, tr29 hT, tr42 hT, ts28 hT, ts29 hT, ts42 hT, cR_ref, cR_null, cR_rf, c1_int, c1_ref, c1_null, c1_rf, kz_int, kz_ref, kz_null, kz_rf, kz_U, kz_long, nB_null, nB_ref, rf_none, rf_some, bV_ret, bV_thr, bA_ret, bA_thr, bX_ret, bX_thr, len4_0, len4_1, len4_2, len4_3, len4_4, true_and, and_true, and_self, if_true, if_false, Option.bind_some, nR_b1, nR_b0, nR_bI, nI_1z, nI_0z, bI_z, if_nn, sI_1, sI_2, sT_1, sT_21, sT_22, sA_1, sA_21, sA_221, sA_222, sL_1, sL_21, sL_221, sL_222, Nat.reduceEqDiff, ↓reduceIte, nI_add, pk_mul, h27, b1, ↓nI_eq_if, ↓nI_lt_if, hb12, hd, ks, bI_t, e1, g26, g27, g1, okv_b1]
  · simp (disch := first | omega | decide) only [n_X2_readStart, e_X2_readStart_0, e_X2_readStart_1, e_X2_readStart_2, e_X2_readStart_5, e_X2_readStart_6, e_X2_readStart_9, e_X2_readStart_10, e_X2_readStart_13, e_X2_readStart_14, e_X2_readStart_16, e_X2_readStart_19, e_X2_readStart_20, e_X2_readStart_23, e_X2_readStart_24, e_X2_readStart_25, e_X2_readStart_26, e_X2_readStart_27, e_X2_readStart_29, e_X2_readStart_32, e_X2_readStart_35, e_X2_readStart_36, e_X2_readStart_39, e_X2_readStart_40, e_X2_readStart_43, e_X2_readStart_44, e_X2_readStart_47, e_X2_readStart_48, e_X2_readStart_51, e_X2_readStart_52, e_X2_readStart_55, e_X2_readStart_58, e_X2_readStart_59, e_X2_readStart_60, e_X2_readStart_63, e_X2_readStart_64, e_X2_readStart_67, e_X2_readStart_68, e_X2_readStart_69, e_X2_readStart_70, e_X2_readStart_71, e_X2_readStart_72, e_X2_readStart_73, e_X2_readStart_76, e_X2_readStart_77, e_X2_readStart_80, e_X2_readStart_81, e_X2_readStart_82, e_X2_readStart_83, e_X2_readStart_86, e_X2_readStart_87, e_X2_readStart_90, e_X2_readStart_91, e_X2_readStart_94, e_X2_readStart_95, e_X2_readStart_96, e_X2_readStart_97, e_X2_readStart_100, e_X2_readStart_101, e_X2_readStart_102, e_X2_readStart_105, e_X2_readStart_106, e_X2_readStart_107, e_X2_readStart_110, e_X2_readStart_111, e_X2_readStart_112, e_X2_readStart_115, e_X2_readStart_116, e_X2_readStart_117, e_X2_readStart_118, e_X2_readStart_121, e_X2_readStart_122, e_X2_readStart_123, e_X2_readStart_126, tw_cl, tg26, tg27, tg28, tg29, tg42, tp21 hT, tp26 hT, tp27 hT, tr28 hT, tr29 hT, tr42 hT, ts28 hT, ts29 hT, ts42 hT, cR_ref, cR_null, cR_rf, c1_int, c1_ref, c1_null, c1_rf, kz_int, kz_ref, kz_null, kz_rf, kz_U, kz_long, nB_null, nB_ref, rf_none, rf_some, bV_ret, bV_thr, bA_ret, bA_thr, bX_ret, bX_thr, len4_0, len4_1, len4_2, len4_3, len4_4, true_and, and_true, and_self, if_true, if_false, Option.bind_some, nR_b1, nR_b0, nR_bI, nI_1z, nI_0z, bI_z, if_nn, sI_1, sI_2, sT_1, sT_21, sT_22, sA_1, sA_21, sA_221, sA_222, sL_1, sL_21, sL_221, sL_222, Nat.reduceEqDiff, ↓reduceIte, nI_add, pk_mul, h27, ↓nI_eq_if, ↓nI_lt_if, h3, hd, ks, bI_t, e1, g26, g27, g1, okv_b1]
set_option maxHeartbeats 1000000 in
theorem t_st_er (hT : TwOk Ω.sz x A) (hp : PL σ cs s) {c : CSt} (hc : CR σ c) (hd4 : c.2.2.2.2.length ≤ 4) {w : Nat} (hw : w ≤ 3) {b : Nat} (hb : w = 3 → σ.2.2.1 42 c.2.2.2.2.length = nI b ∧ b ≤ 12) (hno : ¬ (isSg (tk cs s) 123 = true ∧ c.2.2.2.2.length < 4 ∧ ¬ (w = 3 ∧ b = 12))) : gM PG Ω (d + 7) 68 [.ref x, .int (nI w)] (tW h x A σ) = some (.returned none, tW h x A (sI σ 20 (nI (tk cs s).2.2.1))) := by
  obtain ⟨ops, P, T, G, stk⟩ := c
  dsimp only at *
  have f1 := t_goOn0 (d := d + 4) (h := h) hT hp
  have ks := t_isSign (d := d + 5) (h := h) hT hp.2.1 hp.w (c := 123) (by decide)
  have h27 := hc.2.2.2.2.1
  dsimp only at h27
  have h5 : stk.length < 5 := by omega
  have h45 : gO PG Ω (d + 6) 68 51 [.ref x, .int (nI w), .int (nI 0)] [.ref x] (tW h x A σ) = some (.returned none, tW h x A (sI σ 20 (nI (tk cs s).2.2.1))) := by
    simp (disch := first | omega | decide) only [e_X2_readStart_51, e_X2_readStart_52, e_X2_readStart_55, e_X2_readStart_58, tw_cl, tg26, tg27, tg28, tg29, tg42, tp21 hT, tp26 hT, tp27 hT, tr28 hT, tr29 hT, tr42 hT, ts28 hT, ts29 hT, ts42 hT, cR_ref, cR_null, cR_rf, c1_int, c1_ref, c1_null, c1_rf, kz_int, kz_ref, kz_null, kz_rf, kz_U, kz_long, nB_null, nB_ref, rf_none, rf_some, bV_ret, bV_thr, bA_ret, bA_thr, bX_ret, bX_thr, len4_0, len4_1, len4_2, len4_3, len4_4, true_and, and_true, and_self, if_true, if_false, Option.bind_some, nR_b1, nR_b0, nR_bI, nI_1z, nI_0z, bI_z, if_nn, f1]
  have h46 : gO PG Ω (d + 6) 68 51 [.ref x, .int (nI w), .int (nI 1)] [.ref x] (tW h x A σ) = some (.returned none, tW h x A (sI σ 20 (nI (tk cs s).2.2.1))) := by
    simp (disch := first | omega | decide) only [e_X2_readStart_51, e_X2_readStart_52, e_X2_readStart_55, e_X2_readStart_58, tw_cl, tg26, tg27, tg28, tg29, tg42, tp21 hT, tp26 hT, tp27 hT, tr28 hT, tr29 hT, tr42 hT, ts28 hT, ts29 hT, ts42 hT, cR_ref, cR_null, cR_rf, c1_int, c1_ref, c1_null, c1_rf, kz_int, kz_ref, kz_null, kz_rf, kz_U, kz_long, nB_null, nB_ref, rf_none, rf_some, bV_ret, bV_thr, bA_ret, bA_thr, bX_ret, bX_thr, len4_0, len4_1, len4_2, len4_3, len4_4, true_and, and_true, and_self, if_true, if_false, Option.bind_some, nR_b1, nR_b0, nR_bI, nI_1z, nI_0z, bI_z, if_nn, f1]
  cases hq : isSg (tk cs s) 123 with
  | false =>
    rw [hq] at ks
    by_cases h3 : w = 3
    · obtain ⟨b1, b2⟩ := hb h3
      subst h3
      by_cases hb12 : b = 12
      · simp (disch := first | omega | decide) only [n_X2_readStart, e_X2_readStart_0, e_X2_readStart_1, e_X2_readStart_2, e_X2_readStart_5, e_X2_readStart_6, e_X2_readStart_9, e_X2_readStart_10, e_X2_readStart_13, e_X2_readStart_14, e_X2_readStart_16, e_X2_readStart_19, e_X2_readStart_20, e_X2_readStart_23, e_X2_readStart_24, e_X2_readStart_25, e_X2_readStart_26, e_X2_readStart_27, e_X2_readStart_29, e_X2_readStart_32, e_X2_readStart_35, e_X2_readStart_36, e_X2_readStart_39, e_X2_readStart_40, e_X2_readStart_43, e_X2_readStart_44, e_X2_readStart_47, e_X2_readStart_48, tw_cl, tg26, tg27, tg28, tg29, tg42, tp21 hT, tp26 hT, tp27 hT, tr28 hT, tr29 hT, tr42 hT, ts28 hT, ts29 hT, ts42 hT, cR_ref, cR_null, cR_rf, c1_int, c1_ref, c1_null, c1_rf, kz_int, kz_ref, kz_null, kz_rf, kz_U, kz_long, nB_null, nB_ref, rf_none, rf_some, bV_ret, bV_thr, bA_ret, bA_thr, bX_ret, bX_thr, len4_0, len4_1, len4_2, len4_3, len4_4, true_and, and_true, and_self, if_true, if_false, Option.bind_some, nR_b1, nR_b0, nR_bI, nI_1z, nI_0z, bI_z, if_nn, sI_1, sI_2, sT_1, sT_21, sT_22, sA_1, sA_21, sA_221, sA_222, sL_1, sL_21, sL_221, sL_222, Nat.reduceEqDiff, ↓reduceIte, nI_add, pk_mul, h27, b1, ↓nI_eq_if, ↓nI_lt_if, hb12, ks, bI_f, h46]
      · simp (disch := first | omega | decide) only [n_X2_readStart, e_X2_readStart_0, e_X2_readStart_1, e_X2_readStart_2, e_X2_readStart_5, e_X2_readStart_6, e_X2_readStart_9, e_X2_readStart_10, e_X2_readStart_13, e_X2_readStart_14, e_X2_readStart_16, e_X2_readStart_19, e_X2_readStart_20, e_X2_readStart_23, e_X2_readStart_24, e_X2_readStart_25, e_X2_readStart_26, e_X2_readStart_27, e_X2_readStart_29, e_X2_readStart_32, e_X2_readStart_35, e_X2_readStart_36, e_X2_readStart_39, e_X2_readStart_40, e_X2_readStart_43, e_X2_readStart_44, e_X2_readStart_47, e_X2_readStart_48, tw_cl, tg26, tg27, tg28, tg29, tg42, tp21 hT, tp26 hT, tp27 hT, tr28 hT, tr29 hT, tr42 hT, ts28 hT, ts29 hT, ts42 hT, cR_ref, cR_null, cR_rf, c1_int, c1_ref, c1_null, c1_rf, kz_int, kz_ref, kz_null, kz_rf, kz_U, kz_long, nB_null, nB_ref, rf_none, rf_some, bV_ret, bV_thr, bA_ret, bA_thr, bX_ret, bX_thr, len4_0, len4_1, len4_2, len4_3, len4_4, true_and, and_true, and_self, if_true, if_false, Option.bind_some, nR_b1, nR_b0, nR_bI, nI_1z, nI_0z, bI_z, if_nn, sI_1, sI_2, sT_1, sT_21, sT_22, sA_1, sA_21, sA_221, sA_222, sL_1, sL_21, sL_221, sL_222, Nat.reduceEqDiff, ↓reduceIte, nI_add, pk_mul, h27, b1, ↓nI_eq_if, ↓nI_lt_if, hb12, ks, bI_f, h45]
    · simp (disch := first | omega | decide) only [n_X2_readStart, e_X2_readStart_0, e_X2_readStart_1, e_X2_readStart_2, e_X2_readStart_5, e_X2_readStart_6, e_X2_readStart_9, e_X2_readStart_10, e_X2_readStart_13, e_X2_readStart_14, e_X2_readStart_16, e_X2_readStart_19, e_X2_readStart_20, e_X2_readStart_23, e_X2_readStart_24, e_X2_readStart_25, e_X2_readStart_26, e_X2_readStart_27, e_X2_readStart_29, e_X2_readStart_32, e_X2_readStart_35, e_X2_readStart_36, e_X2_readStart_39, e_X2_readStart_40, e_X2_readStart_43, e_X2_readStart_44, e_X2_readStart_47, e_X2_readStart_48, tw_cl, tg26, tg27, tg28, tg29, tg42, tp21 hT, tp26 hT, tp27 hT, tr28 hT, tr29 hT, tr42 hT, ts28 hT, ts29 hT, ts42 hT, cR_ref, cR_null, cR_rf, c1_int, c1_ref, c1_null, c1_rf, kz_int, kz_ref, kz_null, kz_rf, kz_U, kz_long, nB_null, nB_ref, rf_none, rf_some, bV_ret, bV_thr, bA_ret, bA_thr, bX_ret, bX_thr, len4_0, len4_1, len4_2, len4_3, len4_4, true_and, and_true, and_self, if_true, if_false, Option.bind_some, nR_b1, nR_b0, nR_bI, nI_1z, nI_0z, bI_z, if_nn, sI_1, sI_2, sT_1, sT_21, sT_22, sA_1, sA_21, sA_221, sA_222, sL_1, sL_21, sL_221, sL_222, Nat.reduceEqDiff, ↓reduceIte, nI_add, pk_mul, h27, ↓nI_eq_if, ↓nI_lt_if, h3, ks, bI_f, h45]
  | true =>
    rw [hq] at ks
    by_cases hd : stk.length < 4
    · have h3 : w = 3 ∧ b = 12 := Classical.byContradiction fun z => hno ⟨hq, hd, z⟩
      obtain ⟨b1, b2⟩ := hb h3.1
      obtain ⟨rfl, rfl⟩ := h3
      simp (disch := first | omega | decide) only [n_X2_readStart, e_X2_readStart_0, e_X2_readStart_1, e_X2_readStart_2, e_X2_readStart_5, e_X2_readStart_6, e_X2_readStart_9, e_X2_readStart_10, e_X2_readStart_13, e_X2_readStart_14, e_X2_readStart_16, e_X2_readStart_19, e_X2_readStart_20, e_X2_readStart_23, e_X2_readStart_24, e_X2_readStart_25, e_X2_readStart_26, e_X2_readStart_27, e_X2_readStart_29, e_X2_readStart_32, e_X2_readStart_35, e_X2_readStart_36, e_X2_readStart_39, e_X2_readStart_40, e_X2_readStart_43, e_X2_readStart_44, e_X2_readStart_47, e_X2_readStart_48, tw_cl, tg26, tg27, tg28, tg29, tg42, tp21 hT, tp26 hT, tp27 hT, tr28 hT, tr29 hT, tr42 hT, ts28 hT, ts29 hT, ts42 hT, cR_ref, cR_null, cR_rf, c1_int, c1_ref, c1_null, c1_rf, kz_int, kz_ref, kz_null, kz_rf, kz_U, kz_long, nB_null, nB_ref, rf_none, rf_some, bV_ret, bV_thr, bA_ret, bA_thr, bX_ret, bX_thr, len4_0, len4_1, len4_2, len4_3, len4_4, true_and, and_true, and_self, if_true, if_false, Option.bind_some, nR_b1, nR_b0, nR_bI, nI_1z, nI_0z, bI_z, if_nn, sI_1, sI_2, sT_1, sT_21, sT_22, sA_1, sA_21, sA_221, sA_222, sL_1, sL_21, sL_221, sL_222, Nat.reduceEqDiff, ↓reduceIte, nI_add, pk_mul, h27, b1, ↓nI_eq_if, ↓nI_lt_if, hd, ks, bI_t, h46]
    · by_cases h3 : w = 3
      · obtain ⟨b1, b2⟩ := hb h3
        subst h3
        by_cases hb12 : b = 12
        · simp (disch := first | omega | decide) only [n_X2_readStart, e_X2_readStart_0, e_X2_readStart_1, e_X2_readStart_2, e_X2_readStart_5, e_X2_readStart_6, e_X2_readStart_9, e_X2_readStart_10, e_X2_readStart_13, e_X2_readStart_14, e_X2_readStart_16, e_X2_readStart_19, e_X2_readStart_20, e_X2_readStart_23, e_X2_readStart_24, e_X2_readStart_25, e_X2_readStart_26, e_X2_readStart_27, e_X2_readStart_29, e_X2_readStart_32, e_X2_readStart_35, e_X2_readStart_36, e_X2_readStart_39, e_X2_readStart_40, e_X2_readStart_43, e_X2_readStart_44, e_X2_readStart_47, e_X2_readStart_48, tw_cl, tg26, tg27, tg28, tg29, tg42, tp21 hT, tp26 hT, tp27 hT, tr28 hT, tr29 hT, tr42 hT, ts28 hT, ts29 hT, ts42 hT, cR_ref, cR_null, cR_rf, c1_int, c1_ref, c1_null, c1_rf, kz_int, kz_ref, kz_null, kz_rf, kz_U, kz_long, nB_null, nB_ref, rf_none, rf_some, bV_ret, bV_thr, bA_ret, bA_thr, bX_ret, bX_thr, len4_0, len4_1, len4_2, len4_3, len4_4, true_and, and_true, and_self, if_true, if_false, Option.bind_some, nR_b1, nR_b0, nR_bI, nI_1z, nI_0z, bI_z, if_nn, sI_1, sI_2, sT_1, sT_21, sT_22, sA_1, sA_21, sA_221, sA_222, sL_1, sL_21, sL_221, sL_222, Nat.reduceEqDiff, ↓reduceIte, nI_add, pk_mul, h27, b1, ↓nI_eq_if, ↓nI_lt_if, hb12, hd, ks, bI_t, h46]
        · simp (disch := first | omega | decide) only [n_X2_readStart, e_X2_readStart_0, e_X2_readStart_1, e_X2_readStart_2, e_X2_readStart_5, e_X2_readStart_6, e_X2_readStart_9, e_X2_readStart_10, e_X2_readStart_13, e_X2_readStart_14, e_X2_readStart_16, e_X2_readStart_19, e_X2_readStart_20, e_X2_readStart_23, e_X2_readStart_24, e_X2_readStart_25, e_X2_readStart_26, e_X2_readStart_27, e_X2_readStart_29, e_X2_readStart_32, e_X2_readStart_35, e_X2_readStart_36, e_X2_readStart_39, e_X2_readStart_40, e_X2_readStart_43, e_X2_readStart_44, e_X2_readStart_47, e_X2_readStart_48, tw_cl, tg26, tg27, tg28, tg29, tg42, tp21 hT, tp26 hT, tp27 hT, tr28 hT, tr29 hT, tr42 hT, ts28 hT, ts29 hT, ts42 hT, cR_ref, cR_null, cR_rf, c1_int, c1_ref, c1_null, c1_rf, kz_int, kz_ref, kz_null, kz_rf, kz_U, kz_long, nB_null, nB_ref, rf_none, rf_some, bV_ret, bV_thr, bA_ret, bA_thr, bX_ret, bX_thr, len4_0, len4_1, len4_2, len4_3, len4_4, true_and, and_true, and_self, if_true, if_false, Option.bind_some, nR_b1, nR_b0, nR_bI, nI_1z, nI_0z, bI_z, if_nn, sI_1, sI_2, sT_1, sT_21, sT_22, sA_1, sA_21, sA_221, sA_222, sL_1, sL_21, sL_221, sL_222, Nat.reduceEqDiff, ↓reduceIte, nI_add, pk_mul, h27, b1, ↓nI_eq_if, ↓nI_lt_if, hb12, hd, ks, bI_t, h45]
      · simp (disch := first | omega | decide) only [n_X2_readStart, e_X2_readStart_0, e_X2_readStart_1, e_X2_readStart_2, e_X2_readStart_5, e_X2_readStart_6, e_X2_readStart_9, e_X2_readStart_10, e_X2_readStart_13, e_X2_readStart_14, e_X2_readStart_16, e_X2_readStart_19, e_X2_readStart_20, e_X2_readStart_23, e_X2_readStart_24, e_X2_readStart_25, e_X2_readStart_26, e_X2_readStart_27, e_X2_readStart_29, e_X2_readStart_32, e_X2_readStart_35, e_X2_readStart_36, e_X2_readStart_39, e_X2_readStart_40, e_X2_readStart_43, e_X2_readStart_44, e_X2_readStart_47, e_X2_readStart_48, tw_cl, tg26, tg27, tg28, tg29, tg42, tp21 hT, tp26 hT, tp27 hT, tr28 hT, tr29 hT, tr42 hT, ts28 hT, ts29 hT, ts42 hT, cR_ref, cR_null, cR_rf, c1_int, c1_ref, c1_null, c1_rf, kz_int, kz_ref, kz_null, kz_rf, kz_U, kz_long, nB_null, nB_ref, rf_none, rf_some, bV_ret, bV_thr, bA_ret, bA_thr, bX_ret, bX_thr, len4_0, len4_1, len4_2, len4_3, len4_4, true_and, and_true, and_self, if_true, if_false, Option.bind_some, nR_b1, nR_b0, nR_bI, nI_1z, nI_0z, bI_z, if_nn, sI_1, sI_2, sT_1, sT_21, sT_22, sA_1, sA_21, sA_221, sA_222, sL_1, sL_21, sL_221, sL_222, Nat.reduceEqDiff, ↓reduceIte, nI_add, pk_mul, h27, ↓nI_eq_if, ↓nI_lt_if, h3, hd, ks, bI_t, h45]
end TP4
