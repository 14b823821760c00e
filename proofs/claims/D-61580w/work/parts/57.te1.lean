/-! TWIN, answering: lists on the pile -/
def SoR (σ : Tw) (k : Nat) (s : Sol) : Prop := σ.2.2.1 48 k = nI (msk s) ∧ ∀ v t, v < 6 → s v = some t → σ.2.2.2 47 (6 * k + v) = t
def PiR (σ : Tw) (i : Nat) (l : List Sol) : Prop := σ.2.2.1 49 i = nI l.length ∧ l.length ≤ 150 ∧ ∀ r s, l[r]? = some s → SoR σ (150 * i + r) s
/-- slot k is the same -/
def SlE (σ σ' : Tw) (k : Nat) : Prop := σ'.2.2.1 48 k = σ.2.2.1 48 k ∧ ∀ v, v < 6 → σ'.2.2.2 47 (6 * k + v) = σ.2.2.2 47 (6 * k + v)
/-- only list j -/
def LsF (j : Nat) (σ σ' : Tw) : Prop := Fx [51] [48, 49] [47] σ σ' ∧ ∀ i, i ≠ j → σ'.2.2.1 49 i = σ.2.2.1 49 i ∧ ∀ r, r < 150 → SlE σ σ' (150 * i + r)
section TE1
variable {Ω : Om} {d : Nat} {h : AH} {x : Nat} {A : Nat → Nat} {σ σ' : Tw}
theorem SlE.rfl' {k : Nat} : SlE σ σ k := ⟨rfl, fun _ _ => rfl⟩
theorem SlE.trans {σ'' : Tw} {k : Nat} (h : SlE σ σ' k) (h' : SlE σ' σ'' k) : SlE σ σ'' k := ⟨h'.1.trans h.1, fun v hv => (h'.2 v hv).trans (h.2 v hv)⟩
theorem SoR.eq {k : Nat} {s : Sol} (h : SoR σ k s) (he : SlE σ σ' k) : SoR σ' k s := ⟨he.1.trans h.1, fun v t hv ht => (he.2 v hv).trans (h.2 v t hv ht)⟩
theorem LsF.rfl' {j : Nat} : LsF j σ σ := ⟨Fx.rfl', fun _ _ => ⟨rfl, fun _ _ => SlE.rfl'⟩⟩
theorem LsF.trans {σ'' : Tw} {j : Nat} (h : LsF j σ σ') (h' : LsF j σ' σ'') : LsF j σ σ'' := ⟨h.1.trans h'.1, fun i hi => ⟨(h'.2 i hi).1.trans (h.2 i hi).1, fun r hr => ((h.2 i hi).2 r hr).trans ((h'.2 i hi).2 r hr)⟩⟩
theorem PiR.keep {j i : Nat} {l : List Sol} (h : PiR σ i l) (hf : LsF j σ σ') (hi : i ≠ j) : PiR σ' i l := ⟨(hf.2 i hi).1.trans h.1, h.2.1, fun r s q => (h.2.2 r s q).eq ((hf.2 i hi).2 r (by have := (List.getElem?_eq_some_iff.mp q).1; have := h.2.1; omega))⟩
theorem SoR.keep {j i r : Nat} {s : Sol} (h : SoR σ (150 * i + r) s) (hf : LsF j σ σ') (hi : i ≠ j) (hr : r < 150) : SoR σ' (150 * i + r) s := h.eq ((hf.2 i hi).2 r hr)
theorem LsF.tm {j : Nat} {v : Int32} (h : LsF j σ σ') : LsF j σ (sI σ' 51 v) := ⟨h.1.sI (by decide), h.2⟩
/-- copies of values, v of them -/
theorem t_ad1 (hT : TwOk Ω.sz x A) {j f a k : Nat} (hk : k < 1650) (hq : 150 * f + a < 1650) (hne : k ≠ 150 * f + a) {l1 : Int32} (hl1 : l1 = nI j) : ∀ (m v : Nat) (σ : Tw), v + m = 6 → ∃ σ', gO PG Ω d 82 54 [.ref x, .int l1, .int (nI f), .int (nI a), .int (nI k), .int (nI v)] [] (tW h x A σ) = gO PG Ω d 82 98 [.ref x, .int l1, .int (nI f), .int (nI a), .int (nI k), .int (nI 6)] [] (tW h x A σ') ∧ Fx [] [] [47] σ σ' ∧ (∀ w, v ≤ w → w < 6 → σ'.2.2.2 47 (6 * k + w) = σ.2.2.2 47 (6 * (150 * f + a) + w)) ∧ ∀ i, (i < 6 * k + v ∨ 6 * k + 6 ≤ i) → σ'.2.2.2 47 i = σ.2.2.2 47 i := by
  intro m
  induction m with
  | zero =>
    intro v σ hv
    have : v = 6 := by omega
    subst this
    refine ⟨σ, ?_, Fx.rfl', fun w h1 h2 => by omega, fun i _ => rfl⟩
    rw [e_X2_addTo_54]
    simp (disch := omega) only [e_X2_addTo_56, e_X2_addTo_58, e_X2_addTo_61, e_X2_addTo_62, e_X2_addTo_65, e_X2_addTo_67, e_X2_addTo_69, e_X2_addTo_70, e_X2_addTo_72, e_X2_addTo_73, e_X2_addTo_74, e_X2_addTo_77, e_X2_addTo_79, e_X2_addTo_82, e_X2_addTo_83, e_X2_addTo_84, e_X2_addTo_85, e_X2_addTo_86, e_X2_addTo_87, e_X2_addTo_89, e_X2_addTo_90, e_X2_addTo_91, e_X2_addTo_92, e_X2_addTo_95, tw_cl, tg47, tg48, tg49, tp51 hT, tr47 hT, tr48 hT, tr49 hT, ts47 hT, ts48 hT, ts49 hT, cR_ref, cR_null, cR_rf, c1_int, c1_ref, c1_null, c1_rf, kz_int, kz_ref, kz_null, kz_rf, kz_U, kz_long, nB_null, nB_ref, rf_none, rf_some, bV_ret, bV_thr, bA_ret, bA_thr, bX_ret, bX_thr, len4_0, len4_1, len4_2, len4_3, len4_4, true_and, and_true, and_self, if_true, if_false, Option.bind_some, nR_b1, nR_b0, nR_bI, nI_1z, nI_0z, bI_z, if_nn, nI_add, pk_mul, ↓nI_lt_if, Nat.lt_irrefl]
  | succ m ih =>
    intro v σ hv
    have hv6 : v < 6 := by omega
    obtain ⟨σ', e1, e2, e3, e4⟩ := ih (v + 1) (sL σ 47 (6 * k + v) (σ.2.2.2 47 (6 * (150 * f + a) + v))) (by omega)
    refine ⟨σ', ?_, (Fx.rfl'.sL (by decide)).trans e2, fun w h1 h2 => ?_, fun i hi => ?_⟩
    · rw [← e1, e_X2_addTo_54]
      simp (disch := omega) only [e_X2_addTo_56, e_X2_addTo_58, e_X2_addTo_61, e_X2_addTo_62, e_X2_addTo_65, e_X2_addTo_67, e_X2_addTo_69, e_X2_addTo_70, e_X2_addTo_72, e_X2_addTo_73, e_X2_addTo_74, e_X2_addTo_77, e_X2_addTo_79, e_X2_addTo_82, e_X2_addTo_83, e_X2_addTo_84, e_X2_addTo_85, e_X2_addTo_86, e_X2_addTo_87, e_X2_addTo_89, e_X2_addTo_90, e_X2_addTo_91, e_X2_addTo_92, e_X2_addTo_95, tw_cl, tg47, tg48, tg49, tp51 hT, tr47 hT, tr48 hT, tr49 hT, ts47 hT, ts48 hT, ts49 hT, cR_ref, cR_null, cR_rf, c1_int, c1_ref, c1_null, c1_rf, kz_int, kz_ref, kz_null, kz_rf, kz_U, kz_long, nB_null, nB_ref, rf_none, rf_some, bV_ret, bV_thr, bA_ret, bA_thr, bX_ret, bX_thr, len4_0, len4_1, len4_2, len4_3, len4_4, true_and, and_true, and_self, if_true, if_false, Option.bind_some, nR_b1, nR_b0, nR_bI, nI_1z, nI_0z, bI_z, if_nn, nI_add, pk_mul, ↓nI_lt_if, hv6]
    · by_cases hw : w = v
      · subst hw
        rw [e4 _ (by omega), sL_222, if_pos rfl]
        simp [va_up]
      · rw [e3 w (by omega) h2, sL_222, if_pos rfl]
        unfold va_up
        rw [if_neg (by omega)]
    · rw [e4 i (by omega), sL_222, if_pos rfl]
      unfold va_up
      rw [if_neg (by omega)]
theorem t_add_no (hT : TwOk Ω.sz x A) {j : Nat} (hj : j < 11) (h49 : σ.2.2.1 49 j = nI 150) {f a : Int32} : gM PG Ω (d + 1) 82 [.ref x, .int (nI j), .int f, .int a] (tW h x A σ) = some (.returned none, tW h x A (sI σ 51 (nI 1))) := by
  simp (disch := first | omega | decide) only [n_X2_addTo, e_X2_addTo_0, e_X2_addTo_1, e_X2_addTo_4, e_X2_addTo_5, e_X2_addTo_6, e_X2_addTo_9, e_X2_addTo_12, e_X2_addTo_13, e_X2_addTo_14, e_X2_addTo_17, tw_cl, tg47, tg48, tg49, tp51 hT, tr47 hT, tr48 hT, tr49 hT, ts47 hT, ts48 hT, ts49 hT, cR_ref, cR_null, cR_rf, c1_int, c1_ref, c1_null, c1_rf, kz_int, kz_ref, kz_null, kz_rf, kz_U, kz_long, nB_null, nB_ref, rf_none, rf_some, bV_ret, bV_thr, bA_ret, bA_thr, bX_ret, bX_thr, len4_0, len4_1, len4_2, len4_3, len4_4, true_and, and_true, and_self, if_true, if_false, Option.bind_some, nR_b1, nR_b0, nR_bI, nI_1z, nI_0z, bI_z, if_nn, h49, ↓nI_eq_if, okv_b1]
set_option maxHeartbeats 1000000 in
theorem t_addTo (hT : TwOk Ω.sz x A) {j f a : Nat} {l : List Sol} {s : Sol} (hj : j < 11) (hf : f < 11) (ha : a < 150) (hjf : f ≠ j) (hl : PiR σ j l) (h150 : l.length < 150) (hs : SoR σ (150 * f + a) s) : ∃ σ', gM PG Ω (d + 1) 82 [.ref x, .int (nI j), .int (nI f), .int (nI a)] (tW h x A σ) = some (.returned none, tW h x A σ') ∧ PiR σ' j (l ++ [s]) ∧ σ'.1 51 = σ.1 51 ∧ LsF j σ σ' := by
  have hne : 150 * j + l.length ≠ 150 * f + a := by omega
  obtain ⟨σ1, e1, e2, e3, e4⟩ := t_ad1 (d := d) (h := h) (j := j) (f := f) (a := a) (k := 150 * j + l.length) (l1 := nI j) hT (by omega) (by omega) hne rfl 6 0 (sA σ 48 (150 * j + l.length) (σ.2.2.1 48 (150 * f + a))) (by omega)
  have h49 := hl.1
  have h491 : σ1.2.2.1 49 j = nI l.length := by rw [e2.2.1 49 (by decide), sA_221, if_neg (by decide)]; exact h49
  have hnl : ¬ l.length = 150 := by omega
  have hfx : Fx [51] [48, 49] [47] σ (sA σ1 49 j (nI (l.length + 1))) := (((Fx.rfl'.sA (by decide)).trans (e2.mono (by decide) (by decide) (by decide)))).sA (by decide)
  have h48 : ∀ k, (sA σ1 49 j (nI (l.length + 1))).2.2.1 48 k = if k = 150 * j + l.length then σ.2.2.1 48 (150 * f + a) else σ.2.2.1 48 k := by
    intro k
    rw [sA_221, if_neg (by decide), e2.2.1 48 (by decide), sA_221, if_pos rfl]
    rfl
  have h47 : ∀ i, (sA σ1 49 j (nI (l.length + 1))).2.2.2 47 i = σ1.2.2.2 47 i := fun i => rfl
  have h51 : σ1.1 51 = σ.1 51 := by rw [e2.1 51 (by decide)]; rfl
  have z47 : ∀ i, (i < 6 * (150 * j + l.length) ∨ 6 * (150 * j + l.length) + 6 ≤ i) → σ1.2.2.2 47 i = σ.2.2.2 47 i := fun i hi => (e4 i (by omega)).trans rfl
  have hsl : ∀ k, k ≠ 150 * j + l.length → SlE σ (sA σ1 49 j (nI (l.length + 1))) k := fun k hk => ⟨by rw [h48, if_neg hk], fun v hv => by rw [h47, z47 _ (by omega)]⟩
  refine ⟨sA σ1 49 j (nI (l.length + 1)), ?_, ⟨?_, ?_, fun r s' q => ?_⟩, h51, hfx, fun i hi => ⟨?_, fun r hr => hsl _ (by omega)⟩⟩
  · simp (disch := omega) only [n_X2_addTo, e_X2_addTo_0, e_X2_addTo_1, e_X2_addTo_4, e_X2_addTo_5, e_X2_addTo_6, e_X2_addTo_9, e_X2_addTo_12, e_X2_addTo_13, e_X2_addTo_14, e_X2_addTo_17, e_X2_addTo_18, e_X2_addTo_21, e_X2_addTo_22, e_X2_addTo_23, e_X2_addTo_24, e_X2_addTo_27, e_X2_addTo_28, e_X2_addTo_29, e_X2_addTo_30, e_X2_addTo_32, e_X2_addTo_33, e_X2_addTo_36, e_X2_addTo_38, e_X2_addTo_39, e_X2_addTo_42, e_X2_addTo_45, e_X2_addTo_46, e_X2_addTo_47, e_X2_addTo_48, e_X2_addTo_49, e_X2_addTo_50, e_X2_addTo_51, e_X2_addTo_52, tw_cl, tg47, tg48, tg49, tp51 hT, tr47 hT, tr48 hT, tr49 hT, ts47 hT, ts48 hT, ts49 hT, cR_ref, cR_null, cR_rf, c1_int, c1_ref, c1_null, c1_rf, kz_int, kz_ref, kz_null, kz_rf, kz_U, kz_long, nB_null, nB_ref, rf_none, rf_some, bV_ret, bV_thr, bA_ret, bA_thr, bX_ret, bX_thr, len4_0, len4_1, len4_2, len4_3, len4_4, true_and, and_true, and_self, if_true, if_false, Option.bind_some, nR_b1, nR_b0, nR_bI, nI_1z, nI_0z, bI_z, if_nn, nI_add, pk_mul, h49, ↓nI_eq_if, hnl]
    rw [e1]
    simp (disch := omega) only [e_X2_addTo_98, e_X2_addTo_99, e_X2_addTo_102, e_X2_addTo_103, e_X2_addTo_104, e_X2_addTo_105, e_X2_addTo_106, e_X2_addTo_107, e_X2_addTo_108, tw_cl, tg47, tg48, tg49, tp51 hT, tr47 hT, tr48 hT, tr49 hT, ts47 hT, ts48 hT, ts49 hT, cR_ref, cR_null, cR_rf, c1_int, c1_ref, c1_null, c1_rf, kz_int, kz_ref, kz_null, kz_rf, kz_U, kz_long, nB_null, nB_ref, rf_none, rf_some, bV_ret, bV_thr, bA_ret, bA_thr, bX_ret, bX_thr, len4_0, len4_1, len4_2, len4_3, len4_4, true_and, and_true, and_self, if_true, if_false, Option.bind_some, nR_b1, nR_b0, nR_bI, nI_1z, nI_0z, bI_z, if_nn, nI_add, pk_mul, h491]
  · rw [sA_221, if_pos rfl]; simp [va_up]
  · simp; omega
  · rcases getE_snoc q with q | ⟨rfl, q2⟩
    · have hi := (List.getElem?_eq_some_iff.mp q).1
      exact (hl.2.2 r s' q).eq (hsl _ (by omega))
    · subst q2
      refine ⟨by rw [h48, if_pos rfl]; exact hs.1, fun v t hv ht => ?_⟩
      rw [h47, e3 v (by omega) hv]
      exact hs.2 v t hv ht
  · rw [sA_221, if_pos rfl]
    unfold va_up
    rw [if_neg hi, e2.2.1 49 (by decide), sA_221, if_neg (by decide)]
end TE1
