/-! TWIN, answering: joined ones -/
theorem msk_or {s t : Sol} : msk s ||| msk t = msk (joinS s t) := by
  apply Nat.eq_of_testBit_eq
  intro v
  rw [Nat.testBit_or]
  by_cases hv : v < 6
  · rw [msk_bit s hv, msk_bit t hv, msk_bit _ hv]
    unfold joinS
    cases s v <;> cases t v <;> rfl
  · have e : 2 ^ 6 ≤ 2 ^ v := Nat.pow_le_pow_right (by decide) (by omega)
    rw [Nat.testBit_lt_two_pow (Nat.lt_of_lt_of_le (msk_lt s) e), Nat.testBit_lt_two_pow (Nat.lt_of_lt_of_le (msk_lt t) e), Nat.testBit_lt_two_pow (Nat.lt_of_lt_of_le (msk_lt (joinS s t)) e)]
    rfl
theorem compB_v {s t : Sol} {v : Nat} (h : compB s t = true) (hv : v < 6) {a b : Int64} (ha : s v = some a) (hb : t v = some b) : a = b := by
  unfold compB at h
  have := List.all_eq_true.mp h v (List.mem_range.mpr hv)
  simp only [ha, hb] at this
  exact of_decide_eq_true this
section TE3
variable {Ω : Om} {d : Nat} {h : AH} {x : Nat} {A : Nat → Nat} {σ σ' : Tw}
theorem t_join1 (hT : TwOk Ω.sz x A) {m o : Nat} (hm : m < 1650) (ho : o < 1650) (hmo : m ≠ o) {t : Sol} {l1 l2 l3 l4 : Value} : ∀ (n v : Nat) (σ : Tw), v + n = 6 → σ.2.2.1 48 o = nI (msk t) → ∃ σ', gO PG Ω d 81 44 [.ref x, l1, l2, l3, l4, .int (nI m), .int (nI o), .int (nI v)] [] (tW h x A σ) = gO PG Ω d 81 99 [.ref x, l1, l2, l3, l4, .int (nI m), .int (nI o), .int (nI 6)] [] (tW h x A σ') ∧ Fx [] [] [47] σ σ' ∧ (∀ w, v ≤ w → w < 6 → σ'.2.2.2 47 (6 * m + w) = if (t w).isSome then σ.2.2.2 47 (6 * o + w) else σ.2.2.2 47 (6 * m + w)) ∧ ∀ i, (i < 6 * m + v ∨ 6 * m + 6 ≤ i) → σ'.2.2.2 47 i = σ.2.2.2 47 i := by
  have hmt := msk_lt t
  intro n
  induction n with
  | zero =>
    intro v σ hv h48
    have : v = 6 := by omega
    subst this
    refine ⟨σ, ?_, Fx.rfl', fun w h1 h2 => by omega, fun i _ => rfl⟩
    rw [e_X2_join_44]
    simp (disch := omega) only [e_X2_join_46, e_X2_join_48, e_X2_join_51, e_X2_join_52, e_X2_join_55, e_X2_join_57, e_X2_join_58, e_X2_join_60, e_X2_join_61, e_X2_join_62, e_X2_join_63, e_X2_join_64, e_X2_join_67, e_X2_join_68, e_X2_join_71, e_X2_join_73, e_X2_join_75, e_X2_join_76, e_X2_join_78, e_X2_join_79, e_X2_join_80, e_X2_join_83, e_X2_join_85, e_X2_join_87, e_X2_join_88, e_X2_join_90, e_X2_join_91, e_X2_join_92, e_X2_join_93, e_X2_join_96, tw_cl, tg47, tg48, tg49, tg51, tr47 hT, tr48 hT, tr49 hT, ts47 hT, ts48 hT, ts49 hT, cR_ref, cR_null, cR_rf, c1_int, c1_ref, c1_null, c1_rf, kz_int, kz_ref, kz_null, kz_rf, kz_U, kz_long, nB_null, nB_ref, rf_none, rf_some, bV_ret, bV_thr, bA_ret, bA_thr, bX_ret, bX_thr, len4_0, len4_1, len4_2, len4_3, len4_4, true_and, and_true, and_self, if_true, if_false, Option.bind_some, nR_b1, nR_b0, nR_bI, nI_1z, nI_0z, bI_z, if_nn, nI_add, pk_mul, ↓nI_lt_if, Nat.lt_irrefl]
  | succ n ih =>
    intro v σ hv h48
    have hv6 : v < 6 := by omega
    have hbit := msk_bit t hv6
    cases hb : (t v).isSome with
    | false =>
      obtain ⟨σ', e1, e2, e3, e4⟩ := ih (v + 1) σ (by omega) h48
      refine ⟨σ', ?_, e2, fun w h1 h2 => ?_, fun i hi => e4 i (by omega)⟩
      · rw [← e1, e_X2_join_44]
        simp (disch := omega) only [e_X2_join_46, e_X2_join_48, e_X2_join_51, e_X2_join_52, e_X2_join_55, e_X2_join_57, e_X2_join_58, e_X2_join_60, e_X2_join_61, e_X2_join_62, e_X2_join_63, e_X2_join_64, e_X2_join_67, e_X2_join_68, e_X2_join_71, e_X2_join_73, e_X2_join_75, e_X2_join_76, e_X2_join_78, e_X2_join_79, e_X2_join_80, e_X2_join_83, e_X2_join_85, e_X2_join_87, e_X2_join_88, e_X2_join_90, e_X2_join_91, e_X2_join_92, e_X2_join_93, e_X2_join_96, tw_cl, tg47, tg48, tg49, tg51, tr47 hT, tr48 hT, tr49 hT, ts47 hT, ts48 hT, ts49 hT, cR_ref, cR_null, cR_rf, c1_int, c1_ref, c1_null, c1_rf, kz_int, kz_ref, kz_null, kz_rf, kz_U, kz_long, nB_null, nB_ref, rf_none, rf_some, bV_ret, bV_thr, bA_ret, bA_thr, bX_ret, bX_thr, len4_0, len4_1, len4_2, len4_3, len4_4, true_and, and_true, and_self, if_true, if_false, Option.bind_some, nR_b1, nR_b0, nR_bI, nI_1z, nI_0z, bI_z, if_nn, nI_add, pk_mul, ↓nI_lt_if, hv6, h48, bit_if, hbit, hb, Bool.false_eq_true]
      · by_cases hw : w = v
        · subst hw
          rw [e4 _ (by omega), hb]; rfl
        · exact e3 w (by omega) h2
    | true =>
      obtain ⟨σ', e1, e2, e3, e4⟩ := ih (v + 1) (sL σ 47 (6 * m + v) (σ.2.2.2 47 (6 * o + v))) (by omega) h48
      refine ⟨σ', ?_, (Fx.rfl'.sL (by decide)).trans e2, fun w h1 h2 => ?_, fun i hi => ?_⟩
      · rw [← e1, e_X2_join_44]
        simp (disch := omega) only [e_X2_join_46, e_X2_join_48, e_X2_join_51, e_X2_join_52, e_X2_join_55, e_X2_join_57, e_X2_join_58, e_X2_join_60, e_X2_join_61, e_X2_join_62, e_X2_join_63, e_X2_join_64, e_X2_join_67, e_X2_join_68, e_X2_join_71, e_X2_join_73, e_X2_join_75, e_X2_join_76, e_X2_join_78, e_X2_join_79, e_X2_join_80, e_X2_join_83, e_X2_join_85, e_X2_join_87, e_X2_join_88, e_X2_join_90, e_X2_join_91, e_X2_join_92, e_X2_join_93, e_X2_join_96, tw_cl, tg47, tg48, tg49, tg51, tr47 hT, tr48 hT, tr49 hT, ts47 hT, ts48 hT, ts49 hT, cR_ref, cR_null, cR_rf, c1_int, c1_ref, c1_null, c1_rf, kz_int, kz_ref, kz_null, kz_rf, kz_U, kz_long, nB_null, nB_ref, rf_none, rf_some, bV_ret, bV_thr, bA_ret, bA_thr, bX_ret, bX_thr, len4_0, len4_1, len4_2, len4_3, len4_4, true_and, and_true, and_self, if_true, if_false, Option.bind_some, nR_b1, nR_b0, nR_bI, nI_1z, nI_0z, bI_z, if_nn, nI_add, pk_mul, ↓nI_lt_if, hv6, h48, bit_if, hbit, hb]
      · by_cases hw : w = v
        · subst hw
          rw [e4 _ (by omega), hb, sL_222, if_pos rfl]
          simp [va_up]
        · have q1 : ∀ i, i ≠ 6 * m + v → (sL σ 47 (6 * m + v) (σ.2.2.2 47 (6 * o + v))).2.2.2 47 i = σ.2.2.2 47 i := fun i hi => by rw [sL_222, if_pos rfl]; unfold va_up; rw [if_neg hi]
          rw [e3 w (by omega) h2, q1 _ (by omega), q1 _ (by omega)]
      · rw [e4 i (by omega), sL_222, if_pos rfl]
        unfold va_up
        rw [if_neg (by omega)]
theorem t_join_no (hT : TwOk Ω.sz x A) (h49 : σ.2.2.1 49 10 = nI 150) {a i b k : Int32} : gM PG Ω (d + 2) 81 [.ref x, .int a, .int i, .int b, .int k] (tW h x A σ) = some (.returned none, tW h x A (sI σ 51 (nI 1))) := by
  have e := t_add_no (d := d) (h := h) (f := a) (a := i) hT (j := 10) (by omega) h49
  simp (disch := first | omega | decide) only [n_X2_join, e_X2_join_0, e_X2_join_1, e_X2_join_3, e_X2_join_4, e_X2_join_5, e_X2_join_8, e_X2_join_9, e_X2_join_12, e_X2_join_15, e_X2_join_16, e_X2_join_19, e_X2_join_20, e_X2_join_23, e_X2_join_25, e_X2_join_26, e_X2_join_27, e_X2_join_28, e_X2_join_29, e_X2_join_31, e_X2_join_34, e_X2_join_35, e_X2_join_36, e_X2_join_38, e_X2_join_39, e_X2_join_41, e_X2_join_42, tw_cl, tg47, tg48, tg49, tg51, tr47 hT, tr48 hT, tr49 hT, ts47 hT, ts48 hT, ts49 hT, cR_ref, cR_null, cR_rf, c1_int, c1_ref, c1_null, c1_rf, kz_int, kz_ref, kz_null, kz_rf, kz_U, kz_long, nB_null, nB_ref, rf_none, rf_some, bV_ret, bV_thr, bA_ret, bA_thr, bX_ret, bX_thr, len4_0, len4_1, len4_2, len4_3, len4_4, true_and, and_true, and_self, if_true, if_false, Option.bind_some, nR_b1, nR_b0, nR_bI, nI_1z, nI_0z, bI_z, if_nn, sI_1, sI_2, sT_1, sT_21, sT_22, sA_1, sA_21, sA_221, sA_222, sL_1, sL_21, sL_221, sL_222, Nat.reduceEqDiff, ↓reduceIte, e]
set_option maxHeartbeats 1000000 in
theorem t_join (hT : TwOk Ω.sz x A) {a i b k : Nat} {l : List Sol} {s t : Sol} (ha : a < 10) (hb : b < 10) (hi : i < 150) (hk : k < 150) (hl : PiR σ 10 l) (h150 : l.length < 150) (h51 : σ.1 51 = nI 0) (hs : SoR σ (150 * a + i) s) (ht : SoR σ (150 * b + k) t) (hc : compB s t = true) : ∃ σ', gM PG Ω (d + 2) 81 [.ref x, .int (nI a), .int (nI i), .int (nI b), .int (nI k)] (tW h x A σ) = some (.returned none, tW h x A σ') ∧ PiR σ' 10 (l ++ [joinS s t]) ∧ σ'.1 51 = nI 0 ∧ LsF 10 σ σ' := by
  obtain ⟨σ1, e1, e2, e3, e4⟩ := t_addTo (d := d) (h := h) hT (j := 10) (f := a) (a := i) (by omega) (by omega) hi (by omega) hl h150 hs
  have hms := msk_lt s
  have hmt := msk_lt t
  have ht1 : SoR σ1 (150 * b + k) t := ht.keep e4 (by omega) hk
  have hs1 : SoR σ1 (150 * 10 + l.length) s := e2.2.2 l.length s (by simp)
  have h49 : σ1.2.2.1 49 10 = nI (l.length + 1) := by have := e2.1; rw [List.length_append] at this; exact this
  have h51' : σ1.1 51 = nI 0 := e3.trans h51
  obtain ⟨σ2, f1, f2, f3, f4⟩ := t_join1 (d := d + 1) (h := h) (m := 1500 + l.length) (o := 150 * b + k) (t := t) (l1 := .int (nI a)) (l2 := .int (nI i)) (l3 := .int (nI b)) (l4 := .int (nI k)) hT (by omega) (by omega) (by omega) 6 0 σ1 (by omega) ht1.1
  have g48 : σ2.2.2.1 48 = σ1.2.2.1 48 := f2.2.1 48 (by decide)
  have hs48 : σ1.2.2.1 48 (1500 + l.length) = nI (msk s) := hs1.1
  have ht48 : σ1.2.2.1 48 (150 * b + k) = nI (msk t) := ht1.1
  have hsl : ∀ q, q ≠ 1500 + l.length → SlE σ1 (sA σ2 48 (1500 + l.length) (nI (msk s ||| msk t))) q := fun q hq => ⟨by rw [sA_221, if_pos rfl]; unfold va_up; rw [if_neg hq, g48], fun v hv => by rw [sA_222]; exact f4 _ (by omega)⟩
  have h492 : (sA σ2 48 (1500 + l.length) (nI (msk s ||| msk t))).2.2.1 49 = σ1.2.2.1 49 := by rw [sA_221, if_neg (by decide)]; exact f2.2.1 49 (by decide)
  refine ⟨sA σ2 48 (1500 + l.length) (nI (msk s ||| msk t)), ?_, ⟨?_, ?_, fun r s' q => ?_⟩, ?_, e4.trans ⟨(f2.mono (by decide) (by decide) (by decide)).sA (by decide), fun j hj => ⟨by rw [h492], fun r hr => hsl _ (by omega)⟩⟩⟩
  · simp (disch := first | omega | decide) only [n_X2_join, e_X2_join_0, e_X2_join_1, e_X2_join_3, e_X2_join_4, e_X2_join_5, e_X2_join_8, e_X2_join_9, e_X2_join_12, e_X2_join_15, e_X2_join_16, e_X2_join_19, e_X2_join_20, e_X2_join_23, e_X2_join_25, e_X2_join_26, e_X2_join_27, e_X2_join_28, e_X2_join_29, e_X2_join_31, e_X2_join_34, e_X2_join_35, e_X2_join_36, e_X2_join_38, e_X2_join_39, e_X2_join_41, e_X2_join_42, tw_cl, tg47, tg48, tg49, tg51, tr47 hT, tr48 hT, tr49 hT, ts47 hT, ts48 hT, ts49 hT, cR_ref, cR_null, cR_rf, c1_int, c1_ref, c1_null, c1_rf, kz_int, kz_ref, kz_null, kz_rf, kz_U, kz_long, nB_null, nB_ref, rf_none, rf_some, bV_ret, bV_thr, bA_ret, bA_thr, bX_ret, bX_thr, len4_0, len4_1, len4_2, len4_3, len4_4, true_and, and_true, and_self, if_true, if_false, Option.bind_some, nR_b1, nR_b0, nR_bI, nI_1z, nI_0z, bI_z, if_nn, nI_add, pk_mul, e1, h51', h49, pk_sub, Nat.add_sub_cancel]
    rw [show 1500 + (l.length + 1) - 1 = 1500 + l.length by omega, f1]
    simp (disch := first | omega | decide) only [e_X2_join_99, e_X2_join_100, e_X2_join_103, e_X2_join_105, e_X2_join_106, e_X2_join_107, e_X2_join_108, e_X2_join_111, e_X2_join_113, e_X2_join_114, e_X2_join_115, e_X2_join_116, tw_cl, tg47, tg48, tg49, tg51, tr47 hT, tr48 hT, tr49 hT, ts47 hT, ts48 hT, ts49 hT, cR_ref, cR_null, cR_rf, c1_int, c1_ref, c1_null, c1_rf, kz_int, kz_ref, kz_null, kz_rf, kz_U, kz_long, nB_null, nB_ref, rf_none, rf_some, bV_ret, bV_thr, bA_ret, bA_thr, bX_ret, bX_thr, len4_0, len4_1, len4_2, len4_3, len4_4, true_and, and_true, and_self, if_true, if_false, Option.bind_some, nR_b1, nR_b0, nR_bI, nI_1z, nI_0z, bI_z, if_nn, nI_add, pk_mul, g48, hs48, ht48, nI_or]
  · rw [h492, h49, List.length_append]; rfl
  · simp; omega
  · rcases getE_snoc q with q | ⟨rfl, q2⟩
    · have hr := (List.getElem?_eq_some_iff.mp q).1
      have q' : (l ++ [s])[r]? = some s' := by rw [List.getElem?_append_left hr]; exact q
      exact (e2.2.2 r s' q').eq (hsl _ (by omega))
    · subst q2
      refine ⟨?_, fun v w hv hw => ?_⟩
      · rw [sA_221, if_pos rfl, msk_or]; simp [va_up]
      · rw [sA_222]
        have := f3 v (by omega) hv
        show σ2.2.2.2 47 (6 * (1500 + l.length) + v) = w
        rw [this]
        unfold joinS at hw
        cases htv : t v with
        | none =>
          rw [htv] at hw
          have hw' : s v = some w := by cases hsv : s v with
            | none => rw [hsv] at hw; cases hw
            | some z => rw [hsv] at hw; cases hw; rfl
          rw [if_neg (by simp)]
          exact hs1.2 v w hv hw'
        | some z =>
          simp only [Option.isSome_some, if_true]
          rw [ht1.2 v z hv htv]
          cases hsv : s v with
          | none => rw [hsv, htv] at hw; cases hw; rfl
          | some y => rw [hsv] at hw; cases hw; exact (compB_v hc hv hsv htv).symm
  · rw [sA_1, f2.1 51 (by decide)]; exact h51'
end TE3
