/-! TWIN, the store -/
/-- a triple taken out: the last one takes its place -/
def swr (L : List Tri) (i : Nat) : List Tri := match L.getLast? with
  | none => []
  | some z => (L.set i z).dropLast
def apT (L : List Tri) (c : Bool × Tri) : List Tri := if c.1 then L ++ [c.2] else swr L (fiT L c.2)
theorem swr_len {L : List Tri} {i : Nat} : (swr L i).length = L.length - 1 := by
  unfold swr
  cases h : L.getLast? with
  | none => simp [List.getLast?_eq_none_iff.mp h]
  | some z => simp
theorem swr_get {L : List Tri} {i j : Nat} (hi : i < L.length) (hj : j < L.length - 1) : (swr L i)[j]? = if j = i then L[L.length - 1]? else L[j]? := by
  unfold swr
  have hne : L ≠ [] := fun e => by rw [e] at hi; simp at hi
  rw [List.getLast?_eq_some_getLast hne]
  simp only []
  rw [List.getElem?_dropLast]
  simp only [List.length_set]
  rw [if_pos hj, List.getElem?_set]
  by_cases h : i = j
  · subst h
    simp only [if_true]
    rw [if_pos (by omega), List.getLast_eq_getElem, List.getElem?_eq_getElem (by omega)]
  · rw [if_neg h, if_neg (Ne.symm h)]
theorem fiT_lt {L : List Tri} {t : Tri} : fiT L t < L.length ↔ t ∈ L := by
  unfold fiT
  rw [List.findIdx_lt_length]
  simp
theorem fiT_get {L : List Tri} {t : Tri} (h : t ∈ L) : L[fiT L t]? = some t := by
  have hl := fiT_lt.mpr h
  have := List.findIdx_getElem (w := hl)
  rw [List.getElem?_eq_getElem hl]
  exact congrArg some (of_decide_eq_true this)
theorem TrL_push {f : Nat → Int64} {L : List Tri} {s p o : Int64} (hL : TrL f L) : TrL (va_up (va_up (va_up f (3 * L.length) s) (3 * L.length + 1) p) (3 * L.length + 2) o) (L ++ [(s, p, o)]) := by
  intro i t ht
  by_cases hi : i < L.length
  · rw [List.getElem?_append_left hi] at ht
    have := hL i t ht
    simp only [va_up]
    rw [if_neg (by omega), if_neg (by omega), if_neg (by omega), if_neg (by omega), if_neg (by omega), if_neg (by omega), if_neg (by omega), if_neg (by omega), if_neg (by omega)]
    exact this
  · have hil : i = L.length := by
      have := (List.getElem?_eq_some_iff.mp ht).1
      simp at this
      omega
    subst hil
    simp at ht
    subst ht
    simp [va_up]
theorem TrL_swr {f g : Nat → Int64} {L : List Tri} {i : Nat} (hL : TrL f L) (hi : i < L.length) (hg : ∀ k, k < 3 → g (3 * i + k) = f (3 * (L.length - 1) + k)) (ho : ∀ j, (∀ k, k < 3 → j ≠ 3 * i + k) → g j = f j) : TrL g (swr L i) := by
  intro j t ht
  have hj : j < L.length - 1 := by
    have := (List.getElem?_eq_some_iff.mp ht).1
    rwa [swr_len] at this
  rw [swr_get hi hj] at ht
  by_cases hji : j = i
  · subst hji
    rw [if_pos rfl] at ht
    obtain ⟨a, b, c⟩ := hL _ t ht
    have g0 := hg 0 (by omega)
    have g1 := hg 1 (by omega)
    have g2 := hg 2 (by omega)
    simp only [Nat.add_zero] at g0
    exact ⟨g0.trans a, g1.trans b, g2.trans c⟩
  · rw [if_neg hji] at ht
    obtain ⟨a, b, c⟩ := hL _ t ht
    exact ⟨(ho _ (fun k hk => by omega)).trans a, (ho _ (fun k hk => by omega)).trans b, (ho _ (fun k hk => by omega)).trans c⟩
section TW2
variable {Ω : Om} {d : Nat} {h : AH} {x : Nat} {A : Nat → Nat} {σ : Tw}
set_option maxHeartbeats 2000000 in
theorem t_apply (hT : TwOk Ω.sz x A) {L : List Tri} (hL : TrL (σ.2.2.2 0) L) (hn : σ.1 1 = nI L.length) {b : Bool} {s p o : Int64} (h48 : L.length ≤ 48) (hb : if b then L.length < 48 else (s, p, o) ∈ L) :
    ∃ σ', gM PG Ω (d + 2) 46 [.ref x, .int (bI b), .long s, .long p, .long o] (tW h x A σ) = some (.returned none, tW h x A σ') ∧ TrL (σ'.2.2.2 0) (apT L (b, (s, p, o))) ∧ σ'.1 1 = nI (apT L (b, (s, p, o))).length ∧ Fx [1] [] [0] σ σ' := by
  cases b with
  | true =>
    simp only [if_true] at hb
    refine ⟨?s, ?a, ?b, ?c, ?f⟩
    case a =>
      simp (disch := omega) only [n_X2_apply, e_X2_apply_0, e_X2_apply_1, e_X2_apply_2, e_X2_apply_4, e_X2_apply_6, e_X2_apply_9, e_X2_apply_11, e_X2_apply_12, e_X2_apply_15, e_X2_apply_16, e_X2_apply_19, e_X2_apply_20, e_X2_apply_21, e_X2_apply_24, e_X2_apply_25, e_X2_apply_26, e_X2_apply_27, e_X2_apply_28, e_X2_apply_31, e_X2_apply_32, e_X2_apply_33, e_X2_apply_36, e_X2_apply_37, e_X2_apply_38, e_X2_apply_39, e_X2_apply_41, e_X2_apply_42, e_X2_apply_43, e_X2_apply_46, e_X2_apply_47, e_X2_apply_48, e_X2_apply_51, e_X2_apply_52, e_X2_apply_53, e_X2_apply_54, e_X2_apply_56, e_X2_apply_57, e_X2_apply_58, e_X2_apply_59, e_X2_apply_62, e_X2_apply_63, e_X2_apply_64, e_X2_apply_67, e_X2_apply_68, e_X2_apply_69, e_X2_apply_70, e_X2_apply_73, e_X2_apply_74, e_X2_apply_75, e_X2_apply_78, e_X2_apply_79, e_X2_apply_83, e_X2_apply_84, e_X2_apply_87, e_X2_apply_88, e_X2_apply_91, e_X2_apply_92, e_X2_apply_94, e_X2_apply_95, e_X2_apply_97, e_X2_apply_98, e_X2_apply_99, e_X2_apply_102, e_X2_apply_103, e_X2_apply_104, e_X2_apply_107, e_X2_apply_108, e_X2_apply_110, e_X2_apply_111, e_X2_apply_112, e_X2_apply_113, e_X2_apply_116, e_X2_apply_119, tw_cl, tg0, tg1, tp1 hT, tr0 hT, ts0 hT, cR_ref, cR_null, cR_rf, c1_int, c1_ref, c1_null, c1_rf, kz_int, kz_ref, kz_null, kz_rf, kz_U, kz_long, nB_null, nB_ref, rf_none, rf_some, bV_ret, bV_thr, bA_ret, bA_thr, bX_ret, bX_thr, len4_0, len4_1, len4_2, len4_3, len4_4, true_and, and_true, and_self, if_true, if_false, Option.bind_some, nR_b1, nR_b0, nR_bI, nI_1z, nI_0z, bI_z, if_nn, sI_1, sI_2, sT_1, sT_21, sT_22, sA_1, sA_21, sA_221, sA_222, sL_1, sL_21, sL_221, sL_222, Nat.reduceEqDiff, ↓reduceIte, nI_add, pk_mul, hn, t_find hT hL hn h48, Bool.true_eq_false]
      rfl
    case b =>
      simp only [sI_1, sI_2, sT_1, sT_21, sT_22, sA_1, sA_21, sA_221, sA_222, sL_1, sL_21, sL_221, sL_222, Nat.reduceEqDiff, ↓reduceIte, apT, if_true]
      exact TrL_push hL
    case c => simp [sI_1, apT]
    case f =>
      exact (((Fx.rfl'.sL (by decide)).sL (by decide)).sL (by decide)).sI (by decide)
  | false =>
    simp only [Bool.false_eq_true, if_false] at hb
    have hi := fiT_lt.mpr hb
    have hsub : nI L.length - nI 1 = nI (L.length - 1) := pk_sub (by omega)
    refine ⟨?s2, ?a2, ?b2, ?c2, ?f2⟩
    case a2 =>
      simp (disch := omega) only [n_X2_apply, e_X2_apply_0, e_X2_apply_1, e_X2_apply_2, e_X2_apply_4, e_X2_apply_6, e_X2_apply_9, e_X2_apply_11, e_X2_apply_12, e_X2_apply_15, e_X2_apply_16, e_X2_apply_19, e_X2_apply_20, e_X2_apply_21, e_X2_apply_24, e_X2_apply_25, e_X2_apply_26, e_X2_apply_27, e_X2_apply_28, e_X2_apply_31, e_X2_apply_32, e_X2_apply_33, e_X2_apply_36, e_X2_apply_37, e_X2_apply_38, e_X2_apply_39, e_X2_apply_41, e_X2_apply_42, e_X2_apply_43, e_X2_apply_46, e_X2_apply_47, e_X2_apply_48, e_X2_apply_51, e_X2_apply_52, e_X2_apply_53, e_X2_apply_54, e_X2_apply_56, e_X2_apply_57, e_X2_apply_58, e_X2_apply_59, e_X2_apply_62, e_X2_apply_63, e_X2_apply_64, e_X2_apply_67, e_X2_apply_68, e_X2_apply_69, e_X2_apply_70, e_X2_apply_73, e_X2_apply_74, e_X2_apply_75, e_X2_apply_78, e_X2_apply_79, e_X2_apply_83, e_X2_apply_84, e_X2_apply_87, e_X2_apply_88, e_X2_apply_91, e_X2_apply_92, e_X2_apply_94, e_X2_apply_95, e_X2_apply_97, e_X2_apply_98, e_X2_apply_99, e_X2_apply_102, e_X2_apply_103, e_X2_apply_104, e_X2_apply_107, e_X2_apply_108, e_X2_apply_110, e_X2_apply_111, e_X2_apply_112, e_X2_apply_113, e_X2_apply_116, e_X2_apply_119, e_X2_apply_81, tw_cl, tg0, tg1, tp1 hT, tr0 hT, ts0 hT, cR_ref, cR_null, cR_rf, c1_int, c1_ref, c1_null, c1_rf, kz_int, kz_ref, kz_null, kz_rf, kz_U, kz_long, nB_null, nB_ref, rf_none, rf_some, bV_ret, bV_thr, bA_ret, bA_thr, bX_ret, bX_thr, len4_0, len4_1, len4_2, len4_3, len4_4, true_and, and_true, and_self, if_true, if_false, Option.bind_some, nR_b1, nR_b0, nR_bI, nI_1z, nI_0z, bI_z, if_nn, sI_1, sI_2, sT_1, sT_21, sT_22, sA_1, sA_21, sA_221, sA_222, sL_1, sL_21, sL_221, sL_222, Nat.reduceEqDiff, ↓reduceIte, nI_add, pk_mul, hn, t_find hT hL hn h48, hsub, nI_lt_if, Nat.reduceLT, Nat.reduceAdd]
      rfl
    case b2 =>
      simp only [sI_1, sI_2, sT_1, sT_21, sT_22, sA_1, sA_21, sA_221, sA_222, sL_1, sL_21, sL_221, sL_222, Nat.reduceEqDiff, ↓reduceIte, apT, Bool.false_eq_true, if_false]
      refine TrL_swr hL hi (fun k hk => ?_) (fun j hj => ?_)
      · have hk' : k = 0 ∨ k = 1 ∨ k = 2 := by omega
        simp only [va_up]
        rcases hk' with rfl | rfl | rfl
        · rw [if_neg (by omega), if_neg (by omega), if_pos rfl]
        · rw [if_neg (by omega), if_pos rfl, if_neg (by omega)]
        · rw [if_pos rfl, if_neg (by omega), if_neg (by omega)]
      · have j0 := hj 0 (by omega)
        have j1 := hj 1 (by omega)
        have j2 := hj 2 (by omega)
        simp only [va_up]
        rw [if_neg j2, if_neg j1, if_neg j0]
    case c2 => simp [sI_1, sL_1, apT, swr_len]
    case f2 =>
      exact (((Fx.rfl'.sI (by decide)).sL (by decide)).sL (by decide)).sL (by decide)
end TW2
