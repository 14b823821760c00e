/-! TWIN, the store's face -/
/-- the twin's store: triples, synced ones, changes since, commits, unsynced ones, where the open transaction begins, is one open -/
abbrev TA : Type := List Tri × List Tri × List (Chg × Nat) × Nat × Nat × Nat × Bool
def TSto (σ : Tw) (a : TA) : Prop := TrL (σ.2.2.2 0) a.1 ∧ σ.1 1 = nI a.1.length ∧ TrL (σ.2.2.2 2) a.2.1 ∧ σ.1 3 = nI a.2.1.length ∧ ChL σ a.2.2.1 ∧ σ.1 7 = nI a.2.2.1.length ∧ σ.1 8 = nI a.2.2.2.1 ∧ σ.1 9 = nI a.2.2.2.2.1 ∧ σ.1 11 = nI a.2.2.2.2.2.1 ∧ σ.1 10 = bI a.2.2.2.2.2.2
/-- what the store's methods may touch -/
abbrev stI : List Nat := [1, 3, 7, 8, 9, 10, 11, 58]
abbrev FxS (σ σ' : Tw) : Prop := Fx stI [5, 6] [0, 2, 4] σ σ'
def okTri (s p o : Int64) : Prop := isWd s ∧ isWd p ∧ (isWd o ∨ isNm o)
theorem ChL_push {σ : Tw} {Ch : List (Chg × Nat)} {b : Bool} {t : Tri} {k : Nat} (h : ChL σ Ch) {σ' : Tw} (h4 : σ'.2.2.2 4 = va_up (va_up (va_up (σ.2.2.2 4) (3 * Ch.length) t.1) (3 * Ch.length + 1) t.2.1) (3 * Ch.length + 2) t.2.2) (h5 : σ'.2.2.1 5 = va_up (σ.2.2.1 5) Ch.length (bI b)) (h6 : σ'.2.2.1 6 = va_up (σ.2.2.1 6) Ch.length (nI k)) : ChL σ' (Ch ++ [((b, t), k)]) := by
  intro i c hc
  rw [h4, h5, h6]
  by_cases hi : i < Ch.length
  · rw [List.getElem?_append_left hi] at hc
    have := h i c hc
    simp only [va_up]
    rw [if_neg (by omega), if_neg (by omega), if_neg (by omega), if_neg (by omega), if_neg (by omega), if_neg (by omega), if_neg (by omega), if_neg (by omega), if_neg (by omega), if_neg (by omega), if_neg (by omega)]
    exact this
  · have hil : i = Ch.length := by
      have := (List.getElem?_eq_some_iff.mp hc).1
      simp at this
      omega
    subst hil
    simp at hc
    subst hc
    simp [va_up]
section TW4
variable {Ω : Om} {d : Nat} {h : AH} {x : Nat} {A : Nat → Nat} {σ : Tw}
theorem t_isTriple (hT : TwOk Ω.sz x A) {s p o : Int64} : gM PG Ω (d + 3) 39 [.ref x, .long s, .long p, .long o] (tW h x A σ) = some (.returned (some (.int (bI (dec (okTri s p o))))), tW h x A (sI σ 58 (if dec (okTri s p o) then nI 0 else nI 1))) := by
  simp only [n_X2_isTriple, e_X2_isTriple_0, e_X2_isTriple_1, e_X2_isTriple_2, e_X2_isTriple_5, e_X2_isTriple_8, e_X2_isTriple_9, e_X2_isTriple_12, e_X2_isTriple_15, e_X2_isTriple_17, e_X2_isTriple_20, e_X2_isTriple_23, e_X2_isTriple_25, e_X2_isTriple_28, e_X2_isTriple_31, e_X2_isTriple_32, e_X2_isTriple_35, e_X2_isTriple_36, e_X2_isTriple_37, e_X2_isTriple_40, tw_cl, cR_ref, cR_null, cR_rf, c1_int, c1_ref, c1_null, c1_rf, kz_int, kz_ref, kz_null, kz_rf, kz_U, kz_long, nB_null, nB_ref, rf_none, rf_some, bV_ret, bV_thr, bA_ret, bA_thr, bX_ret, bX_thr, len4_0, len4_1, len4_2, len4_3, len4_4, true_and, and_true, and_self, if_true, if_false, Option.bind_some, nR_b1, nR_b0, nR_bI, nI_1z, nI_0z, bI_z, if_nn, t_isWord, t_isNumber, t_good1 hT, t_good0 hT]
  by_cases h1 : isWd s
  · by_cases h2 : isWd p
    · by_cases h3 : isWd o
      · simp [dec_t h1, dec_t h2, dec_t h3, dec_t (show okTri s p o from ⟨h1, h2, Or.inl h3⟩), bI]
      · by_cases h4 : isNm o
        · simp [dec_t h1, dec_t h2, dec_f h3, dec_t h4, dec_t (show okTri s p o from ⟨h1, h2, Or.inr h4⟩), bI]
        · simp [dec_t h1, dec_t h2, dec_f h3, dec_f h4, dec_f (show ¬ okTri s p o from fun q => q.2.2.elim h3 h4), bI]
    · simp [dec_t h1, dec_f h2, dec_f (show ¬ okTri s p o from fun q => h2 q.2.1), bI]
  · simp [dec_f h1, dec_f (show ¬ okTri s p o from fun q => h1 q.1), bI]
/-- a change that can be made is made -/
def tDo (a : TA) (b : Bool) (t : Tri) : TA := (apT a.1 (b, t), a.2.1, a.2.2.1 ++ [((b, t), a.2.2.2.2.1)], a.2.2.2.1 + (if a.2.2.2.2.2.2 then 0 else 1), a.2.2.2.2.1 + (if a.2.2.2.2.2.2 then 0 else 1), a.2.2.2.2.2.1, a.2.2.2.2.2.2)
theorem t_does_same (hT : TwOk Ω.sz x A) {L : List Tri} (hL : TrL (σ.2.2.2 0) L) (hn : σ.1 1 = nI L.length) (h48 : L.length ≤ 48) {b : Bool} {s p o : Int64} (h1 : decide ((s, p, o) ∈ L) = b) : gM PG Ω (d + 4) 44 [.ref x, .int (bI b), .long s, .long p, .long o] (tW h x A σ) = some (.returned (some (.int (nI 0))), tW h x A σ) := by
  have hfi : fiT L (s, p, o) ≤ L.length := List.findIdx_le_length
  simp (disch := omega) only [n_X2_does, e_X2_does_0, e_X2_does_1, e_X2_does_2, e_X2_does_4, e_X2_does_6, e_X2_does_9, e_X2_does_10, e_X2_does_13, e_X2_does_16, e_X2_does_17, e_X2_does_20, e_X2_does_21, e_X2_does_23, e_X2_does_25, e_X2_does_26, e_X2_does_29, e_X2_does_30, e_X2_does_31, e_X2_does_32, e_X2_does_35, e_X2_does_36, e_X2_does_37, e_X2_does_40, e_X2_does_42, e_X2_does_45, e_X2_does_46, e_X2_does_49, e_X2_does_50, e_X2_does_51, e_X2_does_54, e_X2_does_57, e_X2_does_58, e_X2_does_59, e_X2_does_60, e_X2_does_61, e_X2_does_62, e_X2_does_64, e_X2_does_66, e_X2_does_69, e_X2_does_70, e_X2_does_73, e_X2_does_74, e_X2_does_75, e_X2_does_78, e_X2_does_79, e_X2_does_80, e_X2_does_81, e_X2_does_82, e_X2_does_85, e_X2_does_86, e_X2_does_87, e_X2_does_90, e_X2_does_91, e_X2_does_92, e_X2_does_93, e_X2_does_95, e_X2_does_96, e_X2_does_97, e_X2_does_100, e_X2_does_101, e_X2_does_102, e_X2_does_105, e_X2_does_106, e_X2_does_107, e_X2_does_108, e_X2_does_110, e_X2_does_111, e_X2_does_112, e_X2_does_115, e_X2_does_116, e_X2_does_119, e_X2_does_120, e_X2_does_121, e_X2_does_122, e_X2_does_125, e_X2_does_126, e_X2_does_129, e_X2_does_130, e_X2_does_133, e_X2_does_134, e_X2_does_135, e_X2_does_136, e_X2_does_139, e_X2_does_140, e_X2_does_141, e_X2_does_144, e_X2_does_145, e_X2_does_148, e_X2_does_151, e_X2_does_152, e_X2_does_155, e_X2_does_156, tw_cl, tg1, tg10, tg4, tg5, tg6, tg7, tg9, tp7 hT, tr4 hT, tr5 hT, tr6 hT, ts4 hT, ts5 hT, ts6 hT, cR_ref, cR_null, cR_rf, c1_int, c1_ref, c1_null, c1_rf, kz_int, kz_ref, kz_null, kz_rf, kz_U, kz_long, nB_null, nB_ref, rf_none, rf_some, bV_ret, bV_thr, bA_ret, bA_thr, bX_ret, bX_thr, len4_0, len4_1, len4_2, len4_3, len4_4, true_and, and_true, and_self, if_true, if_false, Option.bind_some, nR_b1, nR_b0, nR_bI, nI_1z, nI_0z, bI_z, if_nn, sI_1, sI_2, sT_1, sT_21, sT_22, sA_1, sA_21, sA_221, sA_222, sL_1, sL_21, sL_221, sL_222, Nat.reduceEqDiff, ↓reduceIte, nI_add, pk_mul, hn, t_find hT hL hn h48, nI_lt_if]
  by_cases hm : (s, p, o) ∈ L
  · rw [decide_eq_true hm] at h1
    subst h1
    rw [if_pos (fiT_lt.mpr hm), if_pos (show nI 1 = bI true from rfl)]
  · rw [decide_eq_false hm] at h1
    subst h1
    rw [if_neg (fun q => hm (fiT_lt.mp q)), if_pos (show nI 0 = bI false from rfl)]
theorem t_does_full (hT : TwOk Ω.sz x A) {L : List Tri} (hL : TrL (σ.2.2.2 0) L) (hn : σ.1 1 = nI L.length) (h48 : L.length = 48) {s p o : Int64} (hm : (s, p, o) ∉ L) : gM PG Ω (d + 4) 44 [.ref x, .int (nI 1), .long s, .long p, .long o] (tW h x A σ) = some (.returned (some (.int (nI 0))), tW h x A (sI σ 58 (nI 2))) := by
  have hfi : fiT L (s, p, o) ≤ L.length := List.findIdx_le_length
  have e1 : ¬ nI 0 = nI 1 := by decide
  simp (disch := omega) only [n_X2_does, e_X2_does_0, e_X2_does_1, e_X2_does_2, e_X2_does_4, e_X2_does_6, e_X2_does_9, e_X2_does_10, e_X2_does_13, e_X2_does_16, e_X2_does_17, e_X2_does_20, e_X2_does_21, e_X2_does_23, e_X2_does_25, e_X2_does_26, e_X2_does_29, e_X2_does_30, e_X2_does_31, e_X2_does_32, e_X2_does_35, e_X2_does_36, e_X2_does_37, e_X2_does_40, e_X2_does_42, e_X2_does_45, e_X2_does_46, e_X2_does_49, e_X2_does_50, e_X2_does_51, e_X2_does_54, e_X2_does_57, e_X2_does_58, e_X2_does_59, e_X2_does_60, e_X2_does_61, e_X2_does_62, e_X2_does_64, e_X2_does_66, e_X2_does_69, e_X2_does_70, e_X2_does_73, e_X2_does_74, e_X2_does_75, e_X2_does_78, e_X2_does_79, e_X2_does_80, e_X2_does_81, e_X2_does_82, e_X2_does_85, e_X2_does_86, e_X2_does_87, e_X2_does_90, e_X2_does_91, e_X2_does_92, e_X2_does_93, e_X2_does_95, e_X2_does_96, e_X2_does_97, e_X2_does_100, e_X2_does_101, e_X2_does_102, e_X2_does_105, e_X2_does_106, e_X2_does_107, e_X2_does_108, e_X2_does_110, e_X2_does_111, e_X2_does_112, e_X2_does_115, e_X2_does_116, e_X2_does_119, e_X2_does_120, e_X2_does_121, e_X2_does_122, e_X2_does_125, e_X2_does_126, e_X2_does_129, e_X2_does_130, e_X2_does_133, e_X2_does_134, e_X2_does_135, e_X2_does_136, e_X2_does_139, e_X2_does_140, e_X2_does_141, e_X2_does_144, e_X2_does_145, e_X2_does_148, e_X2_does_151, e_X2_does_152, e_X2_does_155, e_X2_does_156, tw_cl, tg1, tg10, tg4, tg5, tg6, tg7, tg9, tp7 hT, tr4 hT, tr5 hT, tr6 hT, ts4 hT, ts5 hT, ts6 hT, cR_ref, cR_null, cR_rf, c1_int, c1_ref, c1_null, c1_rf, kz_int, kz_ref, kz_null, kz_rf, kz_U, kz_long, nB_null, nB_ref, rf_none, rf_some, bV_ret, bV_thr, bA_ret, bA_thr, bX_ret, bX_thr, len4_0, len4_1, len4_2, len4_3, len4_4, true_and, and_true, and_self, if_true, if_false, Option.bind_some, nR_b1, nR_b0, nR_bI, nI_1z, nI_0z, bI_z, if_nn, sI_1, sI_2, sT_1, sT_21, sT_22, sA_1, sA_21, sA_221, sA_222, sL_1, sL_21, sL_221, sL_222, Nat.reduceEqDiff, ↓reduceIte, nI_add, pk_mul, hn, t_find hT hL hn (by omega), nI_lt_if, t_good1 hT, t_good0 hT, h48, Nat.lt_irrefl]
  rw [if_neg (fun q => hm (fiT_lt.mp (by rw [h48]; exact q))), if_neg e1]
set_option maxHeartbeats 4000000 in
theorem t_does_do (hT : TwOk Ω.sz x A) {a : TA} (ha : TSto σ a) (h48 : a.1.length ≤ 48) (h8 : a.2.2.1.length < 800) {b : Bool} {s p o : Int64} (hne : ¬ decide ((s, p, o) ∈ a.1) = b) (hfu : b = true → a.1.length < 48) :
    ∃ σ', gM PG Ω (d + 4) 44 [.ref x, .int (bI b), .long s, .long p, .long o] (tW h x A σ) = some (.returned (some (.int (nI 1))), tW h x A σ') ∧ TSto σ' (tDo a b (s, p, o)) ∧ FxS σ σ' ∧ (σ.1 58 = nI 0 → σ'.1 58 = nI 0) := by
  obtain ⟨L, K, Ch, cm, us, oF, op⟩ := a
  obtain ⟨hL, hn, hK, hkn, hC, hcn, hcm, hus, hoF, hop⟩ := ha
  dsimp only at *
  have hfi : fiT L (s, p, o) ≤ L.length := List.findIdx_le_length
  have hok : if b then L.length < 48 else (s, p, o) ∈ L := by
    cases b with
    | true => exact hfu rfl
    | false => simp only [Bool.false_eq_true, if_false]; exact Classical.byContradiction fun q => hne (decide_eq_false q)
  obtain ⟨σ0, e0, e58, efx⟩ : ∃ σ0, σ0 = (if b then sI σ 58 (nI 0) else σ) ∧ (σ.1 58 = nI 0 → σ0.1 58 = nI 0) ∧ Fx [58] [] [] σ σ0 := by
    refine ⟨_, rfl, fun q => ?_, ?_⟩
    · cases b <;> simp [sI_1, q]
    · cases b
      · exact Fx.rfl'
      · exact Fx.rfl'.sI (by decide)
  have f0 : σ0.2.2.2 0 = σ.2.2.2 0 := efx.2.2 0 (by decide)
  obtain ⟨σ1, a1, a2, a3, a4⟩ := t_apply (d := d + 1) (h := h) (σ := σ0) hT (L := L) (by rw [f0]; exact hL) (by rw [efx.1 1 (by decide)]; exact hn) (b := b) (s := s) (p := p) (o := o) h48 hok
  have g7 : σ1.1 7 = nI Ch.length := by rw [a4.1 7 (by decide), efx.1 7 (by decide)]; exact hcn
  have g9 : σ1.1 9 = nI us := by rw [a4.1 9 (by decide), efx.1 9 (by decide)]; exact hus
  have g8 : σ1.1 8 = nI cm := by rw [a4.1 8 (by decide), efx.1 8 (by decide)]; exact hcm
  have g10 : σ1.1 10 = bI op := by rw [a4.1 10 (by decide), efx.1 10 (by decide)]; exact hop
  have g11 : σ1.1 11 = nI oF := by rw [a4.1 11 (by decide), efx.1 11 (by decide)]; exact hoF
  have g3 : σ1.1 3 = nI K.length := by rw [a4.1 3 (by decide), efx.1 3 (by decide)]; exact hkn
  have gK : TrL (σ1.2.2.2 2) K := by rw [a4.2.2 2 (by decide), efx.2.2 2 (by decide)]; exact hK
  have gC : ChL σ1 Ch := hC.of (by rw [a4.2.2 4 (by decide), efx.2.2 4 (by decide)]) (by rw [a4.2.1 5 (by decide), efx.2.1 5 (by decide)]) (by rw [a4.2.1 6 (by decide), efx.2.1 6 (by decide)])
  have fx1 : FxS σ σ1 := (efx.mono (by decide) (by decide) (by decide)).trans (a4.mono (by decide) (by decide) (by decide))
  have hfirst : gM PG Ω (d + 4) 44 [.ref x, .int (bI b), .long s, .long p, .long o] (tW h x A σ) = some (.returned (some (.int (nI 1))), tW h x A (if op then sI (sA (sA (sL (sL (sL σ1 4 (3 * Ch.length) s) 4 (3 * Ch.length + 1) p) 4 (3 * Ch.length + 2) o) 5 Ch.length (bI b)) 6 Ch.length (nI us)) 7 (nI (Ch.length + 1)) else sI (sI (sI (sI (sA (sA (sL (sL (sL σ1 4 (3 * Ch.length) s) 4 (3 * Ch.length + 1) p) 4 (3 * Ch.length + 2) o) 5 Ch.length (bI b)) 6 Ch.length (nI us)) 7 (nI (Ch.length + 1))) 8 (nI (cm + 1))) 9 (nI (us + 1))) 10 (nI 0))) := by
    cases b with
    | true =>
      simp only [if_true] at e0
      subst e0
      have hm : (s, p, o) ∉ L := fun q => hne (decide_eq_true q)
      have hlt : L.length < 48 := hfu rfl
      have n1 : ¬ fiT L (s, p, o) < L.length := fun q => hm (fiT_lt.mp q)
      have n2 : ¬ nI 0 = nI 1 := by decide
      simp (disch := first | omega | exact okv_b1) only [n_X2_does, e_X2_does_0, e_X2_does_1, e_X2_does_2, e_X2_does_4, e_X2_does_6, e_X2_does_9, e_X2_does_10, e_X2_does_13, e_X2_does_16, e_X2_does_17, e_X2_does_20, e_X2_does_21, e_X2_does_23, e_X2_does_25, e_X2_does_26, e_X2_does_29, e_X2_does_30, e_X2_does_31, e_X2_does_32, e_X2_does_35, e_X2_does_36, e_X2_does_37, e_X2_does_40, e_X2_does_42, e_X2_does_45, e_X2_does_46, e_X2_does_49, e_X2_does_50, e_X2_does_51, e_X2_does_54, e_X2_does_57, e_X2_does_58, e_X2_does_59, e_X2_does_60, e_X2_does_61, e_X2_does_62, e_X2_does_64, e_X2_does_66, e_X2_does_69, e_X2_does_70, e_X2_does_73, e_X2_does_74, e_X2_does_75, e_X2_does_78, e_X2_does_79, e_X2_does_80, e_X2_does_81, e_X2_does_82, e_X2_does_85, e_X2_does_86, e_X2_does_87, e_X2_does_90, e_X2_does_91, e_X2_does_92, e_X2_does_93, e_X2_does_95, e_X2_does_96, e_X2_does_97, e_X2_does_100, e_X2_does_101, e_X2_does_102, e_X2_does_105, e_X2_does_106, e_X2_does_107, e_X2_does_108, e_X2_does_110, e_X2_does_111, e_X2_does_112, e_X2_does_115, e_X2_does_116, e_X2_does_119, e_X2_does_120, e_X2_does_121, e_X2_does_122, e_X2_does_125, e_X2_does_126, e_X2_does_129, e_X2_does_130, e_X2_does_133, e_X2_does_134, e_X2_does_135, e_X2_does_136, e_X2_does_139, e_X2_does_140, e_X2_does_141, e_X2_does_144, e_X2_does_145, e_X2_does_148, e_X2_does_151, e_X2_does_152, e_X2_does_155, e_X2_does_156, tw_cl, tg1, tg10, tg4, tg5, tg6, tg7, tg9, tp7 hT, tr4 hT, tr5 hT, tr6 hT, ts4 hT, ts5 hT, ts6 hT, cR_ref, cR_null, cR_rf, c1_int, c1_ref, c1_null, c1_rf, kz_int, kz_ref, kz_null, kz_rf, kz_U, kz_long, nB_null, nB_ref, rf_none, rf_some, bV_ret, bV_thr, bA_ret, bA_thr, bX_ret, bX_thr, len4_0, len4_1, len4_2, len4_3, len4_4, true_and, and_true, and_self, if_true, if_false, Option.bind_some, nR_b1, nR_b0, nR_bI, nI_1z, nI_0z, bI_z, if_nn, sI_1, sI_2, sT_1, sT_21, sT_22, sA_1, sA_21, sA_221, sA_222, sL_1, sL_21, sL_221, sL_222, Nat.reduceEqDiff, ↓reduceIte, nI_add, pk_mul, hn, t_find hT hL hn h48, nI_lt_if, t_good1 hT, t_good0 hT, hlt, n1, n2, bI_t, a1, g7, g9, g8, g10, t_close hT]
      rw [bI_t] at a1
      simp (disch := first | omega | exact okv_b1) only [a1, e_X2_does_0, e_X2_does_1, e_X2_does_2, e_X2_does_4, e_X2_does_6, e_X2_does_9, e_X2_does_10, e_X2_does_13, e_X2_does_16, e_X2_does_17, e_X2_does_20, e_X2_does_21, e_X2_does_23, e_X2_does_25, e_X2_does_26, e_X2_does_29, e_X2_does_30, e_X2_does_31, e_X2_does_32, e_X2_does_35, e_X2_does_36, e_X2_does_37, e_X2_does_40, e_X2_does_42, e_X2_does_45, e_X2_does_46, e_X2_does_49, e_X2_does_50, e_X2_does_51, e_X2_does_54, e_X2_does_57, e_X2_does_58, e_X2_does_59, e_X2_does_60, e_X2_does_61, e_X2_does_62, e_X2_does_64, e_X2_does_66, e_X2_does_69, e_X2_does_70, e_X2_does_73, e_X2_does_74, e_X2_does_75, e_X2_does_78, e_X2_does_79, e_X2_does_80, e_X2_does_81, e_X2_does_82, e_X2_does_85, e_X2_does_86, e_X2_does_87, e_X2_does_90, e_X2_does_91, e_X2_does_92, e_X2_does_93, e_X2_does_95, e_X2_does_96, e_X2_does_97, e_X2_does_100, e_X2_does_101, e_X2_does_102, e_X2_does_105, e_X2_does_106, e_X2_does_107, e_X2_does_108, e_X2_does_110, e_X2_does_111, e_X2_does_112, e_X2_does_115, e_X2_does_116, e_X2_does_119, e_X2_does_120, e_X2_does_121, e_X2_does_122, e_X2_does_125, e_X2_does_126, e_X2_does_129, e_X2_does_130, e_X2_does_133, e_X2_does_134, e_X2_does_135, e_X2_does_136, e_X2_does_139, e_X2_does_140, e_X2_does_141, e_X2_does_144, e_X2_does_145, e_X2_does_148, e_X2_does_151, e_X2_does_152, e_X2_does_155, e_X2_does_156, tw_cl, tg1, tg10, tg4, tg5, tg6, tg7, tg9, tp7 hT, tr4 hT, tr5 hT, tr6 hT, ts4 hT, ts5 hT, ts6 hT, cR_ref, cR_null, cR_rf, c1_int, c1_ref, c1_null, c1_rf, kz_int, kz_ref, kz_null, kz_rf, kz_U, kz_long, nB_null, nB_ref, rf_none, rf_some, bV_ret, bV_thr, bA_ret, bA_thr, bX_ret, bX_thr, len4_0, len4_1, len4_2, len4_3, len4_4, true_and, and_true, and_self, if_true, if_false, Option.bind_some, nR_b1, nR_b0, nR_bI, nI_1z, nI_0z, bI_z, if_nn, sI_1, sI_2, sT_1, sT_21, sT_22, sA_1, sA_21, sA_221, sA_222, sL_1, sL_21, sL_221, sL_222, Nat.reduceEqDiff, ↓reduceIte, nI_add, pk_mul, g7, g9, g8, g10, t_close hT]
      cases op <;> rfl
    | false =>
      simp only [Bool.false_eq_true, if_false] at e0
      subst e0
      have hm : (s, p, o) ∈ L := Classical.byContradiction fun q => hne (decide_eq_false q)
      have n1 : fiT L (s, p, o) < L.length := fiT_lt.mpr hm
      have n2 : ¬ nI 1 = nI 0 := by decide
      rw [bI_f] at a1 ⊢
      simp (disch := first | omega | exact okv_b0) only [n_X2_does, e_X2_does_0, e_X2_does_1, e_X2_does_2, e_X2_does_4, e_X2_does_6, e_X2_does_9, e_X2_does_10, e_X2_does_13, e_X2_does_16, e_X2_does_17, e_X2_does_20, e_X2_does_21, e_X2_does_23, e_X2_does_25, e_X2_does_26, e_X2_does_29, e_X2_does_30, e_X2_does_31, e_X2_does_32, e_X2_does_35, e_X2_does_36, e_X2_does_37, e_X2_does_40, e_X2_does_42, e_X2_does_45, e_X2_does_46, e_X2_does_49, e_X2_does_50, e_X2_does_51, e_X2_does_54, e_X2_does_57, e_X2_does_58, e_X2_does_59, e_X2_does_60, e_X2_does_61, e_X2_does_62, e_X2_does_64, e_X2_does_66, e_X2_does_69, e_X2_does_70, e_X2_does_73, e_X2_does_74, e_X2_does_75, e_X2_does_78, e_X2_does_79, e_X2_does_80, e_X2_does_81, e_X2_does_82, e_X2_does_85, e_X2_does_86, e_X2_does_87, e_X2_does_90, e_X2_does_91, e_X2_does_92, e_X2_does_93, e_X2_does_95, e_X2_does_96, e_X2_does_97, e_X2_does_100, e_X2_does_101, e_X2_does_102, e_X2_does_105, e_X2_does_106, e_X2_does_107, e_X2_does_108, e_X2_does_110, e_X2_does_111, e_X2_does_112, e_X2_does_115, e_X2_does_116, e_X2_does_119, e_X2_does_120, e_X2_does_121, e_X2_does_122, e_X2_does_125, e_X2_does_126, e_X2_does_129, e_X2_does_130, e_X2_does_133, e_X2_does_134, e_X2_does_135, e_X2_does_136, e_X2_does_139, e_X2_does_140, e_X2_does_141, e_X2_does_144, e_X2_does_145, e_X2_does_148, e_X2_does_151, e_X2_does_152, e_X2_does_155, e_X2_does_156, tw_cl, tg1, tg10, tg4, tg5, tg6, tg7, tg9, tp7 hT, tr4 hT, tr5 hT, tr6 hT, ts4 hT, ts5 hT, ts6 hT, cR_ref, cR_null, cR_rf, c1_int, c1_ref, c1_null, c1_rf, kz_int, kz_ref, kz_null, kz_rf, kz_U, kz_long, nB_null, nB_ref, rf_none, rf_some, bV_ret, bV_thr, bA_ret, bA_thr, bX_ret, bX_thr, len4_0, len4_1, len4_2, len4_3, len4_4, true_and, and_true, and_self, if_true, if_false, Option.bind_some, nR_b1, nR_b0, nR_bI, nI_1z, nI_0z, bI_z, if_nn, sI_1, sI_2, sT_1, sT_21, sT_22, sA_1, sA_21, sA_221, sA_222, sL_1, sL_21, sL_221, sL_222, Nat.reduceEqDiff, ↓reduceIte, nI_add, pk_mul, hn, t_find hT hL hn h48, nI_lt_if, n1, n2, a1, g7, g9, g8, g10, t_close hT]
      cases op <;> rfl
  refine ⟨_, hfirst, ?_, ?_, ?_⟩
  · cases op with
    | true =>
      simp only [if_true]
      exact ⟨a2, a3, gK, g3, ChL_push gC rfl rfl rfl, by simp [sI_1, tDo], g8, g9, g11, g10⟩
    | false =>
      simp only [Bool.false_eq_true, if_false]
      exact ⟨a2, a3, gK, g3, ChL_push gC rfl rfl rfl, by simp [sI_1, tDo], by simp [sI_1, tDo], by simp [sI_1, tDo], g11, by simp [sI_1, tDo, bI]⟩
  · have fx2 : FxS σ (sI (sA (sA (sL (sL (sL σ1 4 (3 * Ch.length) s) 4 (3 * Ch.length + 1) p) 4 (3 * Ch.length + 2) o) 5 Ch.length (bI b)) 6 Ch.length (nI us)) 7 (nI (Ch.length + 1))) := (((((fx1.sL (by decide)).sL (by decide)).sL (by decide)).sA (by decide)).sA (by decide)).sI (by decide)
    cases op with
    | true => exact fx2
    | false => exact ((fx2.sI (by decide)).sI (by decide)).sI (by decide)
  · intro q
    have z : σ1.1 58 = nI 0 := by rw [a4.1 58 (by decide)]; exact e58 q
    cases op <;> exact z
end TW4
