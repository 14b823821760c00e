/-! TWIN, answering: two lists combined -/
theorem one_ne0 : ((1 : Nat) = 0) = False := by decide
def csB (s t : Sol) : Bool := compB s t && shrB s t
def madL (how : Nat) (s : Sol) (B : List Sol) : List Sol := if how < 2 then mtch s B else []
def addB (how : Nat) (any goes : Bool) : Bool := (how == 1 && !any) || (how == 2 && !goes)
def oneL (how : Nat) (B : List Sol) (s : Sol) : List Sol := madL how s B ++ (if addB how (B.any (compB s)) (B.any (csB s)) = true then [s] else [])
def resL (how : Nat) (A B : List Sol) : List Sol := A.flatMap (oneL how B)
theorem and_z {s t : Sol} : (msk s &&& msk t = 0) ↔ shrB s t = false := by
  have hl : msk s &&& msk t < 2 ^ 6 := Nat.lt_of_le_of_lt Nat.and_le_left (msk_lt s)
  unfold shrB
  rw [List.any_eq_false]
  constructor
  · intro h v hv
    have hv6 := List.mem_range.mp hv
    rw [← bits2 hv6, h]
    simp
  · intro h
    apply Nat.eq_of_testBit_eq
    intro v
    rw [Nat.zero_testBit]
    by_cases hv : v < 6
    · rw [bits2 hv]
      have := h v (List.mem_range.mpr hv)
      simpa using this
    · exact Nat.testBit_lt_two_pow (Nat.lt_of_lt_of_le hl (Nat.pow_le_pow_right (by decide) (by omega)))
theorem mtch_cons_t {s t : Sol} {B : List Sol} (h : compB s t = true) : mtch s (t :: B) = joinS s t :: mtch s B := by unfold mtch; rw [List.filter_cons_of_pos h, List.map_cons]
theorem mtch_cons_f {s t : Sol} {B : List Sol} (h : compB s t = false) : mtch s (t :: B) = mtch s B := by unfold mtch; rw [List.filter_cons_of_neg (by rw [h]; decide)]
theorem madL_f {how : Nat} {s t : Sol} {B : List Sol} (h : compB s t = false) : madL how s (t :: B) = madL how s B := by unfold madL; rw [mtch_cons_f h]
theorem madL_2 {how : Nat} {s : Sol} {B : List Sol} (h : ¬ how < 2) : madL how s B = [] := by unfold madL; rw [if_neg h]
theorem madL_t {how : Nat} {s t : Sol} {B : List Sol} (h : compB s t = true) (h2 : how < 2) : madL how s (t :: B) = joinS s t :: madL how s B := by unfold madL; rw [if_pos h2, if_pos h2, mtch_cons_t h]
section TE4
variable {Ω : Om} {d : Nat} {h : AH} {x : Nat} {A : Nat → Nat} {σ σ' : Tw}
/-- too many: the inner loop ends -/
theorem t_cin_no (hT : TwOk Ω.sz x A) {b k n : Nat} (hb : b < 10) (hk : k ≤ 150) (hn : n ≤ 150) {l1 l2 l4 l5 l6 : Value} (h49 : σ.2.2.1 49 b = nI n) (h51 : σ.1 51 = nI 1) : gO PG Ω d 79 52 [.ref x, l1, l2, .int (nI b), l4, l5, l6, .int (nI k)] [] (tW h x A σ) = gO PG Ω d 79 150 [.ref x, l1, l2, .int (nI b), l4, l5, l6, .int (nI k)] [] (tW h x A σ) := by
  rw [e_X2_combine_52]
  by_cases hkn : k < n
  · simp (disch := omega) only [e_X2_combine_54, e_X2_combine_55, e_X2_combine_58, e_X2_combine_59, e_X2_combine_60, e_X2_combine_63, e_X2_combine_64, e_X2_combine_67, e_X2_combine_70, e_X2_combine_71, e_X2_combine_74, e_X2_combine_75, e_X2_combine_76, e_X2_combine_78, e_X2_combine_79, e_X2_combine_82, e_X2_combine_83, e_X2_combine_84, e_X2_combine_86, e_X2_combine_87, e_X2_combine_90, e_X2_combine_93, e_X2_combine_94, e_X2_combine_96, e_X2_combine_97, e_X2_combine_100, e_X2_combine_103, e_X2_combine_104, e_X2_combine_105, e_X2_combine_107, e_X2_combine_108, e_X2_combine_109, e_X2_combine_110, e_X2_combine_113, e_X2_combine_116, e_X2_combine_117, e_X2_combine_118, e_X2_combine_120, e_X2_combine_121, e_X2_combine_122, e_X2_combine_123, e_X2_combine_126, e_X2_combine_127, e_X2_combine_129, e_X2_combine_130, e_X2_combine_131, e_X2_combine_134, e_X2_combine_135, e_X2_combine_136, e_X2_combine_138, e_X2_combine_139, e_X2_combine_141, e_X2_combine_144, e_X2_combine_147, tw_cl, tg48, tg49, tg50, tg51, tp50 hT, tr48 hT, tr49 hT, ts48 hT, ts49 hT, cR_ref, cR_null, cR_rf, c1_int, c1_ref, c1_null, c1_rf, kz_int, kz_ref, kz_null, kz_rf, kz_U, kz_long, nB_null, nB_ref, rf_none, rf_some, bV_ret, bV_thr, bA_ret, bA_thr, bX_ret, bX_thr, len4_0, len4_1, len4_2, len4_3, len4_4, true_and, and_true, and_self, if_true, if_false, Option.bind_some, nR_b1, nR_b0, nR_bI, nI_1z, nI_0z, bI_z, if_nn, reduceCtorEq, one_ne0, ↓nI_lt_if, h49, hkn, h51]
  · simp (disch := omega) only [e_X2_combine_54, e_X2_combine_55, e_X2_combine_58, e_X2_combine_59, e_X2_combine_60, e_X2_combine_63, e_X2_combine_64, e_X2_combine_67, e_X2_combine_70, e_X2_combine_71, e_X2_combine_74, e_X2_combine_75, e_X2_combine_76, e_X2_combine_78, e_X2_combine_79, e_X2_combine_82, e_X2_combine_83, e_X2_combine_84, e_X2_combine_86, e_X2_combine_87, e_X2_combine_90, e_X2_combine_93, e_X2_combine_94, e_X2_combine_96, e_X2_combine_97, e_X2_combine_100, e_X2_combine_103, e_X2_combine_104, e_X2_combine_105, e_X2_combine_107, e_X2_combine_108, e_X2_combine_109, e_X2_combine_110, e_X2_combine_113, e_X2_combine_116, e_X2_combine_117, e_X2_combine_118, e_X2_combine_120, e_X2_combine_121, e_X2_combine_122, e_X2_combine_123, e_X2_combine_126, e_X2_combine_127, e_X2_combine_129, e_X2_combine_130, e_X2_combine_131, e_X2_combine_134, e_X2_combine_135, e_X2_combine_136, e_X2_combine_138, e_X2_combine_139, e_X2_combine_141, e_X2_combine_144, e_X2_combine_147, tw_cl, tg48, tg49, tg50, tg51, tp50 hT, tr48 hT, tr49 hT, ts48 hT, ts49 hT, cR_ref, cR_null, cR_rf, c1_int, c1_ref, c1_null, c1_rf, kz_int, kz_ref, kz_null, kz_rf, kz_U, kz_long, nB_null, nB_ref, rf_none, rf_some, bV_ret, bV_thr, bA_ret, bA_thr, bX_ret, bX_thr, len4_0, len4_1, len4_2, len4_3, len4_4, true_and, and_true, and_self, if_true, if_false, Option.bind_some, nR_b1, nR_b0, nR_bI, nI_1z, nI_0z, bI_z, if_nn, reduceCtorEq, one_ne0, ↓nI_lt_if, h49, hkn]
set_option maxHeartbeats 2000000 in
theorem t_cin (hT : TwOk Ω.sz x A) {a b i how : Nat} {La Lb : List Sol} {s : Sol} (ha : a < 10) (hb : b < 10) (hh : how < 3) (hi : i < 150) (hsi : La[i]? = some s) : ∀ (m k : Nat) (σ : Tw) (M : List Sol) (any goes : Bool), k + m = Lb.length → PiR σ a La → PiR σ b Lb → PiR σ 10 M → σ.1 51 = nI 0 → ((M ++ madL how s (Lb.drop k)).length ≤ 150 ∧ ∃ σ', gO PG Ω (d + 2) 79 52 [.ref x, .int (nI how), .int (nI a), .int (nI b), .int (nI i), .int (bI any), .int (bI goes), .int (nI k)] [] (tW h x A σ) = gO PG Ω (d + 2) 79 150 [.ref x, .int (nI how), .int (nI a), .int (nI b), .int (nI i), .int (bI (any || (Lb.drop k).any (compB s))), .int (bI (goes || (Lb.drop k).any (csB s))), .int (nI Lb.length)] [] (tW h x A σ') ∧ PiR σ' 10 (M ++ madL how s (Lb.drop k)) ∧ σ'.1 51 = nI 0 ∧ LsF 10 σ σ') ∨ (150 < (M ++ madL how s (Lb.drop k)).length ∧ how < 2 ∧ ∃ σ' g' k', gO PG Ω (d + 2) 79 52 [.ref x, .int (nI how), .int (nI a), .int (nI b), .int (nI i), .int (bI any), .int (bI goes), .int (nI k)] [] (tW h x A σ) = gO PG Ω (d + 2) 79 150 [.ref x, .int (nI how), .int (nI a), .int (nI b), .int (nI i), .int (nI 1), .int g', .int k'] [] (tW h x A σ') ∧ σ'.1 51 = nI 1 ∧ LsF 10 σ σ') := by
  intro m
  induction m with
  | zero =>
    intro k σ M any goes hk hA hB hM h51
    have hkl : k = Lb.length := by omega
    subst hkl
    have h49 := hB.1
    have hl := hB.2.1
    have hMl := hM.2.1
    have e0 : madL how s [] = [] := by unfold madL mtch; split <;> rfl
    rw [List.drop_length, e0, List.append_nil]
    refine .inl ⟨hMl, σ, ?_, hM, h51, LsF.rfl'⟩
    rw [e_X2_combine_52]
    simp (disch := omega) only [e_X2_combine_54, e_X2_combine_55, e_X2_combine_58, e_X2_combine_59, e_X2_combine_60, e_X2_combine_63, e_X2_combine_64, e_X2_combine_67, e_X2_combine_70, e_X2_combine_71, e_X2_combine_74, e_X2_combine_75, e_X2_combine_76, e_X2_combine_78, e_X2_combine_79, e_X2_combine_82, e_X2_combine_83, e_X2_combine_84, e_X2_combine_86, e_X2_combine_87, e_X2_combine_90, e_X2_combine_93, e_X2_combine_94, e_X2_combine_96, e_X2_combine_97, e_X2_combine_100, e_X2_combine_103, e_X2_combine_104, e_X2_combine_105, e_X2_combine_107, e_X2_combine_108, e_X2_combine_109, e_X2_combine_110, e_X2_combine_113, e_X2_combine_116, e_X2_combine_117, e_X2_combine_118, e_X2_combine_120, e_X2_combine_121, e_X2_combine_122, e_X2_combine_123, e_X2_combine_126, e_X2_combine_127, e_X2_combine_129, e_X2_combine_130, e_X2_combine_131, e_X2_combine_134, e_X2_combine_135, e_X2_combine_136, e_X2_combine_138, e_X2_combine_139, e_X2_combine_141, e_X2_combine_144, e_X2_combine_147, tw_cl, tg48, tg49, tg50, tg51, tp50 hT, tr48 hT, tr49 hT, ts48 hT, ts49 hT, cR_ref, cR_null, cR_rf, c1_int, c1_ref, c1_null, c1_rf, kz_int, kz_ref, kz_null, kz_rf, kz_U, kz_long, nB_null, nB_ref, rf_none, rf_some, bV_ret, bV_thr, bA_ret, bA_thr, bX_ret, bX_thr, len4_0, len4_1, len4_2, len4_3, len4_4, true_and, and_true, and_self, if_true, if_false, Option.bind_some, nR_b1, nR_b0, nR_bI, nI_1z, nI_0z, bI_z, if_nn, reduceCtorEq, one_ne0, ↓nI_lt_if, h49, Nat.lt_irrefl, List.any_nil, Bool.or_false]
  | succ m ih =>
    intro k σ M any goes hk hA hB hM h51
    have h49 := hB.1
    have hl := hB.2.1
    have hMl := hM.2.1
    have hkl : k < Lb.length := by omega
    have hg : Lb[k]? = some Lb[k] := List.getElem?_eq_getElem hkl
    have hdr : Lb.drop k = Lb[k] :: Lb.drop (k + 1) := List.drop_eq_getElem_cons hkl
    have hs : SoR σ (150 * a + i) s := hA.2.2 i s hsi
    have ht : SoR σ (150 * b + k) Lb[k] := hB.2.2 k _ hg
    generalize htt : Lb[k] = t at hg hdr ht
    have hms := msk_lt s
    have hmt := msk_lt t
    have hand : msk s &&& msk t ≤ msk s := Nat.and_le_left
    have ec := t_comp (d := d + 1) (h := h) hT (by omega) (by omega) hs ht
    rw [hdr]
    cases hc : compB s t with
    | false =>
      have hcs : csB s t = false := by unfold csB; rw [hc]; rfl
      have estep : gO PG Ω (d + 2) 79 52 [.ref x, .int (nI how), .int (nI a), .int (nI b), .int (nI i), .int (bI any), .int (bI goes), .int (nI k)] [] (tW h x A σ) = gO PG Ω (d + 2) 79 52 [.ref x, .int (nI how), .int (nI a), .int (nI b), .int (nI i), .int (bI any), .int (bI goes), .int (nI (k + 1))] [] (tW h x A σ) := by
        rw [e_X2_combine_52]
        simp (disch := omega) only [e_X2_combine_54, e_X2_combine_55, e_X2_combine_58, e_X2_combine_59, e_X2_combine_60, e_X2_combine_63, e_X2_combine_64, e_X2_combine_67, e_X2_combine_70, e_X2_combine_71, e_X2_combine_74, e_X2_combine_75, e_X2_combine_76, e_X2_combine_78, e_X2_combine_79, e_X2_combine_82, e_X2_combine_83, e_X2_combine_84, e_X2_combine_86, e_X2_combine_87, e_X2_combine_90, e_X2_combine_93, e_X2_combine_94, e_X2_combine_96, e_X2_combine_97, e_X2_combine_100, e_X2_combine_103, e_X2_combine_104, e_X2_combine_105, e_X2_combine_107, e_X2_combine_108, e_X2_combine_109, e_X2_combine_110, e_X2_combine_113, e_X2_combine_116, e_X2_combine_117, e_X2_combine_118, e_X2_combine_120, e_X2_combine_121, e_X2_combine_122, e_X2_combine_123, e_X2_combine_126, e_X2_combine_127, e_X2_combine_129, e_X2_combine_130, e_X2_combine_131, e_X2_combine_134, e_X2_combine_135, e_X2_combine_136, e_X2_combine_138, e_X2_combine_139, e_X2_combine_141, e_X2_combine_144, e_X2_combine_147, tw_cl, tg48, tg49, tg50, tg51, tp50 hT, tr48 hT, tr49 hT, ts48 hT, ts49 hT, cR_ref, cR_null, cR_rf, c1_int, c1_ref, c1_null, c1_rf, kz_int, kz_ref, kz_null, kz_rf, kz_U, kz_long, nB_null, nB_ref, rf_none, rf_some, bV_ret, bV_thr, bA_ret, bA_thr, bX_ret, bX_thr, len4_0, len4_1, len4_2, len4_3, len4_4, true_and, and_true, and_self, if_true, if_false, Option.bind_some, nR_b1, nR_b0, nR_bI, nI_1z, nI_0z, bI_z, if_nn, reduceCtorEq, one_ne0, nI_add, pk_mul, ↓nI_lt_if, h49, hkl, h51, ec, hc]
      rw [estep, madL_f hc, List.any_cons, List.any_cons, hc, hcs, Bool.false_or, Bool.false_or]
      exact ih (k + 1) σ M any goes (by omega) hA hB hM h51
    | true =>
      have hcs : csB s t = shrB s t := by unfold csB; rw [hc]; rfl
      have hz := @and_z s t
      rw [List.any_cons, List.any_cons, hc, hcs, Bool.true_or, Bool.or_true]
      by_cases h2 : how < 2
      · rw [madL_t hc h2]
        by_cases h150 : M.length < 150
        · obtain ⟨σ1, j1, j2, j3, j4⟩ := t_join (d := d) (h := h) hT ha hb hi (by omega) hM h150 h51 hs ht hc
          have estep : gO PG Ω (d + 2) 79 52 [.ref x, .int (nI how), .int (nI a), .int (nI b), .int (nI i), .int (bI any), .int (bI goes), .int (nI k)] [] (tW h x A σ) = gO PG Ω (d + 2) 79 52 [.ref x, .int (nI how), .int (nI a), .int (nI b), .int (nI i), .int (bI true), .int (bI (goes || shrB s t)), .int (nI (k + 1))] [] (tW h x A σ1) := by
            rw [e_X2_combine_52]
            cases hsh : shrB s t with
            | false =>
              have hz0 : msk s &&& msk t = 0 := hz.mpr hsh
              simp (disch := omega) only [e_X2_combine_54, e_X2_combine_55, e_X2_combine_58, e_X2_combine_59, e_X2_combine_60, e_X2_combine_63, e_X2_combine_64, e_X2_combine_67, e_X2_combine_70, e_X2_combine_71, e_X2_combine_74, e_X2_combine_75, e_X2_combine_76, e_X2_combine_78, e_X2_combine_79, e_X2_combine_82, e_X2_combine_83, e_X2_combine_84, e_X2_combine_86, e_X2_combine_87, e_X2_combine_90, e_X2_combine_93, e_X2_combine_94, e_X2_combine_96, e_X2_combine_97, e_X2_combine_100, e_X2_combine_103, e_X2_combine_104, e_X2_combine_105, e_X2_combine_107, e_X2_combine_108, e_X2_combine_109, e_X2_combine_110, e_X2_combine_113, e_X2_combine_116, e_X2_combine_117, e_X2_combine_118, e_X2_combine_120, e_X2_combine_121, e_X2_combine_122, e_X2_combine_123, e_X2_combine_126, e_X2_combine_127, e_X2_combine_129, e_X2_combine_130, e_X2_combine_131, e_X2_combine_134, e_X2_combine_135, e_X2_combine_136, e_X2_combine_138, e_X2_combine_139, e_X2_combine_141, e_X2_combine_144, e_X2_combine_147, tw_cl, tg48, tg49, tg50, tg51, tp50 hT, tr48 hT, tr49 hT, ts48 hT, ts49 hT, cR_ref, cR_null, cR_rf, c1_int, c1_ref, c1_null, c1_rf, kz_int, kz_ref, kz_null, kz_rf, kz_U, kz_long, nB_null, nB_ref, rf_none, rf_some, bV_ret, bV_thr, bA_ret, bA_thr, bX_ret, bX_thr, len4_0, len4_1, len4_2, len4_3, len4_4, true_and, and_true, and_self, if_true, if_false, Option.bind_some, nR_b1, nR_b0, nR_bI, nI_1z, nI_0z, bI_z, if_nn, reduceCtorEq, one_ne0, nI_add, pk_mul, ↓nI_lt_if, h49, hkl, h51, ec, hc, hs.1, ht.1, nI_and, hz0, h2, j1, bI_t, Bool.or_false]
            | true =>
              have hz0 : ¬ msk s &&& msk t = 0 := fun q => by rw [hz.mp q] at hsh; cases hsh
              simp (disch := omega) only [e_X2_combine_54, e_X2_combine_55, e_X2_combine_58, e_X2_combine_59, e_X2_combine_60, e_X2_combine_63, e_X2_combine_64, e_X2_combine_67, e_X2_combine_70, e_X2_combine_71, e_X2_combine_74, e_X2_combine_75, e_X2_combine_76, e_X2_combine_78, e_X2_combine_79, e_X2_combine_82, e_X2_combine_83, e_X2_combine_84, e_X2_combine_86, e_X2_combine_87, e_X2_combine_90, e_X2_combine_93, e_X2_combine_94, e_X2_combine_96, e_X2_combine_97, e_X2_combine_100, e_X2_combine_103, e_X2_combine_104, e_X2_combine_105, e_X2_combine_107, e_X2_combine_108, e_X2_combine_109, e_X2_combine_110, e_X2_combine_113, e_X2_combine_116, e_X2_combine_117, e_X2_combine_118, e_X2_combine_120, e_X2_combine_121, e_X2_combine_122, e_X2_combine_123, e_X2_combine_126, e_X2_combine_127, e_X2_combine_129, e_X2_combine_130, e_X2_combine_131, e_X2_combine_134, e_X2_combine_135, e_X2_combine_136, e_X2_combine_138, e_X2_combine_139, e_X2_combine_141, e_X2_combine_144, e_X2_combine_147, tw_cl, tg48, tg49, tg50, tg51, tp50 hT, tr48 hT, tr49 hT, ts48 hT, ts49 hT, cR_ref, cR_null, cR_rf, c1_int, c1_ref, c1_null, c1_rf, kz_int, kz_ref, kz_null, kz_rf, kz_U, kz_long, nB_null, nB_ref, rf_none, rf_some, bV_ret, bV_thr, bA_ret, bA_thr, bX_ret, bX_thr, len4_0, len4_1, len4_2, len4_3, len4_4, true_and, and_true, and_self, if_true, if_false, Option.bind_some, nR_b1, nR_b0, nR_bI, nI_1z, nI_0z, bI_z, if_nn, reduceCtorEq, one_ne0, nI_add, pk_mul, ↓nI_lt_if, h49, hkl, h51, ec, hc, hs.1, ht.1, nI_and, nI_eq0, hz0, h2, j1, bI_t, Bool.or_true]
          rw [estep]
          have := ih (k + 1) σ1 (M ++ [joinS s t]) true (goes || shrB s t) (by omega) (hA.keep j4 (by omega)) (hB.keep j4 (by omega)) j2 j3
          rw [List.append_assoc, List.singleton_append, Bool.true_or, Bool.or_assoc] at this
          rcases this with ⟨g1, σ2, g2, g3, g4, g5⟩ | ⟨g1, g2, σ2, g', k', g3, g4, g5⟩
          · exact .inl ⟨g1, σ2, g2, g3, g4, j4.trans g5⟩
          · exact .inr ⟨g1, g2, σ2, g', k', g3, g4, j4.trans g5⟩
        · have hM150 : M.length = 150 := by omega
          have h4910 : σ.2.2.1 49 10 = nI 150 := by rw [hM.1, hM150]
          have j1 := t_join_no (d := d) (h := h) (a := nI a) (i := nI i) (b := nI b) (k := nI k) hT h4910
          have hno := t_cin_no (d := d + 2) (h := h) (σ := sI σ 51 (nI 1)) (b := b) (k := k + 1) (n := Lb.length) (l1 := .int (nI how)) (l2 := .int (nI a)) (l4 := .int (nI i)) (l5 := .int (nI 1)) (l6 := .int (bI (goes || shrB s t))) hT hb (by omega) hl h49 rfl
          refine .inr ⟨by rw [List.length_append, List.length_cons]; omega, h2, sI σ 51 (nI 1), bI (goes || shrB s t), nI (k + 1), ?_, rfl, LsF.rfl'.tm⟩
          rw [← hno, e_X2_combine_52]
          cases hsh : shrB s t with
          | false =>
            have hz0 : msk s &&& msk t = 0 := hz.mpr hsh
            simp (disch := omega) only [e_X2_combine_54, e_X2_combine_55, e_X2_combine_58, e_X2_combine_59, e_X2_combine_60, e_X2_combine_63, e_X2_combine_64, e_X2_combine_67, e_X2_combine_70, e_X2_combine_71, e_X2_combine_74, e_X2_combine_75, e_X2_combine_76, e_X2_combine_78, e_X2_combine_79, e_X2_combine_82, e_X2_combine_83, e_X2_combine_84, e_X2_combine_86, e_X2_combine_87, e_X2_combine_90, e_X2_combine_93, e_X2_combine_94, e_X2_combine_96, e_X2_combine_97, e_X2_combine_100, e_X2_combine_103, e_X2_combine_104, e_X2_combine_105, e_X2_combine_107, e_X2_combine_108, e_X2_combine_109, e_X2_combine_110, e_X2_combine_113, e_X2_combine_116, e_X2_combine_117, e_X2_combine_118, e_X2_combine_120, e_X2_combine_121, e_X2_combine_122, e_X2_combine_123, e_X2_combine_126, e_X2_combine_127, e_X2_combine_129, e_X2_combine_130, e_X2_combine_131, e_X2_combine_134, e_X2_combine_135, e_X2_combine_136, e_X2_combine_138, e_X2_combine_139, e_X2_combine_141, e_X2_combine_144, e_X2_combine_147, tw_cl, tg48, tg49, tg50, tg51, tp50 hT, tr48 hT, tr49 hT, ts48 hT, ts49 hT, cR_ref, cR_null, cR_rf, c1_int, c1_ref, c1_null, c1_rf, kz_int, kz_ref, kz_null, kz_rf, kz_U, kz_long, nB_null, nB_ref, rf_none, rf_some, bV_ret, bV_thr, bA_ret, bA_thr, bX_ret, bX_thr, len4_0, len4_1, len4_2, len4_3, len4_4, true_and, and_true, and_self, if_true, if_false, Option.bind_some, nR_b1, nR_b0, nR_bI, nI_1z, nI_0z, bI_z, if_nn, reduceCtorEq, one_ne0, nI_add, pk_mul, ↓nI_lt_if, h49, hkl, h51, ec, hc, hs.1, ht.1, nI_and, hz0, h2, j1, bI_t, Bool.or_false]
          | true =>
            have hz0 : ¬ msk s &&& msk t = 0 := fun q => by rw [hz.mp q] at hsh; cases hsh
            simp (disch := omega) only [e_X2_combine_54, e_X2_combine_55, e_X2_combine_58, e_X2_combine_59, e_X2_combine_60, e_X2_combine_63, e_X2_combine_64, e_X2_combine_67, e_X2_combine_70, e_X2_combine_71, e_X2_combine_74, e_X2_combine_75, e_X2_combine_76, e_X2_combine_78, e_X2_combine_79, e_X2_combine_82, e_X2_combine_83, e_X2_combine_84, e_X2_combine_86, e_X2_combine_87, e_X2_combine_90, e_X2_combine_93, e_X2_combine_94, e_X2_combine_96, e_X2_combine_97, e_X2_combine_100, e_X2_combine_103, e_X2_combine_104, e_X2_combine_105, e_X2_combine_107, e_X2_combine_108, e_X2_combine_109, e_X2_combine_110, e_X2_combine_113, e_X2_combine_116, e_X2_combine_117, e_X2_combine_118, e_X2_combine_120, e_X2_combine_121, e_X2_combine_122, e_X2_combine_123, e_X2_combine_126, e_X2_combine_127, e_X2_combine_129, e_X2_combine_130, e_X2_combine_131, e_X2_combine_134, e_X2_combine_135, e_X2_combine_136, e_X2_combine_138, e_X2_combine_139, e_X2_combine_141, e_X2_combine_144, e_X2_combine_147, tw_cl, tg48, tg49, tg50, tg51, tp50 hT, tr48 hT, tr49 hT, ts48 hT, ts49 hT, cR_ref, cR_null, cR_rf, c1_int, c1_ref, c1_null, c1_rf, kz_int, kz_ref, kz_null, kz_rf, kz_U, kz_long, nB_null, nB_ref, rf_none, rf_some, bV_ret, bV_thr, bA_ret, bA_thr, bX_ret, bX_thr, len4_0, len4_1, len4_2, len4_3, len4_4, true_and, and_true, and_self, if_true, if_false, Option.bind_some, nR_b1, nR_b0, nR_bI, nI_1z, nI_0z, bI_z, if_nn, reduceCtorEq, one_ne0, nI_add, pk_mul, ↓nI_lt_if, h49, hkl, h51, ec, hc, hs.1, ht.1, nI_and, nI_eq0, hz0, h2, j1, bI_t, Bool.or_true]
      · have estep : gO PG Ω (d + 2) 79 52 [.ref x, .int (nI how), .int (nI a), .int (nI b), .int (nI i), .int (bI any), .int (bI goes), .int (nI k)] [] (tW h x A σ) = gO PG Ω (d + 2) 79 52 [.ref x, .int (nI how), .int (nI a), .int (nI b), .int (nI i), .int (bI true), .int (bI (goes || shrB s t)), .int (nI (k + 1))] [] (tW h x A σ) := by
          rw [e_X2_combine_52]
          cases hsh : shrB s t with
          | false =>
            have hz0 : msk s &&& msk t = 0 := hz.mpr hsh
            simp (disch := omega) only [e_X2_combine_54, e_X2_combine_55, e_X2_combine_58, e_X2_combine_59, e_X2_combine_60, e_X2_combine_63, e_X2_combine_64, e_X2_combine_67, e_X2_combine_70, e_X2_combine_71, e_X2_combine_74, e_X2_combine_75, e_X2_combine_76, e_X2_combine_78, e_X2_combine_79, e_X2_combine_82, e_X2_combine_83, e_X2_combine_84, e_X2_combine_86, e_X2_combine_87, e_X2_combine_90, e_X2_combine_93, e_X2_combine_94, e_X2_combine_96, e_X2_combine_97, e_X2_combine_100, e_X2_combine_103, e_X2_combine_104, e_X2_combine_105, e_X2_combine_107, e_X2_combine_108, e_X2_combine_109, e_X2_combine_110, e_X2_combine_113, e_X2_combine_116, e_X2_combine_117, e_X2_combine_118, e_X2_combine_120, e_X2_combine_121, e_X2_combine_122, e_X2_combine_123, e_X2_combine_126, e_X2_combine_127, e_X2_combine_129, e_X2_combine_130, e_X2_combine_131, e_X2_combine_134, e_X2_combine_135, e_X2_combine_136, e_X2_combine_138, e_X2_combine_139, e_X2_combine_141, e_X2_combine_144, e_X2_combine_147, tw_cl, tg48, tg49, tg50, tg51, tp50 hT, tr48 hT, tr49 hT, ts48 hT, ts49 hT, cR_ref, cR_null, cR_rf, c1_int, c1_ref, c1_null, c1_rf, kz_int, kz_ref, kz_null, kz_rf, kz_U, kz_long, nB_null, nB_ref, rf_none, rf_some, bV_ret, bV_thr, bA_ret, bA_thr, bX_ret, bX_thr, len4_0, len4_1, len4_2, len4_3, len4_4, true_and, and_true, and_self, if_true, if_false, Option.bind_some, nR_b1, nR_b0, nR_bI, nI_1z, nI_0z, bI_z, if_nn, reduceCtorEq, one_ne0, nI_add, pk_mul, ↓nI_lt_if, h49, hkl, h51, ec, hc, hs.1, ht.1, nI_and, hz0, h2, bI_t, Bool.or_false]
          | true =>
            have hz0 : ¬ msk s &&& msk t = 0 := fun q => by rw [hz.mp q] at hsh; cases hsh
            simp (disch := omega) only [e_X2_combine_54, e_X2_combine_55, e_X2_combine_58, e_X2_combine_59, e_X2_combine_60, e_X2_combine_63, e_X2_combine_64, e_X2_combine_67, e_X2_combine_70, e_X2_combine_71, e_X2_combine_74, e_X2_combine_75, e_X2_combine_76, e_X2_combine_78, e_X2_combine_79, e_X2_combine_82, e_X2_combine_83, e_X2_combine_84, e_X2_combine_86, e_X2_combine_87, e_X2_combine_90, e_X2_combine_93, e_X2_combine_94, e_X2_combine_96, e_X2_combine_97, e_X2_combine_100, e_X2_combine_103, e_X2_combine_104, e_X2_combine_105, e_X2_combine_107, e_X2_combine_108, e_X2_combine_109, e_X2_combine_110, e_X2_combine_113, e_X2_combine_116, e_X2_combine_117, e_X2_combine_118, e_X2_combine_120, e_X2_combine_121, e_X2_combine_122, e_X2_combine_123, e_X2_combine_126, e_X2_combine_127, e_X2_combine_129, e_X2_combine_130, e_X2_combine_131, e_X2_combine_134, e_X2_combine_135, e_X2_combine_136, e_X2_combine_138, e_X2_combine_139, e_X2_combine_141, e_X2_combine_144, e_X2_combine_147, tw_cl, tg48, tg49, tg50, tg51, tp50 hT, tr48 hT, tr49 hT, ts48 hT, ts49 hT, cR_ref, cR_null, cR_rf, c1_int, c1_ref, c1_null, c1_rf, kz_int, kz_ref, kz_null, kz_rf, kz_U, kz_long, nB_null, nB_ref, rf_none, rf_some, bV_ret, bV_thr, bA_ret, bA_thr, bX_ret, bX_thr, len4_0, len4_1, len4_2, len4_3, len4_4, true_and, and_true, and_self, if_true, if_false, Option.bind_some, nR_b1, nR_b0, nR_bI, nI_1z, nI_0z, bI_z, if_nn, reduceCtorEq, one_ne0, nI_add, pk_mul, ↓nI_lt_if, h49, hkl, h51, ec, hc, hs.1, ht.1, nI_and, nI_eq0, hz0, h2, bI_t, Bool.or_true]
        rw [estep]
        have := ih (k + 1) σ M true (goes || shrB s t) (by omega) hA hB hM h51
        rw [Bool.true_or, Bool.or_assoc] at this
        rw [madL_2 h2] at this ⊢
        exact this
/-- behind the inner loop: nothing is added -/
theorem t_cmb_n (hT : TwOk Ω.sz x A) {i how : Nat} (hh : how < 3) (hi : i < 150) {any goes : Bool} (hn : addB how any goes = false) {l2 l3 l7 : Value} (h3 : k2 l3 = l3) : gO PG Ω d 79 150 [.ref x, .int (nI how), l2, l3, .int (nI i), .int (bI any), .int (bI goes), l7] [] (tW h x A σ) = gO PG Ω d 79 25 [.ref x, .int (nI how), l2, l3, .int (nI (i + 1)), .int (bI any), .int (bI goes), l7] [] (tW h x A σ) := by
  have h012 : how = 0 ∨ how = 1 ∨ how = 2 := by omega
  rcases h012 with rfl | rfl | rfl
  · simp (disch := omega) only [e_X2_combine_150, e_X2_combine_151, e_X2_combine_152, e_X2_combine_155, e_X2_combine_157, e_X2_combine_160, e_X2_combine_161, e_X2_combine_162, e_X2_combine_165, e_X2_combine_167, e_X2_combine_170, e_X2_combine_171, e_X2_combine_173, e_X2_combine_174, e_X2_combine_176, e_X2_combine_179, e_X2_combine_182, tw_cl, tg48, tg49, tg50, tg51, tp50 hT, tr48 hT, tr49 hT, ts48 hT, ts49 hT, cR_ref, cR_null, cR_rf, c1_int, c1_ref, c1_null, c1_rf, kz_int, kz_ref, kz_null, kz_rf, kz_U, kz_long, nB_null, nB_ref, rf_none, rf_some, bV_ret, bV_thr, bA_ret, bA_thr, bX_ret, bX_thr, len4_0, len4_1, len4_2, len4_3, len4_4, true_and, and_true, and_self, if_true, if_false, Option.bind_some, nR_b1, nR_b0, nR_bI, nI_1z, nI_0z, bI_z, if_nn, reduceCtorEq, one_ne0, nI_add, pk_mul, ↓nI_eq_if, Nat.reduceEqDiff, h3]
  · cases any with
    | false => simp [addB] at hn
    | true => simp (disch := omega) only [e_X2_combine_150, e_X2_combine_151, e_X2_combine_152, e_X2_combine_155, e_X2_combine_157, e_X2_combine_160, e_X2_combine_161, e_X2_combine_162, e_X2_combine_165, e_X2_combine_167, e_X2_combine_170, e_X2_combine_171, e_X2_combine_173, e_X2_combine_174, e_X2_combine_176, e_X2_combine_179, e_X2_combine_182, tw_cl, tg48, tg49, tg50, tg51, tp50 hT, tr48 hT, tr49 hT, ts48 hT, ts49 hT, cR_ref, cR_null, cR_rf, c1_int, c1_ref, c1_null, c1_rf, kz_int, kz_ref, kz_null, kz_rf, kz_U, kz_long, nB_null, nB_ref, rf_none, rf_some, bV_ret, bV_thr, bA_ret, bA_thr, bX_ret, bX_thr, len4_0, len4_1, len4_2, len4_3, len4_4, true_and, and_true, and_self, if_true, if_false, Option.bind_some, nR_b1, nR_b0, nR_bI, nI_1z, nI_0z, bI_z, if_nn, reduceCtorEq, one_ne0, nI_add, pk_mul, ↓nI_eq_if, Nat.reduceEqDiff, h3]
  · cases goes with
    | false => simp [addB] at hn
    | true => simp (disch := omega) only [e_X2_combine_150, e_X2_combine_151, e_X2_combine_152, e_X2_combine_155, e_X2_combine_157, e_X2_combine_160, e_X2_combine_161, e_X2_combine_162, e_X2_combine_165, e_X2_combine_167, e_X2_combine_170, e_X2_combine_171, e_X2_combine_173, e_X2_combine_174, e_X2_combine_176, e_X2_combine_179, e_X2_combine_182, tw_cl, tg48, tg49, tg50, tg51, tp50 hT, tr48 hT, tr49 hT, ts48 hT, ts49 hT, cR_ref, cR_null, cR_rf, c1_int, c1_ref, c1_null, c1_rf, kz_int, kz_ref, kz_null, kz_rf, kz_U, kz_long, nB_null, nB_ref, rf_none, rf_some, bV_ret, bV_thr, bA_ret, bA_thr, bX_ret, bX_thr, len4_0, len4_1, len4_2, len4_3, len4_4, true_and, and_true, and_self, if_true, if_false, Option.bind_some, nR_b1, nR_b0, nR_bI, nI_1z, nI_0z, bI_z, if_nn, reduceCtorEq, one_ne0, nI_add, pk_mul, ↓nI_eq_if, Nat.reduceEqDiff, h3]
theorem t_cmb_y (hT : TwOk Ω.sz x A) {a b i how : Nat} (hh : how < 3) (hi : i < 150) {any goes : Bool} (hn : addB how any goes = true) {l7 : Value} (e1 : gM PG Ω d 82 [.ref x, .int (nI 10), .int (nI a), .int (nI i)] (tW h x A σ) = some (.returned none, tW h x A σ')) : gO PG Ω d 79 150 [.ref x, .int (nI how), .int (nI a), .int (nI b), .int (nI i), .int (bI any), .int (bI goes), l7] [] (tW h x A σ) = gO PG Ω d 79 25 [.ref x, .int (nI how), .int (nI a), .int (nI b), .int (nI (i + 1)), .int (bI any), .int (bI goes), l7] [] (tW h x A σ') := by
  have h012 : how = 0 ∨ how = 1 ∨ how = 2 := by omega
  rcases h012 with rfl | rfl | rfl
  · simp [addB] at hn
  · cases any with
    | true => simp [addB] at hn
    | false => simp (disch := omega) only [e_X2_combine_150, e_X2_combine_151, e_X2_combine_152, e_X2_combine_155, e_X2_combine_157, e_X2_combine_160, e_X2_combine_161, e_X2_combine_162, e_X2_combine_165, e_X2_combine_167, e_X2_combine_170, e_X2_combine_171, e_X2_combine_173, e_X2_combine_174, e_X2_combine_176, e_X2_combine_179, e_X2_combine_182, tw_cl, tg48, tg49, tg50, tg51, tp50 hT, tr48 hT, tr49 hT, ts48 hT, ts49 hT, cR_ref, cR_null, cR_rf, c1_int, c1_ref, c1_null, c1_rf, kz_int, kz_ref, kz_null, kz_rf, kz_U, kz_long, nB_null, nB_ref, rf_none, rf_some, bV_ret, bV_thr, bA_ret, bA_thr, bX_ret, bX_thr, len4_0, len4_1, len4_2, len4_3, len4_4, true_and, and_true, and_self, if_true, if_false, Option.bind_some, nR_b1, nR_b0, nR_bI, nI_1z, nI_0z, bI_z, if_nn, reduceCtorEq, one_ne0, nI_add, pk_mul, ↓nI_eq_if, Nat.reduceEqDiff, e1]
  · cases goes with
    | true => simp [addB] at hn
    | false => simp (disch := omega) only [e_X2_combine_150, e_X2_combine_151, e_X2_combine_152, e_X2_combine_155, e_X2_combine_157, e_X2_combine_160, e_X2_combine_161, e_X2_combine_162, e_X2_combine_165, e_X2_combine_167, e_X2_combine_170, e_X2_combine_171, e_X2_combine_173, e_X2_combine_174, e_X2_combine_176, e_X2_combine_179, e_X2_combine_182, tw_cl, tg48, tg49, tg50, tg51, tp50 hT, tr48 hT, tr49 hT, ts48 hT, ts49 hT, cR_ref, cR_null, cR_rf, c1_int, c1_ref, c1_null, c1_rf, kz_int, kz_ref, kz_null, kz_rf, kz_U, kz_long, nB_null, nB_ref, rf_none, rf_some, bV_ret, bV_thr, bA_ret, bA_thr, bX_ret, bX_thr, len4_0, len4_1, len4_2, len4_3, len4_4, true_and, and_true, and_self, if_true, if_false, Option.bind_some, nR_b1, nR_b0, nR_bI, nI_1z, nI_0z, bI_z, if_nn, reduceCtorEq, one_ne0, nI_add, pk_mul, ↓nI_eq_if, Nat.reduceEqDiff, e1]
/-- too many: the outer loop ends -/
theorem t_cou_no (hT : TwOk Ω.sz x A) {a i n : Nat} (ha : a < 10) (hi : i ≤ 150) (hn : n ≤ 150) {l1 l3 l5 l6 l7 : Value} (h49 : σ.2.2.1 49 a = nI n) (h51 : σ.1 51 = nI 1) : gO PG Ω d 79 25 [.ref x, l1, .int (nI a), l3, .int (nI i), l5, l6, l7] [] (tW h x A σ) = gO PG Ω d 79 185 [.ref x, l1, .int (nI a), l3, .int (nI i), l5, l6, l7] [] (tW h x A σ) := by
  rw [e_X2_combine_25]
  by_cases hkn : i < n
  · simp (disch := omega) only [e_X2_combine_27, e_X2_combine_28, e_X2_combine_31, e_X2_combine_32, e_X2_combine_33, e_X2_combine_36, e_X2_combine_37, e_X2_combine_40, e_X2_combine_43, e_X2_combine_44, e_X2_combine_46, e_X2_combine_47, e_X2_combine_49, e_X2_combine_50, tw_cl, tg48, tg49, tg50, tg51, tp50 hT, tr48 hT, tr49 hT, ts48 hT, ts49 hT, cR_ref, cR_null, cR_rf, c1_int, c1_ref, c1_null, c1_rf, kz_int, kz_ref, kz_null, kz_rf, kz_U, kz_long, nB_null, nB_ref, rf_none, rf_some, bV_ret, bV_thr, bA_ret, bA_thr, bX_ret, bX_thr, len4_0, len4_1, len4_2, len4_3, len4_4, true_and, and_true, and_self, if_true, if_false, Option.bind_some, nR_b1, nR_b0, nR_bI, nI_1z, nI_0z, bI_z, if_nn, reduceCtorEq, one_ne0, ↓nI_lt_if, h49, hkn, h51]
  · simp (disch := omega) only [e_X2_combine_27, e_X2_combine_28, e_X2_combine_31, e_X2_combine_32, e_X2_combine_33, e_X2_combine_36, e_X2_combine_37, e_X2_combine_40, e_X2_combine_43, e_X2_combine_44, e_X2_combine_46, e_X2_combine_47, e_X2_combine_49, e_X2_combine_50, tw_cl, tg48, tg49, tg50, tg51, tp50 hT, tr48 hT, tr49 hT, ts48 hT, ts49 hT, cR_ref, cR_null, cR_rf, c1_int, c1_ref, c1_null, c1_rf, kz_int, kz_ref, kz_null, kz_rf, kz_U, kz_long, nB_null, nB_ref, rf_none, rf_some, bV_ret, bV_thr, bA_ret, bA_thr, bX_ret, bX_thr, len4_0, len4_1, len4_2, len4_3, len4_4, true_and, and_true, and_self, if_true, if_false, Option.bind_some, nR_b1, nR_b0, nR_bI, nI_1z, nI_0z, bI_z, if_nn, reduceCtorEq, one_ne0, ↓nI_lt_if, h49, hkn]
def CoE (Ω : Om) (d : Nat) (h : AH) (x : Nat) (A : Nat → Nat) (how a b : Nat) (σ : Tw) (i : Nat) (l5 l6 l7 : Value) (R : List Sol) : Prop := ∃ σ' l4' l5' l6' l7', gO PG Ω (d + 2) 79 25 [.ref x, .int (nI how), .int (nI a), .int (nI b), .int (nI i), l5, l6, l7] [] (tW h x A σ) = gO PG Ω (d + 2) 79 185 [.ref x, .int (nI how), .int (nI a), .int (nI b), l4', l5', l6', l7'] [] (tW h x A σ') ∧ LsF 10 σ σ' ∧ ((R.length ≤ 150 ∧ PiR σ' 10 R ∧ σ'.1 51 = nI 0) ∨ (150 < R.length ∧ σ'.1 51 = nI 1))
set_option maxHeartbeats 2000000 in
theorem t_cou (hT : TwOk Ω.sz x A) {a b how : Nat} {La Lb : List Sol} (ha : a < 10) (hb : b < 10) (hh : how < 3) : ∀ (m i : Nat) (σ : Tw) (M : List Sol) (l5 l6 l7 : Value), i + m = La.length → PiR σ a La → PiR σ b Lb → PiR σ 10 M → σ.1 51 = nI 0 → CoE Ω d h x A how a b σ i l5 l6 l7 (M ++ resL how (La.drop i) Lb) := by
  intro m
  induction m with
  | zero =>
    intro i σ M l5 l6 l7 hi hA hB hM h51
    have hil : i = La.length := by omega
    subst hil
    have h49 := hA.1
    have hl := hA.2.1
    have hMl := hM.2.1
    have e0 : resL how [] Lb = [] := rfl
    unfold CoE
    rw [List.drop_length, e0, List.append_nil]
    refine ⟨σ, .int (nI La.length), l5, l6, l7, ?_, LsF.rfl', .inl ⟨hMl, hM, h51⟩⟩
    · rw [e_X2_combine_25]
      simp (disch := omega) only [e_X2_combine_27, e_X2_combine_28, e_X2_combine_31, e_X2_combine_32, e_X2_combine_33, e_X2_combine_36, e_X2_combine_37, e_X2_combine_40, e_X2_combine_43, e_X2_combine_44, e_X2_combine_46, e_X2_combine_47, e_X2_combine_49, e_X2_combine_50, tw_cl, tg48, tg49, tg50, tg51, tp50 hT, tr48 hT, tr49 hT, ts48 hT, ts49 hT, cR_ref, cR_null, cR_rf, c1_int, c1_ref, c1_null, c1_rf, kz_int, kz_ref, kz_null, kz_rf, kz_U, kz_long, nB_null, nB_ref, rf_none, rf_some, bV_ret, bV_thr, bA_ret, bA_thr, bX_ret, bX_thr, len4_0, len4_1, len4_2, len4_3, len4_4, true_and, and_true, and_self, if_true, if_false, Option.bind_some, nR_b1, nR_b0, nR_bI, nI_1z, nI_0z, bI_z, if_nn, reduceCtorEq, one_ne0, ↓nI_lt_if, h49, Nat.lt_irrefl]
  | succ m ih =>
    intro i σ M l5 l6 l7 hi hA hB hM h51
    have h49 := hA.1
    have hl := hA.2.1
    have hMl := hM.2.1
    have hil : i < La.length := by omega
    have hg : La[i]? = some La[i] := List.getElem?_eq_getElem hil
    have hdr : La.drop i = La[i] :: La.drop (i + 1) := List.drop_eq_getElem_cons hil
    have hs : SoR σ (150 * a + i) La[i] := hA.2.2 i _ hg
    generalize La[i] = s at hg hdr hs
    have e25 : gO PG Ω (d + 2) 79 25 [.ref x, .int (nI how), .int (nI a), .int (nI b), .int (nI i), l5, l6, l7] [] (tW h x A σ) = gO PG Ω (d + 2) 79 52 [.ref x, .int (nI how), .int (nI a), .int (nI b), .int (nI i), .int (bI false), .int (bI false), .int (nI 0)] [] (tW h x A σ) := by
      rw [e_X2_combine_25]
      simp (disch := omega) only [e_X2_combine_27, e_X2_combine_28, e_X2_combine_31, e_X2_combine_32, e_X2_combine_33, e_X2_combine_36, e_X2_combine_37, e_X2_combine_40, e_X2_combine_43, e_X2_combine_44, e_X2_combine_46, e_X2_combine_47, e_X2_combine_49, e_X2_combine_50, tw_cl, tg48, tg49, tg50, tg51, tp50 hT, tr48 hT, tr49 hT, ts48 hT, ts49 hT, cR_ref, cR_null, cR_rf, c1_int, c1_ref, c1_null, c1_rf, kz_int, kz_ref, kz_null, kz_rf, kz_U, kz_long, nB_null, nB_ref, rf_none, rf_some, bV_ret, bV_thr, bA_ret, bA_thr, bX_ret, bX_thr, len4_0, len4_1, len4_2, len4_3, len4_4, true_and, and_true, and_self, if_true, if_false, Option.bind_some, nR_b1, nR_b0, nR_bI, nI_1z, nI_0z, bI_z, if_nn, reduceCtorEq, one_ne0, ↓nI_lt_if, h49, hil, h51, bI_f]
    have er : resL how (La.drop i) Lb = oneL how Lb s ++ resL how (La.drop (i + 1)) Lb := by rw [hdr]; unfold resL; rw [List.flatMap_cons]
    unfold CoE
    rw [e25, er]
    have := t_cin (d := d) (h := h) hT (how := how) ha hb hh (show i < 150 by omega) hg Lb.length 0 σ M false false (by omega) hA hB hM h51
    rw [List.drop_zero] at this
    rcases this with ⟨g1, σ1, g2, g3, g4, g5⟩ | ⟨g1, g2, σ1, g', k', g3, g4, g5⟩
    · rw [g2, Bool.false_or, Bool.false_or]
      cases had : addB how (Lb.any (compB s)) (Lb.any (csB s)) with
      | false =>
        have eo : oneL how Lb s = madL how s Lb := by unfold oneL; rw [had, if_neg (by decide), List.append_nil]
        obtain ⟨σ2, k4, k5, k6, k7, f1, f2, f3⟩ := ih (i + 1) σ1 _ (.int (bI (Lb.any (compB s)))) (.int (bI (Lb.any (csB s)))) (.int (nI Lb.length)) (by omega) (hA.keep g5 (by omega)) (hB.keep g5 (by omega)) g3 g4
        rw [t_cmb_n hT hh (by omega) had (kz_int), eo, ← List.append_assoc]
        exact ⟨σ2, k4, k5, k6, k7, f1, g5.trans f2, f3⟩
      | true =>
        have eo : oneL how Lb s = madL how s Lb ++ [s] := by unfold oneL; rw [had, if_pos rfl]
        by_cases h150 : (M ++ madL how s Lb).length < 150
        · obtain ⟨σ2, j1, j2, j3, j4⟩ := t_addTo (d := d + 1) (h := h) hT (j := 10) (f := a) (a := i) (by omega) (by omega) (by omega) (by omega) g3 h150 (hs.keep g5 (by omega) (by omega))
          obtain ⟨σ3, k4, k5, k6, k7, f1, f2, f3⟩ := ih (i + 1) σ2 _ (.int (bI (Lb.any (compB s)))) (.int (bI (Lb.any (csB s)))) (.int (nI Lb.length)) (by omega) ((hA.keep g5 (by omega)).keep j4 (by omega)) ((hB.keep g5 (by omega)).keep j4 (by omega)) j2 (j3.trans g4)
          rw [t_cmb_y hT hh (by omega) had j1, eo, ← List.append_assoc, ← List.append_assoc]
          exact ⟨σ3, k4, k5, k6, k7, f1, (g5.trans j4).trans f2, f3⟩
        · have hM150 : (M ++ madL how s Lb).length = 150 := by omega
          have h4910 : σ1.2.2.1 49 10 = nI 150 := by rw [g3.1, hM150]
          have j1 := t_add_no (d := d + 1) (h := h) (f := nI a) (a := nI i) hT (j := 10) (by omega) h4910
          rw [t_cmb_y hT hh (by omega) had j1]
          refine ⟨_, _, _, _, _, t_cou_no hT ha (by omega) hl ((hA.keep g5 (by omega)).1) rfl, g5.tm, .inr ⟨?_, rfl⟩⟩
          rw [eo, ← List.append_assoc, ← List.append_assoc, List.length_append, List.length_append, hM150]
          simp
          omega
    · rw [g3]
      have e12 : addB how true (g' == nI 1) = false := by unfold addB; simp; omega
      have e3 : ∀ l7 : Value, gO PG Ω (d + 2) 79 150 [.ref x, .int (nI how), .int (nI a), .int (nI b), .int (nI i), .int (nI 1), .int g', l7] [] (tW h x A σ1) = gO PG Ω (d + 2) 79 25 [.ref x, .int (nI how), .int (nI a), .int (nI b), .int (nI (i + 1)), .int (nI 1), .int g', l7] [] (tW h x A σ1) := by
        intro l7
        have h01 : how = 0 ∨ how = 1 := by omega
        rcases h01 with rfl | rfl
        · simp (disch := omega) only [e_X2_combine_150, e_X2_combine_151, e_X2_combine_152, e_X2_combine_155, e_X2_combine_157, e_X2_combine_160, e_X2_combine_161, e_X2_combine_162, e_X2_combine_165, e_X2_combine_167, e_X2_combine_170, e_X2_combine_171, e_X2_combine_173, e_X2_combine_174, e_X2_combine_176, e_X2_combine_179, e_X2_combine_182, tw_cl, tg48, tg49, tg50, tg51, tp50 hT, tr48 hT, tr49 hT, ts48 hT, ts49 hT, cR_ref, cR_null, cR_rf, c1_int, c1_ref, c1_null, c1_rf, kz_int, kz_ref, kz_null, kz_rf, kz_U, kz_long, nB_null, nB_ref, rf_none, rf_some, bV_ret, bV_thr, bA_ret, bA_thr, bX_ret, bX_thr, len4_0, len4_1, len4_2, len4_3, len4_4, true_and, and_true, and_self, if_true, if_false, Option.bind_some, nR_b1, nR_b0, nR_bI, nI_1z, nI_0z, bI_z, if_nn, reduceCtorEq, one_ne0, nI_add, pk_mul, ↓nI_eq_if, Nat.reduceEqDiff]
        · simp (disch := omega) only [e_X2_combine_150, e_X2_combine_151, e_X2_combine_152, e_X2_combine_155, e_X2_combine_157, e_X2_combine_160, e_X2_combine_161, e_X2_combine_162, e_X2_combine_165, e_X2_combine_167, e_X2_combine_170, e_X2_combine_171, e_X2_combine_173, e_X2_combine_174, e_X2_combine_176, e_X2_combine_179, e_X2_combine_182, tw_cl, tg48, tg49, tg50, tg51, tp50 hT, tr48 hT, tr49 hT, ts48 hT, ts49 hT, cR_ref, cR_null, cR_rf, c1_int, c1_ref, c1_null, c1_rf, kz_int, kz_ref, kz_null, kz_rf, kz_U, kz_long, nB_null, nB_ref, rf_none, rf_some, bV_ret, bV_thr, bA_ret, bA_thr, bX_ret, bX_thr, len4_0, len4_1, len4_2, len4_3, len4_4, true_and, and_true, and_self, if_true, if_false, Option.bind_some, nR_b1, nR_b0, nR_bI, nI_1z, nI_0z, bI_z, if_nn, reduceCtorEq, one_ne0, nI_add, pk_mul, ↓nI_eq_if, Nat.reduceEqDiff]
      rw [e3]
      refine ⟨_, _, _, _, _, t_cou_no hT ha (by omega) hl ((hA.keep g5 (by omega)).1) g4, g5, .inr ⟨?_, g4⟩⟩
      rw [List.length_append] at g1
      unfold oneL
      rw [List.length_append, List.length_append, List.length_append]
      omega
/-- lists but a and the last one -/
def LsG (a : Nat) (σ σ' : Tw) : Prop := Fx [50, 51] [48, 49] [47] σ σ' ∧ ∀ i l, i < a → PiR σ i l → PiR σ' i l
theorem t_combine (hT : TwOk Ω.sz x A) {n how : Nat} {La Lb : List Sol} (hn : n + 1 < 10) (hh : how < 3) (h50 : σ.1 50 = nI (n + 2)) (hA : PiR σ n La) (hB : PiR σ (n + 1) Lb) (h51 : σ.1 51 = nI 0) : ∃ σ', gM PG Ω (d + 3) 79 [.ref x, .int (nI how)] (tW h x A σ) = some (.returned none, tW h x A σ') ∧ σ'.1 50 = nI (n + 1) ∧ LsG n σ σ' ∧ (((resL how La Lb).length ≤ 150 ∧ PiR σ' n (resL how La Lb) ∧ σ'.1 51 = nI 0) ∨ (150 < (resL how La Lb).length ∧ σ'.1 51 = nI 1)) := by
  have hz : LsF 10 σ (sA σ 49 10 (nI 0)) := LsF.sz
  have := t_cou (d := d) (h := h) hT (a := n) (b := n + 1) (how := how) (by omega) hn hh La.length 0 (sA σ 49 10 (nI 0)) [] U U U (by omega) (hA.keep hz (by omega)) (hB.keep hz (by omega)) PiR.nil h51
  rw [List.drop_zero, List.nil_append] at this
  obtain ⟨σ1, k4, k5, k6, k7, f1, f2, f3⟩ := this
  have h501 : σ1.1 50 = nI (n + 2) := by rw [f2.1.1 50 (by decide)]; exact h50
  have h2 := hz.trans f2
  rcases f3 with ⟨g1, g2, g3⟩ | ⟨g1, g2⟩
  · have g2' : PiR (sI σ1 50 (nI (n + 1))) 10 (resL how La Lb) := g2
    obtain ⟨σ2, c1', c2, c3, c4⟩ := t_copy (d := d) (h := h) hT (f := 10) (j := n) (by omega) (by omega) (by omega) g2'
    refine ⟨σ2, ?_, ?_, ⟨?_, fun i l hi hl => ?_⟩, .inl ⟨g1, c2, ?_⟩⟩
    · simp (disch := first | omega | decide) only [n_X2_combine, e_X2_combine_0, e_X2_combine_1, e_X2_combine_4, e_X2_combine_5, e_X2_combine_6, e_X2_combine_7, e_X2_combine_8, e_X2_combine_11, e_X2_combine_12, e_X2_combine_13, e_X2_combine_14, e_X2_combine_15, e_X2_combine_18, e_X2_combine_20, e_X2_combine_21, e_X2_combine_22, e_X2_combine_23, tw_cl, tg48, tg49, tg50, tg51, tp50 hT, tr48 hT, tr49 hT, ts48 hT, ts49 hT, cR_ref, cR_null, cR_rf, c1_int, c1_ref, c1_null, c1_rf, kz_int, kz_ref, kz_null, kz_rf, kz_U, kz_long, nB_null, nB_ref, rf_none, rf_some, bV_ret, bV_thr, bA_ret, bA_thr, bX_ret, bX_thr, len4_0, len4_1, len4_2, len4_3, len4_4, true_and, and_true, and_self, if_true, if_false, Option.bind_some, nR_b1, nR_b0, nR_bI, nI_1z, nI_0z, bI_z, if_nn, reduceCtorEq, one_ne0, nI_add, pk_mul, h50, pk_sub, Nat.add_sub_cancel, Nat.add_sub_cancel_left, show n + 2 - 1 = n + 1 from rfl]
      rw [f1]
      simp (disch := first | omega | decide) only [e_X2_combine_185, e_X2_combine_186, e_X2_combine_187, e_X2_combine_190, e_X2_combine_191, e_X2_combine_192, e_X2_combine_195, e_X2_combine_196, e_X2_combine_199, e_X2_combine_202, e_X2_combine_203, e_X2_combine_205, e_X2_combine_206, e_X2_combine_209, tw_cl, tg48, tg49, tg50, tg51, tp50 hT, tr48 hT, tr49 hT, ts48 hT, ts49 hT, cR_ref, cR_null, cR_rf, c1_int, c1_ref, c1_null, c1_rf, kz_int, kz_ref, kz_null, kz_rf, kz_U, kz_long, nB_null, nB_ref, rf_none, rf_some, bV_ret, bV_thr, bA_ret, bA_thr, bX_ret, bX_thr, len4_0, len4_1, len4_2, len4_3, len4_4, true_and, and_true, and_self, if_true, if_false, Option.bind_some, nR_b1, nR_b0, nR_bI, nI_1z, nI_0z, bI_z, if_nn, reduceCtorEq, one_ne0, sI_1, sI_2, sT_1, sT_21, sT_22, sA_1, sA_21, sA_221, sA_222, sL_1, sL_21, sL_221, sL_222, Nat.reduceEqDiff, ↓reduceIte, h501, g3, pk_sub, show n + 2 - 1 = n + 1 from rfl, c1']
    · rw [c4.1.1 50 (by decide)]; rfl
    · exact ((h2.1.mono (by decide) (by decide) (by decide)).sI (by decide)).trans (c4.1.mono (by decide) (by decide) (by decide))
    · have q0 : PiR σ1 i l := hl.keep h2 (by omega)
      have q : PiR (sI σ1 50 (nI (n + 1))) i l := q0
      exact q.keep c4 (by omega)
    · rw [c3]; exact g3
  · refine ⟨sI σ1 50 (nI (n + 1)), ?_, rfl, ⟨(h2.1.mono (by decide) (by decide) (by decide)).sI (by decide), fun i l hi hl => ?_⟩, .inr ⟨g1, g2⟩⟩
    · simp (disch := first | omega | decide) only [n_X2_combine, e_X2_combine_0, e_X2_combine_1, e_X2_combine_4, e_X2_combine_5, e_X2_combine_6, e_X2_combine_7, e_X2_combine_8, e_X2_combine_11, e_X2_combine_12, e_X2_combine_13, e_X2_combine_14, e_X2_combine_15, e_X2_combine_18, e_X2_combine_20, e_X2_combine_21, e_X2_combine_22, e_X2_combine_23, tw_cl, tg48, tg49, tg50, tg51, tp50 hT, tr48 hT, tr49 hT, ts48 hT, ts49 hT, cR_ref, cR_null, cR_rf, c1_int, c1_ref, c1_null, c1_rf, kz_int, kz_ref, kz_null, kz_rf, kz_U, kz_long, nB_null, nB_ref, rf_none, rf_some, bV_ret, bV_thr, bA_ret, bA_thr, bX_ret, bX_thr, len4_0, len4_1, len4_2, len4_3, len4_4, true_and, and_true, and_self, if_true, if_false, Option.bind_some, nR_b1, nR_b0, nR_bI, nI_1z, nI_0z, bI_z, if_nn, reduceCtorEq, one_ne0, nI_add, pk_mul, h50, pk_sub, Nat.add_sub_cancel, Nat.add_sub_cancel_left, show n + 2 - 1 = n + 1 from rfl]
      rw [f1]
      simp (disch := first | omega | decide) only [e_X2_combine_185, e_X2_combine_186, e_X2_combine_187, e_X2_combine_190, e_X2_combine_191, e_X2_combine_192, e_X2_combine_195, e_X2_combine_196, e_X2_combine_199, e_X2_combine_202, e_X2_combine_203, e_X2_combine_205, e_X2_combine_206, e_X2_combine_209, tw_cl, tg48, tg49, tg50, tg51, tp50 hT, tr48 hT, tr49 hT, ts48 hT, ts49 hT, cR_ref, cR_null, cR_rf, c1_int, c1_ref, c1_null, c1_rf, kz_int, kz_ref, kz_null, kz_rf, kz_U, kz_long, nB_null, nB_ref, rf_none, rf_some, bV_ret, bV_thr, bA_ret, bA_thr, bX_ret, bX_thr, len4_0, len4_1, len4_2, len4_3, len4_4, true_and, and_true, and_self, if_true, if_false, Option.bind_some, nR_b1, nR_b0, nR_bI, nI_1z, nI_0z, bI_z, if_nn, reduceCtorEq, one_ne0, sI_1, sI_2, sT_1, sT_21, sT_22, sA_1, sA_21, sA_221, sA_222, sL_1, sL_21, sL_221, sL_222, Nat.reduceEqDiff, ↓reduceIte, h501, g2, pk_sub, show n + 2 - 1 = n + 1 from rfl]
    · have q0 : PiR σ1 i l := hl.keep h2 (by omega)
      exact q0
end TE4
