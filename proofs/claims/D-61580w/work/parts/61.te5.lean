/-! TWIN, answering: a pattern against the triples -/
def stF (c : Sol × Bool) (sd : Sd) (x : Int64) : Sol × Bool := match sd with
  | .inl v => match c.1 v with
    | some y => (c.1, c.2 && decide (y = x))
    | none => (updS c.1 v x, c.2)
  | .inr y => (c.1, c.2 && decide (y = x))
theorem stF_f {s : Sol} {sd : Sd} {x : Int64} : (stF (s, false) sd x).2 = false := by
  unfold stF
  cases sd with
  | inl v => cases h : s v <;> simp [h]
  | inr c => simp
theorem stF_t {s : Sol} {sd : Sd} {x : Int64} : stM s sd x = if (stF (s, true) sd x).2 = true then some (stF (s, true) sd x).1 else none := by
  unfold stF stM
  cases sd with
  | inl v => cases h : s v <;> simp [h]
  | inr c => simp
def maF (p : Pat) (t : Tri) : Sol × Bool := stF (stF (stF (empS, true) p.1 t.1) p.2.1 t.2.1) p.2.2 t.2.2
theorem maF_eq {p : Pat} {t : Tri} : matP p t = if (maF p t).2 = true then some (maF p t).1 else none := by
  unfold matP maF
  rw [stF_t]
  rcases h1 : stF (empS, true) p.1 t.1 with ⟨s1, b1⟩
  cases b1 with
  | false =>
    simp only [Bool.false_eq_true, if_false, Option.bind_none]
    rcases h2 : stF (s1, false) p.2.1 t.2.1 with ⟨s2, b2⟩
    have : b2 = false := by have := @stF_f s1 p.2.1 t.2.1; rw [h2] at this; exact this
    subst this
    rw [stF_f]; simp
  | true =>
    simp only [if_true, Option.bind_some]
    rw [stF_t]
    rcases h2 : stF (s1, true) p.2.1 t.2.1 with ⟨s2, b2⟩
    cases b2 with
    | false =>
      simp only [Bool.false_eq_true, if_false, Option.bind_none]
      rw [stF_f]; simp
    | true =>
      simp only [if_true, Option.bind_some]
      exact stF_t
theorem bI_and1 {f : Bool} : bI f &&& nI 1 = bI f := by cases f <;> decide
theorem bI_and0 {f : Bool} : bI f &&& nI 0 = nI 0 := by cases f <;> decide
theorem shl1 : ∀ v, v < 6 → nI 1 <<< (nI v &&& 31) = nI (2 ^ v) := by decide
theorem pow6 : ∀ v, v < 6 → 2 ^ v < 64 := by decide
theorem msk_upd {s : Sol} {v : Nat} {x : Int64} (hv : v < 6) : msk s ||| 2 ^ v = msk (updS s v x) := by
  apply Nat.eq_of_testBit_eq
  intro w
  rw [Nat.testBit_or, Nat.testBit_two_pow]
  by_cases hw : w < 6
  · rw [msk_bit s hw, msk_bit _ hw]
    unfold updS
    by_cases e : w = v
    · subst e; simp
    · rw [if_neg e]
      have : ¬ v = w := fun q => e q.symm
      simp [this]
  · have e : 2 ^ 6 ≤ 2 ^ w := Nat.pow_le_pow_right (by decide) (by omega)
    rw [Nat.testBit_lt_two_pow (Nat.lt_of_lt_of_le (msk_lt s) e), Nat.testBit_lt_two_pow (Nat.lt_of_lt_of_le (msk_lt (updS s v x)) e)]
    have : ¬ v = w := by omega
    simp [this]
def trK (t : Tri) (i : Nat) : Int64 := if i = 0 then t.1 else if i = 1 then t.2.1 else t.2.2
def paK (p : Pat) (i : Nat) : Sd := if i = 0 then p.1 else if i = 1 then p.2.1 else p.2.2
section TE5
variable {Ω : Om} {d : Nat} {h : AH} {x : Nat} {A : Nat → Nat} {σ σ' : Tw}
theorem nI_nn {v : Nat} (hv : v < 2 ^ 31) : (nI v < 0) = False := eq_false (nI_pos hv)
theorem SdS.fx {at' : Nat} {sd : Sd} {I AI AL : List Nat} (hs : SdS σ at' sd) (hf : Fx I AI AL σ σ') (h1 : 33 ∉ AI) (h2 : 34 ∉ AL) : SdS σ' at' sd := by
  unfold SdS at hs ⊢
  rw [hf.2.1 33 h1, hf.2.2 34 h2]
  exact hs
/-- only slot k -/
def SlF (k : Nat) (σ σ' : Tw) : Prop := Fx [] [48] [47] σ σ' ∧ ∀ q, q ≠ k → SlE σ σ' q
theorem SlF.trans {σ'' : Tw} {k : Nat} (h : SlF k σ σ') (h' : SlF k σ' σ'') : SlF k σ σ'' := ⟨h.1.trans h'.1, fun q hq => (h.2 q hq).trans (h'.2 q hq)⟩
set_option maxHeartbeats 1000000 in
theorem t_mst (hT : TwOk Ω.sz x A) {at' li t k i : Nat} (hat : at' + 3 ≤ 120) (ht : t < 48) (hk : k < 1650) (hi : i < 3) {s : Sol} {f : Bool} {sd : Sd} {l7 l8 l9 : Value} (h8 : k2 l8 = l8) (hs : SoR σ k s) (hsd : SdS σ (at' + i) sd) : ∃ σ' l7' l9', gO PG Ω d 78 60 [.ref x, .int (nI at'), .int (nI li), .int (nI t), .int (nI k), .int (bI f), .int (nI i), l7, l8, l9] [] (tW h x A σ) = gO PG Ω d 78 60 [.ref x, .int (nI at'), .int (nI li), .int (nI t), .int (nI k), .int (bI (stF (s, f) sd (σ.2.2.2 0 (3 * t + i))).2), .int (nI (i + 1)), l7', U, l9'] [] (tW h x A σ') ∧ SoR σ' k (stF (s, f) sd (σ.2.2.2 0 (3 * t + i))).1 ∧ SlF k σ σ' := by
  generalize hx : σ.2.2.2 0 (3 * t + i) = y
  have hms := msk_lt s
  cases sd with
  | inr c =>
    obtain ⟨h33, h34⟩ := hsd
    by_cases hc : c = y
    · refine ⟨σ, .long y, .int (-1), ?_, ?_, Fx.rfl', fun _ _ => SlE.rfl'⟩
      · rw [e_X2_match_60]
        simp (disch := first | omega | decide) only [e_X2_match_62, e_X2_match_63, e_X2_match_66, e_X2_match_67, e_X2_match_70, e_X2_match_71, e_X2_match_72, e_X2_match_73, e_X2_match_75, e_X2_match_76, e_X2_match_77, e_X2_match_79, e_X2_match_80, e_X2_match_83, e_X2_match_84, e_X2_match_86, e_X2_match_87, e_X2_match_88, e_X2_match_90, e_X2_match_92, e_X2_match_95, e_X2_match_97, e_X2_match_98, e_X2_match_101, e_X2_match_102, e_X2_match_104, e_X2_match_105, e_X2_match_106, e_X2_match_108, e_X2_match_109, e_X2_match_112, e_X2_match_113, e_X2_match_116, e_X2_match_117, e_X2_match_118, e_X2_match_120, e_X2_match_123, e_X2_match_124, e_X2_match_127, e_X2_match_129, e_X2_match_130, e_X2_match_132, e_X2_match_133, e_X2_match_134, e_X2_match_135, e_X2_match_136, e_X2_match_139, e_X2_match_141, e_X2_match_142, e_X2_match_145, e_X2_match_147, e_X2_match_149, e_X2_match_150, e_X2_match_152, e_X2_match_153, e_X2_match_154, e_X2_match_156, e_X2_match_157, e_X2_match_160, e_X2_match_161, e_X2_match_164, e_X2_match_165, e_X2_match_166, e_X2_match_168, e_X2_match_171, e_X2_match_172, e_X2_match_175, e_X2_match_177, e_X2_match_178, e_X2_match_179, e_X2_match_180, e_X2_match_182, e_X2_match_183, e_X2_match_184, e_X2_match_185, e_X2_match_186, e_X2_match_189, e_X2_match_191, e_X2_match_193, e_X2_match_194, e_X2_match_196, e_X2_match_197, e_X2_match_199, e_X2_match_200, e_X2_match_203, tw_cl, tg0, tg1, tg33, tg34, tg47, tg48, tg49, tg50, tp50 hT, tr0 hT, tr33 hT, tr34 hT, tr47 hT, tr48 hT, tr49 hT, ts0 hT, ts33 hT, ts34 hT, ts47 hT, ts48 hT, ts49 hT, cR_ref, cR_null, cR_rf, c1_int, c1_ref, c1_null, c1_rf, kz_int, kz_ref, kz_null, kz_rf, kz_U, kz_long, nB_null, nB_ref, rf_none, rf_some, bV_ret, bV_thr, bA_ret, bA_thr, bX_ret, bX_thr, len4_0, len4_1, len4_2, len4_3, len4_4, true_and, and_true, and_self, if_true, if_false, Option.bind_some, nR_b1, nR_b0, nR_bI, nI_1z, nI_0z, bI_z, if_nn, reduceCtorEq, one_ne0, nI_add, pk_mul, ↓nI_lt_if, hi, hx, h33, h34, hc, lg_cmp_z, bI_and1, stF, decide_true, Bool.and_true, show ((-1 : Int32) < 0) = True from by decide]
      · exact hs
    · refine ⟨σ, .long y, .int (-1), ?_, ?_, Fx.rfl', fun _ _ => SlE.rfl'⟩
      · rw [e_X2_match_60]
        simp (disch := first | omega | decide) only [e_X2_match_62, e_X2_match_63, e_X2_match_66, e_X2_match_67, e_X2_match_70, e_X2_match_71, e_X2_match_72, e_X2_match_73, e_X2_match_75, e_X2_match_76, e_X2_match_77, e_X2_match_79, e_X2_match_80, e_X2_match_83, e_X2_match_84, e_X2_match_86, e_X2_match_87, e_X2_match_88, e_X2_match_90, e_X2_match_92, e_X2_match_95, e_X2_match_97, e_X2_match_98, e_X2_match_101, e_X2_match_102, e_X2_match_104, e_X2_match_105, e_X2_match_106, e_X2_match_108, e_X2_match_109, e_X2_match_112, e_X2_match_113, e_X2_match_116, e_X2_match_117, e_X2_match_118, e_X2_match_120, e_X2_match_123, e_X2_match_124, e_X2_match_127, e_X2_match_129, e_X2_match_130, e_X2_match_132, e_X2_match_133, e_X2_match_134, e_X2_match_135, e_X2_match_136, e_X2_match_139, e_X2_match_141, e_X2_match_142, e_X2_match_145, e_X2_match_147, e_X2_match_149, e_X2_match_150, e_X2_match_152, e_X2_match_153, e_X2_match_154, e_X2_match_156, e_X2_match_157, e_X2_match_160, e_X2_match_161, e_X2_match_164, e_X2_match_165, e_X2_match_166, e_X2_match_168, e_X2_match_171, e_X2_match_172, e_X2_match_175, e_X2_match_177, e_X2_match_178, e_X2_match_179, e_X2_match_180, e_X2_match_182, e_X2_match_183, e_X2_match_184, e_X2_match_185, e_X2_match_186, e_X2_match_189, e_X2_match_191, e_X2_match_193, e_X2_match_194, e_X2_match_196, e_X2_match_197, e_X2_match_199, e_X2_match_200, e_X2_match_203, tw_cl, tg0, tg1, tg33, tg34, tg47, tg48, tg49, tg50, tp50 hT, tr0 hT, tr33 hT, tr34 hT, tr47 hT, tr48 hT, tr49 hT, ts0 hT, ts33 hT, ts34 hT, ts47 hT, ts48 hT, ts49 hT, cR_ref, cR_null, cR_rf, c1_int, c1_ref, c1_null, c1_rf, kz_int, kz_ref, kz_null, kz_rf, kz_U, kz_long, nB_null, nB_ref, rf_none, rf_some, bV_ret, bV_thr, bA_ret, bA_thr, bX_ret, bX_thr, len4_0, len4_1, len4_2, len4_3, len4_4, true_and, and_true, and_self, if_true, if_false, Option.bind_some, nR_b1, nR_b0, nR_bI, nI_1z, nI_0z, bI_z, if_nn, reduceCtorEq, one_ne0, nI_add, pk_mul, ↓nI_lt_if, hi, hx, h33, h34, hc, lg_cmp_z, bI_and0, stF, decide_false, Bool.and_false, bI_f, show ((-1 : Int32) < 0) = True from by decide]
      · exact hs
  | inl v =>
    obtain ⟨hv, h33⟩ := hsd
    have hbit := msk_bit s hv
    have hs1 := hs.1
    cases hsv : s v with
    | some z =>
      have hval := hs.2 v z hv hsv
      rw [hsv] at hbit
      by_cases hc : z = y
      · refine ⟨σ, .long y, .int (nI v), ?_, ?_, Fx.rfl', fun _ _ => SlE.rfl'⟩
        · rw [e_X2_match_60]
          simp (disch := first | omega | decide) only [e_X2_match_62, e_X2_match_63, e_X2_match_66, e_X2_match_67, e_X2_match_70, e_X2_match_71, e_X2_match_72, e_X2_match_73, e_X2_match_75, e_X2_match_76, e_X2_match_77, e_X2_match_79, e_X2_match_80, e_X2_match_83, e_X2_match_84, e_X2_match_86, e_X2_match_87, e_X2_match_88, e_X2_match_90, e_X2_match_92, e_X2_match_95, e_X2_match_97, e_X2_match_98, e_X2_match_101, e_X2_match_102, e_X2_match_104, e_X2_match_105, e_X2_match_106, e_X2_match_108, e_X2_match_109, e_X2_match_112, e_X2_match_113, e_X2_match_116, e_X2_match_117, e_X2_match_118, e_X2_match_120, e_X2_match_123, e_X2_match_124, e_X2_match_127, e_X2_match_129, e_X2_match_130, e_X2_match_132, e_X2_match_133, e_X2_match_134, e_X2_match_135, e_X2_match_136, e_X2_match_139, e_X2_match_141, e_X2_match_142, e_X2_match_145, e_X2_match_147, e_X2_match_149, e_X2_match_150, e_X2_match_152, e_X2_match_153, e_X2_match_154, e_X2_match_156, e_X2_match_157, e_X2_match_160, e_X2_match_161, e_X2_match_164, e_X2_match_165, e_X2_match_166, e_X2_match_168, e_X2_match_171, e_X2_match_172, e_X2_match_175, e_X2_match_177, e_X2_match_178, e_X2_match_179, e_X2_match_180, e_X2_match_182, e_X2_match_183, e_X2_match_184, e_X2_match_185, e_X2_match_186, e_X2_match_189, e_X2_match_191, e_X2_match_193, e_X2_match_194, e_X2_match_196, e_X2_match_197, e_X2_match_199, e_X2_match_200, e_X2_match_203, tw_cl, tg0, tg1, tg33, tg34, tg47, tg48, tg49, tg50, tp50 hT, tr0 hT, tr33 hT, tr34 hT, tr47 hT, tr48 hT, tr49 hT, ts0 hT, ts33 hT, ts34 hT, ts47 hT, ts48 hT, ts49 hT, cR_ref, cR_null, cR_rf, c1_int, c1_ref, c1_null, c1_rf, kz_int, kz_ref, kz_null, kz_rf, kz_U, kz_long, nB_null, nB_ref, rf_none, rf_some, bV_ret, bV_thr, bA_ret, bA_thr, bX_ret, bX_thr, len4_0, len4_1, len4_2, len4_3, len4_4, true_and, and_true, and_self, if_true, if_false, Option.bind_some, nR_b1, nR_b0, nR_bI, nI_1z, nI_0z, bI_z, if_nn, reduceCtorEq, one_ne0, nI_add, pk_mul, ↓nI_lt_if, hi, hx, h33, nI_nn, hs1, bit_if, hbit, Option.isSome_some, hval, hc, lg_cmp_z, bI_and1, stF, hsv, decide_true, Bool.and_true]
        · simp only [stF, hsv]; exact hs
      · refine ⟨σ, .long y, .int (nI v), ?_, ?_, Fx.rfl', fun _ _ => SlE.rfl'⟩
        · rw [e_X2_match_60]
          simp (disch := first | omega | decide) only [e_X2_match_62, e_X2_match_63, e_X2_match_66, e_X2_match_67, e_X2_match_70, e_X2_match_71, e_X2_match_72, e_X2_match_73, e_X2_match_75, e_X2_match_76, e_X2_match_77, e_X2_match_79, e_X2_match_80, e_X2_match_83, e_X2_match_84, e_X2_match_86, e_X2_match_87, e_X2_match_88, e_X2_match_90, e_X2_match_92, e_X2_match_95, e_X2_match_97, e_X2_match_98, e_X2_match_101, e_X2_match_102, e_X2_match_104, e_X2_match_105, e_X2_match_106, e_X2_match_108, e_X2_match_109, e_X2_match_112, e_X2_match_113, e_X2_match_116, e_X2_match_117, e_X2_match_118, e_X2_match_120, e_X2_match_123, e_X2_match_124, e_X2_match_127, e_X2_match_129, e_X2_match_130, e_X2_match_132, e_X2_match_133, e_X2_match_134, e_X2_match_135, e_X2_match_136, e_X2_match_139, e_X2_match_141, e_X2_match_142, e_X2_match_145, e_X2_match_147, e_X2_match_149, e_X2_match_150, e_X2_match_152, e_X2_match_153, e_X2_match_154, e_X2_match_156, e_X2_match_157, e_X2_match_160, e_X2_match_161, e_X2_match_164, e_X2_match_165, e_X2_match_166, e_X2_match_168, e_X2_match_171, e_X2_match_172, e_X2_match_175, e_X2_match_177, e_X2_match_178, e_X2_match_179, e_X2_match_180, e_X2_match_182, e_X2_match_183, e_X2_match_184, e_X2_match_185, e_X2_match_186, e_X2_match_189, e_X2_match_191, e_X2_match_193, e_X2_match_194, e_X2_match_196, e_X2_match_197, e_X2_match_199, e_X2_match_200, e_X2_match_203, tw_cl, tg0, tg1, tg33, tg34, tg47, tg48, tg49, tg50, tp50 hT, tr0 hT, tr33 hT, tr34 hT, tr47 hT, tr48 hT, tr49 hT, ts0 hT, ts33 hT, ts34 hT, ts47 hT, ts48 hT, ts49 hT, cR_ref, cR_null, cR_rf, c1_int, c1_ref, c1_null, c1_rf, kz_int, kz_ref, kz_null, kz_rf, kz_U, kz_long, nB_null, nB_ref, rf_none, rf_some, bV_ret, bV_thr, bA_ret, bA_thr, bX_ret, bX_thr, len4_0, len4_1, len4_2, len4_3, len4_4, true_and, and_true, and_self, if_true, if_false, Option.bind_some, nR_b1, nR_b0, nR_bI, nI_1z, nI_0z, bI_z, if_nn, reduceCtorEq, one_ne0, nI_add, pk_mul, ↓nI_lt_if, hi, hx, h33, nI_nn, hs1, bit_if, hbit, Option.isSome_some, hval, hc, lg_cmp_z, bI_and0, stF, hsv, decide_false, Bool.and_false, bI_f]
        · simp only [stF, hsv]; exact hs
    | none =>
      rw [hsv] at hbit
      have hp := pow6 v hv
      refine ⟨sL (sA σ 48 k (nI (msk s ||| 2 ^ v))) 47 (6 * k + v) y, .long y, .int (nI v), ?_, ?_, (Fx.rfl'.sA (by decide)).sL (by decide), fun q hq => ⟨?_, fun w hw => ?_⟩⟩
      · rw [e_X2_match_60]
        simp (disch := first | omega | decide) only [e_X2_match_62, e_X2_match_63, e_X2_match_66, e_X2_match_67, e_X2_match_70, e_X2_match_71, e_X2_match_72, e_X2_match_73, e_X2_match_75, e_X2_match_76, e_X2_match_77, e_X2_match_79, e_X2_match_80, e_X2_match_83, e_X2_match_84, e_X2_match_86, e_X2_match_87, e_X2_match_88, e_X2_match_90, e_X2_match_92, e_X2_match_95, e_X2_match_97, e_X2_match_98, e_X2_match_101, e_X2_match_102, e_X2_match_104, e_X2_match_105, e_X2_match_106, e_X2_match_108, e_X2_match_109, e_X2_match_112, e_X2_match_113, e_X2_match_116, e_X2_match_117, e_X2_match_118, e_X2_match_120, e_X2_match_123, e_X2_match_124, e_X2_match_127, e_X2_match_129, e_X2_match_130, e_X2_match_132, e_X2_match_133, e_X2_match_134, e_X2_match_135, e_X2_match_136, e_X2_match_139, e_X2_match_141, e_X2_match_142, e_X2_match_145, e_X2_match_147, e_X2_match_149, e_X2_match_150, e_X2_match_152, e_X2_match_153, e_X2_match_154, e_X2_match_156, e_X2_match_157, e_X2_match_160, e_X2_match_161, e_X2_match_164, e_X2_match_165, e_X2_match_166, e_X2_match_168, e_X2_match_171, e_X2_match_172, e_X2_match_175, e_X2_match_177, e_X2_match_178, e_X2_match_179, e_X2_match_180, e_X2_match_182, e_X2_match_183, e_X2_match_184, e_X2_match_185, e_X2_match_186, e_X2_match_189, e_X2_match_191, e_X2_match_193, e_X2_match_194, e_X2_match_196, e_X2_match_197, e_X2_match_199, e_X2_match_200, e_X2_match_203, tw_cl, tg0, tg1, tg33, tg34, tg47, tg48, tg49, tg50, tp50 hT, tr0 hT, tr33 hT, tr34 hT, tr47 hT, tr48 hT, tr49 hT, ts0 hT, ts33 hT, ts34 hT, ts47 hT, ts48 hT, ts49 hT, cR_ref, cR_null, cR_rf, c1_int, c1_ref, c1_null, c1_rf, kz_int, kz_ref, kz_null, kz_rf, kz_U, kz_long, nB_null, nB_ref, rf_none, rf_some, bV_ret, bV_thr, bA_ret, bA_thr, bX_ret, bX_thr, len4_0, len4_1, len4_2, len4_3, len4_4, true_and, and_true, and_self, if_true, if_false, Option.bind_some, nR_b1, nR_b0, nR_bI, nI_1z, nI_0z, bI_z, if_nn, reduceCtorEq, one_ne0, nI_add, pk_mul, ↓nI_lt_if, hi, hx, h33, nI_nn, hs1, bit_if, hbit, Option.isSome_none, Bool.false_eq_true, shl1, nI_or, stF, hsv]
      · simp only [stF, hsv]
        refine ⟨?_, fun w z hw hz => ?_⟩
        · rw [← msk_upd hv, sL_221, sA_221, if_pos rfl]; simp [va_up]
        · unfold updS at hz
          rw [sL_222, if_pos rfl]
          by_cases e : w = v
          · subst e
            rw [if_pos rfl] at hz
            cases hz
            simp [va_up]
          · rw [if_neg e] at hz
            unfold va_up
            rw [if_neg (by omega)]
            exact hs.2 w z hw hz
      · rw [sL_221, sA_221, if_pos rfl]; unfold va_up; rw [if_neg hq]
      · rw [sL_222, if_pos rfl]; unfold va_up; rw [if_neg (by omega)]; rfl
set_option maxHeartbeats 1000000 in
/-- one triple -/
theorem t_mtr (hT : TwOk Ω.sz x A) {at' li t k : Nat} (hat : at' + 3 ≤ 120) (ht : t < 48) (hk : k < 1650) {p : Pat} {tr : Tri} {l7 l8 l9 : Value} (h8 : k2 l8 = l8) (hs : SoR σ k empS) (hp : SdS σ at' p.1 ∧ SdS σ (at' + 1) p.2.1 ∧ SdS σ (at' + 2) p.2.2) (htr : σ.2.2.2 0 (3 * t) = tr.1 ∧ σ.2.2.2 0 (3 * t + 1) = tr.2.1 ∧ σ.2.2.2 0 (3 * t + 2) = tr.2.2) : ∃ σ' l7' l9', gO PG Ω d 78 60 [.ref x, .int (nI at'), .int (nI li), .int (nI t), .int (nI k), .int (nI 1), .int (nI 0), l7, l8, l9] [] (tW h x A σ) = gO PG Ω d 78 206 [.ref x, .int (nI at'), .int (nI li), .int (nI t), .int (nI k), .int (bI (maF p tr).2), .int (nI 3), l7', U, l9'] [] (tW h x A σ') ∧ SoR σ' k (maF p tr).1 ∧ SlF k σ σ' := by
  obtain ⟨hp0, hp1, hp2⟩ := hp
  obtain ⟨ht0, ht1, ht2⟩ := htr
  obtain ⟨σ1, a7, a9, a1, a2, a3⟩ := t_mst (d := d) (h := h) (li := li) (f := true) (l7 := l7) (l9 := l9) hT hat ht hk (show 0 < 3 by omega) h8 hs hp0
  rw [Nat.add_zero, ht0] at a1 a2
  have r1 : σ1.2.2.2 0 = σ.2.2.2 0 := a3.1.2.2 0 (by decide)
  obtain ⟨σ2, b7, b9, b1, b2, b3⟩ := t_mst (d := d) (h := h) (li := li) (f := (stF (empS, true) p.1 tr.1).2) (l7 := a7) (l9 := a9) hT hat ht hk (show 1 < 3 by omega) (kz_U) a2 (hp1.fx a3.1 (by decide) (by decide))
  rw [r1, ht1] at b1 b2
  have r2 : σ2.2.2.2 0 = σ.2.2.2 0 := (b3.1.2.2 0 (by decide)).trans r1
  obtain ⟨σ3, c7, c9, c1, c2, c3⟩ := t_mst (d := d) (h := h) (li := li) (f := (stF (stF (empS, true) p.1 tr.1) p.2.1 tr.2.1).2) (l7 := b7) (l9 := b9) hT hat ht hk (show 2 < 3 by omega) (kz_U) b2 ((hp2.fx a3.1 (by decide) (by decide)).fx b3.1 (by decide) (by decide))
  rw [r2, ht2] at c1 c2
  refine ⟨σ3, c7, c9, ?_, c2, (a3.trans b3).trans c3⟩
  have a1' : _ = _ := a1
  rw [bI_t] at a1'
  rw [a1']
  have b1' : _ = _ := b1
  rw [b1']
  have c1' : _ = _ := c1
  rw [c1', e_X2_match_60]
  simp (disch := first | omega | decide) only [e_X2_match_62, e_X2_match_63, e_X2_match_66, cR_ref, cR_null, cR_rf, c1_int, c1_ref, c1_null, c1_rf, kz_int, kz_ref, kz_null, kz_rf, kz_U, kz_long, nB_null, nB_ref, rf_none, rf_some, bV_ret, bV_thr, bA_ret, bA_thr, bX_ret, bX_thr, len4_0, len4_1, len4_2, len4_3, len4_4, true_and, and_true, and_self, if_true, if_false, Option.bind_some, nR_b1, nR_b0, nR_bI, nI_1z, nI_0z, bI_z, if_nn, reduceCtorEq, one_ne0, ↓nI_lt_if, Nat.lt_irrefl]
  rfl
set_option maxHeartbeats 1000000 in
theorem t_mlo (hT : TwOk Ω.sz x A) {at' li : Nat} (hat : at' + 3 ≤ 120) (hli : li < 10) {p : Pat} {L : List Tri} (hL : L.length ≤ 48) : ∀ (m t : Nat) (σ : Tw) (M : List Sol) (l4 l5 l6 l7 l8 l9 : Value), t + m = L.length → σ.1 1 = nI L.length → TrL (σ.2.2.2 0) L → (SdS σ at' p.1 ∧ SdS σ (at' + 1) p.2.1 ∧ SdS σ (at' + 2) p.2.2) → PiR σ li M → M.length ≤ t → k2 l8 = l8 → ∃ σ', gO PG Ω d 78 24 [.ref x, .int (nI at'), .int (nI li), .int (nI t), l4, l5, l6, l7, l8, l9] [] (tW h x A σ) = some (.returned none, tW h x A σ') ∧ PiR σ' li (M ++ patL p (L.drop t)) ∧ LsF li σ σ' ∧ σ'.1 51 = σ.1 51 := by
  intro m
  induction m with
  | zero =>
    intro t σ M l4 l5 l6 l7 l8 l9 ht h1 hTr hp hM hMt h8
    have htl : t = L.length := by omega
    subst htl
    refine ⟨σ, ?_, ?_, LsF.rfl', rfl⟩
    · rw [e_X2_match_24]
      simp (disch := omega) only [e_X2_match_25, e_X2_match_26, e_X2_match_29, e_X2_match_32, e_X2_match_35, e_X2_match_36, e_X2_match_37, e_X2_match_38, e_X2_match_41, e_X2_match_42, e_X2_match_43, e_X2_match_44, e_X2_match_46, e_X2_match_47, e_X2_match_50, e_X2_match_52, e_X2_match_53, e_X2_match_54, e_X2_match_55, e_X2_match_57, e_X2_match_58, e_X2_match_227, tw_cl, tg0, tg1, tg33, tg34, tg47, tg48, tg49, tg50, tp50 hT, tr0 hT, tr33 hT, tr34 hT, tr47 hT, tr48 hT, tr49 hT, ts0 hT, ts33 hT, ts34 hT, ts47 hT, ts48 hT, ts49 hT, cR_ref, cR_null, cR_rf, c1_int, c1_ref, c1_null, c1_rf, kz_int, kz_ref, kz_null, kz_rf, kz_U, kz_long, nB_null, nB_ref, rf_none, rf_some, bV_ret, bV_thr, bA_ret, bA_thr, bX_ret, bX_thr, len4_0, len4_1, len4_2, len4_3, len4_4, true_and, and_true, and_self, if_true, if_false, Option.bind_some, nR_b1, nR_b0, nR_bI, nI_1z, nI_0z, bI_z, if_nn, reduceCtorEq, one_ne0, ↓nI_lt_if, h1, Nat.lt_irrefl]
    · rw [List.drop_length]
      unfold patL
      rw [List.filterMap_nil, List.append_nil]; exact hM
  | succ m ih =>
    intro t σ M l4 l5 l6 l7 l8 l9 ht h1 hTr hp hM hMt h8
    have htl : t < L.length := by omega
    have hg : L[t]? = some L[t] := List.getElem?_eq_getElem htl
    have hdr : L.drop t = L[t] :: L.drop (t + 1) := List.drop_eq_getElem_cons htl
    have htr := hTr t _ hg
    generalize L[t] = tr at hg hdr htr
    have h49 := hM.1
    have hMl := hM.2.1
    obtain ⟨σ1, a7, a9, a1, a2, a3⟩ := t_mtr (d := d) (h := h) (li := li) (σ := sA σ 48 (150 * li + M.length) (nI 0)) (k := 150 * li + M.length) (l7 := l7) (l9 := l9) (p := p) (tr := tr) hT hat (show t < 48 by omega) (by omega) h8 ⟨by rw [sA_221, if_pos rfl]; simp [va_up]; rfl, fun v z _ hz => nomatch hz⟩ hp htr
    have e1 : gO PG Ω d 78 24 [.ref x, .int (nI at'), .int (nI li), .int (nI t), l4, l5, l6, l7, l8, l9] [] (tW h x A σ) = gO PG Ω d 78 206 [.ref x, .int (nI at'), .int (nI li), .int (nI t), .int (nI (150 * li + M.length)), .int (bI (maF p tr).2), .int (nI 3), a7, U, a9] [] (tW h x A σ1) := by
      rw [← a1, e_X2_match_24]
      simp (disch := first | omega | decide) only [e_X2_match_25, e_X2_match_26, e_X2_match_29, e_X2_match_32, e_X2_match_35, e_X2_match_36, e_X2_match_37, e_X2_match_38, e_X2_match_41, e_X2_match_42, e_X2_match_43, e_X2_match_44, e_X2_match_46, e_X2_match_47, e_X2_match_50, e_X2_match_52, e_X2_match_53, e_X2_match_54, e_X2_match_55, e_X2_match_57, e_X2_match_58, tw_cl, tg0, tg1, tg33, tg34, tg47, tg48, tg49, tg50, tp50 hT, tr0 hT, tr33 hT, tr34 hT, tr47 hT, tr48 hT, tr49 hT, ts0 hT, ts33 hT, ts34 hT, ts47 hT, ts48 hT, ts49 hT, cR_ref, cR_null, cR_rf, c1_int, c1_ref, c1_null, c1_rf, kz_int, kz_ref, kz_null, kz_rf, kz_U, kz_long, nB_null, nB_ref, rf_none, rf_some, bV_ret, bV_thr, bA_ret, bA_thr, bX_ret, bX_thr, len4_0, len4_1, len4_2, len4_3, len4_4, true_and, and_true, and_self, if_true, if_false, Option.bind_some, nR_b1, nR_b0, nR_bI, nI_1z, nI_0z, bI_z, if_nn, reduceCtorEq, one_ne0, nI_add, pk_mul, ↓nI_lt_if, h1, htl, h49]
    have hsl : ∀ q, q ≠ 150 * li + M.length → SlE σ σ1 q := fun q hq => SlE.trans (σ' := sA σ 48 (150 * li + M.length) (nI 0)) ⟨by rw [sA_221, if_pos rfl]; unfold va_up; rw [if_neg hq], fun _ _ => rfl⟩ (a3.2 q hq)
    have r1 : σ1.1 1 = nI L.length := by rw [a3.1.1 1 (by decide)]; exact h1
    have r0 : σ1.2.2.2 0 = σ.2.2.2 0 := a3.1.2.2 0 (by decide)
    have r49 : σ1.2.2.1 49 = σ.2.2.1 49 := (a3.1.2.1 49 (by decide)).trans (by rw [sA_221, if_neg (by decide)])
    have r51 : σ1.1 51 = σ.1 51 := a3.1.1 51 (by decide)
    have rf : Fx [] [48] [47] σ σ1 := (Fx.rfl'.sA (by decide)).trans a3.1
    have hf : LsF li σ σ1 := ⟨rf.mono (by decide) (by decide) (by decide), fun i hi => ⟨by rw [r49], fun r hr => hsl _ (by omega)⟩⟩
    have hM1 : PiR σ1 li M := ⟨by rw [r49]; exact h49, hMl, fun r s q => by
      have hr := (List.getElem?_eq_some_iff.mp q).1
      exact (hM.2.2 r s q).eq (hsl _ (by omega))⟩
    have hp1 : SdS σ1 at' p.1 ∧ SdS σ1 (at' + 1) p.2.1 ∧ SdS σ1 (at' + 2) p.2.2 := ⟨hp.1.fx rf (by decide) (by decide), hp.2.1.fx rf (by decide) (by decide), hp.2.2.fx rf (by decide) (by decide)⟩
    have hTr1 : TrL (σ1.2.2.2 0) L := by rw [r0]; exact hTr
    rw [e1, hdr]
    unfold patL
    rw [List.filterMap_cons, maF_eq]
    have h491 : σ1.2.2.1 49 li = nI M.length := hM1.1
    cases hb : (maF p tr).2 with
    | false =>
      obtain ⟨σ2, b1, b2, b3, b4⟩ := ih (t + 1) σ1 M (.int (nI (150 * li + M.length))) (.int (bI false)) (.int (nI 3)) a7 U a9 (by omega) r1 hTr1 hp1 hM1 (by omega) kz_U
      refine ⟨σ2, ?_, b2, hf.trans b3, b4.trans r51⟩
      rw [← b1]
      simp (disch := first | omega | decide) only [e_X2_match_206, e_X2_match_208, e_X2_match_211, e_X2_match_212, e_X2_match_215, e_X2_match_216, e_X2_match_217, e_X2_match_218, e_X2_match_219, e_X2_match_220, e_X2_match_221, e_X2_match_224, tw_cl, tg0, tg1, tg33, tg34, tg47, tg48, tg49, tg50, tp50 hT, tr0 hT, tr33 hT, tr34 hT, tr47 hT, tr48 hT, tr49 hT, ts0 hT, ts33 hT, ts34 hT, ts47 hT, ts48 hT, ts49 hT, cR_ref, cR_null, cR_rf, c1_int, c1_ref, c1_null, c1_rf, kz_int, kz_ref, kz_null, kz_rf, kz_U, kz_long, nB_null, nB_ref, rf_none, rf_some, bV_ret, bV_thr, bA_ret, bA_thr, bX_ret, bX_thr, len4_0, len4_1, len4_2, len4_3, len4_4, true_and, and_true, and_self, if_true, if_false, Option.bind_some, nR_b1, nR_b0, nR_bI, nI_1z, nI_0z, bI_z, if_nn, reduceCtorEq, one_ne0, nI_add, pk_mul]
    | true =>
      have hM2 : PiR (sA σ1 49 li (nI (M.length + 1))) li (M ++ [(maF p tr).1]) := by
        refine ⟨by rw [sA_221, if_pos rfl]; simp [va_up], by simp; omega, fun r s q => ?_⟩
        rcases getE_snoc q with q | ⟨rfl, q2⟩
        · exact (hM1.2.2 r s q).eq ⟨rfl, fun _ _ => rfl⟩
        · subst q2
          exact a2.eq ⟨rfl, fun _ _ => rfl⟩
      obtain ⟨σ2, b1, b2, b3, b4⟩ := ih (t + 1) (sA σ1 49 li (nI (M.length + 1))) _ (.int (nI (150 * li + M.length))) (.int (bI true)) (.int (nI 3)) a7 U a9 (by omega) r1 hTr1 hp1 hM2 (by rw [List.length_append, List.length_singleton]; omega) kz_U
      rw [List.append_assoc] at b2
      refine ⟨σ2, ?_, b2, (hf.trans LsF.sz).trans b3, b4.trans r51⟩
      rw [← b1]
      simp (disch := first | omega | decide) only [e_X2_match_206, e_X2_match_208, e_X2_match_211, e_X2_match_212, e_X2_match_215, e_X2_match_216, e_X2_match_217, e_X2_match_218, e_X2_match_219, e_X2_match_220, e_X2_match_221, e_X2_match_224, tw_cl, tg0, tg1, tg33, tg34, tg47, tg48, tg49, tg50, tp50 hT, tr0 hT, tr33 hT, tr34 hT, tr47 hT, tr48 hT, tr49 hT, ts0 hT, ts33 hT, ts34 hT, ts47 hT, ts48 hT, ts49 hT, cR_ref, cR_null, cR_rf, c1_int, c1_ref, c1_null, c1_rf, kz_int, kz_ref, kz_null, kz_rf, kz_U, kz_long, nB_null, nB_ref, rf_none, rf_some, bV_ret, bV_thr, bA_ret, bA_thr, bX_ret, bX_thr, len4_0, len4_1, len4_2, len4_3, len4_4, true_and, and_true, and_self, if_true, if_false, Option.bind_some, nR_b1, nR_b0, nR_bI, nI_1z, nI_0z, bI_z, if_nn, reduceCtorEq, one_ne0, nI_add, pk_mul, h491]
theorem t_match (hT : TwOk Ω.sz x A) {at' n : Nat} (hat : at' + 3 ≤ 120) (hn : n < 10) {p : Pat} {L : List Tri} (hL : L.length ≤ 48) (h1 : σ.1 1 = nI L.length) (hTr : TrL (σ.2.2.2 0) L) (hp : SdS σ at' p.1 ∧ SdS σ (at' + 1) p.2.1 ∧ SdS σ (at' + 2) p.2.2) (h50 : σ.1 50 = nI n) : ∃ σ', gM PG Ω (d + 1) 78 [.ref x, .int (nI at')] (tW h x A σ) = some (.returned none, tW h x A σ') ∧ PiR σ' n (patL p L) ∧ σ'.1 50 = nI (n + 1) ∧ σ'.1 51 = σ.1 51 ∧ LsG n σ σ' := by
  obtain ⟨σ1, a1, a2, a3, a4⟩ := t_mlo (d := d) (h := h) (p := p) hT hat hn hL L.length 0 (sI (sA σ 49 n (nI 0)) 50 (nI (n + 1))) [] U U U U U U (by omega) h1 hTr hp PiR.nil (by simp) kz_U
  rw [List.drop_zero, List.nil_append] at a2
  have hz : LsF n σ (sA σ 49 n (nI 0)) := LsF.sz
  refine ⟨σ1, ?_, a2, ?_, a4, ?_, fun i l hi hl => ?_⟩
  · rw [← a1]
    simp (disch := first | omega | decide) only [n_X2_match, e_X2_match_0, e_X2_match_1, e_X2_match_4, e_X2_match_5, e_X2_match_6, e_X2_match_9, e_X2_match_10, e_X2_match_11, e_X2_match_12, e_X2_match_13, e_X2_match_14, e_X2_match_17, e_X2_match_18, e_X2_match_19, e_X2_match_22, e_X2_match_23, tw_cl, tg0, tg1, tg33, tg34, tg47, tg48, tg49, tg50, tp50 hT, tr0 hT, tr33 hT, tr34 hT, tr47 hT, tr48 hT, tr49 hT, ts0 hT, ts33 hT, ts34 hT, ts47 hT, ts48 hT, ts49 hT, cR_ref, cR_null, cR_rf, c1_int, c1_ref, c1_null, c1_rf, kz_int, kz_ref, kz_null, kz_rf, kz_U, kz_long, nB_null, nB_ref, rf_none, rf_some, bV_ret, bV_thr, bA_ret, bA_thr, bX_ret, bX_thr, len4_0, len4_1, len4_2, len4_3, len4_4, true_and, and_true, and_self, if_true, if_false, Option.bind_some, nR_b1, nR_b0, nR_bI, nI_1z, nI_0z, bI_z, if_nn, reduceCtorEq, one_ne0, nI_add, pk_mul, sI_1, sI_2, sT_1, sT_21, sT_22, sA_1, sA_21, sA_221, sA_222, sL_1, sL_21, sL_221, sL_222, Nat.reduceEqDiff, ↓reduceIte, h50]
  · rw [a3.1.1 50 (by decide)]; rfl
  · exact ((Fx.rfl'.sA (by decide)).sI (by decide)).trans (a3.1.mono (by decide) (by decide) (by decide))
  · have q0 : PiR (sA σ 49 n (nI 0)) i l := hl.keep hz (by omega)
    have q : PiR (sI (sA σ 49 n (nI 0)) 50 (nI (n + 1))) i l := q0
    exact q.keep a3 (by omega)
end TE5
