/-! TWIN, rows: how two solutions stand -/
def byV (a b : Option Int64) : Int32 := match a, b with
  | some x, some y => cmpI x y
  | some _, none => nI 1
  | none, some _ => -1
  | none, none => nI 0
def byT : List Nat → Sol → Sol → Int32
  | [], _, _ => nI 0
  | v :: vs, s, t => if byV (s v) (t v) = 0 then byT vs s t else byV (s v) (t v)
def ordC (o : Option Nat) (s t : Sol) : Int32 := match o with
  | some v => byV (s v) (t v)
  | none => nI 0
def befB (o : Option Nat × Bool) (cols : List Nat) (s t : Sol) : Bool := if (if o.2 = true then -(ordC o.1 s t) else ordC o.1 s t) = 0 then decide (byT cols s t < 0) else decide ((if o.2 = true then -(ordC o.1 s t) else ordC o.1 s t) < 0)
theorem z_m1 : nI 0 - nI 1 = -1 := by decide
theorem z_10 : nI 1 - nI 0 = nI 1 := by decide
theorem z_00 : nI 0 - nI 0 = nI 0 := by decide
section TEC
variable {Ω : Om} {d : Nat} {h : AH} {x : Nat} {A : Nat → Nat} {σ σ' : Tw}
theorem t_by (hT : TwOk Ω.sz x A) {v i k : Nat} {s t : Sol} (hv : v < 6) (hi : i < 1650) (hk : k < 1650) (hs : SoR σ i s) (ht : SoR σ k t) (sK : SoK s) (tK : SoK t) : gM PG Ω (d + 2) 89 [.ref x, .int (nI v), .int (nI i), .int (nI k)] (tW h x A σ) = some (.returned (some (.int (byV (s v) (t v)))), tW h x A σ) := by
  have hms := msk_lt s
  have hmt := msk_lt t
  have b1 := msk_bit s hv
  have b2 := msk_bit t hv
  have hs1 := hs.1
  have ht1 := ht.1
  cases hsv : s v with
  | none =>
    rw [hsv] at b1
    cases htv : t v with
    | none =>
      rw [htv] at b2
      simp (disch := first | omega | decide) only [n_X2_by, e_X2_by_0, e_X2_by_1, e_X2_by_4, e_X2_by_5, e_X2_by_6, e_X2_by_7, e_X2_by_8, e_X2_by_9, e_X2_by_10, e_X2_by_11, e_X2_by_14, e_X2_by_15, e_X2_by_18, e_X2_by_19, e_X2_by_21, e_X2_by_22, e_X2_by_25, e_X2_by_26, e_X2_by_27, e_X2_by_28, e_X2_by_29, e_X2_by_30, e_X2_by_31, e_X2_by_32, e_X2_by_35, e_X2_by_36, e_X2_by_39, e_X2_by_40, e_X2_by_42, e_X2_by_44, e_X2_by_47, e_X2_by_49, e_X2_by_52, e_X2_by_54, e_X2_by_57, e_X2_by_58, e_X2_by_61, e_X2_by_62, e_X2_by_64, e_X2_by_67, e_X2_by_68, e_X2_by_71, e_X2_by_72, e_X2_by_73, e_X2_by_76, e_X2_by_77, e_X2_by_80, e_X2_by_82, e_X2_by_83, e_X2_by_84, e_X2_by_85, e_X2_by_86, e_X2_by_87, e_X2_by_88, e_X2_by_91, e_X2_by_93, e_X2_by_94, e_X2_by_95, e_X2_by_96, e_X2_by_97, e_X2_by_98, e_X2_by_101, tw_cl, tg47, tg48, tr47 hT, tr48 hT, ts47 hT, ts48 hT, cR_ref, cR_null, cR_rf, c1_int, c1_ref, c1_null, c1_rf, kz_int, kz_ref, kz_null, kz_rf, kz_U, kz_long, nB_null, nB_ref, rf_none, rf_some, bV_ret, bV_thr, bA_ret, bA_thr, bX_ret, bX_thr, len4_0, len4_1, len4_2, len4_3, len4_4, true_and, and_true, and_self, if_true, if_false, Option.bind_some, nR_b1, nR_b0, nR_bI, nI_1z, nI_0z, bI_z, if_nn, reduceCtorEq, one_ne0, nI_add, pk_mul, hs1, ht1, bit_if, b1, b2, Option.isSome_none, Bool.false_eq_true, z_00, byV]
    | some b =>
      rw [htv] at b2
      simp (disch := first | omega | decide) only [n_X2_by, e_X2_by_0, e_X2_by_1, e_X2_by_4, e_X2_by_5, e_X2_by_6, e_X2_by_7, e_X2_by_8, e_X2_by_9, e_X2_by_10, e_X2_by_11, e_X2_by_14, e_X2_by_15, e_X2_by_18, e_X2_by_19, e_X2_by_21, e_X2_by_22, e_X2_by_25, e_X2_by_26, e_X2_by_27, e_X2_by_28, e_X2_by_29, e_X2_by_30, e_X2_by_31, e_X2_by_32, e_X2_by_35, e_X2_by_36, e_X2_by_39, e_X2_by_40, e_X2_by_42, e_X2_by_44, e_X2_by_47, e_X2_by_49, e_X2_by_52, e_X2_by_54, e_X2_by_57, e_X2_by_58, e_X2_by_61, e_X2_by_62, e_X2_by_64, e_X2_by_67, e_X2_by_68, e_X2_by_71, e_X2_by_72, e_X2_by_73, e_X2_by_76, e_X2_by_77, e_X2_by_80, e_X2_by_82, e_X2_by_83, e_X2_by_84, e_X2_by_85, e_X2_by_86, e_X2_by_87, e_X2_by_88, e_X2_by_91, e_X2_by_93, e_X2_by_94, e_X2_by_95, e_X2_by_96, e_X2_by_97, e_X2_by_98, e_X2_by_101, tw_cl, tg47, tg48, tr47 hT, tr48 hT, ts47 hT, ts48 hT, cR_ref, cR_null, cR_rf, c1_int, c1_ref, c1_null, c1_rf, kz_int, kz_ref, kz_null, kz_rf, kz_U, kz_long, nB_null, nB_ref, rf_none, rf_some, bV_ret, bV_thr, bA_ret, bA_thr, bX_ret, bX_thr, len4_0, len4_1, len4_2, len4_3, len4_4, true_and, and_true, and_self, if_true, if_false, Option.bind_some, nR_b1, nR_b0, nR_bI, nI_1z, nI_0z, bI_z, if_nn, reduceCtorEq, one_ne0, nI_add, pk_mul, hs1, ht1, bit_if, b1, b2, Option.isSome_none, Option.isSome_some, Bool.false_eq_true, z_m1, byV]
  | some a =>
    rw [hsv] at b1
    cases htv : t v with
    | none =>
      rw [htv] at b2
      simp (disch := first | omega | decide) only [n_X2_by, e_X2_by_0, e_X2_by_1, e_X2_by_4, e_X2_by_5, e_X2_by_6, e_X2_by_7, e_X2_by_8, e_X2_by_9, e_X2_by_10, e_X2_by_11, e_X2_by_14, e_X2_by_15, e_X2_by_18, e_X2_by_19, e_X2_by_21, e_X2_by_22, e_X2_by_25, e_X2_by_26, e_X2_by_27, e_X2_by_28, e_X2_by_29, e_X2_by_30, e_X2_by_31, e_X2_by_32, e_X2_by_35, e_X2_by_36, e_X2_by_39, e_X2_by_40, e_X2_by_42, e_X2_by_44, e_X2_by_47, e_X2_by_49, e_X2_by_52, e_X2_by_54, e_X2_by_57, e_X2_by_58, e_X2_by_61, e_X2_by_62, e_X2_by_64, e_X2_by_67, e_X2_by_68, e_X2_by_71, e_X2_by_72, e_X2_by_73, e_X2_by_76, e_X2_by_77, e_X2_by_80, e_X2_by_82, e_X2_by_83, e_X2_by_84, e_X2_by_85, e_X2_by_86, e_X2_by_87, e_X2_by_88, e_X2_by_91, e_X2_by_93, e_X2_by_94, e_X2_by_95, e_X2_by_96, e_X2_by_97, e_X2_by_98, e_X2_by_101, tw_cl, tg47, tg48, tr47 hT, tr48 hT, ts47 hT, ts48 hT, cR_ref, cR_null, cR_rf, c1_int, c1_ref, c1_null, c1_rf, kz_int, kz_ref, kz_null, kz_rf, kz_U, kz_long, nB_null, nB_ref, rf_none, rf_some, bV_ret, bV_thr, bA_ret, bA_thr, bX_ret, bX_thr, len4_0, len4_1, len4_2, len4_3, len4_4, true_and, and_true, and_self, if_true, if_false, Option.bind_some, nR_b1, nR_b0, nR_bI, nI_1z, nI_0z, bI_z, if_nn, reduceCtorEq, one_ne0, nI_add, pk_mul, hs1, ht1, bit_if, b1, b2, Option.isSome_none, Option.isSome_some, Bool.false_eq_true, z_10, byV]
    | some b =>
      rw [htv] at b2
      have v1 := hs.2 v a hv hsv
      have v2 := ht.2 v b hv htv
      have ec := t_compare (Ω := Ω) (d := d) (h := tW h x A σ) (sK v a hsv) (tK v b htv)
      simp (disch := first | omega | decide) only [n_X2_by, e_X2_by_0, e_X2_by_1, e_X2_by_4, e_X2_by_5, e_X2_by_6, e_X2_by_7, e_X2_by_8, e_X2_by_9, e_X2_by_10, e_X2_by_11, e_X2_by_14, e_X2_by_15, e_X2_by_18, e_X2_by_19, e_X2_by_21, e_X2_by_22, e_X2_by_25, e_X2_by_26, e_X2_by_27, e_X2_by_28, e_X2_by_29, e_X2_by_30, e_X2_by_31, e_X2_by_32, e_X2_by_35, e_X2_by_36, e_X2_by_39, e_X2_by_40, e_X2_by_42, e_X2_by_44, e_X2_by_47, e_X2_by_49, e_X2_by_52, e_X2_by_54, e_X2_by_57, e_X2_by_58, e_X2_by_61, e_X2_by_62, e_X2_by_64, e_X2_by_67, e_X2_by_68, e_X2_by_71, e_X2_by_72, e_X2_by_73, e_X2_by_76, e_X2_by_77, e_X2_by_80, e_X2_by_82, e_X2_by_83, e_X2_by_84, e_X2_by_85, e_X2_by_86, e_X2_by_87, e_X2_by_88, e_X2_by_91, e_X2_by_93, e_X2_by_94, e_X2_by_95, e_X2_by_96, e_X2_by_97, e_X2_by_98, e_X2_by_101, tw_cl, tg47, tg48, tr47 hT, tr48 hT, ts47 hT, ts48 hT, cR_ref, cR_null, cR_rf, c1_int, c1_ref, c1_null, c1_rf, kz_int, kz_ref, kz_null, kz_rf, kz_U, kz_long, nB_null, nB_ref, rf_none, rf_some, bV_ret, bV_thr, bA_ret, bA_thr, bX_ret, bX_thr, len4_0, len4_1, len4_2, len4_3, len4_4, true_and, and_true, and_self, if_true, if_false, Option.bind_some, nR_b1, nR_b0, nR_bI, nI_1z, nI_0z, bI_z, if_nn, reduceCtorEq, one_ne0, nI_add, pk_mul, hs1, ht1, bit_if, b1, b2, Option.isSome_none, Option.isSome_some, Bool.false_eq_true, v1, v2, ec, byV]
theorem t_byT1 (hT : TwOk Ω.sz x A) {i k : Nat} {s t : Sol} {cols : List Nat} (hi : i < 1650) (hk : k < 1650) (hs : SoR σ i s) (ht : SoR σ k t) (sK : SoK s) (tK : SoK t) (hw : WaR σ cols) (hc : cols.length ≤ 6) : ∀ (m w : Nat), w + m = cols.length → gO PG Ω (d + 2) 90 5 [.ref x, .int (nI i), .int (nI k), .int (nI 0), .int (nI w)] [] (tW h x A σ) = some (.returned (some (.int (byT (cols.drop w) s t))), tW h x A σ) := by
  have h41 := hw.1
  intro m
  induction m with
  | zero =>
    intro w hw'
    have : w = cols.length := by omega
    subst this
    rw [e_X2_byTerms_5]
    simp (disch := first | omega | decide) only [e_X2_byTerms_7, e_X2_byTerms_8, e_X2_byTerms_11, e_X2_byTerms_14, e_X2_byTerms_15, e_X2_byTerms_18, e_X2_byTerms_19, e_X2_byTerms_20, e_X2_byTerms_23, e_X2_byTerms_25, e_X2_byTerms_26, e_X2_byTerms_27, e_X2_byTerms_28, e_X2_byTerms_31, e_X2_byTerms_32, e_X2_byTerms_35, e_X2_byTerms_38, e_X2_byTerms_39, tw_cl, tg40, tg41, tr40 hT, ts40 hT, cR_ref, cR_null, cR_rf, c1_int, c1_ref, c1_null, c1_rf, kz_int, kz_ref, kz_null, kz_rf, kz_U, kz_long, nB_null, nB_ref, rf_none, rf_some, bV_ret, bV_thr, bA_ret, bA_thr, bX_ret, bX_thr, len4_0, len4_1, len4_2, len4_3, len4_4, true_and, and_true, and_self, if_true, if_false, Option.bind_some, nR_b1, nR_b0, nR_bI, nI_1z, nI_0z, bI_z, if_nn, ↓nI_lt_if, h41, Nat.lt_irrefl, List.drop_length, byT]
  | succ m ih =>
    intro w hw'
    have hwl : w < cols.length := by omega
    have hg : cols[w]? = some cols[w] := List.getElem?_eq_getElem hwl
    have hdr : cols.drop w = cols[w] :: cols.drop (w + 1) := List.drop_eq_getElem_cons hwl
    generalize cols[w] = v at hg hdr
    obtain ⟨hv6, h40⟩ := hw.2 w v hg
    have e1 := t_by (d := d) (h := h) hT hv6 hi hk hs ht sK tK
    rw [hdr]
    have e2 : gO PG Ω (d + 2) 90 5 [.ref x, .int (nI i), .int (nI k), .int (nI 0), .int (nI w)] [] (tW h x A σ) = gO PG Ω (d + 2) 90 5 [.ref x, .int (nI i), .int (nI k), .int (byV (s v) (t v)), .int (nI (w + 1))] [] (tW h x A σ) := by
      rw [e_X2_byTerms_5]
      simp (disch := first | omega | decide) only [e_X2_byTerms_7, e_X2_byTerms_8, e_X2_byTerms_11, e_X2_byTerms_14, e_X2_byTerms_15, e_X2_byTerms_18, e_X2_byTerms_19, e_X2_byTerms_20, e_X2_byTerms_23, e_X2_byTerms_25, e_X2_byTerms_26, e_X2_byTerms_27, e_X2_byTerms_28, e_X2_byTerms_31, e_X2_byTerms_32, e_X2_byTerms_35, e_X2_byTerms_38, e_X2_byTerms_39, tw_cl, tg40, tg41, tr40 hT, ts40 hT, cR_ref, cR_null, cR_rf, c1_int, c1_ref, c1_null, c1_rf, kz_int, kz_ref, kz_null, kz_rf, kz_U, kz_long, nB_null, nB_ref, rf_none, rf_some, bV_ret, bV_thr, bA_ret, bA_thr, bX_ret, bX_thr, len4_0, len4_1, len4_2, len4_3, len4_4, true_and, and_true, and_self, if_true, if_false, Option.bind_some, nR_b1, nR_b0, nR_bI, nI_1z, nI_0z, bI_z, if_nn, nI_add, pk_mul, ↓nI_lt_if, h41, hwl, h40, e1]
    rw [e2]
    unfold byT
    by_cases h0 : byV (s v) (t v) = 0
    · rw [if_pos h0, h0]
      exact ih (w + 1) (by omega)
    · rw [if_neg h0, e_X2_byTerms_5]
      by_cases hlt : w + 1 < cols.length
      · simp (disch := first | omega | decide) only [e_X2_byTerms_7, e_X2_byTerms_8, e_X2_byTerms_11, e_X2_byTerms_14, e_X2_byTerms_15, e_X2_byTerms_18, e_X2_byTerms_19, e_X2_byTerms_20, e_X2_byTerms_23, e_X2_byTerms_25, e_X2_byTerms_26, e_X2_byTerms_27, e_X2_byTerms_28, e_X2_byTerms_31, e_X2_byTerms_32, e_X2_byTerms_35, e_X2_byTerms_38, e_X2_byTerms_39, tw_cl, tg40, tg41, tr40 hT, ts40 hT, cR_ref, cR_null, cR_rf, c1_int, c1_ref, c1_null, c1_rf, kz_int, kz_ref, kz_null, kz_rf, kz_U, kz_long, nB_null, nB_ref, rf_none, rf_some, bV_ret, bV_thr, bA_ret, bA_thr, bX_ret, bX_thr, len4_0, len4_1, len4_2, len4_3, len4_4, true_and, and_true, and_self, if_true, if_false, Option.bind_some, nR_b1, nR_b0, nR_bI, nI_1z, nI_0z, bI_z, if_nn, ↓nI_lt_if, h41, hlt, h0]
      · simp (disch := first | omega | decide) only [e_X2_byTerms_7, e_X2_byTerms_8, e_X2_byTerms_11, e_X2_byTerms_14, e_X2_byTerms_15, e_X2_byTerms_18, e_X2_byTerms_19, e_X2_byTerms_20, e_X2_byTerms_23, e_X2_byTerms_25, e_X2_byTerms_26, e_X2_byTerms_27, e_X2_byTerms_28, e_X2_byTerms_31, e_X2_byTerms_32, e_X2_byTerms_35, e_X2_byTerms_38, e_X2_byTerms_39, tw_cl, tg40, tg41, tr40 hT, ts40 hT, cR_ref, cR_null, cR_rf, c1_int, c1_ref, c1_null, c1_rf, kz_int, kz_ref, kz_null, kz_rf, kz_U, kz_long, nB_null, nB_ref, rf_none, rf_some, bV_ret, bV_thr, bA_ret, bA_thr, bX_ret, bX_thr, len4_0, len4_1, len4_2, len4_3, len4_4, true_and, and_true, and_self, if_true, if_false, Option.bind_some, nR_b1, nR_b0, nR_bI, nI_1z, nI_0z, bI_z, if_nn, ↓nI_lt_if, h41, hlt]
theorem t_byT (hT : TwOk Ω.sz x A) {i k : Nat} {s t : Sol} {cols : List Nat} (hi : i < 1650) (hk : k < 1650) (hs : SoR σ i s) (ht : SoR σ k t) (sK : SoK s) (tK : SoK t) (hw : WaR σ cols) (hc : cols.length ≤ 6) : gM PG Ω (d + 3) 90 [.ref x, .int (nI i), .int (nI k)] (tW h x A σ) = some (.returned (some (.int (byT cols s t))), tW h x A σ) := by
  have := t_byT1 (d := d) (h := h) hT hi hk hs ht sK tK hw hc cols.length 0 (by omega)
  rw [List.drop_zero] at this
  rw [← this]
  simp (disch := first | omega | decide) only [n_X2_byTerms, e_X2_byTerms_0, e_X2_byTerms_1, e_X2_byTerms_2, e_X2_byTerms_3, cR_ref, cR_null, cR_rf, c1_int, c1_ref, c1_null, c1_rf, kz_int, kz_ref, kz_null, kz_rf, kz_U, kz_long, nB_null, nB_ref, rf_none, rf_some, bV_ret, bV_thr, bA_ret, bA_thr, bX_ret, bX_thr, len4_0, len4_1, len4_2, len4_3, len4_4, true_and, and_true, and_self, if_true, if_false, Option.bind_some, nR_b1, nR_b0, nR_bI, nI_1z, nI_0z, bI_z, if_nn]
theorem t_bef (hT : TwOk Ω.sz x A) {i k : Nat} {s t : Sol} {cols : List Nat} {o : Option Nat × Bool} (hi : i < 1650) (hk : k < 1650) (hs : SoR σ i s) (ht : SoR σ k t) (sK : SoK s) (tK : SoK t) (hw : WaR σ cols) (hc : cols.length ≤ 6) (ho : orF σ o) : gM PG Ω (d + 4) 88 [.ref x, .int (nI i), .int (nI k)] (tW h x A σ) = some (.returned (some (.int (bI (befB o cols s t)))), tW h x A σ) := by
  obtain ⟨oo, fl⟩ := o
  obtain ⟨h45, h44⟩ := ho
  simp only at h45 h44
  have eT := t_byT (d := d) (h := h) hT hi hk hs ht sK tK hw hc
  have e1 : gM PG Ω (d + 4) 88 [.ref x, .int (nI i), .int (nI k)] (tW h x A σ) = gO PG Ω (d + 3) 88 22 [.ref x, .int (nI i), .int (nI k), .int (ordC oo s t)] [] (tW h x A σ) := by
    cases oo with
    | none =>
      have h44' : σ.1 44 = -1 := h44
      simp (disch := first | omega | decide) only [n_X2_before, e_X2_before_0, e_X2_before_1, e_X2_before_4, e_X2_before_7, e_X2_before_8, e_X2_before_11, e_X2_before_12, e_X2_before_13, e_X2_before_16, e_X2_before_17, e_X2_before_18, e_X2_before_21, tw_cl, tg44, tg45, cR_ref, cR_null, cR_rf, c1_int, c1_ref, c1_null, c1_rf, kz_int, kz_ref, kz_null, kz_rf, kz_U, kz_long, nB_null, nB_ref, rf_none, rf_some, bV_ret, bV_thr, bA_ret, bA_thr, bX_ret, bX_thr, len4_0, len4_1, len4_2, len4_3, len4_4, true_and, and_true, and_self, if_true, if_false, Option.bind_some, nR_b1, nR_b0, nR_bI, nI_1z, nI_0z, bI_z, if_nn, h44', m1_neg, ordC]
    | some v =>
      have h44' : v < 6 ∧ σ.1 44 = nI v := h44
      have eb := t_by (d := d + 1) (h := h) hT h44'.1 hi hk hs ht sK tK
      have hv := h44'.1
      simp (disch := first | omega | decide) only [n_X2_before, e_X2_before_0, e_X2_before_1, e_X2_before_4, e_X2_before_7, e_X2_before_8, e_X2_before_11, e_X2_before_12, e_X2_before_13, e_X2_before_16, e_X2_before_17, e_X2_before_18, e_X2_before_21, tw_cl, tg44, tg45, cR_ref, cR_null, cR_rf, c1_int, c1_ref, c1_null, c1_rf, kz_int, kz_ref, kz_null, kz_rf, kz_U, kz_long, nB_null, nB_ref, rf_none, rf_some, bV_ret, bV_thr, bA_ret, bA_thr, bX_ret, bX_thr, len4_0, len4_1, len4_2, len4_3, len4_4, true_and, and_true, and_self, if_true, if_false, Option.bind_some, nR_b1, nR_b0, nR_bI, nI_1z, nI_0z, bI_z, if_nn, h44'.2, nI_nn, ordC, eb]
  rw [e1]
  have e2 : gO PG Ω (d + 3) 88 22 [.ref x, .int (nI i), .int (nI k), .int (ordC oo s t)] [] (tW h x A σ) = gO PG Ω (d + 3) 88 32 [.ref x, .int (nI i), .int (nI k), .int (if fl = true then -(ordC oo s t) else ordC oo s t)] [] (tW h x A σ) := by
    cases fl with
    | true => simp (disch := first | omega | decide) only [e_X2_before_22, e_X2_before_23, e_X2_before_26, e_X2_before_29, e_X2_before_30, e_X2_before_31, tw_cl, tg44, tg45, cR_ref, cR_null, cR_rf, c1_int, c1_ref, c1_null, c1_rf, kz_int, kz_ref, kz_null, kz_rf, kz_U, kz_long, nB_null, nB_ref, rf_none, rf_some, bV_ret, bV_thr, bA_ret, bA_thr, bX_ret, bX_thr, len4_0, len4_1, len4_2, len4_3, len4_4, true_and, and_true, and_self, if_true, if_false, Option.bind_some, nR_b1, nR_b0, nR_bI, nI_1z, nI_0z, bI_z, if_nn, reduceCtorEq, h45]
    | false => simp (disch := first | omega | decide) only [e_X2_before_22, e_X2_before_23, e_X2_before_26, e_X2_before_29, e_X2_before_30, e_X2_before_31, tw_cl, tg44, tg45, cR_ref, cR_null, cR_rf, c1_int, c1_ref, c1_null, c1_rf, kz_int, kz_ref, kz_null, kz_rf, kz_U, kz_long, nB_null, nB_ref, rf_none, rf_some, bV_ret, bV_thr, bA_ret, bA_thr, bX_ret, bX_thr, len4_0, len4_1, len4_2, len4_3, len4_4, true_and, and_true, and_self, if_true, if_false, Option.bind_some, nR_b1, nR_b0, nR_bI, nI_1z, nI_0z, bI_z, if_nn, reduceCtorEq, h45]
  rw [e2]
  unfold befB
  simp only
  generalize (if fl = true then -(ordC oo s t) else ordC oo s t) = c
  by_cases h0 : c = 0
  · rw [if_pos h0]
    by_cases hl : byT cols s t < 0
    · simp (disch := first | omega | decide) only [e_X2_before_32, e_X2_before_33, e_X2_before_36, e_X2_before_37, e_X2_before_38, e_X2_before_39, e_X2_before_42, e_X2_before_43, e_X2_before_44, e_X2_before_47, e_X2_before_48, e_X2_before_51, e_X2_before_52, tw_cl, tg44, tg45, cR_ref, cR_null, cR_rf, c1_int, c1_ref, c1_null, c1_rf, kz_int, kz_ref, kz_null, kz_rf, kz_U, kz_long, nB_null, nB_ref, rf_none, rf_some, bV_ret, bV_thr, bA_ret, bA_thr, bX_ret, bX_thr, len4_0, len4_1, len4_2, len4_3, len4_4, true_and, and_true, and_self, if_true, if_false, Option.bind_some, nR_b1, nR_b0, nR_bI, nI_1z, nI_0z, bI_z, if_nn, h0, eT, hl, decide_true, bI_t]
    · simp (disch := first | omega | decide) only [e_X2_before_32, e_X2_before_33, e_X2_before_36, e_X2_before_37, e_X2_before_38, e_X2_before_39, e_X2_before_42, e_X2_before_43, e_X2_before_44, e_X2_before_47, e_X2_before_48, e_X2_before_51, e_X2_before_52, tw_cl, tg44, tg45, cR_ref, cR_null, cR_rf, c1_int, c1_ref, c1_null, c1_rf, kz_int, kz_ref, kz_null, kz_rf, kz_U, kz_long, nB_null, nB_ref, rf_none, rf_some, bV_ret, bV_thr, bA_ret, bA_thr, bX_ret, bX_thr, len4_0, len4_1, len4_2, len4_3, len4_4, true_and, and_true, and_self, if_true, if_false, Option.bind_some, nR_b1, nR_b0, nR_bI, nI_1z, nI_0z, bI_z, if_nn, h0, eT, hl, decide_false, bI_f]
  · rw [if_neg h0]
    by_cases hl : c < 0
    · simp (disch := first | omega | decide) only [e_X2_before_32, e_X2_before_33, e_X2_before_36, e_X2_before_37, e_X2_before_38, e_X2_before_39, e_X2_before_42, e_X2_before_43, e_X2_before_44, e_X2_before_47, e_X2_before_48, e_X2_before_51, e_X2_before_52, tw_cl, tg44, tg45, cR_ref, cR_null, cR_rf, c1_int, c1_ref, c1_null, c1_rf, kz_int, kz_ref, kz_null, kz_rf, kz_U, kz_long, nB_null, nB_ref, rf_none, rf_some, bV_ret, bV_thr, bA_ret, bA_thr, bX_ret, bX_thr, len4_0, len4_1, len4_2, len4_3, len4_4, true_and, and_true, and_self, if_true, if_false, Option.bind_some, nR_b1, nR_b0, nR_bI, nI_1z, nI_0z, bI_z, if_nn, h0, hl, decide_true, bI_t]
    · simp (disch := first | omega | decide) only [e_X2_before_32, e_X2_before_33, e_X2_before_36, e_X2_before_37, e_X2_before_38, e_X2_before_39, e_X2_before_42, e_X2_before_43, e_X2_before_44, e_X2_before_47, e_X2_before_48, e_X2_before_51, e_X2_before_52, tw_cl, tg44, tg45, cR_ref, cR_null, cR_rf, c1_int, c1_ref, c1_null, c1_rf, kz_int, kz_ref, kz_null, kz_rf, kz_U, kz_long, nB_null, nB_ref, rf_none, rf_some, bV_ret, bV_thr, bA_ret, bA_thr, bX_ret, bX_thr, len4_0, len4_1, len4_2, len4_3, len4_4, true_and, and_true, and_self, if_true, if_false, Option.bind_some, nR_b1, nR_b0, nR_bI, nI_1z, nI_0z, bI_z, if_nn, h0, hl, decide_false, bI_f]
end TEC
