/-! TWIN: ask -/
def askI : List Nat := [13, 14, 15, 17, 18, 19, 20, 21, 22, 24, 25, 26, 27, 32, 35, 39, 41, 43, 44, 45, 46, 50, 51, 55, 57, 58]
def FxA (σ σ' : Tw) : Prop := Fx [13, 14, 15, 17, 18, 19, 20, 21, 22, 24, 25, 26, 27, 32, 35, 39, 41, 43, 44, 45, 46, 58] [28, 29, 30, 31, 33, 36, 37, 38, 40, 42] [23, 34] σ σ'
def FxB (σ σ' : Tw) : Prop := Fx [13, 14, 15, 17, 18, 19, 20, 21, 22, 24, 25, 26, 27, 32, 35, 39, 41, 43, 44, 45, 46, 50, 51, 55, 57, 58] [28, 29, 30, 31, 33, 36, 37, 38, 40, 42, 48, 49, 53, 54, 56] [23, 34, 47, 52] σ σ'
def askS (σ : Tw) : Tw := sI (sI (sI (sI (sI (sI (sI (sI (sI (sI (sI (sI (sI (sI (sI σ 24 (nI 0)) 25 (nI 0)) 26 (nI 0)) 27 (nI 0)) 32 (nI 0)) 35 (nI 0)) 39 (nI 0)) 41 (nI 0)) 43 (nI 0)) 44 (-1)) 45 (nI 0)) 46 (nI 10000)) 18 (nI 0)) 20 (-1)) 21 (nI 0)
section TASK
variable {Ω : Om} {d : Nat} {h : AH} {x : Nat} {A : Nat → Nat} {σ σ' : Tw} {cs : List Nat}
theorem askS_f : Fx [18, 20, 21, 24, 25, 26, 27, 32, 35, 39, 41, 43, 44, 45, 46] [] [] σ (askS σ) := by
  unfold askS
  repeat (first | exact Fx.rfl' | refine Fx.sI ?_ (by decide))
theorem t_ask1 (hT : TwOk Ω.sz x A) (hx : TxL σ cs) : ∃ σ', gM PG Ω (d + 13) 57 [.ref x] (tW h x A σ) = gO PG Ω (d + 12) 57 85 [.ref x, U] [] (tW h x A σ') ∧ FxA σ σ' ∧ (∀ y, pQry cs = .ok y → QyR σ' y) ∧ (∀ q, pQry cs = .error q → σ'.1 20 = nI q ∧ q ≤ 160) := by
  have hx0 : TxL (askS σ) cs := hx.fx askS_f (by decide) (by decide)
  obtain ⟨σ1, e1, e2, e3⟩ := t_next (d := d + 7) (h := h) (σ := askS σ) (e := 0) hT hx0 rfl (Nat.zero_le _)
  have hr : ∀ j, j ∉ [15, 17, 18, 19] → σ1.1 j = (askS σ).1 j := e3.1
  have hp : PL σ1 cs (0, [], 0) := ⟨hx0.fx e3 (by decide) (by decide), e2, Nat.zero_le _, (hr 20 (by decide)).trans rfl, ⟨(hr 24 (by decide)).trans rfl, Nat.zero_le _, fun i w q => by simp at q, List.nodup_nil⟩, (hr 25 (by decide)).trans rfl, Nat.zero_le _⟩
  have hc : CR σ1 (wc c0 []) := ⟨⟨(hr 32 (by decide)).trans rfl, fun i o a q => by simp [wc, c0] at q⟩, ⟨(hr 35 (by decide)).trans rfl, fun i p q => by simp [wc, c0] at q⟩, ⟨(hr 39 (by decide)).trans rfl, fun i g t q => by simp [wc, c0] at q⟩, (hr 26 (by decide)).trans rfl, (hr 27 (by decide)).trans rfl, fun j w g c q => by simp [wc] at q⟩
  have hw : WaR σ1 [] := ⟨(hr 41 (by decide)).trans rfl, fun i v q => by simp at q⟩
  obtain ⟨σ2, f1, f2, f3, f4⟩ := t_q (d := d) (h := h) hT hp hc hw ((hr 44 (by decide)).trans rfl) ((hr 45 (by decide)).trans rfl) ((hr 46 (by decide)).trans rfl)
  refine ⟨σ2, ?_, ((askS_f.mono (by decide) (by decide) (by decide)).trans (e3.mono (by decide) (by decide) (by decide))).trans (f2.mono (by decide) (by decide) (by decide)), f3, f4⟩
  unfold askS at e1
  simp (disch := first | omega | decide) only [n_X2_ask, e_X2_ask_0, e_X2_ask_1, e_X2_ask_2, e_X2_ask_5, e_X2_ask_6, e_X2_ask_7, e_X2_ask_10, e_X2_ask_11, e_X2_ask_12, e_X2_ask_15, e_X2_ask_16, e_X2_ask_17, e_X2_ask_20, e_X2_ask_21, e_X2_ask_22, e_X2_ask_25, e_X2_ask_26, e_X2_ask_27, e_X2_ask_30, e_X2_ask_31, e_X2_ask_32, e_X2_ask_35, e_X2_ask_36, e_X2_ask_37, e_X2_ask_40, e_X2_ask_41, e_X2_ask_42, e_X2_ask_45, e_X2_ask_46, e_X2_ask_47, e_X2_ask_50, e_X2_ask_51, e_X2_ask_52, e_X2_ask_55, e_X2_ask_56, e_X2_ask_59, e_X2_ask_62, e_X2_ask_63, e_X2_ask_64, e_X2_ask_67, e_X2_ask_68, e_X2_ask_69, e_X2_ask_72, e_X2_ask_73, e_X2_ask_74, e_X2_ask_77, e_X2_ask_78, e_X2_ask_81, e_X2_ask_82, tw_cl, tg20, tg30, tg31, tg32, tg40, tg41, tg51, tg55, tg56, tp13 hT, tp14 hT, tp18 hT, tp20 hT, tp21 hT, tp24 hT, tp25 hT, tp26 hT, tp27 hT, tp32 hT, tp35 hT, tp39 hT, tp41 hT, tp43 hT, tp44 hT, tp45 hT, tp46 hT, tp50 hT, tp51 hT, tp55 hT, tp57 hT, tr30 hT, tr31 hT, tr40 hT, tr56 hT, ts30 hT, ts31 hT, ts40 hT, ts56 hT, cR_ref, cR_null, cR_rf, c1_int, c1_ref, c1_null, c1_rf, kz_int, kz_ref, kz_null, kz_rf, kz_U, kz_long, nB_null, nB_ref, rf_none, rf_some, bV_ret, bV_thr, bA_ret, bA_thr, bX_ret, bX_thr, len4_0, len4_1, len4_2, len4_3, len4_4, true_and, and_true, and_self, if_true, if_false, Option.bind_some, nR_b1, nR_b0, nR_bI, nI_1z, nI_0z, bI_z, if_nn, okv_b0, e1, f1]
theorem t_ask_er (hT : TwOk Ω.sz x A) (hx : TxL σ cs) {q : Nat} (hq : pQry cs = .error q) : ∃ σ', gM PG Ω (d + 13) 57 [.ref x] (tW h x A σ) = some (.returned (some (.int (nI 0))), tW h x A σ') ∧ σ'.1 13 = nI 0 ∧ σ'.1 14 = nI q ∧ q ≤ 160 ∧ σ'.1 58 = nI 1 ∧ FxA σ σ' := by
  obtain ⟨σ1, e1, e2, _, e4⟩ := t_ask1 (d := d) (h := h) hT hx
  obtain ⟨h20, hq160⟩ := e4 q hq
  have hm : ¬ nI q < 0 := nI_pos (by omega)
  have g0 := t_good0 (Ω := Ω) (d := d + 11) (h := h) (x := x) (A := A) (σ := sI (sI σ1 13 (nI 0)) 14 (nI q)) (c := nI 1) hT
  have hfx : FxA σ (sI (sI (sI σ1 13 (nI 0)) 14 (nI q)) 58 (nI 1)) := ((e2.sI (by decide)).sI (by decide)).sI (by decide)
  refine ⟨sI (sI (sI σ1 13 (nI 0)) 14 (nI q)) 58 (nI 1), ?_, rfl, rfl, hq160, rfl, hfx⟩
  rw [e1]
  simp (disch := first | omega | decide) only [e_X2_ask_85, e_X2_ask_86, e_X2_ask_87, e_X2_ask_90, e_X2_ask_91, e_X2_ask_92, e_X2_ask_95, e_X2_ask_98, e_X2_ask_99, e_X2_ask_100, e_X2_ask_103, e_X2_ask_106, e_X2_ask_107, e_X2_ask_110, e_X2_ask_111, e_X2_ask_112, e_X2_ask_115, e_X2_ask_118, e_X2_ask_119, tw_cl, tg20, tg30, tg31, tg32, tg40, tg41, tg51, tg55, tg56, tp13 hT, tp14 hT, tp18 hT, tp20 hT, tp21 hT, tp24 hT, tp25 hT, tp26 hT, tp27 hT, tp32 hT, tp35 hT, tp39 hT, tp41 hT, tp43 hT, tp44 hT, tp45 hT, tp46 hT, tp50 hT, tp51 hT, tp55 hT, tp57 hT, tr30 hT, tr31 hT, tr40 hT, tr56 hT, ts30 hT, ts31 hT, ts40 hT, ts56 hT, cR_ref, cR_null, cR_rf, c1_int, c1_ref, c1_null, c1_rf, kz_int, kz_ref, kz_null, kz_rf, kz_U, kz_long, nB_null, nB_ref, rf_none, rf_some, bV_ret, bV_thr, bA_ret, bA_thr, bX_ret, bX_thr, len4_0, len4_1, len4_2, len4_3, len4_4, true_and, and_true, and_self, if_true, if_false, Option.bind_some, nR_b1, nR_b0, nR_bI, nI_1z, nI_0z, bI_z, if_nn, reduceCtorEq, sI_1, sI_2, sT_1, sT_21, sT_22, sA_1, sA_21, sA_221, sA_222, sL_1, sL_21, sL_221, sL_222, Nat.reduceEqDiff, ↓reduceIte, h20, hm, g0]
theorem t_acol (hT : TwOk Ω.sz x A) {cols : List Nat} (hc : cols.length ≤ 6) : ∀ (m i : Nat) (σ : Tw), i + m = cols.length → WaR σ cols → (∀ j v, j < i → cols[j]? = some v → σ.2.2.1 56 j = nI v) → ∃ σ', gO PG Ω d 57 122 [.ref x, .int (nI i)] [] (tW h x A σ) = gO PG Ω d 57 148 [.ref x, .int (nI cols.length)] [] (tW h x A σ') ∧ (∀ j v, cols[j]? = some v → v < 6 ∧ σ'.2.2.1 56 j = nI v) ∧ Fx [] [56] [] σ σ' := by
  intro m
  induction m with
  | zero =>
    intro i σ hi hw hd
    have : i = cols.length := by omega
    subst this
    have h41 := hw.1
    refine ⟨σ, ?_, fun j v hj => ⟨(hw.2 j v hj).1, hd j v (List.getElem?_eq_some_iff.mp hj).1 hj⟩, Fx.rfl'⟩
    rw [e_X2_ask_122]
    simp (disch := first | omega | decide) only [e_X2_ask_123, e_X2_ask_124, e_X2_ask_127, e_X2_ask_130, e_X2_ask_131, e_X2_ask_134, e_X2_ask_135, e_X2_ask_136, e_X2_ask_139, e_X2_ask_140, e_X2_ask_141, e_X2_ask_142, e_X2_ask_145, tw_cl, tg20, tg30, tg31, tg32, tg40, tg41, tg51, tg55, tg56, tp13 hT, tp14 hT, tp18 hT, tp20 hT, tp21 hT, tp24 hT, tp25 hT, tp26 hT, tp27 hT, tp32 hT, tp35 hT, tp39 hT, tp41 hT, tp43 hT, tp44 hT, tp45 hT, tp46 hT, tp50 hT, tp51 hT, tp55 hT, tp57 hT, tr30 hT, tr31 hT, tr40 hT, tr56 hT, ts30 hT, ts31 hT, ts40 hT, ts56 hT, cR_ref, cR_null, cR_rf, c1_int, c1_ref, c1_null, c1_rf, kz_int, kz_ref, kz_null, kz_rf, kz_U, kz_long, nB_null, nB_ref, rf_none, rf_some, bV_ret, bV_thr, bA_ret, bA_thr, bX_ret, bX_thr, len4_0, len4_1, len4_2, len4_3, len4_4, true_and, and_true, and_self, if_true, if_false, Option.bind_some, nR_b1, nR_b0, nR_bI, nI_1z, nI_0z, bI_z, if_nn, ↓nI_lt_if, h41, Nat.lt_irrefl]
  | succ m ih =>
    intro i σ hi hw hd
    have hil : i < cols.length := by omega
    have hg : cols[i]? = some cols[i] := List.getElem?_eq_getElem hil
    generalize cols[i] = v at hg
    have h41 := hw.1
    have h40 := (hw.2 i v hg).2
    have hf : Fx [] [56] [] σ (sA σ 56 i (nI v)) := Fx.rfl'.sA (by decide)
    obtain ⟨σ1, e1, e2, e3⟩ := ih (i + 1) (sA σ 56 i (nI v)) (by omega) (hw.fx hf (by decide) (by decide)) (fun j w hj hjw => by
      rw [sA_221, if_pos rfl]
      unfold va_up
      by_cases e : j = i
      · subst e
        rw [hg] at hjw
        cases hjw
        rw [if_pos rfl]
      · rw [if_neg e]; exact hd j w (by omega) hjw)
    refine ⟨σ1, ?_, e2, hf.trans e3⟩
    rw [← e1, e_X2_ask_122]
    simp (disch := first | omega | decide) only [e_X2_ask_123, e_X2_ask_124, e_X2_ask_127, e_X2_ask_130, e_X2_ask_131, e_X2_ask_134, e_X2_ask_135, e_X2_ask_136, e_X2_ask_139, e_X2_ask_140, e_X2_ask_141, e_X2_ask_142, e_X2_ask_145, tw_cl, tg20, tg30, tg31, tg32, tg40, tg41, tg51, tg55, tg56, tp13 hT, tp14 hT, tp18 hT, tp20 hT, tp21 hT, tp24 hT, tp25 hT, tp26 hT, tp27 hT, tp32 hT, tp35 hT, tp39 hT, tp41 hT, tp43 hT, tp44 hT, tp45 hT, tp46 hT, tp50 hT, tp51 hT, tp55 hT, tp57 hT, tr30 hT, tr31 hT, tr40 hT, tr56 hT, ts30 hT, ts31 hT, ts40 hT, ts56 hT, cR_ref, cR_null, cR_rf, c1_int, c1_ref, c1_null, c1_rf, kz_int, kz_ref, kz_null, kz_rf, kz_U, kz_long, nB_null, nB_ref, rf_none, rf_some, bV_ret, bV_thr, bA_ret, bA_thr, bX_ret, bX_thr, len4_0, len4_1, len4_2, len4_3, len4_4, true_and, and_true, and_self, if_true, if_false, Option.bind_some, nR_b1, nR_b0, nR_bI, nI_1z, nI_0z, bI_z, if_nn, nI_add, pk_mul, ↓nI_lt_if, h41, hil, h40]
set_option maxHeartbeats 1000000 in
theorem t_ask_ok (hT : TwOk Ω.sz x A) (hx : TxL σ cs) {y : Qry} (hq : pQry cs = .ok y) (hgK : GK 4 y.2.2.1) {L : List Tri} (h1 : σ.1 1 = nI L.length) (hTr : TrL (σ.2.2.2 0) L) (hL : L.length ≤ 48) (hLK : LK L) : ∃ σ' r c rows, gM PG Ω (d + 13) 57 [.ref x] (tW h x A σ) = some (.returned (some (.int (nI r))), tW h x A σ') ∧ σ'.1 13 = nI 0 ∧ σ'.1 14 = -1 ∧ σ'.1 58 = nI c ∧ RwL σ' y.2.1 rows ∧ FxB σ σ' ∧ ((evG L 4 y.2.2.1 = none ∧ c = 2 ∧ rows = []) ∨ (∃ l, evG L 4 y.2.2.1 = some l ∧ c = 0 ∧ r = rows.length ∧ rows = rowsL y.1 y.2.1 y.2.2.2.1 (y.2.2.2.2.getD 10000) l)) := by
  obtain ⟨σ1, e1, e2, e3, _⟩ := t_ask1 (d := d) (h := h) hT hx
  obtain ⟨q20, q43, qW, qWl, qC, qO, q46, qlim, qB⟩ := e3 y hq
  have hm : (-1 : Int32) < 0 := by decide
  have g1 := t_good1 (Ω := Ω) (d := d + 11) (h := h) (x := x) (A := A) (σ := sI (sI σ1 13 (nI 0)) 14 (-1)) (c := nI 1) hT
  have fa : Fx [13, 14, 58] [] [] σ1 (sI (sI (sI σ1 13 (nI 0)) 14 (-1)) 58 (nI 0)) := ((Fx.rfl'.sI (by decide)).sI (by decide)).sI (by decide)
  obtain ⟨σ2, f1, f2, f3⟩ := t_acol (d := d + 12) (h := h) hT qWl y.2.1.length 0 (sI (sI (sI σ1 13 (nI 0)) 14 (-1)) 58 (nI 0)) (by omega) (qW.fx fa (by decide) (by decide)) (fun j v hj => by omega)
  have fb : Fx [13, 14, 58] [56] [] σ1 σ2 := (fa.mono (by decide) (by decide) (by decide)).trans (f3.mono (by decide) (by decide) (by decide))
  have i41 : σ2.1 41 = nI y.2.1.length := by rw [fb.1 41 (by decide)]; exact qW.1
  -- before the operations
  have fc : Fx [13, 14, 50, 51, 55, 57, 58] [56] [] σ1 (sI (sI (sI (sI σ2 57 (nI y.2.1.length)) 55 (nI 0)) 50 (nI 0)) 51 (nI 0)) := ((((fb.mono (by decide) (by decide) (by decide)).sI (by decide)).sI (by decide)).sI (by decide)).sI (by decide)
  have eA : gM PG Ω (d + 13) 57 [.ref x] (tW h x A σ) = gO PG Ω (d + 12) 57 173 [.ref x, .int (nI 0)] [] (tW h x A (sI (sI (sI (sI σ2 57 (nI y.2.1.length)) 55 (nI 0)) 50 (nI 0)) 51 (nI 0))) := by
    rw [e1]
    simp (disch := first | omega | decide) only [e_X2_ask_85, e_X2_ask_86, e_X2_ask_87, e_X2_ask_90, e_X2_ask_91, e_X2_ask_92, e_X2_ask_95, e_X2_ask_98, e_X2_ask_99, e_X2_ask_100, e_X2_ask_103, e_X2_ask_106, e_X2_ask_107, e_X2_ask_110, e_X2_ask_111, e_X2_ask_112, e_X2_ask_115, e_X2_ask_118, e_X2_ask_119, e_X2_ask_120, e_X2_ask_121, tw_cl, tg20, tg30, tg31, tg32, tg40, tg41, tg51, tg55, tg56, tp13 hT, tp14 hT, tp18 hT, tp20 hT, tp21 hT, tp24 hT, tp25 hT, tp26 hT, tp27 hT, tp32 hT, tp35 hT, tp39 hT, tp41 hT, tp43 hT, tp44 hT, tp45 hT, tp46 hT, tp50 hT, tp51 hT, tp55 hT, tp57 hT, tr30 hT, tr31 hT, tr40 hT, tr56 hT, ts30 hT, ts31 hT, ts40 hT, ts56 hT, cR_ref, cR_null, cR_rf, c1_int, c1_ref, c1_null, c1_rf, kz_int, kz_ref, kz_null, kz_rf, kz_U, kz_long, nB_null, nB_ref, rf_none, rf_some, bV_ret, bV_thr, bA_ret, bA_thr, bX_ret, bX_thr, len4_0, len4_1, len4_2, len4_3, len4_4, true_and, and_true, and_self, if_true, if_false, Option.bind_some, nR_b1, nR_b0, nR_bI, nI_1z, nI_0z, bI_z, if_nn, reduceCtorEq, one_ne0, sI_1, sI_2, sT_1, sT_21, sT_22, sA_1, sA_21, sA_221, sA_222, sL_1, sL_21, sL_221, sL_222, Nat.reduceEqDiff, ↓reduceIte, q20, hm, g1]
    rw [f1]
    simp (disch := first | omega | decide) only [e_X2_ask_148, e_X2_ask_149, e_X2_ask_150, e_X2_ask_153, e_X2_ask_156, e_X2_ask_157, e_X2_ask_158, e_X2_ask_161, e_X2_ask_162, e_X2_ask_163, e_X2_ask_166, e_X2_ask_167, e_X2_ask_168, e_X2_ask_171, e_X2_ask_172, tw_cl, tg20, tg30, tg31, tg32, tg40, tg41, tg51, tg55, tg56, tp13 hT, tp14 hT, tp18 hT, tp20 hT, tp21 hT, tp24 hT, tp25 hT, tp26 hT, tp27 hT, tp32 hT, tp35 hT, tp39 hT, tp41 hT, tp43 hT, tp44 hT, tp45 hT, tp46 hT, tp50 hT, tp51 hT, tp55 hT, tp57 hT, tr30 hT, tr31 hT, tr40 hT, tr56 hT, ts30 hT, ts31 hT, ts40 hT, ts56 hT, cR_ref, cR_null, cR_rf, c1_int, c1_ref, c1_null, c1_rf, kz_int, kz_ref, kz_null, kz_rf, kz_U, kz_long, nB_null, nB_ref, rf_none, rf_some, bV_ret, bV_thr, bA_ret, bA_thr, bX_ret, bX_thr, len4_0, len4_1, len4_2, len4_3, len4_4, true_and, and_true, and_self, if_true, if_false, Option.bind_some, nR_b1, nR_b0, nR_bI, nI_1z, nI_0z, bI_z, if_nn, i41, okv_b0]
  generalize hσ3 : sI (sI (sI (sI σ2 57 (nI y.2.1.length)) 55 (nI 0)) 50 (nI 0)) 51 (nI 0) = σ3 at eA fc
  have j50 : σ3.1 50 = nI 0 := by rw [← hσ3]; rfl
  have j51 : σ3.1 51 = nI 0 := by rw [← hσ3]; rfl
  have j55 : σ3.1 55 = nI 0 := by rw [← hσ3]; rfl
  have j57 : σ3.1 57 = nI y.2.1.length := by rw [← hσ3]; rfl
  have j13 : σ3.1 13 = nI 0 := by rw [← hσ3]; exact f3.1 13 (by decide)
  have j14 : σ3.1 14 = -1 := by rw [← hσ3]; exact f3.1 14 (by decide)
  have j56 : ∀ j v, y.2.1[j]? = some v → v < 6 ∧ σ3.2.2.1 56 j = nI v := by rw [← hσ3]; exact f2
  have fAll : FxB σ σ3 := (e2.mono (by decide) (by decide) (by decide)).trans (fc.mono (by decide) (by decide) (by decide))
  have hCR : CR σ3 (wc (cWr (cB 4 y.2.2.1) [] c0) []) := qC.fx fc (by decide) (by decide) (by decide)
  have hAK : AK σ3 (cWr (cB 4 y.2.2.1) [] c0) L := ⟨hCR.1, hCR.2.1, hCR.2.2.1, by rw [fAll.1 1 (by decide)]; exact h1, by rw [fAll.2.2 0 (by decide)]; exact hTr⟩
  have hF : HF (cWr (cB 4 y.2.2.1) [] c0) L := ⟨qB.1, by have := qB.2.2; omega, q_F hgK qB, hL, hLK⟩
  have hGo := HW.all (Ω := Ω) (d := d + 8) (h := h) (x := x) (A := A) hT hF (by have := qB.2.1; omega) y.2.2.1 c0 [] (by simp) (fun e he => nomatch he) Fi4.rfl'
  obtain ⟨σ4, i4, k1, k2', k3, k4⟩ := hGo σ3 hAK ⟨j50, fun i l q => by simp at q⟩ j51
  have kA : gM PG Ω (d + 13) 57 [.ref x] (tW h x A σ) = gO PG Ω (d + 12) 57 173 [.ref x, .int (nI i4)] [] (tW h x A σ4) := eA.trans k1
  have l32 : σ4.1 32 = nI (cWr (cB 4 y.2.2.1) [] c0).1.length := by rw [k2'.1 32 (by decide)]; exact hCR.1.1
  have lB := qB.1
  have f4 : FxB σ σ4 := fAll.trans (k2'.mono (by decide) (by decide) (by decide))
  rcases k4 with ⟨S', r1, r2, r3, r4⟩ | ⟨r1, r2⟩
  · obtain ⟨l, hl1, hl2⟩ := Option.bind_eq_some_iff.mp r1
    have hS : S' = [l] := by cases hl2; rfl
    subst hS
    have hKl : KL l := evG_K hLK 4 _ l hl1
    have g2 := t_good1 (Ω := Ω) (d := d + 11) (h := h) (x := x) (A := A) (σ := σ4) (c := nI 2) hT
    have hP : PiR σ4 0 l := r3.2 0 l rfl
    have m43 : σ4.1 43 = bI y.1 := by rw [k2'.1 43 (by decide), fc.1 43 (by decide)]; exact q43
    have m46 : σ4.1 46 = nI (y.2.2.2.2.getD 10000) := by rw [k2'.1 46 (by decide), fc.1 46 (by decide)]; exact q46
    have hRW : WaR σ4 y.2.1 := (qW.fx fc (by decide) (by decide)).fx k2' (by decide) (by decide)
    have hRO : orF σ4 y.2.2.2.1 := (qO.fx fc (by decide) (by decide)).fx k2' (by decide) (by decide)
    have hRX : RX (sI σ4 58 (nI 0)) l y.2.1 y.2.2.2.1 := ⟨hP, hRW, qWl, hRO⟩
    obtain ⟨σ5, n1, n2, n3, n4⟩ := t_rows (d := d + 7) (h := h) (di := y.1) (lim := y.2.2.2.2.getD 10000) hT hKl qlim hRX (by rw [sI_1, if_neg (by decide), k2'.1 55 (by decide)]; exact j55) m43 m46
    have n55 := n2.1
    have hlim0 : ¬ i4 < (cWr (cB 4 y.2.2.1) [] c0).1.length := by rw [r2]; exact Nat.lt_irrefl _
    refine ⟨σ5, (rowsL y.1 y.2.1 y.2.2.2.1 (y.2.2.2.2.getD 10000) l).length, 0, rowsL y.1 y.2.1 y.2.2.2.1 (y.2.2.2.2.getD 10000) l, ?_, ?_, ?_, ?_, ⟨n55, ?_, n3, qWl, ?_, n2.2⟩, ?_, .inr ⟨l, hl1, rfl, rfl, rfl⟩⟩
    · rw [kA, e_X2_ask_173]
      simp (disch := first | omega | decide) only [e_X2_ask_174, e_X2_ask_175, e_X2_ask_178, e_X2_ask_181, e_X2_ask_210, e_X2_ask_211, e_X2_ask_212, e_X2_ask_215, e_X2_ask_218, e_X2_ask_219, e_X2_ask_222, e_X2_ask_223, e_X2_ask_224, e_X2_ask_227, e_X2_ask_230, e_X2_ask_231, e_X2_ask_232, e_X2_ask_233, e_X2_ask_236, e_X2_ask_237, e_X2_ask_240, tw_cl, tg20, tg30, tg31, tg32, tg40, tg41, tg51, tg55, tg56, tp13 hT, tp14 hT, tp18 hT, tp20 hT, tp21 hT, tp24 hT, tp25 hT, tp26 hT, tp27 hT, tp32 hT, tp35 hT, tp39 hT, tp41 hT, tp43 hT, tp44 hT, tp45 hT, tp46 hT, tp50 hT, tp51 hT, tp55 hT, tp57 hT, tr30 hT, tr31 hT, tr40 hT, tr56 hT, ts30 hT, ts31 hT, ts40 hT, ts56 hT, cR_ref, cR_null, cR_rf, c1_int, c1_ref, c1_null, c1_rf, kz_int, kz_ref, kz_null, kz_rf, kz_U, kz_long, nB_null, nB_ref, rf_none, rf_some, bV_ret, bV_thr, bA_ret, bA_thr, bX_ret, bX_thr, len4_0, len4_1, len4_2, len4_3, len4_4, true_and, and_true, and_self, if_true, if_false, Option.bind_some, nR_b1, nR_b0, nR_bI, nI_1z, nI_0z, bI_z, if_nn, reduceCtorEq, one_ne0, ↓nI_lt_if, l32, hlim0, r4, g2, n1, n55]
    · rw [n4.1 13 (by decide)]; exact (k2'.1 13 (by decide)).trans j13
    · rw [n4.1 14 (by decide)]; exact (k2'.1 14 (by decide)).trans j14
    · rw [n4.1 58 (by decide)]; rfl
    · rw [n4.1 57 (by decide)]; exact (k2'.1 57 (by decide)).trans j57
    · intro i v hi
      rw [n4.2.1 56 (by decide)]
      show v < 6 ∧ σ4.2.2.1 56 i = nI v
      rw [k2'.2.1 56 (by decide)]
      exact j56 i v hi
    · have f5 : FxB σ (sI σ4 58 (nI 0)) := f4.sI (by decide)
      exact f5.trans (n4.mono (by decide) (by decide) (by decide))
  · have hnone : evG L 4 y.2.2.1 = none := by
      cases he : evG L 4 y.2.2.1 with
      | none => rfl
      | some l => rw [he] at r1; cases r1
    have g2 := t_good0 (Ω := Ω) (d := d + 11) (h := h) (x := x) (A := A) (σ := σ4) (c := nI 2) hT
    refine ⟨sI σ4 58 (nI 2), 0, 2, [], ?_, (k2'.1 13 (by decide)).trans j13, (k2'.1 14 (by decide)).trans j14, rfl, ⟨(k2'.1 55 (by decide)).trans j55, (k2'.1 57 (by decide)).trans j57, by simp, qWl, ?_, fun r s q => by simp at q⟩, f4.sI (by decide), .inl ⟨hnone, rfl, rfl⟩⟩
    · rw [kA, e_X2_ask_173]
      by_cases hlt : i4 < (cWr (cB 4 y.2.2.1) [] c0).1.length
      · simp (disch := first | omega | decide) only [e_X2_ask_174, e_X2_ask_175, e_X2_ask_178, e_X2_ask_181, e_X2_ask_182, e_X2_ask_185, e_X2_ask_188, e_X2_ask_210, e_X2_ask_211, e_X2_ask_212, e_X2_ask_215, e_X2_ask_218, e_X2_ask_219, e_X2_ask_222, e_X2_ask_223, e_X2_ask_224, e_X2_ask_227, e_X2_ask_230, e_X2_ask_231, e_X2_ask_232, e_X2_ask_233, e_X2_ask_236, e_X2_ask_237, e_X2_ask_240, tw_cl, tg20, tg30, tg31, tg32, tg40, tg41, tg51, tg55, tg56, tp13 hT, tp14 hT, tp18 hT, tp20 hT, tp21 hT, tp24 hT, tp25 hT, tp26 hT, tp27 hT, tp32 hT, tp35 hT, tp39 hT, tp41 hT, tp43 hT, tp44 hT, tp45 hT, tp46 hT, tp50 hT, tp51 hT, tp55 hT, tp57 hT, tr30 hT, tr31 hT, tr40 hT, tr56 hT, ts30 hT, ts31 hT, ts40 hT, ts56 hT, cR_ref, cR_null, cR_rf, c1_int, c1_ref, c1_null, c1_rf, kz_int, kz_ref, kz_null, kz_rf, kz_U, kz_long, nB_null, nB_ref, rf_none, rf_some, bV_ret, bV_thr, bA_ret, bA_thr, bX_ret, bX_thr, len4_0, len4_1, len4_2, len4_3, len4_4, true_and, and_true, and_self, if_true, if_false, Option.bind_some, nR_b1, nR_b0, nR_bI, nI_1z, nI_0z, bI_z, if_nn, reduceCtorEq, one_ne0, ↓nI_lt_if, l32, hlt, r2, g2]
      · simp (disch := first | omega | decide) only [e_X2_ask_174, e_X2_ask_175, e_X2_ask_178, e_X2_ask_181, e_X2_ask_182, e_X2_ask_185, e_X2_ask_188, e_X2_ask_210, e_X2_ask_211, e_X2_ask_212, e_X2_ask_215, e_X2_ask_218, e_X2_ask_219, e_X2_ask_222, e_X2_ask_223, e_X2_ask_224, e_X2_ask_227, e_X2_ask_230, e_X2_ask_231, e_X2_ask_232, e_X2_ask_233, e_X2_ask_236, e_X2_ask_237, e_X2_ask_240, tw_cl, tg20, tg30, tg31, tg32, tg40, tg41, tg51, tg55, tg56, tp13 hT, tp14 hT, tp18 hT, tp20 hT, tp21 hT, tp24 hT, tp25 hT, tp26 hT, tp27 hT, tp32 hT, tp35 hT, tp39 hT, tp41 hT, tp43 hT, tp44 hT, tp45 hT, tp46 hT, tp50 hT, tp51 hT, tp55 hT, tp57 hT, tr30 hT, tr31 hT, tr40 hT, tr56 hT, ts30 hT, ts31 hT, ts40 hT, ts56 hT, cR_ref, cR_null, cR_rf, c1_int, c1_ref, c1_null, c1_rf, kz_int, kz_ref, kz_null, kz_rf, kz_U, kz_long, nB_null, nB_ref, rf_none, rf_some, bV_ret, bV_thr, bA_ret, bA_thr, bX_ret, bX_thr, len4_0, len4_1, len4_2, len4_3, len4_4, true_and, and_true, and_self, if_true, if_false, Option.bind_some, nR_b1, nR_b0, nR_bI, nI_1z, nI_0z, bI_z, if_nn, reduceCtorEq, one_ne0, ↓nI_lt_if, l32, hlt, r2, g2]
    · intro i v hi
      show v < 6 ∧ σ4.2.2.1 56 i = nI v
      rw [k2'.2.1 56 (by decide)]
      exact j56 i v hi
end TASK
