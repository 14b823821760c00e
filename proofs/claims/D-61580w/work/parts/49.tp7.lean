/-! TWIN, reading: what a query becomes -/
abbrev C4 : Type := List (Nat × Nat) × List Pat × List (Nat × Tst) × Nat
/-- a group with its begin and its end -/
def cWr (body : Nat → C4 → C4) (tail : List (Nat × Nat)) (c : C4) : C4 := ((body c.2.2.2 (c.1 ++ [(1, 0)], c.2.1, c.2.2.1, c.2.2.2 + 1)).1 ++ [(3, c.2.2.2)] ++ tail, (body c.2.2.2 (c.1 ++ [(1, 0)], c.2.1, c.2.2.1, c.2.2.2 + 1)).2)
def cUni {G : Type} (bod : G → Nat → C4 → C4) : List G → C4 → C4
  | [], c => c
  | g :: gs, c => cUni bod gs (cWr (bod g) [(7, 0)] c)
def cEl {G : Type} (bod : G → Nat → C4 → C4) (gid : Nat) (e : El G) (c : C4) : C4 := match e with
  | .inl p => (c.1 ++ [(2, 3 * c.2.1.length)], c.2.1 ++ [p], c.2.2)
  | .inr (.inl t) => (c.1, c.2.1, c.2.2.1 ++ [(gid, t)], c.2.2.2)
  | .inr (.inr (.inl g)) => cWr (bod g) [(4, 0)] c
  | .inr (.inr (.inr (.inl g))) => cWr (bod g) [(5, 0)] c
  | .inr (.inr (.inr (.inr gs))) => ((cUni bod gs (c.1 ++ [(6, 0)], c.2)).1 ++ [(8, 0)], (cUni bod gs (c.1 ++ [(6, 0)], c.2)).2)
def cEls {G : Type} (bod : G → Nat → C4 → C4) (gid : Nat) : List (El G) → C4 → C4
  | [], c => c
  | e :: es, c => cEls bod gid es (cEl bod gid e c)
def cB : (n : Nat) → GT n → Nat → C4 → C4
  | 0 => fun e _ _ => nomatch e
  | n + 1 => fun els gid c => cEls (cB n) gid els c
/-- positions grow -/
theorem pVar_mo {cs : List Nat} {s s' : PS} {v : Nat} (hs : s.1 ≤ cs.length) (h : pVar cs s = .ok (v, s')) : s.1 ≤ s'.1 ∧ s'.1 ≤ cs.length ∧ s'.2.2 = s.2.2 := by
  have e := (pVar_ok h).2.2.2
  have w := lex_w hs
  rw [e]
  refine ⟨?_, ?_, rfl⟩
  · show s.1 ≤ (lexT cs s.1).2.2.2; omega
  · exact w.2.2.2.1
theorem nx_mo {cs : List Nat} {s : PS} (hs : s.1 ≤ cs.length) : s.1 ≤ (nx cs s).1 ∧ (nx cs s).1 ≤ cs.length ∧ (nx cs s).2.2 = s.2.2 := ⟨nx_ge hs, (lex_w hs).2.2.2.1, rfl⟩
theorem pSide_mo {cs : List Nat} {s s' : PS} {a : Sd} (hs : s.1 ≤ cs.length) (h : pSide cs s = .ok (a, s')) : s.1 ≤ s'.1 ∧ s'.1 ≤ cs.length ∧ s'.2.2 = s.2.2 := by
  unfold pSide at h
  split at h
  · cases hv : pVar cs s with
    | error q => rw [hv] at h; cases h
    | ok r => obtain ⟨v, s1⟩ := r; rw [hv] at h; cases h; exact pVar_mo hs hv
  · split at h
    · cases h; exact nx_mo hs
    · split at h
      · cases h; exact nx_mo hs
      · cases h
theorem mo_tr {cs : List Nat} {s s' s'' : PS} (h : s.1 ≤ s'.1 ∧ s'.1 ≤ cs.length ∧ s'.2.2 = s.2.2) (h' : s'.1 ≤ s''.1 ∧ s''.1 ≤ cs.length ∧ s''.2.2 = s'.2.2) : s.1 ≤ s''.1 ∧ s''.1 ≤ cs.length ∧ s''.2.2 = s.2.2 := ⟨Nat.le_trans h.1 h'.1, h'.2.1, h'.2.2.trans h.2.2⟩
theorem pCore_mo {cs : List Nat} {s s' : PS} {a : Tst} (hs : s.1 ≤ cs.length) (h : pCore cs s = .ok (a, s')) : s.1 ≤ s'.1 ∧ s'.1 ≤ cs.length ∧ s'.2.2 = s.2.2 := by
  unfold pCore at h
  split at h
  · cases hv : pVar cs (nx cs s) with
    | error q => rw [hv] at h; cases h
    | ok r => obtain ⟨v, s1⟩ := r; rw [hv] at h; cases h; exact mo_tr (nx_mo hs) (pVar_mo (nx_mo hs).2.1 hv)
  · cases hv : pSide cs s with
    | error q => rw [hv] at h; cases h
    | ok r =>
      obtain ⟨v, s1⟩ := r
      rw [hv] at h
      have m1 := pSide_mo hs hv
      dsimp only at h
      split at h
      · cases hw : pSide cs (nx cs s1) with
        | error q => rw [hw] at h; cases h
        | ok r2 =>
          obtain ⟨b, s2⟩ := r2
          rw [hw] at h
          cases h
          exact mo_tr (mo_tr m1 (nx_mo m1.2.1)) (pSide_mo (nx_mo m1.2.1).2.1 hw)
      · cases h
theorem pTest_mo {cs : List Nat} : ∀ {k : Nat} {s s' : PS} {a : Tst}, s.1 ≤ cs.length → pTest cs k s = .ok (a, s') → s.1 ≤ s'.1 ∧ s'.1 ≤ cs.length ∧ s'.2.2 = s.2.2 := by
  intro k
  induction k with
  | zero =>
    intro s s' a hs h
    unfold pTest at h
    split at h
    · cases h
    · exact pCore_mo hs h
  | succ k ih =>
    intro s s' a hs h
    unfold pTest at h
    split at h
    · cases hv : pTest cs k (nx cs s) with
      | error q => rw [hv] at h; cases h
      | ok r => obtain ⟨v, s1⟩ := r; rw [hv] at h; cases h; exact mo_tr (nx_mo hs) (ih (nx_mo hs).2.1 hv)
    · exact pCore_mo hs h
theorem pPat_mo {cs : List Nat} {s s' : PS} {a : Pat} (hs : s.1 ≤ cs.length) (h : pPat cs s = .ok (a, s')) : s.1 ≤ s'.1 ∧ s'.1 ≤ cs.length ∧ s'.2.2 = s.2.2 := by
  unfold pPat at h
  cases hA : pSide cs s with
  | error q => rw [hA] at h; cases h
  | ok r =>
    obtain ⟨a1, s1⟩ := r
    rw [hA] at h
    dsimp only at h
    have m1 := pSide_mo hs hA
    cases hB : pSide cs s1 with
    | error q => rw [hB] at h; cases h
    | ok r =>
      obtain ⟨a2, s2⟩ := r
      rw [hB] at h
      dsimp only at h
      have m2 := pSide_mo m1.2.1 hB
      cases hC : pSide cs s2 with
      | error q => rw [hC] at h; cases h
      | ok r =>
        obtain ⟨a3, s3⟩ := r
        rw [hC] at h
        cases h
        exact mo_tr (mo_tr m1 m2) (pSide_mo m2.2.1 hC)
section TP7
variable {Ω : Om} {d : Nat} {h : AH} {x : Nat} {A : Nat → Nat} {σ σ' : Tw} {cs : List Nat} {s : PS}
/-- behind an element -/
noncomputable def cont (Ω : Om) (d : Nat) (h : AH) (x : Nat) (A : Nat → Nat) (σ : Tw) : Option Rs := if σ.1 20 < 0 then (if σ.1 22 = 0 then gO PG Ω (d + 10) 67 5 [.ref x] [] (tW h x A σ) else bV (gM PG Ω (d + 10) 75 [.ref x] (tW h x A σ)) (fun h' => gO PG Ω (d + 10) 67 5 [.ref x] [] h')) else gO PG Ω (d + 10) 67 5 [.ref x] [] (tW h x A σ)
theorem t_si1 (hT : TwOk Ω.sz x A) (he : gM PG Ω (d + 10) 71 [.ref x] (tW h x A σ) = some (.returned none, tW h x A σ')) : gO PG Ω (d + 10) 67 40 [.ref x] [] (tW h x A σ) = cont Ω d h x A σ' := by
  simp (disch := first | omega | decide) only [e_X2_readGroups_40, e_X2_readGroups_41, e_X2_readGroups_44, e_X2_readGroups_45, e_X2_readGroups_48, e_X2_readGroups_51, e_X2_readGroups_52, e_X2_readGroups_55, e_X2_readGroups_58, e_X2_readGroups_59, e_X2_readGroups_62, tw_cl, tg20, tg21, tg22, tg27, tp21 hT, cR_ref, cR_null, cR_rf, c1_int, c1_ref, c1_null, c1_rf, kz_int, kz_ref, kz_null, kz_rf, kz_U, kz_long, nB_null, nB_ref, rf_none, rf_some, bV_ret, bV_thr, bA_ret, bA_thr, bX_ret, bX_thr, len4_0, len4_1, len4_2, len4_3, len4_4, true_and, and_true, and_self, if_true, if_false, Option.bind_some, nR_b1, nR_b0, nR_bI, nI_1z, nI_0z, bI_z, if_nn, he]
  rfl
theorem t_fin (hT : TwOk Ω.sz x A) {q : Nat} (hw : σ.1 20 = nI q) (hq : q ≤ 160) : gO PG Ω (d + 10) 67 5 [.ref x] [] (tW h x A σ) = some (.returned none, tW h x A σ) := by
  have hm1 : ¬ nI q < 0 := nI_pos (by omega)
  rw [e_X2_readGroups_5]
  simp (disch := first | omega | decide) only [e_X2_readGroups_6, e_X2_readGroups_9, e_X2_readGroups_12, e_X2_readGroups_13, e_X2_readGroups_16, e_X2_readGroups_125, tw_cl, tg20, tg21, tg22, tg27, tp21 hT, cR_ref, cR_null, cR_rf, c1_int, c1_ref, c1_null, c1_rf, kz_int, kz_ref, kz_null, kz_rf, kz_U, kz_long, nB_null, nB_ref, rf_none, rf_some, bV_ret, bV_thr, bA_ret, bA_thr, bX_ret, bX_thr, len4_0, len4_1, len4_2, len4_3, len4_4, true_and, and_true, and_self, if_true, if_false, Option.bind_some, nR_b1, nR_b0, nR_bI, nI_1z, nI_0z, bI_z, if_nn, hw, hm1]
theorem cont_e (hT : TwOk Ω.sz x A) {q : Nat} (hw : σ.1 20 = nI q) (hq : q ≤ 160) : cont Ω d h x A σ = some (.returned none, tW h x A σ) := by
  have hm1 : ¬ nI q < 0 := nI_pos (by omega)
  unfold cont
  rw [hw, if_neg hm1, t_fin hT hw hq]
theorem cont_n (hw : σ.1 20 = -1) (h22 : σ.1 22 = nI 0) : cont Ω d h x A σ = gO PG Ω (d + 10) 67 5 [.ref x] [] (tW h x A σ) := by
  have hm1 : (-1 : Int32) < 0 := by decide
  unfold cont
  rw [hw, if_pos hm1, h22, if_pos nI_0]
theorem cont_h (hw : σ.1 20 = -1) (h22 : σ.1 22 = nI 1) (he : gM PG Ω (d + 10) 75 [.ref x] (tW h x A σ) = some (.returned none, tW h x A σ')) : cont Ω d h x A σ = gO PG Ω (d + 10) 67 5 [.ref x] [] (tW h x A σ') := by
  have hm1 : (-1 : Int32) < 0 := by decide
  unfold cont
  rw [hw, if_pos hm1, h22, if_neg (by decide), he]
  rfl
theorem t_si2 (hT : TwOk Ω.sz x A) (he : gM PG Ω (d + 10) 71 [.ref x] (tW h x A σ) = some (.returned none, tW h x A σ')) : gO PG Ω (d + 10) 67 100 [.ref x] [] (tW h x A σ) = cont Ω d h x A σ' := by
  simp (disch := first | omega | decide) only [e_X2_readGroups_100, e_X2_readGroups_101, e_X2_readGroups_104, e_X2_readGroups_105, e_X2_readGroups_108, e_X2_readGroups_111, e_X2_readGroups_112, e_X2_readGroups_115, e_X2_readGroups_118, e_X2_readGroups_119, e_X2_readGroups_122, tw_cl, tg20, tg21, tg22, tg27, tp21 hT, cR_ref, cR_null, cR_rf, c1_int, c1_ref, c1_null, c1_rf, kz_int, kz_ref, kz_null, kz_rf, kz_U, kz_long, nB_null, nB_ref, rf_none, rf_some, bV_ret, bV_thr, bA_ret, bA_thr, bX_ret, bX_thr, len4_0, len4_1, len4_2, len4_3, len4_4, true_and, and_true, and_self, if_true, if_false, Option.bind_some, nR_b1, nR_b0, nR_bI, nI_1z, nI_0z, bI_z, if_nn, he]
  rfl
abbrev Sk : Type := List (Nat × Nat × Nat)
def wc (c : C4) (stk : Sk) : CSt := (c.1, c.2.1, c.2.2.1, c.2.2.2, stk)
noncomputable def LPt (Ω : Om) (d : Nat) (h : AH) (x : Nat) (A : Nat → Nat) (σ : Tw) : Option Rs := gO PG Ω (d + 10) 67 5 [.ref x] [] (tW h x A σ)
noncomputable def CLt (Ω : Om) (d : Nat) (h : AH) (x : Nat) (A : Nat → Nat) (σ : Tw) : Option Rs := gO PG Ω (d + 10) 67 74 [.ref x] [] (tW h x A σ)
def Rok (Ω : Om) (d : Nat) (h : AH) (x : Nat) (A : Nat → Nat) (cs : List Nat) (r : Option Rs) (σ : Tw) (s' : PS) (c' : CSt) : Prop := ∃ σ', r = LPt Ω d h x A σ' ∧ PL σ' cs s' ∧ CR σ' c' ∧ CI c' s' ∧ σ'.1 21 = nI 0 ∧ FxQ σ σ'
def Rer (h : AH) (x : Nat) (A : Nat → Nat) (r : Option Rs) (σ : Tw) (q : Nat) : Prop := ∃ σ', r = some (.returned none, tW h x A σ') ∧ σ'.1 20 = nI q ∧ q ≤ 160 ∧ FxQ σ σ'
def Rcl (Ω : Om) (d : Nat) (h : AH) (x : Nat) (A : Nat → Nat) (cs : List Nat) (r : Option Rs) (σ : Tw) (s' : PS) (c' : CSt) : Prop := ∃ σ' s'', r = CLt Ω d h x A σ' ∧ PL σ' cs s'' ∧ isSg (tk cs s'') 125 = true ∧ s' = nx cs s'' ∧ CR σ' c' ∧ CI c' s'' ∧ FxQ σ σ'
/-- a group's body reads as it should -/
def RB (Ω : Om) (d : Nat) (h : AH) (x : Nat) (A : Nat → Nat) (cs : List Nat) (n : Nat) : Prop := ∀ (σ : Tw) (s : PS) (c : C4) (st : Sk) (w g b : Nat), PL σ cs s → CR σ (wc c (st ++ [(w, g, b)])) → CI (wc c (st ++ [(w, g, b)])) s → st.length + 1 + n = 4 → σ.1 21 = nI 1 → (∀ els s', pBody cs (pG cs n) s = .ok (els, s') → Rcl Ω d h x A cs (LPt Ω d h x A σ) σ s' (wc (cEls (cB n) g els c) (st ++ [(w, g, b)]))) ∧ (∀ q, pBody cs (pG cs n) s = .error q → Rer h x A (LPt Ω d h x A σ) σ q)
theorem Rer.step {r : Option Rs} {q : Nat} (h1 : Rer h x A r σ' q) (h2 : FxQ σ σ') : Rer h x A r σ q := by
  obtain ⟨τ, a, b, c, e⟩ := h1
  exact ⟨τ, a, b, c, h2.trans e⟩
/-- the end of an optional group or one taken away -/
theorem t_c2 (hT : TwOk Ω.sz x A) (hp : PL σ cs s) {c : C4} {st : Sk} {w g b : Nat} (hc : CR σ (wc c (st ++ [(w, g, b)]))) (hI : CI (wc c (st ++ [(w, g, b)])) s) (hw : w ≤ 2) (hsg : isSg (tk cs s) 125 = true) : Rok Ω d h x A cs (CLt Ω d h x A σ) σ (nx cs s) (wc (c.1 ++ [(3, g)] ++ clO w, c.2) st) := by
  have hf : Fx [21] [] [] σ (sI σ 21 (nI 0)) := Fx.rfl'.sI (by decide)
  have hp1 := hp.fx hf (by decide) (by decide) (by decide) rfl
  have hc1 := hc.fx hf (by decide) (by decide) (by decide)
  obtain ⟨σ1, e1, e2, e3, e4, e5⟩ := t_cl2 (d := d + 4) (h := h) hT hp1 hc1 hI hw
  refine ⟨σ1, ?_, e2, e3, ?_, by rw [e4]; rfl, (hf.mono (by decide) (by decide) (by decide) : FxQ _ _).trans e5⟩
  · unfold CLt LPt
    simp (disch := first | omega | decide) only [e_X2_readGroups_74, e_X2_readGroups_75, e_X2_readGroups_76, e_X2_readGroups_79, e_X2_readGroups_80, e_X2_readGroups_83, tw_cl, tg20, tg21, tg22, tg27, tp21 hT, cR_ref, cR_null, cR_rf, c1_int, c1_ref, c1_null, c1_rf, kz_int, kz_ref, kz_null, kz_rf, kz_U, kz_long, nB_null, nB_ref, rf_none, rf_some, bV_ret, bV_thr, bA_ret, bA_thr, bX_ret, bX_thr, len4_0, len4_1, len4_2, len4_3, len4_4, true_and, and_true, and_self, if_true, if_false, Option.bind_some, nR_b1, nR_b0, nR_bI, nI_1z, nI_0z, bI_z, if_nn, okv_b0, e1]
  · have n1 := nx_gt hp.2.2.1 (by rw [isSg_k hsg]; decide)
    obtain ⟨a1, a2, a3, a4, a5⟩ := hI
    unfold wc at *
    dsimp only at *
    have hl : (clO w).length ≤ 1 := by unfold clO; split; exact Nat.le_refl _; split; exact Nat.le_refl _; exact Nat.zero_le _
    refine ⟨?_, by show c.2.2.2 ≤ _; omega, a3, ?_, fun z hz => a5 z (List.mem_append_left _ hz)⟩
    · show (c.1 ++ [(3, g)] ++ clO w).length + st.length ≤ 2 * (nx cs s).1 + s.2.2
      simp at a1 ⊢; omega
    · show st.length ≤ 4
      simp at a4; omega
/-- a group behind a key -/
theorem t_gr (hT : TwOk Ω.sz x A) {n : Nat} (hB : ∀ m, n = m + 1 → RB Ω d h x A cs m) (hp : PL σ cs s) {c : C4} {stk : Sk} (hc : CR σ (wc c stk)) (hI : CI (wc c stk) s) {w : Nat} (hw : w = 1 ∨ w = 2) (hk : isKy (tk cs s) (w + 5) = true) (hl : stk.length + n = 4) (h22 : σ.1 22 = nI 1) : (∀ g s', pG cs n (nx cs s) = .ok (g, s') → Rok Ω d h x A cs (cont Ω d h x A σ) σ s' (wc (cWr (cB n g) (clO w) c) stk)) ∧ (∀ q, pG cs n (nx cs s) = .error q → Rer h x A (cont Ω d h x A σ) σ q) := by
  have hw20 := hp.2.2.2.1
  have herr : ¬ (isSg (tk cs (nx cs s)) 123 = true ∧ stk.length < 4) → Rer h x A (cont Ω d h x A σ) σ (tk cs (nx cs s)).2.2.1 := by
    intro hno
    obtain ⟨σ1, e1, e2, e3, e4⟩ := t_on_er (d := d + 2) (h := h) hT hp hc hI hw hk hno
    refine ⟨σ1, ?_, e2, e3, e4⟩
    rw [cont_h hw20 h22 e1, t_fin hT e2 e3]
  cases n with
  | zero =>
    refine ⟨fun g => (nomatch g), fun q hq => ?_⟩
    have : q = (tk cs (nx cs s)).2.2.1 := by unfold pG er at hq; injection hq with hq; exact hq.symm
    rw [this]
    exact herr (fun z => by omega)
  | succ m =>
    by_cases hsg : isSg (tk cs (nx cs s)) 123 = true
    · have hd : (wc c stk).2.2.2.2.length < 4 := by show stk.length < 4; omega
      obtain ⟨σ1, b, e1, e2, e3, e4, e5, e6⟩ := t_on_ok (d := d + 2) (h := h) hT hp hc hI hw hk hsg hd
      have hI1 : CI (wc (c.1 ++ [(1, 0)], c.2.1, c.2.2.1, c.2.2.2 + 1) (stk ++ [(w, c.2.2.2, b)])) (nx cs (nx cs s)) := (hI.go hp.2.2.1).opn (nx_mo hp.2.2.1).2.1 (by rw [isSg_k hsg]; decide) (by omega) e3 hd
      have hb := hB m rfl σ1 (nx cs (nx cs s)) (c.1 ++ [(1, 0)], c.2.1, c.2.2.1, c.2.2.2 + 1) stk w c.2.2.2 b e2 e4 hI1 (by omega) e5
      have hpg : pG cs (m + 1) (nx cs s) = pBody cs (pG cs m) (nx cs (nx cs s)) := by
        show pGr cs (pG cs m) (nx cs s) = _
        unfold pGr
        rw [if_pos hsg]
      rw [hpg]
      refine ⟨fun g s' hv => ?_, fun q hv => ?_⟩
      · obtain ⟨σ2, s2, f1, f2, f3, f4, f5, f6, f7⟩ := hb.1 g s' hv
        obtain ⟨σ3, g1, g2, g3, g4, g5, g6⟩ := t_c2 (d := d) (h := h) hT f2 f5 f6 (by omega) f3
        refine ⟨σ3, ?_, by rw [f4]; exact g2, g3, by rw [f4]; exact g4, g5, (e6.trans f7).trans g6⟩
        rw [cont_h hw20 h22 e1]
        exact f1.trans g1
      · have := (hb.2 q hv).step e6
        rw [cont_h hw20 h22 e1]
        exact this
    · have hpg : pG cs (m + 1) (nx cs s) = .error (tk cs (nx cs s)).2.2.1 := by
        show pGr cs (pG cs m) (nx cs s) = _
        unfold pGr
        rw [if_neg hsg]
        rfl
      rw [hpg]
      refine ⟨fun g s' hv => (nomatch hv), fun q hv => ?_⟩
      injection hv with hv
      rw [← hv]
      exact herr (fun z => hsg z.1)
end TP7
