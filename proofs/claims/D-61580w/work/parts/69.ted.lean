/-! TWIN, rows: put in order, taken -/
def insV (f : Sol → Sol → Bool) (s : Sol) : List Sol → List Sol
  | [] => [s]
  | r :: rs => if f s r = true then r :: insV f s rs else s :: r :: rs
def srtV (f : Sol → Sol → Bool) (l : List Sol) (rv : List Sol) : List Sol := l.foldl (fun rv s => insV f s rv) rv
def rwA (di : Bool) (cols : List Nat) (lim : Nat) : List Sol → List Sol → List Sol → List Sol
  | _, [], out => out
  | prev, r :: rs, out => if out.length < lim then rwA di cols lim (prev ++ [r]) rs (if (di && prev.any (fun q => decide (byT cols q r = 0))) = true then out else out ++ [r]) else out
theorem insV_len {f : Sol → Sol → Bool} {s : Sol} {l : List Sol} : (insV f s l).length = l.length + 1 := by
  induction l with
  | nil => rfl
  | cons r l ih =>
    unfold insV
    by_cases h : f s r = true
    · rw [if_pos h, List.length_cons, ih, List.length_cons]
    · rw [if_neg h]; rfl
theorem nI_gt0 {k : Nat} (hk : k < 2 ^ 31) : ((0 : Int32) < nI k) = (0 < k) := by
  apply propext
  rw [Int32.lt_iff_toInt_lt, nI_toInt hk]
  show (0 : Int) < (k : Int) ↔ _
  omega
theorem nI_dec {k : Nat} : nI (k + 1) + (-1) = nI k := by
  have e : nI (k + 1) + (-1) = nI (k + 1) - nI 1 := by
    rw [Int32.sub_eq_add_neg]
    rfl
  rw [e, pk_pred]
/-- indices of solutions -/
def RaR (σ : Tw) (off : Nat) (l R : List Sol) : Prop := ∀ j s, R[j]? = some s → ∃ a, a < 150 ∧ l[a]? = some s ∧ σ.2.2.1 54 (off + j) = nI a
def RoR (σ : Tw) (out : List Sol) : Prop := σ.1 55 = nI out.length ∧ ∀ r s, out[r]? = some s → σ.2.2.1 53 r = nI (msk s) ∧ ∀ v t, v < 6 → s v = some t → σ.2.2.2 52 (6 * r + v) = t
def RX (σ : Tw) (l : List Sol) (cols : List Nat) (o : Option Nat × Bool) : Prop := PiR σ 0 l ∧ WaR σ cols ∧ cols.length ≤ 6 ∧ orF σ o
section TED
variable {Ω : Om} {d : Nat} {h : AH} {x : Nat} {A : Nat → Nat} {σ σ' : Tw} {l : List Sol} {cols : List Nat} {o : Option Nat × Bool}
theorem PiR.z (hp : PiR σ 0 l) {a : Nat} {s : Sol} (ha : l[a]? = some s) : SoR σ a s := by
  have := hp.2.2 a s ha
  rw [Nat.mul_zero, Nat.zero_add] at this
  exact this
theorem PiR.fx {i : Nat} {I AI AL : List Nat} (hp : PiR σ i l) (hf : Fx I AI AL σ σ') (h1 : 48 ∉ AI) (h2 : 49 ∉ AI) (h3 : 47 ∉ AL) : PiR σ' i l := by
  unfold PiR SoR at *
  rw [hf.2.1 48 h1, hf.2.1 49 h2, hf.2.2 47 h3]
  exact hp
theorem RX.fx {I AI AL : List Nat} (hx : RX σ l cols o) (hf : Fx I AI AL σ σ') (h1 : 48 ∉ AI) (h2 : 49 ∉ AI) (h3 : 47 ∉ AL) (h4 : 41 ∉ I) (h5 : 40 ∉ AI) (h6 : 44 ∉ I) (h7 : 45 ∉ I) : RX σ' l cols o := ⟨hx.1.fx hf h1 h2 h3, hx.2.1.fx hf h4 h5, hx.2.2.1, hx.2.2.2.fx hf h6 h7⟩
set_option maxHeartbeats 1000000 in
theorem t_mr1 (hT : TwOk Ω.sz x A) (hK : KL l) {i n : Nat} {s : Sol} (hl : l.length ≤ 150) (hi : l[i]? = some s) {l4 : Value} : ∀ (k : Nat) (σ : Tw) (Rl Rr : List Sol), Rl.length = k → k + Rr.length = i → RX σ l cols o → RaR σ 0 l Rl → RaR σ (k + 1) l Rr → ∃ σ' l3', gO PG Ω (d + 4) 87 16 [.ref x, .int (nI n), .int (nI i), .int (nI k), l4] [] (tW h x A σ) = gO PG Ω (d + 4) 87 9 [.ref x, .int (nI n), .int (nI (i + 1)), .int l3', l4] [] (tW h x A σ') ∧ RaR σ' 0 l ((insV (befB o cols) s Rl.reverse).reverse ++ Rr) ∧ Fx [] [54] [] σ σ' := by
  have hil := (List.getElem?_eq_some_iff.mp hi).1
  have stop : ∀ (k : Nat) (σ : Tw) (Rl Rr : List Sol), Rl.length = k → k + Rr.length = i → RX σ l cols o → RaR σ 0 l Rl → RaR σ (k + 1) l Rr → gO PG Ω (d + 4) 87 16 [.ref x, .int (nI n), .int (nI i), .int (nI k), l4] [] (tW h x A σ) = gO PG Ω (d + 4) 87 56 [.ref x, .int (nI n), .int (nI i), .int (nI k), l4] [] (tW h x A σ) → (insV (befB o cols) s Rl.reverse).reverse = Rl ++ [s] → ∃ σ' l3', gO PG Ω (d + 4) 87 16 [.ref x, .int (nI n), .int (nI i), .int (nI k), l4] [] (tW h x A σ) = gO PG Ω (d + 4) 87 9 [.ref x, .int (nI n), .int (nI (i + 1)), .int l3', l4] [] (tW h x A σ') ∧ RaR σ' 0 l ((insV (befB o cols) s Rl.reverse).reverse ++ Rr) ∧ Fx [] [54] [] σ σ' := by
    intro k σ Rl Rr h1 h2 hx hRl hRr e1 e2
    refine ⟨sA σ 54 k (nI i), nI k, ?_, ?_, Fx.rfl'.sA (by decide)⟩
    · rw [e1]
      simp (disch := first | omega | decide) only [e_X2_makeRows_56, e_X2_makeRows_57, e_X2_makeRows_60, e_X2_makeRows_61, e_X2_makeRows_62, e_X2_makeRows_63, e_X2_makeRows_66, tw_cl, tg43, tg46, tg47, tg48, tg49, tg52, tg53, tg54, tg55, tp55 hT, tr47 hT, tr48 hT, tr49 hT, tr52 hT, tr53 hT, tr54 hT, ts47 hT, ts48 hT, ts49 hT, ts52 hT, ts53 hT, ts54 hT, cR_ref, cR_null, cR_rf, c1_int, c1_ref, c1_null, c1_rf, kz_int, kz_ref, kz_null, kz_rf, kz_U, kz_long, nB_null, nB_ref, rf_none, rf_some, bV_ret, bV_thr, bA_ret, bA_thr, bX_ret, bX_thr, len4_0, len4_1, len4_2, len4_3, len4_4, true_and, and_true, and_self, if_true, if_false, Option.bind_some, nR_b1, nR_b0, nR_bI, nI_1z, nI_0z, bI_z, if_nn, nI_add, pk_mul]
    · rw [e2]
      intro j t hj
      rw [Nat.zero_add, sA_221, if_pos rfl]
      unfold va_up
      by_cases hjk : j < k
      · rw [List.append_assoc, List.getElem?_append_left (by omega)] at hj
        obtain ⟨a, a1, a2, a3⟩ := hRl j t hj
        rw [Nat.zero_add] at a3
        exact ⟨a, a1, a2, by rw [if_neg (by omega)]; exact a3⟩
      · by_cases hje : j = k
        · subst hje
          rw [List.append_assoc, List.getElem?_append_right (by omega), h1, Nat.sub_self] at hj
          simp at hj
          subst hj
          exact ⟨i, by omega, hi, by rw [if_pos rfl]⟩
        · rw [List.getElem?_append_right (by rw [List.length_append, List.length_singleton]; omega), List.length_append, List.length_singleton, h1] at hj
          obtain ⟨a, a1, a2, a3⟩ := hRr _ t hj
          refine ⟨a, a1, a2, ?_⟩
          rw [show k + 1 + (j - (k + 1)) = j by omega] at a3
          rw [if_neg hje]
          exact a3
  intro k
  induction k with
  | zero =>
    intro σ Rl Rr h1 h2 hx hRl hRr
    refine stop 0 σ Rl Rr h1 h2 hx hRl hRr ?_ ?_
    · rw [e_X2_makeRows_16]
      simp (disch := first | omega | decide) only [e_X2_makeRows_17, e_X2_makeRows_20, e_X2_makeRows_21, e_X2_makeRows_22, e_X2_makeRows_23, e_X2_makeRows_26, e_X2_makeRows_27, e_X2_makeRows_28, e_X2_makeRows_29, e_X2_makeRows_30, e_X2_makeRows_33, e_X2_makeRows_36, e_X2_makeRows_37, e_X2_makeRows_40, e_X2_makeRows_41, e_X2_makeRows_42, e_X2_makeRows_45, e_X2_makeRows_46, e_X2_makeRows_47, e_X2_makeRows_48, e_X2_makeRows_49, e_X2_makeRows_50, e_X2_makeRows_53, tw_cl, tg43, tg46, tg47, tg48, tg49, tg52, tg53, tg54, tg55, tp55 hT, tr47 hT, tr48 hT, tr49 hT, tr52 hT, tr53 hT, tr54 hT, ts47 hT, ts48 hT, ts49 hT, ts52 hT, ts53 hT, ts54 hT, cR_ref, cR_null, cR_rf, c1_int, c1_ref, c1_null, c1_rf, kz_int, kz_ref, kz_null, kz_rf, kz_U, kz_long, nB_null, nB_ref, rf_none, rf_some, bV_ret, bV_thr, bA_ret, bA_thr, bX_ret, bX_thr, len4_0, len4_1, len4_2, len4_3, len4_4, true_and, and_true, and_self, if_true, if_false, Option.bind_some, nR_b1, nR_b0, nR_bI, nI_1z, nI_0z, bI_z, if_nn, nI_gt0, Nat.lt_irrefl]
    · have : Rl = [] := List.length_eq_zero_iff.mp h1
      subst this; rfl
  | succ k ih =>
    intro σ Rl Rr h1 h2 hx hRl hRr
    have hne : Rl ≠ [] := fun q => by rw [q] at h1; cases h1
    obtain ⟨P, r, rfl⟩ : ∃ P r, Rl = P ++ [r] := ⟨Rl.dropLast, Rl.getLast hne, (List.dropLast_concat_getLast hne).symm⟩
    have hPl : P.length = k := by rw [List.length_append, List.length_singleton] at h1; omega
    obtain ⟨a, a1, a2, a3⟩ := hRl k r (by rw [← hPl]; simp)
    rw [Nat.zero_add] at a3
    have hsK := hK s (List.mem_of_getElem? hi)
    have hrK := hK r (List.mem_of_getElem? a2)
    have eb := t_bef (d := d) (h := h) hT (show i < 1650 by omega) (show a < 1650 by omega) (hx.1.z hi) (hx.1.z a2) hsK hrK hx.2.1 hx.2.2.1 hx.2.2.2
    have hrev : (P ++ [r]).reverse = r :: P.reverse := by simp
    cases hb : befB o cols s r with
    | false =>
      rw [hb] at eb
      refine stop (k + 1) σ (P ++ [r]) Rr h1 h2 hx hRl hRr ?_ ?_
      · rw [e_X2_makeRows_16]
        simp (disch := first | omega | decide) only [e_X2_makeRows_17, e_X2_makeRows_20, e_X2_makeRows_21, e_X2_makeRows_22, e_X2_makeRows_23, e_X2_makeRows_26, e_X2_makeRows_27, e_X2_makeRows_28, e_X2_makeRows_29, e_X2_makeRows_30, e_X2_makeRows_33, e_X2_makeRows_36, e_X2_makeRows_37, e_X2_makeRows_40, e_X2_makeRows_41, e_X2_makeRows_42, e_X2_makeRows_45, e_X2_makeRows_46, e_X2_makeRows_47, e_X2_makeRows_48, e_X2_makeRows_49, e_X2_makeRows_50, e_X2_makeRows_53, tw_cl, tg43, tg46, tg47, tg48, tg49, tg52, tg53, tg54, tg55, tp55 hT, tr47 hT, tr48 hT, tr49 hT, tr52 hT, tr53 hT, tr54 hT, ts47 hT, ts48 hT, ts49 hT, ts52 hT, ts53 hT, ts54 hT, cR_ref, cR_null, cR_rf, c1_int, c1_ref, c1_null, c1_rf, kz_int, kz_ref, kz_null, kz_rf, kz_U, kz_long, nB_null, nB_ref, rf_none, rf_some, bV_ret, bV_thr, bA_ret, bA_thr, bX_ret, bX_thr, len4_0, len4_1, len4_2, len4_3, len4_4, true_and, and_true, and_self, if_true, if_false, Option.bind_some, nR_b1, nR_b0, nR_bI, nI_1z, nI_0z, bI_z, if_nn, reduceCtorEq, nI_gt0, Nat.zero_lt_succ, pk_pred, a3, eb]
      · rw [hrev]
        unfold insV
        rw [hb, if_neg (by decide)]
        simp
    | true =>
      rw [hb] at eb
      have hf : Fx [] [54] [] σ (sA σ 54 (k + 1) (nI a)) := Fx.rfl'.sA (by decide)
      obtain ⟨σ1, l3', f1, f2, f3⟩ := ih (sA σ 54 (k + 1) (nI a)) P (r :: Rr) hPl (by rw [List.length_cons]; omega) (hx.fx hf (by decide) (by decide) (by decide) (by decide) (by decide) (by decide) (by decide)) (fun j t hj => by
        have hjl := (List.getElem?_eq_some_iff.mp hj).1
        obtain ⟨b, b1, b2, b3⟩ := hRl j t (by rw [List.getElem?_append_left hjl]; exact hj)
        refine ⟨b, b1, b2, ?_⟩
        rw [sA_221, if_pos rfl]; unfold va_up; rw [if_neg (by omega)]; exact b3) (fun j t hj => by
        rw [sA_221, if_pos rfl]
        unfold va_up
        cases j with
        | zero =>
          simp at hj
          subst hj
          exact ⟨a, a1, a2, by rw [if_pos rfl]⟩
        | succ j =>
          rw [List.getElem?_cons_succ] at hj
          obtain ⟨b, b1, b2, b3⟩ := hRr j t hj
          refine ⟨b, b1, b2, ?_⟩
          rw [if_neg (by omega), show k + 1 + (j + 1) = k + 1 + 1 + j by omega]
          exact b3)
      refine ⟨σ1, l3', ?_, ?_, hf.trans f3⟩
      · rw [← f1, e_X2_makeRows_16]
        simp (disch := first | omega | decide) only [e_X2_makeRows_17, e_X2_makeRows_20, e_X2_makeRows_21, e_X2_makeRows_22, e_X2_makeRows_23, e_X2_makeRows_26, e_X2_makeRows_27, e_X2_makeRows_28, e_X2_makeRows_29, e_X2_makeRows_30, e_X2_makeRows_33, e_X2_makeRows_36, e_X2_makeRows_37, e_X2_makeRows_40, e_X2_makeRows_41, e_X2_makeRows_42, e_X2_makeRows_45, e_X2_makeRows_46, e_X2_makeRows_47, e_X2_makeRows_48, e_X2_makeRows_49, e_X2_makeRows_50, e_X2_makeRows_53, tw_cl, tg43, tg46, tg47, tg48, tg49, tg52, tg53, tg54, tg55, tp55 hT, tr47 hT, tr48 hT, tr49 hT, tr52 hT, tr53 hT, tr54 hT, ts47 hT, ts48 hT, ts49 hT, ts52 hT, ts53 hT, ts54 hT, cR_ref, cR_null, cR_rf, c1_int, c1_ref, c1_null, c1_rf, kz_int, kz_ref, kz_null, kz_rf, kz_U, kz_long, nB_null, nB_ref, rf_none, rf_some, bV_ret, bV_thr, bA_ret, bA_thr, bX_ret, bX_thr, len4_0, len4_1, len4_2, len4_3, len4_4, true_and, and_true, and_self, if_true, if_false, Option.bind_some, nR_b1, nR_b0, nR_bI, nI_1z, nI_0z, bI_z, if_nn, reduceCtorEq, nI_gt0, Nat.zero_lt_succ, pk_pred, a3, eb, nI_dec]
      · rw [hrev]
        unfold insV
        rw [hb, if_pos rfl]
        simpa using f2
theorem t_mr2 (hT : TwOk Ω.sz x A) (hK : KL l) (hl : l.length ≤ 150) {l4 : Value} : ∀ (m i : Nat) (σ : Tw) (Rv : List Sol) (l3 : Value), i + m = l.length → Rv.length = i → RX σ l cols o → RaR σ 0 l Rv.reverse → ∃ σ' l3', gO PG Ω (d + 4) 87 9 [.ref x, .int (nI l.length), .int (nI i), l3, l4] [] (tW h x A σ) = gO PG Ω (d + 4) 87 69 [.ref x, .int (nI l.length), .int (nI l.length), l3', l4] [] (tW h x A σ') ∧ RaR σ' 0 l (srtV (befB o cols) (l.drop i) Rv).reverse ∧ Fx [] [54] [] σ σ' := by
  intro m
  induction m with
  | zero =>
    intro i σ Rv l3 hi hR hx hRa
    have : i = l.length := by omega
    subst this
    refine ⟨σ, l3, ?_, ?_, Fx.rfl'⟩
    · rw [e_X2_makeRows_9]
      simp (disch := first | omega | decide) only [e_X2_makeRows_10, e_X2_makeRows_11, e_X2_makeRows_14, e_X2_makeRows_15, cR_ref, cR_null, cR_rf, c1_int, c1_ref, c1_null, c1_rf, kz_int, kz_ref, kz_null, kz_rf, kz_U, kz_long, nB_null, nB_ref, rf_none, rf_some, bV_ret, bV_thr, bA_ret, bA_thr, bX_ret, bX_thr, len4_0, len4_1, len4_2, len4_3, len4_4, true_and, and_true, and_self, if_true, if_false, Option.bind_some, nR_b1, nR_b0, nR_bI, nI_1z, nI_0z, bI_z, if_nn, ↓nI_lt_if, Nat.lt_irrefl]
    · rw [List.drop_length]; exact hRa
  | succ m ih =>
    intro i σ Rv l3 hi hR hx hRa
    have hil : i < l.length := by omega
    have hg : l[i]? = some l[i] := List.getElem?_eq_getElem hil
    have hdr : l.drop i = l[i] :: l.drop (i + 1) := List.drop_eq_getElem_cons hil
    generalize l[i] = s at hg hdr
    obtain ⟨σ1, k3, e1, e2, e3⟩ := t_mr1 (d := d) (h := h) (n := l.length) (l4 := l4) hT hK hl hg i σ Rv.reverse [] (by rw [List.length_reverse]; exact hR) (by simp) hx hRa (fun j t hj => by simp at hj)
    rw [List.reverse_reverse, List.append_nil] at e2
    obtain ⟨σ2, k3', f1, f2, f3⟩ := ih (i + 1) σ1 (insV (befB o cols) s Rv) (.int k3) (by omega) (by rw [insV_len, hR]) (hx.fx e3 (by decide) (by decide) (by decide) (by decide) (by decide) (by decide) (by decide)) e2
    refine ⟨σ2, k3', ?_, ?_, e3.trans f3⟩
    · rw [← f1, ← e1, e_X2_makeRows_9]
      simp (disch := first | omega | decide) only [e_X2_makeRows_10, e_X2_makeRows_11, e_X2_makeRows_14, e_X2_makeRows_15, cR_ref, cR_null, cR_rf, c1_int, c1_ref, c1_null, c1_rf, kz_int, kz_ref, kz_null, kz_rf, kz_U, kz_long, nB_null, nB_ref, rf_none, rf_some, bV_ret, bV_thr, bA_ret, bA_thr, bX_ret, bX_thr, len4_0, len4_1, len4_2, len4_3, len4_4, true_and, and_true, and_self, if_true, if_false, Option.bind_some, nR_b1, nR_b0, nR_bI, nI_1z, nI_0z, bI_z, if_nn, ↓nI_lt_if, hil]
    · rw [hdr]; exact f2
theorem t_mr3 (hT : TwOk Ω.sz x A) (hK : KL l) {n i : Nat} {r : Sol} {R : List Sol} (hR : R.length ≤ 150) (hx : RX σ l cols o) (hRa : RaR σ 0 l R) (hi : R[i]? = some r) : ∀ (m k : Nat) (ag : Bool), k + m = i → gO PG Ω (d + 4) 87 92 [.ref x, .int (nI n), .int (nI i), .int (bI ag), .int (nI k)] [] (tW h x A σ) = gO PG Ω (d + 4) 87 126 [.ref x, .int (nI n), .int (nI i), .int (bI (ag || ((R.take i).drop k).any (fun q => decide (byT cols q r = 0)))), .int (nI i)] [] (tW h x A σ) := by
  have hil := (List.getElem?_eq_some_iff.mp hi).1
  obtain ⟨b, b1, b2, b3⟩ := hRa i r hi
  rw [Nat.zero_add] at b3
  intro m
  induction m with
  | zero =>
    intro k ag hk
    have : k = i := by omega
    subst this
    rw [e_X2_makeRows_92]
    simp (disch := first | omega | decide) only [e_X2_makeRows_94, e_X2_makeRows_95, e_X2_makeRows_98, e_X2_makeRows_99, e_X2_makeRows_100, e_X2_makeRows_103, e_X2_makeRows_105, e_X2_makeRows_106, e_X2_makeRows_107, e_X2_makeRows_110, e_X2_makeRows_111, e_X2_makeRows_112, e_X2_makeRows_115, e_X2_makeRows_118, e_X2_makeRows_119, e_X2_makeRows_120, e_X2_makeRows_123, tw_cl, tg43, tg46, tg47, tg48, tg49, tg52, tg53, tg54, tg55, tp55 hT, tr47 hT, tr48 hT, tr49 hT, tr52 hT, tr53 hT, tr54 hT, ts47 hT, ts48 hT, ts49 hT, ts52 hT, ts53 hT, ts54 hT, cR_ref, cR_null, cR_rf, c1_int, c1_ref, c1_null, c1_rf, kz_int, kz_ref, kz_null, kz_rf, kz_U, kz_long, nB_null, nB_ref, rf_none, rf_some, bV_ret, bV_thr, bA_ret, bA_thr, bX_ret, bX_thr, len4_0, len4_1, len4_2, len4_3, len4_4, true_and, and_true, and_self, if_true, if_false, Option.bind_some, nR_b1, nR_b0, nR_bI, nI_1z, nI_0z, bI_z, if_nn, ↓nI_lt_if, Nat.lt_irrefl]
    rw [List.drop_of_length_le (by rw [List.length_take]; omega)]
    simp
  | succ m ih =>
    intro k ag hk
    have hki : k < i := by omega
    have hkl : k < (R.take i).length := by rw [List.length_take]; omega
    have hg0 : (R.take i)[k]? = some (R.take i)[k] := List.getElem?_eq_getElem hkl
    have hdr : (R.take i).drop k = (R.take i)[k] :: (R.take i).drop (k + 1) := List.drop_eq_getElem_cons hkl
    generalize (R.take i)[k] = q at hg0 hdr
    have hg : R[k]? = some q := by rw [List.getElem?_take, if_pos hki] at hg0; exact hg0
    obtain ⟨a, a1, a2, a3⟩ := hRa k q hg
    rw [Nat.zero_add] at a3
    have eb := t_byT (d := d + 1) (h := h) hT (show a < 1650 by omega) (show b < 1650 by omega) (hx.1.z a2) (hx.1.z b2) (hK q (List.mem_of_getElem? a2)) (hK r (List.mem_of_getElem? b2)) hx.2.1 hx.2.2.1
    rw [hdr, List.any_cons]
    by_cases h0 : byT cols q r = 0
    · have := ih (k + 1) true (by omega)
      rw [Bool.true_or] at this
      rw [decide_eq_true h0, Bool.true_or, Bool.or_true, ← this, e_X2_makeRows_92]
      simp (disch := first | omega | decide) only [e_X2_makeRows_94, e_X2_makeRows_95, e_X2_makeRows_98, e_X2_makeRows_99, e_X2_makeRows_100, e_X2_makeRows_103, e_X2_makeRows_105, e_X2_makeRows_106, e_X2_makeRows_107, e_X2_makeRows_110, e_X2_makeRows_111, e_X2_makeRows_112, e_X2_makeRows_115, e_X2_makeRows_118, e_X2_makeRows_119, e_X2_makeRows_120, e_X2_makeRows_123, tw_cl, tg43, tg46, tg47, tg48, tg49, tg52, tg53, tg54, tg55, tp55 hT, tr47 hT, tr48 hT, tr49 hT, tr52 hT, tr53 hT, tr54 hT, ts47 hT, ts48 hT, ts49 hT, ts52 hT, ts53 hT, ts54 hT, cR_ref, cR_null, cR_rf, c1_int, c1_ref, c1_null, c1_rf, kz_int, kz_ref, kz_null, kz_rf, kz_U, kz_long, nB_null, nB_ref, rf_none, rf_some, bV_ret, bV_thr, bA_ret, bA_thr, bX_ret, bX_thr, len4_0, len4_1, len4_2, len4_3, len4_4, true_and, and_true, and_self, if_true, if_false, Option.bind_some, nR_b1, nR_b0, nR_bI, nI_1z, nI_0z, bI_z, if_nn, nI_add, pk_mul, ↓nI_lt_if, hki, a3, b3, eb, h0, bI_t]
    · rw [decide_eq_false h0, Bool.false_or, ← ih (k + 1) ag (by omega), e_X2_makeRows_92]
      simp (disch := first | omega | decide) only [e_X2_makeRows_94, e_X2_makeRows_95, e_X2_makeRows_98, e_X2_makeRows_99, e_X2_makeRows_100, e_X2_makeRows_103, e_X2_makeRows_105, e_X2_makeRows_106, e_X2_makeRows_107, e_X2_makeRows_110, e_X2_makeRows_111, e_X2_makeRows_112, e_X2_makeRows_115, e_X2_makeRows_118, e_X2_makeRows_119, e_X2_makeRows_120, e_X2_makeRows_123, tw_cl, tg43, tg46, tg47, tg48, tg49, tg52, tg53, tg54, tg55, tp55 hT, tr47 hT, tr48 hT, tr49 hT, tr52 hT, tr53 hT, tr54 hT, ts47 hT, ts48 hT, ts49 hT, ts52 hT, ts53 hT, ts54 hT, cR_ref, cR_null, cR_rf, c1_int, c1_ref, c1_null, c1_rf, kz_int, kz_ref, kz_null, kz_rf, kz_U, kz_long, nB_null, nB_ref, rf_none, rf_some, bV_ret, bV_thr, bA_ret, bA_thr, bX_ret, bX_thr, len4_0, len4_1, len4_2, len4_3, len4_4, true_and, and_true, and_self, if_true, if_false, Option.bind_some, nR_b1, nR_b0, nR_bI, nI_1z, nI_0z, bI_z, if_nn, nI_add, pk_mul, ↓nI_lt_if, hki, a3, b3, eb, h0]
theorem t_mr4 (hT : TwOk Ω.sz x A) {n i a q : Nat} {l3 : Value} (h3 : k2 l3 = l3) (hi : i < 150) (ha : a < 150) (hq : q < 150) : ∀ (m v : Nat) (σ : Tw), v + m = 6 → σ.2.2.1 54 i = nI a → σ.1 55 = nI q → ∃ σ', gO PG Ω d 87 140 [.ref x, .int (nI n), .int (nI i), l3, .int (nI v)] [] (tW h x A σ) = gO PG Ω d 87 185 [.ref x, .int (nI n), .int (nI i), l3, .int (nI 6)] [] (tW h x A σ') ∧ Fx [] [] [52] σ σ' ∧ (∀ w, v ≤ w → w < 6 → σ'.2.2.2 52 (6 * q + w) = σ.2.2.2 47 (6 * a + w)) ∧ ∀ j, (j < 6 * q + v ∨ 6 * q + 6 ≤ j) → σ'.2.2.2 52 j = σ.2.2.2 52 j := by
  intro m
  induction m with
  | zero =>
    intro v σ hv h54 h55
    have : v = 6 := by omega
    subst this
    refine ⟨σ, ?_, Fx.rfl', fun w h1 h2 => by omega, fun j _ => rfl⟩
    rw [e_X2_makeRows_140]
    simp (disch := first | omega | decide) only [e_X2_makeRows_142, e_X2_makeRows_144, e_X2_makeRows_147, e_X2_makeRows_148, e_X2_makeRows_151, e_X2_makeRows_153, e_X2_makeRows_154, e_X2_makeRows_157, e_X2_makeRows_158, e_X2_makeRows_160, e_X2_makeRows_161, e_X2_makeRows_162, e_X2_makeRows_165, e_X2_makeRows_167, e_X2_makeRows_168, e_X2_makeRows_171, e_X2_makeRows_172, e_X2_makeRows_173, e_X2_makeRows_174, e_X2_makeRows_176, e_X2_makeRows_177, e_X2_makeRows_178, e_X2_makeRows_179, e_X2_makeRows_182, tw_cl, tg43, tg46, tg47, tg48, tg49, tg52, tg53, tg54, tg55, tp55 hT, tr47 hT, tr48 hT, tr49 hT, tr52 hT, tr53 hT, tr54 hT, ts47 hT, ts48 hT, ts49 hT, ts52 hT, ts53 hT, ts54 hT, cR_ref, cR_null, cR_rf, c1_int, c1_ref, c1_null, c1_rf, kz_int, kz_ref, kz_null, kz_rf, kz_U, kz_long, nB_null, nB_ref, rf_none, rf_some, bV_ret, bV_thr, bA_ret, bA_thr, bX_ret, bX_thr, len4_0, len4_1, len4_2, len4_3, len4_4, true_and, and_true, and_self, if_true, if_false, Option.bind_some, nR_b1, nR_b0, nR_bI, nI_1z, nI_0z, bI_z, if_nn, ↓nI_lt_if, Nat.lt_irrefl]
  | succ m ih =>
    intro v σ hv h54 h55
    have hv6 : v < 6 := by omega
    obtain ⟨σ', e1, e2, e3, e4⟩ := ih (v + 1) (sL σ 52 (6 * q + v) (σ.2.2.2 47 (6 * a + v))) (by omega) h54 h55
    refine ⟨σ', ?_, (Fx.rfl'.sL (by decide)).trans e2, fun w h1 h2 => ?_, fun j hj => ?_⟩
    · rw [← e1, e_X2_makeRows_140]
      simp (disch := first | omega | decide) only [e_X2_makeRows_142, e_X2_makeRows_144, e_X2_makeRows_147, e_X2_makeRows_148, e_X2_makeRows_151, e_X2_makeRows_153, e_X2_makeRows_154, e_X2_makeRows_157, e_X2_makeRows_158, e_X2_makeRows_160, e_X2_makeRows_161, e_X2_makeRows_162, e_X2_makeRows_165, e_X2_makeRows_167, e_X2_makeRows_168, e_X2_makeRows_171, e_X2_makeRows_172, e_X2_makeRows_173, e_X2_makeRows_174, e_X2_makeRows_176, e_X2_makeRows_177, e_X2_makeRows_178, e_X2_makeRows_179, e_X2_makeRows_182, tw_cl, tg43, tg46, tg47, tg48, tg49, tg52, tg53, tg54, tg55, tp55 hT, tr47 hT, tr48 hT, tr49 hT, tr52 hT, tr53 hT, tr54 hT, ts47 hT, ts48 hT, ts49 hT, ts52 hT, ts53 hT, ts54 hT, cR_ref, cR_null, cR_rf, c1_int, c1_ref, c1_null, c1_rf, kz_int, kz_ref, kz_null, kz_rf, kz_U, kz_long, nB_null, nB_ref, rf_none, rf_some, bV_ret, bV_thr, bA_ret, bA_thr, bX_ret, bX_thr, len4_0, len4_1, len4_2, len4_3, len4_4, true_and, and_true, and_self, if_true, if_false, Option.bind_some, nR_b1, nR_b0, nR_bI, nI_1z, nI_0z, bI_z, if_nn, nI_add, pk_mul, ↓nI_lt_if, hv6, h54, h55, h3]
    · by_cases hw : w = v
      · subst hw
        rw [e4 _ (by omega), sL_222, if_pos rfl]
        simp [va_up]
      · rw [e3 w (by omega) h2, sL_222, if_neg (by decide)]
    · rw [e4 j (by omega), sL_222, if_pos rfl]
      unfold va_up
      rw [if_neg (by omega)]
set_option maxHeartbeats 1000000 in
theorem t_mr5 (hT : TwOk Ω.sz x A) (hK : KL l) {R : List Sol} {di : Bool} {lim : Nat} (hR : R.length ≤ 150) (hlim : lim ≤ 10000) : ∀ (m i : Nat) (σ : Tw) (out : List Sol) (l3 l4 : Value), i + m = R.length → out.length ≤ i → RX σ l cols o → RaR σ 0 l R → RoR σ out → σ.1 43 = bI di → σ.1 46 = nI lim → ∃ σ', gO PG Ω (d + 4) 87 71 [.ref x, .int (nI R.length), .int (nI i), l3, l4] [] (tW h x A σ) = some (.returned none, tW h x A σ') ∧ RoR σ' (rwA di cols lim (R.take i) (R.drop i) out) ∧ (rwA di cols lim (R.take i) (R.drop i) out).length ≤ R.length ∧ Fx [55] [53] [52] σ σ' := by
  intro m
  induction m with
  | zero =>
    intro i σ out l3 l4 hi ho hx hRa hRo h43 h46
    have : i = R.length := by omega
    subst this
    refine ⟨σ, ?_, ?_, ?_, Fx.rfl'⟩
    · rw [e_X2_makeRows_71]
      simp (disch := first | omega | decide) only [e_X2_makeRows_72, e_X2_makeRows_73, e_X2_makeRows_76, e_X2_makeRows_77, e_X2_makeRows_80, e_X2_makeRows_81, e_X2_makeRows_84, e_X2_makeRows_87, e_X2_makeRows_88, e_X2_makeRows_89, e_X2_makeRows_90, e_X2_makeRows_221, cR_ref, cR_null, cR_rf, c1_int, c1_ref, c1_null, c1_rf, kz_int, kz_ref, kz_null, kz_rf, kz_U, kz_long, nB_null, nB_ref, rf_none, rf_some, bV_ret, bV_thr, bA_ret, bA_thr, bX_ret, bX_thr, len4_0, len4_1, len4_2, len4_3, len4_4, true_and, and_true, and_self, if_true, if_false, Option.bind_some, nR_b1, nR_b0, nR_bI, nI_1z, nI_0z, bI_z, if_nn, ↓nI_lt_if, Nat.lt_irrefl]
    · rw [List.drop_length]; exact hRo
    · rw [List.drop_length]; exact ho
  | succ m ih =>
    intro i σ out l3 l4 hi ho hx hRa hRo h43 h46
    have hil : i < R.length := by omega
    have hg : R[i]? = some R[i] := List.getElem?_eq_getElem hil
    have hdr : R.drop i = R[i] :: R.drop (i + 1) := List.drop_eq_getElem_cons hil
    have htk : R.take (i + 1) = R.take i ++ [R[i]] := by rw [List.take_add_one, hg]; rfl
    generalize R[i] = r at hg hdr htk
    have h55 := hRo.1
    rw [hdr]
    unfold rwA
    by_cases hlm : out.length < lim
    · rw [if_pos hlm]
      have e3 := t_mr3 (d := d) (h := h) (n := R.length) hT hK hR hx hRa hg i 0 false (by omega)
      rw [List.drop_zero, Bool.false_or] at e3
      have e1 : gO PG Ω (d + 4) 87 71 [.ref x, .int (nI R.length), .int (nI i), l3, l4] [] (tW h x A σ) = gO PG Ω (d + 4) 87 126 [.ref x, .int (nI R.length), .int (nI i), .int (bI ((R.take i).any (fun q => decide (byT cols q r = 0)))), .int (nI i)] [] (tW h x A σ) := by
        rw [← e3, e_X2_makeRows_71]
        simp (disch := first | omega | decide) only [e_X2_makeRows_72, e_X2_makeRows_73, e_X2_makeRows_76, e_X2_makeRows_77, e_X2_makeRows_80, e_X2_makeRows_81, e_X2_makeRows_84, e_X2_makeRows_87, e_X2_makeRows_88, e_X2_makeRows_89, e_X2_makeRows_90, tw_cl, tg43, tg46, tg47, tg48, tg49, tg52, tg53, tg54, tg55, tp55 hT, tr47 hT, tr48 hT, tr49 hT, tr52 hT, tr53 hT, tr54 hT, ts47 hT, ts48 hT, ts49 hT, ts52 hT, ts53 hT, ts54 hT, cR_ref, cR_null, cR_rf, c1_int, c1_ref, c1_null, c1_rf, kz_int, kz_ref, kz_null, kz_rf, kz_U, kz_long, nB_null, nB_ref, rf_none, rf_some, bV_ret, bV_thr, bA_ret, bA_thr, bX_ret, bX_thr, len4_0, len4_1, len4_2, len4_3, len4_4, true_and, and_true, and_self, if_true, if_false, Option.bind_some, nR_b1, nR_b0, nR_bI, nI_1z, nI_0z, bI_z, if_nn, ↓nI_lt_if, hil, h55, h46, hlm, bI_f]
      rw [e1, ← htk]
      obtain ⟨a, a1, a2, a3⟩ := hRa i r hg
      rw [Nat.zero_add] at a3
      cases hskip : (di && (R.take i).any (fun q => decide (byT cols q r = 0))) with
      | true =>
        obtain ⟨hd1, hd2⟩ := Bool.and_eq_true_iff.mp hskip
        rw [hd2]
        rw [if_pos rfl]
        obtain ⟨σ1, f1, f2, f3, f4⟩ := ih (i + 1) σ out (.int (bI true)) (.int (nI i)) (by omega) (by omega) hx hRa hRo h43 h46
        refine ⟨σ1, ?_, f2, f3, f4⟩
        rw [← f1]
        simp (disch := first | omega | decide) only [e_X2_makeRows_126, e_X2_makeRows_127, e_X2_makeRows_130, e_X2_makeRows_133, e_X2_makeRows_134, e_X2_makeRows_137, e_X2_makeRows_138, e_X2_makeRows_215, e_X2_makeRows_218, tw_cl, tg43, tg46, tg47, tg48, tg49, tg52, tg53, tg54, tg55, tp55 hT, tr47 hT, tr48 hT, tr49 hT, tr52 hT, tr53 hT, tr54 hT, ts47 hT, ts48 hT, ts49 hT, ts52 hT, ts53 hT, ts54 hT, cR_ref, cR_null, cR_rf, c1_int, c1_ref, c1_null, c1_rf, kz_int, kz_ref, kz_null, kz_rf, kz_U, kz_long, nB_null, nB_ref, rf_none, rf_some, bV_ret, bV_thr, bA_ret, bA_thr, bX_ret, bX_thr, len4_0, len4_1, len4_2, len4_3, len4_4, true_and, and_true, and_self, if_true, if_false, Option.bind_some, nR_b1, nR_b0, nR_bI, nI_1z, nI_0z, bI_z, if_nn, reduceCtorEq, nI_add, pk_mul, h43, hd1]
      | false =>
        rw [if_neg (by decide)]
        have e2 : gO PG Ω (d + 4) 87 126 [.ref x, .int (nI R.length), .int (nI i), .int (bI ((R.take i).any (fun q => decide (byT cols q r = 0)))), .int (nI i)] [] (tW h x A σ) = gO PG Ω (d + 4) 87 140 [.ref x, .int (nI R.length), .int (nI i), .int (bI ((R.take i).any (fun q => decide (byT cols q r = 0)))), .int (nI 0)] [] (tW h x A σ) := by
          cases di with
          | false => simp (disch := first | omega | decide) only [e_X2_makeRows_126, e_X2_makeRows_127, e_X2_makeRows_130, e_X2_makeRows_133, e_X2_makeRows_134, e_X2_makeRows_137, e_X2_makeRows_138, tw_cl, tg43, tg46, tg47, tg48, tg49, tg52, tg53, tg54, tg55, tp55 hT, tr47 hT, tr48 hT, tr49 hT, tr52 hT, tr53 hT, tr54 hT, ts47 hT, ts48 hT, ts49 hT, ts52 hT, ts53 hT, ts54 hT, cR_ref, cR_null, cR_rf, c1_int, c1_ref, c1_null, c1_rf, kz_int, kz_ref, kz_null, kz_rf, kz_U, kz_long, nB_null, nB_ref, rf_none, rf_some, bV_ret, bV_thr, bA_ret, bA_thr, bX_ret, bX_thr, len4_0, len4_1, len4_2, len4_3, len4_4, true_and, and_true, and_self, if_true, if_false, Option.bind_some, nR_b1, nR_b0, nR_bI, nI_1z, nI_0z, bI_z, if_nn, reduceCtorEq, h43]
          | true =>
            have hd2 : (R.take i).any (fun q => decide (byT cols q r = 0)) = false := by rw [Bool.true_and] at hskip; exact hskip
            rw [hd2]
            simp (disch := first | omega | decide) only [e_X2_makeRows_126, e_X2_makeRows_127, e_X2_makeRows_130, e_X2_makeRows_133, e_X2_makeRows_134, e_X2_makeRows_137, e_X2_makeRows_138, tw_cl, tg43, tg46, tg47, tg48, tg49, tg52, tg53, tg54, tg55, tp55 hT, tr47 hT, tr48 hT, tr49 hT, tr52 hT, tr53 hT, tr54 hT, ts47 hT, ts48 hT, ts49 hT, ts52 hT, ts53 hT, ts54 hT, cR_ref, cR_null, cR_rf, c1_int, c1_ref, c1_null, c1_rf, kz_int, kz_ref, kz_null, kz_rf, kz_U, kz_long, nB_null, nB_ref, rf_none, rf_some, bV_ret, bV_thr, bA_ret, bA_thr, bX_ret, bX_thr, len4_0, len4_1, len4_2, len4_3, len4_4, true_and, and_true, and_self, if_true, if_false, Option.bind_some, nR_b1, nR_b0, nR_bI, nI_1z, nI_0z, bI_z, if_nn, reduceCtorEq, h43]
        obtain ⟨σ1, g1, g2, g3, g4⟩ := t_mr4 (d := d + 4) (h := h) (n := R.length) (i := i) (a := a) (q := out.length) (l3 := .int (bI ((R.take i).any (fun q => decide (byT cols q r = 0))))) hT kz_int (by omega) a1 (by omega) 6 0 σ (by omega) a3 h55
        have hs := hx.1.z a2
        have z55 : σ1.1 55 = nI out.length := by rw [g2.1 55 (by decide)]; exact h55
        have z54 : σ1.2.2.1 54 i = nI a := by rw [g2.2.1 54 (by decide)]; exact a3
        have z48 : σ1.2.2.1 48 a = nI (msk r) := by rw [g2.2.1 48 (by decide)]; exact hs.1
        have hf : Fx [55] [53] [52] σ (sI (sA σ1 53 out.length (nI (msk r))) 55 (nI (out.length + 1))) := ((g2.mono (by decide) (by decide) (by decide)).sA (by decide)).sI (by decide)
        obtain ⟨σ2, f1, f2, f3, f4⟩ := ih (i + 1) (sI (sA σ1 53 out.length (nI (msk r))) 55 (nI (out.length + 1))) (out ++ [r]) (.int (bI ((R.take i).any (fun q => decide (byT cols q r = 0))))) (.int (nI 6)) (by omega) (by rw [List.length_append, List.length_singleton]; omega) (hx.fx hf (by decide) (by decide) (by decide) (by decide) (by decide) (by decide) (by decide)) (fun j t hj => by rw [hf.2.1 54 (by decide)]; exact hRa j t hj) ⟨by rw [List.length_append]; rfl, fun j t hj => by
          rcases getE_snoc hj with q | ⟨rfl, q2⟩
          · have hjl := (List.getElem?_eq_some_iff.mp q).1
            obtain ⟨c1', c2⟩ := hRo.2 j t q
            refine ⟨?_, fun v z hv hz => ?_⟩
            · rw [sI_2, sA_221, if_pos rfl]; unfold va_up; rw [if_neg (by omega), g2.2.1 53 (by decide)]; exact c1'
            · have := g4 (6 * j + v) (by omega)
              exact this.trans (c2 v z hv hz)
          · subst q2
            refine ⟨?_, fun v z hv hz => ?_⟩
            · rw [sI_2, sA_221, if_pos rfl]; simp [va_up]
            · have := g3 v (by omega) hv
              exact this.trans (hs.2 v z hv hz)⟩ (by rw [hf.1 43 (by decide)]; exact h43) (by rw [hf.1 46 (by decide)]; exact h46)
        refine ⟨σ2, ?_, f2, f3, hf.trans f4⟩
        rw [e2, g1, ← f1]
        simp (disch := first | omega | decide) only [e_X2_makeRows_185, e_X2_makeRows_186, e_X2_makeRows_189, e_X2_makeRows_190, e_X2_makeRows_193, e_X2_makeRows_194, e_X2_makeRows_197, e_X2_makeRows_198, e_X2_makeRows_201, e_X2_makeRows_202, e_X2_makeRows_203, e_X2_makeRows_204, e_X2_makeRows_205, e_X2_makeRows_206, e_X2_makeRows_207, e_X2_makeRows_210, e_X2_makeRows_211, e_X2_makeRows_212, e_X2_makeRows_215, e_X2_makeRows_218, tw_cl, tg43, tg46, tg47, tg48, tg49, tg52, tg53, tg54, tg55, tp55 hT, tr47 hT, tr48 hT, tr49 hT, tr52 hT, tr53 hT, tr54 hT, ts47 hT, ts48 hT, ts49 hT, ts52 hT, ts53 hT, ts54 hT, cR_ref, cR_null, cR_rf, c1_int, c1_ref, c1_null, c1_rf, kz_int, kz_ref, kz_null, kz_rf, kz_U, kz_long, nB_null, nB_ref, rf_none, rf_some, bV_ret, bV_thr, bA_ret, bA_thr, bX_ret, bX_thr, len4_0, len4_1, len4_2, len4_3, len4_4, true_and, and_true, and_self, if_true, if_false, Option.bind_some, nR_b1, nR_b0, nR_bI, nI_1z, nI_0z, bI_z, if_nn, nI_add, pk_mul, sI_1, sI_2, sT_1, sT_21, sT_22, sA_1, sA_21, sA_221, sA_222, sL_1, sL_21, sL_221, sL_222, Nat.reduceEqDiff, ↓reduceIte, z55, z54, z48]
    · rw [if_neg hlm]
      refine ⟨σ, ?_, hRo, by omega, Fx.rfl'⟩
      rw [e_X2_makeRows_71]
      simp (disch := first | omega | decide) only [e_X2_makeRows_72, e_X2_makeRows_73, e_X2_makeRows_76, e_X2_makeRows_77, e_X2_makeRows_80, e_X2_makeRows_81, e_X2_makeRows_84, e_X2_makeRows_87, e_X2_makeRows_88, e_X2_makeRows_89, e_X2_makeRows_90, e_X2_makeRows_221, tw_cl, tg43, tg46, tg47, tg48, tg49, tg52, tg53, tg54, tg55, tp55 hT, tr47 hT, tr48 hT, tr49 hT, tr52 hT, tr53 hT, tr54 hT, ts47 hT, ts48 hT, ts49 hT, ts52 hT, ts53 hT, ts54 hT, cR_ref, cR_null, cR_rf, c1_int, c1_ref, c1_null, c1_rf, kz_int, kz_ref, kz_null, kz_rf, kz_U, kz_long, nB_null, nB_ref, rf_none, rf_some, bV_ret, bV_thr, bA_ret, bA_thr, bX_ret, bX_thr, len4_0, len4_1, len4_2, len4_3, len4_4, true_and, and_true, and_self, if_true, if_false, Option.bind_some, nR_b1, nR_b0, nR_bI, nI_1z, nI_0z, bI_z, if_nn, ↓nI_lt_if, hil, h55, h46, hlm]
theorem srtV_len {f : Sol → Sol → Bool} : ∀ (l rv : List Sol), (srtV f l rv).length = l.length + rv.length := by
  intro l
  induction l with
  | nil => intro rv; simp [srtV]
  | cons s l ih =>
    intro rv
    show (srtV f l (insV f s rv)).length = _
    rw [ih, insV_len, List.length_cons]; omega
def rowsL (di : Bool) (cols : List Nat) (o : Option Nat × Bool) (lim : Nat) (l : List Sol) : List Sol := rwA di cols lim [] (srtV (befB o cols) l []).reverse []
theorem t_rows (hT : TwOk Ω.sz x A) (hK : KL l) {di : Bool} {lim : Nat} (hlim : lim ≤ 10000) (hx : RX σ l cols o) (h55 : σ.1 55 = nI 0) (h43 : σ.1 43 = bI di) (h46 : σ.1 46 = nI lim) : ∃ σ', gM PG Ω (d + 5) 87 [.ref x] (tW h x A σ) = some (.returned none, tW h x A σ') ∧ RoR σ' (rowsL di cols o lim l) ∧ (rowsL di cols o lim l).length ≤ 150 ∧ Fx [55] [53, 54] [52] σ σ' := by
  have hl := hx.1.2.1
  have h49 := hx.1.1
  obtain ⟨σ1, k3, e1, e2, e3⟩ := t_mr2 (d := d) (h := h) (l4 := U) hT hK hl l.length 0 σ [] U (by omega) rfl hx (fun j t hj => by simp at hj)
  rw [List.drop_zero] at e2
  have hRl : (srtV (befB o cols) l []).reverse.length = l.length := by rw [List.length_reverse, srtV_len]; rfl
  obtain ⟨σ2, f1, f2, f3, f4⟩ := t_mr5 (d := d) (h := h) (R := (srtV (befB o cols) l []).reverse) (di := di) (lim := lim) hT hK (by omega) hlim l.length 0 σ1 [] k3 U (by rw [hRl]; omega) (by simp) (hx.fx e3 (by decide) (by decide) (by decide) (by decide) (by decide) (by decide) (by decide)) e2 ⟨by rw [e3.1 55 (by decide)]; exact h55, fun r s q => by simp at q⟩ (by rw [e3.1 43 (by decide)]; exact h43) (by rw [e3.1 46 (by decide)]; exact h46)
  rw [List.take_zero, List.drop_zero] at f2 f3
  refine ⟨σ2, ?_, f2, by unfold rowsL; omega, (e3.mono (by decide) (by decide) (by decide)).trans (f4.mono (by decide) (by decide) (by decide))⟩
  rw [hRl] at f1
  simp (disch := first | omega | decide) only [n_X2_makeRows, e_X2_makeRows_0, e_X2_makeRows_1, e_X2_makeRows_4, e_X2_makeRows_5, e_X2_makeRows_6, e_X2_makeRows_7, e_X2_makeRows_8, tw_cl, tg43, tg46, tg47, tg48, tg49, tg52, tg53, tg54, tg55, tp55 hT, tr47 hT, tr48 hT, tr49 hT, tr52 hT, tr53 hT, tr54 hT, ts47 hT, ts48 hT, ts49 hT, ts52 hT, ts53 hT, ts54 hT, cR_ref, cR_null, cR_rf, c1_int, c1_ref, c1_null, c1_rf, kz_int, kz_ref, kz_null, kz_rf, kz_U, kz_long, nB_null, nB_ref, rf_none, rf_some, bV_ret, bV_thr, bA_ret, bA_thr, bX_ret, bX_thr, len4_0, len4_1, len4_2, len4_3, len4_4, true_and, and_true, and_self, if_true, if_false, Option.bind_some, nR_b1, nR_b0, nR_bI, nI_1z, nI_0z, bI_z, if_nn, h49]
  rw [e1]
  simp (disch := first | omega | decide) only [e_X2_makeRows_69, e_X2_makeRows_70, cR_ref, cR_null, cR_rf, c1_int, c1_ref, c1_null, c1_rf, kz_int, kz_ref, kz_null, kz_rf, kz_U, kz_long, nB_null, nB_ref, rf_none, rf_some, bV_ret, bV_thr, bA_ret, bA_thr, bX_ret, bX_thr, len4_0, len4_1, len4_2, len4_3, len4_4, true_and, and_true, and_self, if_true, if_false, Option.bind_some, nR_b1, nR_b0, nR_bI, nI_1z, nI_0z, bI_z, if_nn]
  exact f1
end TED
