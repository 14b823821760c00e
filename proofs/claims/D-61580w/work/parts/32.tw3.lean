/-! TWIN, transactions -/
abbrev Chg : Type := Bool × Tri
def okAp (L : List Tri) (c : Chg) : Prop := L.length ≤ 48 ∧ if c.1 then L.length < 48 else c.2 ∈ L
def apL (L : List Tri) (cs : List Chg) : List Tri := cs.foldl apT L
def okL : List Tri → List Chg → Prop
  | L, [] => L.length ≤ 48
  | L, c :: cs => okAp L c ∧ okL (apT L c) cs
/-- changes undone, the last one first -/
def undL (cs : List Chg) : List Chg := cs.reverse.map (fun c => (!c.1, c.2))
/-- the changes' arrays hold them, with the transaction's number -/
def ChL (σ : Tw) (Ch : List (Chg × Nat)) : Prop := ∀ (i : Nat) (c : Chg × Nat), Ch[i]? = some c → σ.2.2.2 4 (3 * i) = c.1.2.1 ∧ σ.2.2.2 4 (3 * i + 1) = c.1.2.2.1 ∧ σ.2.2.2 4 (3 * i + 2) = c.1.2.2.2 ∧ σ.2.2.1 5 i = bI c.1.1 ∧ σ.2.2.1 6 i = nI c.2
theorem ChL.of {σ σ' : Tw} {Ch : List (Chg × Nat)} (h : ChL σ Ch) (h4 : σ'.2.2.2 4 = σ.2.2.2 4) (h5 : σ'.2.2.1 5 = σ.2.2.1 5) (h6 : σ'.2.2.1 6 = σ.2.2.1 6) : ChL σ' Ch := by
  intro i c hc
  rw [h4, h5, h6]
  exact h i c hc
theorem ChL.pre {σ : Tw} {Ch Ch' : List (Chg × Nat)} (h : ChL σ (Ch ++ Ch')) : ChL σ Ch := by
  intro i c hc
  have hl := (List.getElem?_eq_some_iff.mp hc).1
  exact h i c (by rw [List.getElem?_append_left hl]; exact hc)
theorem bI_not {b : Bool} : (if bI b = 0 then nI 1 else nI 0) = bI (!b) := by
  cases b
  · rw [if_pos (by rw [bI_z])]; rfl
  · rw [if_neg (by rw [bI_z]; decide)]; rfl
theorem pk_pred {n : Nat} : nI (n + 1) - nI 1 = nI n := by rw [pk_sub (by omega)]; rfl
theorem okL_len {L : List Tri} {cs : List Chg} (h : okL L cs) : L.length ≤ 48 := by
  cases cs with
  | nil => exact h
  | cons c cs => exact h.1.1
section TW3
variable {Ω : Om} {d : Nat} {h : AH} {x : Nat} {A : Nat → Nat} {σ : Tw}
set_option maxHeartbeats 2000000 in
theorem t_undo (hT : TwOk Ω.sz x A) {L : List Tri} {C0 Cu : List (Chg × Nat)} (hL : TrL (σ.2.2.2 0) L) (hn : σ.1 1 = nI L.length) (hC : ChL σ (C0 ++ Cu)) (hc : σ.1 7 = nI (C0 ++ Cu).length) (h8 : (C0 ++ Cu).length < 800) (hok : okL L (undL (Cu.map (·.1)))) :
    ∃ σ', gM PG Ω (d + 3) 52 [.ref x, .int (nI C0.length)] (tW h x A σ) = some (.returned none, tW h x A σ') ∧ TrL (σ'.2.2.2 0) (apL L (undL (Cu.map (·.1)))) ∧ σ'.1 1 = nI (apL L (undL (Cu.map (·.1)))).length ∧ σ'.1 7 = nI C0.length ∧ Fx [1, 7] [] [0] σ σ' := by
  have key : ∀ (n : Nat) (Cu : List (Chg × Nat)) (L : List Tri) (σ : Tw), Cu.length = n → TrL (σ.2.2.2 0) L → σ.1 1 = nI L.length → ChL σ (C0 ++ Cu) → σ.1 7 = nI (C0 ++ Cu).length → (C0 ++ Cu).length < 800 → okL L (undL (Cu.map (·.1))) →
      ∃ σ', gO PG Ω (d + 2) 52 0 [.ref x, .int (nI C0.length)] [] (tW h x A σ) = some (.returned none, tW h x A σ') ∧ TrL (σ'.2.2.2 0) (apL L (undL (Cu.map (·.1)))) ∧ σ'.1 1 = nI (apL L (undL (Cu.map (·.1)))).length ∧ σ'.1 7 = nI C0.length ∧ Fx [1, 7] [] [0] σ σ' := by
    intro n
    induction n with
    | zero =>
      intro Cu L σ hl hL hn hC hc h8 hok
      have : Cu = [] := List.length_eq_zero_iff.mp hl
      subst this
      refine ⟨σ, ?_, hL, hn, by simpa using hc, Fx.rfl'⟩
      rw [e_X2_undo_0]
      simp only [List.append_nil] at hc h8
      simp (disch := omega) only [e_X2_undo_1, e_X2_undo_4, e_X2_undo_5, e_X2_undo_8, e_X2_undo_9, e_X2_undo_10, e_X2_undo_13, e_X2_undo_14, e_X2_undo_15, e_X2_undo_18, e_X2_undo_19, e_X2_undo_20, e_X2_undo_23, e_X2_undo_24, e_X2_undo_27, e_X2_undo_28, e_X2_undo_31, e_X2_undo_32, e_X2_undo_35, e_X2_undo_36, e_X2_undo_37, e_X2_undo_40, e_X2_undo_41, e_X2_undo_42, e_X2_undo_45, e_X2_undo_46, e_X2_undo_47, e_X2_undo_48, e_X2_undo_51, e_X2_undo_52, e_X2_undo_53, e_X2_undo_56, e_X2_undo_57, e_X2_undo_58, e_X2_undo_59, e_X2_undo_60, e_X2_undo_61, e_X2_undo_64, e_X2_undo_65, e_X2_undo_66, e_X2_undo_69, e_X2_undo_70, e_X2_undo_71, e_X2_undo_72, e_X2_undo_73, e_X2_undo_76, e_X2_undo_79, tw_cl, tg4, tg5, tg7, tp7 hT, tr4 hT, tr5 hT, ts4 hT, ts5 hT, cR_ref, cR_null, cR_rf, c1_int, c1_ref, c1_null, c1_rf, kz_int, kz_ref, kz_null, kz_rf, kz_U, kz_long, nB_null, nB_ref, rf_none, rf_some, bV_ret, bV_thr, bA_ret, bA_thr, bX_ret, bX_thr, len4_0, len4_1, len4_2, len4_3, len4_4, true_and, and_true, and_self, if_true, if_false, Option.bind_some, nR_b1, nR_b0, nR_bI, nI_1z, nI_0z, bI_z, if_nn, sI_1, sI_2, sT_1, sT_21, sT_22, sA_1, sA_21, sA_221, sA_222, sL_1, sL_21, sL_221, sL_222, Nat.reduceEqDiff, ↓reduceIte, nI_add, pk_mul, hc, nI_lt_if]
      rw [if_neg (Nat.lt_irrefl _)]
    | succ n ih =>
      intro Cu L σ hl hL hn hC hc h8 hok
      obtain ⟨Cv, c, rfl⟩ : ∃ Cv c, Cu = Cv ++ [c] := ⟨Cu.dropLast, Cu.getLast (fun e => by rw [e] at hl; simp at hl), (List.dropLast_concat_getLast _).symm⟩
      have hlv : Cv.length = n := by simpa using hl
      have e1 : undL ((Cv ++ [c]).map (·.1)) = (!c.1.1, c.1.2) :: undL (Cv.map (·.1)) := by simp [undL]
      rw [e1] at hok ⊢
      have elen : (C0 ++ (Cv ++ [c])).length = (C0 ++ Cv).length + 1 := by simp [Nat.add_assoc]
      rw [elen] at hc h8
      obtain ⟨g1, g2, g3, g4, g5⟩ := hC (C0 ++ Cv).length c (by rw [← List.append_assoc, List.getElem?_append_right (Nat.le_refl _)]; simp)
      generalize hm : (C0 ++ Cv).length = m at *
      have hm0 : C0.length ≤ m := by rw [← hm]; simp
      obtain ⟨σ1, a1, a2, a3, a4⟩ := t_apply (d := d) (h := h) (σ := sI σ 7 (nI m)) hT (L := L) hL hn (b := !c.1.1) (s := c.1.2.1) (p := c.1.2.2.1) (o := c.1.2.2.2) hok.1.1 hok.1.2
      obtain ⟨σ2, b1, b2, b3, b4, b5⟩ := ih Cv (apT L (!c.1.1, c.1.2)) σ1 hlv a2 a3 ((ChL.pre (by rw [List.append_assoc]; exact hC)).of (a4.2.2 4 (by decide)) (a4.2.1 5 (by decide)) (a4.2.1 6 (by decide))) (by rw [a4.1 7 (by decide)]; rw [hm]; simp [sI_1]) (by omega) hok.2
      refine ⟨σ2, ?_, b2, b3, b4, ((Fx.rfl'.sI (by decide)).trans (a4.mono (by decide) (by decide) (by decide))).trans b5⟩
      rw [← b1, e_X2_undo_0]
      simp (disch := omega) only [e_X2_undo_1, e_X2_undo_4, e_X2_undo_5, e_X2_undo_8, e_X2_undo_9, e_X2_undo_10, e_X2_undo_13, e_X2_undo_14, e_X2_undo_15, e_X2_undo_18, e_X2_undo_19, e_X2_undo_20, e_X2_undo_23, e_X2_undo_24, e_X2_undo_27, e_X2_undo_28, e_X2_undo_31, e_X2_undo_32, e_X2_undo_35, e_X2_undo_36, e_X2_undo_37, e_X2_undo_40, e_X2_undo_41, e_X2_undo_42, e_X2_undo_45, e_X2_undo_46, e_X2_undo_47, e_X2_undo_48, e_X2_undo_51, e_X2_undo_52, e_X2_undo_53, e_X2_undo_56, e_X2_undo_57, e_X2_undo_58, e_X2_undo_59, e_X2_undo_60, e_X2_undo_61, e_X2_undo_64, e_X2_undo_65, e_X2_undo_66, e_X2_undo_69, e_X2_undo_70, e_X2_undo_71, e_X2_undo_72, e_X2_undo_73, e_X2_undo_76, e_X2_undo_79, tw_cl, tg4, tg5, tg7, tp7 hT, tr4 hT, tr5 hT, ts4 hT, ts5 hT, cR_ref, cR_null, cR_rf, c1_int, c1_ref, c1_null, c1_rf, kz_int, kz_ref, kz_null, kz_rf, kz_U, kz_long, nB_null, nB_ref, rf_none, rf_some, bV_ret, bV_thr, bA_ret, bA_thr, bX_ret, bX_thr, len4_0, len4_1, len4_2, len4_3, len4_4, true_and, and_true, and_self, if_true, if_false, Option.bind_some, nR_b1, nR_b0, nR_bI, nI_1z, nI_0z, bI_z, if_nn, sI_1, sI_2, sT_1, sT_21, sT_22, sA_1, sA_21, sA_221, sA_222, sL_1, sL_21, sL_221, sL_222, Nat.reduceEqDiff, ↓reduceIte, nI_add, pk_mul, hc, nI_lt_if, pk_pred, g1, g2, g3, g4]
      rw [if_pos (by omega)]
      cases hb : c.1.1 with
      | false => 
        rw [hb] at a1
        simp only [Bool.not_false, bI_t] at a1
        simp only [if_true, a1, cR_ref, cR_null, cR_rf, c1_int, c1_ref, c1_null, c1_rf, kz_int, kz_ref, kz_null, kz_rf, kz_U, kz_long, nB_null, nB_ref, rf_none, rf_some, bV_ret, bV_thr, bA_ret, bA_thr, bX_ret, bX_thr, len4_0, len4_1, len4_2, len4_3, len4_4, true_and, and_true, and_self, if_true, if_false, Option.bind_some, nR_b1, nR_b0, nR_bI, nI_1z, nI_0z, bI_z, if_nn]
      | true =>
        rw [hb] at a1
        simp only [Bool.not_true, bI_f] at a1
        simp only [Bool.true_eq_false, if_false, a1, cR_ref, cR_null, cR_rf, c1_int, c1_ref, c1_null, c1_rf, kz_int, kz_ref, kz_null, kz_rf, kz_U, kz_long, nB_null, nB_ref, rf_none, rf_some, bV_ret, bV_thr, bA_ret, bA_thr, bX_ret, bX_thr, len4_0, len4_1, len4_2, len4_3, len4_4, true_and, and_true, and_self, if_true, if_false, Option.bind_some, nR_b1, nR_b0, nR_bI, nI_1z, nI_0z, bI_z, if_nn]
  simp only [n_X2_undo]
  exact key Cu.length Cu L σ rfl hL hn hC hc h8 hok
end TW3
