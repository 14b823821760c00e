/-! TWIN, answering: the operations of a query, one after another -/
def AK (σ : Tw) (F : C4) (L : List Tri) : Prop := OpR σ F.1 ∧ PaR σ F.2.1 ∧ TeR σ F.2.2.1 ∧ σ.1 1 = nI L.length ∧ TrL (σ.2.2.2 0) L
def HF (F : C4) (L : List Tri) : Prop := F.1.length ≤ 400 ∧ F.2.1.length ≤ 12 ∧ TeK F.2.2.1 ∧ L.length ≤ 48 ∧ LK L
def Go (Ω : Om) (d : Nat) (h : AH) (x : Nat) (A : Nat → Nat) (F : C4) (L : List Tri) (i : Nat) (S : List (List Sol)) (j : Nat) (r : Option (List (List Sol))) : Prop := ∀ σ, AK σ F L → PiS σ S → σ.1 51 = nI 0 → ∃ σ' i', gO PG Ω (d + 4) 57 173 [.ref x, .int (nI i)] [] (tW h x A σ) = gO PG Ω (d + 4) 57 173 [.ref x, .int (nI i')] [] (tW h x A σ') ∧ FxP σ σ' ∧ i' ≤ 400 ∧ ((∃ S', r = some S' ∧ i' = j ∧ PiS σ' S' ∧ σ'.1 51 = nI 0) ∨ (r = none ∧ σ'.1 51 = nI 1))
section TEB
variable {Ω : Om} {d : Nat} {h : AH} {x : Nat} {A : Nat → Nat} {σ σ' : Tw} {F : C4} {L : List Tri}
theorem AK.fx (ha : AK σ F L) (hf : FxP σ σ') : AK σ' F L := by
  obtain ⟨h1, h2, h3, h4, h5⟩ := ha
  refine ⟨⟨by rw [hf.1 32 (by decide)]; exact h1.1, fun i o a q => ?_⟩, ⟨by rw [hf.1 35 (by decide)]; exact h2.1, fun i p q => ?_⟩, h3.fx2 hf (by decide) (by decide) (by decide) (by decide) (by decide) (by decide), by rw [hf.1 1 (by decide)]; exact h4, by rw [hf.2.2 0 (by decide)]; exact h5⟩
  · rw [hf.2.1 30 (by decide), hf.2.1 31 (by decide)]; exact h1.2 i o a q
  · obtain ⟨a, b, c⟩ := h2.2 i p q
    exact ⟨a.fx hf (by decide) (by decide), b.fx hf (by decide) (by decide), c.fx hf (by decide) (by decide)⟩
theorem Go.rfl' {i : Nat} {S : List (List Sol)} (hi : i ≤ 400) : Go Ω d h x A F L i S i (some S) := fun σ _ h2 h3 => ⟨σ, i, rfl, Fx.rfl', hi, .inl ⟨S, rfl, rfl, h2, h3⟩⟩
theorem Go.bind {i j k : Nat} {S : List (List Sol)} {r : Option (List (List Sol))} {f : List (List Sol) → Option (List (List Sol))} (h1 : Go Ω d h x A F L i S j r) (h2 : ∀ S1, r = some S1 → Go Ω d h x A F L j S1 k (f S1)) : Go Ω d h x A F L i S k (r.bind f) := by
  intro σ ha hS h51
  obtain ⟨σ1, i1, e1, e2, e3, e4⟩ := h1 σ ha hS h51
  rcases e4 with ⟨S1, r1, rfl, r3, r4⟩ | ⟨r1, r2⟩
  · obtain ⟨σ2, i2, f1, f2, f3, f4⟩ := h2 S1 r1 σ1 (ha.fx e2) r3 r4
    rw [r1, Option.bind_some]
    exact ⟨σ2, i2, e1.trans f1, e2.trans f2, f3, f4⟩
  · rw [r1, Option.bind_none]
    exact ⟨σ1, i1, e1, e2, e3, .inr ⟨rfl, r2⟩⟩
theorem Go.op (hT : TwOk Ω.sz x A) (hF : HF F L) {i o a : Nat} {S : List (List Sol)} {r : Option (List (List Sol))} (ho : F.1[i]? = some (o, a)) (hw : ∀ σ, AK σ F L → PiS σ S → σ.1 51 = nI 0 → ∃ σ', gM PG Ω (d + 4) 77 [.ref x, .int (nI o), .int (nI a)] (tW h x A σ) = some (.returned none, tW h x A σ') ∧ FxP σ σ' ∧ ((∃ S', r = some S' ∧ PiS σ' S' ∧ σ'.1 51 = nI 0) ∨ (r = none ∧ σ'.1 51 = nI 1))) : Go Ω d h x A F L i S (i + 1) r := by
  intro σ ha hS h51
  obtain ⟨σ1, e1, e2, e3⟩ := hw σ ha hS h51
  have hi := (List.getElem?_eq_some_iff.mp ho).1
  have hl := hF.1
  obtain ⟨h30, h31⟩ := ha.1.2 i o a ho
  have h32 := ha.1.1
  refine ⟨σ1, i + 1, ?_, e2, by omega, ?_⟩
  · rw [e_X2_ask_173]
    simp (disch := first | omega | decide) only [e_X2_ask_174, e_X2_ask_175, e_X2_ask_178, e_X2_ask_181, e_X2_ask_182, e_X2_ask_185, e_X2_ask_188, e_X2_ask_189, e_X2_ask_190, e_X2_ask_193, e_X2_ask_194, e_X2_ask_195, e_X2_ask_196, e_X2_ask_199, e_X2_ask_200, e_X2_ask_201, e_X2_ask_204, e_X2_ask_207, tw_cl, tg20, tg30, tg31, tg32, tg40, tg41, tg51, tg55, tg56, tp13 hT, tp14 hT, tp18 hT, tp20 hT, tp21 hT, tp24 hT, tp25 hT, tp26 hT, tp27 hT, tp32 hT, tp35 hT, tp39 hT, tp41 hT, tp43 hT, tp44 hT, tp45 hT, tp46 hT, tp50 hT, tp51 hT, tp55 hT, tp57 hT, tr30 hT, tr31 hT, tr40 hT, tr56 hT, ts30 hT, ts31 hT, ts40 hT, ts56 hT, cR_ref, cR_null, cR_rf, c1_int, c1_ref, c1_null, c1_rf, kz_int, kz_ref, kz_null, kz_rf, kz_U, kz_long, nB_null, nB_ref, rf_none, rf_some, bV_ret, bV_thr, bA_ret, bA_thr, bX_ret, bX_thr, len4_0, len4_1, len4_2, len4_3, len4_4, true_and, and_true, and_self, if_true, if_false, Option.bind_some, nR_b1, nR_b0, nR_bI, nI_1z, nI_0z, bI_z, if_nn, reduceCtorEq, one_ne0, nI_add, pk_mul, ↓nI_lt_if, h32, hi, h51, h30, h31, e1]
  · rcases e3 with ⟨S', r1, r2, r3⟩ | q
    · exact .inl ⟨S', r1, rfl, r2, r3⟩
    · exact .inr q
theorem CbR.o {S : List (List Sol)} {r : List Sol} (hc : CbR σ σ' S r) : FxP σ σ' ∧ ((∃ S', (capL r).bind (fun q => some (S ++ [q])) = some S' ∧ PiS σ' S' ∧ σ'.1 51 = nI 0) ∨ ((capL r).bind (fun q => some (S ++ [q])) = none ∧ σ'.1 51 = nI 1)) := by
  refine ⟨hc.1, ?_⟩
  unfold capL
  rcases hc.2 with ⟨h1, h2, h3⟩ | ⟨h1, h2⟩
  · rw [if_pos h1]; exact .inl ⟨_, rfl, h2, h3⟩
  · rw [if_neg (by omega)]; exact .inr ⟨rfl, h2⟩
def okC (c : C4) : Prop := ∀ e ∈ c.2.2.1, e.1 < c.2.2.2
theorem okC.e {gid : Nat} {c c' : C4} (ho : okC c) (he : CE gid c c') (hg : gid < c.2.2.2) : okC c' := by
  obtain ⟨_, _, ⟨t, ht, ht2⟩, hG⟩ := he
  intro e q
  rw [ht] at q
  rcases List.mem_append.mp q with q | q
  · have := ho e q; omega
  · rcases ht2 e q with z | z <;> omega
theorem okC.w {c c' : C4} (ho : okC c) (he : CW c c') : okC c' := by
  obtain ⟨_, _, ⟨t, ht, ht2⟩, hG⟩ := he
  intro e q
  rw [ht] at q
  rcases List.mem_append.mp q with q | q
  · have := ho e q; omega
  · have := ht2 e q; omega
/-- a group, from its begin to its end -/
def HW {G : Type} (Ω : Om) (d : Nat) (h : AH) (x : Nat) (A : Nat → Nat) (F : C4) (L : List Tri) (bod : G → Nat → C4 → C4) (ev : G → Option (List Sol)) (k : Nat) : Prop := ∀ (g : G) (c : C4) (S : List (List Sol)), S.length ≤ k → okC c → Fi4 c.2.2.2 (cWr (bod g) [] c) F → Go Ω d h x A F L c.1.length S (cWr (bod g) [] c).1.length ((ev g).bind (fun r => some (S ++ [r])))
theorem len_wr {body : Nat → C4 → C4} {tail : List (Nat × Nat)} {c : C4} : (cWr body tail c).1.length = (cWr body [] c).1.length + tail.length := by
  rw [cWr_eq, cWr_eq]; simp; omega
theorem Fi4.tl {lo : Nat} {body : Nat → C4 → C4} {tail : List (Nat × Nat)} {c : C4} (hf : Fi4 lo (cWr body tail c) F) : Fi4 lo (cWr body [] c) F := by
  rw [cWr_eq] at hf ⊢
  have := Fi4.ops (c := ((body c.2.2.2 (cOp c)).1 ++ [(3, c.2.2.2)], (body c.2.2.2 (cOp c)).2)) hf
  rw [List.append_nil]
  exact this
theorem Fi4.tat {lo : Nat} {body : Nat → C4 → C4} {o : Nat × Nat} {c : C4} (hf : Fi4 lo (cWr body [o] c) F) : F.1[(cWr body [] c).1.length]? = some o := by
  rw [cWr_eq] at hf
  obtain ⟨o', ho⟩ := hf.1
  rw [ho, cWr_eq, List.append_nil]
  simp
variable {G : Type} {bod : G → Nat → C4 → C4} {ev : G → Option (List Sol)}
theorem app2 {S : List (List Sol)} {a b : List Sol} : S ++ [a] ++ [b] = S ++ [a] ++ [b] := rfl
/-- groups of a union -/
theorem Go.uni (hT : TwOk Ω.sz x A) (hF : HF F L) (hb : ∀ g gid c, CE gid c (bod g gid c)) {k : Nat} (hk : k ≤ 9) (hW : HW Ω d h x A F L bod ev k) : ∀ (gs : List G) (c : C4) (S : List (List Sol)) (acc : List Sol), S.length + 1 ≤ k → S.length + 1 < 10 → okC c → Fi4 c.2.2.2 (cUni bod gs c) F → Go Ω d h x A F L c.1.length (S ++ [acc]) (cUni bod gs c).1.length ((uniE ev gs acc).bind (fun r => some (S ++ [r]))) := by
  intro gs
  induction gs with
  | nil =>
    intro c S acc _ _ _ hf
    obtain ⟨o, ho⟩ := hf.1
    have : c.1.length ≤ F.1.length := by rw [ho]; simp [cUni]
    exact Go.rfl' (by have := hF.1; omega)
  | cons g gs ih =>
    intro c S acc hS hS2 hok hf
    have w1 : CW c (cWr (bod g) [(7, 0)] c) := cWr_W (hb g)
    have hf2 : Fi4 c.2.2.2 (cUni bod gs (cWr (bod g) [(7, 0)] c)) F := hf
    have wG := w1.2.2.2
    have hf1 : Fi4 c.2.2.2 (cWr (bod g) [(7, 0)] c) F := by
      obtain ⟨⟨o, ho⟩, ⟨p, hp⟩, ⟨t, ht, ht2⟩, hz⟩ := hf2
      obtain ⟨⟨o', ho'⟩, ⟨p', hp'⟩, ⟨t', ht', ht2'⟩, hG⟩ := cUni_W hb gs (cWr (bod g) [(7, 0)] c)
      refine ⟨⟨o' ++ o, by rw [ho, ho', List.append_assoc]⟩, ⟨p' ++ p, by rw [hp, hp', List.append_assoc]⟩, ⟨t' ++ t, by rw [ht, ht', List.append_assoc], fun e he => ?_⟩, by omega⟩
      rcases List.mem_append.mp he with q | q
      · have := ht2' e q; omega
      · have := ht2 e q; omega
    have g1 := hW g c (S ++ [acc]) (by rw [List.length_append, List.length_singleton]; exact hS) hok hf1.tl
    have g2 : ∀ part, Go Ω d h x A F L (cWr (bod g) [] c).1.length (S ++ [acc] ++ [part]) ((cWr (bod g) [] c).1.length + 1) ((capL (acc ++ part)).bind (fun q => some (S ++ [q]))) := fun part => Go.op hT hF hf1.tat (fun σ ha hp h51 => by
      obtain ⟨σ1, e1, e2⟩ := t_wk7 (d := d + 2) (h := h) (a := nI 0) hT hp hS2 h51
      exact ⟨σ1, e1, e2.o⟩)
    have g3 : ∀ a, Go Ω d h x A F L (cWr (bod g) [(7, 0)] c).1.length (S ++ [a]) (cUni bod gs (cWr (bod g) [(7, 0)] c)).1.length ((uniE ev gs a).bind (fun r => some (S ++ [r]))) := fun a => ih (cWr (bod g) [(7, 0)] c) S a hS hS2 (hok.w w1) (hf2.fw wG)
    have el : (cWr (bod g) [(7, 0)] c).1.length = (cWr (bod g) [] c).1.length + 1 := len_wr
    show Go Ω d h x A F L c.1.length (S ++ [acc]) (cUni bod gs (cWr (bod g) [(7, 0)] c)).1.length _
    unfold uniE
    have e1 : ((ev g).bind fun part => (capL (acc ++ part)).bind fun a => uniE ev gs a).bind (fun r => some (S ++ [r])) = ((ev g).bind (fun r => some (S ++ [acc] ++ [r]))).bind (fun S1 => ((capL (acc ++ (S1.getLastD []))).bind (fun q => some (S ++ [q]))).bind (fun S2 => (uniE ev gs (S2.getLastD [])).bind (fun r => some (S ++ [r])))) := by
      cases ev g with
      | none => rfl
      | some part =>
        simp only [Option.bind_some]
        have : (S ++ [acc] ++ [part]).getLastD [] = part := by simp
        rw [this]
        cases capL (acc ++ part) with
        | none => rfl
        | some a =>
          simp only [Option.bind_some]
          have : (S ++ [a]).getLastD [] = a := by simp
          rw [this]
    rw [e1]
    refine g1.bind fun S1 h1 => ?_
    obtain ⟨part, hp1, hp2⟩ := Option.bind_eq_some_iff.mp h1
    cases hp2
    have : (S ++ [acc] ++ [part]).getLastD [] = part := by simp
    rw [this]
    refine (g2 part).bind fun S2 h2 => ?_
    obtain ⟨a, ha1, ha2⟩ := Option.bind_eq_some_iff.mp h2
    cases ha2
    have : (S ++ [a]).getLastD [] = a := by simp
    rw [this, ← el]
    exact g3 a
set_option maxHeartbeats 1000000 in
/-- one element -/
theorem Go.el (hT : TwOk Ω.sz x A) (hF : HF F L) (hb : ∀ g gid c, CE gid c (bod g gid c)) {k : Nat} (hk : k ≤ 9) (hW : HW Ω d h x A F L bod ev k) {e : El G} {gid : Nat} {c : C4} {S : List (List Sol)} {so : List Sol} (hso : so.length ≤ 150) (hS : S.length + 2 ≤ k) (hok : okC c) (hf : Fi4 c.2.2.2 (cEl bod gid e c) F) : Go Ω d h x A F L c.1.length (S ++ [so]) (cEl bod gid e c).1.length ((evE ev L e so).bind (fun r => some (S ++ [r]))) := by
  have hl := hF.1
  rcases e with p | t | g | g | gs
  · have ho : F.1[c.1.length]? = some (2, 3 * c.2.1.length) := by
      obtain ⟨o', ho⟩ := hf.1
      rw [ho]; simp [cEl]
    have hp : F.2.1[c.2.1.length]? = some p := by
      obtain ⟨o', ho⟩ := hf.2.1
      rw [ho]; simp [cEl]
    have hpl := (List.getElem?_eq_some_iff.mp hp).1
    have hp12 := hF.2.1
    have el : (cEl bod gid (.inl p) c).1.length = c.1.length + 1 := by simp [cEl]
    rw [el]
    refine Go.op hT hF ho (fun σ ha hp' h51 => ?_)
    obtain ⟨σ1, e1, e2⟩ := t_wk2 (d := d) (h := h) hT (show 3 * c.2.1.length + 3 ≤ 120 by omega) hF.2.2.2.1 ha.2.2.2.1 ha.2.2.2.2 (ha.2.1.2 _ _ hp) hp' (by omega) h51
    exact ⟨σ1, e1, e2.o⟩
  · have : c.1.length ≤ F.1.length := by
      obtain ⟨o', ho⟩ := hf.1
      rw [ho]; simp [cEl]
    exact Go.rfl' (by omega)
  · have g1 := hW g c (S ++ [so]) (by rw [List.length_append, List.length_singleton]; omega) hok (Fi4.tl hf)
    have ho : F.1[(cWr (bod g) [] c).1.length]? = some (4, 0) := Fi4.tat hf
    have el : (cEl bod gid (.inr (.inr (.inl g))) c).1.length = (cWr (bod g) [] c).1.length + 1 := len_wr
    rw [el]
    have e1 : (evE ev L (.inr (.inr (.inl g))) so).bind (fun r => some (S ++ [r])) = ((ev g).bind (fun r => some (S ++ [so] ++ [r]))).bind (fun S1 => (capL (optL so (S1.getLastD []))).bind (fun q => some (S ++ [q]))) := by
      show ((ev g).bind fun own => capL (optL so own)).bind (fun r => some (S ++ [r])) = _
      cases ev g with
      | none => rfl
      | some own =>
        simp only [Option.bind_some]
        have : (S ++ [so] ++ [own]).getLastD [] = own := by simp
        rw [this]
    rw [e1]
    refine g1.bind fun S1 h1 => ?_
    obtain ⟨own, hp1, hp2⟩ := Option.bind_eq_some_iff.mp h1
    cases hp2
    have : (S ++ [so] ++ [own]).getLastD [] = own := by simp
    rw [this]
    refine Go.op hT hF ho (fun σ ha hp' h51 => ?_)
    obtain ⟨σ1, e1, e2⟩ := t_wk4 (d := d) (h := h) (a := nI 0) hT hp' (by omega) h51
    exact ⟨σ1, e1, e2.o⟩
  · have g1 := hW g c (S ++ [so]) (by rw [List.length_append, List.length_singleton]; omega) hok (Fi4.tl hf)
    have ho : F.1[(cWr (bod g) [] c).1.length]? = some (5, 0) := Fi4.tat hf
    have el : (cEl bod gid (.inr (.inr (.inr (.inl g)))) c).1.length = (cWr (bod g) [] c).1.length + 1 := len_wr
    rw [el]
    have e1 : (evE ev L (.inr (.inr (.inr (.inl g)))) so).bind (fun r => some (S ++ [r])) = ((ev g).bind (fun r => some (S ++ [so] ++ [r]))).bind (fun S1 => (capL (minL so (S1.getLastD []))).bind (fun q => some (S ++ [q]))) := by
      show ((ev g).bind fun own => some (minL so own)).bind (fun r => some (S ++ [r])) = _
      cases ev g with
      | none => rfl
      | some own =>
        simp only [Option.bind_some]
        have : (S ++ [so] ++ [own]).getLastD [] = own := by simp
        rw [this]
        have hle : (minL so own).length ≤ so.length := List.length_filter_le _ _
        have : capL (minL so own) = some (minL so own) := by unfold capL; rw [if_pos (by omega)]
        rw [this]; rfl
    rw [e1]
    refine g1.bind fun S1 h1 => ?_
    obtain ⟨own, hp1, hp2⟩ := Option.bind_eq_some_iff.mp h1
    cases hp2
    have : (S ++ [so] ++ [own]).getLastD [] = own := by simp
    rw [this]
    refine Go.op hT hF ho (fun σ ha hp' h51 => ?_)
    obtain ⟨σ1, e1, e2⟩ := t_wk5 (d := d) (h := h) (a := nI 0) hT hp' (by omega) h51
    exact ⟨σ1, e1, e2.o⟩
  · have hf' : Fi4 c.2.2.2 ((cUni bod gs (c.1 ++ [(6, 0)], c.2)).1 ++ [(8, 0)], (cUni bod gs (c.1 ++ [(6, 0)], c.2)).2) F := hf
    have hu := cUni_W hb gs (c.1 ++ [(6, 0)], c.2)
    have ho6 : F.1[c.1.length]? = some (6, 0) := by
      obtain ⟨o1, h1⟩ := hf'.1
      obtain ⟨o2, h2⟩ := hu.1
      rw [h1]
      simp only [h2]
      simp
    have ho8 : F.1[(cUni bod gs (c.1 ++ [(6, 0)], c.2)).1.length]? = some (8, 0) := by
      obtain ⟨o1, h1⟩ := hf'.1
      rw [h1]; simp
    have el : (cEl bod gid (.inr (.inr (.inr (.inr gs)))) c).1.length = (cUni bod gs (c.1 ++ [(6, 0)], c.2)).1.length + 1 := by simp [cEl]
    rw [el]
    have g0 : Go Ω d h x A F L c.1.length (S ++ [so]) (c.1.length + 1) (some (S ++ [so] ++ [[]])) := Go.op hT hF ho6 (fun σ ha hp' h51 => by
      obtain ⟨σ1, e1, e2, e3, e4⟩ := t_wk6 (d := d + 3) (h := h) (a := nI 0) hT hp' (by rw [List.length_append, List.length_singleton]; omega)
      exact ⟨σ1, e1, e4, .inl ⟨_, rfl, e2, e3.trans h51⟩⟩)
    have g1 := Go.uni (ev := ev) hT hF hb hk hW gs (c.1 ++ [(6, 0)], c.2) (S ++ [so]) [] (by rw [List.length_append, List.length_singleton]; omega) (by rw [List.length_append, List.length_singleton]; omega) hok hf'.ops
    have e1 : (evE ev L (.inr (.inr (.inr (.inr gs)))) so).bind (fun r => some (S ++ [r])) = (some (S ++ [so] ++ [[]])).bind (fun _ => ((uniE ev gs []).bind (fun r => some (S ++ [so] ++ [r]))).bind (fun S1 => (capL (joinL so (S1.getLastD []))).bind (fun q => some (S ++ [q])))) := by
      show ((uniE ev gs []).bind fun own => capL (joinL so own)).bind (fun r => some (S ++ [r])) = _
      rw [Option.bind_some]
      cases uniE ev gs [] with
      | none => rfl
      | some own =>
        simp only [Option.bind_some]
        have : (S ++ [so] ++ [own]).getLastD [] = own := by simp
        rw [this]
    rw [e1]
    refine g0.bind fun S0 h0 => ?_
    cases h0
    have el1 : (c.1 ++ [((6 : Nat), (0 : Nat))]).length = c.1.length + 1 := by simp
    rw [show (c.1 ++ [((6 : Nat), (0 : Nat))], c.2).1.length = c.1.length + 1 from el1] at g1
    refine g1.bind fun S1 h1 => ?_
    obtain ⟨own, hp1, hp2⟩ := Option.bind_eq_some_iff.mp h1
    cases hp2
    have : (S ++ [so] ++ [own]).getLastD [] = own := by simp
    rw [this]
    refine Go.op hT hF ho8 (fun σ ha hp' h51 => ?_)
    obtain ⟨σ1, e1, e2⟩ := t_wk8 (d := d) (h := h) (a := nI 0) hT hp' (by omega) h51
    exact ⟨σ1, e1, e2.o⟩
theorem evE_len {e : El G} {so r : List Sol} (hso : so.length ≤ 150) (hr : evE ev L e so = some r) : r.length ≤ 150 := by
  rcases e with p | t | g | g | gs
  · unfold evE at hr
    have := capL_some hr
    rw [this.1]; exact this.2
  · unfold evE at hr; cases hr; exact hso
  · unfold evE at hr
    obtain ⟨own, h1, h2⟩ := Option.bind_eq_some_iff.mp hr
    have := capL_some h2
    rw [this.1]; exact this.2
  · unfold evE at hr
    obtain ⟨own, h1, h2⟩ := Option.bind_eq_some_iff.mp hr
    cases h2
    exact Nat.le_trans (List.length_filter_le _ _) hso
  · unfold evE at hr
    obtain ⟨own, h1, h2⟩ := Option.bind_eq_some_iff.mp hr
    have := capL_some h2
    rw [this.1]; exact this.2
theorem Go.els (hT : TwOk Ω.sz x A) (hF : HF F L) (hb : ∀ g gid c, CE gid c (bod g gid c)) {k : Nat} (hk : k ≤ 9) (hW : HW Ω d h x A F L bod ev k) {gid : Nat} : ∀ (els : List (El G)) (c : C4) (S : List (List Sol)) (so : List Sol), so.length ≤ 150 → S.length + 2 ≤ k → okC c → gid < c.2.2.2 → Fi4 c.2.2.2 (cEls bod gid els c) F → Go Ω d h x A F L c.1.length (S ++ [so]) (cEls bod gid els c).1.length ((evEs ev L els so).bind (fun r => some (S ++ [r]))) := by
  intro els
  induction els with
  | nil =>
    intro c S so hso hS hok hg hf
    obtain ⟨o, ho⟩ := hf.1
    have : c.1.length ≤ F.1.length := by rw [ho]; simp [cEls]
    exact Go.rfl' (by have := hF.1; omega)
  | cons e els ih =>
    intro c S so hso hS hok hg hf
    have hf2 : Fi4 c.2.2.2 (cEls bod gid els (cEl bod gid e c)) F := hf
    have w1 : CE gid c (cEl bod gid e c) := cEl_E hb
    have w2 : CE gid (cEl bod gid e c) (cEls bod gid els (cEl bod gid e c)) := cEls_E hb els _
    have hG := w1.2.2.2
    have g1 := Go.el (ev := ev) hT hF hb hk hW hso hS hok (hf2.back w2 hg)
    have e1 : (evEs ev L (e :: els) so).bind (fun r => some (S ++ [r])) = ((evE ev L e so).bind (fun r => some (S ++ [r]))).bind (fun S1 => (evEs ev L els (S1.getLastD [])).bind (fun r => some (S ++ [r]))) := by
      show ((evE ev L e so).bind (fun s' => evEs ev L els s')).bind (fun r => some (S ++ [r])) = _
      cases evE ev L e so with
      | none => rfl
      | some s' =>
        simp only [Option.bind_some]
        have : (S ++ [s']).getLastD [] = s' := by simp
        rw [this]
    rw [e1]
    refine g1.bind fun S1 h1 => ?_
    obtain ⟨s', hp1, hp2⟩ := Option.bind_eq_some_iff.mp h1
    cases hp2
    have : (S ++ [s']).getLastD [] = s' := by simp
    rw [this]
    exact ih _ S s' (evE_len hso hp1) hS (hok.e w1 hg) (by omega) (hf2.fw hG)
end TEB
section TEB2
variable {Ω : Om} {d : Nat} {h : AH} {x : Nat} {A : Nat → Nat} {σ σ' : Tw} {F : C4} {L : List Tri}
theorem HW.up (hT : TwOk Ω.sz x A) (hF : HF F L) {n k : Nat} (hk : k ≤ 9) (hk2 : 2 ≤ k) (hFG : F.2.2.2 < 1000) (hW : HW Ω d h x A F L (cB n) (evG L n) k) : HW Ω d h x A F L (cB (n + 1)) (evG L (n + 1)) (k - 2) := by
  intro g c S hS hok hf
  have hb := cB_E n
  have wb : CE c.2.2.2 (cOp c) (cB (n + 1) g c.2.2.2 (cOp c)) := cB_E (n + 1) g c.2.2.2 (cOp c)
  have hf' : Fi4 c.2.2.2 ((cB (n + 1) g c.2.2.2 (cOp c)).1 ++ [(3, c.2.2.2)], (cB (n + 1) g c.2.2.2 (cOp c)).2) F := by
    rw [cWr_eq, List.append_nil] at hf; exact hf
  have ho1 : F.1[c.1.length]? = some (1, 0) := by
    obtain ⟨o1, h1⟩ := hf'.1
    obtain ⟨o2, h2⟩ := wb.1
    rw [h1]
    show ((cB (n + 1) g c.2.2.2 (cOp c)).1 ++ [(3, c.2.2.2)] ++ o1)[c.1.length]? = _
    rw [h2]
    show (c.1 ++ [(1, 0)] ++ o2 ++ [(3, c.2.2.2)] ++ o1)[c.1.length]? = _
    simp
  have ho3 : F.1[(cB (n + 1) g c.2.2.2 (cOp c)).1.length]? = some (3, c.2.2.2) := by
    obtain ⟨o1, h1⟩ := hf'.1
    rw [h1]; simp
  have hg1000 : c.2.2.2 < 1000 := by
    have h1 : c.2.2.2 + 1 ≤ (cB (n + 1) g c.2.2.2 (cOp c)).2.2.2 := wb.2.2.2
    have h2 : (cB (n + 1) g c.2.2.2 (cOp c)).2.2.2 ≤ F.2.2.2 := hf'.2.2.2
    omega
  have hokO : okC (cOp c) := fun e he => by
    have : e.1 < c.2.2.2 := hok e he
    show e.1 < c.2.2.2 + 1
    omega
  have hfb : Fi4 (cOp c).2.2.2 (cB (n + 1) g c.2.2.2 (cOp c)) F := hf'.ops.fw (by show c.2.2.2 ≤ c.2.2.2 + 1; omega)
  have g0 : Go Ω d h x A F L c.1.length S (c.1.length + 1) (some (S ++ [[empS]])) := Go.op hT hF ho1 (fun σ ha hp' h51 => by
    obtain ⟨σ1, e1, e2, e3, e4⟩ := t_wk1 (d := d + 3) (h := h) (a := nI 0) hT hp' (by omega)
    exact ⟨σ1, e1, e4, .inl ⟨_, rfl, e2, e3.trans h51⟩⟩)
  have g1 : Go Ω d h x A F L (c.1.length + 1) (S ++ [[empS]]) (cB (n + 1) g c.2.2.2 (cOp c)).1.length ((evEs (evG L n) L g [empS]).bind (fun r => some (S ++ [r]))) := by
    have := Go.els (ev := evG L n) hT hF hb hk hW (gid := c.2.2.2) g (cOp c) S [empS] (by simp) (by omega) hokO (by show c.2.2.2 < c.2.2.2 + 1; omega) hfb
    have el : (cOp c).1.length = c.1.length + 1 := by simp [cOp]
    rw [el] at this
    exact this
  have hev : evG L (n + 1) g = (evEs (evG L n) L g [empS]).bind (fun so => some (so.filter (fun s => (tsOf g).all (fun t => hoT t s)))) := rfl
  have hall : ∀ s, F.2.2.1.all (teB c.2.2.2 s) = (tsOf g).all (fun t => hoT t s) := by
    intro s
    obtain ⟨t1, h1, h2⟩ := cEls_T (gid := c.2.2.2) hb g (cOp c) (by show c.2.2.2 < c.2.2.2 + 1; omega)
    have h1' : (cB (n + 1) g c.2.2.2 (cOp c)).2.2.1 = c.2.2.1 ++ t1 := h1
    obtain ⟨t, ht, ht2⟩ := hf'.2.2.1
    have hG' : c.2.2.2 + 1 ≤ (cB (n + 1) g c.2.2.2 (cOp c)).2.2.2 := wb.2.2.2
    rw [ht]
    show ((cB (n + 1) g c.2.2.2 (cOp c)).2.2.1 ++ t).all (teB c.2.2.2 s) = _
    rw [h1', List.all_append, List.all_append, h2]
    have a1 : c.2.2.1.all (teB c.2.2.2 s) = true := List.all_eq_true.mpr fun e he => by
      have := hok e he
      unfold teB
      rw [decide_eq_false (by omega)]; rfl
    have a2 : t.all (teB c.2.2.2 s) = true := List.all_eq_true.mpr fun e he => by
      have : ¬ (c.2.2.2 ≤ e.1 ∧ e.1 < (cB (n + 1) g c.2.2.2 (cOp c)).2.2.2) := ht2 e he
      unfold teB
      rw [decide_eq_false (by omega)]; rfl
    rw [a1, a2, Bool.true_and, Bool.and_true]
  have el : (cWr (cB (n + 1) g) [] c).1.length = (cB (n + 1) g c.2.2.2 (cOp c)).1.length + 1 := by
    rw [cWr_eq]; simp
  rw [el]
  have e1 : (evG L (n + 1) g).bind (fun r => some (S ++ [r])) = (some (S ++ [[empS]])).bind (fun _ => ((evEs (evG L n) L g [empS]).bind (fun r => some (S ++ [r]))).bind (fun S1 => some (S ++ [(S1.getLastD []).filter (fun s => F.2.2.1.all (teB c.2.2.2 s))]))) := by
    rw [hev, Option.bind_some]
    cases evEs (evG L n) L g [empS] with
    | none => rfl
    | some so =>
      simp only [Option.bind_some]
      have : (S ++ [so]).getLastD [] = so := by simp
      rw [this]
      simp only [hall]
  rw [e1]
  refine g0.bind fun S0 h0 => ?_
  cases h0
  refine g1.bind fun S1 h1 => ?_
  obtain ⟨so, hp1, hp2⟩ := Option.bind_eq_some_iff.mp h1
  cases hp2
  have : (S ++ [so]).getLastD [] = so := by simp
  rw [this]
  have hKL : KL so := evEs_K hF.2.2.2.2 (evG_K hF.2.2.2.2 n) g [empS] so emp1_K hp1
  refine Go.op hT hF ho3 (fun σ ha hp' h51 => ?_)
  obtain ⟨σ1, e1, e2, e3, e4⟩ := t_wk3 (d := d) (h := h) hT hg1000 hKL hF.2.2.1 ha.2.2.1 hp' (by omega)
  exact ⟨σ1, e1, e4, .inl ⟨_, rfl, e2, e3.trans h51⟩⟩
theorem HW.all (hT : TwOk Ω.sz x A) (hF : HF F L) (hFG : F.2.2.2 < 1000) : HW Ω d h x A F L (cB 4) (evG L 4) 1 := by
  have h0 : HW Ω d h x A F L (cB 0) (evG L 0) 9 := fun g => nomatch g
  exact HW.up hT hF (by omega) (by omega) hFG (HW.up hT hF (by omega) (by omega) hFG (HW.up hT hF (by omega) (by omega) hFG (HW.up hT hF (by omega) (by omega) hFG h0)))
end TEB2
