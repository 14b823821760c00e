/-! PLAIN: steps of the two stores -/
section STS
variable {K L L' : List Tri} {op : Bool} {Cu : List Chg} {Cm : List (List Chg)} {cm : Nat} {a : TA} {b : Bool} {t : Tri}
/-- the twin's last changes -/
abbrev cuT (Cu : List Chg) (Cm : List (List Chg)) : List (Chg × Nat) := Cu.reverse.map (fun c => (c, Cm.length))
theorem cuT_fst : (cuT Cu Cm).map (·.1) = Cu.reverse := by
  rw [List.map_map]
  have : ((fun x : Chg × Nat => x.1) ∘ fun c : Chg => (c, Cm.length)) = id := rfl
  rw [this, List.map_id]
theorem cuT_0 : (cuT Cu Cm).map (fun c => (c.1, 0)) = cuT Cu [] := by
  rw [List.map_map]; rfl
theorem cuT_len : (cuT Cu Cm).length = Cu.length := by rw [List.length_map, List.length_reverse]
theorem StR.mem (H : StR L op Cu Cm cm a) : t ∈ L ↔ t ∈ a.1 := by
  obtain ⟨Lt, K, oF, rfl, h1, h2, h3, h4, h5, h6⟩ := H
  exact (h5.trans h6.symm).mem_iff
theorem StR.perm (H : StR L op Cu Cm cm a) : a.1.Perm L := by
  obtain ⟨Lt, K, oF, rfl, h1, h2, h3, h4, h5, h6⟩ := H
  exact h6.trans h5.symm
theorem StR.l48 (H : StR L op Cu Cm cm a) : L.length ≤ 48 := by
  obtain ⟨Lt, K, oF, rfl, h1, h2, h3, h4, h5, h6⟩ := H
  rw [h5.length_eq]
  have := (effL_app (ys := [])).mp (by rw [List.append_nil]; exact h4)
  exact effL_len this.2
theorem StR.chl (H : StR L op Cu Cm cm a) : a.2.2.1.length = (flC Cm).length + Cu.length := by
  obtain ⟨Lt, K, oF, rfl, h1, h2, h3, h4, h5, h6⟩ := H
  show (ixC 0 Cm ++ cuT Cu Cm).length = _
  rw [List.length_append, ixC_len, cuT_len]
theorem StR.dof (H : StR L op Cu Cm cm a) (e : eff L (b, t)) (hl : b = true → L.length < 48) : (op = true → StR (apT L (b, t)) true ((b, t) :: Cu) Cm cm (tDo a b t)) ∧ (op = false → StR (apT L (b, t)) false [] (Cm ++ [(b, t) :: Cu]) (cm + 1) (tDo a b t)) := by
  have h48 := H.l48
  obtain ⟨Lt, K, oF, rfl, h1, h2, h3, h4, h5, h6⟩ := H
  have e2 := eff_perm h5 e
  have e3 := eff_perm h6.symm e2
  have eN : effL K (flC Cm ++ Cu.reverse ++ [(b, t)]) := effL_app.mpr ⟨h4, by rw [← h5.length_eq]; exact h48, e2, by
    show (apT (apL K (flC Cm ++ Cu.reverse)) (b, t)).length ≤ 48
    cases hb : b with
    | true =>
      rw [(apT_t (c := (true, t)) rfl).length_eq, List.length_cons, ← h5.length_eq]
      exact hl hb
    | false =>
      rw [hb] at e2
      have := (apT_f (c := (false, t)) rfl (eff_f rfl e2)).length_eq
      rw [List.length_cons, ← h5.length_eq] at this
      omega⟩
  have p5 : (apT L (b, t)).Perm (apL K (flC Cm ++ Cu.reverse ++ [(b, t)])) := by rw [apL_app]; exact apT_perm h5 e
  have p6 : (apT Lt (b, t)).Perm (apL K (flC Cm ++ Cu.reverse ++ [(b, t)])) := by rw [apL_app]; exact apT_perm h6 e3
  constructor
  · intro hop
    subst hop
    have ec : flC Cm ++ ((b, t) :: Cu).reverse = flC Cm ++ Cu.reverse ++ [(b, t)] := by rw [List.reverse_cons, List.append_assoc]
    refine ⟨apT Lt (b, t), K, oF, ?_, h1, (fun q => nomatch q), h3, by rw [ec]; exact eN, by rw [ec]; exact p5, by rw [ec]; exact p6⟩
    show (apT Lt (b, t), K, ixC 0 Cm ++ cuT Cu Cm ++ [((b, t), Cm.length)], cm + (if true = true then 0 else 1), Cm.length + (if true = true then 0 else 1), oF, true) = _
    rw [if_pos rfl, Nat.add_zero, Nat.add_zero, List.append_assoc, List.reverse_cons, List.map_append]
    rfl
  · intro hop
    subst hop
    have hCu := h2 rfl
    subst hCu
    have ec : flC (Cm ++ [[(b, t)]]) ++ ([] : List Chg).reverse = flC Cm ++ ([] : List Chg).reverse ++ [(b, t)] := by
      rw [flC_app, flC_one]; simp
    refine ⟨apT Lt (b, t), K, oF, ?_, (fun q => nomatch q), fun _ => rfl, h3, by rw [ec]; exact eN, by rw [ec]; exact p5, by rw [ec]; exact p6⟩
    show (apT Lt (b, t), K, ixC 0 Cm ++ cuT [] Cm ++ [((b, t), Cm.length)], cm + (if false = true then 0 else 1), Cm.length + (if false = true then 0 else 1), oF, false) = _
    rw [if_neg (by decide), ixC_app, List.length_append, Nat.zero_add]
    simp
theorem StR.beg (H : StR L false Cu Cm cm a) : StR L true Cu Cm cm (a.1, a.2.1, a.2.2.1, a.2.2.2.1, a.2.2.2.2.1, a.2.2.1.length, true) := by
  obtain ⟨Lt, K, oF, rfl, h1, h2, h3, h4, h5, h6⟩ := H
  have hCu := h2 rfl
  subst hCu
  exact ⟨Lt, K, (ixC 0 Cm ++ cuT [] Cm).length, rfl, fun _ => by rw [List.length_append, cuT_len]; rfl, (fun q => nomatch q), h3, h4, h5, h6⟩
theorem StR.com (H : StR L true Cu Cm cm a) : StR L false [] (Cm ++ [Cu]) (cm + 1) (a.1, a.2.1, a.2.2.1, a.2.2.2.1 + 1, a.2.2.2.2.1 + 1, a.2.2.2.2.2.1, false) ∧ a.2.2.1.length - a.2.2.2.2.2.1 = Cu.length ∧ a.2.2.2.2.2.1 ≤ a.2.2.1.length := by
  obtain ⟨Lt, K, oF, rfl, h1, h2, h3, h4, h5, h6⟩ := H
  have ec : flC (Cm ++ [Cu]) ++ ([] : List Chg).reverse = flC Cm ++ Cu.reverse := by rw [flC_app, flC_one]; simp
  have hoF := h1 rfl
  refine ⟨⟨Lt, K, oF, ?_, (fun q => nomatch q), fun _ => rfl, h3, by rw [ec]; exact h4, by rw [ec]; exact h5, by rw [ec]; exact h6⟩, ?_, ?_⟩
  · rw [ixC_app, List.length_append, Nat.zero_add]; simp
  · show (ixC 0 Cm ++ cuT Cu Cm).length - oF = _
    rw [List.length_append, hoF, cuT_len]; omega
  · show oF ≤ (ixC 0 Cm ++ cuT Cu Cm).length
    rw [List.length_append, hoF]; omega
theorem StR.rol (H : StR L op Cu Cm cm a) : okL L (Cu.map inv) ∧ ∃ Lt K oF, a = (Lt, K, ixC 0 Cm ++ cuT Cu Cm, cm, Cm.length, oF, op) ∧ (op = true → oF = (ixC 0 Cm).length) ∧ (op = false → cuT Cu Cm = []) ∧ okL Lt (undL ((cuT Cu Cm).map (·.1))) ∧ StR (apL L (Cu.map inv)) false [] Cm cm (apL Lt (undL ((cuT Cu Cm).map (·.1))), K, ixC 0 Cm, cm, Cm.length, oF, false) := by
  obtain ⟨Lt, K, oF, rfl, h1, h2, h3, h4, h5, h6⟩ := H
  obtain ⟨u1, u2⟩ := und_perm (xs := flC Cm) _ Cu.reverse L rfl h3 h4 h5
  obtain ⟨w1, w2⟩ := und_perm (xs := flC Cm) _ Cu.reverse Lt rfl h3 h4 h6
  rw [inv_und, cuT_fst]
  have ec : flC Cm ++ ([] : List Chg).reverse = flC Cm := by simp
  refine ⟨u1, Lt, K, oF, rfl, h1, (fun q => by rw [h2 q]; rfl), w1, ?_⟩
  refine ⟨apL Lt (undL Cu.reverse), K, oF, ?_, (fun q => nomatch q), fun _ => rfl, h3, ?_, ?_, ?_⟩
  · simp
  · rw [ec]; exact (effL_app.mp h4).1
  · rw [ec]; exact u2
  · rw [ec]; exact w2
theorem StR.syn (H : StR L op Cu Cm cm a) : ∃ Lt K oF, a = (Lt, K, ixC 0 Cm ++ cuT Cu Cm, cm, Cm.length, oF, op) ∧ ((op = true ∧ oF = (ixC 0 Cm).length) ∨ (op = false ∧ cuT Cu Cm = [])) ∧ okL Lt (undL ((cuT Cu Cm).map (·.1))) ∧ okL (apL Lt (undL ((cuT Cu Cm).map (·.1)))) ((cuT Cu Cm).map (·.1)) ∧ StR L op Cu [] cm (apL (apL Lt (undL ((cuT Cu Cm).map (·.1)))) ((cuT Cu Cm).map (·.1)), apL Lt (undL ((cuT Cu Cm).map (·.1))), (cuT Cu Cm).map (fun c => (c.1, 0)), cm, 0, 0, op) := by
  obtain ⟨Lt, K, oF, rfl, h1, h2, h3, h4, h5, h6⟩ := H
  obtain ⟨w1, w2⟩ := und_perm (xs := flC Cm) _ Cu.reverse Lt rfl h3 h4 h6
  obtain ⟨f1, f2⟩ := effL_app.mp h4
  have hN := nodup_apL _ h3 f1
  have eK : effL (apL Lt (undL Cu.reverse)) Cu.reverse := effL_perm _ w2.symm f2
  have hp : (apL K (flC Cm ++ Cu.reverse)).Perm (apL (apL Lt (undL Cu.reverse)) Cu.reverse) := by
    rw [apL_app]
    exact apL_perm _ w2.symm f2
  rw [cuT_0, cuT_fst]
  refine ⟨Lt, K, oF, rfl, ?_, w1, effL_ok _ eK, ?_⟩
  rotate_left
  · exact ⟨apL (apL Lt (undL Cu.reverse)) Cu.reverse, apL Lt (undL Cu.reverse), 0, rfl, fun _ => rfl, h2, (w2.nodup_iff).mpr hN, eK, h5.trans hp, List.Perm.refl _⟩
  cases op with
  | true => exact .inl ⟨rfl, h1 rfl⟩
  | false => exact .inr ⟨rfl, by rw [h2 rfl]; rfl⟩
theorem StR.cra (H : StR L op Cu Cm cm a) (k : Nat) : okL L (Cu.map inv) ∧ okL (apL L (Cu.map inv)) (unC (Cm.drop k)) ∧ ∃ Lt K oF, a = (Lt, K, ixC 0 Cm ++ cuT Cu Cm, cm, Cm.length, oF, op) ∧ ((op = true ∧ oF = (ixC 0 Cm).length) ∨ (op = false ∧ cuT Cu Cm = [])) ∧ K.length ≤ 48 ∧ (∀ c ∈ ixC 0 Cm, c.2 < Cm.length) ∧ okL K (selC k (ixC 0 Cm)) ∧ (apL K (selC k (ixC 0 Cm))).length ≤ 48 ∧ (apL K (selC k (ixC 0 Cm))).length = (apL (apL L (Cu.map inv)) (unC (Cm.drop k))).length ∧ StR (apL (apL L (Cu.map inv)) (unC (Cm.drop k))) false [] [] cm (apL K (selC k (ixC 0 Cm)), apL K (selC k (ixC 0 Cm)), [], cm, 0, 0, false) := by
  obtain ⟨Lt, K, oF, rfl, h1, h2, h3, h4, h5, h6⟩ := H
  obtain ⟨u1, u2⟩ := und_perm (xs := flC Cm) _ Cu.reverse L rfl h3 h4 h5
  obtain ⟨f1, f2⟩ := effL_app.mp h4
  have ed : flC Cm = flC (Cm.take k) ++ flC (Cm.drop k) := by rw [← flC_app, List.take_append_drop]
  rw [ed] at f1 u2
  obtain ⟨w1, w2⟩ := und_perm (xs := flC (Cm.take k)) _ (flC (Cm.drop k)) _ rfl h3 f1 u2
  obtain ⟨q1, q2⟩ := effL_app.mp f1
  have es : selC k (ixC 0 Cm) = flC (Cm.take k) := by
    have := ixC_sel Cm 0 k
    rwa [Nat.zero_add] at this
  rw [inv_und, unC_und, es]
  refine ⟨u1, w1, Lt, K, oF, rfl, ?_, effL_len q1, fun c hc => ?_, effL_ok _ q1, effL_len q2, w2.length_eq.symm, ?_⟩
  rotate_left 2
  · exact ⟨apL K (flC (Cm.take k)), apL K (flC (Cm.take k)), 0, rfl, (fun q => nomatch q), fun _ => rfl, nodup_apL _ h3 q1, effL_len q2, w2, List.Perm.refl _⟩
  · cases op with
    | true => exact .inl ⟨rfl, h1 rfl⟩
    | false => exact .inr ⟨rfl, by rw [h2 rfl]; rfl⟩
  · have := ixC_lt Cm 0 c hc
    omega
theorem StR.cur (H : StR L false Cu Cm cm a) : Cu = [] := by
  obtain ⟨Lt, K, oF, rfl, h1, h2, h3, h4, h5, h6⟩ := H
  exact h2 rfl
theorem StR.flds (H : StR L op Cu Cm cm a) : a.2.2.2.1 = cm ∧ a.2.2.2.2.1 = Cm.length ∧ a.2.2.2.2.2.2 = op ∧ (op = true → a.2.2.2.2.2.1 = (ixC 0 Cm).length) := by
  obtain ⟨Lt, K, oF, rfl, h1, h2, h3, h4, h5, h6⟩ := H
  exact ⟨rfl, rfl, rfl, h1⟩
end STS
