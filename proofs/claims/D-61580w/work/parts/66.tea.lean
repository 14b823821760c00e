/-! WHAT A QUERY BECOMES, run on the pile -/
def KL (l : List Sol) : Prop := ∀ s ∈ l, SoK s
def LK (L : List Tri) : Prop := ∀ t ∈ L, okT t.1 ∧ okT t.2.1 ∧ okT t.2.2
theorem joinS_K {s t : Sol} (hs : SoK s) (ht : SoK t) : SoK (joinS s t) := by
  intro v x hx
  unfold joinS at hx
  cases h : s v with
  | some y => rw [h] at hx; cases hx; exact hs v x h
  | none => rw [h] at hx; exact ht v x hx
theorem mtch_K {s : Sol} {B : List Sol} (hs : SoK s) (hB : KL B) : KL (mtch s B) := by
  intro q hq
  unfold mtch at hq
  obtain ⟨t, ht, rfl⟩ := List.mem_map.mp hq
  exact joinS_K hs (hB t (List.mem_filter.mp ht).1)
theorem joinL_K {A B : List Sol} (hA : KL A) (hB : KL B) : KL (joinL A B) := by
  intro q hq
  obtain ⟨a, ha, hq⟩ := List.mem_flatMap.mp hq
  exact mtch_K (hA a ha) hB q hq
theorem optL_K {A B : List Sol} (hA : KL A) (hB : KL B) : KL (optL A B) := by
  intro q hq
  obtain ⟨a, ha, hq⟩ := List.mem_flatMap.mp hq
  by_cases h : mtch a B = []
  · rw [if_pos h] at hq
    rw [List.mem_singleton.mp hq]; exact hA a ha
  · rw [if_neg h] at hq
    exact mtch_K (hA a ha) hB q hq
theorem minL_K {A B : List Sol} (hA : KL A) : KL (minL A B) := fun q hq => hA q (List.mem_filter.mp hq).1
theorem empS_K : SoK empS := fun _ _ h => nomatch h
theorem stM_K {s s' : Sol} {sd : Sd} {x : Int64} (hs : SoK s) (hx : okT x) (h : stM s sd x = some s') : SoK s' := by
  unfold stM at h
  cases sd with
  | inr c =>
    simp only at h
    by_cases e : c = x
    · rw [if_pos e] at h; cases h; exact hs
    · rw [if_neg e] at h; cases h
  | inl v =>
    simp only at h
    cases hv : s v with
    | some y =>
      rw [hv] at h
      simp only at h
      by_cases e : y = x
      · rw [if_pos e] at h; cases h; exact hs
      · rw [if_neg e] at h; cases h
    | none =>
      rw [hv] at h
      simp only at h
      cases h
      intro w z hz
      unfold updS at hz
      by_cases e : w = v
      · rw [if_pos e] at hz; cases hz; exact hx
      · rw [if_neg e] at hz; exact hs w z hz
theorem patL_K {p : Pat} {L : List Tri} (hL : LK L) : KL (patL p L) := by
  intro s hs
  obtain ⟨t, ht, hm⟩ := List.mem_filterMap.mp hs
  obtain ⟨h1, h2, h3⟩ := hL t ht
  unfold matP at hm
  obtain ⟨s2, hm2, hm3⟩ := Option.bind_eq_some_iff.mp hm
  obtain ⟨s1, hm1, hm2⟩ := Option.bind_eq_some_iff.mp hm2
  exact stM_K (stM_K (stM_K empS_K h1 hm1) h2 hm2) h3 hm3
theorem capL_some {l r : List Sol} (h : capL l = some r) : r = l ∧ l.length ≤ 150 := by
  unfold capL at h
  by_cases e : l.length ≤ 150
  · rw [if_pos e] at h; cases h; exact ⟨rfl, e⟩
  · rw [if_neg e] at h; cases h
theorem uniE_K {G : Type} {ev : G → Option (List Sol)} (hev : ∀ g r, ev g = some r → KL r) : ∀ (gs : List G) (acc r : List Sol), KL acc → uniE ev gs acc = some r → KL r := by
  intro gs
  induction gs with
  | nil => intro acc r ha h; cases h; exact ha
  | cons g gs ih =>
    intro acc r ha h
    unfold uniE at h
    obtain ⟨part, h1, h2⟩ := Option.bind_eq_some_iff.mp h
    obtain ⟨a, h3, h4⟩ := Option.bind_eq_some_iff.mp h2
    rw [(capL_some h3).1] at h4
    exact ih _ _ (fun s hs => by rcases List.mem_append.mp hs with q | q; exact ha s q; exact hev g part h1 s q) h4
theorem evE_K {G : Type} {ev : G → Option (List Sol)} {L : List Tri} (hL : LK L) (hev : ∀ g r, ev g = some r → KL r) {e : El G} {so r : List Sol} (hs : KL so) (h : evE ev L e so = some r) : KL r := by
  rcases e with p | t | g | g | gs
  · unfold evE at h
    rw [(capL_some h).1]; exact joinL_K hs (patL_K hL)
  · unfold evE at h; cases h; exact hs
  · unfold evE at h
    obtain ⟨own, h1, h2⟩ := Option.bind_eq_some_iff.mp h
    rw [(capL_some h2).1]; exact optL_K hs (hev g own h1)
  · unfold evE at h
    obtain ⟨own, h1, h2⟩ := Option.bind_eq_some_iff.mp h
    cases h2; exact minL_K hs
  · unfold evE at h
    obtain ⟨own, h1, h2⟩ := Option.bind_eq_some_iff.mp h
    rw [(capL_some h2).1]; exact joinL_K hs (uniE_K hev gs [] own (fun _ q => nomatch q) h1)
theorem evEs_K {G : Type} {ev : G → Option (List Sol)} {L : List Tri} (hL : LK L) (hev : ∀ g r, ev g = some r → KL r) : ∀ (els : List (El G)) (so r : List Sol), KL so → evEs ev L els so = some r → KL r := by
  intro els
  induction els with
  | nil => intro so r hs h; cases h; exact hs
  | cons e els ih =>
    intro so r hs h
    unfold evEs at h
    obtain ⟨s', h1, h2⟩ := Option.bind_eq_some_iff.mp h
    exact ih s' r (evE_K hL hev hs h1) h2
theorem emp1_K : KL [empS] := fun s hs => by rw [List.mem_singleton.mp hs]; exact empS_K
theorem evG_K {L : List Tri} (hL : LK L) : ∀ (n : Nat) (g : GT n) (r : List Sol), evG L n g = some r → KL r := by
  intro n
  induction n with
  | zero => intro g; exact nomatch g
  | succ n ih =>
    intro g r h
    unfold evG evB at h
    obtain ⟨so, h1, h2⟩ := Option.bind_eq_some_iff.mp h
    cases h2
    exact fun s hs => evEs_K hL ih g [empS] so emp1_K h1 s (List.mem_filter.mp hs).1
/-- c grows to c' -/
def CE (gid : Nat) (c c' : C4) : Prop := (∃ o, c'.1 = c.1 ++ o) ∧ (∃ p, c'.2.1 = c.2.1 ++ p) ∧ (∃ t, c'.2.2.1 = c.2.2.1 ++ t ∧ ∀ e ∈ t, e.1 = gid ∨ (c.2.2.2 ≤ e.1 ∧ e.1 < c'.2.2.2)) ∧ c.2.2.2 ≤ c'.2.2.2
def CW (c c' : C4) : Prop := (∃ o, c'.1 = c.1 ++ o) ∧ (∃ p, c'.2.1 = c.2.1 ++ p) ∧ (∃ t, c'.2.2.1 = c.2.2.1 ++ t ∧ ∀ e ∈ t, c.2.2.2 ≤ e.1 ∧ e.1 < c'.2.2.2) ∧ c.2.2.2 ≤ c'.2.2.2
theorem CW.e {gid : Nat} {c c' : C4} (h : CW c c') : CE gid c c' := ⟨h.1, h.2.1, ⟨h.2.2.1.choose, h.2.2.1.choose_spec.1, fun e he => .inr (h.2.2.1.choose_spec.2 e he)⟩, h.2.2.2⟩
theorem CE.rfl' {gid : Nat} {c : C4} : CE gid c c := ⟨⟨[], by simp⟩, ⟨[], by simp⟩, ⟨[], by simp, fun _ q => nomatch q⟩, Nat.le_refl _⟩
theorem CE.trans {gid : Nat} {c c' c'' : C4} (h : CE gid c c') (h' : CE gid c' c'') : CE gid c c'' := by
  obtain ⟨⟨o, ho⟩, ⟨p, hp⟩, ⟨t, ht, ht2⟩, hG⟩ := h
  obtain ⟨⟨o', ho'⟩, ⟨p', hp'⟩, ⟨t', ht', ht2'⟩, hG'⟩ := h'
  refine ⟨⟨o ++ o', by rw [ho', ho, List.append_assoc]⟩, ⟨p ++ p', by rw [hp', hp, List.append_assoc]⟩, ⟨t ++ t', by rw [ht', ht, List.append_assoc], fun e he => ?_⟩, Nat.le_trans hG hG'⟩
  rcases List.mem_append.mp he with q | q
  · rcases ht2 e q with z | z
    · exact .inl z
    · exact .inr (by omega)
  · rcases ht2' e q with z | z
    · exact .inl z
    · exact .inr (by omega)
theorem CW.trans {c c' c'' : C4} (h : CW c c') (h' : CW c' c'') : CW c c'' := by
  obtain ⟨⟨o, ho⟩, ⟨p, hp⟩, ⟨t, ht, ht2⟩, hG⟩ := h
  obtain ⟨⟨o', ho'⟩, ⟨p', hp'⟩, ⟨t', ht', ht2'⟩, hG'⟩ := h'
  refine ⟨⟨o ++ o', by rw [ho', ho, List.append_assoc]⟩, ⟨p ++ p', by rw [hp', hp, List.append_assoc]⟩, ⟨t ++ t', by rw [ht', ht, List.append_assoc], fun e he => ?_⟩, Nat.le_trans hG hG'⟩
  rcases List.mem_append.mp he with q | q
  · have := ht2 e q; omega
  · have := ht2' e q; omega
theorem CW.op {c : C4} {o : List (Nat × Nat)} : CW c (c.1 ++ o, c.2) := ⟨⟨o, rfl⟩, ⟨[], by simp⟩, ⟨[], by simp, fun _ q => nomatch q⟩, Nat.le_refl _⟩
/-- a group's begin -/
def cOp (c : C4) : C4 := (c.1 ++ [(1, 0)], c.2.1, c.2.2.1, c.2.2.2 + 1)
theorem cWr_eq {body : Nat → C4 → C4} {tail : List (Nat × Nat)} {c : C4} : cWr body tail c = ((body c.2.2.2 (cOp c)).1 ++ [(3, c.2.2.2)] ++ tail, (body c.2.2.2 (cOp c)).2) := rfl
theorem cWr_W {body : Nat → C4 → C4} (hb : ∀ gid c, CE gid c (body gid c)) {tail : List (Nat × Nat)} {c : C4} : CW c (cWr body tail c) := by
  rw [cWr_eq]
  obtain ⟨⟨o, ho⟩, ⟨p, hp⟩, ⟨t, ht, ht2⟩, hG⟩ := hb c.2.2.2 (cOp c)
  have hG' : c.2.2.2 + 1 ≤ (body c.2.2.2 (cOp c)).2.2.2 := hG
  refine ⟨⟨[(1, 0)] ++ o ++ [(3, c.2.2.2)] ++ tail, ?_⟩, ⟨p, hp⟩, ⟨t, ht, fun e he => ?_⟩, by show c.2.2.2 ≤ (body c.2.2.2 (cOp c)).2.2.2; omega⟩
  · show (body c.2.2.2 (cOp c)).1 ++ [(3, c.2.2.2)] ++ tail = _
    rw [ho]
    show c.1 ++ [(1, 0)] ++ o ++ [(3, c.2.2.2)] ++ tail = _
    simp
  · show c.2.2.2 ≤ e.1 ∧ e.1 < (body c.2.2.2 (cOp c)).2.2.2
    rcases ht2 e he with z | z
    · omega
    · have z' : c.2.2.2 + 1 ≤ e.1 ∧ e.1 < (body c.2.2.2 (cOp c)).2.2.2 := z
      omega
theorem cUni_W {G : Type} {bod : G → Nat → C4 → C4} (hb : ∀ g gid c, CE gid c (bod g gid c)) : ∀ (gs : List G) (c : C4), CW c (cUni bod gs c) := by
  intro gs
  induction gs with
  | nil => intro c; exact ⟨⟨[], by simp [cUni]⟩, ⟨[], by simp [cUni]⟩, ⟨[], by simp [cUni], fun _ q => nomatch q⟩, Nat.le_refl _⟩
  | cons g gs ih => intro c; exact (cWr_W (hb g)).trans (ih _)
theorem cEl_E {G : Type} {bod : G → Nat → C4 → C4} (hb : ∀ g gid c, CE gid c (bod g gid c)) {gid : Nat} {e : El G} {c : C4} : CE gid c (cEl bod gid e c) := by
  rcases e with p | t | g | g | gs
  · exact ⟨⟨_, rfl⟩, ⟨_, rfl⟩, ⟨[], by simp [cEl], fun _ q => nomatch q⟩, Nat.le_refl _⟩
  · exact ⟨⟨[], by simp [cEl]⟩, ⟨[], by simp [cEl]⟩, ⟨[(gid, t)], rfl, fun e he => .inl (by rw [List.mem_singleton.mp he])⟩, Nat.le_refl _⟩
  · exact (cWr_W (hb g)).e
  · exact (cWr_W (hb g)).e
  · exact ((CW.op.trans (cUni_W hb gs _)).trans CW.op).e
theorem cEls_E {G : Type} {bod : G → Nat → C4 → C4} (hb : ∀ g gid c, CE gid c (bod g gid c)) {gid : Nat} : ∀ (els : List (El G)) (c : C4), CE gid c (cEls bod gid els c) := by
  intro els
  induction els with
  | nil => intro c; exact CE.rfl'
  | cons e els ih => intro c; exact (cEl_E hb).trans (ih _)
theorem cB_E : ∀ (n : Nat) (g : GT n) (gid : Nat) (c : C4), CE gid c (cB n g gid c) := by
  intro n
  induction n with
  | zero => intro g; exact nomatch g
  | succ n ih => intro g gid c; exact cEls_E ih g c
/-- the group's own tests -/
theorem tst_W {c c' : C4} {gid : Nat} (h : CW c c') (hg : gid < c.2.2.2) : ∃ t, c'.2.2.1 = c.2.2.1 ++ t ∧ ∀ s, t.all (teB gid s) = true := by
  obtain ⟨_, _, ⟨t, ht, ht2⟩, _⟩ := h
  refine ⟨t, ht, fun s => List.all_eq_true.mpr fun e he => ?_⟩
  have := ht2 e he
  unfold teB
  rw [decide_eq_false (by omega)]; rfl
theorem tsOf_cons {G : Type} {e : El G} {els : List (El G)} : tsOf (e :: els) = (match e with | .inr (.inl t) => [t] | _ => []) ++ tsOf els := by
  unfold tsOf
  rw [List.filterMap_cons]
  rcases e with p | t | g | g | gs <;> rfl
theorem cEl_T {G : Type} {bod : G → Nat → C4 → C4} (hb : ∀ g gid c, CE gid c (bod g gid c)) {gid : Nat} {e : El G} {c : C4} (hg : gid < c.2.2.2) : ∃ t, (cEl bod gid e c).2.2.1 = c.2.2.1 ++ t ∧ ∀ s, t.all (teB gid s) = (match e with | .inr (.inl t) => [t] | _ => ([] : List Tst)).all (fun t => hoT t s) := by
  rcases e with p | t | g | g | gs
  · exact ⟨[], by simp [cEl], fun s => rfl⟩
  · exact ⟨[(gid, t)], rfl, fun s => by simp [teB]⟩
  · exact tst_W (cWr_W (hb g)) hg
  · exact tst_W (cWr_W (hb g)) hg
  · exact tst_W ((CW.op.trans (cUni_W hb gs _)).trans CW.op) hg
theorem cEls_T {G : Type} {bod : G → Nat → C4 → C4} (hb : ∀ g gid c, CE gid c (bod g gid c)) {gid : Nat} : ∀ (els : List (El G)) (c : C4), gid < c.2.2.2 → ∃ t, (cEls bod gid els c).2.2.1 = c.2.2.1 ++ t ∧ ∀ s, t.all (teB gid s) = (tsOf els).all (fun t => hoT t s) := by
  intro els
  induction els with
  | nil => intro c hg; exact ⟨[], by simp [cEls], fun s => rfl⟩
  | cons e els ih =>
    intro c hg
    obtain ⟨t1, h1, h2⟩ := cEl_T (e := e) hb hg
    have hG := (cEl_E (gid := gid) (e := e) (c := c) hb).2.2.2
    obtain ⟨t2, h3, h4⟩ := ih (cEl bod gid e c) (by omega)
    refine ⟨t1 ++ t2, ?_, fun s => ?_⟩
    · show (cEls bod gid els (cEl bod gid e c)).2.2.1 = _
      rw [h3, h1, List.append_assoc]
    · rw [List.all_append, h2, h4, tsOf_cons, List.all_append]
/-- the end of all compiling -/
def Fi4 (lo : Nat) (c F : C4) : Prop := (∃ o, F.1 = c.1 ++ o) ∧ (∃ p, F.2.1 = c.2.1 ++ p) ∧ (∃ t, F.2.2.1 = c.2.2.1 ++ t ∧ ∀ e ∈ t, ¬ (lo ≤ e.1 ∧ e.1 < c.2.2.2)) ∧ c.2.2.2 ≤ F.2.2.2
theorem Fi4.back {lo gid : Nat} {c c' F : C4} (h : Fi4 lo c' F) (he : CE gid c c') (hg : gid < lo) : Fi4 lo c F := by
  obtain ⟨⟨o, ho⟩, ⟨p, hp⟩, ⟨t, ht, ht2⟩, hz⟩ := h
  obtain ⟨⟨o', ho'⟩, ⟨p', hp'⟩, ⟨t', ht', ht2'⟩, hG⟩ := he
  refine ⟨⟨o' ++ o, by rw [ho, ho', List.append_assoc]⟩, ⟨p' ++ p, by rw [hp, hp', List.append_assoc]⟩, ⟨t' ++ t, by rw [ht, ht', List.append_assoc], fun e he => ?_⟩, by omega⟩
  rcases List.mem_append.mp he with q | q
  · rcases ht2' e q with z | z <;> omega
  · have := ht2 e q; omega
theorem Fi4.fw {lo lo' : Nat} {c F : C4} (h : Fi4 lo c F) (hl : lo ≤ lo') : Fi4 lo' c F := ⟨h.1, h.2.1, ⟨h.2.2.1.choose, h.2.2.1.choose_spec.1, fun e he => by have := h.2.2.1.choose_spec.2 e he; omega⟩, h.2.2.2⟩
theorem Fi4.ops {lo : Nat} {o : List (Nat × Nat)} {c F : C4} (h : Fi4 lo (c.1 ++ o, c.2) F) : Fi4 lo c F := by
  obtain ⟨⟨o', ho⟩, h2, h3⟩ := h
  exact ⟨⟨o ++ o', by rw [ho, List.append_assoc]⟩, h2, h3⟩
theorem Fi4.rfl' {lo : Nat} {F : C4} : Fi4 lo F F := ⟨⟨[], by simp⟩, ⟨[], by simp⟩, ⟨[], by simp, fun _ q => nomatch q⟩, Nat.le_refl _⟩
