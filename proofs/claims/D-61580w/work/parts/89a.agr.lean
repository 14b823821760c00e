/-! COMPONENT: what a part of the query stands on -/
def UsT (e : Ce) : Prop := match e with
  | .inl (ty, _) => ty = .byte
  | .inr (ci, _) => ci = 3 ∨ ci = 4 ∨ ci = 23
/-- cells from lo to below hi, terms and strings stand -/
def Agr (lo hi : Nat) (h h' : AH) : Prop := ∀ q e, h.1 q = some e → ((lo ≤ q ∧ q < hi) ∨ UsT e) → ∃ e', h'.1 q = some e' ∧ nrmC e' = nrmC e
section AGR
variable {Ω : Om} {lo hi lo' hi' : Nat} {h h' h1 h2 : AH} {a b r c tx nm dp k m : Nat} {w cs : List Nat} {s s' : PS} {fs : List Value} {S : List Nat}
theorem Agr.rfl' : Agr lo hi h h := fun _ e q _ => ⟨e, q, rfl⟩
theorem UsT_n {e e' : Ce} (h : nrmC e' = nrmC e) (u : UsT e) : UsT e' := by
  rcases e with ⟨ty, A⟩ | ⟨ci, fs⟩
  · have := nrm_ar h
    rw [this]; exact u
  · by_cases h23 : ci = 23
    · subst h23
      rcases nrmC_cases e' with q | ⟨x, y, z1, z2, rfl⟩
      · rcases nrmC_cases (.inr (23, fs)) with q2 | ⟨x, y, z1, z2, q2⟩
        · rw [q, q2] at h; rw [h]; exact .inr (.inr rfl)
        · rw [q, q2, nrmC_st] at h; rw [h]; exact .inr (.inr rfl)
      · exact .inr (.inr rfl)
    · have := nrm_ob h23 h
      rw [this]; exact u
theorem Agr.trans (x : Agr lo hi h h1) (y : Agr lo hi h1 h2) : Agr lo hi h h2 := fun q e h1 h2 => by
  obtain ⟨e1, q1, q2⟩ := x q e h1 h2
  obtain ⟨e2, q3, q4⟩ := y q e1 q1 (by rcases h2 with z | z; exact .inl z; exact .inr (UsT_n q2 z))
  exact ⟨e2, q3, q4.trans q2⟩
theorem Agr.mono (x : Agr lo hi h h') (h1 : lo ≤ lo') (h2 : hi' ≤ hi) : Agr lo' hi' h h' := fun q e h3 h4 => x q e h3 (by rcases h4 with z | z; exact .inl ⟨by omega, by omega⟩; exact .inr z)
theorem Agr.nx (n : Nx S k m h h') (hS : ∀ q ∈ S, (q < lo ∨ hi ≤ q) ∧ ∀ e, h.1 q = some e → ¬ UsT e) : Agr lo hi h h' := fun q e h1 h2 => by
  refine n.2.2.2.2.2.2 q e (fun z => ?_) h1
  obtain ⟨z1, z2⟩ := hS q z
  rcases h2 with y | y
  · omega
  · exact z2 e h1 y
theorem Agr.nx0 (n : Nx [] k m h h') : Agr lo hi h h' := Agr.nx n (fun _ z => nomatch z)
theorem Agr.put {e : Ce} {ci : Nat} (ha : h.1 a = some (.inr (ci, fs))) (hc : ci ≠ 3 ∧ ci ≠ 4 ∧ ci ≠ 23) (ho : a < lo ∨ hi ≤ a) : Agr lo hi h (hput h a e) := fun q e h1 h2 => by
  have : q ≠ a := fun z => by
    subst z
    rcases h2 with y | y
    · omega
    · rw [ha] at h1; cases h1
      have y' : ci = 3 ∨ ci = 4 ∨ ci = 23 := y
      omega
  exact ⟨e, by rw [hput_n this]; exact h1, rfl⟩
theorem Agr.puta {e : Ce} {ty : FieldType} {A : vp_A} (ha : h.1 a = some (.inl (ty, A))) (hc : ty ≠ .byte) (ho : a < lo ∨ hi ≤ a) : Agr lo hi h (hput h a e) := fun q e h1 h2 => by
  have : q ≠ a := fun z => by
    subst z
    rcases h2 with y | y
    · omega
    · rw [ha] at h1; cases h1
      exact hc y
  exact ⟨e, by rw [hput_n this]; exact h1, rfl⟩
theorem Agr.ob (x : Agr lo hi h h') {ci : Nat} (ha : h.1 a = some (.inr (ci, fs))) (hc : ci ≠ 23) (ho : lo ≤ a ∧ a < hi) : h'.1 a = some (.inr (ci, fs)) := by
  obtain ⟨e', q1, q2⟩ := x a _ ha (.inl ho)
  rw [q1, nrm_ob hc q2]
theorem Agr.ar (x : Agr lo hi h h') {q : FieldType × vp_A} (ha : h.1 a = some (.inl q)) (ho : lo ≤ a ∧ a < hi) : h'.1 a = some (.inl q) := by
  obtain ⟨e', q1, q2⟩ := x a _ ha (.inl ho)
  rw [q1, nrm_ar q2]
theorem StrR.agr (t : StrR h a w) (x : Agr lo hi h h') : StrR h' a w := by
  obtain ⟨b, z1, z2, f, h1, h2, h3⟩ := t
  obtain ⟨e', q1, q2⟩ := x a _ h1 (.inr (.inr (.inr rfl)))
  obtain ⟨z1', z2', q3⟩ := nrm_st q2
  obtain ⟨e2, q4, q5⟩ := x b _ h2 (.inr rfl)
  exact ⟨b, z1', z2', f, by rw [q1, q3], by rw [q4, nrm_ar q5], h3⟩
theorem TrmR.agr {X : Int64} (t : TrmR h a X) (x : Agr lo hi h h') : TrmR h' a X := by
  rcases t with ⟨nn, y1, y2, y3⟩ | ⟨ss, vv, y1, y2, y3, y4⟩
  · obtain ⟨e', q1, q2⟩ := x a _ y3 (.inr (.inl rfl))
    exact .inl ⟨nn, y1, y2, by rw [q1, nrm_ob (by decide) q2]⟩
  · obtain ⟨e', q1, q2⟩ := x a _ y3 (.inr (.inr (.inl rfl)))
    exact .inr ⟨ss, vv, y1, y2, by rw [q1, nrm_ob (by decide) q2], y4.agr x⟩
theorem SideR.agr {D : Sd} (t : SideR h a D) (x : Agr lo hi h h') (ho : lo ≤ a ∧ a < hi) : SideR h' a D := by
  cases D with
  | inl v => exact ⟨t.1, x.ob t.2 (by decide) ho⟩
  | inr e =>
    obtain ⟨u, w, t1, t2⟩ := t
    exact ⟨u, w, x.ob t1 (by decide) ho, t2.agr x⟩
theorem SideR.lt {D : Sd} (t : SideR h a D) (hf : Fe h) : a < h.2.1 := by
  cases D with
  | inl v => exact hf.lt t.2
  | inr e => obtain ⟨u, w, t1, t2⟩ := t; exact hf.lt t1
/-- a test, as long as its cells stand -/
def TestF (lo hi : Nat) (h : AH) (j u : Nat) (t : Tst) : Prop := ∀ h'', Agr lo hi h h'' → TestR h'' j u t
theorem TestF.re {j u : Nat} {t : Tst} (x : TestF lo hi h j u t) : TestR h j u t := x h Agr.rfl'
theorem TestF.to {j u : Nat} {t : Tst} (x : TestF lo hi h j u t) (y : Agr lo hi h h') : TestF lo hi h' j u t := fun h'' z => x h'' (y.trans z)
theorem TestF.mono {j u : Nat} {t : Tst} (x : TestF lo hi h j u t) (h1 : lo' ≤ lo) (h2 : hi ≤ hi') : TestF lo' hi' h j u t := fun h'' z => x h'' (z.mono h1 h2)
end AGR
