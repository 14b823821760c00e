/-! LAW: the world of both sides -/
theorem tw_id {H : AH} {x : Nat} {A : Nat → Nat} {σ : Tw} (hx : H.1 x = some (.inr (1, twF A σ))) (ha : ∀ q ∈ twArr, H.1 (A q.1) = some (twE σ q)) : tW H x A σ = H := by
  refine Prod.ext (funext fun a => ?_) rfl
  show (twC x A σ a).or (H.1 a) = H.1 a
  unfold twC
  by_cases h : a = x
  · rw [if_pos h, h, hx]; rfl
  · rw [if_neg h]
    cases hf : twArr.find? (fun r => A r.1 == a) with
    | none => rfl
    | some r =>
      have hr := List.mem_of_find?_eq_some hf
      have he0 := List.find?_some hf
      have he : A r.1 = a := by simpa using he0
      rw [← he, ha r hr]; rfl
theorem tw_out {H : AH} {x a : Nat} {A : Nat → Nat} {σ : Tw} (hx : a ≠ x) (ha : ∀ q ∈ twArr, A q.1 ≠ a) : (tW H x A σ).1 a = H.1 a := by
  show (twC x A σ a).or (H.1 a) = H.1 a
  unfold twC
  rw [if_neg hx]
  cases hf : twArr.find? (fun r => A r.1 == a) with
  | none => rfl
  | some r =>
    have he0 := List.find?_some hf
    exact absurd (by simpa using he0) (ha r (List.mem_of_find?_eq_some hf))
theorem twE_ar {σ : Tw} {q : Nat × Nat × Nat} : ∃ z : FieldType × vp_A, twE σ q = .inl z ∧ (z.1 = .int ∨ z.1 = .long ∨ z.1 = .boolean) := by
  unfold twE
  split
  · exact ⟨_, rfl, .inr (.inl rfl)⟩
  · split
    · exact ⟨_, rfl, .inr (.inr rfl)⟩
    · exact ⟨_, rfl, .inl rfl⟩
/-- the script at s, the answer's cell at w, the twin at x -/
def Wd (Ω : Om) (H : AH) (s N : Nat) (f : Nat → Int32) (w x : Nat) (A : Nat → Nat) (σ : Tw) : Prop := TwOk Ω.sz x A ∧ tW H x A σ = H ∧ H.1 s = some (arI .int N f) ∧ (∃ g, H.1 w = some (arL 1 g)) ∧ (s ≠ x ∧ w ≠ x ∧ ∀ q ∈ twArr, A q.1 ≠ s ∧ A q.1 ≠ w) ∧ Ω.sz ≤ w ∧ Fe H
section WLD
variable {Ω : Om} {d : Nat} {h h' H H' H1 : AH} {s N w x c k m : Nat} {A : Nat → Nat} {σ σ' : Tw} {f : Nat → Int32} {S : List Nat}
theorem Wd.wx (W : Wd Ω H s N f w x A σ) : H.1 x = some (.inr (1, twF A σ)) := (congrArg (fun h : AH => h.1 x) W.2.1).symm.trans tw_x
theorem Wd.wa (W : Wd Ω H s N f w x A σ) {q : Nat × Nat × Nat} (hq : q ∈ twArr) : H.1 (A q.1) = some (twE σ q) := (congrArg (fun h : AH => h.1 (A q.1)) W.2.1).symm.trans (tw_a W.1 hq)
theorem Wd.nw (W : Wd Ω H s N f w x A σ) (n : NW k m H H') : Wd Ω H' s N f w x A σ := by
  obtain ⟨S, n1, n2⟩ := n
  have na : ∀ {a : Nat} {z : FieldType × vp_A}, H.1 a = some (.inl z) → (z.1 = .int ∨ z.1 = .long ∨ z.1 = .boolean) → a ∉ S := fun {a z} ha hz hs => by
    have := n2 a hs _ ha
    obtain ⟨ty, A⟩ := z
    rcases (this : ty = .object "TripleStore$Triple" ∨ ty = .byte) with e | e
    · subst e; rcases hz with z | z | z <;> cases z
    · subst e; rcases hz with z | z | z <;> cases z
  have nx : x ∉ S := fun hs => by
    rcases (n2 x hs _ W.wx : 1 = 0 ∨ 1 = 6 ∨ 1 = 22) with z | z | z <;> omega
  have hx := W.wx
  have ha := fun {q : Nat × Nat × Nat} (hq : q ∈ twArr) => W.wa hq
  obtain ⟨w1, w2, w3, ⟨g, w4⟩, w5, w6, w7⟩ := W
  refine ⟨w1, tw_id (n1.ob hx (by decide) nx) (fun q hq => ?_), n1.ar w3 (na w3 (.inl rfl)), ⟨g, n1.ar w4 (na w4 (.inr (.inl rfl)))⟩, w5, w6, n1.2.1⟩
  obtain ⟨z, z1, z2⟩ := twE_ar (σ := σ) (q := q)
  have h1 := ha hq
  rw [z1] at h1 ⊢
  exact n1.ar h1 (na h1 z2)
/-- the twin's cells -/
abbrev twCs (x : Nat) (A : Nat → Nat) : List Nat := x :: twArr.map (fun q => A q.1)
theorem Wd.tk (W : Wd Ω H s N f w x A σ) : ∀ q ∈ twCs x A, ∀ e, H.1 q = some e → Tk e := fun q hq e he => by
  rcases List.mem_cons.mp hq with z | z
  · rw [z, W.wx] at he; cases he; rfl
  · obtain ⟨r, r1, r2⟩ := List.mem_map.mp z
    obtain ⟨z, z1, z2⟩ := twE_ar (σ := σ) (q := r)
    rw [← r2, W.wa r1, z1] at he
    cases he
    exact z2
theorem Wd.tw (W : Wd Ω H s N f w x A σ) : Wd Ω (tW H x A σ') s N f w x A σ' ∧ Nx (twCs x A) 0 0 H (tW H x A σ') := by
  have hx := W.wx
  have ha := fun {q : Nat × Nat × Nat} (hq : q ∈ twArr) => W.wa hq
  obtain ⟨w1, w2, w3, ⟨g, w4⟩, ⟨w5, w6, w7⟩, w8, w9⟩ := W
  have hFe : Fe (tW H x A σ') := fun a hal => by
    have ha2 : H.2.1 ≤ a := hal
    rw [tw_out (fun e => by have := w9.lt hx; omega) (fun q hq e => by have := w9.lt (ha hq); omega)]
    exact w9 a ha2
  refine ⟨⟨w1, tw_id tw_x (fun q hq => tw_a w1 hq), ?_, ⟨g, ?_⟩, ⟨w5, w6, w7⟩, w8, hFe⟩, w9, hFe, Nat.le_refl _, Nat.le_refl _, Nat.le_refl _, Nat.le_refl _, fun a e hs he => ?_⟩
  · rw [tw_out w5 (fun q hq => (w7 q hq).1)]; exact w3
  · rw [tw_out w6 (fun q hq => (w7 q hq).2)]; exact w4
  · refine ⟨e, ?_, rfl⟩
    rw [tw_out (fun z => hs (by rw [z]; exact List.mem_cons_self ..)) (fun q hq z => hs (List.mem_cons_of_mem _ (List.mem_map.mpr ⟨q, hq, z⟩)))]
    exact he
theorem Wd.out (W : Wd Ω H s N f w x A σ) {g : Nat → Int64} : Wd Ω (hput H w (arL 1 g)) s N f w x A σ ∧ Nx [w] 0 0 H (hput H w (arL 1 g)) := by
  have hx := W.wx
  have ha := fun {q : Nat × Nat × Nat} (hq : q ∈ twArr) => W.wa hq
  obtain ⟨w1, w2, w3, ⟨g0, w4⟩, ⟨w5, w6, w7⟩, w8, w9⟩ := W
  have n : Nx [w] 0 0 H (hput H w (arL 1 g)) := (Nx.rfl' w9).put (.inl (by simp)) (w9.lt w4)
  have hsw : s ≠ w := fun z => by rw [z, w4] at w3; cases w3
  refine ⟨⟨w1, tw_id (by rw [hput_n w6.symm]; exact hx) (fun q hq => by rw [hput_n (w7 q hq).2]; exact ha hq), by rw [hput_n hsw]; exact w3, ⟨g, hput_e⟩, ⟨w5, w6, w7⟩, w8, n.2.1⟩, n⟩
theorem Wd.outk (W : Wd Ω H s N f w x A σ) : ∀ q ∈ [w], ∀ e, H.1 q = some e → Tk e := fun q hq e he => by
  obtain ⟨w1, w2, w3, ⟨g0, w4⟩, _⟩ := W
  rw [List.mem_singleton.mp hq, w4] at he
  cases he
  exact .inr (.inl rfl)
theorem Tk.fs (hS : ∀ q ∈ S, ∀ e, h.1 q = some e → Tk e) : FS h S := fun q hq e he => by
  have := hS q hq e he
  rcases e with ⟨ty, N, f⟩ | ⟨ci, fs⟩
  · rcases (this : ty = .int ∨ ty = .long ∨ ty = .boolean) with z | z | z <;> (subst z; exact ⟨(fun z => nomatch z), fun z => (nomatch z)⟩)
  · have : ci = 1 := this
    subst this; show 1 ∉ _; decide
theorem Tk.na {a ci : Nat} {fs : List Value} (hS : ∀ q ∈ S, ∀ e, h.1 q = some e → Tk e) (ha : h.1 a = some (.inr (ci, fs))) (hc : ci ≠ 1) : a ∉ S := fun z => hc (hS a z _ ha)
theorem Tk.nr {a : Nat} {q : FieldType × vp_A} (hS : ∀ q ∈ S, ∀ e, h.1 q = some e → Tk e) (ha : h.1 a = some (.inl q)) (hc : q.1 ≠ .int ∧ q.1 ≠ .long ∧ q.1 ≠ .boolean) : a ∉ S := fun z => by
  obtain ⟨ty, A⟩ := q
  rcases (hS a z _ ha : ty = .int ∨ ty = .long ∨ ty = .boolean) with w | w | w
  · exact hc.1 w
  · exact hc.2.1 w
  · exact hc.2.2 w
theorem CpR.keep {L : List Tri} {op : Bool} {Cu : List Chg} {Cm : List (List Chg)} {cm co : Nat} {tx : List Nat} {fa : Int32} {R : List Rw} (C : CpR Ω h c L op Cu Cm cm tx fa R co) (n : Nx S k m h h') (hS : ∀ q ∈ S, ∀ e, h.1 q = some e → Tk e) : CpR Ω h' c L op Cu Cm cm tx fa R co := by
  have hF := Tk.fs hS
  obtain ⟨sb, bb, ra, N, fr, h1, h2, h3, h4, h5, h6, h7, h8, h9, h10, h11⟩ := C
  obtain ⟨tr, ch, A, hc, hT, hCh, hA, hFe, z1, z2, z3⟩ := h1
  have h20 := h2
  obtain ⟨z, f, s1, s2, _⟩ := h20
  have hT0 := hT
  obtain ⟨f', f1, _⟩ := hT0
  refine ⟨sb, bb, ra, N, fr, ⟨tr, ch, A, n.ob hc (by decide) (Tk.na hS hc (by decide)), hT.fs n hF (Tk.nr hS f1 ⟨(fun z => nomatch z), (fun z => nomatch z), (fun z => nomatch z)⟩), ChnR.fs n hF _ _ hCh, hA.fs n hF (fun q hq => ?_), n.2.1, z1, z2, Nat.le_trans z3 n.2.2.1⟩, h2.nx n (Tk.na hS s1 (by decide)) (Tk.nr hS s2 ⟨(fun z => nomatch z), (fun z => nomatch z), (fun z => nomatch z)⟩), n.ar h3 (Tk.nr hS h3 ⟨(fun z => nomatch z), (fun z => nomatch z), (fun z => nomatch z)⟩), h4.fs n hF, h5, h6.fs n hF, h7, h8, h9, h10, h11⟩
  obtain ⟨fs, hfs⟩ := hA.cl hq
  exact Tk.na hS hfs (by decide)
end WLD
