/-! PLAIN: what a group finds does not hang on the triples' order -/
def OP (a b : Option (List Sol)) : Prop := (a = none ∧ b = none) ∨ ∃ l l', a = some l ∧ b = some l' ∧ l.Perm l'
section EVP
variable {A A' B B' l l' : List Sol} {L L' : List Tri} {a b : Option (List Sol)}
theorem OP.s (h : l.Perm l') : OP (some l) (some l') := .inr ⟨l, l', rfl, rfl, h⟩
theorem OP.bind {f g : List Sol → Option (List Sol)} (h : OP a b) (hf : ∀ l l', l.Perm l' → OP (f l) (g l')) : OP (a.bind f) (b.bind g) := by
  rcases h with ⟨rfl, rfl⟩ | ⟨l, l', rfl, rfl, h⟩
  · exact .inl ⟨rfl, rfl⟩
  · exact hf l l' h
theorem capL_p (h : l.Perm l') : OP (capL l) (capL l') := by
  unfold capL
  rw [h.length_eq]
  split
  · exact OP.s h
  · exact .inl ⟨rfl, rfl⟩
theorem fm_right {f : Sol → List Sol} (h : A.Perm A') : (A.flatMap f).Perm (A'.flatMap f) := by
  induction h with
  | nil => exact List.Perm.refl _
  | cons x _ ih => rw [List.flatMap_cons, List.flatMap_cons]; exact ih.append_left _
  | swap x y l =>
    rw [List.flatMap_cons, List.flatMap_cons, List.flatMap_cons, List.flatMap_cons, ← List.append_assoc, ← List.append_assoc]
    exact List.perm_append_comm.append_right _
  | trans _ _ h1 h2 => exact h1.trans h2
theorem fm_left {f g : Sol → List Sol} (h : ∀ s, (f s).Perm (g s)) : (A.flatMap f).Perm (A.flatMap g) := by
  induction A with
  | nil => exact List.Perm.refl _
  | cons x A ih => rw [List.flatMap_cons, List.flatMap_cons]; exact (h x).append ih
theorem mtch_p {s : Sol} (h : B.Perm B') : (mtch s B).Perm (mtch s B') := (h.filter _).map _
theorem joinL_p (h1 : A.Perm A') (h2 : B.Perm B') : (joinL A B).Perm (joinL A' B') := (fm_right h1).trans (fm_left (fun s => mtch_p h2))
theorem optL_p (h1 : A.Perm A') (h2 : B.Perm B') : (optL A B).Perm (optL A' B') := by
  refine (fm_right h1).trans (fm_left (fun s => ?_))
  have hp := mtch_p (s := s) h2
  by_cases hm : mtch s B = []
  · have hm' : mtch s B' = [] := by rw [hm] at hp; exact hp.nil_eq.symm
    rw [if_pos hm, if_pos hm']
  · have hm' : ¬ mtch s B' = [] := fun q => hm (by rw [q] at hp; exact hp.symm.nil_eq.symm)
    rw [if_neg hm, if_neg hm']
    exact hp
theorem any_p {f : Sol → Bool} (h : B.Perm B') : B.any f = B'.any f := by
  rw [Bool.eq_iff_iff, List.any_eq_true, List.any_eq_true]
  constructor
  · intro ⟨x, x1, x2⟩; exact ⟨x, h.mem_iff.mp x1, x2⟩
  · intro ⟨x, x1, x2⟩; exact ⟨x, h.mem_iff.mpr x1, x2⟩
theorem minL_p (h1 : A.Perm A') (h2 : B.Perm B') : (minL A B).Perm (minL A' B') := by
  unfold minL
  have e : (fun a => !(B.any (fun b => compB a b && shrB a b))) = (fun a => !(B'.any (fun b => compB a b && shrB a b))) := by
    funext a
    rw [any_p h2]
  rw [e]
  exact h1.filter _
theorem patL_p {p : Pat} (h : L.Perm L') : (patL p L).Perm (patL p L') := h.filterMap _
theorem uniE_p {G : Type} {ev ev' : G → Option (List Sol)} (he : ∀ g, OP (ev g) (ev' g)) : ∀ (gs : List G) (l l' : List Sol), l.Perm l' → OP (uniE ev gs l) (uniE ev' gs l') := by
  intro gs
  induction gs with
  | nil => intro l l' h; exact OP.s h
  | cons g gs ih =>
    intro l l' h
    show OP ((ev g).bind _) ((ev' g).bind _)
    refine (he g).bind (fun p p' hp => ?_)
    exact (capL_p (h.append hp)).bind (fun q q' hq => ih q q' hq)
theorem evE_p {G : Type} {ev ev' : G → Option (List Sol)} (he : ∀ g, OP (ev g) (ev' g)) (hL : L.Perm L') (e : El G) (h : l.Perm l') : OP (evE ev L e l) (evE ev' L' e l') := by
  rcases e with p | t | g | g | gs
  · exact capL_p (joinL_p h (patL_p hL))
  · exact OP.s h
  · exact (he g).bind (fun q q' hq => capL_p (optL_p h hq))
  · exact (he g).bind (fun q q' hq => OP.s (minL_p h hq))
  · exact (uniE_p he gs [] [] (List.Perm.refl _)).bind (fun q q' hq => capL_p (joinL_p h hq))
theorem evEs_p {G : Type} {ev ev' : G → Option (List Sol)} (he : ∀ g, OP (ev g) (ev' g)) (hL : L.Perm L') : ∀ (es : List (El G)) (l l' : List Sol), l.Perm l' → OP (evEs ev L es l) (evEs ev' L' es l') := by
  intro es
  induction es with
  | nil => intro l l' h; exact OP.s h
  | cons e es ih =>
    intro l l' h
    show OP ((evE ev L e l).bind _) ((evE ev' L' e l').bind _)
    exact (evE_p he hL e h).bind (fun q q' hq => ih q q' hq)
theorem evG_p (hL : L.Perm L') : ∀ (n : Nat) (g : GT n), OP (evG L n g) (evG L' n g) := by
  intro n
  induction n with
  | zero => intro g; exact nomatch g
  | succ n ih =>
    intro g
    show OP ((evEs (evG L n) L g [empS]).bind _) ((evEs (evG L' n) L' g [empS]).bind _)
    refine (evEs_p ih hL g [empS] [empS] (List.Perm.refl _)).bind (fun q q' hq => OP.s (hq.filter _))
end EVP
