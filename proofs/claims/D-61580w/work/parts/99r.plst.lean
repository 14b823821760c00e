/-! PLAIN: the two stores go together -/
def eff (L : List Tri) (c : Chg) : Prop := if c.1 = true then c.2 ∉ L else c.2 ∈ L
def effL : List Tri → List Chg → Prop
  | L, [] => L.length ≤ 48
  | L, c :: cs => L.length ≤ 48 ∧ eff L c ∧ effL (apT L c) cs
section PLS
variable {K L L' M : List Tri} {c : Chg} {t : Tri} {xs ys cs : List Chg}
theorem set_perm {z : Tri} : ∀ (M : List Tri) (i : Nat), M[i]? = some t → (t :: M.set i z).Perm (z :: M) := by
  intro M
  induction M with
  | nil => intro i h; simp at h
  | cons a M ih =>
    intro i h
    cases i with
    | zero =>
      have : a = t := by simpa using h
      subst this
      exact List.Perm.swap z a M
    | succ i =>
      have h' : M[i]? = some t := by simpa using h
      exact ((List.Perm.swap a t _).trans ((ih i h').cons a)).trans (List.Perm.swap z a M)
theorem swr_perm {i : Nat} (h : L[i]? = some t) : (t :: swr L i).Perm L := by
  have hl := (List.getElem?_eq_some_iff.mp h).1
  have hne : L ≠ [] := fun q => by rw [q] at hl; exact absurd hl (Nat.not_lt_zero _)
  obtain ⟨M, z, rfl⟩ : ∃ M z, L = M ++ [z] := ⟨L.dropLast, L.getLast hne, (List.dropLast_concat_getLast hne).symm⟩
  have hl' : i < M.length + 1 := by rw [List.length_append, List.length_singleton] at hl; exact hl
  unfold swr
  rw [List.getLast?_concat]
  show (t :: ((M ++ [z]).set i z).dropLast).Perm (M ++ [z])
  rcases Nat.lt_or_ge i M.length with hi | hi
  · rw [List.set_append_left _ _ hi, List.dropLast_concat]
    rw [List.getElem?_append_left hi] at h
    exact (set_perm M i h).trans (List.perm_append_singleton z M).symm
  · have : i = M.length := by omega
    subst this
    rw [List.getElem?_append_right (Nat.le_refl _), Nat.sub_self] at h
    have : z = t := by simpa using h
    subst this
    rw [List.set_append_right _ _ (Nat.le_refl _), Nat.sub_self]
    show (z :: (M ++ [z]).dropLast).Perm (M ++ [z])
    rw [List.dropLast_concat]
    exact (List.perm_append_singleton z M).symm
theorem apT_t (h : c.1 = true) : (apT L c).Perm (c.2 :: L) := by
  unfold apT
  rw [if_pos h]
  exact List.perm_append_singleton _ _
theorem apT_f (h : c.1 = false) (hm : c.2 ∈ L) : (c.2 :: apT L c).Perm L := by
  unfold apT
  rw [if_neg (by rw [h]; decide)]
  exact swr_perm (fiT_get hm)
theorem eff_t (h : c.1 = true) (e : eff L c) : c.2 ∉ L := by unfold eff at e; rwa [if_pos h] at e
theorem eff_f (h : c.1 = false) (e : eff L c) : c.2 ∈ L := by unfold eff at e; rwa [if_neg (by rw [h]; decide)] at e
theorem apT_perm (h : L.Perm L') (e : eff L c) : (apT L c).Perm (apT L' c) := by
  cases hc : c.1 with
  | true => exact ((apT_t hc).trans (h.cons _)).trans (apT_t hc).symm
  | false =>
    have hm := eff_f hc e
    exact (((apT_f hc hm).trans h).trans (apT_f hc (h.mem_iff.mp hm)).symm).cons_inv
theorem eff_perm (h : L.Perm L') (e : eff L c) : eff L' c := by
  unfold eff at e ⊢
  split
  · next q => rw [if_pos q] at e; exact fun z => e (h.mem_iff.mpr z)
  · next q => rw [if_neg q] at e; exact h.mem_iff.mp e
theorem effL_len : effL L cs → L.length ≤ 48 := by
  cases cs with
  | nil => exact fun h => h
  | cons c cs => exact fun h => h.1
theorem effL_perm : ∀ (cs : List Chg) {L L' : List Tri}, L.Perm L' → effL L cs → effL L' cs := by
  intro cs
  induction cs with
  | nil => intro L L' h e; show L'.length ≤ 48; rw [← h.length_eq]; exact e
  | cons c cs ih =>
    intro L L' h e
    exact ⟨by rw [← h.length_eq]; exact e.1, eff_perm h e.2.1, ih (apT_perm h e.2.1) e.2.2⟩
theorem apL_perm : ∀ (cs : List Chg) {L L' : List Tri}, L.Perm L' → effL L cs → (apL L cs).Perm (apL L' cs) := by
  intro cs
  induction cs with
  | nil => intro L L' h _; exact h
  | cons c cs ih => intro L L' h e; exact ih (apT_perm h e.2.1) e.2.2
theorem effL_ok : ∀ (cs : List Chg) {L : List Tri}, effL L cs → okL L cs := by
  intro cs
  induction cs with
  | nil => intro L e; exact e
  | cons c cs ih =>
    intro L e
    obtain ⟨e1, e2, e3⟩ := e
    refine ⟨⟨e1, ?_⟩, ih e3⟩
    have hl := effL_len e3
    cases hc : c.1 with
    | true =>
      rw [(apT_t hc).length_eq, List.length_cons] at hl
      rw [if_pos rfl]; omega
    | false =>
      rw [if_neg (by decide)]
      exact eff_f hc e2
theorem effL_app : ∀ {xs ys : List Chg} {L : List Tri}, effL L (xs ++ ys) ↔ effL L xs ∧ effL (apL L xs) ys := by
  intro xs
  induction xs with
  | nil => intro ys L; exact ⟨fun h => ⟨effL_len h, h⟩, fun h => h.2⟩
  | cons x xs ih =>
    intro ys L
    constructor
    · intro h
      obtain ⟨a1, a2⟩ := ih.mp h.2.2
      exact ⟨⟨h.1, h.2.1, a1⟩, a2⟩
    · intro h
      exact ⟨h.1.1, h.1.2.1, ih.mpr ⟨h.1.2.2, h.2⟩⟩
theorem nodup_apT (hn : L.Nodup) (e : eff L c) : (apT L c).Nodup := by
  cases hc : c.1 with
  | true =>
    rw [(apT_t hc).nodup_iff]
    exact List.nodup_cons.mpr ⟨eff_t hc e, hn⟩
  | false =>
    have := (apT_f hc (eff_f hc e)).nodup_iff.mpr hn
    exact (List.nodup_cons.mp this).2
theorem nodup_apL : ∀ (cs : List Chg) {L : List Tri}, L.Nodup → effL L cs → (apL L cs).Nodup := by
  intro cs
  induction cs with
  | nil => intro L h _; exact h
  | cons c cs ih => intro L h e; exact ih (nodup_apT h e.2.1) e.2.2
theorem apT_inv (hn : L.Nodup) (e : eff L c) : eff (apT L c) (inv c) ∧ (apT (apT L c) (inv c)).Perm L := by
  cases hc : c.1 with
  | true =>
    have p := apT_t (L := L) hc
    have hi : (inv c).1 = false := by show (!c.1) = false; rw [hc]; rfl
    have hm : (inv c).2 ∈ apT L c := p.mem_iff.mpr (List.mem_cons_self ..)
    refine ⟨by unfold eff; rw [if_neg (by rw [hi]; decide)]; exact hm, ?_⟩
    exact ((apT_f hi hm).trans p).cons_inv
  | false =>
    have hm := eff_f hc e
    have p := apT_f hc hm
    have hi : (inv c).1 = true := by show (!c.1) = true; rw [hc]; rfl
    have hnm : c.2 ∉ apT L c := (List.nodup_cons.mp (p.nodup_iff.mpr hn)).1
    refine ⟨by unfold eff; rw [if_pos hi]; exact hnm, ?_⟩
    exact (apT_t hi).trans p
theorem undL_snoc : undL (ys ++ [c]) = inv c :: undL ys := by simp [undL, inv]
theorem und_perm : ∀ (n : Nat) (ys : List Chg) (L : List Tri), ys.length = n → K.Nodup → effL K (xs ++ ys) → L.Perm (apL K (xs ++ ys)) → okL L (undL ys) ∧ (apL L (undL ys)).Perm (apL K xs) := by
  intro n
  induction n with
  | zero =>
    intro ys L hl hn he hp
    have : ys = [] := List.length_eq_zero_iff.mp hl
    subst this
    rw [List.append_nil] at he hp
    refine ⟨?_, hp⟩
    show L.length ≤ 48
    rw [hp.length_eq]
    have : effL K (xs ++ []) := by rw [List.append_nil]; exact he
    exact effL_len (effL_app.mp this).2
  | succ n ih =>
    intro ys L hl hn he hp
    have hne : ys ≠ [] := fun q => by rw [q] at hl; cases hl
    obtain ⟨zs, c, rfl⟩ : ∃ zs c, ys = zs ++ [c] := ⟨ys.dropLast, ys.getLast hne, (List.dropLast_concat_getLast hne).symm⟩
    rw [← List.append_assoc] at he hp
    obtain ⟨e1, e2⟩ := effL_app.mp he
    rw [apL_app] at hp
    have hM := nodup_apL _ hn e1
    generalize hM0 : apL K (xs ++ zs) = M at e2 hp hM
    obtain ⟨e3, e4, e5⟩ := e2
    obtain ⟨i1, i2⟩ := apT_inv hM e4
    have hp' : L.Perm (apT M c) := hp
    have iL : eff L (inv c) := eff_perm hp'.symm i1
    have p2 : (apT L (inv c)).Perm M := (apT_perm hp' iL).trans i2
    rw [undL_snoc]
    have hlz : zs.length = n := by rw [List.length_append, List.length_singleton] at hl; omega
    obtain ⟨g1, g2⟩ := ih zs (apT L (inv c)) hlz hn e1 (by rw [hM0]; exact p2)
    refine ⟨⟨⟨by rw [hp'.length_eq]; exact effL_len (cs := []) e5, ?_⟩, g1⟩, g2⟩
    cases hc : (inv c).1 with
    | true =>
      rw [if_pos rfl]
      have := p2.length_eq
      rw [(apT_t hc).length_eq, List.length_cons] at this
      omega
    | false =>
      rw [if_neg (by decide)]
      exact eff_f hc iL
end PLS
/-- the component's committed changes, as the twin has them -/
def ixC : Nat → List (List Chg) → List (Chg × Nat)
  | _, [] => []
  | i, C :: Cs => C.reverse.map (fun c => (c, i)) ++ ixC (i + 1) Cs
def flC (Cm : List (List Chg)) : List Chg := (Cm.map List.reverse).flatten
theorem ixC_fst : ∀ (Cm : List (List Chg)) (i : Nat), (ixC i Cm).map (·.1) = flC Cm := by
  intro Cm
  induction Cm with
  | nil => intro i; rfl
  | cons C Cm ih =>
    intro i
    show (C.reverse.map (fun c => (c, i)) ++ ixC (i + 1) Cm).map (·.1) = (C.reverse :: Cm.map List.reverse).flatten
    rw [List.map_append, ih, List.map_map, List.flatten_cons]
    have : ((fun x : Chg × Nat => x.1) ∘ fun c : Chg => (c, i)) = id := rfl
    rw [this, List.map_id]; rfl
theorem ixC_len (Cm : List (List Chg)) (i : Nat) : (ixC i Cm).length = (flC Cm).length := by rw [← ixC_fst Cm i, List.length_map]
theorem ixC_app : ∀ (Cm : List (List Chg)) (i : Nat) (C : List Chg), ixC i (Cm ++ [C]) = ixC i Cm ++ C.reverse.map (fun c => (c, i + Cm.length)) := by
  intro Cm
  induction Cm with
  | nil => intro i C; show C.reverse.map (fun c => (c, i)) ++ [] = [] ++ _; rw [List.append_nil]; rfl
  | cons D Cm ih =>
    intro i C
    show D.reverse.map (fun c => (c, i)) ++ ixC (i + 1) (Cm ++ [C]) = (D.reverse.map (fun c => (c, i)) ++ ixC (i + 1) Cm) ++ _
    rw [ih, List.append_assoc, List.length_cons, show i + 1 + Cm.length = i + (Cm.length + 1) by omega]
theorem ixC_lt : ∀ (Cm : List (List Chg)) (i : Nat), ∀ c ∈ ixC i Cm, i ≤ c.2 ∧ c.2 < i + Cm.length := by
  intro Cm
  induction Cm with
  | nil => intro i c h; cases h
  | cons D Cm ih =>
    intro i c h
    rw [List.length_cons]
    rcases List.mem_append.mp h with z | z
    · obtain ⟨w, _, rfl⟩ := List.mem_map.mp z
      exact ⟨Nat.le_refl _, by show i < _; omega⟩
    · have := ih (i + 1) c z
      omega
theorem ixC_sel : ∀ (Cm : List (List Chg)) (i k : Nat), selC (i + k) (ixC i Cm) = flC (Cm.take k) := by
  intro Cm
  induction Cm with
  | nil => intro i k; rw [List.take_nil]; rfl
  | cons D Cm ih =>
    intro i k
    have hs : ∀ (xs ys : List (Chg × Nat)) (n : Nat), selC n (xs ++ ys) = selC n xs ++ selC n ys := fun xs ys n => by unfold selC; rw [List.filter_append, List.map_append]
    show selC (i + k) (D.reverse.map (fun c => (c, i)) ++ ixC (i + 1) Cm) = _
    rw [hs]
    cases k with
    | zero =>
      rw [List.take_zero]
      have e1 : selC (i + 0) (D.reverse.map (fun c => (c, i))) = [] := by
        unfold selC
        rw [List.filter_eq_nil_iff.mpr, List.map_nil]
        intro a ha
        obtain ⟨w, _, rfl⟩ := List.mem_map.mp ha
        simp
      have e2 : selC (i + 0) (ixC (i + 1) Cm) = [] := by
        unfold selC
        rw [List.filter_eq_nil_iff.mpr, List.map_nil]
        intro a ha
        have := ixC_lt Cm (i + 1) a ha
        simp; omega
      rw [e1, e2]; rfl
    | succ k =>
      rw [show i + (k + 1) = i + 1 + k by omega, ih (i + 1) k, List.take_succ_cons]
      have e1 : selC (i + 1 + k) (D.reverse.map (fun c => (c, i))) = D.reverse := by
        unfold selC
        rw [List.filter_eq_self.mpr, List.map_map]
        · have : ((fun x : Chg × Nat => x.1) ∘ fun c : Chg => (c, i)) = id := rfl
          rw [this, List.map_id]
        · intro a ha
          obtain ⟨w, _, rfl⟩ := List.mem_map.mp ha
          simp; omega
      rw [e1]; rfl
theorem flC_app {Cm Dm : List (List Chg)} : flC (Cm ++ Dm) = flC Cm ++ flC Dm := by unfold flC; rw [List.map_append, List.flatten_append]
theorem flC_one {C : List Chg} : flC [C] = C.reverse := by unfold flC; simp
theorem unC_und {Cm : List (List Chg)} : unC Cm = undL (flC Cm) := by
  unfold unC undL flC
  rw [List.reverse_flatten, List.map_map]
  have : (List.reverse ∘ List.reverse : List Chg → List Chg) = id := by funext x; exact List.reverse_reverse x
  rw [this, List.map_id]; rfl
theorem inv_und {Cu : List Chg} : Cu.map inv = undL Cu.reverse := by unfold undL; rw [List.reverse_reverse]; rfl
/-- the two stores stand for the same -/
def StR (L : List Tri) (op : Bool) (Cu : List Chg) (Cm : List (List Chg)) (cm : Nat) (a : TA) : Prop := ∃ (Lt K : List Tri) (oF : Nat), a = (Lt, K, ixC 0 Cm ++ Cu.reverse.map (fun c => (c, Cm.length)), cm, Cm.length, oF, op) ∧ (op = true → oF = (ixC 0 Cm).length) ∧ (op = false → Cu = []) ∧ K.Nodup ∧ effL K (flC Cm ++ Cu.reverse) ∧ L.Perm (apL K (flC Cm ++ Cu.reverse)) ∧ Lt.Perm (apL K (flC Cm ++ Cu.reverse))
theorem StR.ini : StR [] false [] [] 0 ([], [], [], 0, 0, 0, false) := ⟨[], [], 0, rfl, (fun q => nomatch q), fun _ => rfl, List.nodup_nil, Nat.zero_le _, List.Perm.refl _, List.Perm.refl _⟩
