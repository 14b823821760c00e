/-! PLAIN: both sides' rows -/
def insQ (fl : Bool) (r : Rw) : List Rw → List Rw
  | [] => [r]
  | x :: xs => if befR fl r x = true then x :: insQ fl r xs else r :: x :: xs
def srtQ (fl : Bool) (rs rv : List Rw) : List Rw := rs.foldl (fun rv r => insQ fl r rv) rv
section RWS
variable {fl di : Bool} {n : Nat} {r x : Rw} {R S T rs rv : List Rw} {cols : List Nat} {o : Option Nat × Bool}
theorem insP_app {ys : List Rw} : ∀ k, k ≤ R.length → insP fl r (R ++ ys) k = insP fl r R k := by
  intro k
  induction k with
  | zero => intro _; rfl
  | succ k ih =>
    intro hk
    unfold insP
    rw [List.getElem?_append_left (by omega), ih (by omega)]
theorem insR_snoc : insR fl r (R ++ [x]) = if befR fl r x = true then insR fl r R ++ [x] else R ++ [x] ++ [r] := by
  have e : insP fl r (R ++ [x]) (R ++ [x]).length = if befR fl r x = true then insP fl r R R.length else R.length + 1 := by
    rw [List.length_append, List.length_singleton]
    show (match (R ++ [x])[R.length]? with | some y => if befR fl r y = true then insP fl r (R ++ [x]) R.length else R.length + 1 | none => R.length + 1) = _
    rw [List.getElem?_append_right (Nat.le_refl _), Nat.sub_self]
    show (if befR fl r x = true then insP fl r (R ++ [x]) R.length else R.length + 1) = _
    rw [insP_app _ (Nat.le_refl _)]
  unfold insR
  rw [e]
  by_cases h : befR fl r x = true
  · rw [if_pos h, if_pos h]
    have hl := insP_le (fa := fl) (r := r) (R := R) R.length
    rw [List.take_append_of_le_length hl, List.drop_append_of_le_length hl, List.append_assoc, List.cons_append]
  · rw [if_neg h, if_neg h]
    have hl : (R ++ [x]).length = R.length + 1 := by simp
    rw [← hl, List.take_length, List.drop_length]
theorem insR_rev : ∀ (n : Nat) (R : List Rw), R.length = n → insR fl r R = (insQ fl r R.reverse).reverse := by
  intro n
  induction n with
  | zero =>
    intro R h
    have : R = [] := List.length_eq_zero_iff.mp h
    subst this
    rfl
  | succ n ih =>
    intro R h
    have hne : R ≠ [] := fun q => by rw [q] at h; cases h
    obtain ⟨M, x, rfl⟩ : ∃ M x, R = M ++ [x] := ⟨R.dropLast, R.getLast hne, (List.dropLast_concat_getLast hne).symm⟩
    have hM : M.length = n := by rw [List.length_append, List.length_singleton] at h; omega
    rw [insR_snoc, List.reverse_append, List.reverse_singleton, List.singleton_append]
    show _ = (if befR fl r x = true then x :: insQ fl r M.reverse else r :: x :: M.reverse).reverse
    by_cases hb : befR fl r x = true
    · rw [if_pos hb, if_pos hb, List.reverse_cons, ih M hM]
    · rw [if_neg hb, if_neg hb, List.reverse_cons, List.reverse_cons, List.reverse_reverse]
theorem insQ_p : (insQ fl r rv).Perm (r :: rv) := by
  induction rv with
  | nil => exact List.Perm.refl _
  | cons x xs ih =>
    unfold insQ
    split
    · exact (ih.cons x).trans (List.Perm.swap r x xs)
    · exact List.Perm.refl _
theorem insR_p : (insR fl r R).Perm (r :: R) := by
  rw [insR_rev R.length R rfl]
  exact (List.reverse_perm _).trans (insQ_p.trans ((List.reverse_perm R).cons r))
def Asc (fl : Bool) (R : List Rw) : Prop := R.Pairwise (fun a b => befR fl b a = false)
theorem insQ_s (hr : Dm n r) (hD : ∀ x ∈ rv, Dm n x) (h : rv.Pairwise (fun a b => befR fl a b = false)) : (insQ fl r rv).Pairwise (fun a b => befR fl a b = false) := by
  induction rv with
  | nil => exact List.pairwise_singleton _ _
  | cons x xs ih =>
    obtain ⟨h1, h2⟩ := List.pairwise_cons.mp h
    have hx := hD x (List.mem_cons_self ..)
    have hxs : ∀ y ∈ xs, Dm n y := fun y hy => hD y (List.mem_cons_of_mem _ hy)
    unfold insQ
    split
    · next hb =>
      refine List.pairwise_cons.mpr ⟨fun y hy => ?_, ih hxs h2⟩
      rcases List.mem_cons.mp (insQ_p.mem_iff.mp hy) with z | z
      · rw [z]
        cases h3 : befR fl x r with
        | false => rfl
        | true =>
          have := befR_tr hr hx hr hb h3
          rw [befR_irr hr] at this; cases this
      · exact h1 y z
    · next hb =>
      have hb' : befR fl r x = false := by cases h3 : befR fl r x with
        | false => rfl
        | true => exact absurd h3 hb
      refine List.pairwise_cons.mpr ⟨fun y hy => ?_, h⟩
      rcases List.mem_cons.mp hy with z | z
      · rw [z]; exact hb'
      · exact befR_le hr hx (hxs y z) hb' (h1 y z)
theorem insR_s (hr : Dm n r) (hD : ∀ x ∈ R, Dm n x) (h : Asc fl R) : Asc fl (insR fl r R) := by
  rw [insR_rev R.length R rfl]
  unfold Asc
  rw [List.pairwise_reverse]
  refine insQ_s hr (fun x hx => hD x (List.mem_reverse.mp hx)) ?_
  rw [List.pairwise_reverse]
  exact h
theorem asc_eq : ∀ (S T : List Rw), Asc fl S → Asc fl T → (∀ x ∈ S, Dm n x) → S.Perm T → S = T := by
  intro S
  induction S with
  | nil => intro T _ _ _ hp; exact hp.nil_eq
  | cons a S ih =>
    intro T h1 h2 hD hp
    cases T with
    | nil => exact absurd hp.length_eq (by simp)
    | cons b T =>
      obtain ⟨a1, a2⟩ := List.pairwise_cons.mp h1
      obtain ⟨b1, b2⟩ := List.pairwise_cons.mp h2
      have hDb : Dm n b := hD b (hp.mem_iff.mpr (List.mem_cons_self ..))
      have hDa := hD a (List.mem_cons_self ..)
      have hab : a = b := by
        rcases List.mem_cons.mp (hp.mem_iff.mp (List.mem_cons_self ..)) with z | z
        · exact z
        · rcases List.mem_cons.mp (hp.mem_iff.mpr (List.mem_cons_self (a := b) (l := T))) with w | w
          · exact w.symm
          · exact befR_tot hDa hDb (b1 a z) (a1 b w)
      subst hab
      rw [ih T a2 b2 (fun x hx => hD x (List.mem_cons_of_mem _ hx)) hp.cons_inv]
def NC (R : List Rw) : Prop := R.Pairwise (fun a b => a.2 ≠ b.2)
theorem nc_eq : ∀ (S T : List Rw), Asc fl S → Asc fl T → NC S → NC T → (∀ x ∈ S, Dm n x) → (∀ x, x ∈ S ↔ x ∈ T) → S = T := by
  intro S
  induction S with
  | nil =>
    intro T _ _ _ _ _ hm
    cases T with
    | nil => rfl
    | cons b T => exact absurd ((hm b).mpr (List.mem_cons_self ..)) (by simp)
  | cons a S ih =>
    intro T h1 h2 c1 c2 hD hm
    cases T with
    | nil => exact absurd ((hm a).mp (List.mem_cons_self ..)) (by simp)
    | cons b T =>
      obtain ⟨a1, a2⟩ := List.pairwise_cons.mp h1
      obtain ⟨b1, b2⟩ := List.pairwise_cons.mp h2
      obtain ⟨a3, a4⟩ := List.pairwise_cons.mp c1
      obtain ⟨b3, b4⟩ := List.pairwise_cons.mp c2
      have hDb : Dm n b := hD b ((hm b).mpr (List.mem_cons_self ..))
      have hDa := hD a (List.mem_cons_self ..)
      have hab : a = b := by
        rcases List.mem_cons.mp ((hm a).mp (List.mem_cons_self ..)) with z | z
        · exact z
        · rcases List.mem_cons.mp ((hm b).mpr (List.mem_cons_self ..)) with w | w
          · exact w.symm
          · exact befR_tot hDa hDb (b1 a z) (a1 b w)
      subst hab
      rw [ih T a2 b2 a4 b4 (fun x hx => hD x (List.mem_cons_of_mem _ hx)) (fun x => ⟨fun hx => ?_, fun hx => ?_⟩)]
      · rcases List.mem_cons.mp ((hm x).mp (List.mem_cons_of_mem _ hx)) with z | z
        · exact absurd (by rw [z]) (a3 x hx)
        · exact z
      · rcases List.mem_cons.mp ((hm x).mpr (List.mem_cons_of_mem _ hx)) with z | z
        · exact absurd (by rw [z]) (b3 x hx)
        · exact z
/-- the rows of a distinct query: in order, of each kind the first -/
def GD (fl : Bool) (rs R : List Rw) : Prop := Asc fl R ∧ NC R ∧ (∀ x ∈ R, x ∈ rs) ∧ ∀ q ∈ rs, ∃ x ∈ R, x.2 = q.2 ∧ befR fl q x = false
theorem GD.mem {R' rs' : List Rw} (h : GD fl rs R) (h' : GD fl rs' R') (hm : ∀ x, x ∈ rs ↔ x ∈ rs') (hD : ∀ x ∈ rs, Dm n x) (hx : x ∈ R) : x ∈ R' := by
  have x1 := h.2.2.1 x hx
  obtain ⟨y, y1, y2, y3⟩ := h'.2.2.2 x ((hm x).mp x1)
  have y4 := (hm y).mpr (h'.2.2.1 y y1)
  obtain ⟨z, z1, z2, z3⟩ := h.2.2.2 y y4
  have hzx : z = x := by
    by_cases e : z = x
    · exact e
    · exfalso
      have hs : ∀ (l : List Rw), NC l → z ∈ l → x ∈ l → z.2 ≠ x.2 := by
        intro l
        induction l with
        | nil => intro _ hz; cases hz
        | cons w l ih =>
          intro hc hz hx'
          obtain ⟨c1, c2⟩ := List.pairwise_cons.mp hc
          rcases List.mem_cons.mp hz with z1 | z2
          · rcases List.mem_cons.mp hx' with q | x2
            · exact absurd (z1.trans q.symm) e
            · rw [z1]; exact c1 x x2
          · rcases List.mem_cons.mp hx' with q | x2
            · rw [q]; exact fun u => c1 z z2 u.symm
            · exact ih c2 z2 x2
      exact hs R h.2.1 z1 hx (z2.trans y2)
  subst hzx
  rw [befR_tot (hD z x1) (hD y y4) y3 z3]
  exact y1
theorem GD.eq {R' rs' : List Rw} (h : GD fl rs R) (h' : GD fl rs' R') (hm : ∀ x, x ∈ rs ↔ x ∈ rs') (hD : ∀ x ∈ rs, Dm n x) : R = R' :=
  nc_eq R R' h.1 h'.1 h.2.1 h'.2.1 (fun x hx => hD x (h.2.2.1 x hx)) (fun _ => ⟨fun hx => h.mem h' hm hD hx, fun hx => h'.mem h (fun x => (hm x).symm) (fun x hx => hD x ((hm x).mpr hx)) hx⟩)
theorem cz (hr : Dm n r) (hx : Dm n x) : byL r.2 x.2 = 0 ↔ r.2 = x.2 := byL_z (hr.2.1.trans hx.2.1.symm) hr.2.2 hx.2.2
theorem entR_GD (h : GD fl rs R) (hD : ∀ x ∈ rs, Dm n x) (hr : Dm n r) : GD fl (rs ++ [r]) (entR true fl r R) := by
  obtain ⟨g1, g2, g3, g4⟩ := h
  have hDR : ∀ x ∈ R, Dm n x := fun x hx => hD x (g3 x hx)
  have memi : ∀ {M : List Rw} {y : Rw}, y ∈ insR fl r M ↔ y = r ∨ y ∈ M := fun {M y} => by rw [insR_p.mem_iff]; exact List.mem_cons
  unfold entR
  rw [if_pos rfl]
  cases hf : R[fiR r R]? with
  | none =>
    show GD fl (rs ++ [r]) (insR fl r R)
    have hno : ∀ x ∈ R, x.2 ≠ r.2 := fun x hx e => by
      have hl : R.length ≤ fiR r R := List.getElem?_eq_none_iff.mp hf
      unfold fiR at hl
      have : R.findIdx (fun y : Rw => decide (byL y.2 r.2 = 0)) < R.length := List.findIdx_lt_length.mpr ⟨x, hx, decide_eq_true ((cz (hDR x hx) hr).mpr e)⟩
      omega
    refine ⟨insR_s hr hDR g1, ?_, fun x hx => ?_, fun q hq => ?_⟩
    · have : NC (r :: R) := List.pairwise_cons.mpr ⟨fun x hx => (hno x hx).symm, g2⟩
      exact (insR_p.pairwise_iff (fun {a b} h => h.symm)).mpr this
    · rcases memi.mp hx with z | z
      · rw [z]; simp
      · exact List.mem_append_left _ (g3 x z)
    · rcases List.mem_append.mp hq with z | z
      · obtain ⟨x, x1, x2⟩ := g4 q z
        exact ⟨x, memi.mpr (.inr x1), x2⟩
      · rw [List.mem_singleton.mp z]
        exact ⟨r, memi.mpr (.inl rfl), rfl, befR_irr hr⟩
  | some x =>
    have hil := (List.getElem?_eq_some_iff.mp hf).1
    have hxR := List.mem_of_getElem? hf
    have hxc : x.2 = r.2 := by
      have hil' : R.findIdx (fun y : Rw => decide (byL y.2 r.2 = 0)) < R.length := hil
      have := List.findIdx_getElem (w := hil')
      have e : R[R.findIdx (fun y : Rw => decide (byL y.2 r.2 = 0))]'hil' = x := (List.getElem?_eq_some_iff.mp hf).2
      rw [e] at this
      exact (cz (hDR x hxR) hr).mp (of_decide_eq_true this)
    show GD fl (rs ++ [r]) (if befR fl r x = true then insR fl r (R.eraseIdx (fiR r R)) else R)
    by_cases hb : befR fl r x = true
    · rw [if_pos hb]
      have eR : R = R.take (fiR r R) ++ x :: R.drop (fiR r R + 1) := by
        have := List.take_append_drop (fiR r R) R
        rw [List.drop_eq_getElem_cons hil, (List.getElem?_eq_some_iff.mp hf).2] at this
        exact this.symm
      have eE : R.eraseIdx (fiR r R) = R.take (fiR r R) ++ R.drop (fiR r R + 1) := List.eraseIdx_eq_take_drop_succ ..
      have pR : R.Perm (x :: R.eraseIdx (fiR r R)) := by
        rw [eE]
        conv => lhs; rw [eR]
        exact List.perm_middle
      have sub : (R.eraseIdx (fiR r R)).Sublist R := List.eraseIdx_sublist ..
      have ncx : NC (x :: R.eraseIdx (fiR r R)) := (pR.pairwise_iff (fun {a b} h => h.symm)).mp g2
      obtain ⟨n1, n2⟩ := List.pairwise_cons.mp ncx
      refine ⟨insR_s hr (fun y hy => hDR y (sub.subset hy)) (g1.sublist sub), ?_, fun y hy => ?_, fun q hq => ?_⟩
      · have : NC (r :: R.eraseIdx (fiR r R)) := List.pairwise_cons.mpr ⟨fun y hy => by rw [← hxc]; exact n1 y hy, n2⟩
        exact (insR_p.pairwise_iff (fun {a b} h => h.symm)).mpr this
      · rcases memi.mp hy with z | z
        · rw [z]; simp
        · exact List.mem_append_left _ (g3 y (sub.subset z))
      · rcases List.mem_append.mp hq with z | z
        · obtain ⟨y, y1, y2, y3⟩ := g4 q z
          rcases List.mem_cons.mp (pR.mem_iff.mp y1) with w | w
          · subst w
            refine ⟨r, memi.mpr (.inl rfl), hxc.symm.trans y2, ?_⟩
            cases h3 : befR fl q r with
            | false => rfl
            | true =>
              rw [befR_tr (hD q z) hr (hDR y hxR) h3 hb] at y3; cases y3
          · exact ⟨y, memi.mpr (.inr w), y2, y3⟩
        · rw [List.mem_singleton.mp z]
          exact ⟨r, memi.mpr (.inl rfl), rfl, befR_irr hr⟩
    · rw [if_neg hb]
      refine ⟨g1, g2, fun y hy => List.mem_append_left _ (g3 y hy), fun q hq => ?_⟩
      rcases List.mem_append.mp hq with z | z
      · exact g4 q z
      · rw [List.mem_singleton.mp z]
        refine ⟨x, hxR, hxc, ?_⟩
        cases h3 : befR fl r x with
        | false => rfl
        | true => exact absurd h3 hb
theorem etR_GD : ∀ (m : Nat) (rs : List Rw), rs.length = m → (∀ x ∈ rs, Dm n x) → GD fl rs (etR true fl rs []) := by
  intro m
  induction m with
  | zero =>
    intro rs h _
    have : rs = [] := List.length_eq_zero_iff.mp h
    subst this
    exact ⟨List.Pairwise.nil, List.Pairwise.nil, (fun x hx => nomatch hx), (fun q hq => nomatch hq)⟩
  | succ m ih =>
    intro rs h hD
    have hne : rs ≠ [] := fun q => by rw [q] at h; cases h
    obtain ⟨M, x, rfl⟩ : ∃ M x, rs = M ++ [x] := ⟨rs.dropLast, rs.getLast hne, (List.dropLast_concat_getLast hne).symm⟩
    rw [etR_snoc]
    exact entR_GD (ih M (by rw [List.length_append, List.length_singleton] at h; omega) (fun y hy => hD y (List.mem_append_left _ hy))) (fun y hy => hD y (List.mem_append_left _ hy)) (hD x (by simp))
theorem etR_s : ∀ (m : Nat) (rs : List Rw), rs.length = m → (∀ x ∈ rs, Dm n x) → Asc fl (etR false fl rs []) ∧ (etR false fl rs []).Perm rs := by
  intro m
  induction m with
  | zero =>
    intro rs h _
    have : rs = [] := List.length_eq_zero_iff.mp h
    subst this
    exact ⟨List.Pairwise.nil, List.Perm.refl _⟩
  | succ m ih =>
    intro rs h hD
    have hne : rs ≠ [] := fun q => by rw [q] at h; cases h
    obtain ⟨M, x, rfl⟩ : ∃ M x, rs = M ++ [x] := ⟨rs.dropLast, rs.getLast hne, (List.dropLast_concat_getLast hne).symm⟩
    rw [etR_snoc]
    obtain ⟨i1, i2⟩ := ih M (by rw [List.length_append, List.length_singleton] at h; omega) (fun y hy => hD y (List.mem_append_left _ hy))
    have e : entR false fl x (etR false fl M []) = insR fl x (etR false fl M []) := by unfold entR; rw [if_neg (by decide)]
    rw [e]
    exact ⟨insR_s (hD x (by simp)) (fun y hy => hD y (List.mem_append_left _ (i2.mem_iff.mp hy))) i1, insR_p.trans ((i2.cons x).trans (List.perm_append_singleton x M).symm)⟩
/-- the twin's dropping of what was there -/
def dd : List Rw → List Rw → List Rw
  | _, [] => []
  | prev, r :: rs => if prev.any (fun q => decide (byL q.2 r.2 = 0)) = true then dd (prev ++ [r]) rs else r :: dd (prev ++ [r]) rs
theorem dd_sub : ∀ (S prev : List Rw), (dd prev S).Sublist S := by
  intro S
  induction S with
  | nil => intro _; exact List.Sublist.refl _
  | cons r S ih =>
    intro prev
    unfold dd
    split
    · exact (ih _).cons r
    · exact (ih _).cons₂ r
theorem dd_any {prev : List Rw} (hp : ∀ x ∈ prev, Dm n x) (hr : Dm n r) : prev.any (fun q => decide (byL q.2 r.2 = 0)) = true ↔ ∃ p ∈ prev, p.2 = r.2 := by
  rw [List.any_eq_true]
  constructor
  · intro ⟨p, p1, p2⟩; exact ⟨p, p1, (cz (hp p p1) hr).mp (of_decide_eq_true p2)⟩
  · intro ⟨p, p1, p2⟩; exact ⟨p, p1, decide_eq_true ((cz (hp p p1) hr).mpr p2)⟩
theorem dd_nc : ∀ (S prev : List Rw), (∀ x ∈ S, Dm n x) → (∀ x ∈ prev, Dm n x) → NC (dd prev S) ∧ ∀ x ∈ dd prev S, ∀ p ∈ prev, p.2 ≠ x.2 := by
  intro S
  induction S with
  | nil => intro _ _ _; exact ⟨List.Pairwise.nil, fun x hx => (nomatch hx)⟩
  | cons r S ih =>
    intro prev hS hp
    have hr := hS r (List.mem_cons_self ..)
    obtain ⟨i1, i2⟩ := ih (prev ++ [r]) (fun x hx => hS x (List.mem_cons_of_mem _ hx)) (fun x hx => by
      rcases List.mem_append.mp hx with z | z
      · exact hp x z
      · rw [List.mem_singleton.mp z]; exact hr)
    unfold dd
    split
    · exact ⟨i1, fun x hx p hp' => i2 x hx p (List.mem_append_left _ hp')⟩
    · next hc =>
      refine ⟨List.pairwise_cons.mpr ⟨fun x hx => i2 x hx r (by simp), i1⟩, fun x hx p hp' => ?_⟩
      rcases List.mem_cons.mp hx with z | z
      · rw [z]; exact fun e => hc ((dd_any hp hr).mpr ⟨p, hp', e⟩)
      · exact i2 x z p (List.mem_append_left _ hp')
theorem dd_ex : ∀ (S prev : List Rw), (∀ x ∈ S, Dm n x) → (∀ x ∈ prev, Dm n x) → Asc fl S → ∀ q ∈ S, (∃ p ∈ prev, p.2 = q.2) ∨ ∃ x ∈ dd prev S, x.2 = q.2 ∧ befR fl q x = false := by
  intro S
  induction S with
  | nil => intro _ _ _ _ q hq; exact (nomatch hq)
  | cons r S ih =>
    intro prev hS hp hA q hq
    have hr := hS r (List.mem_cons_self ..)
    obtain ⟨a1, a2⟩ := List.pairwise_cons.mp hA
    have i := ih (prev ++ [r]) (fun x hx => hS x (List.mem_cons_of_mem _ hx)) (fun x hx => by
      rcases List.mem_append.mp hx with z | z
      · exact hp x z
      · rw [List.mem_singleton.mp z]; exact hr) a2
    unfold dd
    split
    · next hc =>
      obtain ⟨p, p1, p2⟩ := (dd_any hp hr).mp hc
      rcases List.mem_cons.mp hq with z | z
      · rw [z]; exact .inl ⟨p, p1, p2⟩
      · rcases i q z with ⟨w, w1, w2⟩ | w
        · rcases List.mem_append.mp w1 with u | u
          · exact .inl ⟨w, u, w2⟩
          · rw [List.mem_singleton.mp u] at w2
            exact .inl ⟨p, p1, p2.trans w2⟩
        · exact .inr w
    · rcases List.mem_cons.mp hq with z | z
      · rw [z]; exact .inr ⟨r, List.mem_cons_self .., rfl, befR_irr hr⟩
      · rcases i q z with ⟨w, w1, w2⟩ | ⟨w, w1, w2⟩
        · rcases List.mem_append.mp w1 with u | u
          · exact .inl ⟨w, u, w2⟩
          · rw [List.mem_singleton.mp u] at w2
            exact .inr ⟨r, List.mem_cons_self .., w2, a1 q z⟩
        · exact .inr ⟨w, List.mem_cons_of_mem _ w1, w2⟩
theorem dd_GD (hS : ∀ x ∈ S, Dm n x) (hA : Asc fl S) : GD fl S (dd [] S) := by
  refine ⟨hA.sublist (dd_sub S []), (dd_nc S [] hS (fun x hx => nomatch hx)).1, fun x hx => (dd_sub S []).subset hx, fun q hq => ?_⟩
  rcases dd_ex S [] hS (fun x hx => nomatch hx) hA q hq with ⟨p, p1, _⟩ | w
  · cases p1
  · exact w
theorem byT_L {s t : Sol} : byT cols s t = byL (cols.map s) (cols.map t) := by
  induction cols with
  | nil => rfl
  | cons v cols ih =>
    show (if byV (s v) (t v) = 0 then byT cols s t else _) = (if byV (s v) (t v) = 0 then byL (cols.map s) (cols.map t) else _)
    rw [ih]
theorem byV_3 {a b : Option Int64} : byV a b = -1 ∨ byV a b = nI 0 ∨ byV a b = nI 1 := by
  cases a with
  | none => cases b with
    | none => exact .inr (.inl rfl)
    | some y => exact .inl rfl
  | some x => cases b with
    | none => exact .inr (.inr rfl)
    | some y =>
      show cmpI x y = -1 ∨ cmpI x y = nI 0 ∨ cmpI x y = nI 1
      unfold cmpI
      split
      · exact .inr (.inl rfl)
      · split
        · exact .inl rfl
        · exact .inr (.inr rfl)
theorem befB_R {s t : Sol} : befB o cols s t = befR o.2 (rowOf o.1 cols s) (rowOf o.1 cols t) := by
  have e : ordC o.1 s t = byV (o.1.bind s) (o.1.bind t) := by
    unfold ordC
    cases o.1 with
    | none => rfl
    | some v => rfl
  unfold befB befR
  rw [e, byT_L]
  show _ = if byV (o.1.bind s) (o.1.bind t) = 0 then decide (byL (cols.map s) (cols.map t) < 0) else if o.2 = true then decide (0 < byV (o.1.bind s) (o.1.bind t)) else decide (byV (o.1.bind s) (o.1.bind t) < 0)
  cases o.2 with
  | false => simp only [Bool.false_eq_true, if_false]
  | true =>
    simp only [if_true]
    rcases byV_3 (a := o.1.bind s) (b := o.1.bind t) with h | h | h <;> rw [h]
    · rw [if_neg (by decide), if_neg (by decide)]; decide
    · rw [if_pos (by decide), if_pos (by decide)]
    · rw [if_neg (by decide), if_neg (by decide)]; decide
theorem insV_Q {s : Sol} {l : List Sol} : (insV (befB o cols) s l).map (rowOf o.1 cols) = insQ o.2 (rowOf o.1 cols s) (l.map (rowOf o.1 cols)) := by
  induction l with
  | nil => rfl
  | cons x l ih =>
    show (if befB o cols s x = true then x :: insV (befB o cols) s l else s :: x :: l).map (rowOf o.1 cols) = if befR o.2 (rowOf o.1 cols s) (rowOf o.1 cols x) = true then _ else _
    rw [befB_R]
    split
    · rw [List.map_cons, ih]
    · rfl
theorem srtV_Q : ∀ (l rv : List Sol), (srtV (befB o cols) l rv).map (rowOf o.1 cols) = srtQ o.2 (l.map (rowOf o.1 cols)) (rv.map (rowOf o.1 cols)) := by
  intro l
  induction l with
  | nil => intro rv; rfl
  | cons s l ih =>
    intro rv
    show (srtV (befB o cols) l (insV (befB o cols) s rv)).map _ = srtQ o.2 (l.map _) (insQ o.2 (rowOf o.1 cols s) (rv.map _))
    rw [ih, insV_Q]
theorem etR_Q : ∀ (rs R : List Rw), etR false fl rs R = (srtQ fl rs R.reverse).reverse := by
  intro rs
  induction rs with
  | nil => intro R; show R = R.reverse.reverse; rw [List.reverse_reverse]
  | cons r rs ih =>
    intro R
    show etR false fl rs (entR false fl r R) = (srtQ fl rs (insQ fl r R.reverse)).reverse
    have e : entR false fl r R = insR fl r R := by unfold entR; rw [if_neg (by decide)]
    rw [ih, e, insR_rev R.length R rfl, List.reverse_reverse]
theorem rwA_dd {lim : Nat} : ∀ (S prev out : List Sol), out.length ≤ lim → (rwA di cols lim prev S out).map (rowOf o.1 cols) = (out.map (rowOf o.1 cols) ++ (if di = true then dd (prev.map (rowOf o.1 cols)) (S.map (rowOf o.1 cols)) else S.map (rowOf o.1 cols))).take lim := by
  intro S
  induction S with
  | nil =>
    intro prev out hl
    have : (if di = true then dd (prev.map (rowOf o.1 cols)) (([] : List Sol).map (rowOf o.1 cols)) else ([] : List Sol).map (rowOf o.1 cols)) = [] := by cases di <;> rfl
    rw [this, List.append_nil, List.take_of_length_le (by rw [List.length_map]; exact hl)]
    rfl
  | cons r S ih =>
    intro prev out hl
    show (if out.length < lim then rwA di cols lim (prev ++ [r]) S (if (di && prev.any (fun q => decide (byT cols q r = 0))) = true then out else out ++ [r]) else out).map _ = _
    by_cases h : out.length < lim
    · rw [if_pos h]
      have ea : prev.any (fun q => decide (byT cols q r = 0)) = (prev.map (rowOf o.1 cols)).any (fun q => decide (byL q.2 (rowOf o.1 cols r).2 = 0)) := by
        rw [List.any_map]
        congr 1
        funext q
        show decide (byT cols q r = 0) = decide (byL (cols.map q) (cols.map r) = 0)
        rw [byT_L]
      cases di with
      | false =>
        rw [if_neg (by simp), ih _ _ (by rw [List.length_append, List.length_singleton]; omega), if_neg (by decide), if_neg (by decide), List.map_append, List.append_assoc]
        rfl
      | true =>
        rw [Bool.true_and, ea, if_pos rfl, List.map_cons]
        show _ = (_ ++ (if (prev.map (rowOf o.1 cols)).any (fun q => decide (byL q.2 (rowOf o.1 cols r).2 = 0)) = true then dd (prev.map (rowOf o.1 cols) ++ [rowOf o.1 cols r]) (S.map (rowOf o.1 cols)) else rowOf o.1 cols r :: dd (prev.map (rowOf o.1 cols) ++ [rowOf o.1 cols r]) (S.map (rowOf o.1 cols)))).take lim
        by_cases hc : (prev.map (rowOf o.1 cols)).any (fun q => decide (byL q.2 (rowOf o.1 cols r).2 = 0)) = true
        · rw [if_pos hc, if_pos hc, ih _ _ hl, if_pos rfl, List.map_append]; rfl
        · rw [if_neg hc, if_neg hc, ih _ _ (by rw [List.length_append, List.length_singleton]; omega), if_pos rfl, List.map_append, List.map_append, List.append_assoc]; rfl
    · rw [if_neg h]
      have : lim = (out.map (rowOf o.1 cols)).length := by rw [List.length_map]; omega
      rw [this, List.take_append_of_le_length (Nat.le_refl _), List.take_length]
theorem rows_eq {l l' : List Sol} {lim : Nat} (hp : l.Perm l') (hK : ∀ s ∈ l, SoK s) : (rowsL di cols o lim l).map (rowOf o.1 cols) = (rwsK di o.2 o.1 cols l' l'.length).take lim := by
  have hD : ∀ x ∈ l.map (rowOf o.1 cols), Dm cols.length x := fun x hx => by
    obtain ⟨s, s1, rfl⟩ := List.mem_map.mp hx
    have hs := hK s s1
    refine ⟨fun y hy => ?_, List.length_map _, fun q hq => ?_⟩
    · have hy' : o.1.bind s = some y := hy
      cases ho : o.1 with
      | none => rw [ho] at hy'; cases hy'
      | some v => rw [ho] at hy'; exact hs v y hy'
    · have hq' : q ∈ cols.map s := hq
      obtain ⟨v, _, rfl⟩ := List.mem_map.mp hq'
      exact fun y hy => hs v y hy
  have hpm : (l.map (rowOf o.1 cols)).Perm (l'.map (rowOf o.1 cols)) := hp.map _
  have hD' : ∀ x ∈ l'.map (rowOf o.1 cols), Dm cols.length x := fun x hx => hD x (hpm.mem_iff.mpr hx)
  have eS : ((srtV (befB o cols) l []).reverse).map (rowOf o.1 cols) = etR false o.2 (l.map (rowOf o.1 cols)) [] := by
    rw [List.map_reverse, srtV_Q, etR_Q]; rfl
  obtain ⟨s1, s2⟩ := etR_s (fl := o.2) _ (l.map (rowOf o.1 cols)) rfl hD
  obtain ⟨s3, s4⟩ := etR_s (fl := o.2) _ (l'.map (rowOf o.1 cols)) rfl hD'
  unfold rowsL rwsK
  rw [List.take_length, rwA_dd _ _ _ (Nat.zero_le _), List.map_nil, List.nil_append, eS]
  congr 1
  cases di with
  | false =>
    rw [if_neg (by decide)]
    exact asc_eq _ _ s1 s3 (fun x hx => hD x (s2.mem_iff.mp hx)) ((s2.trans hpm).trans s4.symm)
  | true =>
    rw [if_pos rfl]
    have g1 := dd_GD (fun x hx => hD x (s2.mem_iff.mp hx)) s1
    have g2 := etR_GD (fl := o.2) _ (l'.map (rowOf o.1 cols)) rfl hD'
    exact g1.eq g2 (fun x => by rw [s2.mem_iff, hpm.mem_iff]) (fun x hx => hD x (s2.mem_iff.mp hx))
end RWS
