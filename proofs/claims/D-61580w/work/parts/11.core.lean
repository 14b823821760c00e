/-! THE INTERPRETER: configurations, its limit, what is sound -/
abbrev Rs : Type := Outcome × AH
abbrev Cf : Type := Nat × List Value × List Value × AH
abbrev Orc : Type := Nat → List Value → AH → Option Rs
/-- an instruction's meaning: run, frames left, calls, locals, stack, heap -/
abbrev Sm : Type := Om → Nat → Orc → List Value → List Value → AH → Option (Cf ⊕ Rs)
/-- no value known -/
def U : Value := .float 0
def isU : Value → Bool
  | .float _ => true
  | _ => false
def prs : Nat → List Value → List (Nat × Value)
  | _, [] => []
  | b, v :: t => if isU v then prs (b + 1) t else (b, v) :: prs (b + 1) t
def k2 (v : Value) : Value := if v.category = 2 then U else v
def setL : List Value → Nat → Value → List Value
  | [], _, _ => []
  | _ :: t, 0, v => v :: t
  | a :: t, n + 1, v => (if n = 0 then k2 a else a) :: setL t n v
def setW : List Value → Nat → Value → List Value
  | [], _, _ => []
  | [_], 0, _ => []
  | _ :: _ :: t, 0, v => v :: U :: t
  | a :: t, n + 1, v => (if n = 0 then k2 a else a) :: setW t n v
theorem mem_prs {q : Nat × Value} : ∀ {lv : List Value} {b : Nat}, q ∈ prs b lv → b ≤ q.1 ∧ isU q.2 = false ∧ lv[q.1 - b]? = some q.2 := by
  intro lv
  induction lv with
  | nil => intro b h; simp [prs] at h
  | cons a t ih =>
    intro b h
    unfold prs at h
    split at h
    · obtain ⟨h1, h2, h3⟩ := ih h
      refine ⟨by omega, h2, ?_⟩
      rw [show q.1 - b = (q.1 - (b + 1)) + 1 by omega, List.getElem?_cons_succ]
      exact h3
    · rename_i hu
      rcases List.mem_cons.mp h with rfl | h
      · refine ⟨Nat.le_refl _, by simpa using hu, by simp⟩
      · obtain ⟨h1, h2, h3⟩ := ih h
        refine ⟨by omega, h2, ?_⟩
        rw [show q.1 - b = (q.1 - (b + 1)) + 1 by omega, List.getElem?_cons_succ]
        exact h3
theorem prs_mem {v : Value} : ∀ {lv : List Value} {b i : Nat}, lv[i]? = some v → isU v = false → (b + i, v) ∈ prs b lv := by
  intro lv
  induction lv with
  | nil => intro b i h; simp at h
  | cons a t ih =>
    intro b i h hu
    unfold prs
    cases i with
    | zero =>
      simp at h
      subst h
      simp [hu]
    | succ i =>
      rw [List.getElem?_cons_succ] at h
      have := ih (b := b + 1) h hu
      rw [show b + (i + 1) = b + 1 + i by omega]
      split
      · exact this
      · exact List.mem_cons_of_mem _ this
theorem prs_lookup {v : Value} : ∀ {lv : List Value} {b i : Nat}, lv[i]? = some v → isU v = false → (prs b lv).lookup (b + i) = some v := by
  intro lv
  induction lv with
  | nil => intro b i h; simp at h
  | cons a t ih =>
    intro b i h hu
    unfold prs
    cases i with
    | zero =>
      simp at h
      subst h
      simp [hu, List.lookup]
    | succ i =>
      rw [List.getElem?_cons_succ] at h
      have := ih (b := b + 1) h hu
      rw [show b + (i + 1) = b + 1 + i by omega]
      split
      · exact this
      · rw [List.lookup_cons, show (b + 1 + i == b) = false by simp; omega]
        exact this
theorem getElem?_setL {v : Value} : ∀ {lv : List Value} {i j : Nat} {w : Value}, (setL lv i v)[j]? = some w → (j = i ∧ w = v) ∨ (j ≠ i ∧ lv[j]? = some w ∧ ¬ (j + 1 = i ∧ w.category = 2)) ∨ w = U := by
  intro lv
  induction lv with
  | nil => intro i j w h; simp [setL] at h
  | cons a t ih =>
    intro i j w h
    cases i with
    | zero =>
      simp only [setL] at h
      cases j with
      | zero => simp at h; exact Or.inl ⟨rfl, h.symm⟩
      | succ j => exact Or.inr (Or.inl ⟨by omega, by simpa using h, by omega⟩)
    | succ i =>
      simp only [setL] at h
      cases j with
      | zero =>
        simp only [List.getElem?_cons_zero, Option.some.injEq] at h
        by_cases hi : i = 0
        · rw [if_pos hi] at h
          unfold k2 at h
          split at h
          · exact Or.inr (Or.inr h.symm)
          · rename_i hc
            subst h
            exact Or.inr (Or.inl ⟨by omega, by simp, fun hq => hc hq.2⟩)
        · rw [if_neg hi] at h
          exact Or.inr (Or.inl ⟨by omega, by simpa using h, fun hq => hi (by omega)⟩)
      | succ j =>
        rw [List.getElem?_cons_succ] at h
        rcases ih h with ⟨h1, h2⟩ | ⟨h1, h2, h3⟩ | h1
        · exact Or.inl ⟨by omega, h2⟩
        · exact Or.inr (Or.inl ⟨by omega, by simpa using h2, fun hq => h3 ⟨by omega, hq.2⟩⟩)
        · exact Or.inr (Or.inr h1)
theorem getElem?_setW {v : Value} : ∀ {lv : List Value} {i j : Nat} {w : Value}, (setW lv i v)[j]? = some w → (j = i ∧ w = v) ∨ (j ≠ i ∧ j ≠ i + 1 ∧ lv[j]? = some w ∧ ¬ (j + 1 = i ∧ w.category = 2)) ∨ w = U := by
  intro lv
  induction lv with
  | nil => intro i j w h; simp [setW] at h
  | cons a t ih =>
    intro i j w h
    cases i with
    | zero =>
      cases t with
      | nil => simp [setW] at h
      | cons b t =>
        simp only [setW] at h
        cases j with
        | zero => simp at h; exact Or.inl ⟨rfl, h.symm⟩
        | succ j =>
          cases j with
          | zero => simp at h; exact Or.inr (Or.inr h.symm)
          | succ j => exact Or.inr (Or.inl ⟨by omega, by omega, by simpa using h, by omega⟩)
    | succ i =>
      have h : ((if i = 0 then k2 a else a) :: setW t i v)[j]? = some w := by
        cases t with
        | nil => simpa [setW] using h
        | cons b t => simpa [setW] using h
      cases j with
      | zero =>
        simp only [List.getElem?_cons_zero, Option.some.injEq] at h
        by_cases hi : i = 0
        · rw [if_pos hi] at h
          unfold k2 at h
          split at h
          · exact Or.inr (Or.inr h.symm)
          · rename_i hc
            subst h
            exact Or.inr (Or.inl ⟨by omega, by omega, by simp, fun hq => hc hq.2⟩)
        · rw [if_neg hi] at h
          exact Or.inr (Or.inl ⟨by omega, by omega, by simpa using h, fun hq => hi (by omega)⟩)
      | succ j =>
        rw [List.getElem?_cons_succ] at h
        rcases ih h with ⟨h1, h2⟩ | ⟨h1, h1', h2, h3⟩ | h1
        · exact Or.inl ⟨by omega, h2⟩
        · exact Or.inr (Or.inl ⟨by omega, by omega, by simpa using h2, fun hq => h3 ⟨by omega, hq.2⟩⟩)
        · exact Or.inr (Or.inr h1)
theorem prs_setL {lv : List Value} {i : Nat} {v : Value} : ∀ q ∈ prs 0 (setL lv i v), q ∈ (i, v) :: (prs 0 lv).filter (fun q => !(q.1 == i) && !(q.1 + 1 == i && q.2.category == 2)) := by
  intro q hq
  obtain ⟨-, hu, h⟩ := mem_prs hq
  rcases getElem?_setL h with ⟨h1, h2⟩ | ⟨h1, h2, h3⟩ | h1
  · rw [show q = (i, v) by rw [← h2]; exact Prod.ext (by simpa using h1) rfl]
    exact List.mem_cons_self
  · refine List.mem_cons_of_mem _ (List.mem_filter.mpr ⟨?_, ?_⟩)
    · have := prs_mem (b := 0) h2 hu
      simpa using this
    · simp only [Nat.sub_zero] at h1 h3
      simp only [Bool.and_eq_true, Bool.not_eq_true', beq_eq_false_iff_ne, ne_eq, Bool.and_eq_false_iff]
      refine ⟨h1, ?_⟩
      by_cases hz : q.1 + 1 = i
      · exact Or.inr (fun hc => h3 ⟨hz, hc⟩)
      · exact Or.inl hz
  · rw [h1] at hu; cases hu
theorem prs_setW {lv : List Value} {i : Nat} {v : Value} : ∀ q ∈ prs 0 (setW lv i v), q ∈ (i, v) :: (prs 0 lv).filter (fun q => !(q.1 == i) && (!(q.1 == i + 1) && !(q.1 + 1 == i && q.2.category == 2))) := by
  intro q hq
  obtain ⟨-, hu, h⟩ := mem_prs hq
  rcases getElem?_setW h with ⟨h1, h2⟩ | ⟨h1, h1', h2, h3⟩ | h1
  · rw [show q = (i, v) by rw [← h2]; exact Prod.ext (by simpa using h1) rfl]
    exact List.mem_cons_self
  · refine List.mem_cons_of_mem _ (List.mem_filter.mpr ⟨?_, ?_⟩)
    · have := prs_mem (b := 0) h2 hu
      simpa using this
    · simp only [Nat.sub_zero] at h1 h1' h3
      simp only [Bool.and_eq_true, Bool.not_eq_true', beq_eq_false_iff_ne, ne_eq, Bool.and_eq_false_iff]
      refine ⟨h1, h1', ?_⟩
      by_cases hz : q.1 + 1 = i
      · exact Or.inr (fun hc => h3 ⟨hz, hc⟩)
      · exact Or.inl hz
  · rw [h1] at hu; cases hu
/-- a method: class, name, code, locals, answer, handlers -/
abbrev Me : Type := MethodName × ByteArray × Nat × Option FieldType × List (Nat × Nat × Nat × Nat)
abbrev VV (Ω : Om) (μ : Me) (d mc ms : Nat) (P : Outcome → AH → Prop) (h : AH) (k n pc : Nat) (lv st : List Value) : Prop := V Ω μ.1.cls μ.1.name μ.2.1 μ.2.2.1 μ.2.2.2.1 μ.2.2.2.2 d mc ms P h k n pc (prs 0 lv) st
theorem VV.sub {Ω : Om} {μ : Me} {d mc ms : Nat} {P : Outcome → AH → Prop} {h : AH} {k n pc : Nat} {lv : List (Nat × Value)} {lv' st : List Value} (hs : ∀ q ∈ prs 0 lv', q ∈ lv) (kk : VV Ω μ d mc ms P h k n pc lv' st) : V Ω μ.1.cls μ.1.name μ.2.1 μ.2.2.1 μ.2.2.2.1 μ.2.2.2.2 d mc ms P h k n pc lv st :=
  fun p e s m args below meth c F H locs ls hH hl hv => kk p e s m args below meth c F H locs ls hH hl ⟨hv.1, hv.2.1, fun q hq => hv.2.2 q (hs q hq)⟩
/-- what a call's answer must be -/
def OrcOk (Ω : Om) (nam : Nat → MethodName) (d : Nat) (orc : Orc) : Prop := ∀ (y : Nat) (As : List Value) (h : AH) (o : Outcome) (h' : AH), orc y As h = some (o, h') → h.2.1 ≤ h'.2.1 ∧ h.2.2 ≤ h'.2.2 ∧ Ct Ω (nam y) d (h'.2.1 - h.2.1) (h'.2.2 - h.2.2) As h (fun o2 h2 => o2 = o ∧ h2 = h')
/-- an instruction's meaning is sound -/
def Snd (nam : Nat → MethodName) (μ : Me) (pc : Nat) (sem : Sm) : Prop := ∀ (Ω : Om) (d : Nat) (orc : Orc), OrcOk Ω nam d orc → ∀ (lv st : List Value) (h : AH),
  (∀ (pc' : Nat) (lv' st' : List Value) (h' : AH), sem Ω d orc lv st h = some (.inl (pc', lv', st', h')) → h.2.1 ≤ h'.2.1 ∧ h.2.2 ≤ h'.2.2 ∧ ∀ (mc ms : Nat) (P : Outcome → AH → Prop) (k n : Nat), k + (h'.2.1 - h.2.1) ≤ mc → n + (h'.2.2 - h.2.2) ≤ ms → VV Ω μ d mc ms P h' (k + (h'.2.1 - h.2.1)) (n + (h'.2.2 - h.2.2)) pc' lv' st' → VV Ω μ d mc ms P h k n pc lv st) ∧
  (∀ (o : Outcome) (h' : AH), sem Ω d orc lv st h = some (.inr (o, h')) → h.2.1 ≤ h'.2.1 ∧ h.2.2 ≤ h'.2.2 ∧ ∀ (mc ms : Nat) (P : Outcome → AH → Prop) (k n : Nat), k + (h'.2.1 - h.2.1) ≤ mc → n + (h'.2.2 - h.2.2) ≤ ms → P o h' → VV Ω μ d mc ms P h k n pc lv st)
/-- steps of a machine, to its end -/
def runN (f : Cf → Option (Cf ⊕ Rs)) : Nat → Cf → Option Rs
  | 0, _ => none
  | n + 1, c => match f c with
    | none => none
    | some (.inr r) => some r
    | some (.inl c') => runN f n c'
theorem runN_mono {f : Cf → Option (Cf ⊕ Rs)} {r : Rs} : ∀ {n : Nat} {c : Cf}, runN f n c = some r → ∀ m, runN f (n + m) c = some r := by
  intro n
  induction n with
  | zero => intro c h; simp [runN] at h
  | succ n ih =>
    intro c h m
    rw [show n + 1 + m = (n + m) + 1 by omega]
    simp only [runN] at h ⊢
    split at h
    · cases h
    · exact h
    · exact ih h m
theorem runN_det {f : Cf → Option (Cf ⊕ Rs)} {n m : Nat} {c : Cf} {r r' : Rs} (h : runN f n c = some r) (h' : runN f m c = some r') : r = r' := by
  have a := runN_mono h m
  have b := runN_mono h' n
  rw [Nat.add_comm m n] at b
  exact Option.some.inj (a.symm.trans b)
noncomputable def lim (f : Cf → Option (Cf ⊕ Rs)) (c : Cf) : Option Rs := @dite (Option Rs) (∃ r n, runN f n c = some r) (Classical.propDecidable _) (fun h => some h.choose) (fun _ => none)
theorem lim_of {f : Cf → Option (Cf ⊕ Rs)} {c : Cf} {r : Rs} {n : Nat} (h : runN f n c = some r) : lim f c = some r := by
  unfold lim
  rw [dif_pos ⟨r, n, h⟩]
  have hc : ∃ r n, runN f n c = some r := ⟨r, n, h⟩
  obtain ⟨m, hm⟩ := hc.choose_spec
  exact congrArg some (runN_det hm h)
theorem of_lim {f : Cf → Option (Cf ⊕ Rs)} {c : Cf} {r : Rs} (h : lim f c = some r) : ∃ n, runN f n c = some r := by
  unfold lim at h
  by_cases hc : ∃ r n, runN f n c = some r
  · rw [dif_pos hc] at h
    obtain ⟨m, hm⟩ := hc.choose_spec
    exact ⟨m, by rw [hm]; exact h⟩
  · rw [dif_neg hc] at h
    cases h
/-- one step on -/
def fin (r : Option (Cf ⊕ Rs)) (k : Cf → Option Rs) : Option Rs := match r with
  | none => none
  | some (.inr r) => some r
  | some (.inl c) => k c
theorem lim_eq (f : Cf → Option (Cf ⊕ Rs)) (c : Cf) : lim f c = fin (f c) (lim f) := by
  have key : ∀ r, lim f c = some r ↔ fin (f c) (lim f) = some r := by
    intro r
    constructor
    · intro h
      obtain ⟨n, hn⟩ := of_lim h
      cases n with
      | zero => simp [runN] at hn
      | succ n =>
        simp only [runN] at hn
        unfold fin
        split at hn
        · cases hn
        · exact hn
        · exact lim_of hn
    · intro h
      unfold fin at h
      split at h
      · cases h
      · rename_i r' hf
        exact lim_of (n := 1) (by simp only [runN]; rw [hf]; exact h)
      · rename_i c' hf
        obtain ⟨n, hn⟩ := of_lim h
        exact lim_of (n := n + 1) (by simp only [runN]; rw [hf]; exact hn)
  cases h1 : lim f c with
  | some r => exact ((key r).mp h1).symm
  | none =>
    cases h2 : fin (f c) (lim f) with
    | none => rfl
    | some r => rw [(key r).mpr h2] at h1; cases h1
/-- a program: names, methods, their instructions -/
abbrev Pg : Type := Nat → Me × (Nat → Sm)
abbrev Pg.nam (pg : Pg) (y : Nat) : MethodName := (pg y).1.1
def stp (pg : Pg) (Ω : Om) (d : Nat) (orc : Orc) (y : Nat) : Cf → Option (Cf ⊕ Rs) := fun c => (pg y).2 c.1 Ω d orc c.2.1 c.2.2.1 c.2.2.2
/-- the locals with which a method begins -/
def ents : List Value → List Value
  | [] => []
  | v :: t => if v.category = 2 then v :: U :: ents t else v :: ents t
def entL (nL : Nat) (As : List Value) : List Value := ents As ++ List.replicate (nL - (ents As).length) U
noncomputable def gM (pg : Pg) (Ω : Om) : Nat → Orc
  | 0 => fun _ _ _ => none
  | d + 1 => fun y As h => if y ≠ 0 ∧ (ents As).length ≤ (pg y).1.2.2.1 ∧ (As.all fun v => !isU v) = true then lim (stp pg Ω d (gM pg Ω d) y) (0, entL (pg y).1.2.2.1 As, [], h) else none
noncomputable def gO (pg : Pg) (Ω : Om) (d y pc : Nat) (lv st : List Value) (h : AH) : Option Rs := lim (stp pg Ω d (gM pg Ω d) y) (pc, lv, st, h)
theorem gO_eq {pg : Pg} {Ω : Om} {d y pc : Nat} {lv st : List Value} {h : AH} : gO pg Ω d y pc lv st h = fin ((pg y).2 pc Ω d (gM pg Ω d) lv st h) (fun c => gO pg Ω d y c.1 c.2.1 c.2.2.1 c.2.2.2) := lim_eq _ _
/-- the program's facts: every method stands in the tables, every instruction is sound -/
def PgOk (pg : Pg) : Prop := ∀ y : Nat, y ≠ 0 → ((pg y).2 = fun _ _ _ _ _ _ _ => none) ∨ (((Cond.code (pg y).1.1 (pg y).1.2.1 (pg y).1.2.2.1 (pg y).1.2.2.2.1 ∈ lw_tbl ∧ (pg y).1.2.2.2.2 = []) ∨ Cond.codeWith (pg y).1.1 (pg y).1.2.1 (pg y).1.2.2.1 (pg y).1.2.2.2.1 (pg y).1.2.2.2.2 ∈ lw_tbl) ∧ Cond.initialized (pg y).1.1.cls ∈ lw_tbl ∧ plainFor (pg y).1.1 = true ∧ (pg y).1.2.2.1 + 19 ≤ 60 ∧ ∀ pc, Snd pg.nam (pg y).1 pc ((pg y).2 pc))
theorem run_V {pg : Pg} {Ω : Om} {d y : Nat} {o : Outcome} {h1 : AH} (hs : ∀ pc, Snd pg.nam (pg y).1 pc ((pg y).2 pc)) (hor : OrcOk Ω pg.nam d (gM pg Ω d)) :
    ∀ (N pc : Nat) (lv st : List Value) (h : AH), runN (stp pg Ω d (gM pg Ω d) y) N (pc, lv, st, h) = some (o, h1) → h.2.1 ≤ h1.2.1 ∧ h.2.2 ≤ h1.2.2 ∧ ∀ (mc ms : Nat) (P : Outcome → AH → Prop) (k n : Nat), k + (h1.2.1 - h.2.1) ≤ mc → n + (h1.2.2 - h.2.2) ≤ ms → P o h1 → VV Ω (pg y).1 d mc ms P h k n pc lv st := by
  intro N
  induction N with
  | zero => intro pc lv st h hr; simp [runN] at hr
  | succ N ih =>
    intro pc lv st h hr
    obtain ⟨hA, hB⟩ := hs pc Ω d (gM pg Ω d) hor lv st h
    simp only [runN] at hr
    split at hr
    · cases hr
    · rename_i r hf
      cases hr
      exact hB o h1 hf
    · rename_i c' hf
      obtain ⟨pc', lv', st', h'⟩ := c'
      obtain ⟨m1, m2, hk⟩ := hA pc' lv' st' h' hf
      obtain ⟨n1, n2, hk'⟩ := ih pc' lv' st' h' hr
      refine ⟨by omega, by omega, fun mc ms P k n hk1 hn1 hP => ?_⟩
      exact hk mc ms P k n (by omega) (by omega) (hk' mc ms P _ _ (by omega) (by omega) hP)
theorem lv_args_ents : ∀ (As : List Value) (b : Nat), ∀ q ∈ prs b (ents As), q ∈ lv_args b As := by
  intro As
  induction As with
  | nil => intro b q hq; simp [ents, prs] at hq
  | cons v t ih =>
    intro b q hq
    unfold ents at hq
    unfold lv_args
    by_cases hc : v.category = 2
    · rw [if_pos hc] at hq ⊢
      have hq : q ∈ (if isU v then prs (b + 1) (U :: ents t) else (b, v) :: prs (b + 1) (U :: ents t)) := hq
      have e : prs (b + 1) (U :: ents t) = prs (b + 2) (ents t) := rfl
      rw [e] at hq
      split at hq
      · exact List.mem_cons_of_mem _ (ih _ q hq)
      · rcases List.mem_cons.mp hq with rfl | hq
        · exact List.mem_cons_self
        · exact List.mem_cons_of_mem _ (ih _ q hq)
    · rw [if_neg hc] at hq ⊢
      have hq : q ∈ (if isU v then prs (b + 1) (ents t) else (b, v) :: prs (b + 1) (ents t)) := hq
      split at hq
      · exact List.mem_cons_of_mem _ (ih _ q hq)
      · rcases List.mem_cons.mp hq with rfl | hq
        · exact List.mem_cons_self
        · exact List.mem_cons_of_mem _ (ih _ q hq)
theorem prs_app_U : ∀ (l : List Value) (b n : Nat), prs b (l ++ List.replicate n U) = prs b l := by
  intro l
  induction l with
  | nil =>
    intro b n
    induction n generalizing b with
    | zero => rfl
    | succ n ih =>
      rw [List.replicate_succ]
      show prs (b + 1) ([] ++ List.replicate n U) = []
      rw [ih]; rfl
  | cons a t ih =>
    intro b n
    show (if isU a then prs (b + 1) (t ++ List.replicate n U) else (b, a) :: prs (b + 1) (t ++ List.replicate n U)) = _
    rw [ih]; rfl
theorem ents_len (As : List Value) : (ents As).length = (lg_sl As).length := by
  induction As with
  | nil => rfl
  | cons v t ih =>
    unfold ents
    rw [show lg_sl (v :: t) = (if v.category = 2 then [.val v, .second] else [.val v]) ++ lg_sl t from rfl]
    split <;> simp [ih]
theorem Ct.of_VW {Ω : Om} {y : MethodName} {cc : ByteArray} {nL : Nat} {ret : Option FieldType} {hh : List (Nat × Nat × Nat × Nat)} {d mc ms : Nat} {As : List Value} {h : AH} {P : Outcome → AH → Prop} (hw : Cond.codeWith y cc nL ret hh ∈ lw_tbl) (hi : Cond.initialized y.cls ∈ lw_tbl) (hy : plainFor y = true) (hL : (lg_sl As).length ≤ nL) (hnl : nL + 19 ≤ 60)
    (hV : V Ω y.cls y.name cc nL ret hh d mc ms P h 0 0 0 (lv_args 0 As) []) : Ct Ω y (d + 1) mc ms As h P := by
  refine ⟨Cond.codeWith y cc nL ret hh, nL, d, ⟨hw, by simp [okw, Cond.onTables, Cond.keeps, Cond.steady], hi⟩, rfl, hnl, ?_, ?_⟩
  · intro U args hwd
    obtain ⟨m, meth, c, hm, h1, h2, h3, h4, h5, h6, h7, h8⟩ := Cond.codeWith_spec hwd
    exact ⟨m, meth, c, hm, h1, h2, h4, h8⟩
  refine MetFree.of_bodySF (code := cc) (maxLocals := nL) (ret := ret) hy ?_ ?_
  · intro args s m h hn
    obtain ⟨m', meth, c, hm, h1, h2, h3, h4, h5, h6, h7, h8⟩ := Cond.codeWith_spec (atoms_spec (ws := [Cond.codeWith y cc nL ret hh]) h _ List.mem_cons_self)
    cases hn.symm.trans hm
    exact ⟨meth, c, h1, h2, h3, h4, h6, h7⟩
  · intro p e s m args below meth c s₁ B hml hP _
    obtain ⟨rfl, hB, hH⟩ := hP
    have hh0 : s₁.heap = s.heap := by rw [B.state]; rfl
    have hts := atoms_spec (ws := [Cond.codeWith y cc nL ret hh]) B.pre
    obtain ⟨m', meth', c', hm, h1, h2, h3, h4, h5, h6, h7, h8⟩ := Cond.codeWith_spec (hts _ List.mem_cons_self)
    cases B.named.symm.trans hm
    cases B.method.symm.trans h1
    have hcc : c = c' := Option.some.inj ((Stand.of_body B).code.symm.trans h2)
    subst hcc
    have hlv := lv_entry As (n := nL) hL
    have key := hV p e s m As.toArray below meth c ⟨B.exec, B.bytes, hml, B.returns, findClass_of_methodNamed B.named, (name_of_methodNamed B.named B.method).1, B.notSynchronized, h5, hB⟩ s.heap [] _ hH (fun _ h => by cases h) hlv
    obtain ⟨t, a1, o, b1, b2, b3, b4⟩ := key s₁ hh0 (Stand.of_body B)
    rw [← lg_entry_eq] at a1
    exact ⟨t, o, a1, b1, b2, b3, b4⟩
/-- SOUNDNESS: what the interpreter says of a call is what the machine does -/
theorem gM_ok {pg : Pg} (hp : PgOk pg) (Ω : Om) : ∀ d, OrcOk Ω pg.nam d (gM pg Ω d) := by
  intro d
  induction d with
  | zero => intro y As h o h' hr; simp [gM] at hr
  | succ d ih =>
    intro y As h o h' hr
    simp only [gM] at hr
    split at hr
    · rename_i hc
      obtain ⟨N, hN⟩ := of_lim hr
      rcases hp y hc.1 with hz | ⟨hcw, hi, hpl, hnl, hs⟩
      · exfalso
        cases N with
        | zero => simp [runN] at hN
        | succ N => simp [runN, stp, hz] at hN
      · obtain ⟨m1, m2, hk⟩ := run_V hs ih N 0 _ _ h hN
        refine ⟨m1, m2, ?_⟩
        have hV := hk (h'.2.1 - h.2.1) (h'.2.2 - h.2.2) (fun o2 h2 => o2 = o ∧ h2 = h') 0 0 (by omega) (by omega) ⟨rfl, rfl⟩
        have hV2 := VV.sub (lv := lv_args 0 As) (fun q hq => by
          unfold entL at hq
          rw [prs_app_U] at hq
          exact lv_args_ents As 0 q hq) hV
        rcases hcw with ⟨hcw, hh0⟩ | hcw
        · rw [hh0] at hV2
          exact Ct.of_V hcw hi hpl (by rw [← ents_len]; exact hc.2.1) hnl hV2
        · exact Ct.of_VW hcw hi hpl (by rw [← ents_len]; exact hc.2.1) hnl hV2
    · cases hr
