/-! the twin's state, read behind writes -/
section SIGR
variable {σ : Tw} {j k i : Nat} {v : Int32} {w : Int64}
theorem sI_1 : (sI σ j v).1 k = if k = j then v else σ.1 k := rfl
theorem sI_2 : (sI σ j v).2 = σ.2 := rfl
theorem sT_1 : (sT σ w).1 = σ.1 := rfl
theorem sT_21 : (sT σ w).2.1 = w := rfl
theorem sT_22 : (sT σ w).2.2 = σ.2.2 := rfl
theorem sA_1 : (sA σ j i v).1 = σ.1 := rfl
theorem sA_21 : (sA σ j i v).2.1 = σ.2.1 := rfl
theorem sA_221 : (sA σ j i v).2.2.1 k = if k = j then va_up (σ.2.2.1 j) i v else σ.2.2.1 k := by
  show va_up σ.2.2.1 j (va_up (σ.2.2.1 j) i v) k = _
  unfold va_up
  split <;> rfl
theorem sA_222 : (sA σ j i v).2.2.2 = σ.2.2.2 := rfl
theorem sL_1 : (sL σ j i w).1 = σ.1 := rfl
theorem sL_21 : (sL σ j i w).2.1 = σ.2.1 := rfl
theorem sL_221 : (sL σ j i w).2.2.1 = σ.2.2.1 := rfl
theorem sL_222 : (sL σ j i w).2.2.2 k = if k = j then va_up (σ.2.2.2 j) i w else σ.2.2.2 k := by
  show va_up σ.2.2.2 j (va_up (σ.2.2.2 j) i w) k = _
  unfold va_up
  split <;> rfl
end SIGR
theorem nI_lt_if {α : Sort _} {a b : Nat} {p q : α} (ha : a < 2 ^ 31) (hb : b < 2 ^ 31) : (if nI a < nI b then p else q) = if a < b then p else q := by
  by_cases h : a < b
  · rw [if_pos h, if_pos ((nI_ltI ha hb).mpr h)]
  · rw [if_neg h, if_neg (fun c => h ((nI_ltI ha hb).mp c))]
theorem nI_eq_if {α : Sort _} {a b : Nat} {p q : α} (ha : a < 2 ^ 31) (hb : b < 2 ^ 31) : (if nI a = nI b then p else q) = if a = b then p else q := by
  by_cases h : a = b
  · rw [if_pos h, if_pos ((nI_eq ha hb).mpr h)]
  · rw [if_neg h, if_neg (fun c => h ((nI_eq ha hb).mp c))]
theorem nI_eq0 {c : Nat} (h : c < 2 ^ 31) : (nI c = 0) = (c = 0) := by
  rw [← nI_0]; exact propext (nI_eq h (by decide))
/-- triples: codes of subject, predicate, object -/
abbrev Tri : Type := Int64 × Int64 × Int64
/-- an array of longs holds the triples -/
def TrL (f : Nat → Int64) (L : List Tri) : Prop := ∀ (i : Nat) (t : Tri), L[i]? = some t → f (3 * i) = t.1 ∧ f (3 * i + 1) = t.2.1 ∧ f (3 * i + 2) = t.2.2
/-- where a triple stands first; their number if nowhere -/
def fiT (L : List Tri) (t : Tri) : Nat := L.findIdx (fun u => decide (u = t))
/-- all but these ints, int arrays, long arrays is as it was -/
def Fx (I AI AL : List Nat) (σ σ' : Tw) : Prop := (∀ j, j ∉ I → σ'.1 j = σ.1 j) ∧ (∀ j, j ∉ AI → σ'.2.2.1 j = σ.2.2.1 j) ∧ ∀ j, j ∉ AL → σ'.2.2.2 j = σ.2.2.2 j
theorem Fx.rfl' {I AI AL : List Nat} {σ : Tw} : Fx I AI AL σ σ := ⟨fun _ _ => rfl, fun _ _ => rfl, fun _ _ => rfl⟩
theorem Fx.trans {I AI AL : List Nat} {σ σ' σ'' : Tw} (h : Fx I AI AL σ σ') (h' : Fx I AI AL σ' σ'') : Fx I AI AL σ σ'' := ⟨fun j hj => (h'.1 j hj).trans (h.1 j hj), fun j hj => (h'.2.1 j hj).trans (h.2.1 j hj), fun j hj => (h'.2.2 j hj).trans (h.2.2 j hj)⟩
theorem Fx.mono {I AI AL I' AI' AL' : List Nat} {σ σ' : Tw} (h : Fx I AI AL σ σ') (h1 : ∀ j, j ∈ I → j ∈ I') (h2 : ∀ j, j ∈ AI → j ∈ AI') (h3 : ∀ j, j ∈ AL → j ∈ AL') : Fx I' AI' AL' σ σ' := ⟨fun j hj => h.1 j (fun q => hj (h1 j q)), fun j hj => h.2.1 j (fun q => hj (h2 j q)), fun j hj => h.2.2 j (fun q => hj (h3 j q))⟩
theorem Fx.sI {I AI AL : List Nat} {σ σ' : Tw} {k : Nat} {v : Int32} (h : Fx I AI AL σ σ') (hk : k ∈ I) : Fx I AI AL σ (sI σ' k v) := ⟨fun j hj => by rw [sI_1, if_neg (fun e => hj (by rw [e]; exact hk))]; exact h.1 j hj, h.2.1, h.2.2⟩
theorem Fx.sT {I AI AL : List Nat} {σ σ' : Tw} {v : Int64} (h : Fx I AI AL σ σ') : Fx I AI AL σ (sT σ' v) := h
theorem Fx.sA {I AI AL : List Nat} {σ σ' : Tw} {k i : Nat} {v : Int32} (h : Fx I AI AL σ σ') (hk : k ∈ AI) : Fx I AI AL σ (sA σ' k i v) := ⟨h.1, fun j hj => by rw [sA_221, if_neg (fun e => hj (by rw [e]; exact hk))]; exact h.2.1 j hj, h.2.2⟩
theorem Fx.sL {I AI AL : List Nat} {σ σ' : Tw} {k i : Nat} {v : Int64} (h : Fx I AI AL σ σ') (hk : k ∈ AL) : Fx I AI AL σ (sL σ' k i v) := ⟨h.1, h.2.1, fun j hj => by rw [sL_222, if_neg (fun e => hj (by rw [e]; exact hk))]; exact h.2.2 j hj⟩
