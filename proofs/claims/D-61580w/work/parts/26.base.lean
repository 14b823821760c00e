/-! BASE ROWS for the equations -/
def bI (b : Bool) : Int32 := if b then nI 1 else nI 0
section BASE
variable {a b : Nat} {o : Option Nat} {k : Option Rs} {x : Int32} {y : Int64} {v : Value}
theorem cR_ref : cR (.ref a) k = k := rfl
theorem cR_null : cR .null k = k := rfl
theorem cR_rf : cR (va_rf o) k = k := by cases o <;> rfl
theorem c1_int : c1 (.int x) k = k := rfl
theorem c1_ref : c1 (.ref a) k = k := rfl
theorem c1_null : c1 .null k = k := rfl
theorem c1_rf : c1 (va_rf o) k = k := by cases o <;> rfl
theorem kz_int : k2 (.int x) = .int x := rfl
theorem kz_ref : k2 (.ref a) = .ref a := rfl
theorem kz_null : k2 .null = .null := rfl
theorem kz_rf : k2 (va_rf o) = va_rf o := by cases o <;> rfl
theorem kz_U : k2 U = U := rfl
theorem kz_long : k2 (.long y) = U := rfl
theorem nB_null {p q : Option Rs} : nB .null p q = p := rfl
theorem nB_ref {p q : Option Rs} : nB (.ref a) p q = q := rfl
theorem rf_none : va_rf none = .null := rfl
theorem rf_some : va_rf (some a) = .ref a := rfl
theorem isR_ref : isR (.ref a) = true := rfl
theorem isR_null : isR .null = true := rfl
theorem isR_rf : isR (va_rf o) = true := by cases o <;> rfl
theorem bV_ret {h : AH} {f : AH → Option Rs} : bV (some (.returned none, h)) f = f h := rfl
theorem bV_thr {h : AH} {f : AH → Option Rs} : bV (some (.threw a, h)) f = some (.threw a, h) := rfl
theorem bA_ret {h : AH} {f : Value → AH → Option Rs} : bA (some (.returned (some v), h)) f = f v h := rfl
theorem bA_thr {h : AH} {f : Value → AH → Option Rs} : bA (some (.threw a, h)) f = some (.threw a, h) := rfl
theorem bX_ret {h : AH} {f : Value → AH → Option Rs} {g : Nat → AH → Option Rs} : bX (some (.returned (some v), h)) f g = f v h := rfl
theorem bX_thr {h : AH} {f : Value → AH → Option Rs} {g : Nat → AH → Option Rs} : bX (some (.threw a, h)) f g = g a h := rfl
theorem len4_0 : (([] : List Value).length ≤ 4) = True := eq_true (by decide)
theorem len4_1 {a : Value} : ([a].length ≤ 4) = True := eq_true (by simp)
theorem len4_2 {a b : Value} : ([a, b].length ≤ 4) = True := eq_true (by simp)
theorem len4_3 {a b c : Value} : ([a, b, c].length ≤ 4) = True := eq_true (by simp)
theorem len4_4 {a b c d : Value} : ([a, b, c, d].length ≤ 4) = True := eq_true (by simp)
theorem nR_b1 : nR .boolean (nI 1) k = k := if_pos (by decide)
theorem nR_b0 : nR .boolean (nI 0) k = k := if_pos (by decide)
theorem nR_bI {c : Bool} : nR .boolean (bI c) k = k := by cases c <;> exact if_pos (by decide)
theorem nI_1z : (nI 1 = 0) = False := eq_false (by decide)
theorem nI_0z : (nI 0 = 0) = True := eq_true (by decide)
theorem bI_z {c : Bool} : (bI c = 0) = (c = false) := by cases c <;> simp [bI, nI_1z, nI_0z]
theorem bI_t : bI true = nI 1 := rfl
theorem bI_f : bI false = nI 0 := rfl
theorem bI_if {c : Prop} [Decidable c] : bI (decide c) = if c then nI 1 else nI 0 := by unfold bI; by_cases h : c <;> simp [h]
theorem if_nn {α : Sort _} {c : Prop} [Decidable c] {p q : α} : (if ¬ c then p else q) = if c then q else p := by by_cases h : c <;> simp [h]
theorem lg_cmp_z {p q : Int64} : (lg_cmp p q = 0) = (p = q) := by
  unfold lg_cmp
  by_cases h1 : p > q
  · rw [if_pos h1]
    have : ¬ p = q := fun e => by rw [e] at h1; exact absurd h1 (by simp [Int64.lt_irrefl])
    simp [this]
  · rw [if_neg h1]
    by_cases h2 : p = q
    · simp [h2]
    · simp [h2]
theorem lg_cmp_neg {p q : Int64} : (lg_cmp p q < 0) = (p < q) := by
  have h := lg_cmp_ge p q
  apply propext
  rw [← Int32.not_le, h, Int64.not_le]
theorem lg_cmp_pos {p q : Int64} : (0 < lg_cmp p q) = (q < p) := by
  unfold lg_cmp
  by_cases h1 : p > q
  · rw [if_pos h1]
    exact propext ⟨fun _ => h1, fun _ => by decide⟩
  · rw [if_neg h1]
    have h1' : ¬ q < p := h1
    by_cases h2 : p = q
    · rw [if_pos h2]; simp [h1']
    · rw [if_neg h2]; exact propext ⟨fun h => absurd h (by decide), fun h => absurd h h1'⟩
theorem okv_int : okv .int (.int x) = true := by simp [okv, narrow, fits]
theorem okv_long : okv .long (.long y) = true := by simp [okv, narrow, fits]
theorem okv_oref {C : String} : okv (.object C) (.ref a) = true := by simp [okv, narrow, fits]
theorem okv_onull {C : String} : okv (.object C) .null = true := by simp [okv, narrow, fits]
theorem okv_orf {C : String} : okv (.object C) (va_rf o) = true := by cases o <;> simp [okv, narrow, fits, va_rf]
theorem okv_aref {t : FieldType} : okv (.array t) (.ref a) = true := by simp [okv, narrow, fits]
theorem okv_b1 : okv .boolean (.int (nI 1)) = true := by decide
theorem okv_b0 : okv .boolean (.int (nI 0)) = true := by decide
theorem okv_z0 : okv .boolean (.int 0) = true := by decide
theorem okv_bI {c : Bool} : okv .boolean (.int (bI c)) = true := by cases c <;> decide
end BASE
theorem gf1 {h : AH} {a ci j : Nat} {fs : List Value} (hx : h.1 a = some (.inr (ci, fs))) : gf h a [(ci, j)] = fs[j]? := by
  unfold gf; rw [hx]; simp [List.lookup]
theorem clN1 {h : AH} {a ci : Nat} {fs : List Value} (hx : h.1 a = some (.inr (ci, fs))) : clN h a = some ci := by
  unfold clN; rw [hx]
theorem pf1 {z : Nat} {h : AH} {a ci j : Nat} {fs : List Value} {ty : FieldType} {v : Value} (hx : h.1 a = some (.inr (ci, fs))) (hz : z ≤ a) (hj : j < fs.length) (hv : okv ty v = true) : pf z h a [(ci, j)] ty v = some (hput h a (.inr (ci, fs.set j v))) := by
  unfold pf; rw [hx]; simp [List.lookup, hz, hj, hv]
theorem gaI1 {tys : List FieldType} {h : AH} {a N i : Nat} {ty : FieldType} {f : Nat → Int32} (hx : h.1 a = some (arI ty N f)) (ht : ty ∈ tys) (hi : i < N) (hN : N < 2 ^ 31) : gaI tys h a (nI i) = some (f i) := by
  unfold gaI; rw [hx]; simp only []; rw [if_pos ⟨ht, hN⟩, ckI_nI hi (by omega)]; rfl
theorem gaL1 {h : AH} {a N i : Nat} {f : Nat → Int64} (hx : h.1 a = some (arL N f)) (hi : i < N) (hN : N < 2 ^ 31) : gaL h a (nI i) = some (f i) := by
  unfold gaL; rw [hx]; simp only []; rw [if_pos hN, ckI_nI hi (by omega)]; rfl
theorem gaR1 {h : AH} {a N i : Nat} {C : String} {f : Nat → Option Nat} (hx : h.1 a = some (arR C N f)) (hi : i < N) (hN : N < 2 ^ 31) : gaR h a (nI i) = some (f i) := by
  unfold gaR; rw [hx]; simp only []; rw [if_pos hN, ckI_nI hi (by omega)]; rfl
theorem saI1 {tys : List FieldType} {z : Nat} {h : AH} {a N i : Nat} {ty : FieldType} {f : Nat → Int32} {v : Int32} (hx : h.1 a = some (arI ty N f)) (ht : ty ∈ tys) (hz : z ≤ a) (hi : i < N) (hN : N < 2 ^ 31) (hv : narrow ty (.int v) = .int v) : saI tys z h a (nI i) v = some (hput h a (arI ty N (va_up f i v))) := by
  unfold saI; rw [hx]; simp only []; rw [if_pos ⟨ht, hN, hz, hv⟩, ckI_nI hi (by omega)]; rfl
theorem saL1 {z : Nat} {h : AH} {a N i : Nat} {f : Nat → Int64} {v : Int64} (hx : h.1 a = some (arL N f)) (hz : z ≤ a) (hi : i < N) (hN : N < 2 ^ 31) : saL z h a (nI i) v = some (hput h a (arL N (va_up f i v))) := by
  unfold saL; rw [hx]; simp only []; rw [if_pos ⟨hN, hz⟩, ckI_nI hi (by omega)]; rfl
theorem saR1 {C : String} {cs : List Nat} {z : Nat} {h : AH} {a N i b ci : Nat} {fs : List Value} {f : Nat → Option Nat} (hx : h.1 a = some (arR C N f)) (hz : z ≤ a) (hb : h.1 b = some (.inr (ci, fs))) (hc : ci ∈ cs) (hi : i < N) (hN : N < 2 ^ 31) : saR C cs z h a (nI i) (.ref b) = some (hput h a (arR C N (va_up f i (some b)))) := by
  unfold saR; rw [hx]; simp only []; rw [if_pos ⟨trivial, hN, hz⟩, hb]; simp only []; rw [if_pos hc, ckI_nI hi (by omega)]; rfl
theorem saR0 {C : String} {cs : List Nat} {z : Nat} {h : AH} {a N i : Nat} {f : Nat → Option Nat} (hx : h.1 a = some (arR C N f)) (hz : z ≤ a) (hi : i < N) (hN : N < 2 ^ 31) : saR C cs z h a (nI i) .null = some (hput h a (arR C N (va_up f i none))) := by
  unfold saR; rw [hx]; simp only []; rw [if_pos ⟨trivial, hN, hz⟩, ckI_nI hi (by omega)]; rfl
