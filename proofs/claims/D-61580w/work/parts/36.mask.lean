/-! solutions: at most six variables; their masks -/
abbrev Sol : Type := Nat → Option Int64
def mskN (s : Sol) : Nat → Nat
  | 0 => 0
  | n + 1 => mskN s n + if (s n).isSome then 2 ^ n else 0
def msk (s : Sol) : Nat := mskN s 6
theorem mskN_lt (s : Sol) (n : Nat) : mskN s n < 2 ^ n := by
  induction n with
  | zero => exact Nat.zero_lt_one
  | succ n ih =>
    unfold mskN
    have : 2 ^ (n + 1) = 2 ^ n + 2 ^ n := by omega
    split <;> omega
theorem msk_lt (s : Sol) : msk s < 64 := mskN_lt s 6
theorem mskN_bit (s : Sol) : ∀ (n v : Nat), v < n → (mskN s n).testBit v = (s v).isSome := by
  intro n
  induction n with
  | zero => intro v h; omega
  | succ n ih =>
    intro v hv
    have hlt := mskN_lt s n
    unfold mskN
    by_cases hvn : v = n
    · subst hvn
      cases hs : (s v).isSome with
      | true =>
        simp only [if_true]
        rw [Nat.add_comm, Nat.testBit_two_pow_add_eq, Nat.testBit_lt_two_pow hlt]; rfl
      | false =>
        simp only [Bool.false_eq_true, if_false, Nat.add_zero]
        exact Nat.testBit_lt_two_pow hlt
    · have hv' : v < n := by omega
      split
      · rw [Nat.add_comm, Nat.testBit_two_pow_add_gt hv']; exact ih v hv'
      · rw [Nat.add_zero]; exact ih v hv'
theorem msk_bit (s : Sol) {v : Nat} (hv : v < 6) : (msk s).testBit v = (s v).isSome := mskN_bit s 6 v hv
theorem msk_eq {s t : Sol} (h : ∀ v, v < 6 → (s v).isSome = (t v).isSome) : msk s = msk t := by
  apply Nat.eq_of_testBit_eq
  intro v
  by_cases hv : v < 6
  · rw [msk_bit s hv, msk_bit t hv]; exact h v hv
  · have e : 2 ^ 6 ≤ 2 ^ v := Nat.pow_le_pow_right (by decide) (by omega)
    rw [Nat.testBit_lt_two_pow (Nat.lt_of_lt_of_le (msk_lt s) e), Nat.testBit_lt_two_pow (Nat.lt_of_lt_of_le (msk_lt t) e)]
theorem sh5 : ∀ v, v < 6 → ((nI v &&& 31).toBitVec.smod 32).toNat = v := by decide
theorem bit_eq {m v : Nat} (hm : m < 2 ^ 31) (hv : v < 6) : (nI m >>> (nI v &&& 31)) &&& nI 1 = nI (m / 2 ^ v % 2) := by
  have h2 : m / 2 ^ v ≤ m := Nat.div_le_self _ _
  rw [pk_shrN hm _ v (sh5 v hv), pk_andN (by omega) 1 (by decide)]
theorem bit_if {α : Sort _} {m v : Nat} {p q : α} (hm : m < 2 ^ 31) (hv : v < 6) : (if (nI m >>> (nI v &&& 31)) &&& nI 1 = nI 1 then p else q) = if m.testBit v = true then p else q := by
  rw [bit_eq hm hv]
  have e : (nI (m / 2 ^ v % 2) = nI 1) ↔ m.testBit v = true := by
    rw [nI_eq (by omega) (by decide), Nat.testBit_eq_decide_div_mod_eq, decide_eq_true_eq]
  by_cases h : m.testBit v = true
  · rw [if_pos h, if_pos (e.mpr h)]
  · rw [if_neg h, if_neg (fun q => h (e.mp q))]
/-- the twin's results: columns' variables, rows -/
def RwL (σ : Tw) (cols : List Nat) (rows : List Sol) : Prop := σ.1 55 = nI rows.length ∧ σ.1 57 = nI cols.length ∧ rows.length ≤ 150 ∧ cols.length ≤ 6 ∧ (∀ i v, cols[i]? = some v → v < 6 ∧ σ.2.2.1 56 i = nI v) ∧ ∀ r s, rows[r]? = some s → σ.2.2.1 53 r = nI (msk s) ∧ ∀ v t, v < 6 → s v = some t → σ.2.2.2 52 (6 * r + v) = t
/-- its text -/
def TxL (σ : Tw) (cs : List Nat) : Prop := σ.1 13 = nI cs.length ∧ cs.length ≤ 160 ∧ (∀ i c, cs[i]? = some c → σ.2.2.1 12 i = nI c) ∧ ∀ c ∈ cs, 32 ≤ c ∧ c ≤ 126
