/-! NUMBERS: bytes of a long -/
noncomputable def dec (p : Prop) : Bool := @decide p (Classical.propDecidable p)
theorem dec_t {p : Prop} (h : p) : dec p = true := by unfold dec; exact @decide_eq_true p (Classical.propDecidable p) h
theorem dec_f {p : Prop} (h : ¬ p) : dec p = false := by unfold dec; exact @decide_eq_false p (Classical.propDecidable p) h
theorem dec_iff {p : Prop} : dec p = true ↔ p := ⟨fun h => Classical.byContradiction fun q => (by rw [dec_f q] at h; cases h), dec_t⟩
theorem dec_niff {p : Prop} : dec p = false ↔ ¬ p := ⟨fun h q => (by rw [dec_t q] at h; cases h), dec_f⟩
theorem dec_congr {p q : Prop} (h : p ↔ q) : dec p = dec q := by rw [propext h]
theorem dec_decide {p : Prop} [Decidable p] : dec p = decide p := by by_cases h : p <;> simp [h, dec_t, dec_f]
/-- byte i of a long -/
def byt (w : Int64) (i : Nat) : Nat := w.toBitVec.toNat / 2 ^ (8 * i) % 256
theorem byt_lt (w : Int64) (i : Nat) : byt w i < 256 := Nat.mod_lt _ (by decide)
theorem sh_c : ∀ k, k < 64 → ((nI k).toInt64 &&& 63) = lN k := by decide
theorem sh_sm : ∀ k, k < 64 → ((lN k).toBitVec.smod 64).toNat = k := by decide
theorem sshr_mod (X : BitVec 64) {k : Nat} (hk : k ≤ 56) : (X.sshiftRight k).toNat % 2 ^ 8 = X.toNat / 2 ^ k % 2 ^ 8 := by
  apply Nat.eq_of_testBit_eq
  intro j
  rw [Nat.testBit_mod_two_pow, Nat.testBit_mod_two_pow, Nat.testBit_div_two_pow]
  by_cases hj : j < 8
  · have e := BitVec.getLsbD_sshiftRight (x := X) (s := k) (i := j)
    rw [if_pos (by omega)] at e
    simp only [hj, decide_true, Bool.true_and]
    have : (X.sshiftRight k).toNat.testBit j = (X.sshiftRight k).getLsbD j := rfl
    rw [this, e]
    simp only [show ¬ 64 ≤ j by omega, decide_false, Bool.not_false, Bool.true_and]
    rw [Nat.add_comm]; rfl
  · simp [hj]
theorem byt_eq (w : Int64) {i : Nat} (hi : i < 8) : ((w >>> ((nI (8 * i)).toInt64 &&& 63)).toInt32 &&& nI 255) = nI (byt w i) := by
  rw [sh_c _ (by omega), pk_and _ (m := nI 255) 8 (by decide)]
  congr 1
  have e1 : (w >>> lN (8 * i)).toInt32.toBitVec = (w.toBitVec.sshiftRight (8 * i)).setWidth 32 := by
    show (w.toBitVec.sshiftRight ((lN (8 * i)).toBitVec.smod 64).toNat).signExtend 32 = _
    rw [sh_sm _ (by omega)]
    exact BitVec.signExtend_eq_setWidth_of_le _ (by decide)
  rw [e1, BitVec.toNat_setWidth, Nat.mod_mod_of_dvd _ (by decide : 2 ^ 8 ∣ 2 ^ 32), sshr_mod _ (by omega)]
  rfl
/-- a word's code: letters, then nothing above -/
def isWd (w : Int64) : Prop := ∃ n : Nat, 1 ≤ n ∧ n ≤ 8 ∧ ∀ i : Nat, i < 8 → (i < n → 97 ≤ byt w i ∧ byt w i ≤ 122) ∧ (n ≤ i → byt w i = 0)
def isNm (w : Int64) : Prop := w ≤ -1 ∧ -10000 ≤ w
