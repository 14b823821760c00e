/-! WORDS' AND NUMBERS' CODES, plain -/
theorem nI_L {c : Nat} (hc : c < 2 ^ 31) : (nI c).toInt64 = lN c := by
  apply Int64.toInt_inj.mp
  rw [Int32.toInt_toInt64, nI_toInt hc, lN_toInt hc]
theorem lNn {n : Nat} (h : n < 2 ^ 64) : (lN n).toBitVec.toNat = n := by
  show (BitVec.ofNat 64 n).toNat = n
  rw [BitVec.toNat_ofNat, Nat.mod_eq_of_lt h]
theorem wst_n {n c : Nat} (hn : n < 2 ^ 56) (hc : c < 256) : wst (lN n) c = lN (n * 256 + c) := by
  unfold wst
  rw [sh_c 8 (by decide), nI_L (by omega)]
  apply Int64.toBitVec_inj.mp
  show (lN n).toBitVec <<< ((lN 8).toBitVec.smod 64).toNat ||| (lN c).toBitVec = _
  rw [sh_sm 8 (by decide)]
  apply BitVec.eq_of_toNat_eq
  rw [BitVec.toNat_or, BitVec.toNat_shiftLeft, lNn (by omega), lNn (by omega), lNn (by omega), Nat.shiftLeft_eq, Nat.mod_eq_of_lt (by omega)]
  rw [← Nat.shiftLeft_eq, ← Nat.shiftLeft_add_eq_or_of_lt (by omega : c < 2 ^ 8), Nat.shiftLeft_eq]
def wN (w : List Nat) : Nat := w.foldl (fun t c => t * 256 + c) 0
def isW (w : List Nat) : Prop := 1 ≤ w.length ∧ w.length ≤ 8 ∧ ∀ c ∈ w, 97 ≤ c ∧ c ≤ 122
theorem snoc_ind {P : List Nat → Prop} (h0 : P []) (h1 : ∀ w c, P w → P (w ++ [c])) (w : List Nat) : P w := by
  have : ∀ v : List Nat, P v.reverse := by
    intro v
    induction v with
    | nil => exact h0
    | cons c v ih => rw [List.reverse_cons]; exact h1 _ _ ih
  have e := this w.reverse
  rwa [List.reverse_reverse] at e
theorem wN_snoc {w : List Nat} {c : Nat} : wN (w ++ [c]) = wN w * 256 + c := by unfold wN; rw [List.foldl_append]; rfl
theorem wcode_snoc {w : List Nat} {c : Nat} : wcode (w ++ [c]) = wst (wcode w) c := by unfold wcode; rw [List.foldl_append]; rfl
theorem wN_lt (w : List Nat) : (∀ c ∈ w, c < 256) → wN w < 256 ^ w.length := by
  refine snoc_ind (P := fun w => (∀ c ∈ w, c < 256) → wN w < 256 ^ w.length) (fun _ => by decide) (fun w c ih hw => ?_) w
  have h1 := ih (fun q hq => hw q (List.mem_append_left _ hq))
  have h2 := hw c (by simp)
  rw [wN_snoc, List.length_append, List.length_singleton, Nat.pow_succ]
  omega
theorem wcode_n (w : List Nat) : w.length ≤ 8 → (∀ c ∈ w, c < 256) → wcode w = lN (wN w) := by
  refine snoc_ind (P := fun w => w.length ≤ 8 → (∀ c ∈ w, c < 256) → wcode w = lN (wN w)) (fun _ _ => rfl) (fun w c ih hl hw => ?_) w
  rw [List.length_append, List.length_singleton] at hl
  have h0 : ∀ q ∈ w, q < 256 := fun q hq => hw q (List.mem_append_left _ hq)
  rw [wcode_snoc, ih (by omega) h0, wN_snoc, wst_n _ (hw c (by simp))]
  refine Nat.lt_of_lt_of_le (wN_lt w h0) ?_
  calc 256 ^ w.length ≤ 256 ^ 7 := Nat.pow_le_pow_right (by decide) (by omega)
    _ = 2 ^ 56 := by decide
theorem wN_inj (w : List Nat) : (∀ c ∈ w, 1 ≤ c ∧ c < 256) → ∀ v : List Nat, (∀ c ∈ v, 1 ≤ c ∧ c < 256) → wN w = wN v → w = v := by
  refine snoc_ind (P := fun w => (∀ c ∈ w, 1 ≤ c ∧ c < 256) → ∀ v : List Nat, (∀ c ∈ v, 1 ≤ c ∧ c < 256) → wN w = wN v → w = v) (fun _ v => ?_) (fun w c ih hw v => ?_) w
  · refine snoc_ind (P := fun v => (∀ c ∈ v, 1 ≤ c ∧ c < 256) → wN [] = wN v → [] = v) (fun _ _ => rfl) (fun v c _ hv he => ?_) v
    have := hv c (by simp)
    rw [wN_snoc] at he
    have e0 : wN [] = 0 := rfl
    omega
  · refine snoc_ind (P := fun v => (∀ c ∈ v, 1 ≤ c ∧ c < 256) → wN (w ++ [c]) = wN v → w ++ [c] = v) (fun _ he => ?_) (fun v q _ hv he => ?_) v
    · have := hw c (by simp)
      rw [wN_snoc] at he
      have e0 : wN [] = 0 := rfl
      omega
    · have h1 := hw c (by simp)
      have h2 := hv q (by simp)
      rw [wN_snoc, wN_snoc] at he
      have hq : c = q := by omega
      have hww : wN w = wN v := by omega
      rw [hq, ih (fun z hz => hw z (List.mem_append_left _ hz)) v (fun z hz => hv z (List.mem_append_left _ hz)) hww]
theorem isW.b {w : List Nat} (h : isW w) : ∀ c ∈ w, 1 ≤ c ∧ c < 256 := fun c hc => by have := h.2.2 c hc; omega
theorem isW.n {w : List Nat} (h : isW w) : wcode w = lN (wN w) := wcode_n w h.2.1 (fun c hc => (h.b c hc).2)
theorem isW.lt {w : List Nat} (h : isW w) : wN w < 2 ^ 64 := by
  refine Nat.lt_of_lt_of_le (wN_lt w (fun c hc => (h.b c hc).2)) ?_
  calc 256 ^ w.length ≤ 256 ^ 8 := Nat.pow_le_pow_right (by decide) h.2.1
    _ = 2 ^ 64 := by decide
theorem wcode_inj {w v : List Nat} (hw : isW w) (hv : isW v) (h : wcode w = wcode v) : w = v := by
  rw [hw.n, hv.n] at h
  refine wN_inj w hw.b v hv.b ?_
  have := congrArg (fun q : Int64 => q.toBitVec.toNat) h
  simp only [lNn hw.lt, lNn hv.lt] at this
  exact this
def nN (w : List Nat) : Nat := w.foldl (fun t c => 10 * t + (c - 48)) 0
theorem nN_snoc {w : List Nat} {c : Nat} : nN (w ++ [c]) = 10 * nN w + (c - 48) := by unfold nN; rw [List.foldl_append]; rfl
theorem ncode_snoc {w : List Nat} {c : Nat} : ncode (w ++ [c]) = nst (ncode w) c := by unfold ncode; rw [List.foldl_append]; rfl
def isNu (w : List Nat) : Prop := 1 ≤ w.length ∧ w.length ≤ 4 ∧ ∀ c ∈ w, 48 ≤ c ∧ c ≤ 57
theorem nN_lt (w : List Nat) : (∀ c ∈ w, 48 ≤ c ∧ c ≤ 57) → nN w < 10 ^ w.length := by
  refine snoc_ind (P := fun w => (∀ c ∈ w, 48 ≤ c ∧ c ≤ 57) → nN w < 10 ^ w.length) (fun _ => by decide) (fun w c ih hw => ?_) w
  have h1 := ih (fun q hq => hw q (List.mem_append_left _ hq))
  have h2 := hw c (by simp)
  rw [nN_snoc, List.length_append, List.length_singleton, Nat.pow_succ]
  omega
theorem ncode_n (w : List Nat) : (∀ c ∈ w, 48 ≤ c ∧ c ≤ 57) → ncode w = lN (nN w) := by
  refine snoc_ind (P := fun w => (∀ c ∈ w, 48 ≤ c ∧ c ≤ 57) → ncode w = lN (nN w)) (fun _ => rfl) (fun w c ih hw => ?_) w
  have h2 := hw c (by simp)
  rw [ncode_snoc, ih (fun q hq => hw q (List.mem_append_left _ hq)), nN_snoc]
  unfold nst
  rw [nI_L (by omega), show (10 : Int64) = lN 10 from rfl, show (48 : Int64) = lN 48 from rfl, lN_mul, lN_add, lN_sub (by omega)]
  congr 1
  omega
theorem isNu.lt {w : List Nat} (h : isNu w) : nN w < 10000 := by
  refine Nat.lt_of_lt_of_le (nN_lt w h.2.2) ?_
  calc 10 ^ w.length ≤ 10 ^ 4 := Nat.pow_le_pow_right (by decide) h.2.1
    _ = 10000 := by decide
/-- what a token's word is -/
def TkW (t : Nat × List Nat × Nat × Nat) : Prop := ((t.1 = 1 ∨ t.1 = 3) → isW t.2.1) ∧ (t.1 = 2 → isNu t.2.1) ∧ (t.1 = 4 → ∃ c, t.2.1 = [c] ∧ isS c = true) ∧ t.1 ≤ 5
theorem lex_w {cs : List Nat} {e : Nat} (he : e ≤ cs.length) : TkW (lexT cs e) ∧ e ≤ (lexT cs e).2.2.1 ∧ (lexT cs e).2.2.1 ≤ (lexT cs e).2.2.2 ∧ (lexT cs e).2.2.2 ≤ cs.length ∧ ((lexT cs e).1 ≠ 0 → (lexT cs e).2.2.1 < (lexT cs e).2.2.2) := by
  unfold lexT
  have ha : adv isBl cs e ≤ cs.length := adv_le he
  have hg := adv_ge (f := isBl) (cs := cs) (a := e)
  generalize adv isBl cs e = a at *
  cases hc : cs[a]? with
  | none =>
    rw [lexA_none hc]
    refine ⟨⟨fun q => ?_, fun q => ?_, fun q => ?_, Nat.zero_le _⟩, Nat.le_refl _, Nat.le_refl _, he, fun q => absurd rfl q⟩
    · rcases q with q | q <;> cases q
    · cases q
    · cases q
  | some c =>
    rw [lexA_some hc]
    have hal := (List.getElem?_eq_some_iff.mp hc).1
    unfold lexC
    cases hL : isL c with
    | true =>
      have h1 := adv_le (f := isL) ha
      have h2 : a + 1 ≤ adv isL cs a := by rw [adv_go hc hL]; exact adv_ge
      rw [if_pos rfl]
      refine ⟨⟨fun q => ?_, fun q => ?_, fun q => ?_, by show (if _ then 5 else 1) ≤ 5; split <;> decide⟩, hg, by show a ≤ adv isL cs a; omega, h1, fun _ => h2⟩
      · refine ⟨?_, ?_, fun z hz => of_decide_eq_true (sub_mem hz)⟩
        · show 1 ≤ (sub cs a _).length; rw [sub_len h1]; omega
        · show (sub cs a _).length ≤ 8
          rw [sub_len h1]
          by_cases h8 : 8 < adv isL cs a - a
          · simp [h8] at q
          · omega
      · have : (if 8 < adv isL cs a - a then 5 else 1) = 2 := q
        split at this <;> cases this
      · have : (if 8 < adv isL cs a - a then 5 else 1) = 4 := q
        split at this <;> cases this
    | false =>
      rw [if_neg (by decide)]
      cases hD : isD c with
      | true =>
        have h1 := adv_le (f := isD) ha
        have h2 : a + 1 ≤ adv isD cs a := by rw [adv_go hc hD]; exact adv_ge
        rw [if_pos rfl]
        refine ⟨⟨fun q => ?_, fun q => ?_, fun q => ?_, by show (if _ then 5 else 2) ≤ 5; split <;> decide⟩, hg, by show a ≤ adv isD cs a; omega, h1, fun _ => h2⟩
        · have : (if 4 < adv isD cs a - a then 5 else 2) = 1 ∨ (if 4 < adv isD cs a - a then 5 else 2) = 3 := q
          split at this <;> rcases this with z | z <;> cases z
        · refine ⟨?_, ?_, fun z hz => of_decide_eq_true (sub_mem hz)⟩
          · show 1 ≤ (sub cs a _).length; rw [sub_len h1]; omega
          · show (sub cs a _).length ≤ 4
            rw [sub_len h1]
            have : (if 4 < adv isD cs a - a then 5 else 2) = 2 := q
            by_cases h8 : 4 < adv isD cs a - a
            · rw [if_pos h8] at this; cases this
            · omega
        · have : (if 4 < adv isD cs a - a then 5 else 2) = 4 := q
          split at this <;> cases this
      | false =>
        rw [if_neg (by decide)]
        by_cases h63 : c = 63
        · have h1 := adv_le (f := isL) (show a + 1 ≤ cs.length by omega)
          have h2 := adv_ge (f := isL) (cs := cs) (a := a + 1)
          rw [if_pos h63]
          refine ⟨⟨fun q => ?_, fun q => ?_, fun q => ?_, by show (if _ then 3 else 5) ≤ 5; split <;> decide⟩, hg, by show a ≤ adv isL cs (a + 1); omega, h1, fun _ => h2⟩
          · have hq : (if 1 ≤ adv isL cs (a + 1) - (a + 1) ∧ adv isL cs (a + 1) - (a + 1) ≤ 8 then 3 else 5) = 1 ∨ (if 1 ≤ adv isL cs (a + 1) - (a + 1) ∧ adv isL cs (a + 1) - (a + 1) ≤ 8 then 3 else 5) = 3 := q
            by_cases h8 : 1 ≤ adv isL cs (a + 1) - (a + 1) ∧ adv isL cs (a + 1) - (a + 1) ≤ 8
            · refine ⟨?_, ?_, fun z hz => of_decide_eq_true (sub_mem hz)⟩
              · show 1 ≤ (sub cs _ _).length; rw [sub_len h1]; omega
              · show (sub cs _ _).length ≤ 8; rw [sub_len h1]; omega
            · rw [if_neg h8] at hq; rcases hq with z | z <;> cases z
          · have hq : (if 1 ≤ adv isL cs (a + 1) - (a + 1) ∧ adv isL cs (a + 1) - (a + 1) ≤ 8 then 3 else 5) = 2 := q
            split at hq <;> cases hq
          · have hq : (if 1 ≤ adv isL cs (a + 1) - (a + 1) ∧ adv isL cs (a + 1) - (a + 1) ≤ 8 then 3 else 5) = 4 := q
            split at hq <;> cases hq
        · rw [if_neg h63]
          refine ⟨⟨fun q => ?_, fun q => ?_, fun q => ⟨c, rfl, ?_⟩, by show (if _ then 4 else 5) ≤ 5; split <;> decide⟩, hg, by show a ≤ a + 1; omega, by show a + 1 ≤ _; omega, fun _ => by show a < a + 1; omega⟩
          · have hq : (if isS c = true then 4 else 5) = 1 ∨ (if isS c = true then 4 else 5) = 3 := q
            split at hq <;> rcases hq with z | z <;> cases z
          · have hq : (if isS c = true then 4 else 5) = 2 := q
            split at hq <;> cases hq
          · have hq : (if isS c = true then 4 else 5) = 4 := q
            split at hq
            · assumption
            · cases hq
