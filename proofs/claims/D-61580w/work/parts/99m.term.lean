/-! COMPONENT: terms from codes -/
def tWd (x : Int64) : Nat → List Nat → Option (List Nat)
  | 0, w => if w = [] then none else some w
  | n + 1, w => if byt x n = 0 ∧ w = [] then tWd x n w else if 97 ≤ byt x n ∧ byt x n ≤ 122 then tWd x n (w ++ [byt x n]) else none
theorem byt_div (x : Int64) (n : Nat) : x.toBitVec.toNat / 256 ^ n = x.toBitVec.toNat / 256 ^ (n + 1) * 256 + byt x n := by
  unfold byt
  have e : 2 ^ (8 * n) = 256 ^ n := by rw [Nat.pow_mul]
  rw [e, Nat.pow_succ, ← Nat.div_div_eq_div_mul]
  omega
theorem tWd_val {x : Int64} : ∀ (n : Nat) (w v : List Nat), n + w.length ≤ 8 → (∀ c ∈ w, 97 ≤ c ∧ c ≤ 122) → x.toBitVec.toNat / 256 ^ n = wN w → tWd x n w = some v → isW v ∧ wN v = x.toBitVec.toNat := by
  intro n
  induction n with
  | zero =>
    intro w v h1 h2 h3 h4
    unfold tWd at h4
    by_cases hw : w = []
    · rw [if_pos hw] at h4; cases h4
    · rw [if_neg hw] at h4
      cases h4
      have hp := List.length_pos_iff.mpr hw
      refine ⟨⟨by omega, by omega, h2⟩, ?_⟩
      rw [← h3, Nat.pow_zero, Nat.div_one]
  | succ n ih =>
    intro w v h1 h2 h3 h4
    have hd := byt_div x n
    unfold tWd at h4
    split at h4
    · next q =>
      refine ih w v (by omega) h2 ?_ h4
      rw [hd, h3, q.1, q.2]; rfl
    · split at h4
      · next q =>
        refine ih (w ++ [byt x n]) v (by rw [List.length_append, List.length_singleton]; omega) (fun c hc => ?_) ?_ h4
        · rcases List.mem_append.mp hc with z | z
          · exact h2 c z
          · rw [List.mem_singleton.mp z]; exact q
        · rw [hd, h3, wN_snoc]
      · cases h4
theorem tWd_sp {x : Int64} : ∀ (n : Nat) (w v : List Nat), tWd x n w = some v → (w ≠ [] → ∀ i, i < n → 97 ≤ byt x i ∧ byt x i ≤ 122) ∧ (w = [] → ∃ m, 1 ≤ m ∧ m ≤ n ∧ (∀ i, i < m → 97 ≤ byt x i ∧ byt x i ≤ 122) ∧ ∀ i, m ≤ i → i < n → byt x i = 0) := by
  intro n
  induction n with
  | zero =>
    intro w v h4
    unfold tWd at h4
    by_cases hw : w = []
    · rw [if_pos hw] at h4; cases h4
    · exact ⟨fun _ i hi => by omega, fun q => absurd q hw⟩
  | succ n ih =>
    intro w v h4
    unfold tWd at h4
    split at h4
    · next q =>
      refine ⟨fun z => absurd q.2 z, fun _ => ?_⟩
      obtain ⟨m, a1, a2, a3, a4⟩ := (ih w v h4).2 q.2
      refine ⟨m, a1, by omega, a3, fun i i1 i2 => ?_⟩
      rcases Nat.lt_or_ge i n with z | z
      · exact a4 i i1 z
      · have : i = n := by omega
        rw [this]; exact q.1
    · split at h4
      · next q =>
        have k := (ih _ v h4).1 (by simp)
        have k2 : ∀ i, i < n + 1 → 97 ≤ byt x i ∧ byt x i ≤ 122 := fun i hi => by
          rcases Nat.lt_or_ge i n with z | z
          · exact k i z
          · have : i = n := by omega
            rw [this]; exact q
        exact ⟨fun _ => k2, fun _ => ⟨n + 1, by omega, Nat.le_refl _, k2, fun i i1 i2 => by omega⟩⟩
      · cases h4
theorem tWd_ok {x : Int64} : ∀ (n : Nat) (w : List Nat), (∀ i, i < n → 97 ≤ byt x i ∧ byt x i ≤ 122) → (w ≠ [] ∨ 1 ≤ n) → ∃ v, tWd x n w = some v := by
  intro n
  induction n with
  | zero =>
    intro w _ h2
    unfold tWd
    rw [if_neg (by rcases h2 with z | z; exact z; omega)]
    exact ⟨w, rfl⟩
  | succ n ih =>
    intro w h1 _
    have hb := h1 n (by omega)
    unfold tWd
    rw [if_neg (fun z => by omega), if_pos hb]
    exact ih _ (fun i hi => h1 i (by omega)) (.inl (by simp))
theorem tWd_ok2 {x : Int64} {m : Nat} (h1 : 1 ≤ m) (h3 : ∀ i, i < m → 97 ≤ byt x i ∧ byt x i ≤ 122) : ∀ n : Nat, m ≤ n → (∀ i, m ≤ i → i < n → byt x i = 0) → ∃ v, tWd x n [] = some v := by
  intro n
  induction n with
  | zero => intro h2; omega
  | succ n ih =>
    intro h2 h4
    by_cases hm : m = n + 1
    · subst hm
      exact tWd_ok _ _ h3 (.inr (by omega))
    · obtain ⟨v, hv⟩ := ih (by omega) (fun i i1 i2 => h4 i i1 (by omega))
      unfold tWd
      rw [if_pos ⟨h4 n (by omega) (by omega), rfl⟩]
      exact ⟨v, hv⟩
theorem tWd_some {x : Int64} {v : List Nat} (h : tWd x 8 [] = some v) : isWd x ∧ isW v ∧ x = wcode v := by
  obtain ⟨m, a1, a2, a3, a4⟩ := (tWd_sp 8 [] v h).2 rfl
  have hl := x.toBitVec.isLt
  obtain ⟨b1, b2⟩ := tWd_val 8 [] v (by decide) (fun c hc => nomatch hc) (by
    show x.toBitVec.toNat / 256 ^ 8 = 0
    exact Nat.div_eq_of_lt (by omega)) h
  refine ⟨⟨m, a1, a2, fun i hi => ⟨fun q => a3 i q, fun q => a4 i q hi⟩⟩, b1, ?_⟩
  rw [b1.n, b2]
  apply Int64.toBitVec_inj.mp
  apply BitVec.eq_of_toNat_eq
  rw [lNn hl]
theorem tWd_none {x : Int64} (h : tWd x 8 [] = none) : ¬ isWd x := fun ⟨n, a1, a2, a3⟩ => by
  obtain ⟨v, hv⟩ := tWd_ok2 a1 (fun i hi => (a3 i (by omega)).1 hi) 8 a2 (fun i i1 i2 => (a3 i i2).2 i1)
  rw [h] at hv; cases hv
theorem sh8 {n : Nat} : nI (8 * (n + 1)) + (-8) = nI (8 * n) := by
  have e : nI (8 * (n + 1)) = nI (8 * n) + nI 8 := by rw [nI_add]; rfl
  rw [e, Int32.add_assoc]
  have : nI 8 + (-8 : Int32) = 0 := by decide
  rw [this, Int32.add_zero]
theorem sh80 : (nI (8 * 0) + (-8) < 0) = True := eq_true (by decide)
theorem nm_n {x : Int64} (h : isNm x) : ∃ n, n ≤ 9999 ∧ x = -1 - lN n := by
  obtain ⟨h1, h2⟩ := h
  rw [Int64.le_iff_toInt_le] at h1 h2
  have e1 : (-1 : Int64).toInt = -1 := by decide
  have e2 : (-10000 : Int64).toInt = -10000 := by decide
  rw [e1] at h1
  rw [e2] at h2
  have h3 := BitVec.toInt_eq_toNat_cond x.toBitVec
  have h3' : x.toInt = x.toBitVec.toInt := rfl
  rw [← h3'] at h3
  have h4 := x.toBitVec.isLt
  refine ⟨2 ^ 64 - 1 - x.toBitVec.toNat, ?_, ?_⟩
  · split at h3 <;> omega
  · apply Int64.toBitVec_inj.mp
    show x.toBitVec = (-1 : BitVec 64) - BitVec.ofNat 64 (2 ^ 64 - 1 - x.toBitVec.toNat)
    apply BitVec.eq_of_toNat_eq
    rw [BitVec.toNat_sub, BitVec.toNat_ofNat, show (-1 : BitVec 64).toNat = 2 ^ 64 - 1 from by decide]
    omega
theorem l2i {n : Nat} (h : n ≤ 9999) : (-1 - (-1 - lN n) : Int64).toInt32 = nI n := by
  apply Int32.toBitVec_inj.mp
  show ((-1 : BitVec 64) - ((-1 : BitVec 64) - BitVec.ofNat 64 n)).signExtend 32 = BitVec.ofNat 32 n
  rw [BitVec.signExtend_eq_setWidth_of_le _ (by decide)]
  apply BitVec.eq_of_toNat_eq
  rw [BitVec.toNat_setWidth, BitVec.toNat_sub, BitVec.toNat_sub, BitVec.toNat_ofNat, BitVec.toNat_ofNat, show (-1 : BitVec 64).toNat = 2 ^ 64 - 1 from by decide]
  omega
theorem wd_nn {x : Int64} (h : isWd x) : ¬ x < 0 := fun q => by
  obtain ⟨n, a1, a2, a3⟩ := h
  have h7 := byt_neg q
  have := a3 7 (by omega)
  rcases Nat.lt_or_ge 7 n with z | z
  · have := this.1 z; omega
  · have := this.2 z; omega
theorem nm_neg {x : Int64} (h : isNm x) : x < 0 := by
  rw [Int64.lt_iff_toInt_lt]
  have := Int64.le_iff_toInt_le.mp h.1
  have e1 : (-1 : Int64).toInt = -1 := by decide
  have e2 : (0 : Int64).toInt = 0 := by decide
  omega
theorem nm_ge {x : Int64} (h : isNm x) : ¬ x < -10000 := by
  rw [Int64.lt_iff_toInt_lt]
  have := Int64.le_iff_toInt_le.mp h.2
  omega
theorem nm_of {x : Int64} (h1 : x < 0) (h2 : ¬ x < -10000) : isNm x := by
  rw [Int64.lt_iff_toInt_lt] at h1 h2
  have e1 : (-1 : Int64).toInt = -1 := by decide
  have e2 : (0 : Int64).toInt = 0 := by decide
  exact ⟨Int64.le_iff_toInt_le.mpr (by omega), Int64.le_iff_toInt_le.mpr (by omega)⟩
section TOF
variable {Ω : Om} {d : Nat} {h h' hB : AH} {a b : Nat} {x : Int64}
theorem c_tl {sb bb : Nat} (hzs : Ω.sz ≤ sb) (hzb : Ω.sz ≤ bb) (hzB : Ω.sz ≤ hB.2.1) : ∀ (n : Nat) (w : List Nat) (H : AH) (l4 : Value), SbR H sb bb 8 w → n + w.length ≤ 8 → (∀ c ∈ w, 97 ≤ c ∧ c ≤ 122) → Nx [sb, bb] 0 0 hB H → (tWd x n w = none → ∃ e h', gO PG Ω (d + 8) 16 49 [.long x, U, .ref sb, .int (nI (8 * n) + (-8)), l4] [] H = some (.threw e, h') ∧ h'.1 e = some (.inr (24, [])) ∧ Nx [sb, bb] 1 6 hB h') ∧ (∀ v, tWd x n w = some v → ∃ a s h', gO PG Ω (d + 8) 16 49 [.long x, U, .ref sb, .int (nI (8 * n) + (-8)), l4] [] H = some (.returned (some (.ref a)), h') ∧ h'.1 a = some (.inr (4, [.ref s])) ∧ StrR h' s v ∧ hB.2.1 ≤ a ∧ Nx [sb, bb] 3 13 hB h') := by
  intro n
  induction n with
  | zero =>
    intro w H l4 hs hl hw nn
    have hs0 := hs
    obtain ⟨z, f, s1, s2, _⟩ := hs0
    have e0 := bb_len (Ω := Ω) (d := d + 6) hs
    have hzH : Ω.sz ≤ H.2.1 := Nat.le_trans hzB nn.2.2.1
    have hFe := nn.2.1
    by_cases hw0 : w = []
    · subst hw0
      refine ⟨fun _ => ⟨H.2.1, hnew H (.inr (24, [])) 6, ?_, hnew_e, nn.new.mono (fun _ q => q) (by omega) (by omega)⟩, fun v hv => absurd hv (by unfold tWd; rw [if_pos rfl]; exact fun z => nomatch z)⟩
      rw [e_X1_termOf_49]
      simp (disch := first | omega | (simp only [hnew_21, hput_21, hnew_22, hput_22]; omega) | exact isR_ref | exact isR_null | exact isR_rf | exact isR_fmt | assumption | decide) only [e_X1_termOf_50, e_X1_termOf_114, e_X1_termOf_115, e_X1_termOf_118, e_X1_termOf_121, cR_ref, cR_null, cR_rf, c1_int, c1_ref, c1_null, c1_rf, kz_int, kz_ref, kz_null, kz_rf, kz_U, kz_long, nB_null, nB_ref, rf_none, rf_some, bV_ret, bV_thr, bA_ret, bA_thr, bX_ret, bX_thr, len4_0, len4_1, len4_2, len4_3, len4_4, true_and, and_true, and_self, if_true, if_false, Option.bind_some, nR_b1, nR_b0, nR_bI, nI_1z, nI_0z, bI_z, if_nn, gf, pf, clN, aln, gaI, gaL, gaR, saI, saR, isI, ctB, isB, gB, hput_n, hput_e, hput_21, hput_22, hnew_n, hnew_e, hnew_21, hnew_22, Option.bind_some, Option.map_some, List.lookup_cons, List.lookup_nil, beq_self_eq_true, List.getElem?_cons_zero, List.getElem?_cons_succ, List.set_cons_zero, List.set_cons_succ, List.length_cons, List.length_nil, Nat.reduceAdd, Nat.reduceLT, Nat.reduceLeDiff, Nat.reduceBEq, Nat.reduceEqDiff, okv_int, okv_oref, okv_onull, okv_orf, okv_aref, okv_b0, okv_b1, okv_z0, okv_bI, ckI_nI, lt31, leT, reduceCtorEq, List.mem_cons, List.mem_singleton, List.not_mem_nil, or_true, true_or, or_false, false_or, toR_ref, toR_null, ↓reduceIte, sh80, s1, e0, nI_eq0]
    · refine ⟨fun hv => absurd hv (by unfold tWd; rw [if_neg hw0]; exact fun z => nomatch z), fun v hv => ?_⟩
      unfold tWd at hv
      rw [if_neg hw0] at hv
      cases hv
      have hp := List.length_pos_iff.mpr hw0
      have hp' : ¬ w.length = 0 := by omega
      have n1 : Nx [] 1 1 H (hnew H (.inr (4, [.null])) 1) := (Nx.rfl' hFe).new
      have hs1 := hs.nx n1 (by simp) (by simp)
      obtain ⟨h2, a1, a2, a3, a4⟩ := bb_str (Ω := Ω) (d := d + 2) (h := hnew H (.inr (4, [.null])) 1) hzb (by rw [hnew_21]; omega) n1.2.1 hs1
      rw [hnew_21] at a1 a2 a4
      have w2 : h2.1 H.2.1 = some (.inr (4, [.null])) := (a4 _ (by omega)).trans hnew_e
      have e1 := i_word (Ω := Ω) (d := d + 5) (b := H.2.1 + 1) hzH w2
      have lH := a3.2.1.lt w2
      have ls := hFe.lt s1
      have hns : sb ≠ H.2.1 := by omega
      have r2 := a2.r
      obtain ⟨b', z1, z2, f', u1, u2, u3⟩ := r2
      refine ⟨H.2.1, H.2.1 + 1, hput h2 H.2.1 (.inr (4, [.ref (H.2.1 + 1)])), ?_, hput_e, ⟨b', z1, z2, f', by rw [hput_n (by omega)]; exact u1, by rw [hput_n (ne_ca w2 u2).symm]; exact u2, u3⟩, nn.2.2.1, (((nn.trans (n1.mono (fun _ q => nomatch q) (Nat.le_refl _) (Nat.le_refl _))).trans (a3.mono (fun _ q => nomatch q) (Nat.le_refl _) (Nat.le_refl _))).put (.inr nn.2.2.1) lH).mono (fun _ q => q) (by omega) (by omega)⟩
      rw [e_X1_termOf_49]
      simp (disch := first | omega | (simp only [hnew_21, hput_21, hnew_22, hput_22]; omega) | exact isR_ref | exact isR_null | exact isR_rf | exact isR_fmt | assumption | decide) only [e_X1_termOf_50, e_X1_termOf_114, e_X1_termOf_115, e_X1_termOf_118, e_X1_termOf_121, e_X1_termOf_129, e_X1_termOf_132, e_X1_termOf_133, e_X1_termOf_134, cR_ref, cR_null, cR_rf, c1_int, c1_ref, c1_null, c1_rf, kz_int, kz_ref, kz_null, kz_rf, kz_U, kz_long, nB_null, nB_ref, rf_none, rf_some, bV_ret, bV_thr, bA_ret, bA_thr, bX_ret, bX_thr, len4_0, len4_1, len4_2, len4_3, len4_4, true_and, and_true, and_self, if_true, if_false, Option.bind_some, nR_b1, nR_b0, nR_bI, nI_1z, nI_0z, bI_z, if_nn, gf, pf, clN, aln, gaI, gaL, gaR, saI, saR, isI, ctB, isB, gB, hput_n, hput_e, hput_21, hput_22, hnew_n, hnew_e, hnew_21, hnew_22, Option.bind_some, Option.map_some, List.lookup_cons, List.lookup_nil, beq_self_eq_true, List.getElem?_cons_zero, List.getElem?_cons_succ, List.set_cons_zero, List.set_cons_succ, List.length_cons, List.length_nil, Nat.reduceAdd, Nat.reduceLT, Nat.reduceLeDiff, Nat.reduceBEq, Nat.reduceEqDiff, okv_int, okv_oref, okv_onull, okv_orf, okv_aref, okv_b0, okv_b1, okv_z0, okv_bI, ckI_nI, lt31, leT, reduceCtorEq, List.mem_cons, List.mem_singleton, List.not_mem_nil, or_true, true_or, or_false, false_or, toR_ref, toR_null, ↓reduceIte, sh80, s1, e0, nI_eq0, hp', hns, a1]
      simp (disch := first | omega | (simp only [hnew_21, hput_21, hnew_22, hput_22]; omega) | exact isR_ref | exact isR_null | exact isR_rf | exact isR_fmt | assumption | decide) only [e_X1_termOf_137, e_X1_termOf_140, cR_ref, cR_null, cR_rf, c1_int, c1_ref, c1_null, c1_rf, kz_int, kz_ref, kz_null, kz_rf, kz_U, kz_long, nB_null, nB_ref, rf_none, rf_some, bV_ret, bV_thr, bA_ret, bA_thr, bX_ret, bX_thr, len4_0, len4_1, len4_2, len4_3, len4_4, true_and, and_true, and_self, if_true, if_false, Option.bind_some, nR_b1, nR_b0, nR_bI, nI_1z, nI_0z, bI_z, if_nn, gf, pf, clN, aln, gaI, gaL, gaR, saI, saR, isI, ctB, isB, gB, hput_n, hput_e, hput_21, hput_22, hnew_n, hnew_e, hnew_21, hnew_22, Option.bind_some, Option.map_some, List.lookup_cons, List.lookup_nil, beq_self_eq_true, List.getElem?_cons_zero, List.getElem?_cons_succ, List.set_cons_zero, List.set_cons_succ, List.length_cons, List.length_nil, Nat.reduceAdd, Nat.reduceLT, Nat.reduceLeDiff, Nat.reduceBEq, Nat.reduceEqDiff, okv_int, okv_oref, okv_onull, okv_orf, okv_aref, okv_b0, okv_b1, okv_z0, okv_bI, ckI_nI, lt31, leT, reduceCtorEq, List.mem_cons, List.mem_singleton, List.not_mem_nil, or_true, true_or, or_false, false_or, toR_ref, toR_null, ↓reduceIte, e1]
  | succ n ih =>
    intro w H l4 hs hl hw nn
    have hs0 := hs
    obtain ⟨z, f, s1, s2, s3, s4, s5, s6⟩ := hs0
    have e0 := bb_len (Ω := Ω) (d := d + 6) hs
    have hb := byt_lt x n
    have hFe := nn.2.1
    by_cases hz : byt x n = 0 ∧ w = []
    · have et : tWd x (n + 1) w = tWd x n w := by
        show (if byt x n = 0 ∧ w = [] then _ else _) = _
        rw [if_pos hz]
      have eg : gO PG Ω (d + 8) 16 49 [.long x, U, .ref sb, .int (nI (8 * (n + 1)) + (-8)), l4] [] H = gO PG Ω (d + 8) 16 49 [.long x, U, .ref sb, .int (nI (8 * n) + (-8)), .int (nI (byt x n))] [] H := by
        obtain ⟨z1, z2⟩ := hz
        subst z2
        rw [e_X1_termOf_49]
        simp (disch := first | omega | (simp only [hnew_21, hput_21, hnew_22, hput_22]; omega) | exact isR_ref | exact isR_null | exact isR_rf | exact isR_fmt | assumption | decide) only [e_X1_termOf_50, e_X1_termOf_53, e_X1_termOf_54, e_X1_termOf_55, e_X1_termOf_56, e_X1_termOf_57, e_X1_termOf_60, e_X1_termOf_61, e_X1_termOf_63, e_X1_termOf_65, e_X1_termOf_68, e_X1_termOf_69, e_X1_termOf_72, e_X1_termOf_75, e_X1_termOf_78, e_X1_termOf_80, e_X1_termOf_82, e_X1_termOf_85, e_X1_termOf_87, e_X1_termOf_89, e_X1_termOf_92, e_X1_termOf_100, e_X1_termOf_101, e_X1_termOf_103, e_X1_termOf_104, e_X1_termOf_107, e_X1_termOf_108, e_X1_termOf_111, cR_ref, cR_null, cR_rf, c1_int, c1_ref, c1_null, c1_rf, kz_int, kz_ref, kz_null, kz_rf, kz_U, kz_long, nB_null, nB_ref, rf_none, rf_some, bV_ret, bV_thr, bA_ret, bA_thr, bX_ret, bX_thr, len4_0, len4_1, len4_2, len4_3, len4_4, true_and, and_true, and_self, if_true, if_false, Option.bind_some, nR_b1, nR_b0, nR_bI, nI_1z, nI_0z, bI_z, if_nn, gf, pf, clN, aln, gaI, gaL, gaR, saI, saR, isI, ctB, isB, gB, hput_n, hput_e, hput_21, hput_22, hnew_n, hnew_e, hnew_21, hnew_22, Option.bind_some, Option.map_some, List.lookup_cons, List.lookup_nil, beq_self_eq_true, List.getElem?_cons_zero, List.getElem?_cons_succ, List.set_cons_zero, List.set_cons_succ, List.length_cons, List.length_nil, Nat.reduceAdd, Nat.reduceLT, Nat.reduceLeDiff, Nat.reduceBEq, Nat.reduceEqDiff, okv_int, okv_oref, okv_onull, okv_orf, okv_aref, okv_b0, okv_b1, okv_z0, okv_bI, ckI_nI, lt31, leT, reduceCtorEq, List.mem_cons, List.mem_singleton, List.not_mem_nil, or_true, true_or, or_false, false_or, toR_ref, toR_null, ↓reduceIte, sh8, nI_ng, byt_eq, z1, s1, e0, nI_eq0]
      rw [et, eg]
      exact ih w H _ hs (by omega) hw nn
    · by_cases hc : 97 ≤ byt x n ∧ byt x n ≤ 122
      · have et : tWd x (n + 1) w = tWd x n (w ++ [byt x n]) := by
          show (if byt x n = 0 ∧ w = [] then _ else _) = _
          rw [if_neg hz, if_pos hc]
        obtain ⟨H2, a1, a2, a3, a4, a5⟩ := bb_app (Ω := Ω) (d := d + 5) (c := byt x n) hzs hzb hFe hs (by omega) (by omega)
        have eg : gO PG Ω (d + 8) 16 49 [.long x, U, .ref sb, .int (nI (8 * (n + 1)) + (-8)), l4] [] H = gO PG Ω (d + 8) 16 49 [.long x, U, .ref sb, .int (nI (8 * n) + (-8)), .int (nI (byt x n))] [] H2 := by
          have c1 : ¬ byt x n = 0 := by omega
          have c2 : ¬ byt x n < 97 := by omega
          have c3 : ¬ 122 < byt x n := by omega
          rw [e_X1_termOf_49]
          simp (disch := first | omega | (simp only [hnew_21, hput_21, hnew_22, hput_22]; omega) | exact isR_ref | exact isR_null | exact isR_rf | exact isR_fmt | assumption | decide) only [e_X1_termOf_50, e_X1_termOf_53, e_X1_termOf_54, e_X1_termOf_55, e_X1_termOf_56, e_X1_termOf_57, e_X1_termOf_60, e_X1_termOf_61, e_X1_termOf_63, e_X1_termOf_65, e_X1_termOf_68, e_X1_termOf_69, e_X1_termOf_72, e_X1_termOf_75, e_X1_termOf_78, e_X1_termOf_80, e_X1_termOf_82, e_X1_termOf_85, e_X1_termOf_87, e_X1_termOf_89, e_X1_termOf_92, e_X1_termOf_100, e_X1_termOf_101, e_X1_termOf_103, e_X1_termOf_104, e_X1_termOf_107, e_X1_termOf_108, e_X1_termOf_111, cR_ref, cR_null, cR_rf, c1_int, c1_ref, c1_null, c1_rf, kz_int, kz_ref, kz_null, kz_rf, kz_U, kz_long, nB_null, nB_ref, rf_none, rf_some, bV_ret, bV_thr, bA_ret, bA_thr, bX_ret, bX_thr, len4_0, len4_1, len4_2, len4_3, len4_4, true_and, and_true, and_self, if_true, if_false, Option.bind_some, nR_b1, nR_b0, nR_bI, nI_1z, nI_0z, bI_z, if_nn, gf, pf, clN, aln, gaI, gaL, gaR, saI, saR, isI, ctB, isB, gB, hput_n, hput_e, hput_21, hput_22, hnew_n, hnew_e, hnew_21, hnew_22, Option.bind_some, Option.map_some, List.lookup_cons, List.lookup_nil, beq_self_eq_true, List.getElem?_cons_zero, List.getElem?_cons_succ, List.set_cons_zero, List.set_cons_succ, List.length_cons, List.length_nil, Nat.reduceAdd, Nat.reduceLT, Nat.reduceLeDiff, Nat.reduceBEq, Nat.reduceEqDiff, okv_int, okv_oref, okv_onull, okv_orf, okv_aref, okv_b0, okv_b1, okv_z0, okv_bI, ckI_nI, lt31, leT, reduceCtorEq, List.mem_cons, List.mem_singleton, List.not_mem_nil, or_true, true_or, or_false, false_or, toR_ref, toR_null, ↓reduceIte, sh8, nI_ng, byt_eq, s1, c1, nI_eq0, ↓nI_lt_if, c2, c3, ch16, a1]
        rw [et, eg]
        exact ih _ H2 _ a2 (by rw [List.length_append, List.length_singleton]; omega) (fun c q => by
          rcases List.mem_append.mp q with u | u
          · exact hw c u
          · rw [List.mem_singleton.mp u]; exact hc) (nn.trans a3)
      · have et : tWd x (n + 1) w = none := by
          show (if byt x n = 0 ∧ w = [] then _ else _) = _
          rw [if_neg hz, if_neg hc]
        refine ⟨fun _ => ⟨H.2.1, hnew H (.inr (24, [])) 6, ?_, hnew_e, nn.new.mono (fun _ q => q) (by omega) (by omega)⟩, fun v hv => by rw [et] at hv; cases hv⟩
        rw [e_X1_termOf_49]
        by_cases c1 : byt x n = 0
        · have hp : ¬ w.length = 0 := fun q => hz ⟨c1, List.length_eq_zero_iff.mp q⟩
          have c2 : (0 : Nat) < 97 := by decide
          simp (disch := first | omega | (simp only [hnew_21, hput_21, hnew_22, hput_22]; omega) | exact isR_ref | exact isR_null | exact isR_rf | exact isR_fmt | assumption | decide) only [e_X1_termOf_50, e_X1_termOf_53, e_X1_termOf_54, e_X1_termOf_55, e_X1_termOf_56, e_X1_termOf_57, e_X1_termOf_60, e_X1_termOf_61, e_X1_termOf_63, e_X1_termOf_65, e_X1_termOf_68, e_X1_termOf_69, e_X1_termOf_72, e_X1_termOf_75, e_X1_termOf_78, e_X1_termOf_80, e_X1_termOf_82, e_X1_termOf_85, e_X1_termOf_87, e_X1_termOf_89, e_X1_termOf_92, cR_ref, cR_null, cR_rf, c1_int, c1_ref, c1_null, c1_rf, kz_int, kz_ref, kz_null, kz_rf, kz_U, kz_long, nB_null, nB_ref, rf_none, rf_some, bV_ret, bV_thr, bA_ret, bA_thr, bX_ret, bX_thr, len4_0, len4_1, len4_2, len4_3, len4_4, true_and, and_true, and_self, if_true, if_false, Option.bind_some, nR_b1, nR_b0, nR_bI, nI_1z, nI_0z, bI_z, if_nn, gf, pf, clN, aln, gaI, gaL, gaR, saI, saR, isI, ctB, isB, gB, hput_n, hput_e, hput_21, hput_22, hnew_n, hnew_e, hnew_21, hnew_22, Option.bind_some, Option.map_some, List.lookup_cons, List.lookup_nil, beq_self_eq_true, List.getElem?_cons_zero, List.getElem?_cons_succ, List.set_cons_zero, List.set_cons_succ, List.length_cons, List.length_nil, Nat.reduceAdd, Nat.reduceLT, Nat.reduceLeDiff, Nat.reduceBEq, Nat.reduceEqDiff, okv_int, okv_oref, okv_onull, okv_orf, okv_aref, okv_b0, okv_b1, okv_z0, okv_bI, ckI_nI, lt31, leT, reduceCtorEq, List.mem_cons, List.mem_singleton, List.not_mem_nil, or_true, true_or, or_false, false_or, toR_ref, toR_null, ↓reduceIte, sh8, nI_ng, byt_eq, s1, c1, e0, hp, nI_eq0, ↓nI_lt_if, c2]
        · by_cases c2 : byt x n < 97
          · simp (disch := first | omega | (simp only [hnew_21, hput_21, hnew_22, hput_22]; omega) | exact isR_ref | exact isR_null | exact isR_rf | exact isR_fmt | assumption | decide) only [e_X1_termOf_50, e_X1_termOf_53, e_X1_termOf_54, e_X1_termOf_55, e_X1_termOf_56, e_X1_termOf_57, e_X1_termOf_60, e_X1_termOf_61, e_X1_termOf_63, e_X1_termOf_65, e_X1_termOf_68, e_X1_termOf_69, e_X1_termOf_72, e_X1_termOf_75, e_X1_termOf_78, e_X1_termOf_80, e_X1_termOf_82, e_X1_termOf_85, e_X1_termOf_87, e_X1_termOf_89, e_X1_termOf_92, cR_ref, cR_null, cR_rf, c1_int, c1_ref, c1_null, c1_rf, kz_int, kz_ref, kz_null, kz_rf, kz_U, kz_long, nB_null, nB_ref, rf_none, rf_some, bV_ret, bV_thr, bA_ret, bA_thr, bX_ret, bX_thr, len4_0, len4_1, len4_2, len4_3, len4_4, true_and, and_true, and_self, if_true, if_false, Option.bind_some, nR_b1, nR_b0, nR_bI, nI_1z, nI_0z, bI_z, if_nn, gf, pf, clN, aln, gaI, gaL, gaR, saI, saR, isI, ctB, isB, gB, hput_n, hput_e, hput_21, hput_22, hnew_n, hnew_e, hnew_21, hnew_22, Option.bind_some, Option.map_some, List.lookup_cons, List.lookup_nil, beq_self_eq_true, List.getElem?_cons_zero, List.getElem?_cons_succ, List.set_cons_zero, List.set_cons_succ, List.length_cons, List.length_nil, Nat.reduceAdd, Nat.reduceLT, Nat.reduceLeDiff, Nat.reduceBEq, Nat.reduceEqDiff, okv_int, okv_oref, okv_onull, okv_orf, okv_aref, okv_b0, okv_b1, okv_z0, okv_bI, ckI_nI, lt31, leT, reduceCtorEq, List.mem_cons, List.mem_singleton, List.not_mem_nil, or_true, true_or, or_false, false_or, toR_ref, toR_null, ↓reduceIte, sh8, nI_ng, byt_eq, s1, c1, nI_eq0, ↓nI_lt_if, c2]
          · have c3 : 122 < byt x n := by omega
            simp (disch := first | omega | (simp only [hnew_21, hput_21, hnew_22, hput_22]; omega) | exact isR_ref | exact isR_null | exact isR_rf | exact isR_fmt | assumption | decide) only [e_X1_termOf_50, e_X1_termOf_53, e_X1_termOf_54, e_X1_termOf_55, e_X1_termOf_56, e_X1_termOf_57, e_X1_termOf_60, e_X1_termOf_61, e_X1_termOf_63, e_X1_termOf_65, e_X1_termOf_68, e_X1_termOf_69, e_X1_termOf_72, e_X1_termOf_75, e_X1_termOf_78, e_X1_termOf_80, e_X1_termOf_82, e_X1_termOf_85, e_X1_termOf_87, e_X1_termOf_89, e_X1_termOf_92, cR_ref, cR_null, cR_rf, c1_int, c1_ref, c1_null, c1_rf, kz_int, kz_ref, kz_null, kz_rf, kz_U, kz_long, nB_null, nB_ref, rf_none, rf_some, bV_ret, bV_thr, bA_ret, bA_thr, bX_ret, bX_thr, len4_0, len4_1, len4_2, len4_3, len4_4, true_and, and_true, and_self, if_true, if_false, Option.bind_some, nR_b1, nR_b0, nR_bI, nI_1z, nI_0z, bI_z, if_nn, gf, pf, clN, aln, gaI, gaL, gaR, saI, saR, isI, ctB, isB, gB, hput_n, hput_e, hput_21, hput_22, hnew_n, hnew_e, hnew_21, hnew_22, Option.bind_some, Option.map_some, List.lookup_cons, List.lookup_nil, beq_self_eq_true, List.getElem?_cons_zero, List.getElem?_cons_succ, List.set_cons_zero, List.set_cons_succ, List.length_cons, List.length_nil, Nat.reduceAdd, Nat.reduceLT, Nat.reduceLeDiff, Nat.reduceBEq, Nat.reduceEqDiff, okv_int, okv_oref, okv_onull, okv_orf, okv_aref, okv_b0, okv_b1, okv_z0, okv_bI, ckI_nI, lt31, leT, reduceCtorEq, List.mem_cons, List.mem_singleton, List.not_mem_nil, or_true, true_or, or_false, false_or, toR_ref, toR_null, ↓reduceIte, sh8, nI_ng, byt_eq, s1, c1, nI_eq0, ↓nI_lt_if, c2, c3]
def TmC (h : AH) (a : Nat) (x : Int64) : Prop := TrmR h a x ∧ ((isWd x ∧ ∃ s, h.1 a = some (.inr (4, [.ref s]))) ∨ (isNm x ∧ ∃ n, h.1 a = some (.inr (3, [.int (nI n)]))))
theorem c_term (hFe : Fe h) (hz : Ω.sz ≤ h.2.1) : ((isWd x ∨ isNm x) → ∃ a h', gM PG Ω (d + 9) 16 [.long x] h = some (.returned (some (.ref a)), h') ∧ TmC h' a x ∧ Nx [] 5 25 h h') ∧ (¬ (isWd x ∨ isNm x) → ∃ e h', gM PG Ω (d + 9) 16 [.long x] h = some (.threw e, h') ∧ h'.1 e = some (.inr (24, [])) ∧ Nx [] 5 25 h h') := by
  by_cases hx : x < 0
  · have hnw : ¬ isWd x := fun q => wd_nn q hx
    by_cases hx2 : x < -10000
    · have hnn : ¬ isNm x := fun q => nm_ge q hx2
      refine ⟨fun q => by rcases q with q | q; exact absurd q hnw; exact absurd q hnn, fun _ => ⟨h.2.1, hnew h (.inr (24, [])) 6, ?_, hnew_e, (Nx.rfl' hFe).new.mono (fun _ q => q) (by omega) (by omega)⟩⟩
      simp (disch := first | omega | (simp only [hnew_21, hput_21, hnew_22, hput_22]; omega) | exact isR_ref | exact isR_null | exact isR_rf | exact isR_fmt | assumption | decide) only [n_X1_termOf, e_X1_termOf_0, e_X1_termOf_1, e_X1_termOf_2, e_X1_termOf_3, e_X1_termOf_6, e_X1_termOf_7, e_X1_termOf_10, e_X1_termOf_11, e_X1_termOf_14, cR_ref, cR_null, cR_rf, c1_int, c1_ref, c1_null, c1_rf, kz_int, kz_ref, kz_null, kz_rf, kz_U, kz_long, nB_null, nB_ref, rf_none, rf_some, bV_ret, bV_thr, bA_ret, bA_thr, bX_ret, bX_thr, len4_0, len4_1, len4_2, len4_3, len4_4, true_and, and_true, and_self, if_true, if_false, Option.bind_some, nR_b1, nR_b0, nR_bI, nI_1z, nI_0z, bI_z, if_nn, lg_cmp_neg, hx, hx2]
    · have hnm := nm_of hx hx2
      refine ⟨fun _ => ?_, fun q => absurd (.inr hnm) q⟩
      obtain ⟨n, n1, n2⟩ := nm_n hnm
      have e1 := i_num (Ω := Ω) (d := d + 5) (a := h.2.1) (v := nI n) hz (show (hnew h (.inr (3, [.int 0])) 1).1 h.2.1 = _ from hnew_e)
      refine ⟨h.2.1, hput (hnew h (.inr (3, [.int 0])) 1) h.2.1 (.inr (3, [.int (nI n)])), ?_, ⟨.inl ⟨n, n1, n2, hput_e⟩, .inr ⟨hnm, n, hput_e⟩⟩, ((Nx.rfl' hFe).new.put (.inr (Nat.le_refl _)) (by rw [hnew_21]; omega)).mono (fun _ q => q) (by omega) (by omega)⟩
      have e2 : (-1 - x : Int64).toInt32 = nI n := by rw [n2, l2i n1]
      simp (disch := first | omega | (simp only [hnew_21, hput_21, hnew_22, hput_22]; omega) | exact isR_ref | exact isR_null | exact isR_rf | exact isR_fmt | assumption | decide) only [n_X1_termOf, e_X1_termOf_0, e_X1_termOf_1, e_X1_termOf_2, e_X1_termOf_3, e_X1_termOf_6, e_X1_termOf_7, e_X1_termOf_10, e_X1_termOf_11, e_X1_termOf_14, e_X1_termOf_22, e_X1_termOf_25, e_X1_termOf_26, e_X1_termOf_29, e_X1_termOf_30, e_X1_termOf_31, e_X1_termOf_32, cR_ref, cR_null, cR_rf, c1_int, c1_ref, c1_null, c1_rf, kz_int, kz_ref, kz_null, kz_rf, kz_U, kz_long, nB_null, nB_ref, rf_none, rf_some, bV_ret, bV_thr, bA_ret, bA_thr, bX_ret, bX_thr, len4_0, len4_1, len4_2, len4_3, len4_4, true_and, and_true, and_self, if_true, if_false, Option.bind_some, nR_b1, nR_b0, nR_bI, nI_1z, nI_0z, bI_z, if_nn, gf, pf, clN, aln, gaI, gaL, gaR, saI, saR, isI, ctB, isB, gB, hput_n, hput_e, hput_21, hput_22, hnew_n, hnew_e, hnew_21, hnew_22, Option.bind_some, Option.map_some, List.lookup_cons, List.lookup_nil, beq_self_eq_true, List.getElem?_cons_zero, List.getElem?_cons_succ, List.set_cons_zero, List.set_cons_succ, List.length_cons, List.length_nil, Nat.reduceAdd, Nat.reduceLT, Nat.reduceLeDiff, Nat.reduceBEq, Nat.reduceEqDiff, okv_int, okv_oref, okv_onull, okv_orf, okv_aref, okv_b0, okv_b1, okv_z0, okv_bI, ckI_nI, lt31, leT, reduceCtorEq, List.mem_cons, List.mem_singleton, List.not_mem_nil, or_true, true_or, or_false, false_or, toR_ref, toR_null, ↓reduceIte, lg_cmp_neg, hx, hx2, e2, e1]
      simp (disch := first | omega | (simp only [hnew_21, hput_21, hnew_22, hput_22]; omega) | exact isR_ref | exact isR_null | exact isR_rf | exact isR_fmt | assumption | decide) only [e_X1_termOf_35, cR_ref, cR_null, cR_rf, c1_int, c1_ref, c1_null, c1_rf, kz_int, kz_ref, kz_null, kz_rf, kz_U, kz_long, nB_null, nB_ref, rf_none, rf_some, bV_ret, bV_thr, bA_ret, bA_thr, bX_ret, bX_thr, len4_0, len4_1, len4_2, len4_3, len4_4, true_and, and_true, and_self, if_true, if_false, Option.bind_some, nR_b1, nR_b0, nR_bI, nI_1z, nI_0z, bI_z, if_nn]
  · have hnn : ¬ isNm x := fun q => hx (nm_neg q)
    have x1 : Nx [] 1 4 h (hnew h (.inr (22, [.null, .int 0, .int 0, .int 0])) 4) := (Nx.rfl' hFe).new
    obtain ⟨h1, a1, a2, a3, a4, a5⟩ := bb_init (Ω := Ω) (d := d + 5) (a := h.2.1) (N := 8) (h := hnew h (.inr (22, [.null, .int 0, .int 0, .int 0])) 4) hz (by rw [hnew_21]; omega) x1.2.1 (by decide) hnew_e
    rw [hnew_21] at a2 a4 a5
    have x2 : Nx [] 2 12 h h1 := ((x1.mono (S' := [h.2.1]) (fun _ q => nomatch q) (Nat.le_refl _) (Nat.le_refl _)).trans a3).low (fun q hq => by simp at hq; exact .inr (by omega))
    have eg : gM PG Ω (d + 9) 16 [.long x] h = gO PG Ω (d + 8) 16 49 [.long x, U, .ref h.2.1, .int (nI (8 * 8) + (-8)), U] [] h1 := by
      have e8 : nI (8 * 8) + (-8) = nI 56 := by decide
      simp (disch := first | omega | (simp only [hnew_21, hput_21, hnew_22, hput_22]; omega) | exact isR_ref | exact isR_null | exact isR_rf | exact isR_fmt | assumption | decide) only [n_X1_termOf, e_X1_termOf_0, e_X1_termOf_1, e_X1_termOf_2, e_X1_termOf_3, e_X1_termOf_36, e_X1_termOf_39, e_X1_termOf_40, e_X1_termOf_42, e_X1_termOf_45, e_X1_termOf_46, e_X1_termOf_48, cR_ref, cR_null, cR_rf, c1_int, c1_ref, c1_null, c1_rf, kz_int, kz_ref, kz_null, kz_rf, kz_U, kz_long, nB_null, nB_ref, rf_none, rf_some, bV_ret, bV_thr, bA_ret, bA_thr, bX_ret, bX_thr, len4_0, len4_1, len4_2, len4_3, len4_4, true_and, and_true, and_self, if_true, if_false, Option.bind_some, nR_b1, nR_b0, nR_bI, nI_1z, nI_0z, bI_z, if_nn, gf, pf, clN, aln, gaI, gaL, gaR, saI, saR, isI, ctB, isB, gB, hput_n, hput_e, hput_21, hput_22, hnew_n, hnew_e, hnew_21, hnew_22, Option.bind_some, Option.map_some, List.lookup_cons, List.lookup_nil, beq_self_eq_true, List.getElem?_cons_zero, List.getElem?_cons_succ, List.set_cons_zero, List.set_cons_succ, List.length_cons, List.length_nil, Nat.reduceAdd, Nat.reduceLT, Nat.reduceLeDiff, Nat.reduceBEq, Nat.reduceEqDiff, okv_int, okv_oref, okv_onull, okv_orf, okv_aref, okv_b0, okv_b1, okv_z0, okv_bI, ckI_nI, lt31, leT, reduceCtorEq, List.mem_cons, List.mem_singleton, List.not_mem_nil, or_true, true_or, or_false, false_or, toR_ref, toR_null, ↓reduceIte, lg_cmp_neg, hx, a1]
      rw [e8]
    obtain ⟨g1, g2⟩ := c_tl (Ω := Ω) (d := d) (x := x) (hB := h1) (sb := h.2.1) (bb := h.2.1 + 1) hz (by omega) (by omega) 8 [] h1 U a2 (by decide) (fun c q => nomatch q) (Nx.rfl' x2.2.1)
    rw [← eg] at g1 g2
    have lw : ∀ q ∈ [h.2.1, h.2.1 + 1], q ∈ ([] : List Nat) ∨ h.2.1 ≤ q := fun q hq => by simp at hq; exact .inr (by omega)
    cases ht : tWd x 8 [] with
    | none =>
      have hnw := tWd_none ht
      refine ⟨fun q => by rcases q with q | q; exact absurd q hnw; exact absurd q hnn, fun _ => ?_⟩
      obtain ⟨e, h2, b1, b2, b3⟩ := g1 ht
      exact ⟨e, h2, b1, b2, (((x2.mono (fun _ q => nomatch q) (Nat.le_refl _) (Nat.le_refl _)).trans b3).low lw).mono (fun _ q => q) (by omega) (by omega)⟩
    | some v =>
      obtain ⟨w1, w2, w3⟩ := tWd_some ht
      refine ⟨fun _ => ?_, fun q => absurd (.inl w1) q⟩
      obtain ⟨a, s, h2, b1, b2, b3, b4, b5⟩ := g2 v ht
      exact ⟨a, h2, b1, ⟨.inr ⟨s, v, w2, w3, b2, b3⟩, .inl ⟨w1, s, b2⟩⟩, (((x2.mono (fun _ q => nomatch q) (Nat.le_refl _) (Nat.le_refl _)).trans b5).low lw).mono (fun _ q => q) (by omega) (by omega)⟩
end TOF
