/-! COMPONENT: terms -/
/-- cells that no term, triple, change, string of a word is made of -/
def Fk (c : Ce) : Prop := match c with
  | .inr (ci, _) => ci ∉ [2, 3, 4, 5, 20, 21, 23]
  | .inl (ty, (N, _)) => ty ≠ .object "TripleStore$Term" ∧ (ty = .byte → 8 < N)
def FS (h : AH) (S : List Nat) : Prop := ∀ b ∈ S, ∀ c, h.1 b = some c → Fk c
theorem FS.nil {h : AH} : FS h [] := fun _ q => nomatch q
theorem FS.na {h : AH} {S : List Nat} {a ci : Nat} {fs : List Value} (hS : FS h S) (ha : h.1 a = some (.inr (ci, fs))) (hc : ci ∈ [2, 3, 4, 5, 20, 21, 23]) : a ∉ S := fun q => hS a q _ ha hc
theorem FS.nt {h : AH} {S : List Nat} {a N : Nat} {f : Nat → Option Nat} (hS : FS h S) (ha : h.1 a = some (arR "TripleStore$Term" N f)) : a ∉ S := fun q => (hS a q _ ha).1 rfl
theorem StrR.fs {S : List Nat} {k m : Nat} {h h' : AH} {a : Nat} {w : List Nat} (s : StrR h a w) (x : Nx S k m h h') (hS : FS h S) (h8 : w.length ≤ 8) : StrR h' a w := s.nx x (fun b hb => by
  cases hc : h.1 b with
  | none => exact .inr (.inr (.inl rfl))
  | some c =>
    have hk := hS b hb c hc
    rcases c with ⟨ty, N, f⟩ | ⟨ci, fs⟩
    · by_cases ht : ty = .byte
      · subst ht
        exact .inr (.inr (.inr ⟨N, f, by have := hk.2 rfl; omega, rfl⟩))
      · exact .inr (.inl ⟨ty, N, f, ht, rfl⟩)
    · exact .inl ⟨ci, fs, fun q => hk (by rw [q]; decide), rfl⟩)
def TrmR (h : AH) (a : Nat) (x : Int64) : Prop := (∃ n, n ≤ 9999 ∧ x = -1 - lN n ∧ h.1 a = some (.inr (3, [.int (nI n)]))) ∨ ∃ s w, isW w ∧ x = wcode w ∧ h.1 a = some (.inr (4, [.ref s])) ∧ StrR h s w
theorem TrmR.ok {h : AH} {a : Nat} {x : Int64} (t : TrmR h a x) : okT x := by
  rcases t with ⟨n, h1, h2, _⟩ | ⟨s, w, h1, h2, _⟩
  · exact .inr ⟨n, h1, h2⟩
  · exact .inl ⟨w, h1, h2⟩
theorem TrmR.fs {S : List Nat} {k m : Nat} {h h' : AH} {a : Nat} {x : Int64} (t : TrmR h a x) (n : Nx S k m h h') (hS : FS h S) : TrmR h' a x := by
  rcases t with ⟨q, h1, h2, h3⟩ | ⟨s, w, h1, h2, h3, h4⟩
  · exact .inl ⟨q, h1, h2, n.ob h3 (by decide) (hS.na h3 (by decide))⟩
  · exact .inr ⟨s, w, h1, h2, n.ob h3 (by decide) (hS.na h3 (by decide)), h4.fs n hS h1.2.1⟩
theorem TrmR.cl {h : AH} {a : Nat} {x : Int64} (t : TrmR h a x) : ∃ ci fs, h.1 a = some (.inr (ci, fs)) ∧ (ci = 3 ∨ ci = 4) := by
  rcases t with ⟨n, _, _, h1⟩ | ⟨s, w, _, _, h1, _⟩
  · exact ⟨3, _, h1, .inl rfl⟩
  · exact ⟨4, _, h1, .inr rfl⟩
theorem lN_inj {a b : Nat} (ha : a < 2 ^ 64) (hb : b < 2 ^ 64) (h : lN a = lN b) : a = b := by
  have := congrArg (fun q : Int64 => q.toBitVec.toNat) h
  simp only [lNn ha, lNn hb] at this
  exact this
theorem num_toInt {n : Nat} (hn : n ≤ 9999) : ((-1 : Int64) - lN n).toInt = -1 - (n : Int) := by
  rw [Int64.toInt_sub, lN_tI (by omega)]
  show Int.bmod (-1 - (n : Int)) (2 ^ 64) = _
  rw [Int.bmod_eq_of_le (by omega) (by omega)]
theorem num_inj {n m : Nat} (hn : n ≤ 9999) (hm : m ≤ 9999) : ((-1 : Int64) - lN n = -1 - lN m) ↔ n = m := by
  constructor
  · intro h
    have := congrArg Int64.toInt h
    rw [num_toInt hn, num_toInt hm] at this
    omega
  · intro h; rw [h]
theorem num_lt {n m : Nat} (hn : n ≤ 9999) (hm : m ≤ 9999) : ((-1 : Int64) - lN m < -1 - lN n) ↔ n < m := by
  rw [Int64.lt_iff_toInt_lt, num_toInt hn, num_toInt hm]
  omega
theorem num_word {n : Nat} {w : List Nat} (hn : n ≤ 9999) (hw : isW w) : (-1 : Int64) - lN n ≠ wcode w := by
  intro h
  obtain ⟨p, q⟩ := hw.p
  have h1 := num_neg hn
  rw [h, hw.n, lN_nn (p.lt63 q)] at h1
  exact h1.mpr trivial
def lexL : List Nat → List Nat → Bool
  | [], v => decide (0 < v.length)
  | _ :: _, [] => false
  | c :: w, e :: v => if c = e then lexL w v else decide (c < e)
theorem wN_cons {c : Nat} {w : List Nat} : wN (c :: w) = c * 256 ^ w.length + wN w := by
  refine snoc_ind (P := fun w => wN (c :: w) = c * 256 ^ w.length + wN w) ?_ (fun w e ih => ?_) w
  · show 0 * 256 + c = c * 1 + 0; omega
  · rw [← List.cons_append, wN_snoc, ih, wN_snoc, List.length_append, List.length_singleton, Nat.pow_succ, Nat.add_mul, Nat.mul_assoc, Nat.add_assoc]
theorem lexL_n : ∀ (n : Nat) (w v : List Nat), w.length ≤ n → v.length ≤ n → (∀ c ∈ w, 1 ≤ c ∧ c < 256) → (∀ c ∈ v, 1 ≤ c ∧ c < 256) → lexL w v = decide (wN w * 256 ^ (n - w.length) < wN v * 256 ^ (n - v.length)) := by
  intro n
  induction n with
  | zero =>
    intro w v hw hv _ _
    have h1 : w = [] := List.length_eq_zero_iff.mp (by omega)
    have h2 : v = [] := List.length_eq_zero_iff.mp (by omega)
    subst h1; subst h2
    rfl
  | succ n ih =>
    intro w v hw hv bw bv
    have val : ∀ (c : Nat) (u : List Nat), u.length ≤ n → wN (c :: u) * 256 ^ (n + 1 - (c :: u).length) = c * 256 ^ n + wN u * 256 ^ (n - u.length) := by
      intro c u hu
      rw [wN_cons, List.length_cons, show n + 1 - (u.length + 1) = n - u.length by omega, Nat.add_mul, Nat.mul_assoc, ← Nat.pow_add, show u.length + (n - u.length) = n by omega]
    have bd : ∀ u : List Nat, u.length ≤ n → (∀ c ∈ u, 1 ≤ c ∧ c < 256) → wN u * 256 ^ (n - u.length) < 256 ^ n := by
      intro u hu bu
      have h1 := wN_lt u (fun c hc => (bu c hc).2)
      calc wN u * 256 ^ (n - u.length) < 256 ^ u.length * 256 ^ (n - u.length) := Nat.mul_lt_mul_of_pos_right h1 (Nat.pow_pos (by decide))
        _ = 256 ^ n := by rw [← Nat.pow_add, show u.length + (n - u.length) = n by omega]
    have hp : 0 < 256 ^ n := Nat.pow_pos (by decide)
    cases w with
    | nil =>
      cases v with
      | nil => simp [lexL, wN]
      | cons e v =>
        have h1 := bv e (List.mem_cons_self ..)
        rw [val e v (by simpa using hv)]
        have : 0 < e * 256 ^ n := Nat.mul_pos (by omega) hp
        have e0 : wN [] = 0 := rfl
        rw [e0, Nat.zero_mul, decide_eq_true (by omega)]
        simp [lexL]
    | cons c w =>
      have hc := bw c (List.mem_cons_self ..)
      have hwl : w.length ≤ n := by simpa using hw
      have b1 := bd w hwl (fun q hq => bw q (List.mem_cons_of_mem _ hq))
      cases v with
      | nil =>
        have e0 : wN [] = 0 := rfl
        rw [e0, Nat.zero_mul, decide_eq_false (by omega)]
        rfl
      | cons e v =>
        have he := bv e (List.mem_cons_self ..)
        have hvl : v.length ≤ n := by simpa using hv
        have b2 := bd v hvl (fun q hq => bv q (List.mem_cons_of_mem _ hq))
        rw [val c w hwl, val e v hvl]
        unfold lexL
        by_cases hce : c = e
        · subst hce
          rw [if_pos rfl, ih w v hwl hvl (fun q hq => bw q (List.mem_cons_of_mem _ hq)) (fun q hq => bv q (List.mem_cons_of_mem _ hq))]
          apply decide_eq_decide.mpr
          omega
        · rw [if_neg hce]
          apply decide_eq_decide.mpr
          constructor
          · intro hlt
            have : (c + 1) * 256 ^ n ≤ e * 256 ^ n := Nat.mul_le_mul_right _ hlt
            rw [Nat.add_mul, Nat.one_mul] at this
            omega
          · intro hlt
            by_cases q : c < e
            · exact q
            · exfalso
              have : (e + 1) * 256 ^ n ≤ c * 256 ^ n := Nat.mul_le_mul_right _ (by omega)
              rw [Nat.add_mul, Nat.one_mul] at this
              omega
theorem ltT_lex {w v : List Nat} (hw : isW w) (hv : isW v) : ltT (wcode w) (wcode v) = lexL w v := by
  rw [ltT_ww hw hv, lexL_n 8 w v hw.2.1 hv.2.1 hw.b hv.b]
section CM
variable {Ω : Om} {d : Nat} {h : AH} {a b : Nat} {x y : Int64}
theorem c_same (ta : TrmR h a x) (tb : TrmR h b y) {k : Value → AH → Option Rs} : ((clN h a).bind fun ci => (([(3, 98), (4, 102)] : List (Nat × Nat)).lookup ci).bind fun yy => bA (gM PG Ω (d + 3) yy (.ref a :: [.ref b]) h) k) = k (.int (bI (decide (x = y)))) h := by
  rcases ta with ⟨n, n1, rfl, n3⟩ | ⟨s, w, w1, rfl, w3, w4⟩
  · rcases tb with ⟨m, m1, rfl, m3⟩ | ⟨t, v, v1, rfl, v3, v4⟩
    · by_cases hnm : m = n
      · subst hnm
        simp (disch := first | omega | (simp only [hnew_21, hput_21, hnew_22, hput_22]; omega) | exact isR_ref | exact isR_null | exact isR_rf | exact isR_fmt | assumption | decide) only [n_X5_same, e_X5_same_0, e_X5_same_1, e_X5_same_4, e_X5_same_7, e_X5_same_8, e_X5_same_11, e_X5_same_14, e_X5_same_15, e_X5_same_18, e_X5_same_21, e_X5_same_22, e_X5_same_25, e_X5_same_26, cR_ref, cR_null, cR_rf, c1_int, c1_ref, c1_null, c1_rf, kz_int, kz_ref, kz_null, kz_rf, kz_U, kz_long, nB_null, nB_ref, rf_none, rf_some, bV_ret, bV_thr, bA_ret, bA_thr, bX_ret, bX_thr, len4_0, len4_1, len4_2, len4_3, len4_4, true_and, and_true, and_self, if_true, if_false, Option.bind_some, nR_b1, nR_b0, nR_bI, nI_1z, nI_0z, bI_z, if_nn, gf, pf, clN, aln, gaI, gaL, gaR, saI, saR, isI, ctB, isB, gB, hput_n, hput_e, hput_21, hput_22, hnew_n, hnew_e, hnew_21, hnew_22, Option.bind_some, Option.map_some, List.lookup_cons, List.lookup_nil, beq_self_eq_true, List.getElem?_cons_zero, List.getElem?_cons_succ, List.set_cons_zero, List.set_cons_succ, List.length_cons, List.length_nil, Nat.reduceAdd, Nat.reduceLT, Nat.reduceLeDiff, Nat.reduceBEq, Nat.reduceEqDiff, okv_int, okv_oref, okv_onull, okv_orf, okv_aref, okv_b0, okv_b1, okv_z0, okv_bI, ckI_nI, lt31, leT, reduceCtorEq, List.mem_cons, List.mem_singleton, List.not_mem_nil, or_true, true_or, or_false, false_or, toR_ref, toR_null, ↓reduceIte, n3, m3, t1z, ↓nI_eq_if, decide_true, bI_t]
      · have : ¬ (-1 : Int64) - lN n = -1 - lN m := fun q => hnm ((num_inj n1 m1).mp q).symm
        simp (disch := first | omega | (simp only [hnew_21, hput_21, hnew_22, hput_22]; omega) | exact isR_ref | exact isR_null | exact isR_rf | exact isR_fmt | assumption | decide) only [n_X5_same, e_X5_same_0, e_X5_same_1, e_X5_same_4, e_X5_same_7, e_X5_same_8, e_X5_same_11, e_X5_same_14, e_X5_same_15, e_X5_same_18, e_X5_same_21, e_X5_same_22, e_X5_same_25, e_X5_same_26, cR_ref, cR_null, cR_rf, c1_int, c1_ref, c1_null, c1_rf, kz_int, kz_ref, kz_null, kz_rf, kz_U, kz_long, nB_null, nB_ref, rf_none, rf_some, bV_ret, bV_thr, bA_ret, bA_thr, bX_ret, bX_thr, len4_0, len4_1, len4_2, len4_3, len4_4, true_and, and_true, and_self, if_true, if_false, Option.bind_some, nR_b1, nR_b0, nR_bI, nI_1z, nI_0z, bI_z, if_nn, gf, pf, clN, aln, gaI, gaL, gaR, saI, saR, isI, ctB, isB, gB, hput_n, hput_e, hput_21, hput_22, hnew_n, hnew_e, hnew_21, hnew_22, Option.bind_some, Option.map_some, List.lookup_cons, List.lookup_nil, beq_self_eq_true, List.getElem?_cons_zero, List.getElem?_cons_succ, List.set_cons_zero, List.set_cons_succ, List.length_cons, List.length_nil, Nat.reduceAdd, Nat.reduceLT, Nat.reduceLeDiff, Nat.reduceBEq, Nat.reduceEqDiff, okv_int, okv_oref, okv_onull, okv_orf, okv_aref, okv_b0, okv_b1, okv_z0, okv_bI, ckI_nI, lt31, leT, reduceCtorEq, List.mem_cons, List.mem_singleton, List.not_mem_nil, or_true, true_or, or_false, false_or, toR_ref, toR_null, ↓reduceIte, n3, m3, t1z, ↓nI_eq_if, hnm, this, decide_false, bI_f]
    · have : ¬ (-1 : Int64) - lN n = wcode v := num_word n1 v1
      simp (disch := first | omega | (simp only [hnew_21, hput_21, hnew_22, hput_22]; omega) | exact isR_ref | exact isR_null | exact isR_rf | exact isR_fmt | assumption | decide) only [n_X5_same, e_X5_same_0, e_X5_same_1, e_X5_same_4, e_X5_same_7, e_X5_same_8, e_X5_same_11, e_X5_same_14, e_X5_same_15, e_X5_same_18, e_X5_same_21, e_X5_same_22, e_X5_same_25, e_X5_same_26, cR_ref, cR_null, cR_rf, c1_int, c1_ref, c1_null, c1_rf, kz_int, kz_ref, kz_null, kz_rf, kz_U, kz_long, nB_null, nB_ref, rf_none, rf_some, bV_ret, bV_thr, bA_ret, bA_thr, bX_ret, bX_thr, len4_0, len4_1, len4_2, len4_3, len4_4, true_and, and_true, and_self, if_true, if_false, Option.bind_some, nR_b1, nR_b0, nR_bI, nI_1z, nI_0z, bI_z, if_nn, gf, pf, clN, aln, gaI, gaL, gaR, saI, saR, isI, ctB, isB, gB, hput_n, hput_e, hput_21, hput_22, hnew_n, hnew_e, hnew_21, hnew_22, Option.bind_some, Option.map_some, List.lookup_cons, List.lookup_nil, beq_self_eq_true, List.getElem?_cons_zero, List.getElem?_cons_succ, List.set_cons_zero, List.set_cons_succ, List.length_cons, List.length_nil, Nat.reduceAdd, Nat.reduceLT, Nat.reduceLeDiff, Nat.reduceBEq, Nat.reduceEqDiff, okv_int, okv_oref, okv_onull, okv_orf, okv_aref, okv_b0, okv_b1, okv_z0, okv_bI, ckI_nI, lt31, leT, reduceCtorEq, List.mem_cons, List.mem_singleton, List.not_mem_nil, or_true, true_or, or_false, false_or, toR_ref, toR_null, ↓reduceIte, n3, v3, t0z, this, decide_false, bI_f]
  · rcases tb with ⟨m, m1, rfl, m3⟩ | ⟨t, v, v1, rfl, v3, v4⟩
    · have : ¬ wcode w = (-1 : Int64) - lN m := fun q => num_word m1 w1 q.symm
      simp (disch := first | omega | (simp only [hnew_21, hput_21, hnew_22, hput_22]; omega) | exact isR_ref | exact isR_null | exact isR_rf | exact isR_fmt | assumption | decide) only [n_X6_same, e_X6_same_0, e_X6_same_1, e_X6_same_4, e_X6_same_7, e_X6_same_8, e_X6_same_11, e_X6_same_14, e_X6_same_15, e_X6_same_18, e_X6_same_21, e_X6_same_24, e_X6_same_25, e_X6_same_28, e_X6_same_29, cR_ref, cR_null, cR_rf, c1_int, c1_ref, c1_null, c1_rf, kz_int, kz_ref, kz_null, kz_rf, kz_U, kz_long, nB_null, nB_ref, rf_none, rf_some, bV_ret, bV_thr, bA_ret, bA_thr, bX_ret, bX_thr, len4_0, len4_1, len4_2, len4_3, len4_4, true_and, and_true, and_self, if_true, if_false, Option.bind_some, nR_b1, nR_b0, nR_bI, nI_1z, nI_0z, bI_z, if_nn, gf, pf, clN, aln, gaI, gaL, gaR, saI, saR, isI, ctB, isB, gB, hput_n, hput_e, hput_21, hput_22, hnew_n, hnew_e, hnew_21, hnew_22, Option.bind_some, Option.map_some, List.lookup_cons, List.lookup_nil, beq_self_eq_true, List.getElem?_cons_zero, List.getElem?_cons_succ, List.set_cons_zero, List.set_cons_succ, List.length_cons, List.length_nil, Nat.reduceAdd, Nat.reduceLT, Nat.reduceLeDiff, Nat.reduceBEq, Nat.reduceEqDiff, okv_int, okv_oref, okv_onull, okv_orf, okv_aref, okv_b0, okv_b1, okv_z0, okv_bI, ckI_nI, lt31, leT, reduceCtorEq, List.mem_cons, List.mem_singleton, List.not_mem_nil, or_true, true_or, or_false, false_or, toR_ref, toR_null, ↓reduceIte, w3, m3, t0z, this, decide_false, bI_f]
    · have e := j_equals (Ω := Ω) (d := d) v4 w4
      obtain ⟨bb, z1, z2, f, s1, _⟩ := v4
      by_cases hwv : v = w
      · subst hwv
        rw [decide_eq_true rfl] at e
        simp (disch := first | omega | (simp only [hnew_21, hput_21, hnew_22, hput_22]; omega) | exact isR_ref | exact isR_null | exact isR_rf | exact isR_fmt | assumption | decide) only [n_X6_same, e_X6_same_0, e_X6_same_1, e_X6_same_4, e_X6_same_7, e_X6_same_8, e_X6_same_11, e_X6_same_14, e_X6_same_15, e_X6_same_18, e_X6_same_21, e_X6_same_24, e_X6_same_25, e_X6_same_28, e_X6_same_29, cR_ref, cR_null, cR_rf, c1_int, c1_ref, c1_null, c1_rf, kz_int, kz_ref, kz_null, kz_rf, kz_U, kz_long, nB_null, nB_ref, rf_none, rf_some, bV_ret, bV_thr, bA_ret, bA_thr, bX_ret, bX_thr, len4_0, len4_1, len4_2, len4_3, len4_4, true_and, and_true, and_self, if_true, if_false, Option.bind_some, nR_b1, nR_b0, nR_bI, nI_1z, nI_0z, bI_z, if_nn, gf, pf, clN, aln, gaI, gaL, gaR, saI, saR, isI, ctB, isB, gB, hput_n, hput_e, hput_21, hput_22, hnew_n, hnew_e, hnew_21, hnew_22, Option.bind_some, Option.map_some, List.lookup_cons, List.lookup_nil, beq_self_eq_true, List.getElem?_cons_zero, List.getElem?_cons_succ, List.set_cons_zero, List.set_cons_succ, List.length_cons, List.length_nil, Nat.reduceAdd, Nat.reduceLT, Nat.reduceLeDiff, Nat.reduceBEq, Nat.reduceEqDiff, okv_int, okv_oref, okv_onull, okv_orf, okv_aref, okv_b0, okv_b1, okv_z0, okv_bI, ckI_nI, lt31, leT, reduceCtorEq, List.mem_cons, List.mem_singleton, List.not_mem_nil, or_true, true_or, or_false, false_or, toR_ref, toR_null, ↓reduceIte, w3, v3, t1z, s1, e, decide_true, bI_t]
      · have : ¬ wcode w = wcode v := fun q => hwv (wcode_inj w1 v1 q).symm
        rw [decide_eq_false hwv] at e
        simp (disch := first | omega | (simp only [hnew_21, hput_21, hnew_22, hput_22]; omega) | exact isR_ref | exact isR_null | exact isR_rf | exact isR_fmt | assumption | decide) only [n_X6_same, e_X6_same_0, e_X6_same_1, e_X6_same_4, e_X6_same_7, e_X6_same_8, e_X6_same_11, e_X6_same_14, e_X6_same_15, e_X6_same_18, e_X6_same_21, e_X6_same_24, e_X6_same_25, e_X6_same_28, e_X6_same_29, cR_ref, cR_null, cR_rf, c1_int, c1_ref, c1_null, c1_rf, kz_int, kz_ref, kz_null, kz_rf, kz_U, kz_long, nB_null, nB_ref, rf_none, rf_some, bV_ret, bV_thr, bA_ret, bA_thr, bX_ret, bX_thr, len4_0, len4_1, len4_2, len4_3, len4_4, true_and, and_true, and_self, if_true, if_false, Option.bind_some, nR_b1, nR_b0, nR_bI, nI_1z, nI_0z, bI_z, if_nn, gf, pf, clN, aln, gaI, gaL, gaR, saI, saR, isI, ctB, isB, gB, hput_n, hput_e, hput_21, hput_22, hnew_n, hnew_e, hnew_21, hnew_22, Option.bind_some, Option.map_some, List.lookup_cons, List.lookup_nil, beq_self_eq_true, List.getElem?_cons_zero, List.getElem?_cons_succ, List.set_cons_zero, List.set_cons_succ, List.length_cons, List.length_nil, Nat.reduceAdd, Nat.reduceLT, Nat.reduceLeDiff, Nat.reduceBEq, Nat.reduceEqDiff, okv_int, okv_oref, okv_onull, okv_orf, okv_aref, okv_b0, okv_b1, okv_z0, okv_bI, ckI_nI, lt31, leT, reduceCtorEq, List.mem_cons, List.mem_singleton, List.not_mem_nil, or_true, true_or, or_false, false_or, toR_ref, toR_null, ↓reduceIte, w3, v3, t1z, s1, e, this, decide_false, bI_f]
theorem c_wl {s t : Nat} {w v : List Nat} (w3 : h.1 a = some (.inr (4, [.ref s]))) (w4 : StrR h s w) (v4 : StrR h t v) {l1 : Value} : ∀ (m i : Nat), i + m = w.length → i ≤ v.length → gO PG Ω (d + 4) 103 19 [.ref a, l1, .ref t, .int (nI i)] [] h = some (.returned (some (.int (bI (lexL (w.drop i) (v.drop i))))), h) := by
  have lw := j_length (Ω := Ω) (d := d + 2) w4
  have lv := j_length (Ω := Ω) (d := d + 2) v4
  have w4' := w4
  have v4' := v4
  obtain ⟨b1, z1, z2, f, s1, s2, s3, s4, s5⟩ := w4
  obtain ⟨b2, y1, y2, g, t1, t2, t3, t4, t5⟩ := v4
  intro m
  induction m with
  | zero =>
    intro i hi hv
    have : i = w.length := by omega
    subst this
    rw [e_X6_less_19]
    rw [List.drop_length]
    unfold lexL
    rw [List.length_drop]
    by_cases hlt : w.length < v.length
    · simp (disch := first | omega | (simp only [hnew_21, hput_21, hnew_22, hput_22]; omega) | exact isR_ref | exact isR_null | exact isR_rf | exact isR_fmt | assumption | decide) only [e_X6_less_20, e_X6_less_21, e_X6_less_24, e_X6_less_27, e_X6_less_30, e_X6_less_31, e_X6_less_32, e_X6_less_35, e_X6_less_38, e_X6_less_39, e_X6_less_42, e_X6_less_43, e_X6_less_46, e_X6_less_47, e_X6_less_48, e_X6_less_51, e_X6_less_54, e_X6_less_55, e_X6_less_58, e_X6_less_59, e_X6_less_62, e_X6_less_63, e_X6_less_64, e_X6_less_67, e_X6_less_70, e_X6_less_71, e_X6_less_74, e_X6_less_75, e_X6_less_76, e_X6_less_79, e_X6_less_82, e_X6_less_83, e_X6_less_86, e_X6_less_89, e_X6_less_90, e_X6_less_93, e_X6_less_96, e_X6_less_97, e_X6_less_100, e_X6_less_101, cR_ref, cR_null, cR_rf, c1_int, c1_ref, c1_null, c1_rf, kz_int, kz_ref, kz_null, kz_rf, kz_U, kz_long, nB_null, nB_ref, rf_none, rf_some, bV_ret, bV_thr, bA_ret, bA_thr, bX_ret, bX_thr, len4_0, len4_1, len4_2, len4_3, len4_4, true_and, and_true, and_self, if_true, if_false, Option.bind_some, nR_b1, nR_b0, nR_bI, nI_1z, nI_0z, bI_z, if_nn, gf, pf, clN, aln, gaI, gaL, gaR, saI, saR, isI, ctB, isB, gB, hput_n, hput_e, hput_21, hput_22, hnew_n, hnew_e, hnew_21, hnew_22, Option.bind_some, Option.map_some, List.lookup_cons, List.lookup_nil, beq_self_eq_true, List.getElem?_cons_zero, List.getElem?_cons_succ, List.set_cons_zero, List.set_cons_succ, List.length_cons, List.length_nil, Nat.reduceAdd, Nat.reduceLT, Nat.reduceLeDiff, Nat.reduceBEq, Nat.reduceEqDiff, okv_int, okv_oref, okv_onull, okv_orf, okv_aref, okv_b0, okv_b1, okv_z0, okv_bI, ckI_nI, lt31, leT, reduceCtorEq, List.mem_cons, List.mem_singleton, List.not_mem_nil, or_true, true_or, or_false, false_or, toR_ref, toR_null, ↓reduceIte, w3, s1, t1, lw, lv, ↓nI_lt_if, Nat.lt_irrefl, hlt]
      rw [decide_eq_true (by omega)]; rfl
    · simp (disch := first | omega | (simp only [hnew_21, hput_21, hnew_22, hput_22]; omega) | exact isR_ref | exact isR_null | exact isR_rf | exact isR_fmt | assumption | decide) only [e_X6_less_20, e_X6_less_21, e_X6_less_24, e_X6_less_27, e_X6_less_30, e_X6_less_31, e_X6_less_32, e_X6_less_35, e_X6_less_38, e_X6_less_39, e_X6_less_42, e_X6_less_43, e_X6_less_46, e_X6_less_47, e_X6_less_48, e_X6_less_51, e_X6_less_54, e_X6_less_55, e_X6_less_58, e_X6_less_59, e_X6_less_62, e_X6_less_63, e_X6_less_64, e_X6_less_67, e_X6_less_70, e_X6_less_71, e_X6_less_74, e_X6_less_75, e_X6_less_76, e_X6_less_79, e_X6_less_82, e_X6_less_83, e_X6_less_86, e_X6_less_89, e_X6_less_90, e_X6_less_93, e_X6_less_96, e_X6_less_97, e_X6_less_100, e_X6_less_101, cR_ref, cR_null, cR_rf, c1_int, c1_ref, c1_null, c1_rf, kz_int, kz_ref, kz_null, kz_rf, kz_U, kz_long, nB_null, nB_ref, rf_none, rf_some, bV_ret, bV_thr, bA_ret, bA_thr, bX_ret, bX_thr, len4_0, len4_1, len4_2, len4_3, len4_4, true_and, and_true, and_self, if_true, if_false, Option.bind_some, nR_b1, nR_b0, nR_bI, nI_1z, nI_0z, bI_z, if_nn, gf, pf, clN, aln, gaI, gaL, gaR, saI, saR, isI, ctB, isB, gB, hput_n, hput_e, hput_21, hput_22, hnew_n, hnew_e, hnew_21, hnew_22, Option.bind_some, Option.map_some, List.lookup_cons, List.lookup_nil, beq_self_eq_true, List.getElem?_cons_zero, List.getElem?_cons_succ, List.set_cons_zero, List.set_cons_succ, List.length_cons, List.length_nil, Nat.reduceAdd, Nat.reduceLT, Nat.reduceLeDiff, Nat.reduceBEq, Nat.reduceEqDiff, okv_int, okv_oref, okv_onull, okv_orf, okv_aref, okv_b0, okv_b1, okv_z0, okv_bI, ckI_nI, lt31, leT, reduceCtorEq, List.mem_cons, List.mem_singleton, List.not_mem_nil, or_true, true_or, or_false, false_or, toR_ref, toR_null, ↓reduceIte, w3, s1, t1, lw, lv, ↓nI_lt_if, Nat.lt_irrefl, hlt]
      rw [decide_eq_false (by omega)]; rfl
  | succ m ih =>
    intro i hi hv
    have hiw : i < w.length := by omega
    have g1 : w[i]? = some w[i] := List.getElem?_eq_getElem hiw
    have d1 : w.drop i = w[i] :: w.drop (i + 1) := List.drop_eq_getElem_cons hiw
    have m1 := s4 _ (List.getElem_mem hiw)
    by_cases hiv : i < v.length
    · have g2 : v[i]? = some v[i] := List.getElem?_eq_getElem hiv
      have d2 : v.drop i = v[i] :: v.drop (i + 1) := List.drop_eq_getElem_cons hiv
      have m2 := t4 _ (List.getElem_mem hiv)
      have cw := j_charAt (Ω := Ω) (d := d) w4' g1
      have cv := j_charAt (Ω := Ω) (d := d) v4' g2
      rw [d1, d2]
      generalize w[i] = p at *
      generalize v[i] = q at *
      unfold lexL
      by_cases hpq : p = q
      · subst hpq
        rw [if_pos rfl, ← ih (i + 1) (by omega) (by omega), e_X6_less_19]
        simp (disch := first | omega | (simp only [hnew_21, hput_21, hnew_22, hput_22]; omega) | exact isR_ref | exact isR_null | exact isR_rf | exact isR_fmt | assumption | decide) only [e_X6_less_20, e_X6_less_21, e_X6_less_24, e_X6_less_27, e_X6_less_30, e_X6_less_31, e_X6_less_32, e_X6_less_35, e_X6_less_38, e_X6_less_39, e_X6_less_42, e_X6_less_43, e_X6_less_46, e_X6_less_47, e_X6_less_48, e_X6_less_51, e_X6_less_54, e_X6_less_55, e_X6_less_58, e_X6_less_59, e_X6_less_62, e_X6_less_63, e_X6_less_64, e_X6_less_67, e_X6_less_70, e_X6_less_71, e_X6_less_74, e_X6_less_75, e_X6_less_76, e_X6_less_79, e_X6_less_82, e_X6_less_83, e_X6_less_86, e_X6_less_89, e_X6_less_90, e_X6_less_93, e_X6_less_96, e_X6_less_97, e_X6_less_100, e_X6_less_101, cR_ref, cR_null, cR_rf, c1_int, c1_ref, c1_null, c1_rf, kz_int, kz_ref, kz_null, kz_rf, kz_U, kz_long, nB_null, nB_ref, rf_none, rf_some, bV_ret, bV_thr, bA_ret, bA_thr, bX_ret, bX_thr, len4_0, len4_1, len4_2, len4_3, len4_4, true_and, and_true, and_self, if_true, if_false, Option.bind_some, nR_b1, nR_b0, nR_bI, nI_1z, nI_0z, bI_z, if_nn, gf, pf, clN, aln, gaI, gaL, gaR, saI, saR, isI, ctB, isB, gB, hput_n, hput_e, hput_21, hput_22, hnew_n, hnew_e, hnew_21, hnew_22, Option.bind_some, Option.map_some, List.lookup_cons, List.lookup_nil, beq_self_eq_true, List.getElem?_cons_zero, List.getElem?_cons_succ, List.set_cons_zero, List.set_cons_succ, List.length_cons, List.length_nil, Nat.reduceAdd, Nat.reduceLT, Nat.reduceLeDiff, Nat.reduceBEq, Nat.reduceEqDiff, okv_int, okv_oref, okv_onull, okv_orf, okv_aref, okv_b0, okv_b1, okv_z0, okv_bI, ckI_nI, lt31, leT, reduceCtorEq, List.mem_cons, List.mem_singleton, List.not_mem_nil, or_true, true_or, or_false, false_or, toR_ref, toR_null, ↓reduceIte, nI_add, pk_mul, w3, s1, t1, lw, lv, ↓nI_lt_if, hiw, hiv, cw, cv]
      · rw [if_neg hpq, e_X6_less_19]
        by_cases hlt : p < q
        · simp (disch := first | omega | (simp only [hnew_21, hput_21, hnew_22, hput_22]; omega) | exact isR_ref | exact isR_null | exact isR_rf | exact isR_fmt | assumption | decide) only [e_X6_less_20, e_X6_less_21, e_X6_less_24, e_X6_less_27, e_X6_less_30, e_X6_less_31, e_X6_less_32, e_X6_less_35, e_X6_less_38, e_X6_less_39, e_X6_less_42, e_X6_less_43, e_X6_less_46, e_X6_less_47, e_X6_less_48, e_X6_less_51, e_X6_less_54, e_X6_less_55, e_X6_less_58, e_X6_less_59, e_X6_less_62, e_X6_less_63, e_X6_less_64, e_X6_less_67, e_X6_less_70, e_X6_less_71, e_X6_less_74, e_X6_less_75, e_X6_less_76, e_X6_less_79, e_X6_less_82, e_X6_less_83, e_X6_less_86, e_X6_less_89, e_X6_less_90, e_X6_less_93, e_X6_less_96, e_X6_less_97, e_X6_less_100, e_X6_less_101, cR_ref, cR_null, cR_rf, c1_int, c1_ref, c1_null, c1_rf, kz_int, kz_ref, kz_null, kz_rf, kz_U, kz_long, nB_null, nB_ref, rf_none, rf_some, bV_ret, bV_thr, bA_ret, bA_thr, bX_ret, bX_thr, len4_0, len4_1, len4_2, len4_3, len4_4, true_and, and_true, and_self, if_true, if_false, Option.bind_some, nR_b1, nR_b0, nR_bI, nI_1z, nI_0z, bI_z, if_nn, gf, pf, clN, aln, gaI, gaL, gaR, saI, saR, isI, ctB, isB, gB, hput_n, hput_e, hput_21, hput_22, hnew_n, hnew_e, hnew_21, hnew_22, Option.bind_some, Option.map_some, List.lookup_cons, List.lookup_nil, beq_self_eq_true, List.getElem?_cons_zero, List.getElem?_cons_succ, List.set_cons_zero, List.set_cons_succ, List.length_cons, List.length_nil, Nat.reduceAdd, Nat.reduceLT, Nat.reduceLeDiff, Nat.reduceBEq, Nat.reduceEqDiff, okv_int, okv_oref, okv_onull, okv_orf, okv_aref, okv_b0, okv_b1, okv_z0, okv_bI, ckI_nI, lt31, leT, reduceCtorEq, List.mem_cons, List.mem_singleton, List.not_mem_nil, or_true, true_or, or_false, false_or, toR_ref, toR_null, ↓reduceIte, nI_add, pk_mul, w3, s1, t1, lw, lv, ↓nI_lt_if, hiw, hiv, cw, cv, ↓nI_eq_if, hpq, hlt, decide_true, bI_t]
        · simp (disch := first | omega | (simp only [hnew_21, hput_21, hnew_22, hput_22]; omega) | exact isR_ref | exact isR_null | exact isR_rf | exact isR_fmt | assumption | decide) only [e_X6_less_20, e_X6_less_21, e_X6_less_24, e_X6_less_27, e_X6_less_30, e_X6_less_31, e_X6_less_32, e_X6_less_35, e_X6_less_38, e_X6_less_39, e_X6_less_42, e_X6_less_43, e_X6_less_46, e_X6_less_47, e_X6_less_48, e_X6_less_51, e_X6_less_54, e_X6_less_55, e_X6_less_58, e_X6_less_59, e_X6_less_62, e_X6_less_63, e_X6_less_64, e_X6_less_67, e_X6_less_70, e_X6_less_71, e_X6_less_74, e_X6_less_75, e_X6_less_76, e_X6_less_79, e_X6_less_82, e_X6_less_83, e_X6_less_86, e_X6_less_89, e_X6_less_90, e_X6_less_93, e_X6_less_96, e_X6_less_97, e_X6_less_100, e_X6_less_101, cR_ref, cR_null, cR_rf, c1_int, c1_ref, c1_null, c1_rf, kz_int, kz_ref, kz_null, kz_rf, kz_U, kz_long, nB_null, nB_ref, rf_none, rf_some, bV_ret, bV_thr, bA_ret, bA_thr, bX_ret, bX_thr, len4_0, len4_1, len4_2, len4_3, len4_4, true_and, and_true, and_self, if_true, if_false, Option.bind_some, nR_b1, nR_b0, nR_bI, nI_1z, nI_0z, bI_z, if_nn, gf, pf, clN, aln, gaI, gaL, gaR, saI, saR, isI, ctB, isB, gB, hput_n, hput_e, hput_21, hput_22, hnew_n, hnew_e, hnew_21, hnew_22, Option.bind_some, Option.map_some, List.lookup_cons, List.lookup_nil, beq_self_eq_true, List.getElem?_cons_zero, List.getElem?_cons_succ, List.set_cons_zero, List.set_cons_succ, List.length_cons, List.length_nil, Nat.reduceAdd, Nat.reduceLT, Nat.reduceLeDiff, Nat.reduceBEq, Nat.reduceEqDiff, okv_int, okv_oref, okv_onull, okv_orf, okv_aref, okv_b0, okv_b1, okv_z0, okv_bI, ckI_nI, lt31, leT, reduceCtorEq, List.mem_cons, List.mem_singleton, List.not_mem_nil, or_true, true_or, or_false, false_or, toR_ref, toR_null, ↓reduceIte, nI_add, pk_mul, w3, s1, t1, lw, lv, ↓nI_lt_if, hiw, hiv, cw, cv, ↓nI_eq_if, hpq, hlt, decide_false, bI_f]
    · have d2 : v.drop i = [] := List.drop_eq_nil_iff.mpr (by omega)
      have hlt : ¬ w.length < v.length := by omega
      rw [d1, d2, e_X6_less_19]
      unfold lexL
      simp (disch := first | omega | (simp only [hnew_21, hput_21, hnew_22, hput_22]; omega) | exact isR_ref | exact isR_null | exact isR_rf | exact isR_fmt | assumption | decide) only [e_X6_less_20, e_X6_less_21, e_X6_less_24, e_X6_less_27, e_X6_less_30, e_X6_less_31, e_X6_less_32, e_X6_less_35, e_X6_less_38, e_X6_less_39, e_X6_less_42, e_X6_less_43, e_X6_less_46, e_X6_less_47, e_X6_less_48, e_X6_less_51, e_X6_less_54, e_X6_less_55, e_X6_less_58, e_X6_less_59, e_X6_less_62, e_X6_less_63, e_X6_less_64, e_X6_less_67, e_X6_less_70, e_X6_less_71, e_X6_less_74, e_X6_less_75, e_X6_less_76, e_X6_less_79, e_X6_less_82, e_X6_less_83, e_X6_less_86, e_X6_less_89, e_X6_less_90, e_X6_less_93, e_X6_less_96, e_X6_less_97, e_X6_less_100, e_X6_less_101, cR_ref, cR_null, cR_rf, c1_int, c1_ref, c1_null, c1_rf, kz_int, kz_ref, kz_null, kz_rf, kz_U, kz_long, nB_null, nB_ref, rf_none, rf_some, bV_ret, bV_thr, bA_ret, bA_thr, bX_ret, bX_thr, len4_0, len4_1, len4_2, len4_3, len4_4, true_and, and_true, and_self, if_true, if_false, Option.bind_some, nR_b1, nR_b0, nR_bI, nI_1z, nI_0z, bI_z, if_nn, gf, pf, clN, aln, gaI, gaL, gaR, saI, saR, isI, ctB, isB, gB, hput_n, hput_e, hput_21, hput_22, hnew_n, hnew_e, hnew_21, hnew_22, Option.bind_some, Option.map_some, List.lookup_cons, List.lookup_nil, beq_self_eq_true, List.getElem?_cons_zero, List.getElem?_cons_succ, List.set_cons_zero, List.set_cons_succ, List.length_cons, List.length_nil, Nat.reduceAdd, Nat.reduceLT, Nat.reduceLeDiff, Nat.reduceBEq, Nat.reduceEqDiff, okv_int, okv_oref, okv_onull, okv_orf, okv_aref, okv_b0, okv_b1, okv_z0, okv_bI, ckI_nI, lt31, leT, reduceCtorEq, List.mem_cons, List.mem_singleton, List.not_mem_nil, or_true, true_or, or_false, false_or, toR_ref, toR_null, ↓reduceIte, w3, s1, t1, lw, lv, ↓nI_lt_if, hiw, hiv, hlt, bI_f]
theorem c_less (ta : TrmR h a x) (tb : TrmR h b y) {k : Value → AH → Option Rs} : ((clN h a).bind fun ci => (([(3, 99), (4, 103)] : List (Nat × Nat)).lookup ci).bind fun yy => bA (gM PG Ω (d + 5) yy (.ref a :: [.ref b]) h) k) = k (.int (bI (ltT x y))) h := by
  rcases ta with ⟨n, n1, rfl, n3⟩ | ⟨s, w, w1, rfl, w3, w4⟩
  · rcases tb with ⟨m, m1, rfl, m3⟩ | ⟨t, v, v1, rfl, v3, v4⟩
    · have e : ltT (-1 - lN n) (-1 - lN m) = decide (n < m) := by
        unfold ltT
        simp only [num_neg n1, num_neg m1, true_or, if_true, and_self]
        exact decide_eq_decide.mpr (num_lt n1 m1)
      rw [e]
      by_cases hnm : n < m
      · simp (disch := first | omega | (simp only [hnew_21, hput_21, hnew_22, hput_22]; omega) | exact isR_ref | exact isR_null | exact isR_rf | exact isR_fmt | assumption | decide) only [n_X5_less, e_X5_less_0, e_X5_less_1, e_X5_less_4, e_X5_less_7, e_X5_less_8, e_X5_less_11, e_X5_less_12, e_X5_less_15, e_X5_less_18, e_X5_less_21, e_X5_less_22, e_X5_less_25, e_X5_less_26, cR_ref, cR_null, cR_rf, c1_int, c1_ref, c1_null, c1_rf, kz_int, kz_ref, kz_null, kz_rf, kz_U, kz_long, nB_null, nB_ref, rf_none, rf_some, bV_ret, bV_thr, bA_ret, bA_thr, bX_ret, bX_thr, len4_0, len4_1, len4_2, len4_3, len4_4, true_and, and_true, and_self, if_true, if_false, Option.bind_some, nR_b1, nR_b0, nR_bI, nI_1z, nI_0z, bI_z, if_nn, gf, pf, clN, aln, gaI, gaL, gaR, saI, saR, isI, ctB, isB, gB, hput_n, hput_e, hput_21, hput_22, hnew_n, hnew_e, hnew_21, hnew_22, Option.bind_some, Option.map_some, List.lookup_cons, List.lookup_nil, beq_self_eq_true, List.getElem?_cons_zero, List.getElem?_cons_succ, List.set_cons_zero, List.set_cons_succ, List.length_cons, List.length_nil, Nat.reduceAdd, Nat.reduceLT, Nat.reduceLeDiff, Nat.reduceBEq, Nat.reduceEqDiff, okv_int, okv_oref, okv_onull, okv_orf, okv_aref, okv_b0, okv_b1, okv_z0, okv_bI, ckI_nI, lt31, leT, reduceCtorEq, List.mem_cons, List.mem_singleton, List.not_mem_nil, or_true, true_or, or_false, false_or, toR_ref, toR_null, ↓reduceIte, n3, m3, t1z, ↓nI_lt_if, hnm, decide_true, bI_t]
      · simp (disch := first | omega | (simp only [hnew_21, hput_21, hnew_22, hput_22]; omega) | exact isR_ref | exact isR_null | exact isR_rf | exact isR_fmt | assumption | decide) only [n_X5_less, e_X5_less_0, e_X5_less_1, e_X5_less_4, e_X5_less_7, e_X5_less_8, e_X5_less_11, e_X5_less_12, e_X5_less_15, e_X5_less_18, e_X5_less_21, e_X5_less_22, e_X5_less_25, e_X5_less_26, cR_ref, cR_null, cR_rf, c1_int, c1_ref, c1_null, c1_rf, kz_int, kz_ref, kz_null, kz_rf, kz_U, kz_long, nB_null, nB_ref, rf_none, rf_some, bV_ret, bV_thr, bA_ret, bA_thr, bX_ret, bX_thr, len4_0, len4_1, len4_2, len4_3, len4_4, true_and, and_true, and_self, if_true, if_false, Option.bind_some, nR_b1, nR_b0, nR_bI, nI_1z, nI_0z, bI_z, if_nn, gf, pf, clN, aln, gaI, gaL, gaR, saI, saR, isI, ctB, isB, gB, hput_n, hput_e, hput_21, hput_22, hnew_n, hnew_e, hnew_21, hnew_22, Option.bind_some, Option.map_some, List.lookup_cons, List.lookup_nil, beq_self_eq_true, List.getElem?_cons_zero, List.getElem?_cons_succ, List.set_cons_zero, List.set_cons_succ, List.length_cons, List.length_nil, Nat.reduceAdd, Nat.reduceLT, Nat.reduceLeDiff, Nat.reduceBEq, Nat.reduceEqDiff, okv_int, okv_oref, okv_onull, okv_orf, okv_aref, okv_b0, okv_b1, okv_z0, okv_bI, ckI_nI, lt31, leT, reduceCtorEq, List.mem_cons, List.mem_singleton, List.not_mem_nil, or_true, true_or, or_false, false_or, toR_ref, toR_null, ↓reduceIte, n3, m3, t1z, ↓nI_lt_if, hnm, decide_false, bI_f]
    · obtain ⟨p2, q2⟩ := v1.p
      have e : ltT (-1 - lN n) (wcode v) = true := by
        unfold ltT
        rw [v1.n]
        simp only [lN_nn (p2.lt63 q2), num_neg n1, true_or, if_true, and_false, if_false, decide_true]
      rw [e]
      simp (disch := first | omega | (simp only [hnew_21, hput_21, hnew_22, hput_22]; omega) | exact isR_ref | exact isR_null | exact isR_rf | exact isR_fmt | assumption | decide) only [n_X5_less, e_X5_less_0, e_X5_less_1, e_X5_less_4, e_X5_less_7, e_X5_less_8, e_X5_less_11, e_X5_less_12, e_X5_less_15, e_X5_less_18, e_X5_less_21, e_X5_less_22, e_X5_less_25, e_X5_less_26, cR_ref, cR_null, cR_rf, c1_int, c1_ref, c1_null, c1_rf, kz_int, kz_ref, kz_null, kz_rf, kz_U, kz_long, nB_null, nB_ref, rf_none, rf_some, bV_ret, bV_thr, bA_ret, bA_thr, bX_ret, bX_thr, len4_0, len4_1, len4_2, len4_3, len4_4, true_and, and_true, and_self, if_true, if_false, Option.bind_some, nR_b1, nR_b0, nR_bI, nI_1z, nI_0z, bI_z, if_nn, gf, pf, clN, aln, gaI, gaL, gaR, saI, saR, isI, ctB, isB, gB, hput_n, hput_e, hput_21, hput_22, hnew_n, hnew_e, hnew_21, hnew_22, Option.bind_some, Option.map_some, List.lookup_cons, List.lookup_nil, beq_self_eq_true, List.getElem?_cons_zero, List.getElem?_cons_succ, List.set_cons_zero, List.set_cons_succ, List.length_cons, List.length_nil, Nat.reduceAdd, Nat.reduceLT, Nat.reduceLeDiff, Nat.reduceBEq, Nat.reduceEqDiff, okv_int, okv_oref, okv_onull, okv_orf, okv_aref, okv_b0, okv_b1, okv_z0, okv_bI, ckI_nI, lt31, leT, reduceCtorEq, List.mem_cons, List.mem_singleton, List.not_mem_nil, or_true, true_or, or_false, false_or, toR_ref, toR_null, ↓reduceIte, n3, v3, t0z, bI_t]
  · rcases tb with ⟨m, m1, rfl, m3⟩ | ⟨t, v, v1, rfl, v3, v4⟩
    · obtain ⟨p2, q2⟩ := w1.p
      have e : ltT (wcode w) (-1 - lN m) = false := by
        unfold ltT
        rw [w1.n]
        simp only [lN_nn (p2.lt63 q2), num_neg m1, or_true, if_true, false_and, if_false, decide_false]
      rw [e]
      simp (disch := first | omega | (simp only [hnew_21, hput_21, hnew_22, hput_22]; omega) | exact isR_ref | exact isR_null | exact isR_rf | exact isR_fmt | assumption | decide) only [n_X6_less, e_X6_less_0, e_X6_less_1, e_X6_less_4, e_X6_less_7, e_X6_less_8, e_X6_less_9, e_X6_less_10, e_X6_less_13, e_X6_less_16, e_X6_less_17, e_X6_less_18, cR_ref, cR_null, cR_rf, c1_int, c1_ref, c1_null, c1_rf, kz_int, kz_ref, kz_null, kz_rf, kz_U, kz_long, nB_null, nB_ref, rf_none, rf_some, bV_ret, bV_thr, bA_ret, bA_thr, bX_ret, bX_thr, len4_0, len4_1, len4_2, len4_3, len4_4, true_and, and_true, and_self, if_true, if_false, Option.bind_some, nR_b1, nR_b0, nR_bI, nI_1z, nI_0z, bI_z, if_nn, gf, pf, clN, aln, gaI, gaL, gaR, saI, saR, isI, ctB, isB, gB, hput_n, hput_e, hput_21, hput_22, hnew_n, hnew_e, hnew_21, hnew_22, Option.bind_some, Option.map_some, List.lookup_cons, List.lookup_nil, beq_self_eq_true, List.getElem?_cons_zero, List.getElem?_cons_succ, List.set_cons_zero, List.set_cons_succ, List.length_cons, List.length_nil, Nat.reduceAdd, Nat.reduceLT, Nat.reduceLeDiff, Nat.reduceBEq, Nat.reduceEqDiff, okv_int, okv_oref, okv_onull, okv_orf, okv_aref, okv_b0, okv_b1, okv_z0, okv_bI, ckI_nI, lt31, leT, reduceCtorEq, List.mem_cons, List.mem_singleton, List.not_mem_nil, or_true, true_or, or_false, false_or, toR_ref, toR_null, ↓reduceIte, w3, m3, t0z, bI_f]
    · have e := c_wl (Ω := Ω) (d := d) (l1 := .ref b) w3 w4 v4 w.length 0 (by omega) (by omega)
      rw [List.drop_zero, List.drop_zero] at e
      rw [ltT_lex w1 v1]
      simp (disch := first | omega | (simp only [hnew_21, hput_21, hnew_22, hput_22]; omega) | exact isR_ref | exact isR_null | exact isR_rf | exact isR_fmt | assumption | decide) only [n_X6_less, e_X6_less_0, e_X6_less_1, e_X6_less_4, e_X6_less_7, e_X6_less_8, e_X6_less_9, e_X6_less_10, e_X6_less_13, e_X6_less_16, e_X6_less_17, e_X6_less_18, cR_ref, cR_null, cR_rf, c1_int, c1_ref, c1_null, c1_rf, kz_int, kz_ref, kz_null, kz_rf, kz_U, kz_long, nB_null, nB_ref, rf_none, rf_some, bV_ret, bV_thr, bA_ret, bA_thr, bX_ret, bX_thr, len4_0, len4_1, len4_2, len4_3, len4_4, true_and, and_true, and_self, if_true, if_false, Option.bind_some, nR_b1, nR_b0, nR_bI, nI_1z, nI_0z, bI_z, if_nn, gf, pf, clN, aln, gaI, gaL, gaR, saI, saR, isI, ctB, isB, gB, hput_n, hput_e, hput_21, hput_22, hnew_n, hnew_e, hnew_21, hnew_22, Option.bind_some, Option.map_some, List.lookup_cons, List.lookup_nil, beq_self_eq_true, List.getElem?_cons_zero, List.getElem?_cons_succ, List.set_cons_zero, List.set_cons_succ, List.length_cons, List.length_nil, Nat.reduceAdd, Nat.reduceLT, Nat.reduceLeDiff, Nat.reduceBEq, Nat.reduceEqDiff, okv_int, okv_oref, okv_onull, okv_orf, okv_aref, okv_b0, okv_b1, okv_z0, okv_bI, ckI_nI, lt31, leT, reduceCtorEq, List.mem_cons, List.mem_singleton, List.not_mem_nil, or_true, true_or, or_false, false_or, toR_ref, toR_null, ↓reduceIte, w3, v3, t1z, e]
theorem c_wc {s : Nat} {w : List Nat} (w3 : h.1 a = some (.inr (4, [.ref s]))) (w4 : StrR h s w) : ∀ (m i : Nat), i + m = w.length → gO PG Ω (d + 4) 104 4 [.ref a, .long (wcode (w.take i)), U, .int (nI i)] [] h = some (.returned (some (.long (wcode w))), h) := by
  have lw := j_length (Ω := Ω) (d := d + 2) w4
  have w4' := w4
  obtain ⟨b1, z1, z2, f, s1, s2, s3, s4, s5⟩ := w4
  intro m
  induction m with
  | zero =>
    intro i hi
    have : i = w.length := by omega
    subst this
    rw [e_X6_coded_4]
    simp (disch := first | omega | (simp only [hnew_21, hput_21, hnew_22, hput_22]; omega) | exact isR_ref | exact isR_null | exact isR_rf | exact isR_fmt | assumption | decide) only [e_X6_coded_5, e_X6_coded_6, e_X6_coded_9, e_X6_coded_12, e_X6_coded_15, e_X6_coded_16, e_X6_coded_18, e_X6_coded_19, e_X6_coded_20, e_X6_coded_23, e_X6_coded_24, e_X6_coded_27, e_X6_coded_28, e_X6_coded_29, e_X6_coded_30, e_X6_coded_33, e_X6_coded_36, e_X6_coded_37, cR_ref, cR_null, cR_rf, c1_int, c1_ref, c1_null, c1_rf, kz_int, kz_ref, kz_null, kz_rf, kz_U, kz_long, nB_null, nB_ref, rf_none, rf_some, bV_ret, bV_thr, bA_ret, bA_thr, bX_ret, bX_thr, len4_0, len4_1, len4_2, len4_3, len4_4, true_and, and_true, and_self, if_true, if_false, Option.bind_some, nR_b1, nR_b0, nR_bI, nI_1z, nI_0z, bI_z, if_nn, gf, pf, clN, aln, gaI, gaL, gaR, saI, saR, isI, ctB, isB, gB, hput_n, hput_e, hput_21, hput_22, hnew_n, hnew_e, hnew_21, hnew_22, Option.bind_some, Option.map_some, List.lookup_cons, List.lookup_nil, beq_self_eq_true, List.getElem?_cons_zero, List.getElem?_cons_succ, List.set_cons_zero, List.set_cons_succ, List.length_cons, List.length_nil, Nat.reduceAdd, Nat.reduceLT, Nat.reduceLeDiff, Nat.reduceBEq, Nat.reduceEqDiff, okv_int, okv_oref, okv_onull, okv_orf, okv_aref, okv_b0, okv_b1, okv_z0, okv_bI, ckI_nI, lt31, leT, reduceCtorEq, List.mem_cons, List.mem_singleton, List.not_mem_nil, or_true, true_or, or_false, false_or, toR_ref, toR_null, ↓reduceIte, w3, s1, lw, ↓nI_lt_if, Nat.lt_irrefl, List.take_length]
  | succ m ih =>
    intro i hi
    have hiw : i < w.length := by omega
    have g1 : w[i]? = some w[i] := List.getElem?_eq_getElem hiw
    have ht : w.take (i + 1) = w.take i ++ [w[i]] := by rw [List.take_add_one, g1]; rfl
    have cw := j_charAt (Ω := Ω) (d := d) w4' g1
    generalize w[i] = c at *
    rw [← ih (i + 1) (by omega), ht, wcode_snoc, e_X6_coded_4]
    simp (disch := first | omega | (simp only [hnew_21, hput_21, hnew_22, hput_22]; omega) | exact isR_ref | exact isR_null | exact isR_rf | exact isR_fmt | assumption | decide) only [e_X6_coded_5, e_X6_coded_6, e_X6_coded_9, e_X6_coded_12, e_X6_coded_15, e_X6_coded_16, e_X6_coded_18, e_X6_coded_19, e_X6_coded_20, e_X6_coded_23, e_X6_coded_24, e_X6_coded_27, e_X6_coded_28, e_X6_coded_29, e_X6_coded_30, e_X6_coded_33, e_X6_coded_36, e_X6_coded_37, cR_ref, cR_null, cR_rf, c1_int, c1_ref, c1_null, c1_rf, kz_int, kz_ref, kz_null, kz_rf, kz_U, kz_long, nB_null, nB_ref, rf_none, rf_some, bV_ret, bV_thr, bA_ret, bA_thr, bX_ret, bX_thr, len4_0, len4_1, len4_2, len4_3, len4_4, true_and, and_true, and_self, if_true, if_false, Option.bind_some, nR_b1, nR_b0, nR_bI, nI_1z, nI_0z, bI_z, if_nn, gf, pf, clN, aln, gaI, gaL, gaR, saI, saR, isI, ctB, isB, gB, hput_n, hput_e, hput_21, hput_22, hnew_n, hnew_e, hnew_21, hnew_22, Option.bind_some, Option.map_some, List.lookup_cons, List.lookup_nil, beq_self_eq_true, List.getElem?_cons_zero, List.getElem?_cons_succ, List.set_cons_zero, List.set_cons_succ, List.length_cons, List.length_nil, Nat.reduceAdd, Nat.reduceLT, Nat.reduceLeDiff, Nat.reduceBEq, Nat.reduceEqDiff, okv_int, okv_oref, okv_onull, okv_orf, okv_aref, okv_b0, okv_b1, okv_z0, okv_bI, ckI_nI, lt31, leT, reduceCtorEq, List.mem_cons, List.mem_singleton, List.not_mem_nil, or_true, true_or, or_false, false_or, toR_ref, toR_null, ↓reduceIte, nI_add, pk_mul, w3, s1, lw, ↓nI_lt_if, hiw, cw, wst]
theorem c_coded (ta : TrmR h a x) {k : Value → AH → Option Rs} : ((clN h a).bind fun ci => (([(3, 100), (4, 104)] : List (Nat × Nat)).lookup ci).bind fun yy => bA (gM PG Ω (d + 5) yy (.ref a :: []) h) k) = k (.long x) h := by
  rcases ta with ⟨n, n1, rfl, n3⟩ | ⟨s, w, w1, rfl, w3, w4⟩
  · simp (disch := first | omega | (simp only [hnew_21, hput_21, hnew_22, hput_22]; omega) | exact isR_ref | exact isR_null | exact isR_rf | exact isR_fmt | assumption | decide) only [n_X5_coded, e_X5_coded_0, e_X5_coded_3, e_X5_coded_4, e_X5_coded_7, e_X5_coded_8, e_X5_coded_9, cR_ref, cR_null, cR_rf, c1_int, c1_ref, c1_null, c1_rf, kz_int, kz_ref, kz_null, kz_rf, kz_U, kz_long, nB_null, nB_ref, rf_none, rf_some, bV_ret, bV_thr, bA_ret, bA_thr, bX_ret, bX_thr, len4_0, len4_1, len4_2, len4_3, len4_4, true_and, and_true, and_self, if_true, if_false, Option.bind_some, nR_b1, nR_b0, nR_bI, nI_1z, nI_0z, bI_z, if_nn, gf, pf, clN, aln, gaI, gaL, gaR, saI, saR, isI, ctB, isB, gB, hput_n, hput_e, hput_21, hput_22, hnew_n, hnew_e, hnew_21, hnew_22, Option.bind_some, Option.map_some, List.lookup_cons, List.lookup_nil, beq_self_eq_true, List.getElem?_cons_zero, List.getElem?_cons_succ, List.set_cons_zero, List.set_cons_succ, List.length_cons, List.length_nil, Nat.reduceAdd, Nat.reduceLT, Nat.reduceLeDiff, Nat.reduceBEq, Nat.reduceEqDiff, okv_int, okv_oref, okv_onull, okv_orf, okv_aref, okv_b0, okv_b1, okv_z0, okv_bI, ckI_nI, lt31, leT, reduceCtorEq, List.mem_cons, List.mem_singleton, List.not_mem_nil, or_true, true_or, or_false, false_or, toR_ref, toR_null, ↓reduceIte, n3, nI_L]
  · have e := c_wc (Ω := Ω) (d := d) w3 w4 w.length 0 (by omega)
    have e0 : wcode (w.take 0) = 0 := by rw [List.take_zero]; rfl
    rw [e0] at e
    simp (disch := first | omega | (simp only [hnew_21, hput_21, hnew_22, hput_22]; omega) | exact isR_ref | exact isR_null | exact isR_rf | exact isR_fmt | assumption | decide) only [n_X6_coded, e_X6_coded_0, e_X6_coded_1, e_X6_coded_2, e_X6_coded_3, cR_ref, cR_null, cR_rf, c1_int, c1_ref, c1_null, c1_rf, kz_int, kz_ref, kz_null, kz_rf, kz_U, kz_long, nB_null, nB_ref, rf_none, rf_some, bV_ret, bV_thr, bA_ret, bA_thr, bX_ret, bX_thr, len4_0, len4_1, len4_2, len4_3, len4_4, true_and, and_true, and_self, if_true, if_false, Option.bind_some, nR_b1, nR_b0, nR_bI, nI_1z, nI_0z, bI_z, if_nn, gf, pf, clN, aln, gaI, gaL, gaR, saI, saR, isI, ctB, isB, gB, hput_n, hput_e, hput_21, hput_22, hnew_n, hnew_e, hnew_21, hnew_22, Option.bind_some, Option.map_some, List.lookup_cons, List.lookup_nil, beq_self_eq_true, List.getElem?_cons_zero, List.getElem?_cons_succ, List.set_cons_zero, List.set_cons_succ, List.length_cons, List.length_nil, Nat.reduceAdd, Nat.reduceLT, Nat.reduceLeDiff, Nat.reduceBEq, Nat.reduceEqDiff, okv_int, okv_oref, okv_onull, okv_orf, okv_aref, okv_b0, okv_b1, okv_z0, okv_bI, ckI_nI, lt31, leT, reduceCtorEq, List.mem_cons, List.mem_singleton, List.not_mem_nil, or_true, true_or, or_false, false_or, toR_ref, toR_null, ↓reduceIte, w3, e]
end CM
