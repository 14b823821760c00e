/-! COMPONENT: the store's changes -/
def inv (c : Chg) : Chg := (!c.1, c.2)
def ChnR (h : AH) : List Chg → Option Nat → Prop
  | [], o => o = none
  | x :: l, o => ∃ a t nx, o = some a ∧ h.1 a = some (.inr (5, [.int (bI x.1), .ref t, va_rf nx])) ∧ TriR h t x.2 ∧ ChnR h l nx
def CmA (Ω : Om) (h : AH) (A : List Nat) (Cm : List (List Chg)) : Prop := A.length = Cm.length ∧ A.Nodup ∧ (∀ a ∈ A, Ω.sz ≤ a) ∧ ∀ i a C, A[i]? = some a → Cm[i]? = some C → ∃ l, h.1 a = some (.inr (6, [va_rf l, va_rf A[i + 1]?])) ∧ ChnR h C l
/-- cells that the store's changes write -/
def So (e : Ce) : Prop := match e with
  | .inr (ci, _) => ci = 0 ∨ ci = 6
  | .inl (ty, _) => ty = .object "TripleStore$Triple"
def NS (k m : Nat) (h h' : AH) : Prop := ∃ S, Nx S k m h h' ∧ ∀ q ∈ S, ∀ e, h.1 q = some e → So e
theorem So.nrm {e e' : Ce} (h : nrmC e' = nrmC e) (s : So e') : So e := by
  rcases e with ⟨ty, A⟩ | ⟨ci, fs⟩
  · have := nrm_ar h
    rw [this] at s; exact s
  · by_cases hc : ci = 23
    · exfalso
      rcases e' with ⟨ty', A'⟩ | ⟨ci', fs'⟩
      · have h' := h.symm
        have := nrm_ar h'
        cases this
      · by_cases hc' : ci' = 23
        · rw [hc'] at s
          rcases s with z | z <;> omega
        · have := nrm_ob hc' h.symm
          cases this
          exact hc' hc
    · have := nrm_ob hc h
      rw [this] at s; exact s
section NSS
variable {Ω : Om} {d : Nat} {h h' h'' : AH} {a b c k m k' m' : Nat} {S : List Nat}
theorem NS.rfl' (hf : Fe h) : NS 0 0 h h := ⟨[], Nx.rfl' hf, fun q hq => (nomatch hq)⟩
theorem NS.of (n : Nx [] k m h h') : NS k m h h' := ⟨[], n, fun q hq => (nomatch hq)⟩
theorem NS.trans (x : NS k m h h') (y : NS k' m' h' h'') : NS (k + k') (m + m') h h'' := by
  obtain ⟨S, n, hS⟩ := x
  obtain ⟨S', n', hS'⟩ := y
  refine ⟨S ++ S', (n.mono (fun q hq => List.mem_append_left _ hq) (Nat.le_refl _) (Nat.le_refl _)).trans (n'.mono (fun q hq => List.mem_append_right _ hq) (Nat.le_refl _) (Nat.le_refl _)), fun q hq e he => ?_⟩
  by_cases hq1 : q ∈ S
  · exact hS q hq1 e he
  · rcases List.mem_append.mp hq with z | z
    · exact absurd z hq1
    · obtain ⟨e', h1, h2⟩ := n.2.2.2.2.2.2 q e hq1 he
      exact (hS' q z e' h1).nrm h2
theorem NS.mono (x : NS k m h h') (hk : k ≤ k') (hm : m ≤ m') : NS k' m' h h' := by
  obtain ⟨S, n, hS⟩ := x
  exact ⟨S, n.mono (fun _ q => q) hk hm, hS⟩
theorem NS.fs (x : NS k m h h') : ∃ S, Nx S k m h h' ∧ FS h S ∧ ∀ q ∈ S, ∀ e, h.1 q = some e → So e := by
  obtain ⟨S, n, hS⟩ := x
  refine ⟨S, n, fun q hq e he => ?_, hS⟩
  have := hS q hq e he
  rcases e with ⟨ty, N, f⟩ | ⟨ci, fs⟩
  · have this' : ty = .object "TripleStore$Triple" := this
    subst this'
    exact ⟨by decide, fun z => nomatch z⟩
  · rcases (this : ci = 0 ∨ ci = 6) with z | z <;> (subst z; show _ ∉ _; decide)
theorem So.na {ci : Nat} {fs : List Value} (hS : ∀ q ∈ S, ∀ e, h.1 q = some e → So e) (ha : h.1 a = some (.inr (ci, fs))) (hc : ci ≠ 0 ∧ ci ≠ 6) : a ∉ S := fun z => by
  rcases (hS a z _ ha : ci = 0 ∨ ci = 6) with w | w
  · exact hc.1 w
  · exact hc.2 w
theorem So.nr {q : FieldType × vp_A} (hS : ∀ q ∈ S, ∀ e, h.1 q = some e → So e) (ha : h.1 a = some (.inl q)) (hc : q.1 ≠ .object "TripleStore$Triple") : a ∉ S := fun z => hc (hS a z _ ha)
theorem NS.fe (x : NS k m h h') : Fe h' := by
  obtain ⟨S, n, _⟩ := x
  exact n.2.1
theorem NS.le (x : NS k m h h') : h.2.1 ≤ h'.2.1 := by
  obtain ⟨S, n, _⟩ := x
  exact n.2.2.1
theorem ChnR.fs (n : Nx S k m h h') (hS : FS h S) : ∀ (l : List Chg) (o : Option Nat), ChnR h l o → ChnR h' l o := by
  intro l
  induction l with
  | nil => intro o x; exact x
  | cons y l ih =>
    intro o x
    obtain ⟨a, t, nx, a1, a2, a3, a4⟩ := x
    exact ⟨a, t, nx, a1, n.ob a2 (by decide) (hS.na a2 (by decide)), a3.fs n hS, ih nx a4⟩
theorem CmA.fs {A : List Nat} {Cm : List (List Chg)} (x : CmA Ω h A Cm) (n : Nx S k m h h') (hS : FS h S) (h6 : ∀ a ∈ A, a ∉ S) : CmA Ω h' A Cm := by
  obtain ⟨a1, a2, a3, a4⟩ := x
  refine ⟨a1, a2, a3, fun i a C q1 q2 => ?_⟩
  obtain ⟨l, l1, l2⟩ := a4 i a C q1 q2
  exact ⟨l, n.ob l1 (by decide) (h6 a (List.mem_of_getElem? q1)), ChnR.fs n hS C l l2⟩
theorem CmA.cl {A : List Nat} {Cm : List (List Chg)} (x : CmA Ω h A Cm) (ha : a ∈ A) : ∃ fs, h.1 a = some (.inr (6, fs)) := by
  obtain ⟨a1, a2, a3, a4⟩ := x
  obtain ⟨i, hi⟩ := List.mem_iff_getElem?.mp ha
  have hl := (List.getElem?_eq_some_iff.mp hi).1
  obtain ⟨l, l1, _⟩ := a4 i a _ hi (List.getElem?_eq_getElem (by omega))
  exact ⟨_, l1⟩
end NSS
/-- the store -/
def CpS (Ω : Om) (h : AH) (c : Nat) (L : List Tri) (op : Bool) (Cu : List Chg) (Cm : List (List Chg)) (cm sb : Nat) (fa : Int32) (ra : Nat) (rc co : Int32) : Prop := ∃ (tr : Nat) (ch : Option Nat) (A : List Nat), h.1 c = some (acE (.ref tr) (.int (nI L.length)) (.int (bI op)) (va_rf ch) (.int (nI Cu.length)) (va_rf A.head?) (va_rf A.getLast?) (.int (nI cm)) (.int (nI Cm.length)) sb fa ra rc co) ∧ TrA h tr L ∧ ChnR h Cu ch ∧ CmA Ω h A Cm ∧ Fe h ∧ Ω.sz ≤ c ∧ Ω.sz ≤ tr ∧ Ω.sz ≤ h.2.1
section STO
variable {Ω : Om} {d : Nat} {h h' hB : AH} {a b c p q r tr sb ra k m cm : Nat} {t u : Tri} {L : List Tri} {S : List Nat} {v0 v1 v2 v3 v4 v5 v6 v7 v8 : Value} {fa rc co : Int32} {op : Bool} {Cu : List Chg} {Cm : List (List Chg)} {ch : Option Nat} {A : List Nat}
theorem i_chg {v w z : Value} {b : Bool} {nx : Option Nat} (hz : Ω.sz ≤ a) (ha : h.1 a = some (.inr (5, [v, w, z]))) : gM PG Ω (d + 2) 105 [.ref a, .int (bI b), .ref p, va_rf nx] h = some (.returned none, hput h a (.inr (5, [.int (bI b), .ref p, va_rf nx]))) := by
  simp (disch := first | omega | (simp only [hnew_21, hput_21, hnew_22, hput_22]; omega) | exact isR_ref | exact isR_null | exact isR_rf | exact isR_fmt | assumption | decide) only [n_X7_init, e_X7_init_0, e_X7_init_1, e_X7_init_4, e_X7_init_5, e_X7_init_6, e_X7_init_9, e_X7_init_10, e_X7_init_11, e_X7_init_14, e_X7_init_15, e_X7_init_16, e_X7_init_19, cR_ref, cR_null, cR_rf, c1_int, c1_ref, c1_null, c1_rf, kz_int, kz_ref, kz_null, kz_rf, kz_U, kz_long, nB_null, nB_ref, rf_none, rf_some, bV_ret, bV_thr, bA_ret, bA_thr, bX_ret, bX_thr, len4_0, len4_1, len4_2, len4_3, len4_4, true_and, and_true, and_self, if_true, if_false, Option.bind_some, nR_b1, nR_b0, nR_bI, nI_1z, nI_0z, bI_z, if_nn, gf, pf, clN, aln, gaI, gaL, gaR, saI, saR, isI, ctB, isB, gB, hput_n, hput_e, hput_21, hput_22, hnew_n, hnew_e, hnew_21, hnew_22, Option.bind_some, Option.map_some, List.lookup_cons, List.lookup_nil, beq_self_eq_true, List.getElem?_cons_zero, List.getElem?_cons_succ, List.set_cons_zero, List.set_cons_succ, List.length_cons, List.length_nil, Nat.reduceAdd, Nat.reduceLT, Nat.reduceLeDiff, Nat.reduceBEq, Nat.reduceEqDiff, okv_int, okv_oref, okv_onull, okv_orf, okv_aref, okv_b0, okv_b1, okv_z0, okv_bI, ckI_nI, lt31, leT, reduceCtorEq, List.mem_cons, List.mem_singleton, List.not_mem_nil, or_true, true_or, or_false, false_or, toR_ref, toR_null, ↓reduceIte, ha, hput2]
theorem i_com {v w : Value} {nx : Option Nat} (hz : Ω.sz ≤ a) (ha : h.1 a = some (.inr (6, [v, w]))) : gM PG Ω (d + 2) 106 [.ref a, va_rf nx] h = some (.returned none, hput h a (.inr (6, [va_rf nx, w]))) := by
  simp (disch := first | omega | (simp only [hnew_21, hput_21, hnew_22, hput_22]; omega) | exact isR_ref | exact isR_null | exact isR_rf | exact isR_fmt | assumption | decide) only [n_X8_init, e_X8_init_0, e_X8_init_1, e_X8_init_4, e_X8_init_5, e_X8_init_6, e_X8_init_9, cR_ref, cR_null, cR_rf, c1_int, c1_ref, c1_null, c1_rf, kz_int, kz_ref, kz_null, kz_rf, kz_U, kz_long, nB_null, nB_ref, rf_none, rf_some, bV_ret, bV_thr, bA_ret, bA_thr, bX_ret, bX_thr, len4_0, len4_1, len4_2, len4_3, len4_4, true_and, and_true, and_self, if_true, if_false, Option.bind_some, nR_b1, nR_b0, nR_bI, nI_1z, nI_0z, bI_z, if_nn, gf, pf, clN, aln, gaI, gaL, gaR, saI, saR, isI, ctB, isB, gB, hput_n, hput_e, hput_21, hput_22, hnew_n, hnew_e, hnew_21, hnew_22, Option.bind_some, Option.map_some, List.lookup_cons, List.lookup_nil, beq_self_eq_true, List.getElem?_cons_zero, List.getElem?_cons_succ, List.set_cons_zero, List.set_cons_succ, List.length_cons, List.length_nil, Nat.reduceAdd, Nat.reduceLT, Nat.reduceLeDiff, Nat.reduceBEq, Nat.reduceEqDiff, okv_int, okv_oref, okv_onull, okv_orf, okv_aref, okv_b0, okv_b1, okv_z0, okv_bI, ckI_nI, lt31, leT, reduceCtorEq, List.mem_cons, List.mem_singleton, List.not_mem_nil, or_true, true_or, or_false, false_or, toR_ref, toR_null, ↓reduceIte, ha]
set_option maxHeartbeats 1000000 in
theorem c_close (H : CpS Ω h c L op Cu Cm cm sb fa ra rc co) : ∃ h', gM PG Ω (d + 3) 20 [.ref c] h = some (.returned none, h') ∧ CpS Ω h' c L false [] (Cm ++ [Cu]) (cm + 1) sb fa ra rc co ∧ NS 1 2 h h' := by
  obtain ⟨tr, ch, A, hc, hT, hCh, hA, hFe, z1, z2, z3⟩ := H
  have lc := hFe.lt hc
  have hne : c ≠ h.2.1 := by omega
  have e1 := i_com (Ω := Ω) (d := d) (a := h.2.1) (nx := ch) z3 (show (hnew h (.inr (6, [.null, .null])) 2).1 h.2.1 = _ from hnew_e)
  have hT0 := hT
  obtain ⟨f, f1, _⟩ := hT0
  have hct : c ≠ tr := ne_ca hc f1
  obtain ⟨A1, A2, A3, A4⟩ := hA
  have hA : CmA Ω h A Cm := ⟨A1, A2, A3, A4⟩
  have x0 : Nx [c] 1 2 h (hnew h (.inr (6, [.null, .null])) 2) := (Nx.rfl' hFe).new.mono (fun _ q => q) (by omega) (by omega)
  have x1 : Nx [c] 1 2 h (hput (hnew h (.inr (6, [.null, .null])) 2) h.2.1 (.inr (6, [va_rf ch, .null]))) := x0.put (.inr (Nat.le_refl _)) (by rw [hnew_21]; omega)
  have hnA : ∀ a ∈ A, a < h.2.1 ∧ a ≠ c := fun a ha => by
    obtain ⟨fs, hfs⟩ := hA.cl ha
    exact ⟨hFe.lt hfs, ne_cl hfs hc (by decide)⟩
  have nodA : (A ++ [h.2.1]).Nodup := by
    rw [List.nodup_append]
    refine ⟨A2, by simp, fun a ha b hb => ?_⟩
    rw [List.mem_singleton.mp hb]
    have := (hnA a ha).1
    omega
  have szA : ∀ a ∈ A ++ [h.2.1], Ω.sz ≤ a := fun a ha => by
    rcases List.mem_append.mp ha with z | z
    · exact A3 a z
    · rw [List.mem_singleton.mp z]; exact z3
  cases hA0 : A.getLast? with
  | none =>
    have hAe : A = [] := List.getLast?_eq_none_iff.mp hA0
    subst hAe
    have hCm : Cm = [] := List.length_eq_zero_iff.mp A1.symm
    subst hCm
    have x2 : Nx [c] 1 2 h (hput (hput (hnew h (.inr (6, [.null, .null])) 2) h.2.1 (.inr (6, [va_rf ch, .null]))) c (acE (.ref tr) (.int (nI L.length)) (.int (bI false)) .null (.int (nI 0)) (.ref h.2.1) (.ref h.2.1) (.int (nI (cm + 1))) (.int (nI (0 + 1))) sb fa ra rc co)) := x1.put (.inl (by simp)) (by rw [hput_21, hnew_21]; omega)
    have hS : FS h [c] := FS.ob hc (by decide)
    refine ⟨_, ?_, ⟨tr, none, [h.2.1], hput_e, hT.fs x2 hS (by simp; omega), rfl, ⟨rfl, by simp, fun a ha => by rw [List.mem_singleton.mp ha]; exact z3, fun i a C q1 q2 => ?_⟩, x2.2.1, z1, z2, Nat.le_trans z3 x2.2.2.1⟩, ⟨[c], x2, fun q hq e he => ?_⟩⟩
    · rw [List.head?_nil] at hc
      rw [hA0] at hc
      simp (disch := first | omega | (simp only [hnew_21, hput_21, hnew_22, hput_22]; omega) | exact isR_ref | exact isR_null | exact isR_rf | exact isR_fmt | assumption | decide) only [n_X1_close, e_X1_close_0, e_X1_close_3, e_X1_close_4, e_X1_close_5, e_X1_close_8, e_X1_close_11, e_X1_close_12, e_X1_close_13, e_X1_close_16, e_X1_close_19, e_X1_close_20, e_X1_close_21, e_X1_close_24, e_X1_close_27, e_X1_close_28, e_X1_close_31, e_X1_close_32, e_X1_close_35, e_X1_close_36, e_X1_close_37, e_X1_close_40, e_X1_close_41, e_X1_close_42, e_X1_close_45, e_X1_close_46, e_X1_close_47, e_X1_close_50, e_X1_close_51, e_X1_close_52, e_X1_close_55, e_X1_close_56, e_X1_close_57, e_X1_close_60, e_X1_close_61, e_X1_close_62, e_X1_close_65, e_X1_close_66, e_X1_close_67, e_X1_close_70, e_X1_close_71, e_X1_close_72, e_X1_close_75, cR_ref, cR_null, cR_rf, c1_int, c1_ref, c1_null, c1_rf, kz_int, kz_ref, kz_null, kz_rf, kz_U, kz_long, nB_null, nB_ref, rf_none, rf_some, bV_ret, bV_thr, bA_ret, bA_thr, bX_ret, bX_thr, len4_0, len4_1, len4_2, len4_3, len4_4, true_and, and_true, and_self, if_true, if_false, Option.bind_some, nR_b1, nR_b0, nR_bI, nI_1z, nI_0z, bI_z, if_nn, gf, pf, clN, aln, gaI, gaL, gaR, saI, saR, isI, ctB, isB, gB, hput_n, hput_e, hput_21, hput_22, hnew_n, hnew_e, hnew_21, hnew_22, Option.bind_some, Option.map_some, List.lookup_cons, List.lookup_nil, beq_self_eq_true, List.getElem?_cons_zero, List.getElem?_cons_succ, List.set_cons_zero, List.set_cons_succ, List.length_cons, List.length_nil, Nat.reduceAdd, Nat.reduceLT, Nat.reduceLeDiff, Nat.reduceBEq, Nat.reduceEqDiff, okv_int, okv_oref, okv_onull, okv_orf, okv_aref, okv_b0, okv_b1, okv_z0, okv_bI, ckI_nI, lt31, leT, reduceCtorEq, List.mem_cons, List.mem_singleton, List.not_mem_nil, or_true, true_or, or_false, false_or, toR_ref, toR_null, ↓reduceIte, nI_add, pk_mul, hc, hne, hne.symm, e1, hput2, List.length_nil, bI_f]
      rfl
    · rcases Nat.eq_zero_or_pos i with hi | hi
      · subst hi
        cases q1
        cases q2
        exact ⟨ch, by rw [hput_n hne.symm]; exact hput_e, ChnR.fs x2 hS _ _ hCh⟩
      · rw [List.getElem?_eq_none (by simp; omega)] at q1; cases q1
    · rw [List.mem_singleton.mp hq, hc] at he; cases he; exact .inl rfl
  | some zl =>
    have hmz : zl ∈ A := List.mem_of_getLast? hA0
    obtain ⟨lz, ncz⟩ := hnA zl hmz
    have hAne : A ≠ [] := fun q => by rw [q] at hmz; cases hmz
    have hpos := List.length_pos_iff.mpr hAne
    have gz : A[A.length - 1]? = some zl := by rw [← hA0, List.getLast?_eq_getElem?]
    obtain ⟨lz', cz, chz⟩ := A4 (A.length - 1) zl _ gz (List.getElem?_eq_getElem (by omega))
    rw [show A.length - 1 + 1 = A.length by omega, List.getElem?_eq_none (Nat.le_refl _)] at cz
    have hh0 : ∃ hd, A.head? = some hd := by
      cases hA' : A with
      | nil => exact absurd hA' hAne
      | cons y l => exact ⟨y, rfl⟩
    obtain ⟨hd, hh⟩ := hh0
    have hzn : zl ≠ h.2.1 := by omega
    have x2 : Nx [c, zl] 1 2 h (hput (hput (hput (hnew h (.inr (6, [.null, .null])) 2) h.2.1 (.inr (6, [va_rf ch, .null]))) zl (.inr (6, [va_rf lz', .ref h.2.1]))) c (acE (.ref tr) (.int (nI L.length)) (.int (bI false)) .null (.int (nI 0)) (.ref hd) (.ref h.2.1) (.int (nI (cm + 1))) (.int (nI (Cm.length + 1))) sb fa ra rc co)) := ((x1.mono (S' := [c, zl]) (fun _ q => by simp at q ⊢; exact .inl q) (Nat.le_refl _) (Nat.le_refl _)).put (.inl (by simp)) (by rw [hput_21, hnew_21]; omega)).put (.inl (by simp)) (by rw [hput_21, hput_21, hnew_21]; omega)
    have hSo : ∀ q ∈ [c, zl], ∀ e, h.1 q = some e → So e := fun q hq e he => by
      rcases List.mem_cons.mp hq with z | z
      · rw [z, hc] at he; cases he; exact .inl rfl
      · rw [List.mem_singleton.mp z, cz] at he; cases he; exact .inr rfl
    have hS : FS h [c, zl] := fun q hq e he => by
      rcases List.mem_cons.mp hq with z | z
      · rw [z, hc] at he; cases he; show 0 ∉ _; decide
      · rw [List.mem_singleton.mp z, cz] at he; cases he; show 6 ∉ _; decide
    have ntz : tr ≠ zl := (ne_ca cz f1).symm
    refine ⟨_, ?_, ⟨tr, none, A ++ [h.2.1], by rw [List.getLast?_concat, List.head?_append, hh, List.length_append]; exact hput_e, hT.fs x2 hS (by simp; omega), rfl, ⟨by rw [List.length_append, List.length_append, A1]; rfl, nodA, szA, fun i a C q1 q2 => ?_⟩, x2.2.1, z1, z2, Nat.le_trans z3 x2.2.2.1⟩, ⟨[c, zl], x2, hSo⟩⟩
    · have hzz := A3 zl hmz
      rw [hh, hA0] at hc
      rw [rf_none] at cz
      simp (disch := first | omega | (simp only [hnew_21, hput_21, hnew_22, hput_22]; omega) | exact isR_ref | exact isR_null | exact isR_rf | exact isR_fmt | assumption | decide) only [n_X1_close, e_X1_close_0, e_X1_close_3, e_X1_close_4, e_X1_close_5, e_X1_close_8, e_X1_close_11, e_X1_close_12, e_X1_close_13, e_X1_close_16, e_X1_close_19, e_X1_close_20, e_X1_close_21, e_X1_close_24, e_X1_close_27, e_X1_close_28, e_X1_close_31, e_X1_close_32, e_X1_close_35, e_X1_close_36, e_X1_close_37, e_X1_close_40, e_X1_close_41, e_X1_close_42, e_X1_close_45, e_X1_close_46, e_X1_close_47, e_X1_close_50, e_X1_close_51, e_X1_close_52, e_X1_close_55, e_X1_close_56, e_X1_close_57, e_X1_close_60, e_X1_close_61, e_X1_close_62, e_X1_close_65, e_X1_close_66, e_X1_close_67, e_X1_close_70, e_X1_close_71, e_X1_close_72, e_X1_close_75, cR_ref, cR_null, cR_rf, c1_int, c1_ref, c1_null, c1_rf, kz_int, kz_ref, kz_null, kz_rf, kz_U, kz_long, nB_null, nB_ref, rf_none, rf_some, bV_ret, bV_thr, bA_ret, bA_thr, bX_ret, bX_thr, len4_0, len4_1, len4_2, len4_3, len4_4, true_and, and_true, and_self, if_true, if_false, Option.bind_some, nR_b1, nR_b0, nR_bI, nI_1z, nI_0z, bI_z, if_nn, gf, pf, clN, aln, gaI, gaL, gaR, saI, saR, isI, ctB, isB, gB, hput_n, hput_e, hput_21, hput_22, hnew_n, hnew_e, hnew_21, hnew_22, Option.bind_some, Option.map_some, List.lookup_cons, List.lookup_nil, beq_self_eq_true, List.getElem?_cons_zero, List.getElem?_cons_succ, List.set_cons_zero, List.set_cons_succ, List.length_cons, List.length_nil, Nat.reduceAdd, Nat.reduceLT, Nat.reduceLeDiff, Nat.reduceBEq, Nat.reduceEqDiff, okv_int, okv_oref, okv_onull, okv_orf, okv_aref, okv_b0, okv_b1, okv_z0, okv_bI, ckI_nI, lt31, leT, reduceCtorEq, List.mem_cons, List.mem_singleton, List.not_mem_nil, or_true, true_or, or_false, false_or, toR_ref, toR_null, ↓reduceIte, nI_add, pk_mul, hc, cz, hne, hne.symm, hzn, hzn.symm, ncz, ncz.symm, e1, hput2, bI_f]
    · rcases Nat.lt_trichotomy i A.length with hi | hi | hi
      · rw [List.getElem?_append_left hi] at q1
        rw [List.getElem?_append_left (by omega)] at q2
        obtain ⟨l, l1, l2⟩ := A4 i a C q1 q2
        have hna := hnA a (List.mem_of_getElem? q1)
        by_cases hil : i = A.length - 1
        · subst hil
          rw [gz] at q1
          cases q1
          refine ⟨lz', ?_, ChnR.fs x2 hS _ _ ?_⟩
          · rw [hput_n ncz, hput_e, show A.length - 1 + 1 = A.length by omega, List.getElem?_append_right (Nat.le_refl _), Nat.sub_self]
            rfl
          · have : C = _ := Option.some.inj (q2.symm.trans (List.getElem?_eq_getElem (by omega)))
            rw [this]; exact chz
        · have hnz : a ≠ zl := fun q => by
            subst q
            exact hil ((List.getElem?_inj (by omega) A2).mp (q1.trans gz.symm))
          refine ⟨l, x2.ob (by rw [List.getElem?_append_left (by omega)]; exact l1) (by decide) (by simp; omega), ChnR.fs x2 hS _ _ l2⟩
      · subst hi
        rw [List.getElem?_append_right (Nat.le_refl _), Nat.sub_self] at q1
        rw [A1, List.getElem?_append_right (Nat.le_refl _), Nat.sub_self] at q2
        cases q1
        cases q2
        refine ⟨ch, ?_, ChnR.fs x2 hS _ _ hCh⟩
        rw [hput_n hne.symm, hput_n hzn.symm, hput_e, List.getElem?_eq_none (by simp)]
        rfl
      · rw [List.getElem?_eq_none (by simp; omega)] at q1; cases q1
theorem c_note {b : Bool} (H : CpS Ω h c L op Cu Cm cm sb fa ra rc co) (ht : TriR h a t) : ∃ h', gM PG Ω (d + 4) 19 [.ref c, .int (bI b), .ref a] h = some (.returned none, h') ∧ (op = true → CpS Ω h' c L true ((b, t) :: Cu) Cm cm sb fa ra rc co) ∧ (op = false → CpS Ω h' c L false [] (Cm ++ [(b, t) :: Cu]) (cm + 1) sb fa ra rc co) ∧ NS 2 5 h h' := by
  obtain ⟨tr, ch, A, hc, hT, hCh, hA, hFe, z1, z2, z3⟩ := H
  have lc := hFe.lt hc
  have hne : c ≠ h.2.1 := by omega
  have e1 := i_chg (Ω := Ω) (d := d + 1) (a := h.2.1) (p := a) (nx := ch) (b := b) z3 (show (hnew h (.inr (5, [.int 0, .null, .null])) 3).1 h.2.1 = _ from hnew_e)
  have x2 : Nx [c] 1 3 h (hput (hput (hnew h (.inr (5, [.int 0, .null, .null])) 3) h.2.1 (.inr (5, [.int (bI b), .ref a, va_rf ch]))) c (acE (.ref tr) (.int (nI L.length)) (.int (bI op)) (.ref h.2.1) (.int (nI (Cu.length + 1))) (va_rf A.head?) (va_rf A.getLast?) (.int (nI cm)) (.int (nI Cm.length)) sb fa ra rc co)) := (((Nx.rfl' hFe).new.put (.inr (Nat.le_refl _)) (by rw [hnew_21]; omega)).put (.inl (by simp)) (by rw [hput_21, hnew_21]; omega)).mono (fun _ q => q) (by omega) (by omega)
  have hS : FS h [c] := FS.ob hc (by decide)
  have hT0 := hT
  obtain ⟨f, f1, _⟩ := hT0
  have hct : c ≠ tr := ne_ca hc f1
  have c2 : (hput (hput (hnew h (.inr (5, [.int 0, .null, .null])) 3) h.2.1 (.inr (5, [.int (bI b), .ref a, va_rf ch]))) c (acE (.ref tr) (.int (nI L.length)) (.int (bI op)) (.ref h.2.1) (.int (nI (Cu.length + 1))) (va_rf A.head?) (va_rf A.getLast?) (.int (nI cm)) (.int (nI Cm.length)) sb fa ra rc co)).1 c = some (acE (.ref tr) (.int (nI L.length)) (.int (bI op)) (.ref h.2.1) (.int (nI (Cu.length + 1))) (va_rf A.head?) (va_rf A.getLast?) (.int (nI cm)) (.int (nI Cm.length)) sb fa ra rc co) := hput_e
  have C2 : CpS Ω (hput (hput (hnew h (.inr (5, [.int 0, .null, .null])) 3) h.2.1 (.inr (5, [.int (bI b), .ref a, va_rf ch]))) c (acE (.ref tr) (.int (nI L.length)) (.int (bI op)) (.ref h.2.1) (.int (nI (Cu.length + 1))) (va_rf A.head?) (va_rf A.getLast?) (.int (nI cm)) (.int (nI Cm.length)) sb fa ra rc co)) c L op ((b, t) :: Cu) Cm cm sb fa ra rc co := ⟨tr, some h.2.1, A, c2, hT.fs x2 hS (by simp; omega), ⟨h.2.1, a, ch, rfl, by rw [hput_n hne.symm]; exact hput_e, ht.fs x2 hS, ChnR.fs x2 hS _ _ hCh⟩, hA.fs x2 hS (fun q hq => by
    obtain ⟨fs, hfs⟩ := hA.cl hq
    have := ne_cl hfs hc (by decide)
    simp; omega), x2.2.1, z1, z2, Nat.le_trans z3 x2.2.2.1⟩
  have n2 : NS 1 3 h (hput (hput (hnew h (.inr (5, [.int 0, .null, .null])) 3) h.2.1 (.inr (5, [.int (bI b), .ref a, va_rf ch]))) c (acE (.ref tr) (.int (nI L.length)) (.int (bI op)) (.ref h.2.1) (.int (nI (Cu.length + 1))) (va_rf A.head?) (va_rf A.getLast?) (.int (nI cm)) (.int (nI Cm.length)) sb fa ra rc co)) := ⟨[c], x2, fun q hq e he => by rw [List.mem_singleton.mp hq, hc] at he; cases he; exact .inl rfl⟩
  cases op with
  | true =>
    refine ⟨_, ?_, fun _ => C2, (fun q => nomatch q), n2.mono (by omega) (by omega)⟩
    simp (disch := first | omega | (simp only [hnew_21, hput_21, hnew_22, hput_22]; omega) | exact isR_ref | exact isR_null | exact isR_rf | exact isR_fmt | assumption | decide) only [n_X1_note, e_X1_note_0, e_X1_note_1, e_X1_note_4, e_X1_note_5, e_X1_note_6, e_X1_note_7, e_X1_note_8, e_X1_note_11, e_X1_note_14, e_X1_note_17, e_X1_note_18, e_X1_note_19, e_X1_note_22, e_X1_note_23, e_X1_note_24, e_X1_note_27, e_X1_note_28, e_X1_note_31, e_X1_note_34, e_X1_note_35, e_X1_note_38, cR_ref, cR_null, cR_rf, c1_int, c1_ref, c1_null, c1_rf, kz_int, kz_ref, kz_null, kz_rf, kz_U, kz_long, nB_null, nB_ref, rf_none, rf_some, bV_ret, bV_thr, bA_ret, bA_thr, bX_ret, bX_thr, len4_0, len4_1, len4_2, len4_3, len4_4, true_and, and_true, and_self, if_true, if_false, Option.bind_some, nR_b1, nR_b0, nR_bI, nI_1z, nI_0z, bI_z, if_nn, gf, pf, clN, aln, gaI, gaL, gaR, saI, saR, isI, ctB, isB, gB, hput_n, hput_e, hput_21, hput_22, hnew_n, hnew_e, hnew_21, hnew_22, Option.bind_some, Option.map_some, List.lookup_cons, List.lookup_nil, beq_self_eq_true, List.getElem?_cons_zero, List.getElem?_cons_succ, List.set_cons_zero, List.set_cons_succ, List.length_cons, List.length_nil, Nat.reduceAdd, Nat.reduceLT, Nat.reduceLeDiff, Nat.reduceBEq, Nat.reduceEqDiff, okv_int, okv_oref, okv_onull, okv_orf, okv_aref, okv_b0, okv_b1, okv_z0, okv_bI, ckI_nI, lt31, leT, reduceCtorEq, List.mem_cons, List.mem_singleton, List.not_mem_nil, or_true, true_or, or_false, false_or, toR_ref, toR_null, ↓reduceIte, nI_add, pk_mul, hc, hne, hne.symm, e1, hput2, bI_t]
  | false =>
    obtain ⟨h3, g1, g2, g3⟩ := c_close (d := d) C2
    refine ⟨h3, ?_, (fun q => nomatch q), fun _ => g2, (n2.trans g3).mono (by omega) (by omega)⟩
    simp (disch := first | omega | (simp only [hnew_21, hput_21, hnew_22, hput_22]; omega) | exact isR_ref | exact isR_null | exact isR_rf | exact isR_fmt | assumption | decide) only [n_X1_note, e_X1_note_0, e_X1_note_1, e_X1_note_4, e_X1_note_5, e_X1_note_6, e_X1_note_7, e_X1_note_8, e_X1_note_11, e_X1_note_14, e_X1_note_17, e_X1_note_18, e_X1_note_19, e_X1_note_22, e_X1_note_23, e_X1_note_24, e_X1_note_27, e_X1_note_28, e_X1_note_31, e_X1_note_34, e_X1_note_35, e_X1_note_38, cR_ref, cR_null, cR_rf, c1_int, c1_ref, c1_null, c1_rf, kz_int, kz_ref, kz_null, kz_rf, kz_U, kz_long, nB_null, nB_ref, rf_none, rf_some, bV_ret, bV_thr, bA_ret, bA_thr, bX_ret, bX_thr, len4_0, len4_1, len4_2, len4_3, len4_4, true_and, and_true, and_self, if_true, if_false, Option.bind_some, nR_b1, nR_b0, nR_bI, nI_1z, nI_0z, bI_z, if_nn, gf, pf, clN, aln, gaI, gaL, gaR, saI, saR, isI, ctB, isB, gB, hput_n, hput_e, hput_21, hput_22, hnew_n, hnew_e, hnew_21, hnew_22, Option.bind_some, Option.map_some, List.lookup_cons, List.lookup_nil, beq_self_eq_true, List.getElem?_cons_zero, List.getElem?_cons_succ, List.set_cons_zero, List.set_cons_succ, List.length_cons, List.length_nil, Nat.reduceAdd, Nat.reduceLT, Nat.reduceLeDiff, Nat.reduceBEq, Nat.reduceEqDiff, okv_int, okv_oref, okv_onull, okv_orf, okv_aref, okv_b0, okv_b1, okv_z0, okv_bI, ckI_nI, lt31, leT, reduceCtorEq, List.mem_cons, List.mem_singleton, List.not_mem_nil, or_true, true_or, or_false, false_or, toR_ref, toR_null, ↓reduceIte, nI_add, pk_mul, hc, hne, hne.symm, e1, hput2, bI_f]
    simp (disch := first | omega | (simp only [hnew_21, hput_21, hnew_22, hput_22]; omega) | exact isR_ref | exact isR_null | exact isR_rf | exact isR_fmt | assumption | decide) only [bI_f] at g1
    simp (disch := first | omega | (simp only [hnew_21, hput_21, hnew_22, hput_22]; omega) | exact isR_ref | exact isR_null | exact isR_rf | exact isR_fmt | assumption | decide) only [cR_ref, cR_null, cR_rf, c1_int, c1_ref, c1_null, c1_rf, kz_int, kz_ref, kz_null, kz_rf, kz_U, kz_long, nB_null, nB_ref, rf_none, rf_some, bV_ret, bV_thr, bA_ret, bA_thr, bX_ret, bX_thr, len4_0, len4_1, len4_2, len4_3, len4_4, true_and, and_true, and_self, if_true, if_false, Option.bind_some, nR_b1, nR_b0, nR_bI, nI_1z, nI_0z, bI_z, if_nn, g1]
theorem c_undo (hFe0 : True) : ∀ (Cu : List Chg) (ch : Option Nat) (L : List Tri) (H : AH) (p : Option Nat), H.1 c = some (acE (.ref tr) (.int (nI L.length)) v2 v3 v4 v5 v6 v7 v8 sb fa ra rc co) → TrA H tr L → ChnR H Cu ch → okL L (Cu.map inv) → Fe H → Ω.sz ≤ c → Ω.sz ≤ tr → ∃ H', gO PG Ω (d + 5) 28 2 [.ref c, va_rf p, va_rf ch] [] H = some (.returned none, H') ∧ H'.1 c = some (acE (.ref tr) (.int (nI (apL L (Cu.map inv)).length)) v2 v3 v4 v5 v6 v7 v8 sb fa ra rc co) ∧ TrA H' tr (apL L (Cu.map inv)) ∧ Nx [c, tr] 0 0 H H' := by
  intro Cu
  induction Cu with
  | nil =>
    intro ch L H p hc hT hCh hok hFe z1 z2
    have : ch = none := hCh
    subst this
    refine ⟨H, ?_, hc, hT, Nx.rfl' hFe⟩
    rw [e_X1_undo_2]
    simp (disch := first | omega | (simp only [hnew_21, hput_21, hnew_22, hput_22]; omega) | exact isR_ref | exact isR_null | exact isR_rf | exact isR_fmt | assumption | decide) only [e_X1_undo_0, e_X1_undo_1, e_X1_undo_3, e_X1_undo_6, e_X1_undo_7, e_X1_undo_10, e_X1_undo_13, e_X1_undo_14, e_X1_undo_15, e_X1_undo_16, e_X1_undo_19, e_X1_undo_22, e_X1_undo_25, e_X1_undo_28, e_X1_undo_29, e_X1_undo_30, e_X1_undo_33, e_X1_undo_36, e_X1_undo_37, e_X1_undo_40, e_X1_undo_41, e_X1_undo_44, cR_ref, cR_null, cR_rf, c1_int, c1_ref, c1_null, c1_rf, kz_int, kz_ref, kz_null, kz_rf, kz_U, kz_long, nB_null, nB_ref, rf_none, rf_some, bV_ret, bV_thr, bA_ret, bA_thr, bX_ret, bX_thr, len4_0, len4_1, len4_2, len4_3, len4_4, true_and, and_true, and_self, if_true, if_false, Option.bind_some, nR_b1, nR_b0, nR_bI, nI_1z, nI_0z, bI_z, if_nn]
  | cons x l ih =>
    intro ch L H p hc hT hCh hok hFe z1 z2
    obtain ⟨a, t, nx, rfl, a2, a3, a4⟩ := hCh
    obtain ⟨o1, o2⟩ := hok
    have hT0 := hT
    obtain ⟨f, f1, _⟩ := hT0
    have hS := FS.ct hc f1
    have a2' : ∀ {H1 : AH}, Nx [c, tr] 0 0 H H1 → H1.1 a = _ := fun n => n.ob a2 (by decide) (hS.na a2 (by decide))
    obtain ⟨pt, tt⟩ := x
    cases pt with
    | true =>
      have hm : tt ∈ L := o1.2
      have e1 := (c_find (Ω := Ω) (d := d) hc hT a3).1 hm
      obtain ⟨H1, b1, b2, b3, b4⟩ := c_take (Ω := Ω) (d := d + 4) hc hT (fiT_lt.mpr hm) hFe z1 z2
      obtain ⟨H', d1, d2, d3, d4⟩ := ih nx (swr L (fiT L tt)) H1 p b2 b3 (ChnR.fs b4 hS _ _ a4) o2 b4.2.1 z1 z2
      refine ⟨H', ?_, d2, d3, b4.trans d4⟩
      have k2 := a2' b4
      rw [← d1, e_X1_undo_2]
      simp (disch := first | omega | (simp only [hnew_21, hput_21, hnew_22, hput_22]; omega) | exact isR_ref | exact isR_null | exact isR_rf | exact isR_fmt | assumption | decide) only [e_X1_undo_3, e_X1_undo_6, e_X1_undo_7, e_X1_undo_10, e_X1_undo_13, e_X1_undo_14, e_X1_undo_15, e_X1_undo_16, e_X1_undo_19, e_X1_undo_22, cR_ref, cR_null, cR_rf, c1_int, c1_ref, c1_null, c1_rf, kz_int, kz_ref, kz_null, kz_rf, kz_U, kz_long, nB_null, nB_ref, rf_none, rf_some, bV_ret, bV_thr, bA_ret, bA_thr, bX_ret, bX_thr, len4_0, len4_1, len4_2, len4_3, len4_4, true_and, and_true, and_self, if_true, if_false, Option.bind_some, nR_b1, nR_b0, nR_bI, nI_1z, nI_0z, bI_z, if_nn, gf, pf, clN, aln, gaI, gaL, gaR, saI, saR, isI, ctB, isB, gB, hput_n, hput_e, hput_21, hput_22, hnew_n, hnew_e, hnew_21, hnew_22, Option.bind_some, Option.map_some, List.lookup_cons, List.lookup_nil, beq_self_eq_true, List.getElem?_cons_zero, List.getElem?_cons_succ, List.set_cons_zero, List.set_cons_succ, List.length_cons, List.length_nil, Nat.reduceAdd, Nat.reduceLT, Nat.reduceLeDiff, Nat.reduceBEq, Nat.reduceEqDiff, okv_int, okv_oref, okv_onull, okv_orf, okv_aref, okv_b0, okv_b1, okv_z0, okv_bI, ckI_nI, lt31, leT, reduceCtorEq, List.mem_cons, List.mem_singleton, List.not_mem_nil, or_true, true_or, or_false, false_or, toR_ref, toR_null, ↓reduceIte, hc, a2, bI_t, e1, b1]
      simp (disch := first | omega | (simp only [hnew_21, hput_21, hnew_22, hput_22]; omega) | exact isR_ref | exact isR_null | exact isR_rf | exact isR_fmt | assumption | decide) only [e_X1_undo_25, e_X1_undo_36, e_X1_undo_37, e_X1_undo_40, e_X1_undo_41, cR_ref, cR_null, cR_rf, c1_int, c1_ref, c1_null, c1_rf, kz_int, kz_ref, kz_null, kz_rf, kz_U, kz_long, nB_null, nB_ref, rf_none, rf_some, bV_ret, bV_thr, bA_ret, bA_thr, bX_ret, bX_thr, len4_0, len4_1, len4_2, len4_3, len4_4, true_and, and_true, and_self, if_true, if_false, Option.bind_some, nR_b1, nR_b0, nR_bI, nI_1z, nI_0z, bI_z, if_nn, gf, pf, clN, aln, gaI, gaL, gaR, saI, saR, isI, ctB, isB, gB, hput_n, hput_e, hput_21, hput_22, hnew_n, hnew_e, hnew_21, hnew_22, Option.bind_some, Option.map_some, List.lookup_cons, List.lookup_nil, beq_self_eq_true, List.getElem?_cons_zero, List.getElem?_cons_succ, List.set_cons_zero, List.set_cons_succ, List.length_cons, List.length_nil, Nat.reduceAdd, Nat.reduceLT, Nat.reduceLeDiff, Nat.reduceBEq, Nat.reduceEqDiff, okv_int, okv_oref, okv_onull, okv_orf, okv_aref, okv_b0, okv_b1, okv_z0, okv_bI, ckI_nI, lt31, leT, reduceCtorEq, List.mem_cons, List.mem_singleton, List.not_mem_nil, or_true, true_or, or_false, false_or, toR_ref, toR_null, ↓reduceIte, k2]
    | false =>
      have hl : L.length < 48 := o1.2
      obtain ⟨H1, b1, b2, b3, b4⟩ := c_place (Ω := Ω) (d := d + 4) hc hT a3 hl hFe z1 z2
      obtain ⟨H', d1, d2, d3, d4⟩ := ih nx (L ++ [tt]) H1 p b2 b3 (ChnR.fs b4 hS _ _ a4) o2 b4.2.1 z1 z2
      refine ⟨H', ?_, d2, d3, b4.trans d4⟩
      have k2 := a2' b4
      rw [← d1, e_X1_undo_2]
      simp (disch := first | omega | (simp only [hnew_21, hput_21, hnew_22, hput_22]; omega) | exact isR_ref | exact isR_null | exact isR_rf | exact isR_fmt | assumption | decide) only [e_X1_undo_3, e_X1_undo_6, e_X1_undo_7, e_X1_undo_10, e_X1_undo_28, e_X1_undo_29, e_X1_undo_30, e_X1_undo_33, cR_ref, cR_null, cR_rf, c1_int, c1_ref, c1_null, c1_rf, kz_int, kz_ref, kz_null, kz_rf, kz_U, kz_long, nB_null, nB_ref, rf_none, rf_some, bV_ret, bV_thr, bA_ret, bA_thr, bX_ret, bX_thr, len4_0, len4_1, len4_2, len4_3, len4_4, true_and, and_true, and_self, if_true, if_false, Option.bind_some, nR_b1, nR_b0, nR_bI, nI_1z, nI_0z, bI_z, if_nn, gf, pf, clN, aln, gaI, gaL, gaR, saI, saR, isI, ctB, isB, gB, hput_n, hput_e, hput_21, hput_22, hnew_n, hnew_e, hnew_21, hnew_22, Option.bind_some, Option.map_some, List.lookup_cons, List.lookup_nil, beq_self_eq_true, List.getElem?_cons_zero, List.getElem?_cons_succ, List.set_cons_zero, List.set_cons_succ, List.length_cons, List.length_nil, Nat.reduceAdd, Nat.reduceLT, Nat.reduceLeDiff, Nat.reduceBEq, Nat.reduceEqDiff, okv_int, okv_oref, okv_onull, okv_orf, okv_aref, okv_b0, okv_b1, okv_z0, okv_bI, ckI_nI, lt31, leT, reduceCtorEq, List.mem_cons, List.mem_singleton, List.not_mem_nil, or_true, true_or, or_false, false_or, toR_ref, toR_null, ↓reduceIte, hc, a2, bI_f, b1]
      simp (disch := first | omega | (simp only [hnew_21, hput_21, hnew_22, hput_22]; omega) | exact isR_ref | exact isR_null | exact isR_rf | exact isR_fmt | assumption | decide) only [e_X1_undo_36, e_X1_undo_37, e_X1_undo_40, e_X1_undo_41, cR_ref, cR_null, cR_rf, c1_int, c1_ref, c1_null, c1_rf, kz_int, kz_ref, kz_null, kz_rf, kz_U, kz_long, nB_null, nB_ref, rf_none, rf_some, bV_ret, bV_thr, bA_ret, bA_thr, bX_ret, bX_thr, len4_0, len4_1, len4_2, len4_3, len4_4, true_and, and_true, and_self, if_true, if_false, Option.bind_some, nR_b1, nR_b0, nR_bI, nI_1z, nI_0z, bI_z, if_nn, gf, pf, clN, aln, gaI, gaL, gaR, saI, saR, isI, ctB, isB, gB, hput_n, hput_e, hput_21, hput_22, hnew_n, hnew_e, hnew_21, hnew_22, Option.bind_some, Option.map_some, List.lookup_cons, List.lookup_nil, beq_self_eq_true, List.getElem?_cons_zero, List.getElem?_cons_succ, List.set_cons_zero, List.set_cons_succ, List.length_cons, List.length_nil, Nat.reduceAdd, Nat.reduceLT, Nat.reduceLeDiff, Nat.reduceBEq, Nat.reduceEqDiff, okv_int, okv_oref, okv_onull, okv_orf, okv_aref, okv_b0, okv_b1, okv_z0, okv_bI, ckI_nI, lt31, leT, reduceCtorEq, List.mem_cons, List.mem_singleton, List.not_mem_nil, or_true, true_or, or_false, false_or, toR_ref, toR_null, ↓reduceIte, k2]
end STO
