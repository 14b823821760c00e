/-! COMPONENT: the reader's state -/
def UsC (e : Ce) : Prop := match e with
  | .inl (ty, _) => ty = .byte ∨ ty = .object "java/lang/String"
  | .inr (ci, _) => ci = 0 ∨ ci = 7 ∨ ci = 23
/-- what the reader lives on stands as it was -/
def Ku (h h' : AH) : Prop := Fe h' ∧ h.2.1 ≤ h'.2.1 ∧ ∀ q e, h.1 q = some e → UsC e → h'.1 q = some e
def RdR (Ω : Om) (h : AH) (r c tx nm : Nat) (cs : List Nat) (s : PS) (dp : Nat) : Prop :=
  (∃ wd p, h.1 r = some (rdC c tx nm (nI s.2.1.length) (kc (tk cs s)) (.ref wd) (nI (tk cs s).2.2.1) (nI p) (nI (tk cs s).2.2.2) (nI s.2.2) (nI dp)) ∧ (((tk cs s).1 = 1 ∨ (tk cs s).1 = 2 ∨ (tk cs s).1 = 3) → StrR h wd (tk cs s).2.1) ∧ p ≤ cs.length ∧ adv isBl cs p = adv isBl cs (tk cs s).2.2.2) ∧
  StrH h tx cs ∧ (∃ nf, h.1 nm = some (arR "java/lang/String" 6 nf) ∧ ∀ i w, s.2.1[i]? = some w → ∃ a, nf i = some a ∧ StrR h a w) ∧ s.2.1.length ≤ 6 ∧ s.1 ≤ cs.length ∧ (∃ hf, h.1 c = some (.inr (0, hf)) ∧ hf.length = 14) ∧ Fe h ∧ LitR Ω h ∧ (Ω.sz ≤ r ∧ Ω.sz ≤ tx ∧ Ω.sz ≤ nm ∧ Ω.sz ≤ c ∧ Ω.sz ≤ h.2.1) ∧ s.2.2 ≤ 12 ∧ dp ≤ 4
section RD4
variable {Ω : Om} {d : Nat} {h h' h1 h2 : AH} {a b r c tx nm dp : Nat} {w cs : List Nat} {s s' : PS} {fs : List Value}
theorem Ku.rfl' (hf : Fe h) : Ku h h := ⟨hf, Nat.le_refl _, fun _ _ q _ => q⟩
theorem Ku.trans (x : Ku h h1) (y : Ku h1 h2) : Ku h h2 := ⟨y.1, Nat.le_trans x.2.1 y.2.1, fun q e h1 h2 => y.2.2 q e (x.2.2 q e h1 h2) h2⟩
theorem Ku.new {e : Ce} {N : Nat} (hf : Fe h) : Ku h (hnew h e N) := ⟨hf.new, by rw [hnew_21]; omega, fun q e h1 _ => by
  have := hf.lt h1
  rw [hnew_n (by omega)]; exact h1⟩
theorem Ku.put {e : Ce} {ci : Nat} (hf : Fe h) (ha : h.1 a = some (.inr (ci, fs))) (hc : ci ≠ 0 ∧ ci ≠ 7 ∧ ci ≠ 23) : Ku h (hput h a e) := ⟨hf.put (hf.lt ha), Nat.le_refl _, fun q e h1 h2 => by
  have : q ≠ a := fun z => by
    subst z
    rw [ha] at h1
    cases h1
    have h2' : ci = 0 ∨ ci = 7 ∨ ci = 23 := h2
    omega
  rw [hput_n this]; exact h1⟩
theorem Ku.puta {e : Ce} {ty : FieldType} {A : vp_A} (hf : Fe h) (ha : h.1 a = some (.inl (ty, A))) (hc : ty ≠ .byte ∧ ty ≠ .object "java/lang/String") : Ku h (hput h a e) := ⟨hf.put (hf.lt ha), Nat.le_refl _, fun q e h1 h2 => by
  have : q ≠ a := fun z => by
    subst z
    rw [ha] at h1
    cases h1
    rcases h2 with z | z
    · exact hc.1 z
    · exact hc.2 z
  rw [hput_n this]; exact h1⟩
theorem StrR.ku (t : StrR h a w) (x : Ku h h') : StrR h' a w := by
  obtain ⟨b, z1, z2, f, h1, h2, h3⟩ := t
  exact ⟨b, z1, z2, f, x.2.2 _ _ h1 (.inr (.inr rfl)), x.2.2 _ _ h2 (.inl rfl), h3⟩
theorem StrH.ku (t : StrH h a w) (x : Ku h h') : StrH h' a w := by
  obtain ⟨b, z1, z2, f, h1, h2, h3⟩ := t
  exact ⟨b, z1, z2, f, x.2.2 _ _ h1 (.inr (.inr rfl)), x.2.2 _ _ h2 (.inl rfl), h3⟩
theorem RdR.ku (t : RdR Ω h r c tx nm cs s dp) (x : Ku h h') : RdR Ω h' r c tx nm cs s dp := by
  obtain ⟨⟨wd, p, a1, a2, a3, a4⟩, b1, ⟨nf, b2, b3⟩, b4, b5, ⟨hf, b6, b7⟩, b8, b9, b10, b11, b12⟩ := t
  refine ⟨⟨wd, p, x.2.2 _ _ a1 (.inr (.inl rfl)), fun z => (a2 z).ku x, a3, a4⟩, b1.ku x, ⟨nf, x.2.2 _ _ b2 (.inr rfl), fun i w q => ?_⟩, b4, b5, ⟨hf, x.2.2 _ _ b6 (.inl rfl), b7⟩, x.1, fun i w q => (b9 i w q).ku x, ⟨b10.1, b10.2.1, b10.2.2.1, b10.2.2.2.1, Nat.le_trans b10.2.2.2.2 x.2.1⟩, b11, b12⟩
  obtain ⟨u, u1, u2⟩ := b3 i w q
  exact ⟨u, u1, u2.ku x⟩
theorem RdR.fe (t : RdR Ω h r c tx nm cs s dp) : Fe h := t.2.2.2.2.2.2.1
theorem RdR.gs (t : RdR Ω h r c tx nm cs s dp) : GS h [r, nm] := by
  obtain ⟨⟨wd, p, a1, a2, a3, a4⟩, b1, ⟨nf, b2, b3⟩, _⟩ := t
  intro q hq e he
  rcases List.mem_cons.mp hq with rfl | hq
  · rw [a1] at he; cases he; show 7 ∉ _; decide
  · rw [List.mem_singleton.mp hq, b2] at he; cases he; exact ⟨by decide, by decide, by decide, fun z => nomatch z⟩
theorem RdR.len (t : RdR Ω h r c tx nm cs s dp) : cs.length ≤ 160 := by
  obtain ⟨_, b1, _⟩ := t
  obtain ⟨_, _, _, _, _, _, _, _, z, _⟩ := b1
  exact z
theorem RdR.na {ci : Nat} (t : RdR Ω h r c tx nm cs s dp) (ha : h.1 a = some (.inr (ci, fs))) (hc : ci ≠ 7) : a ∉ [r, nm] := by
  obtain ⟨⟨wd, p, a1, a2, a3, a4⟩, b1, ⟨nf, b2, b3⟩, _⟩ := t
  intro q
  rcases List.mem_cons.mp q with rfl | q
  · rw [a1] at ha; cases ha; exact hc rfl
  · rw [List.mem_singleton.mp q, b2] at ha; cases ha
/-- on -/
theorem r_adv (t : RdR Ω h r c tx nm cs s dp) (h0 : (tk cs s).1 ≠ 0) : ∃ h', gM PG Ω (d + 6) 108 [.ref r] h = some (.returned none, h') ∧ RdR Ω h' r c tx nm cs (nx cs s) dp ∧ Nx [r, nm] 2 164 h h' ∧ s.1 < (nx cs s).1 ∧ h'.1 nm = h.1 nm := by
  have t0 := t
  obtain ⟨⟨wd, p, a1, a2, a3, a4⟩, b1, ⟨nf, b2, b3⟩, b4, b5, ⟨hf, b6, b7⟩, b8, b9, b10, b11, b12⟩ := t
  have lw := lex_w b5
  have hlt : s.1 < (nx cs s).1 := by
    have := lw.2.2.2.2 h0
    show s.1 < (lexT cs s.1).2.2.2
    omega
  have hle : (nx cs s).1 ≤ cs.length := lw.2.2.2.1
  obtain ⟨h', p', e1, ⟨wd', e2, e3, e4, e5⟩, e6, e7⟩ := c_adv (Ω := Ω) (d := d) (cs := cs) b9 b10.1 b10.2.2.2.2 b10.2.1 b8 a1 a3 hle a4 b1
  have htk : tk cs (nx cs s) = lexT cs (tk cs s).2.2.2 := rfl
  have fnm : FS h [r] := fun q hq e he => by
    rw [List.mem_singleton.mp hq, a1] at he; cases he; show 7 ∉ _; decide
  have nmr : nm ∉ [r] := fun q => by rw [List.mem_singleton.mp q, a1] at b2; cases b2
  have cr : c ∉ [r] := fun q => by rw [List.mem_singleton.mp q, a1] at b6; cases b6
  have strnx : ∀ (x : Nat) (v : List Nat), StrR h x v → StrR h' x v := fun x v q => q.nx e5 (fun b hb => by rw [List.mem_singleton.mp hb]; exact .inl ⟨7, _, by decide, a1⟩)
  refine ⟨h', e1, ⟨⟨wd', p', e2, fun z => e3 z, e6, e7⟩, e4, ⟨nf, e5.ar b2 nmr, fun i w q => ?_⟩, b4, hle, ⟨hf, e5.ob b6 (by decide) cr, b7⟩, e5.2.1, fun i w q => strnx _ _ (b9 i w q), ⟨b10.1, b10.2.1, b10.2.2.1, b10.2.2.2.1, Nat.le_trans b10.2.2.2.2 e5.2.2.1⟩, b11, b12⟩, e5.mono (fun q hq => by rw [List.mem_singleton.mp hq]; simp) (Nat.le_refl _) (Nat.le_refl _), hlt, by rw [e5.ar b2 nmr, b2]⟩
  obtain ⟨u, u1, u2⟩ := b3 i w q
  exact ⟨u, u1, strnx _ _ u2⟩
/-- a fault; x: cells made without a token read -/
def REr (h : AH) (r c nm : Nat) (s : PS) (q x : Nat) (o : Option Rs) : Prop := ∃ e h' hf, o = some (.threw e, h') ∧ h'.1 e = some (.inr (24, [])) ∧ h.1 c = some (.inr (0, hf)) ∧ h'.1 c = some (.inr (0, hf.set 10 (.int (nI q)))) ∧ Nx [r, nm, c] (10 * (161 - s.1) + x) (300 * (161 - s.1) + 20 * x) h h'
theorem r_chk1 {x : Int32} : gM PG Ω (d + 1) 116 [.ref r, .int (nI 1), .int x] h = some (.returned none, h) := by
  simp (disch := first | omega | (simp only [hnew_21, hput_21, hnew_22, hput_22]; omega) | exact isR_ref | exact isR_null | exact isR_rf | exact isR_fmt | assumption | decide) only [n_X9_check, e_X9_check_0, e_X9_check_1, e_X9_check_4, cR_ref, cR_null, cR_rf, c1_int, c1_ref, c1_null, c1_rf, kz_int, kz_ref, kz_null, kz_rf, kz_U, kz_long, nB_null, nB_ref, rf_none, rf_some, bV_ret, bV_thr, bA_ret, bA_thr, bX_ret, bX_thr, len4_0, len4_1, len4_2, len4_3, len4_4, true_and, and_true, and_self, if_true, if_false, Option.bind_some, nR_b1, nR_b0, nR_bI, nI_1z, nI_0z, bI_z, if_nn]
theorem r_chk0 (t : RdR Ω h r c tx nm cs s dp) {q : Nat} : REr h r c nm s q 1 (gM PG Ω (d + 9) 116 [.ref r, .int (nI 0), .int (nI q)] h) := by
  have t0 := t
  obtain ⟨⟨wd, p, a1, a2, a3, a4⟩, b1, ⟨nf, b2, b3⟩, b4, b5, ⟨hf, b6, b7⟩, b8, b9, b10, b11, b12⟩ := t
  have hl := t0.len
  have hcl := b8.lt b6
  have n1 : Nx [r, nm, c] 0 0 h (hput h c (.inr (0, hf.set 10 (.int (nI q))))) := (Nx.rfl' b8).put (.inl (by simp)) hcl
  refine ⟨h.2.1, hnew (hput h c (.inr (0, hf.set 10 (.int (nI q))))) (.inr (24, [])) 6, hf, ?_, hnew_e, b6, by rw [hnew_n (by rw [hput_21]; omega)]; exact hput_e, n1.new.mono (fun _ z => z) (by omega) (by omega)⟩
  simp (disch := first | omega | (simp only [hnew_21, hput_21, hnew_22, hput_22]; omega) | exact isR_ref | exact isR_null | exact isR_rf | exact isR_fmt | assumption | decide) only [n_X9_check, e_X9_check_0, e_X9_check_1, e_X9_check_4, e_X9_check_5, e_X9_check_6, e_X9_check_9, e_X9_check_10, e_X9_check_13, cR_ref, cR_null, cR_rf, c1_int, c1_ref, c1_null, c1_rf, kz_int, kz_ref, kz_null, kz_rf, kz_U, kz_long, nB_null, nB_ref, rf_none, rf_some, bV_ret, bV_thr, bA_ret, bA_thr, bX_ret, bX_thr, len4_0, len4_1, len4_2, len4_3, len4_4, true_and, and_true, and_self, if_true, if_false, Option.bind_some, nR_b1, nR_b0, nR_bI, nI_1z, nI_0z, bI_z, if_nn, gf, pf, clN, aln, gaI, gaL, gaR, saI, saR, isI, ctB, isB, gB, hput_n, hput_e, hput_21, hput_22, hnew_n, hnew_e, hnew_21, hnew_22, Option.bind_some, Option.map_some, List.lookup_cons, List.lookup_nil, beq_self_eq_true, List.getElem?_cons_zero, List.getElem?_cons_succ, List.set_cons_zero, List.set_cons_succ, List.length_cons, List.length_nil, Nat.reduceAdd, Nat.reduceLT, Nat.reduceLeDiff, Nat.reduceBEq, Nat.reduceEqDiff, okv_int, okv_oref, okv_onull, okv_orf, okv_aref, okv_b0, okv_b1, okv_z0, okv_bI, ckI_nI, lt31, leT, reduceCtorEq, List.mem_cons, List.mem_singleton, List.not_mem_nil, or_true, true_or, or_false, false_or, toR_ref, toR_null, ↓reduceIte, a1, b6, b7]
theorem REr.mono {q x y : Nat} {o : Option Rs} (e : REr h r c nm s q x o) (hx : x ≤ y) : REr h r c nm s q y o := by
  obtain ⟨ex, h', hf, e1, e2, e3, e4, e5⟩ := e
  exact ⟨ex, h', hf, e1, e2, e3, e4, e5.mono (fun _ z => z) (by omega) (by omega)⟩
/-- behind tokens read -/
theorem REr.back {q x y K M : Nat} {o : Option Rs} (t : RdR Ω h r c tx nm cs s dp) (n : Nx [r, nm] K M h h1) (hK : K ≤ 10 * (s'.1 - s.1)) (hM : M ≤ 300 * (s'.1 - s.1)) (hs : s.1 ≤ s'.1) (hs' : s'.1 ≤ cs.length) (hy : x ≤ y) (e : REr h1 r c nm s' q x o) : REr h r c nm s q y o := by
  have hl := t.len
  obtain ⟨ex, h', hf, e1, e2, e3, e4, e5⟩ := e
  have t0 := t
  obtain ⟨_, _, _, _, _, ⟨hf0, b6, b7⟩, _⟩ := t0
  have hc := n.ob b6 (by decide) (t.na b6 (by decide))
  rw [hc] at e3
  cases e3
  exact ⟨ex, h', hf, e1, e2, b6, e4, ((n.mono (S' := [r, nm, c]) (fun z hz => by simp at hz ⊢; omega) (Nat.le_refl _) (Nat.le_refl _)).trans e5).mono (fun _ z => z) (by omega) (by omega)⟩
/-- behind tokens read, with room to spare -/
theorem REr.back2 {q x y K M : Nat} {o : Option Rs} (t : RdR Ω h r c tx nm cs s dp) (n : Nx [r, nm] K M h h1) (hs : s.1 ≤ s'.1) (hs' : s'.1 ≤ cs.length) (hK : K + x ≤ 10 * (s'.1 - s.1) + y) (hM : M + 20 * x ≤ 300 * (s'.1 - s.1) + 20 * y) (e : REr h1 r c nm s' q x o) : REr h r c nm s q y o := by
  have hl := t.len
  obtain ⟨ex, h', hf, e1, e2, e3, e4, e5⟩ := e
  have t0 := t
  obtain ⟨_, _, _, _, _, ⟨hf0, b6, b7⟩, _⟩ := t0
  have hc := n.ob b6 (by decide) (t.na b6 (by decide))
  rw [hc] at e3
  cases e3
  exact ⟨ex, h', hf, e1, e2, b6, e4, ((n.mono (S' := [r, nm, c]) (fun z hz => by simp at hz ⊢; omega) (Nat.le_refl _) (Nat.le_refl _)).trans e5).mono (fun _ z => z) (by omega) (by omega)⟩
/-- behind things made -/
theorem REr.more {q k m x y : Nat} {o : Option Rs} (t : RdR Ω h r c tx nm cs s dp) (n : Nx [] k m h h1) (hk : k + x ≤ y) (hm : m ≤ 20 * k) (e : REr h1 r c nm s q x o) : REr h r c nm s q y o := by
  obtain ⟨ex, h', hf, e1, e2, e3, e4, e5⟩ := e
  have t0 := t
  obtain ⟨_, _, _, _, _, ⟨hf0, b6, b7⟩, _⟩ := t0
  have hc := n.ob b6 (by decide) (by simp)
  rw [hc] at e3
  cases e3
  exact ⟨ex, h', hf, e1, e2, b6, e4, ((n.mono (S' := [r, nm, c]) (fun _ z => nomatch z) (Nat.le_refl _) (Nat.le_refl _)).trans e5).mono (fun _ z => z) (by omega) (by omega)⟩
theorem RdR.cell (t : RdR Ω h r c tx nm cs s dp) : ∃ wd p, h.1 r = some (rdC c tx nm (nI s.2.1.length) (kc (tk cs s)) (.ref wd) (nI (tk cs s).2.2.1) (nI p) (nI (tk cs s).2.2.2) (nI s.2.2) (nI dp)) ∧ (((tk cs s).1 = 1 ∨ (tk cs s).1 = 2 ∨ (tk cs s).1 = 3) → StrR h wd (tk cs s).2.1) := by
  obtain ⟨⟨wd, p, a1, a2, a3, a4⟩, _⟩ := t
  exact ⟨wd, p, a1, a2⟩
theorem kc_1 {t : Tok} (h : t.1 = 1) : kc t = if t.2.1 ∈ keyWs then nI 2 else nI 1 := by simp [kc, h]
theorem kc_2 {t : Tok} (h : t.1 = 2) : kc t = nI 3 := by simp [kc, h]
theorem kc_3 {t : Tok} (h : t.1 = 3) : kc t = nI 4 := by simp [kc, h]
theorem sgn_ge : ∀ x, isS x = true → 33 ≤ x ∧ x < 128 := fun x h => by have := of_decide_eq_true h; omega
theorem RdR.tw (t : RdR Ω h r c tx nm cs s dp) : TkW (tk cs s) := (lex_w t.2.2.2.2.1).1
/-- the kind's number -/
theorem kc_n {t : Tok} (w : TkW t) : ∃ n, n < 128 ∧ kc t = nI n ∧ (n = 1 ↔ (t.1 = 1 ∧ t.2.1 ∉ keyWs)) ∧ (n = 2 ↔ isAK t = true) ∧ (n = 3 ↔ t.1 = 2) ∧ (n = 4 ↔ t.1 = 3) ∧ (n = 6 ↔ t.1 = 0) ∧ ∀ x, isS x = true → (n = x ↔ isSg t x = true) := by
  obtain ⟨w1, w2, w3, w4⟩ := w
  have hcases : t.1 = 0 ∨ t.1 = 1 ∨ t.1 = 2 ∨ t.1 = 3 ∨ t.1 = 4 ∨ t.1 = 5 := by omega
  rcases hcases with q | q | q | q | q | q
  · refine ⟨6, by omega, by simp [kc, q], ?_⟩
    simp only [isAK, isSg, q, decide_eq_true_eq]
    refine ⟨by first | omega | simp, by first | omega | simp, by first | omega | simp, by first | omega | simp, by first | omega | simp, fun x hx => ?_⟩
    have := sgn_ge x hx
    omega
  · by_cases hk : t.2.1 ∈ keyWs
    · refine ⟨2, by omega, by simp [kc, q, hk], ?_⟩
      simp only [isAK, isSg, q, hk, decide_eq_true_eq]
      refine ⟨by simp, by simp, by first | omega | simp, by first | omega | simp, by first | omega | simp, fun x hx => ?_⟩
      have := sgn_ge x hx
      omega
    · refine ⟨1, by omega, by simp [kc, q, hk], ?_⟩
      simp only [isAK, isSg, q, hk, decide_eq_true_eq]
      refine ⟨by simp, by simp, by first | omega | simp, by first | omega | simp, by first | omega | simp, fun x hx => ?_⟩
      have := sgn_ge x hx
      omega
  · refine ⟨3, by omega, by simp [kc, q], ?_⟩
    simp only [isAK, isSg, q, decide_eq_true_eq]
    refine ⟨by first | omega | simp, by first | omega | simp, by first | omega | simp, by first | omega | simp, by first | omega | simp, fun x hx => ?_⟩
    have := sgn_ge x hx
    omega
  · refine ⟨4, by omega, by simp [kc, q], ?_⟩
    simp only [isAK, isSg, q, decide_eq_true_eq]
    refine ⟨by first | omega | simp, by first | omega | simp, by first | omega | simp, by first | omega | simp, by first | omega | simp, fun x hx => ?_⟩
    have := sgn_ge x hx
    omega
  · obtain ⟨y, y1, y2⟩ := w3 q
    have hy := sgn_ge y y2
    refine ⟨y, by omega, by simp [kc, q, y1], ?_⟩
    simp only [isAK, isSg, q, y1, decide_eq_true_eq]
    refine ⟨by first | omega | simp, by first | omega | simp, by first | omega | simp, by first | omega | simp, by first | omega | simp, fun x hx => ?_⟩
    constructor
    · intro z; subst z; exact ⟨trivial, rfl⟩
    · intro z; have := z.2; injection this
  · refine ⟨5, by omega, by simp [kc, q], ?_⟩
    simp only [isAK, isSg, q, decide_eq_true_eq]
    refine ⟨by first | omega | simp, by first | omega | simp, by first | omega | simp, by first | omega | simp, by first | omega | simp, fun x hx => ?_⟩
    have := sgn_ge x hx
    omega
end RD4
