/-! LAW: ask on both sides -/
section AOP
variable {Ω : Om} {d : Nat} {H H1 : AH} {s N w x c i : Nat} {A : Nat → Nat} {σ : Tw} {f : Nat → Int32} {L : List Tri} {op : Bool} {Cu : List Chg} {Cm : List (List Chg)} {cm co : Nat} {l5 l6 l7 : Value} {tx : List Nat} {fa : Int32} {R : List Rw}
theorem CpR.lk (C : CpR Ω H c L op Cu Cm cm tx fa R co) : LK L := fun t ht => by
  obtain ⟨sb, bb, ra, N, fr, ⟨tr, ch, A, hc, ⟨f, f1, f2, f3⟩, _⟩, _⟩ := C
  obtain ⟨i, hi⟩ := List.mem_iff_getElem?.mp ht
  obtain ⟨a, a1, g, f', p, q, r, b1, b2, b3, b4, b5, b6, b7, b8⟩ := f3 i t hi
  exact ⟨b6.ok, b7.ok, b8.ok⟩
/-- the component after ask, its own cell and the text written -/
theorem CpR.asked {h h' : AH} {sb bb tr ra ra' N' k m : Nat} {ch : Option Nat} {A : List Nat} {fa fa' : Int32} {rc co0 : Int32} {fr : Nat → Option Nat} {R' : List Rw} {co' : Nat} (hc : h.1 c = some (acE (.ref tr) (.int (nI L.length)) (.int (bI op)) (va_rf ch) (.int (nI Cu.length)) (va_rf A.head?) (va_rf A.getLast?) (.int (nI cm)) (.int (nI Cm.length)) sb fa ra rc co0)) (hT : TrA h tr L) (hCh : ChnR h Cu ch) (hA : CmA Ω h A Cm) (hB : SbR h sb bb 160 tx) (hL : LitR Ω h) (z1 : Ω.sz ≤ c) (z2 : Ω.sz ≤ tr) (z3 : Ω.sz ≤ h.2.1) (z4 : Ω.sz ≤ sb) (z5 : Ω.sz ≤ bb) (n : Nx [c, sb] k m h h') (hc' : h'.1 c = some (acE (.ref tr) (.int (nI L.length)) (.int (bI op)) (va_rf ch) (.int (nI Cu.length)) (va_rf A.head?) (va_rf A.getLast?) (.int (nI cm)) (.int (nI Cm.length)) sb fa' ra' (nI R'.length) (nI co'))) (hB' : SbR h' sb bb 160 []) (hr : h'.1 ra' = some (arR "TripleStore$Row" N' fr)) (hR : RwsF h' N' R' fr) (hN : N' ≤ 150) (z6 : Ω.sz ≤ ra') (hco : ∀ x ∈ R', x.2.length = co') (h6 : co' ≤ 6) : CpR Ω h' c L op Cu Cm cm [] fa' R' co' ∧ NW k m h h' := by
  obtain ⟨z, f, s1, s2, _⟩ := hB
  have hS : FS h [c, sb] := fun q hq e he => by
    rcases List.mem_cons.mp hq with w | w
    · rw [w, hc] at he; cases he; show 0 ∉ _; decide
    · rw [List.mem_singleton.mp w, s1] at he; cases he; show 22 ∉ _; decide
  have hT0 := hT
  obtain ⟨f', f1, _⟩ := hT0
  refine ⟨⟨sb, bb, ra', N', fr, ⟨tr, ch, A, hc', hT.fs n hS (by have := ne_ca hc f1; have := ne_ca s1 f1; simp; omega), ChnR.fs n hS _ _ hCh, hA.fs n hS (fun q hq => ?_), n.2.1, z1, z2, Nat.le_trans z3 n.2.2.1⟩, hB', hr, hR, hN, hL.fs n hS, z4, z5, z6, hco, h6⟩, ⟨[c, sb], n, fun q hq e he => ?_⟩⟩
  · obtain ⟨fs, hfs⟩ := hA.cl hq
    have := ne_cl hfs hc (by decide)
    have := ne_cl hfs s1 (by decide)
    simp; omega
  · rcases List.mem_cons.mp hq with w | w
    · rw [w, hc] at he; cases he; exact .inl rfl
    · rw [List.mem_singleton.mp w, s1] at he; cases he; exact .inr (.inr rfl)
theorem limT_eq {T : List Rw} {lm : Option Nat} (hl : T.length ≤ 150) : T.take (lm.getD 10000) = T.take (lm.getD 150) := by
  cases lm with
  | some n => rfl
  | none =>
    show T.take 10000 = T.take 150
    rw [List.take_of_length_le (by omega), List.take_of_length_le hl]
theorem s_ask (h7 : 7 * i + 7 ≤ N) (hN : N ≤ 336) (I : Iv Ω H s N f w x A σ c i) : StpL Ω d H s N f w x A c i l5 l6 l7 761 := by
  obtain ⟨L, op, Cu, Cm, cm, tx, fa, R, a, cols, rows, W, C, S, T, X, Q, hm, hf, b1, b2⟩ := I
  obtain ⟨fs, hcl⟩ := C.cl
  have hLK := C.lk
  have hL48 := S.l48
  have C0 := C
  obtain ⟨sb, bb, ra, Nr, fr, ⟨tr, ch, Ad, hc, hT, hCh, hA, hFe, z1, z2, z3⟩, hB, hra, hRw, hNr, hLit, z4, z5, z6, hco, hc6⟩ := C
  have hT1 : σ.1 1 = nI a.1.length := T.2.1
  have hT0 : TrL (σ.2.2.2 0) a.1 := T.1
  have hpl := S.perm
  have hLKa : LK a.1 := fun t ht => hLK t (hpl.mem_iff.mp ht)
  have ha48 : a.1.length ≤ 48 := by rw [hpl.length_eq]; exact hL48
  cases hq : pQry tx with
  | error q =>
    obtain ⟨e0, H1, e, he, k1, k2, k3⟩ := c_ask_er (Ω := Ω) (d := d + 13) hc hT hB hLit hFe z1 z4 z5 z3 hq
    have hrn : ra ∉ [c, sb] := by
      obtain ⟨zz, ff, t1, t2, _⟩ := hB
      have := ne_ca hc hra
      have := ne_ca t1 hra
      simp; omega
    have hSf : FS H [c, sb] := fun q hq e he => by
      obtain ⟨zz, ff, t1, t2, _⟩ := hB
      rcases List.mem_cons.mp hq with w | w
      · rw [w, hc] at he; cases he; show 0 ∉ _; decide
      · rw [List.mem_singleton.mp w, t1] at he; cases he; show 22 ∉ _; decide
    obtain ⟨g1, g2⟩ := CpR.asked hc hT hCh hA hB hLit z1 z2 z3 z4 z5 k3 k1 k2 (k3.ar hra hrn) (hRw.fs k3 hSf) hNr z6 hco hc6
    refine p_ask_1 h7 hN W hcl e he g2 (by decide) (by decide) g1 (fun h => ?_) S hm (by omega) (by omega)
    obtain ⟨σ', e1, e2, e3, e4, e5, e6⟩ := t_ask_er (d := d + 27) (h := h) W.1 X hq
    have e6' : Fx _ _ _ σ σ' := e6
    exact ⟨σ', _, e1, e5, T.fx e6' (by decide) (by decide) (by decide), ⟨e2, Nat.zero_le _, fun i c q => by simp at q, fun c q => nomatch q⟩, Q.fx e6' (by decide) (by decide) (by decide), e3⟩
  | ok y =>
    obtain ⟨q1, q2, q3, q4, q5, q6⟩ := pQ_K hq
    obtain ⟨p1, p2⟩ := c_ask_ok (Ω := Ω) (d := d + 13) hc hT hB hLit hFe z1 z4 z5 z3 hq
    have tt := fun h => t_ask_ok (d := d + 27) (h := h) W.1 X hq q6 hT1 hT0 ha48 hLKa
    rcases evG_p hpl 4 y.2.2.1 with ⟨v1, v2⟩ | ⟨lt, lc, v1, v2, v3⟩
    · obtain ⟨e0, H1, e, he, k1, k2, k3⟩ := p1 v2
      have hrn : ra ∉ [c, sb] := by
        obtain ⟨zz, ff, t1, t2, _⟩ := hB
        have := ne_ca hc hra
        have := ne_ca t1 hra
        simp; omega
      obtain ⟨g1, g2⟩ := CpR.asked (R' := []) hc hT hCh hA hB hLit z1 z2 z3 z4 z5 k3 k1 k2 (k3.ar hra hrn) ⟨Nat.zero_le _, fun i r q => by simp at q⟩ hNr z6 (fun x hx => nomatch hx) q2
      refine p_ask_2 (rows := []) h7 hN W hcl e he g2 (by decide) (by decide) g1 (fun h => ?_) S rfl (by omega) (by omega)
      obtain ⟨σ', r, cc, rw', e1, e2, e3, e4, e5, e6, e7⟩ := tt h
      have e6' : Fx _ _ _ σ σ' := e6
      rcases e7 with ⟨_, w2, w3⟩ | ⟨l, w1, _⟩
      · subst w2 w3
        exact ⟨σ', _, e1, e4, T.fx e6' (by decide) (by decide) (by decide), ⟨e2, Nat.zero_le _, fun i c q => by simp at q, fun c q => nomatch q⟩, e5, e3⟩
      · rw [v1] at w1; cases w1
    · obtain ⟨ra', fr', H1, R', k0, e, k1, k2, k3, k4, k5, k6, k7⟩ := p2 lc v2
      have hlt := evG_K hLKa 4 y.2.2.1 lt v1
      have hlen := rwsK_len (di := y.1) (fl := y.2.2.2.1.2) (o := y.2.2.2.1.1) (cols := y.2.1) (l := lc) lc.length (Nat.le_refl _)
      have hrow : (rowsL y.1 y.2.1 y.2.2.2.1 (y.2.2.2.2.getD 10000) lt).map (rowOf y.2.2.2.1.1 y.2.1) = R' := by
        rw [rows_eq v3 hlt, limT_eq (Nat.le_trans hlen k4), k0]
      have hcl2 : ∀ x ∈ R', x.2.length = y.2.1.length := fun x hx => by
        rw [← hrow] at hx
        obtain ⟨sl, _, rfl⟩ := List.mem_map.mp hx
        exact List.length_map _
      obtain ⟨g1, g2⟩ := CpR.asked hc hT hCh hA hB hLit z1 z2 z3 z4 z5 k7 k1 k6 k2 k3 k4 k5 hcl2 q2
      refine p_ask_ok (rows := rowsL y.1 y.2.1 y.2.2.2.1 (y.2.2.2.2.getD 10000) lt) h7 hN W hcl e g2 (by decide) (by decide) g1 (fun h => ?_) S ?_ (by omega) (by omega)
      · obtain ⟨σ', r, cc, rw', e1, e2, e3, e4, e5, e6, e7⟩ := tt h
        have e6' : Fx _ _ _ σ σ' := e6
        rcases e7 with ⟨w1, _⟩ | ⟨l, w1, w2, w3, w4⟩
        · rw [v1] at w1; cases w1
        · rw [v1] at w1
          cases w1
          subst w2 w3
          rw [w4] at e1 e5
          rw [← hrow, List.length_map]
          exact ⟨σ', e1, e4, T.fx e6' (by decide) (by decide) (by decide), ⟨e2, Nat.zero_le _, fun i c q => by simp at q, fun c q => nomatch q⟩, e5, e3⟩
      · rw [← hrow, List.map_map]; rfl
end AOP
