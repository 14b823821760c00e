/-! COMPONENT: reader, an element begins; a pattern -/
section RDA
variable {Ω : Om} {d n lo hi : Nat} {h h' h1 h2 : AH} {a b r c tx nm dp k m : Nat} {w cs : List Nat} {s s' : PS} {fs : List Value}
theorem r_set (t : RdR Ω h r c tx nm cs s dp) {el' dp' : Nat} (hel : el' ≤ 12) (hdp : dp' ≤ 4) {wd p : Nat} (a1 : h.1 r = some (rdC c tx nm (nI s.2.1.length) (kc (tk cs s)) (.ref wd) (nI (tk cs s).2.2.1) (nI p) (nI (tk cs s).2.2.2) (nI s.2.2) (nI dp))) : RdR Ω (hput h r (rdC c tx nm (nI s.2.1.length) (kc (tk cs s)) (.ref wd) (nI (tk cs s).2.2.1) (nI p) (nI (tk cs s).2.2.2) (nI el') (nI dp'))) r c tx nm cs (s.1, s.2.1, el') dp' ∧ Nx [r, nm] 0 0 h (hput h r (rdC c tx nm (nI s.2.1.length) (kc (tk cs s)) (.ref wd) (nI (tk cs s).2.2.1) (nI p) (nI (tk cs s).2.2.2) (nI el') (nI dp'))) := by
  obtain ⟨⟨wd0, p0, a10, a2, a3, a4⟩, b1, ⟨nf, b2, b3⟩, b4, b5, ⟨hf, b6, b7⟩, b8, b9, b10, b11, b12⟩ := t
  rw [a1] at a10
  have hwp : wd = wd0 ∧ nI p = nI p0 := by
    simp only [Option.some.injEq, Sum.inr.injEq, Prod.mk.injEq, List.cons.injEq, Value.ref.injEq, Value.int.injEq, true_and, and_true] at a10
    exact a10
  have hw : wd0 = wd := hwp.1.symm
  have hp0 : nI p0 = nI p := hwp.2.symm
  subst hw
  have rl := b8.lt a1
  have n1 := (Nx.rfl' (S := [r, nm]) b8).put (a := r) (e := rdC c tx nm (nI s.2.1.length) (kc (tk cs s)) (.ref wd0) (nI (tk cs s).2.2.1) (nI p) (nI (tk cs s).2.2.2) (nI el') (nI dp')) (.inl (by simp)) rl
  have a17 : h.1 r = some (.inr (7, [.ref c, .ref tx, .ref nm, .int (nI s.2.1.length), .int (kc (tk cs s)), .ref wd0, .int (nI (tk cs s).2.2.1), .int (nI p), .int (nI (tk cs s).2.2.2), .int (nI s.2.2), .int (nI dp)])) := a1
  have nrm : nm ≠ r := fun q => by rw [q, a1] at b2; cases b2
  have crm : c ≠ r := fun q => by rw [q, a1] at b6; cases b6
  refine ⟨⟨⟨wd0, p0, by rw [hput_e, hp0]; rfl, fun z => (a2 z).put a17, a3, a4⟩, b1.put a17, ⟨nf, by rw [hput_n nrm]; exact b2, fun i w q => ?_⟩, b4, b5, ⟨hf, by rw [hput_n crm]; exact b6, b7⟩, n1.2.1, b9.put a17, b10, hel, hdp⟩, n1⟩
  obtain ⟨u, u1, u2⟩ := b3 i w q
  exact ⟨u, u1, u2.put a17⟩
theorem RdR.lts (t : RdR Ω h r c tx nm cs s dp) : r < h.2.1 ∧ nm < h.2.1 ∧ c < h.2.1 := by
  obtain ⟨⟨wd0, p0, a10, a2, a3, a4⟩, b1, ⟨nf, b2, b3⟩, b4, b5, ⟨hf, b6, b7⟩, b8, b9, b10, b11, b12⟩ := t
  exact ⟨b8.lt a10, b8.lt b2, b8.lt b6⟩
/-- the reader goes on: cells made since lo stand -/
theorem RdR.agr (t : RdR Ω h r c tx nm cs s dp) (x : Nx [r, nm] k m h h') (hr : r < lo) (hn : nm < lo) : Agr lo hi h h' := by
  obtain ⟨⟨wd0, p0, a10, a2, a3, a4⟩, b1, ⟨nf, b2, b3⟩, _⟩ := t
  refine Agr.nx x (fun q hq => ?_)
  rcases List.mem_cons.mp hq with rfl | hq
  · exact ⟨.inl hr, fun e he z => by rw [a10] at he; cases he; rcases z with z | z | z <;> cases z⟩
  · rw [List.mem_singleton.mp hq]
    exact ⟨.inl hn, fun e he z => by rw [b2] at he; cases he; cases z⟩
def PatF (lo hi : Nat) (h : AH) (g : Nat) (p : Pat) : Prop := lo ≤ g ∧ g < hi ∧ ∃ (f : Nat → Option Nat) (u v w : Nat), h.1 g = some (arR "TripleStore$Side" 3 f) ∧ f 0 = some u ∧ f 1 = some v ∧ f 2 = some w ∧ SideR h u p.1 ∧ SideR h v p.2.1 ∧ SideR h w p.2.2 ∧ (lo ≤ u ∧ u < hi) ∧ (lo ≤ v ∧ v < hi) ∧ lo ≤ w ∧ w < hi
theorem SideR.cl {D : Sd} (t : SideR h a D) : ∃ fs, h.1 a = some (.inr (13, fs)) := by
  cases D with
  | inl v => exact ⟨_, t.2⟩
  | inr e => obtain ⟨u, w, t1, t2⟩ := t; exact ⟨_, t1⟩
/-- the array of sides written: sides stand -/
theorem SideR.arr {D : Sd} {f : Nat → Option Nat} {e : Ce} (t : SideR h b D) (ha : h.1 a = some (arR "TripleStore$Side" 3 f)) (hFe : Fe h) : SideR (hput h a e) b D := SideR.put (fun q ci fs h1 _ z => by rw [z, ha] at h1; cases h1) (Ku.puta hFe ha ⟨by decide, by decide⟩) t
set_option maxHeartbeats 4000000 in
theorem r_pat (t : RdR Ω h r c tx nm cs s dp) {l1 l2 : Value} (h1' : k2 l1 = l1) : (∀ p s', pPat cs s = .ok (p, s') → ∃ g h', gO PG Ω (d + 11) 120 235 [.ref r, l1, l2] [] h = gO PG Ω (d + 11) 120 261 [.ref r, l1, .ref g] [] h' ∧ RdR Ω h' r c tx nm cs s' dp ∧ Nx [r, nm] 13 507 h h' ∧ PatF h.2.1 h'.2.1 h' g p ∧ s.1 + 3 ≤ s'.1) ∧ (∀ q, pPat cs s = .error q → REr h r c nm s q 4 (gO PG Ω (d + 11) 120 235 [.ref r, l1, l2] [] h)) := by
  have hFe := t.fe
  have hz : Ω.sz ≤ h.2.1 := t.2.2.2.2.2.2.2.2.1.2.2.2.2
  have hs5 := t.2.2.2.2.1
  obtain ⟨lr, ln, lc⟩ := t.lts
  have t1 := t.ku (Ku.new (e := arR "TripleStore$Side" 3 (fun _ => none)) (N := 3) hFe)
  have n0 : Nx [] 1 3 h (hnew h (arR "TripleStore$Side" 3 (fun _ => none)) 3) := (Nx.rfl' hFe).new
  have g0 : (hnew h (arR "TripleStore$Side" 3 (fun _ => none)) 3).1 h.2.1 = some (arR "TripleStore$Side" 3 (fun _ => none)) := hnew_e
  obtain ⟨wd1, p1, a11, _⟩ := t.cell
  have nhg : h.2.1 ∉ [r, nm] := by simp; omega
  -- the first side
  have sd1 := r_side (d := d) t1
  unfold pPat
  have e0 : ∀ {o : Option Rs} {hh : AH} {u : Nat}, gM PG Ω (d + 11) 122 [.ref r] (hnew h (arR "TripleStore$Side" 3 (fun _ => none)) 3) = some (.returned (some (.ref u)), hh) → (∃ fs, hh.1 u = some (.inr (13, fs))) → hh.1 h.2.1 = some (arR "TripleStore$Side" 3 (fun _ => none)) → gO PG Ω (d + 11) 120 235 [.ref r, l1, l2] [] h = gO PG Ω (d + 11) 120 246 [.ref r, l1, l2] [.ref h.2.1] (hput hh h.2.1 (arR "TripleStore$Side" 3 (va_up (fun _ => none) 0 (some u)))) := by
    intro o hh u q1 ⟨fs, q2⟩ q3
    simp (disch := first | omega | (simp only [hnew_21, hput_21, hnew_22, hput_22]; omega) | exact isR_ref | exact isR_null | exact isR_rf | exact isR_fmt | assumption | decide) only [e_X9_element_235, e_X9_element_236, e_X9_element_239, e_X9_element_240, e_X9_element_241, e_X9_element_242, cR_ref, cR_null, cR_rf, c1_int, c1_ref, c1_null, c1_rf, kz_int, kz_ref, kz_null, kz_rf, kz_U, kz_long, nB_null, nB_ref, rf_none, rf_some, bV_ret, bV_thr, bA_ret, bA_thr, bX_ret, bX_thr, len4_0, len4_1, len4_2, len4_3, len4_4, true_and, and_true, and_self, if_true, if_false, Option.bind_some, nR_b1, nR_b0, nR_bI, nI_1z, nI_0z, bI_z, if_nn, gf, pf, clN, aln, gaI, gaL, gaR, saI, saR, isI, ctB, isB, gB, hput_n, hput_e, hput_21, hput_22, hnew_n, hnew_e, hnew_21, hnew_22, Option.bind_some, Option.map_some, List.lookup_cons, List.lookup_nil, beq_self_eq_true, List.getElem?_cons_zero, List.getElem?_cons_succ, List.set_cons_zero, List.set_cons_succ, List.length_cons, List.length_nil, Nat.reduceAdd, Nat.reduceLT, Nat.reduceLeDiff, Nat.reduceBEq, Nat.reduceEqDiff, okv_int, okv_oref, okv_onull, okv_orf, okv_aref, okv_b0, okv_b1, okv_z0, okv_bI, ckI_nI, lt31, leT, reduceCtorEq, List.mem_cons, List.mem_singleton, List.not_mem_nil, or_true, true_or, or_false, false_or, toR_ref, toR_null, ↓reduceIte, a11, q1]
    simp (disch := first | omega | (simp only [hnew_21, hput_21, hnew_22, hput_22]; omega) | exact isR_ref | exact isR_null | exact isR_rf | exact isR_fmt | assumption | decide) only [e_X9_element_245, cR_ref, cR_null, cR_rf, c1_int, c1_ref, c1_null, c1_rf, kz_int, kz_ref, kz_null, kz_rf, kz_U, kz_long, nB_null, nB_ref, rf_none, rf_some, bV_ret, bV_thr, bA_ret, bA_thr, bX_ret, bX_thr, len4_0, len4_1, len4_2, len4_3, len4_4, true_and, and_true, and_self, if_true, if_false, Option.bind_some, nR_b1, nR_b0, nR_bI, nI_1z, nI_0z, bI_z, if_nn, gf, pf, clN, aln, gaI, gaL, gaR, saI, saR, isI, ctB, isB, gB, hput_n, hput_e, hput_21, hput_22, hnew_n, hnew_e, hnew_21, hnew_22, Option.bind_some, Option.map_some, List.lookup_cons, List.lookup_nil, beq_self_eq_true, List.getElem?_cons_zero, List.getElem?_cons_succ, List.set_cons_zero, List.set_cons_succ, List.length_cons, List.length_nil, Nat.reduceAdd, Nat.reduceLT, Nat.reduceLeDiff, Nat.reduceBEq, Nat.reduceEqDiff, okv_int, okv_oref, okv_onull, okv_orf, okv_aref, okv_b0, okv_b1, okv_z0, okv_bI, ckI_nI, lt31, leT, reduceCtorEq, List.mem_cons, List.mem_singleton, List.not_mem_nil, or_true, true_or, or_false, false_or, toR_ref, toR_null, ↓reduceIte, q2, q3]
  cases hq1 : pSide cs s with
  | error q =>
    refine ⟨fun p s' hh => (nomatch hh), fun q' hh => ?_⟩
    cases hh
    obtain ⟨ex, h', hf, f1, f2⟩ := sd1.2 q hq1
    have er' : REr (hnew h (arR "TripleStore$Side" 3 (fun _ => none)) 3) r c nm s q 2 (gO PG Ω (d + 11) 120 235 [.ref r, l1, l2] [] h) := by
      refine ⟨ex, h', hf, ?_, f2⟩
      simp (disch := first | omega | (simp only [hnew_21, hput_21, hnew_22, hput_22]; omega) | exact isR_ref | exact isR_null | exact isR_rf | exact isR_fmt | assumption | decide) only [e_X9_element_235, e_X9_element_236, e_X9_element_239, e_X9_element_240, e_X9_element_241, e_X9_element_242, cR_ref, cR_null, cR_rf, c1_int, c1_ref, c1_null, c1_rf, kz_int, kz_ref, kz_null, kz_rf, kz_U, kz_long, nB_null, nB_ref, rf_none, rf_some, bV_ret, bV_thr, bA_ret, bA_thr, bX_ret, bX_thr, len4_0, len4_1, len4_2, len4_3, len4_4, true_and, and_true, and_self, if_true, if_false, Option.bind_some, nR_b1, nR_b0, nR_bI, nI_1z, nI_0z, bI_z, if_nn, gf, pf, clN, aln, gaI, gaL, gaR, saI, saR, isI, ctB, isB, gB, hput_n, hput_e, hput_21, hput_22, hnew_n, hnew_e, hnew_21, hnew_22, Option.bind_some, Option.map_some, List.lookup_cons, List.lookup_nil, beq_self_eq_true, List.getElem?_cons_zero, List.getElem?_cons_succ, List.set_cons_zero, List.set_cons_succ, List.length_cons, List.length_nil, Nat.reduceAdd, Nat.reduceLT, Nat.reduceLeDiff, Nat.reduceBEq, Nat.reduceEqDiff, okv_int, okv_oref, okv_onull, okv_orf, okv_aref, okv_b0, okv_b1, okv_z0, okv_bI, ckI_nI, lt31, leT, reduceCtorEq, List.mem_cons, List.mem_singleton, List.not_mem_nil, or_true, true_or, or_false, false_or, toR_ref, toR_null, ↓reduceIte, a11, f1]
    exact er'.more t n0 (by omega) (by omega)
  | ok v1 =>
    obtain ⟨A, s1⟩ := v1
    dsimp only
    have lt1 := pSide_lt hs5 hq1
    obtain ⟨u1, k1, f1, f2, f3, f4, f5⟩ := sd1.1 A s1 hq1
    have gk1 : k1.1 h.2.1 = some (arR "TripleStore$Side" 3 (fun _ => none)) := f3.ar g0 nhg
    have E1 := e0 (o := none) f1 f4.cl gk1
    have K1 : Ku k1 (hput k1 h.2.1 (arR "TripleStore$Side" 3 (va_up (fun _ => none) 0 (some u1)))) := Ku.puta f2.fe gk1 ⟨by decide, by decide⟩
    have T1 := f2.ku K1
    have lk1 := f2.fe.lt gk1
    have N1 : Nx [r, nm] 5 171 h (hput k1 h.2.1 (arR "TripleStore$Side" 3 (va_up (fun _ => none) 0 (some u1)))) := (n0.up f3 (Nat.le_refl _) lk1).mono (fun _ z => z) (by omega) (by omega)
    have S1 : SideR (hput k1 h.2.1 (arR "TripleStore$Side" 3 (va_up (fun _ => none) 0 (some u1)))) u1 A := f4.arr gk1 f2.fe
    have G1 : (hput k1 h.2.1 (arR "TripleStore$Side" 3 (va_up (fun _ => none) 0 (some u1)))).1 h.2.1 = some (arR "TripleStore$Side" 3 (va_up (fun _ => none) 0 (some u1))) := hput_e
    rw [hnew_21] at f5
    have u1l := S1.lt T1.fe
    have sz1 : h.2.1 + 1 ≤ (hput k1 h.2.1 (arR "TripleStore$Side" 3 (va_up (fun _ => none) 0 (some u1)))).2.1 := by have := f3.2.2.1; rw [hnew_21] at this; rw [hput_21]; omega
    generalize hm1 : hput k1 h.2.1 (arR "TripleStore$Side" 3 (va_up (fun _ => none) 0 (some u1))) = m1 at *
    obtain ⟨wd2, p2, a12, _⟩ := T1.cell
    have sd2 := r_side (d := d) T1
    have hn51 := T1.2.2.2.2.1
    rw [E1]
    cases hq2 : pSide cs s1 with
    | error q =>
      refine ⟨fun p s' hh => (nomatch hh), fun q' hh => ?_⟩
      cases hh
      obtain ⟨ex, h', hf, y1, y2⟩ := sd2.2 q hq2
      have er' : REr m1 r c nm s1 q 2 (gO PG Ω (d + 11) 120 246 [.ref r, l1, l2] [.ref h.2.1] m1) := by
        refine ⟨ex, h', hf, ?_, y2⟩
        simp (disch := first | omega | (simp only [hnew_21, hput_21, hnew_22, hput_22]; omega) | exact isR_ref | exact isR_null | exact isR_rf | exact isR_fmt | assumption | decide) only [e_X9_element_246, e_X9_element_247, e_X9_element_248, e_X9_element_249, cR_ref, cR_null, cR_rf, c1_int, c1_ref, c1_null, c1_rf, kz_int, kz_ref, kz_null, kz_rf, kz_U, kz_long, nB_null, nB_ref, rf_none, rf_some, bV_ret, bV_thr, bA_ret, bA_thr, bX_ret, bX_thr, len4_0, len4_1, len4_2, len4_3, len4_4, true_and, and_true, and_self, if_true, if_false, Option.bind_some, nR_b1, nR_b0, nR_bI, nI_1z, nI_0z, bI_z, if_nn, gf, pf, clN, aln, gaI, gaL, gaR, saI, saR, isI, ctB, isB, gB, hput_n, hput_e, hput_21, hput_22, hnew_n, hnew_e, hnew_21, hnew_22, Option.bind_some, Option.map_some, List.lookup_cons, List.lookup_nil, beq_self_eq_true, List.getElem?_cons_zero, List.getElem?_cons_succ, List.set_cons_zero, List.set_cons_succ, List.length_cons, List.length_nil, Nat.reduceAdd, Nat.reduceLT, Nat.reduceLeDiff, Nat.reduceBEq, Nat.reduceEqDiff, okv_int, okv_oref, okv_onull, okv_orf, okv_aref, okv_b0, okv_b1, okv_z0, okv_bI, ckI_nI, lt31, leT, reduceCtorEq, List.mem_cons, List.mem_singleton, List.not_mem_nil, or_true, true_or, or_false, false_or, toR_ref, toR_null, ↓reduceIte, a12, y1]
      exact er'.back2 t N1 (by omega) hn51 (by omega) (by omega)
    | ok v2 =>
      obtain ⟨Bd, s2⟩ := v2
      dsimp only
      have lt2 := pSide_lt hn51 hq2
      obtain ⟨u2, k2', y1, y2, y3, y4, y5⟩ := sd2.1 Bd s2 hq2
      have gk2 := y3.ar G1 nhg
      have S1' : SideR k2' u1 A := S1.gs y3 T1.gs
      have K2 : Ku k2' (hput k2' h.2.1 (arR "TripleStore$Side" 3 (va_up (va_up (fun _ => none) 0 (some u1)) 1 (some u2)))) := Ku.puta y2.fe gk2 ⟨by decide, by decide⟩
      have T2 := y2.ku K2
      have lk2 := y2.fe.lt gk2
      have N2 : Nx [r, nm] 9 339 h (hput k2' h.2.1 (arR "TripleStore$Side" 3 (va_up (va_up (fun _ => none) 0 (some u1)) 1 (some u2)))) := ((N1.trans y3).put (.inr (Nat.le_refl _)) lk2).mono (fun _ z => z) (by omega) (by omega)
      have S2 : SideR (hput k2' h.2.1 (arR "TripleStore$Side" 3 (va_up (va_up (fun _ => none) 0 (some u1)) 1 (some u2)))) u1 A := S1'.arr gk2 y2.fe
      have S3 : SideR (hput k2' h.2.1 (arR "TripleStore$Side" 3 (va_up (va_up (fun _ => none) 0 (some u1)) 1 (some u2)))) u2 Bd := y4.arr gk2 y2.fe
      have G2 : (hput k2' h.2.1 (arR "TripleStore$Side" 3 (va_up (va_up (fun _ => none) 0 (some u1)) 1 (some u2)))).1 h.2.1 = some (arR "TripleStore$Side" 3 (va_up (va_up (fun _ => none) 0 (some u1)) 1 (some u2))) := hput_e
      obtain ⟨fs2, c2⟩ := y4.cl
      have E2 : gO PG Ω (d + 11) 120 246 [.ref r, l1, l2] [.ref h.2.1] m1 = gO PG Ω (d + 11) 120 253 [.ref r, l1, l2] [.ref h.2.1] (hput k2' h.2.1 (arR "TripleStore$Side" 3 (va_up (va_up (fun _ => none) 0 (some u1)) 1 (some u2)))) := by
        simp (disch := first | omega | (simp only [hnew_21, hput_21, hnew_22, hput_22]; omega) | exact isR_ref | exact isR_null | exact isR_rf | exact isR_fmt | assumption | decide) only [e_X9_element_246, e_X9_element_247, e_X9_element_248, e_X9_element_249, cR_ref, cR_null, cR_rf, c1_int, c1_ref, c1_null, c1_rf, kz_int, kz_ref, kz_null, kz_rf, kz_U, kz_long, nB_null, nB_ref, rf_none, rf_some, bV_ret, bV_thr, bA_ret, bA_thr, bX_ret, bX_thr, len4_0, len4_1, len4_2, len4_3, len4_4, true_and, and_true, and_self, if_true, if_false, Option.bind_some, nR_b1, nR_b0, nR_bI, nI_1z, nI_0z, bI_z, if_nn, gf, pf, clN, aln, gaI, gaL, gaR, saI, saR, isI, ctB, isB, gB, hput_n, hput_e, hput_21, hput_22, hnew_n, hnew_e, hnew_21, hnew_22, Option.bind_some, Option.map_some, List.lookup_cons, List.lookup_nil, beq_self_eq_true, List.getElem?_cons_zero, List.getElem?_cons_succ, List.set_cons_zero, List.set_cons_succ, List.length_cons, List.length_nil, Nat.reduceAdd, Nat.reduceLT, Nat.reduceLeDiff, Nat.reduceBEq, Nat.reduceEqDiff, okv_int, okv_oref, okv_onull, okv_orf, okv_aref, okv_b0, okv_b1, okv_z0, okv_bI, ckI_nI, lt31, leT, reduceCtorEq, List.mem_cons, List.mem_singleton, List.not_mem_nil, or_true, true_or, or_false, false_or, toR_ref, toR_null, ↓reduceIte, a12, y1]
        simp (disch := first | omega | (simp only [hnew_21, hput_21, hnew_22, hput_22]; omega) | exact isR_ref | exact isR_null | exact isR_rf | exact isR_fmt | assumption | decide) only [e_X9_element_252, cR_ref, cR_null, cR_rf, c1_int, c1_ref, c1_null, c1_rf, kz_int, kz_ref, kz_null, kz_rf, kz_U, kz_long, nB_null, nB_ref, rf_none, rf_some, bV_ret, bV_thr, bA_ret, bA_thr, bX_ret, bX_thr, len4_0, len4_1, len4_2, len4_3, len4_4, true_and, and_true, and_self, if_true, if_false, Option.bind_some, nR_b1, nR_b0, nR_bI, nI_1z, nI_0z, bI_z, if_nn, gf, pf, clN, aln, gaI, gaL, gaR, saI, saR, isI, ctB, isB, gB, hput_n, hput_e, hput_21, hput_22, hnew_n, hnew_e, hnew_21, hnew_22, Option.bind_some, Option.map_some, List.lookup_cons, List.lookup_nil, beq_self_eq_true, List.getElem?_cons_zero, List.getElem?_cons_succ, List.set_cons_zero, List.set_cons_succ, List.length_cons, List.length_nil, Nat.reduceAdd, Nat.reduceLT, Nat.reduceLeDiff, Nat.reduceBEq, Nat.reduceEqDiff, okv_int, okv_oref, okv_onull, okv_orf, okv_aref, okv_b0, okv_b1, okv_z0, okv_bI, ckI_nI, lt31, leT, reduceCtorEq, List.mem_cons, List.mem_singleton, List.not_mem_nil, or_true, true_or, or_false, false_or, toR_ref, toR_null, ↓reduceIte, c2, gk2]
      have u2l := S3.lt T2.fe
      have sz2 : m1.2.1 ≤ (hput k2' h.2.1 (arR "TripleStore$Side" 3 (va_up (va_up (fun _ => none) 0 (some u1)) 1 (some u2)))).2.1 := y3.2.2.1
      generalize hm2 : hput k2' h.2.1 (arR "TripleStore$Side" 3 (va_up (va_up (fun _ => none) 0 (some u1)) 1 (some u2))) = m2 at *
      obtain ⟨wd3, p3, a13, _⟩ := T2.cell
      have sd3 := r_side (d := d) T2
      have hn52 := T2.2.2.2.2.1
      rw [E2]
      cases hq3 : pSide cs s2 with
      | error q =>
        refine ⟨fun p s' hh => (nomatch hh), fun q' hh => ?_⟩
        cases hh
        obtain ⟨ex, h', hf, x1, x2⟩ := sd3.2 q hq3
        have er' : REr m2 r c nm s2 q 2 (gO PG Ω (d + 11) 120 253 [.ref r, l1, l2] [.ref h.2.1] m2) := by
          refine ⟨ex, h', hf, ?_, x2⟩
          simp (disch := first | omega | (simp only [hnew_21, hput_21, hnew_22, hput_22]; omega) | exact isR_ref | exact isR_null | exact isR_rf | exact isR_fmt | assumption | decide) only [e_X9_element_253, e_X9_element_254, e_X9_element_255, e_X9_element_256, cR_ref, cR_null, cR_rf, c1_int, c1_ref, c1_null, c1_rf, kz_int, kz_ref, kz_null, kz_rf, kz_U, kz_long, nB_null, nB_ref, rf_none, rf_some, bV_ret, bV_thr, bA_ret, bA_thr, bX_ret, bX_thr, len4_0, len4_1, len4_2, len4_3, len4_4, true_and, and_true, and_self, if_true, if_false, Option.bind_some, nR_b1, nR_b0, nR_bI, nI_1z, nI_0z, bI_z, if_nn, gf, pf, clN, aln, gaI, gaL, gaR, saI, saR, isI, ctB, isB, gB, hput_n, hput_e, hput_21, hput_22, hnew_n, hnew_e, hnew_21, hnew_22, Option.bind_some, Option.map_some, List.lookup_cons, List.lookup_nil, beq_self_eq_true, List.getElem?_cons_zero, List.getElem?_cons_succ, List.set_cons_zero, List.set_cons_succ, List.length_cons, List.length_nil, Nat.reduceAdd, Nat.reduceLT, Nat.reduceLeDiff, Nat.reduceBEq, Nat.reduceEqDiff, okv_int, okv_oref, okv_onull, okv_orf, okv_aref, okv_b0, okv_b1, okv_z0, okv_bI, ckI_nI, lt31, leT, reduceCtorEq, List.mem_cons, List.mem_singleton, List.not_mem_nil, or_true, true_or, or_false, false_or, toR_ref, toR_null, ↓reduceIte, a13, x1]
        exact er'.back2 t N2 (by omega) hn52 (by omega) (by omega)
      | ok v3 =>
        obtain ⟨Cd, s3⟩ := v3
        have lt3 := pSide_lt hn52 hq3
        refine ⟨fun p s' hh => ?_, fun q' hh => (nomatch hh)⟩
        cases hh
        obtain ⟨u3, k3, x1, x2, x3, x4, x5⟩ := sd3.1 Cd s3 hq3
        have gk3 := x3.ar G2 nhg
        have lk3 := x2.fe.lt gk3
        have K3 : Ku k3 (hput k3 h.2.1 (arR "TripleStore$Side" 3 (va_up (va_up (va_up (fun _ => none) 0 (some u1)) 1 (some u2)) 2 (some u3)))) := Ku.puta x2.fe gk3 ⟨by decide, by decide⟩
        obtain ⟨fs3, c3⟩ := x4.cl
        have S2' : SideR k3 u1 A := S2.gs x3 T2.gs
        have S3' : SideR k3 u2 Bd := S3.gs x3 T2.gs
        have z3 := x3.2.2.1
        have x4l := x4.lt x2.fe
        refine ⟨h.2.1, hput k3 h.2.1 (arR "TripleStore$Side" 3 (va_up (va_up (va_up (fun _ => none) 0 (some u1)) 1 (some u2)) 2 (some u3))), ?_, x2.ku K3, ((N2.trans x3).put (.inr (Nat.le_refl _)) lk3).mono (fun _ z => z) (by omega) (by omega), ⟨Nat.le_refl _, lk3, _, u1, u2, u3, hput_e, by simp [va_up], by simp [va_up], by simp [va_up], S2'.arr gk3 x2.fe, S3'.arr gk3 x2.fe, x4.arr gk3 x2.fe, ⟨by omega, by rw [hput_21]; omega⟩, ⟨by omega, by rw [hput_21]; omega⟩, by omega, by rw [hput_21]; exact x4l⟩, by omega⟩
        simp (disch := first | omega | (simp only [hnew_21, hput_21, hnew_22, hput_22]; omega) | exact isR_ref | exact isR_null | exact isR_rf | exact isR_fmt | assumption | decide) only [e_X9_element_253, e_X9_element_254, e_X9_element_255, e_X9_element_256, cR_ref, cR_null, cR_rf, c1_int, c1_ref, c1_null, c1_rf, kz_int, kz_ref, kz_null, kz_rf, kz_U, kz_long, nB_null, nB_ref, rf_none, rf_some, bV_ret, bV_thr, bA_ret, bA_thr, bX_ret, bX_thr, len4_0, len4_1, len4_2, len4_3, len4_4, true_and, and_true, and_self, if_true, if_false, Option.bind_some, nR_b1, nR_b0, nR_bI, nI_1z, nI_0z, bI_z, if_nn, gf, pf, clN, aln, gaI, gaL, gaR, saI, saR, isI, ctB, isB, gB, hput_n, hput_e, hput_21, hput_22, hnew_n, hnew_e, hnew_21, hnew_22, Option.bind_some, Option.map_some, List.lookup_cons, List.lookup_nil, beq_self_eq_true, List.getElem?_cons_zero, List.getElem?_cons_succ, List.set_cons_zero, List.set_cons_succ, List.length_cons, List.length_nil, Nat.reduceAdd, Nat.reduceLT, Nat.reduceLeDiff, Nat.reduceBEq, Nat.reduceEqDiff, okv_int, okv_oref, okv_onull, okv_orf, okv_aref, okv_b0, okv_b1, okv_z0, okv_bI, ckI_nI, lt31, leT, reduceCtorEq, List.mem_cons, List.mem_singleton, List.not_mem_nil, or_true, true_or, or_false, false_or, toR_ref, toR_null, ↓reduceIte, a13, x1]
        simp (disch := first | omega | (simp only [hnew_21, hput_21, hnew_22, hput_22]; omega) | exact isR_ref | exact isR_null | exact isR_rf | exact isR_fmt | assumption | decide) only [e_X9_element_259, e_X9_element_260, cR_ref, cR_null, cR_rf, c1_int, c1_ref, c1_null, c1_rf, kz_int, kz_ref, kz_null, kz_rf, kz_U, kz_long, nB_null, nB_ref, rf_none, rf_some, bV_ret, bV_thr, bA_ret, bA_thr, bX_ret, bX_thr, len4_0, len4_1, len4_2, len4_3, len4_4, true_and, and_true, and_self, if_true, if_false, Option.bind_some, nR_b1, nR_b0, nR_bI, nI_1z, nI_0z, bI_z, if_nn, gf, pf, clN, aln, gaI, gaL, gaR, saI, saR, isI, ctB, isB, gB, hput_n, hput_e, hput_21, hput_22, hnew_n, hnew_e, hnew_21, hnew_22, Option.bind_some, Option.map_some, List.lookup_cons, List.lookup_nil, beq_self_eq_true, List.getElem?_cons_zero, List.getElem?_cons_succ, List.set_cons_zero, List.set_cons_succ, List.length_cons, List.length_nil, Nat.reduceAdd, Nat.reduceLT, Nat.reduceLeDiff, Nat.reduceBEq, Nat.reduceEqDiff, okv_int, okv_oref, okv_onull, okv_orf, okv_aref, okv_b0, okv_b1, okv_z0, okv_bI, ckI_nI, lt31, leT, reduceCtorEq, List.mem_cons, List.mem_singleton, List.not_mem_nil, or_true, true_or, or_false, false_or, toR_ref, toR_null, ↓reduceIte, c3, gk3, h1']
end RDA
