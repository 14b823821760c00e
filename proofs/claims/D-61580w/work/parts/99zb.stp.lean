/-! LAW: a call is answered, or refused, on both sides -/
section STP
variable {Ω : Om} {d : Nat} {H H1 : AH} {s N w x c k m i e : Nat} {A : Nat → Nat} {σ : Tw} {f : Nat → Int32} {L : List Tri} {op : Bool} {Cu : List Chg} {Cm : List (List Chg)} {cm co : Nat} {tx cols : List Nat} {fa : Int32} {R : List Rw} {rows : List Sol} {a : TA} {l5 l6 l7 : Value} {v b : Int32} {u : Int64} {fs : List Value}
theorem p_add_ok (h7 : 7 * i + 7 ≤ N) (hN : N ≤ 336) (W : Wd Ω H s N f w x A σ) (hc : H.1 c = some (.inr (0, fs))) (e : gM PG Ω (d + 39) 14 [.ref c, .long (lj (f (7 * i + 1)) (f (7 * i + 2))), .long (lj (f (7 * i + 3)) (f (7 * i + 4))), .long (lj (f (7 * i + 5)) (f (7 * i + 6)))] H = some (.returned (some (.int v)), H1)) (n : NW k m H H1) (hk : k ≤ 12000) (hm' : m ≤ 150000) (C1 : CpR Ω H1 c L op Cu Cm cm tx fa R cols.length) (t : ∀ h, ∃ σ', gM PG Ω (d + 40) 38 [.ref x, .long (lj (f (7 * i + 1)) (f (7 * i + 2))), .long (lj (f (7 * i + 3)) (f (7 * i + 4))), .long (lj (f (7 * i + 5)) (f (7 * i + 6)))] (tW h x A σ) = some (.returned (some (.int v)), tW h x A σ') ∧ σ'.1 58 = nI 0 ∧ TSto σ' a ∧ TxL σ' tx ∧ RwL σ' cols rows ∧ σ'.1 14 = fa) (hS : StR L op Cu Cm cm a) (hm : R.map (fun r => r.2) = rows.map (fun q => cols.map q)) (hb1 : (flC Cm).length + Cu.length ≤ i + 1) (hb2 : Cm.length ≤ i + 1) : StpL Ω d H s N f w x A c i l5 l6 l7 104 := by
  obtain ⟨g, g1, g2, g3⟩ := cl_ok W n C1 (v.toInt64)
  have e1 := w_add_ok hc g1 W.wz e
  obtain ⟨σ', t1, h58, hA, hX, hR, hf⟩ := t (hput H1 w (arL 1 (va_up g 0 (v.toInt64))))
  rw [g2.2.1] at t1
  obtain ⟨k1, k2⟩ := cl_tw g2 g3 σ'
  have e3 := t_thrown (Ω := Ω) (d := d + 39) (h := hput H1 w (arL 1 (va_up g 0 (v.toInt64)))) (x := x) (A := A) (σ := σ')
  rw [h58] at e3
  exact ⟨_, _, _, σ', _, l_add (by decide) h7 hN W.ws g2.ws g2.wx k1.wx e1 t1 e3 (fun _ => ⟨_, (tw_wout g2 σ').trans hput_e, vu0⟩), ⟨L, op, Cu, Cm, cm, tx, fa, R, a, cols, rows, k1, k2, hS, hA, hX, hR, hm, hf, hb1, hb2⟩, n.gr hk hm'⟩
theorem p_add_1 (h7 : 7 * i + 7 ≤ N) (hN : N ≤ 336) (W : Wd Ω H s N f w x A σ) (hc : H.1 c = some (.inr (0, fs))) (e1 : gM PG Ω (d + 39) 14 [.ref c, .long (lj (f (7 * i + 1)) (f (7 * i + 2))), .long (lj (f (7 * i + 3)) (f (7 * i + 4))), .long (lj (f (7 * i + 5)) (f (7 * i + 6)))] H = some (.threw e, H1)) (he : H1.1 e = some (.inr (24, []))) (n : NW k m H H1) (hk : k ≤ 12000) (hm' : m ≤ 150000) (C1 : CpR Ω H1 c L op Cu Cm cm tx fa R cols.length) (t : ∀ h, ∃ σ' b, gM PG Ω (d + 40) 38 [.ref x, .long (lj (f (7 * i + 1)) (f (7 * i + 2))), .long (lj (f (7 * i + 3)) (f (7 * i + 4))), .long (lj (f (7 * i + 5)) (f (7 * i + 6)))] (tW h x A σ) = some (.returned (some (.int b)), tW h x A σ') ∧ σ'.1 58 = nI 1 ∧ TSto σ' a ∧ TxL σ' tx ∧ RwL σ' cols rows ∧ σ'.1 14 = fa) (hS : StR L op Cu Cm cm a) (hm : R.map (fun r => r.2) = rows.map (fun q => cols.map q)) (hb1 : (flC Cm).length + Cu.length ≤ i + 1) (hb2 : Cm.length ≤ i + 1) : StpL Ω d H s N f w x A c i l5 l6 l7 104 := by
  have g2 := W.nw n
  have e2 := w_add_1 (w := w) hc e1 he
  obtain ⟨σ', b, t1, h58, hA, hX, hR, hf⟩ := t H1
  rw [g2.2.1] at t1
  obtain ⟨k1, k2⟩ := cl_tw g2 C1 σ'
  have e3 := t_thrown (Ω := Ω) (d := d + 39) (h := H1) (x := x) (A := A) (σ := σ')
  rw [h58] at e3
  exact ⟨_, _, _, σ', _, l_add (by decide) h7 hN W.ws g2.ws g2.wx k1.wx e2 t1 e3 (fun q => nomatch q), ⟨L, op, Cu, Cm, cm, tx, fa, R, a, cols, rows, k1, k2, hS, hA, hX, hR, hm, hf, hb1, hb2⟩, n.gr hk hm'⟩
theorem p_add_2 (h7 : 7 * i + 7 ≤ N) (hN : N ≤ 336) (W : Wd Ω H s N f w x A σ) (hc : H.1 c = some (.inr (0, fs))) (e1 : gM PG Ω (d + 39) 14 [.ref c, .long (lj (f (7 * i + 1)) (f (7 * i + 2))), .long (lj (f (7 * i + 3)) (f (7 * i + 4))), .long (lj (f (7 * i + 5)) (f (7 * i + 6)))] H = some (.threw e, H1)) (he : H1.1 e = some (.inr (25, []))) (n : NW k m H H1) (hk : k ≤ 12000) (hm' : m ≤ 150000) (C1 : CpR Ω H1 c L op Cu Cm cm tx fa R cols.length) (t : ∀ h, ∃ σ' b, gM PG Ω (d + 40) 38 [.ref x, .long (lj (f (7 * i + 1)) (f (7 * i + 2))), .long (lj (f (7 * i + 3)) (f (7 * i + 4))), .long (lj (f (7 * i + 5)) (f (7 * i + 6)))] (tW h x A σ) = some (.returned (some (.int b)), tW h x A σ') ∧ σ'.1 58 = nI 2 ∧ TSto σ' a ∧ TxL σ' tx ∧ RwL σ' cols rows ∧ σ'.1 14 = fa) (hS : StR L op Cu Cm cm a) (hm : R.map (fun r => r.2) = rows.map (fun q => cols.map q)) (hb1 : (flC Cm).length + Cu.length ≤ i + 1) (hb2 : Cm.length ≤ i + 1) : StpL Ω d H s N f w x A c i l5 l6 l7 104 := by
  have g2 := W.nw n
  have e2 := w_add_2 (w := w) hc e1 he
  obtain ⟨σ', b, t1, h58, hA, hX, hR, hf⟩ := t H1
  rw [g2.2.1] at t1
  obtain ⟨k1, k2⟩ := cl_tw g2 C1 σ'
  have e3 := t_thrown (Ω := Ω) (d := d + 39) (h := H1) (x := x) (A := A) (σ := σ')
  rw [h58] at e3
  exact ⟨_, _, _, σ', _, l_add (by decide) h7 hN W.ws g2.ws g2.wx k1.wx e2 t1 e3 (fun q => nomatch q), ⟨L, op, Cu, Cm, cm, tx, fa, R, a, cols, rows, k1, k2, hS, hA, hX, hR, hm, hf, hb1, hb2⟩, n.gr hk hm'⟩
theorem p_remove_ok (h7 : 7 * i + 7 ≤ N) (hN : N ≤ 336) (W : Wd Ω H s N f w x A σ) (hc : H.1 c = some (.inr (0, fs))) (e : gM PG Ω (d + 39) 21 [.ref c, .long (lj (f (7 * i + 1)) (f (7 * i + 2))), .long (lj (f (7 * i + 3)) (f (7 * i + 4))), .long (lj (f (7 * i + 5)) (f (7 * i + 6)))] H = some (.returned (some (.int v)), H1)) (n : NW k m H H1) (hk : k ≤ 12000) (hm' : m ≤ 150000) (C1 : CpR Ω H1 c L op Cu Cm cm tx fa R cols.length) (t : ∀ h, ∃ σ', gM PG Ω (d + 40) 48 [.ref x, .long (lj (f (7 * i + 1)) (f (7 * i + 2))), .long (lj (f (7 * i + 3)) (f (7 * i + 4))), .long (lj (f (7 * i + 5)) (f (7 * i + 6)))] (tW h x A σ) = some (.returned (some (.int v)), tW h x A σ') ∧ σ'.1 58 = nI 0 ∧ TSto σ' a ∧ TxL σ' tx ∧ RwL σ' cols rows ∧ σ'.1 14 = fa) (hS : StR L op Cu Cm cm a) (hm : R.map (fun r => r.2) = rows.map (fun q => cols.map q)) (hb1 : (flC Cm).length + Cu.length ≤ i + 1) (hb2 : Cm.length ≤ i + 1) : StpL Ω d H s N f w x A c i l5 l6 l7 282 := by
  obtain ⟨g, g1, g2, g3⟩ := cl_ok W n C1 (v.toInt64)
  have e1 := w_remove_ok hc g1 W.wz e
  obtain ⟨σ', t1, h58, hA, hX, hR, hf⟩ := t (hput H1 w (arL 1 (va_up g 0 (v.toInt64))))
  rw [g2.2.1] at t1
  obtain ⟨k1, k2⟩ := cl_tw g2 g3 σ'
  have e3 := t_thrown (Ω := Ω) (d := d + 39) (h := hput H1 w (arL 1 (va_up g 0 (v.toInt64)))) (x := x) (A := A) (σ := σ')
  rw [h58] at e3
  exact ⟨_, _, _, σ', _, l_remove (by decide) h7 hN W.ws g2.ws g2.wx k1.wx e1 t1 e3 (fun _ => ⟨_, (tw_wout g2 σ').trans hput_e, vu0⟩), ⟨L, op, Cu, Cm, cm, tx, fa, R, a, cols, rows, k1, k2, hS, hA, hX, hR, hm, hf, hb1, hb2⟩, n.gr hk hm'⟩
theorem p_remove_1 (h7 : 7 * i + 7 ≤ N) (hN : N ≤ 336) (W : Wd Ω H s N f w x A σ) (hc : H.1 c = some (.inr (0, fs))) (e1 : gM PG Ω (d + 39) 21 [.ref c, .long (lj (f (7 * i + 1)) (f (7 * i + 2))), .long (lj (f (7 * i + 3)) (f (7 * i + 4))), .long (lj (f (7 * i + 5)) (f (7 * i + 6)))] H = some (.threw e, H1)) (he : H1.1 e = some (.inr (24, []))) (n : NW k m H H1) (hk : k ≤ 12000) (hm' : m ≤ 150000) (C1 : CpR Ω H1 c L op Cu Cm cm tx fa R cols.length) (t : ∀ h, ∃ σ' b, gM PG Ω (d + 40) 48 [.ref x, .long (lj (f (7 * i + 1)) (f (7 * i + 2))), .long (lj (f (7 * i + 3)) (f (7 * i + 4))), .long (lj (f (7 * i + 5)) (f (7 * i + 6)))] (tW h x A σ) = some (.returned (some (.int b)), tW h x A σ') ∧ σ'.1 58 = nI 1 ∧ TSto σ' a ∧ TxL σ' tx ∧ RwL σ' cols rows ∧ σ'.1 14 = fa) (hS : StR L op Cu Cm cm a) (hm : R.map (fun r => r.2) = rows.map (fun q => cols.map q)) (hb1 : (flC Cm).length + Cu.length ≤ i + 1) (hb2 : Cm.length ≤ i + 1) : StpL Ω d H s N f w x A c i l5 l6 l7 282 := by
  have g2 := W.nw n
  have e2 := w_remove_1 (w := w) hc e1 he
  obtain ⟨σ', b, t1, h58, hA, hX, hR, hf⟩ := t H1
  rw [g2.2.1] at t1
  obtain ⟨k1, k2⟩ := cl_tw g2 C1 σ'
  have e3 := t_thrown (Ω := Ω) (d := d + 39) (h := H1) (x := x) (A := A) (σ := σ')
  rw [h58] at e3
  exact ⟨_, _, _, σ', _, l_remove (by decide) h7 hN W.ws g2.ws g2.wx k1.wx e2 t1 e3 (fun q => nomatch q), ⟨L, op, Cu, Cm, cm, tx, fa, R, a, cols, rows, k1, k2, hS, hA, hX, hR, hm, hf, hb1, hb2⟩, n.gr hk hm'⟩
theorem p_begin_ok (h7 : 7 * i + 7 ≤ N) (hN : N ≤ 336) (W : Wd Ω H s N f w x A σ) (hc : H.1 c = some (.inr (0, fs))) (e : gM PG Ω (d + 39) 23 [.ref c] H = some (.returned (some (.int v)), H1)) (n : NW k m H H1) (hk : k ≤ 12000) (hm' : m ≤ 150000) (C1 : CpR Ω H1 c L op Cu Cm cm tx fa R cols.length) (t : ∀ h, ∃ σ', gM PG Ω (d + 40) 49 [.ref x] (tW h x A σ) = some (.returned (some (.int v)), tW h x A σ') ∧ σ'.1 58 = nI 0 ∧ TSto σ' a ∧ TxL σ' tx ∧ RwL σ' cols rows ∧ σ'.1 14 = fa) (hS : StR L op Cu Cm cm a) (hm : R.map (fun r => r.2) = rows.map (fun q => cols.map q)) (hb1 : (flC Cm).length + Cu.length ≤ i + 1) (hb2 : Cm.length ≤ i + 1) : StpL Ω d H s N f w x A c i l5 l6 l7 460 := by
  obtain ⟨g, g1, g2, g3⟩ := cl_ok W n C1 (v.toInt64)
  have e1 := w_begin_ok hc g1 W.wz e
  obtain ⟨σ', t1, h58, hA, hX, hR, hf⟩ := t (hput H1 w (arL 1 (va_up g 0 (v.toInt64))))
  rw [g2.2.1] at t1
  obtain ⟨k1, k2⟩ := cl_tw g2 g3 σ'
  have e3 := t_thrown (Ω := Ω) (d := d + 39) (h := hput H1 w (arL 1 (va_up g 0 (v.toInt64)))) (x := x) (A := A) (σ := σ')
  rw [h58] at e3
  exact ⟨_, _, _, σ', _, l_begin (by decide) h7 hN W.ws g2.ws g2.wx k1.wx e1 t1 e3 (fun _ => ⟨_, (tw_wout g2 σ').trans hput_e, vu0⟩), ⟨L, op, Cu, Cm, cm, tx, fa, R, a, cols, rows, k1, k2, hS, hA, hX, hR, hm, hf, hb1, hb2⟩, n.gr hk hm'⟩
theorem p_begin_1 (h7 : 7 * i + 7 ≤ N) (hN : N ≤ 336) (W : Wd Ω H s N f w x A σ) (hc : H.1 c = some (.inr (0, fs))) (e1 : gM PG Ω (d + 39) 23 [.ref c] H = some (.threw e, H1)) (he : H1.1 e = some (.inr (25, []))) (n : NW k m H H1) (hk : k ≤ 12000) (hm' : m ≤ 150000) (C1 : CpR Ω H1 c L op Cu Cm cm tx fa R cols.length) (t : ∀ h, ∃ σ' b, gM PG Ω (d + 40) 49 [.ref x] (tW h x A σ) = some (.returned (some (.int b)), tW h x A σ') ∧ σ'.1 58 = nI 1 ∧ TSto σ' a ∧ TxL σ' tx ∧ RwL σ' cols rows ∧ σ'.1 14 = fa) (hS : StR L op Cu Cm cm a) (hm : R.map (fun r => r.2) = rows.map (fun q => cols.map q)) (hb1 : (flC Cm).length + Cu.length ≤ i + 1) (hb2 : Cm.length ≤ i + 1) : StpL Ω d H s N f w x A c i l5 l6 l7 460 := by
  have g2 := W.nw n
  have e2 := w_begin_1 (w := w) hc e1 he
  obtain ⟨σ', b, t1, h58, hA, hX, hR, hf⟩ := t H1
  rw [g2.2.1] at t1
  obtain ⟨k1, k2⟩ := cl_tw g2 C1 σ'
  have e3 := t_thrown (Ω := Ω) (d := d + 39) (h := H1) (x := x) (A := A) (σ := σ')
  rw [h58] at e3
  exact ⟨_, _, _, σ', _, l_begin (by decide) h7 hN W.ws g2.ws g2.wx k1.wx e2 t1 e3 (fun q => nomatch q), ⟨L, op, Cu, Cm, cm, tx, fa, R, a, cols, rows, k1, k2, hS, hA, hX, hR, hm, hf, hb1, hb2⟩, n.gr hk hm'⟩
theorem p_commit_ok (h7 : 7 * i + 7 ≤ N) (hN : N ≤ 336) (W : Wd Ω H s N f w x A σ) (hc : H.1 c = some (.inr (0, fs))) (e : gM PG Ω (d + 39) 24 [.ref c] H = some (.returned (some (.int v)), H1)) (n : NW k m H H1) (hk : k ≤ 12000) (hm' : m ≤ 150000) (C1 : CpR Ω H1 c L op Cu Cm cm tx fa R cols.length) (t : ∀ h, ∃ σ', gM PG Ω (d + 40) 50 [.ref x] (tW h x A σ) = some (.returned (some (.int v)), tW h x A σ') ∧ σ'.1 58 = nI 0 ∧ TSto σ' a ∧ TxL σ' tx ∧ RwL σ' cols rows ∧ σ'.1 14 = fa) (hS : StR L op Cu Cm cm a) (hm : R.map (fun r => r.2) = rows.map (fun q => cols.map q)) (hb1 : (flC Cm).length + Cu.length ≤ i + 1) (hb2 : Cm.length ≤ i + 1) : StpL Ω d H s N f w x A c i l5 l6 l7 504 := by
  obtain ⟨g, g1, g2, g3⟩ := cl_ok W n C1 (v.toInt64)
  have e1 := w_commit_ok hc g1 W.wz e
  obtain ⟨σ', t1, h58, hA, hX, hR, hf⟩ := t (hput H1 w (arL 1 (va_up g 0 (v.toInt64))))
  rw [g2.2.1] at t1
  obtain ⟨k1, k2⟩ := cl_tw g2 g3 σ'
  have e3 := t_thrown (Ω := Ω) (d := d + 39) (h := hput H1 w (arL 1 (va_up g 0 (v.toInt64)))) (x := x) (A := A) (σ := σ')
  rw [h58] at e3
  exact ⟨_, _, _, σ', _, l_commit (by decide) h7 hN W.ws g2.ws g2.wx k1.wx e1 t1 e3 (fun _ => ⟨_, (tw_wout g2 σ').trans hput_e, vu0⟩), ⟨L, op, Cu, Cm, cm, tx, fa, R, a, cols, rows, k1, k2, hS, hA, hX, hR, hm, hf, hb1, hb2⟩, n.gr hk hm'⟩
theorem p_commit_1 (h7 : 7 * i + 7 ≤ N) (hN : N ≤ 336) (W : Wd Ω H s N f w x A σ) (hc : H.1 c = some (.inr (0, fs))) (e1 : gM PG Ω (d + 39) 24 [.ref c] H = some (.threw e, H1)) (he : H1.1 e = some (.inr (25, []))) (n : NW k m H H1) (hk : k ≤ 12000) (hm' : m ≤ 150000) (C1 : CpR Ω H1 c L op Cu Cm cm tx fa R cols.length) (t : ∀ h, ∃ σ' b, gM PG Ω (d + 40) 50 [.ref x] (tW h x A σ) = some (.returned (some (.int b)), tW h x A σ') ∧ σ'.1 58 = nI 1 ∧ TSto σ' a ∧ TxL σ' tx ∧ RwL σ' cols rows ∧ σ'.1 14 = fa) (hS : StR L op Cu Cm cm a) (hm : R.map (fun r => r.2) = rows.map (fun q => cols.map q)) (hb1 : (flC Cm).length + Cu.length ≤ i + 1) (hb2 : Cm.length ≤ i + 1) : StpL Ω d H s N f w x A c i l5 l6 l7 504 := by
  have g2 := W.nw n
  have e2 := w_commit_1 (w := w) hc e1 he
  obtain ⟨σ', b, t1, h58, hA, hX, hR, hf⟩ := t H1
  rw [g2.2.1] at t1
  obtain ⟨k1, k2⟩ := cl_tw g2 C1 σ'
  have e3 := t_thrown (Ω := Ω) (d := d + 39) (h := H1) (x := x) (A := A) (σ := σ')
  rw [h58] at e3
  exact ⟨_, _, _, σ', _, l_commit (by decide) h7 hN W.ws g2.ws g2.wx k1.wx e2 t1 e3 (fun q => nomatch q), ⟨L, op, Cu, Cm, cm, tx, fa, R, a, cols, rows, k1, k2, hS, hA, hX, hR, hm, hf, hb1, hb2⟩, n.gr hk hm'⟩
theorem p_rollback_ok (h7 : 7 * i + 7 ≤ N) (hN : N ≤ 336) (W : Wd Ω H s N f w x A σ) (hc : H.1 c = some (.inr (0, fs))) (e : gM PG Ω (d + 39) 26 [.ref c] H = some (.returned (some (.int v)), H1)) (n : NW k m H H1) (hk : k ≤ 12000) (hm' : m ≤ 150000) (C1 : CpR Ω H1 c L op Cu Cm cm tx fa R cols.length) (t : ∀ h, ∃ σ', gM PG Ω (d + 40) 51 [.ref x] (tW h x A σ) = some (.returned (some (.int v)), tW h x A σ') ∧ σ'.1 58 = nI 0 ∧ TSto σ' a ∧ TxL σ' tx ∧ RwL σ' cols rows ∧ σ'.1 14 = fa) (hS : StR L op Cu Cm cm a) (hm : R.map (fun r => r.2) = rows.map (fun q => cols.map q)) (hb1 : (flC Cm).length + Cu.length ≤ i + 1) (hb2 : Cm.length ≤ i + 1) : StpL Ω d H s N f w x A c i l5 l6 l7 548 := by
  obtain ⟨g, g1, g2, g3⟩ := cl_ok W n C1 (v.toInt64)
  have e1 := w_rollback_ok hc g1 W.wz e
  obtain ⟨σ', t1, h58, hA, hX, hR, hf⟩ := t (hput H1 w (arL 1 (va_up g 0 (v.toInt64))))
  rw [g2.2.1] at t1
  obtain ⟨k1, k2⟩ := cl_tw g2 g3 σ'
  have e3 := t_thrown (Ω := Ω) (d := d + 39) (h := hput H1 w (arL 1 (va_up g 0 (v.toInt64)))) (x := x) (A := A) (σ := σ')
  rw [h58] at e3
  exact ⟨_, _, _, σ', _, l_rollback (by decide) h7 hN W.ws g2.ws g2.wx k1.wx e1 t1 e3 (fun _ => ⟨_, (tw_wout g2 σ').trans hput_e, vu0⟩), ⟨L, op, Cu, Cm, cm, tx, fa, R, a, cols, rows, k1, k2, hS, hA, hX, hR, hm, hf, hb1, hb2⟩, n.gr hk hm'⟩
theorem p_rollback_1 (h7 : 7 * i + 7 ≤ N) (hN : N ≤ 336) (W : Wd Ω H s N f w x A σ) (hc : H.1 c = some (.inr (0, fs))) (e1 : gM PG Ω (d + 39) 26 [.ref c] H = some (.threw e, H1)) (he : H1.1 e = some (.inr (25, []))) (n : NW k m H H1) (hk : k ≤ 12000) (hm' : m ≤ 150000) (C1 : CpR Ω H1 c L op Cu Cm cm tx fa R cols.length) (t : ∀ h, ∃ σ' b, gM PG Ω (d + 40) 51 [.ref x] (tW h x A σ) = some (.returned (some (.int b)), tW h x A σ') ∧ σ'.1 58 = nI 1 ∧ TSto σ' a ∧ TxL σ' tx ∧ RwL σ' cols rows ∧ σ'.1 14 = fa) (hS : StR L op Cu Cm cm a) (hm : R.map (fun r => r.2) = rows.map (fun q => cols.map q)) (hb1 : (flC Cm).length + Cu.length ≤ i + 1) (hb2 : Cm.length ≤ i + 1) : StpL Ω d H s N f w x A c i l5 l6 l7 548 := by
  have g2 := W.nw n
  have e2 := w_rollback_1 (w := w) hc e1 he
  obtain ⟨σ', b, t1, h58, hA, hX, hR, hf⟩ := t H1
  rw [g2.2.1] at t1
  obtain ⟨k1, k2⟩ := cl_tw g2 C1 σ'
  have e3 := t_thrown (Ω := Ω) (d := d + 39) (h := H1) (x := x) (A := A) (σ := σ')
  rw [h58] at e3
  exact ⟨_, _, _, σ', _, l_rollback (by decide) h7 hN W.ws g2.ws g2.wx k1.wx e2 t1 e3 (fun q => nomatch q), ⟨L, op, Cu, Cm, cm, tx, fa, R, a, cols, rows, k1, k2, hS, hA, hX, hR, hm, hf, hb1, hb2⟩, n.gr hk hm'⟩
theorem p_crash_ok (h7 : 7 * i + 7 ≤ N) (hN : N ≤ 336) (W : Wd Ω H s N f w x A σ) (hc : H.1 c = some (.inr (0, fs))) (e : gM PG Ω (d + 39) 29 [.ref c, .int (f (7 * i + 1))] H = some (.returned (some (.int v)), H1)) (n : NW k m H H1) (hk : k ≤ 12000) (hm' : m ≤ 150000) (C1 : CpR Ω H1 c L op Cu Cm cm tx fa R cols.length) (t : ∀ h, ∃ σ', gM PG Ω (d + 40) 55 [.ref x, .int (f (7 * i + 1))] (tW h x A σ) = some (.returned (some (.int v)), tW h x A σ') ∧ σ'.1 58 = nI 0 ∧ TSto σ' a ∧ TxL σ' tx ∧ RwL σ' cols rows ∧ σ'.1 14 = fa) (hS : StR L op Cu Cm cm a) (hm : R.map (fun r => r.2) = rows.map (fun q => cols.map q)) (hb1 : (flC Cm).length + Cu.length ≤ i + 1) (hb2 : Cm.length ≤ i + 1) : StpL Ω d H s N f w x A c i l5 l6 l7 605 := by
  obtain ⟨g, g1, g2, g3⟩ := cl_ok W n C1 (v.toInt64)
  have e1 := w_crash_ok hc g1 W.wz e
  obtain ⟨σ', t1, h58, hA, hX, hR, hf⟩ := t (hput H1 w (arL 1 (va_up g 0 (v.toInt64))))
  rw [g2.2.1] at t1
  obtain ⟨k1, k2⟩ := cl_tw g2 g3 σ'
  have e3 := t_thrown (Ω := Ω) (d := d + 39) (h := hput H1 w (arL 1 (va_up g 0 (v.toInt64)))) (x := x) (A := A) (σ := σ')
  rw [h58] at e3
  exact ⟨_, _, _, σ', _, l_crash (by decide) h7 hN W.ws g2.ws g2.wx k1.wx e1 t1 e3 (fun _ => ⟨_, (tw_wout g2 σ').trans hput_e, vu0⟩), ⟨L, op, Cu, Cm, cm, tx, fa, R, a, cols, rows, k1, k2, hS, hA, hX, hR, hm, hf, hb1, hb2⟩, n.gr hk hm'⟩
theorem p_crash_1 (h7 : 7 * i + 7 ≤ N) (hN : N ≤ 336) (W : Wd Ω H s N f w x A σ) (hc : H.1 c = some (.inr (0, fs))) (e1 : gM PG Ω (d + 39) 29 [.ref c, .int (f (7 * i + 1))] H = some (.threw e, H1)) (he : H1.1 e = some (.inr (24, []))) (n : NW k m H H1) (hk : k ≤ 12000) (hm' : m ≤ 150000) (C1 : CpR Ω H1 c L op Cu Cm cm tx fa R cols.length) (t : ∀ h, ∃ σ' b, gM PG Ω (d + 40) 55 [.ref x, .int (f (7 * i + 1))] (tW h x A σ) = some (.returned (some (.int b)), tW h x A σ') ∧ σ'.1 58 = nI 1 ∧ TSto σ' a ∧ TxL σ' tx ∧ RwL σ' cols rows ∧ σ'.1 14 = fa) (hS : StR L op Cu Cm cm a) (hm : R.map (fun r => r.2) = rows.map (fun q => cols.map q)) (hb1 : (flC Cm).length + Cu.length ≤ i + 1) (hb2 : Cm.length ≤ i + 1) : StpL Ω d H s N f w x A c i l5 l6 l7 605 := by
  have g2 := W.nw n
  have e2 := w_crash_1 (w := w) hc e1 he
  obtain ⟨σ', b, t1, h58, hA, hX, hR, hf⟩ := t H1
  rw [g2.2.1] at t1
  obtain ⟨k1, k2⟩ := cl_tw g2 C1 σ'
  have e3 := t_thrown (Ω := Ω) (d := d + 39) (h := H1) (x := x) (A := A) (σ := σ')
  rw [h58] at e3
  exact ⟨_, _, _, σ', _, l_crash (by decide) h7 hN W.ws g2.ws g2.wx k1.wx e2 t1 e3 (fun q => nomatch q), ⟨L, op, Cu, Cm, cm, tx, fa, R, a, cols, rows, k1, k2, hS, hA, hX, hR, hm, hf, hb1, hb2⟩, n.gr hk hm'⟩
theorem p_append_ok (h7 : 7 * i + 7 ≤ N) (hN : N ≤ 336) (W : Wd Ω H s N f w x A σ) (hc : H.1 c = some (.inr (0, fs))) (e : gM PG Ω (d + 39) 31 [.ref c, .long (lj (f (7 * i + 1)) (f (7 * i + 2))), .int (f (7 * i + 3))] H = some (.returned (some (.int v)), H1)) (n : NW k m H H1) (hk : k ≤ 12000) (hm' : m ≤ 150000) (C1 : CpR Ω H1 c L op Cu Cm cm tx fa R cols.length) (t : ∀ h, ∃ σ', gM PG Ω (d + 40) 56 [.ref x, .long (lj (f (7 * i + 1)) (f (7 * i + 2))), .int (f (7 * i + 3))] (tW h x A σ) = some (.returned (some (.int v)), tW h x A σ') ∧ σ'.1 58 = nI 0 ∧ TSto σ' a ∧ TxL σ' tx ∧ RwL σ' cols rows ∧ σ'.1 14 = fa) (hS : StR L op Cu Cm cm a) (hm : R.map (fun r => r.2) = rows.map (fun q => cols.map q)) (hb1 : (flC Cm).length + Cu.length ≤ i + 1) (hb2 : Cm.length ≤ i + 1) : StpL Ω d H s N f w x A c i l5 l6 l7 661 := by
  obtain ⟨g, g1, g2, g3⟩ := cl_ok W n C1 (v.toInt64)
  have e1 := w_append_ok hc g1 W.wz e
  obtain ⟨σ', t1, h58, hA, hX, hR, hf⟩ := t (hput H1 w (arL 1 (va_up g 0 (v.toInt64))))
  rw [g2.2.1] at t1
  obtain ⟨k1, k2⟩ := cl_tw g2 g3 σ'
  have e3 := t_thrown (Ω := Ω) (d := d + 39) (h := hput H1 w (arL 1 (va_up g 0 (v.toInt64)))) (x := x) (A := A) (σ := σ')
  rw [h58] at e3
  exact ⟨_, _, _, σ', _, l_append (by decide) h7 hN W.ws g2.ws g2.wx k1.wx e1 t1 e3 (fun _ => ⟨_, (tw_wout g2 σ').trans hput_e, vu0⟩), ⟨L, op, Cu, Cm, cm, tx, fa, R, a, cols, rows, k1, k2, hS, hA, hX, hR, hm, hf, hb1, hb2⟩, n.gr hk hm'⟩
theorem p_append_1 (h7 : 7 * i + 7 ≤ N) (hN : N ≤ 336) (W : Wd Ω H s N f w x A σ) (hc : H.1 c = some (.inr (0, fs))) (e1 : gM PG Ω (d + 39) 31 [.ref c, .long (lj (f (7 * i + 1)) (f (7 * i + 2))), .int (f (7 * i + 3))] H = some (.threw e, H1)) (he : H1.1 e = some (.inr (24, []))) (n : NW k m H H1) (hk : k ≤ 12000) (hm' : m ≤ 150000) (C1 : CpR Ω H1 c L op Cu Cm cm tx fa R cols.length) (t : ∀ h, ∃ σ' b, gM PG Ω (d + 40) 56 [.ref x, .long (lj (f (7 * i + 1)) (f (7 * i + 2))), .int (f (7 * i + 3))] (tW h x A σ) = some (.returned (some (.int b)), tW h x A σ') ∧ σ'.1 58 = nI 1 ∧ TSto σ' a ∧ TxL σ' tx ∧ RwL σ' cols rows ∧ σ'.1 14 = fa) (hS : StR L op Cu Cm cm a) (hm : R.map (fun r => r.2) = rows.map (fun q => cols.map q)) (hb1 : (flC Cm).length + Cu.length ≤ i + 1) (hb2 : Cm.length ≤ i + 1) : StpL Ω d H s N f w x A c i l5 l6 l7 661 := by
  have g2 := W.nw n
  have e2 := w_append_1 (w := w) hc e1 he
  obtain ⟨σ', b, t1, h58, hA, hX, hR, hf⟩ := t H1
  rw [g2.2.1] at t1
  obtain ⟨k1, k2⟩ := cl_tw g2 C1 σ'
  have e3 := t_thrown (Ω := Ω) (d := d + 39) (h := H1) (x := x) (A := A) (σ := σ')
  rw [h58] at e3
  exact ⟨_, _, _, σ', _, l_append (by decide) h7 hN W.ws g2.ws g2.wx k1.wx e2 t1 e3 (fun q => nomatch q), ⟨L, op, Cu, Cm, cm, tx, fa, R, a, cols, rows, k1, k2, hS, hA, hX, hR, hm, hf, hb1, hb2⟩, n.gr hk hm'⟩
theorem p_append_2 (h7 : 7 * i + 7 ≤ N) (hN : N ≤ 336) (W : Wd Ω H s N f w x A σ) (hc : H.1 c = some (.inr (0, fs))) (e1 : gM PG Ω (d + 39) 31 [.ref c, .long (lj (f (7 * i + 1)) (f (7 * i + 2))), .int (f (7 * i + 3))] H = some (.threw e, H1)) (he : H1.1 e = some (.inr (25, []))) (n : NW k m H H1) (hk : k ≤ 12000) (hm' : m ≤ 150000) (C1 : CpR Ω H1 c L op Cu Cm cm tx fa R cols.length) (t : ∀ h, ∃ σ' b, gM PG Ω (d + 40) 56 [.ref x, .long (lj (f (7 * i + 1)) (f (7 * i + 2))), .int (f (7 * i + 3))] (tW h x A σ) = some (.returned (some (.int b)), tW h x A σ') ∧ σ'.1 58 = nI 2 ∧ TSto σ' a ∧ TxL σ' tx ∧ RwL σ' cols rows ∧ σ'.1 14 = fa) (hS : StR L op Cu Cm cm a) (hm : R.map (fun r => r.2) = rows.map (fun q => cols.map q)) (hb1 : (flC Cm).length + Cu.length ≤ i + 1) (hb2 : Cm.length ≤ i + 1) : StpL Ω d H s N f w x A c i l5 l6 l7 661 := by
  have g2 := W.nw n
  have e2 := w_append_2 (w := w) hc e1 he
  obtain ⟨σ', b, t1, h58, hA, hX, hR, hf⟩ := t H1
  rw [g2.2.1] at t1
  obtain ⟨k1, k2⟩ := cl_tw g2 C1 σ'
  have e3 := t_thrown (Ω := Ω) (d := d + 39) (h := H1) (x := x) (A := A) (σ := σ')
  rw [h58] at e3
  exact ⟨_, _, _, σ', _, l_append (by decide) h7 hN W.ws g2.ws g2.wx k1.wx e2 t1 e3 (fun q => nomatch q), ⟨L, op, Cu, Cm, cm, tx, fa, R, a, cols, rows, k1, k2, hS, hA, hX, hR, hm, hf, hb1, hb2⟩, n.gr hk hm'⟩
theorem p_ask_ok (h7 : 7 * i + 7 ≤ N) (hN : N ≤ 336) (W : Wd Ω H s N f w x A σ) (hc : H.1 c = some (.inr (0, fs))) (e : gM PG Ω (d + 39) 32 [.ref c] H = some (.returned (some (.int v)), H1)) (n : NW k m H H1) (hk : k ≤ 12000) (hm' : m ≤ 150000) (C1 : CpR Ω H1 c L op Cu Cm cm tx fa R cols.length) (t : ∀ h, ∃ σ', gM PG Ω (d + 40) 57 [.ref x] (tW h x A σ) = some (.returned (some (.int v)), tW h x A σ') ∧ σ'.1 58 = nI 0 ∧ TSto σ' a ∧ TxL σ' tx ∧ RwL σ' cols rows ∧ σ'.1 14 = fa) (hS : StR L op Cu Cm cm a) (hm : R.map (fun r => r.2) = rows.map (fun q => cols.map q)) (hb1 : (flC Cm).length + Cu.length ≤ i + 1) (hb2 : Cm.length ≤ i + 1) : StpL Ω d H s N f w x A c i l5 l6 l7 761 := by
  obtain ⟨g, g1, g2, g3⟩ := cl_ok W n C1 (v.toInt64)
  have e1 := w_ask_ok hc g1 W.wz e
  obtain ⟨σ', t1, h58, hA, hX, hR, hf⟩ := t (hput H1 w (arL 1 (va_up g 0 (v.toInt64))))
  rw [g2.2.1] at t1
  obtain ⟨k1, k2⟩ := cl_tw g2 g3 σ'
  have e3 := t_thrown (Ω := Ω) (d := d + 39) (h := hput H1 w (arL 1 (va_up g 0 (v.toInt64)))) (x := x) (A := A) (σ := σ')
  rw [h58] at e3
  exact ⟨_, _, _, σ', _, l_ask (by decide) h7 hN W.ws g2.ws g2.wx k1.wx e1 t1 e3 (fun _ => ⟨_, (tw_wout g2 σ').trans hput_e, vu0⟩), ⟨L, op, Cu, Cm, cm, tx, fa, R, a, cols, rows, k1, k2, hS, hA, hX, hR, hm, hf, hb1, hb2⟩, n.gr hk hm'⟩
theorem p_ask_1 (h7 : 7 * i + 7 ≤ N) (hN : N ≤ 336) (W : Wd Ω H s N f w x A σ) (hc : H.1 c = some (.inr (0, fs))) (e1 : gM PG Ω (d + 39) 32 [.ref c] H = some (.threw e, H1)) (he : H1.1 e = some (.inr (24, []))) (n : NW k m H H1) (hk : k ≤ 12000) (hm' : m ≤ 150000) (C1 : CpR Ω H1 c L op Cu Cm cm tx fa R cols.length) (t : ∀ h, ∃ σ' b, gM PG Ω (d + 40) 57 [.ref x] (tW h x A σ) = some (.returned (some (.int b)), tW h x A σ') ∧ σ'.1 58 = nI 1 ∧ TSto σ' a ∧ TxL σ' tx ∧ RwL σ' cols rows ∧ σ'.1 14 = fa) (hS : StR L op Cu Cm cm a) (hm : R.map (fun r => r.2) = rows.map (fun q => cols.map q)) (hb1 : (flC Cm).length + Cu.length ≤ i + 1) (hb2 : Cm.length ≤ i + 1) : StpL Ω d H s N f w x A c i l5 l6 l7 761 := by
  have g2 := W.nw n
  have e2 := w_ask_1 (w := w) hc e1 he
  obtain ⟨σ', b, t1, h58, hA, hX, hR, hf⟩ := t H1
  rw [g2.2.1] at t1
  obtain ⟨k1, k2⟩ := cl_tw g2 C1 σ'
  have e3 := t_thrown (Ω := Ω) (d := d + 39) (h := H1) (x := x) (A := A) (σ := σ')
  rw [h58] at e3
  exact ⟨_, _, _, σ', _, l_ask (by decide) h7 hN W.ws g2.ws g2.wx k1.wx e2 t1 e3 (fun q => nomatch q), ⟨L, op, Cu, Cm, cm, tx, fa, R, a, cols, rows, k1, k2, hS, hA, hX, hR, hm, hf, hb1, hb2⟩, n.gr hk hm'⟩
theorem p_ask_2 (h7 : 7 * i + 7 ≤ N) (hN : N ≤ 336) (W : Wd Ω H s N f w x A σ) (hc : H.1 c = some (.inr (0, fs))) (e1 : gM PG Ω (d + 39) 32 [.ref c] H = some (.threw e, H1)) (he : H1.1 e = some (.inr (25, []))) (n : NW k m H H1) (hk : k ≤ 12000) (hm' : m ≤ 150000) (C1 : CpR Ω H1 c L op Cu Cm cm tx fa R cols.length) (t : ∀ h, ∃ σ' b, gM PG Ω (d + 40) 57 [.ref x] (tW h x A σ) = some (.returned (some (.int b)), tW h x A σ') ∧ σ'.1 58 = nI 2 ∧ TSto σ' a ∧ TxL σ' tx ∧ RwL σ' cols rows ∧ σ'.1 14 = fa) (hS : StR L op Cu Cm cm a) (hm : R.map (fun r => r.2) = rows.map (fun q => cols.map q)) (hb1 : (flC Cm).length + Cu.length ≤ i + 1) (hb2 : Cm.length ≤ i + 1) : StpL Ω d H s N f w x A c i l5 l6 l7 761 := by
  have g2 := W.nw n
  have e2 := w_ask_2 (w := w) hc e1 he
  obtain ⟨σ', b, t1, h58, hA, hX, hR, hf⟩ := t H1
  rw [g2.2.1] at t1
  obtain ⟨k1, k2⟩ := cl_tw g2 C1 σ'
  have e3 := t_thrown (Ω := Ω) (d := d + 39) (h := H1) (x := x) (A := A) (σ := σ')
  rw [h58] at e3
  exact ⟨_, _, _, σ', _, l_ask (by decide) h7 hN W.ws g2.ws g2.wx k1.wx e2 t1 e3 (fun q => nomatch q), ⟨L, op, Cu, Cm, cm, tx, fa, R, a, cols, rows, k1, k2, hS, hA, hX, hR, hm, hf, hb1, hb2⟩, n.gr hk hm'⟩
theorem p_cell_ok (h7 : 7 * i + 7 ≤ N) (hN : N ≤ 336) (W : Wd Ω H s N f w x A σ) (hc : H.1 c = some (.inr (0, fs))) (e : gM PG Ω (d + 39) 34 [.ref c, .int (f (7 * i + 1)), .int (f (7 * i + 2))] H = some (.returned (some (.long u)), H1)) (n : NW k m H H1) (hk : k ≤ 12000) (hm' : m ≤ 150000) (C1 : CpR Ω H1 c L op Cu Cm cm tx fa R cols.length) (t : ∀ h, ∃ σ', gM PG Ω (d + 40) 92 [.ref x, .int (f (7 * i + 1)), .int (f (7 * i + 2))] (tW h x A σ) = some (.returned (some (.long u)), tW h x A σ') ∧ σ'.1 58 = nI 0 ∧ TSto σ' a ∧ TxL σ' tx ∧ RwL σ' cols rows ∧ σ'.1 14 = fa) (hS : StR L op Cu Cm cm a) (hm : R.map (fun r => r.2) = rows.map (fun q => cols.map q)) (hb1 : (flC Cm).length + Cu.length ≤ i + 1) (hb2 : Cm.length ≤ i + 1) : StpL Ω d H s N f w x A c i l5 l6 l7 818 := by
  obtain ⟨g, g1, g2, g3⟩ := cl_ok W n C1 (u)
  have e1 := w_cell_ok hc g1 W.wz e
  obtain ⟨σ', t1, h58, hA, hX, hR, hf⟩ := t (hput H1 w (arL 1 (va_up g 0 (u))))
  rw [g2.2.1] at t1
  obtain ⟨k1, k2⟩ := cl_tw g2 g3 σ'
  have e3 := t_thrown (Ω := Ω) (d := d + 39) (h := hput H1 w (arL 1 (va_up g 0 (u)))) (x := x) (A := A) (σ := σ')
  rw [h58] at e3
  exact ⟨_, _, _, σ', _, l_cell (by decide) h7 hN W.ws g2.ws g2.wx k1.wx e1 t1 e3 (fun _ => ⟨_, (tw_wout g2 σ').trans hput_e, vu0⟩), ⟨L, op, Cu, Cm, cm, tx, fa, R, a, cols, rows, k1, k2, hS, hA, hX, hR, hm, hf, hb1, hb2⟩, n.gr hk hm'⟩
theorem p_cell_1 (h7 : 7 * i + 7 ≤ N) (hN : N ≤ 336) (W : Wd Ω H s N f w x A σ) (hc : H.1 c = some (.inr (0, fs))) (e1 : gM PG Ω (d + 39) 34 [.ref c, .int (f (7 * i + 1)), .int (f (7 * i + 2))] H = some (.threw e, H1)) (he : H1.1 e = some (.inr (26, []))) (n : NW k m H H1) (hk : k ≤ 12000) (hm' : m ≤ 150000) (C1 : CpR Ω H1 c L op Cu Cm cm tx fa R cols.length) (t : ∀ h, ∃ σ' u, gM PG Ω (d + 40) 92 [.ref x, .int (f (7 * i + 1)), .int (f (7 * i + 2))] (tW h x A σ) = some (.returned (some (.long u)), tW h x A σ') ∧ σ'.1 58 = nI 1 ∧ TSto σ' a ∧ TxL σ' tx ∧ RwL σ' cols rows ∧ σ'.1 14 = fa) (hS : StR L op Cu Cm cm a) (hm : R.map (fun r => r.2) = rows.map (fun q => cols.map q)) (hb1 : (flC Cm).length + Cu.length ≤ i + 1) (hb2 : Cm.length ≤ i + 1) : StpL Ω d H s N f w x A c i l5 l6 l7 818 := by
  have g2 := W.nw n
  have e2 := w_cell_1 (w := w) hc e1 he
  obtain ⟨σ', b, t1, h58, hA, hX, hR, hf⟩ := t H1
  rw [g2.2.1] at t1
  obtain ⟨k1, k2⟩ := cl_tw g2 C1 σ'
  have e3 := t_thrown (Ω := Ω) (d := d + 39) (h := H1) (x := x) (A := A) (σ := σ')
  rw [h58] at e3
  exact ⟨_, _, _, σ', _, l_cell (by decide) h7 hN W.ws g2.ws g2.wx k1.wx e2 t1 e3 (fun q => nomatch q), ⟨L, op, Cu, Cm, cm, tx, fa, R, a, cols, rows, k1, k2, hS, hA, hX, hR, hm, hf, hb1, hb2⟩, n.gr hk hm'⟩
theorem p_cell_2 (h7 : 7 * i + 7 ≤ N) (hN : N ≤ 336) (W : Wd Ω H s N f w x A σ) (hc : H.1 c = some (.inr (0, fs))) (e1 : gM PG Ω (d + 39) 34 [.ref c, .int (f (7 * i + 1)), .int (f (7 * i + 2))] H = some (.threw e, H1)) (he : H1.1 e = some (.inr (27, []))) (n : NW k m H H1) (hk : k ≤ 12000) (hm' : m ≤ 150000) (C1 : CpR Ω H1 c L op Cu Cm cm tx fa R cols.length) (t : ∀ h, ∃ σ' u, gM PG Ω (d + 40) 92 [.ref x, .int (f (7 * i + 1)), .int (f (7 * i + 2))] (tW h x A σ) = some (.returned (some (.long u)), tW h x A σ') ∧ σ'.1 58 = nI 2 ∧ TSto σ' a ∧ TxL σ' tx ∧ RwL σ' cols rows ∧ σ'.1 14 = fa) (hS : StR L op Cu Cm cm a) (hm : R.map (fun r => r.2) = rows.map (fun q => cols.map q)) (hb1 : (flC Cm).length + Cu.length ≤ i + 1) (hb2 : Cm.length ≤ i + 1) : StpL Ω d H s N f w x A c i l5 l6 l7 818 := by
  have g2 := W.nw n
  have e2 := w_cell_2 (w := w) hc e1 he
  obtain ⟨σ', b, t1, h58, hA, hX, hR, hf⟩ := t H1
  rw [g2.2.1] at t1
  obtain ⟨k1, k2⟩ := cl_tw g2 C1 σ'
  have e3 := t_thrown (Ω := Ω) (d := d + 39) (h := H1) (x := x) (A := A) (σ := σ')
  rw [h58] at e3
  exact ⟨_, _, _, σ', _, l_cell (by decide) h7 hN W.ws g2.ws g2.wx k1.wx e2 t1 e3 (fun q => nomatch q), ⟨L, op, Cu, Cm, cm, tx, fa, R, a, cols, rows, k1, k2, hS, hA, hX, hR, hm, hf, hb1, hb2⟩, n.gr hk hm'⟩
theorem p_count_ok (h7 : 7 * i + 7 ≤ N) (hN : N ≤ 336) (W : Wd Ω H s N f w x A σ) (hc : H.1 c = some (.inr (0, fs))) (e : gM PG Ω (d + 39) 35 [.ref c, .int (f (7 * i + 1))] H = some (.returned (some (.int v)), H1)) (n : NW k m H H1) (hk : k ≤ 12000) (hm' : m ≤ 150000) (C1 : CpR Ω H1 c L op Cu Cm cm tx fa R cols.length) (t : ∀ h, ∃ σ', gM PG Ω (d + 40) 93 [.ref x, .int (f (7 * i + 1))] (tW h x A σ) = some (.returned (some (.int v)), tW h x A σ') ∧ σ'.1 58 = nI 0 ∧ TSto σ' a ∧ TxL σ' tx ∧ RwL σ' cols rows ∧ σ'.1 14 = fa) (hS : StR L op Cu Cm cm a) (hm : R.map (fun r => r.2) = rows.map (fun q => cols.map q)) (hb1 : (flC Cm).length + Cu.length ≤ i + 1) (hb2 : Cm.length ≤ i + 1) : StpL Ω d H s N f w x A c i l5 l6 l7 885 := by
  obtain ⟨g, g1, g2, g3⟩ := cl_ok W n C1 (v.toInt64)
  have e1 := w_count_ok hc g1 W.wz e
  obtain ⟨σ', t1, h58, hA, hX, hR, hf⟩ := t (hput H1 w (arL 1 (va_up g 0 (v.toInt64))))
  rw [g2.2.1] at t1
  obtain ⟨k1, k2⟩ := cl_tw g2 g3 σ'
  have e3 := t_thrown (Ω := Ω) (d := d + 39) (h := hput H1 w (arL 1 (va_up g 0 (v.toInt64)))) (x := x) (A := A) (σ := σ')
  rw [h58] at e3
  exact ⟨_, _, _, σ', _, l_count (by decide) h7 hN W.ws g2.ws g2.wx k1.wx e1 t1 e3 (fun _ => ⟨_, (tw_wout g2 σ').trans hput_e, vu0⟩), ⟨L, op, Cu, Cm, cm, tx, fa, R, a, cols, rows, k1, k2, hS, hA, hX, hR, hm, hf, hb1, hb2⟩, n.gr hk hm'⟩
theorem p_count_1 (h7 : 7 * i + 7 ≤ N) (hN : N ≤ 336) (W : Wd Ω H s N f w x A σ) (hc : H.1 c = some (.inr (0, fs))) (e1 : gM PG Ω (d + 39) 35 [.ref c, .int (f (7 * i + 1))] H = some (.threw e, H1)) (he : H1.1 e = some (.inr (24, []))) (n : NW k m H H1) (hk : k ≤ 12000) (hm' : m ≤ 150000) (C1 : CpR Ω H1 c L op Cu Cm cm tx fa R cols.length) (t : ∀ h, ∃ σ' b, gM PG Ω (d + 40) 93 [.ref x, .int (f (7 * i + 1))] (tW h x A σ) = some (.returned (some (.int b)), tW h x A σ') ∧ σ'.1 58 = nI 1 ∧ TSto σ' a ∧ TxL σ' tx ∧ RwL σ' cols rows ∧ σ'.1 14 = fa) (hS : StR L op Cu Cm cm a) (hm : R.map (fun r => r.2) = rows.map (fun q => cols.map q)) (hb1 : (flC Cm).length + Cu.length ≤ i + 1) (hb2 : Cm.length ≤ i + 1) : StpL Ω d H s N f w x A c i l5 l6 l7 885 := by
  have g2 := W.nw n
  have e2 := w_count_1 (w := w) hc e1 he
  obtain ⟨σ', b, t1, h58, hA, hX, hR, hf⟩ := t H1
  rw [g2.2.1] at t1
  obtain ⟨k1, k2⟩ := cl_tw g2 C1 σ'
  have e3 := t_thrown (Ω := Ω) (d := d + 39) (h := H1) (x := x) (A := A) (σ := σ')
  rw [h58] at e3
  exact ⟨_, _, _, σ', _, l_count (by decide) h7 hN W.ws g2.ws g2.wx k1.wx e2 t1 e3 (fun q => nomatch q), ⟨L, op, Cu, Cm, cm, tx, fa, R, a, cols, rows, k1, k2, hS, hA, hX, hR, hm, hf, hb1, hb2⟩, n.gr hk hm'⟩
theorem p_sync (W : Wd Ω H s N f w x A σ) (hc : H.1 c = some (.inr (0, fs))) (e : gM PG Ω (d + 40) 12 [.ref c] H = some (.returned (some (.int v)), H1)) (n : NW k m H H1) (hk : k ≤ 12000) (hm' : m ≤ 150000) (C1 : CpR Ω H1 c L op Cu Cm cm tx fa R cols.length) (t : ∀ h, ∃ σ', gM PG Ω (d + 40) 53 [.ref x] (tW h x A σ) = some (.returned (some (.int v)), tW h x A σ') ∧ TSto σ' a ∧ TxL σ' tx ∧ RwL σ' cols rows ∧ σ'.1 14 = fa) (hS : StR L op Cu Cm cm a) (hm : R.map (fun r => r.2) = rows.map (fun q => cols.map q)) (hb1 : (flC Cm).length + Cu.length ≤ i + 1) (hb2 : Cm.length ≤ i + 1) : StpL Ω d H s N f w x A c i l5 l6 l7 592 := by
  have g2 := W.nw n
  obtain ⟨σ', t1, hA, hX, hR, hf⟩ := t H1
  rw [g2.2.1] at t1
  obtain ⟨k1, k2⟩ := cl_tw g2 C1 σ'
  exact ⟨_, _, _, σ', _, l_sync hc g2.wx e t1, ⟨L, op, Cu, Cm, cm, tx, fa, R, a, cols, rows, k1, k2, hS, hA, hX, hR, hm, hf, hb1, hb2⟩, n.gr hk hm'⟩
theorem p_fault (W : Wd Ω H s N f w x A σ) (hc : H.1 c = some (.inr (0, fs))) (e : gM PG Ω (d + 40) 13 [.ref c] H = some (.returned (some (.int v)), H1)) (n : NW k m H H1) (hk : k ≤ 12000) (hm' : m ≤ 150000) (C1 : CpR Ω H1 c L op Cu Cm cm tx fa R cols.length) (t : ∀ h, ∃ σ', gM PG Ω (d + 40) 91 [.ref x] (tW h x A σ) = some (.returned (some (.int v)), tW h x A σ') ∧ TSto σ' a ∧ TxL σ' tx ∧ RwL σ' cols rows ∧ σ'.1 14 = fa) (hS : StR L op Cu Cm cm a) (hm : R.map (fun r => r.2) = rows.map (fun q => cols.map q)) (hb1 : (flC Cm).length + Cu.length ≤ i + 1) (hb2 : Cm.length ≤ i + 1) : StpL Ω d H s N f w x A c i l5 l6 l7 805 := by
  have g2 := W.nw n
  obtain ⟨σ', t1, hA, hX, hR, hf⟩ := t H1
  rw [g2.2.1] at t1
  obtain ⟨k1, k2⟩ := cl_tw g2 C1 σ'
  exact ⟨_, _, _, σ', _, l_fault hc g2.wx e t1, ⟨L, op, Cu, Cm, cm, tx, fa, R, a, cols, rows, k1, k2, hS, hA, hX, hR, hm, hf, hb1, hb2⟩, n.gr hk hm'⟩
end STP
