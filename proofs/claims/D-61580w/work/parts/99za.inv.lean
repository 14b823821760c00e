/-! LAW: one call of both sides -/
section LIV
variable {Ω : Om} {d : Nat} {H H1 : AH} {s N w x c k m i : Nat} {A : Nat → Nat} {σ σ' : Tw} {f : Nat → Int32} {L L' : List Tri} {op op' : Bool} {Cu Cu' : List Chg} {Cm Cm' : List (List Chg)} {cm cm' co : Nat} {tx cols : List Nat} {fa : Int32} {R : List Rw} {rows : List Sol} {a : TA} {I AI AL : List Nat} {l5 l6 l7 : Value}
theorem TSto.fx (h : TSto σ a) (y : Fx I AI AL σ σ') (hI : ∀ j ∈ [1, 3, 7, 8, 9, 10, 11], j ∉ I) (hA : ∀ j ∈ [5, 6], j ∉ AI) (hL : ∀ j ∈ [0, 2, 4], j ∉ AL) : TSto σ' a := by
  obtain ⟨h1, h2, h3, h4, h5, h6, h7, h8, h9, h10⟩ := h
  refine ⟨?_, ?_, ?_, ?_, ?_, ?_, ?_, ?_, ?_, ?_⟩
  · rw [y.2.2 0 (hL 0 (by decide))]; exact h1
  · rw [y.1 1 (hI 1 (by decide))]; exact h2
  · rw [y.2.2 2 (hL 2 (by decide))]; exact h3
  · rw [y.1 3 (hI 3 (by decide))]; exact h4
  · exact h5.of (y.2.2 4 (hL 4 (by decide))) (y.2.1 5 (hA 5 (by decide))) (y.2.1 6 (hA 6 (by decide)))
  · rw [y.1 7 (hI 7 (by decide))]; exact h6
  · rw [y.1 8 (hI 8 (by decide))]; exact h7
  · rw [y.1 9 (hI 9 (by decide))]; exact h8
  · rw [y.1 11 (hI 11 (by decide))]; exact h9
  · rw [y.1 10 (hI 10 (by decide))]; exact h10
theorem RwL.fx (h : RwL σ cols rows) (y : Fx I AI AL σ σ') (hI : 55 ∉ I ∧ 57 ∉ I) (hA : 56 ∉ AI ∧ 53 ∉ AI) (hL : 52 ∉ AL) : RwL σ' cols rows := by
  obtain ⟨h1, h2, h3, h4, h5, h6⟩ := h
  refine ⟨by rw [y.1 55 hI.1]; exact h1, by rw [y.1 57 hI.2]; exact h2, h3, h4, fun i v q => ?_, fun r s q => ?_⟩
  · rw [y.2.1 56 hA.1]; exact h5 i v q
  · rw [y.2.1 53 hA.2, y.2.2 52 hL]; exact h6 r s q
def Gr (k m : Nat) (H H2 : AH) : Prop := H.2.1 ≤ H2.2.1 ∧ H2.2.1 ≤ H.2.1 + k ∧ H.2.2 ≤ H2.2.2 ∧ H2.2.2 ≤ H.2.2 + m
theorem NW.gr (n : NW k m H H1) (hk : k ≤ 12000) (hm : m ≤ 150000) : Gr 12000 150000 H H1 := by
  obtain ⟨S, ⟨_, _, a1, a2, a3, a4, _⟩, _⟩ := n
  exact ⟨a1, by omega, a3, by omega⟩
/-- both sides stand together after i calls -/
def Iv (Ω : Om) (H : AH) (s N : Nat) (f : Nat → Int32) (w x : Nat) (A : Nat → Nat) (σ : Tw) (c i : Nat) : Prop := ∃ (L : List Tri) (op : Bool) (Cu : List Chg) (Cm : List (List Chg)) (cm : Nat) (tx : List Nat) (fa : Int32) (R : List Rw) (a : TA) (cols : List Nat) (rows : List Sol), Wd Ω H s N f w x A σ ∧ CpR Ω H c L op Cu Cm cm tx fa R cols.length ∧ StR L op Cu Cm cm a ∧ TSto σ a ∧ TxL σ tx ∧ RwL σ cols rows ∧ R.map (fun r => r.2) = rows.map (fun q => cols.map q) ∧ σ.1 14 = fa ∧ (flC Cm).length + Cu.length ≤ i ∧ Cm.length ≤ i
/-- what a call of the law gives -/
def StpL (Ω : Om) (d : Nat) (H : AH) (s N : Nat) (f : Nat → Int32) (w x : Nat) (A : Nat → Nat) (c i : Nat) (l5 l6 l7 : Value) (pc : Nat) : Prop := ∃ m5 m6 m7 σ' H2, gO PG Ω (d + 40) 0 pc [.ref s, .ref c, .ref x, .ref w, .int (nI (7 * i)), l5, l6, l7] [] H = gO PG Ω (d + 40) 0 941 [.ref s, .ref c, .ref x, .ref w, .int (nI (7 * i)), m5, m6, m7] [] H2 ∧ Iv Ω H2 s N f w x A σ' c (i + 1) ∧ Gr 12000 150000 H H2
theorem cl_ok (W : Wd Ω H s N f w x A σ) (n : NW k m H H1) (C1 : CpR Ω H1 c L op Cu Cm cm tx fa R co) (v : Int64) : ∃ g, H1.1 w = some (arL 1 g) ∧ Wd Ω (hput H1 w (arL 1 (va_up g 0 v))) s N f w x A σ ∧ CpR Ω (hput H1 w (arL 1 (va_up g 0 v))) c L op Cu Cm cm tx fa R co := by
  have W1 := W.nw n
  have W10 := W1
  obtain ⟨w1, w2, w3, ⟨g, w4⟩, _⟩ := W10
  exact ⟨g, w4, (W1.out (g := va_up g 0 v)).1, C1.keep (W1.out (g := va_up g 0 v)).2 W1.outk⟩
theorem cl_tw (W : Wd Ω H s N f w x A σ) (C : CpR Ω H c L op Cu Cm cm tx fa R co) (σ' : Tw) : Wd Ω (tW H x A σ') s N f w x A σ' ∧ CpR Ω (tW H x A σ') c L op Cu Cm cm tx fa R co := ⟨(W.tw (σ' := σ')).1, C.keep (W.tw (σ' := σ')).2 W.tk⟩
theorem vu0 {g : Nat → Int64} {v : Int64} : va_up g 0 v 0 = v := by unfold va_up; rw [if_pos rfl]
theorem tw_wout (W : Wd Ω H s N f w x A σ) (σ' : Tw) : (tW H x A σ').1 w = H.1 w := by
  obtain ⟨w1, w2, w3, ⟨g, w4⟩, ⟨w5, w6, w7⟩, _⟩ := W
  exact tw_out w6 (fun q hq => (w7 q hq).2)
theorem Wd.ws (W : Wd Ω H s N f w x A σ) : H.1 s = some (arI .int N f) := W.2.2.1
theorem Wd.wz (W : Wd Ω H s N f w x A σ) : Ω.sz ≤ w := W.2.2.2.2.2.1
end LIV
