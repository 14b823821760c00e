/-! INSTRUCTIONS: meaning (m_), soundness (snd_), equation (q_) -/
section ISEM
variable {nam : Nat → MethodName} {μ : Me} {pc : Nat} {pg : Pg} {Ω : Om} {d y : Nat} {lv st : List Value} {h : AH}
theorem snd_pure {sem : Sm} (H : ∀ (Ω : Om) (d : Nat) (orc : Orc) (lv st : List Value) (h : AH) (r : Cf ⊕ Rs), sem Ω d orc lv st h = some r → ∃ (pc' : Nat) (lv' st' : List Value), r = .inl (pc', lv', st', h) ∧ ∀ (mc ms : Nat) (P : Outcome → AH → Prop) (k n : Nat), VV Ω μ d mc ms P h k n pc' lv' st' → VV Ω μ d mc ms P h k n pc lv st) : Snd nam μ pc sem := by
  intro Ω d orc _ lv st h
  refine ⟨fun pc' lv' st' h' hr => ?_, fun o h' hr => ?_⟩
  · obtain ⟨p2, l2, s2, e, hk⟩ := H Ω d orc lv st h _ hr
    cases e
    refine ⟨Nat.le_refl _, Nat.le_refl _, fun mc ms P k n _ _ kk => ?_⟩
    simp only [Nat.sub_self, Nat.add_zero] at kk
    exact hk mc ms P k n kk
  · obtain ⟨p2, l2, s2, e, hk⟩ := H Ω d orc lv st h _ hr
    cases e
theorem snd_ret {sem : Sm} (H : ∀ (Ω : Om) (d : Nat) (orc : Orc) (lv st : List Value) (h : AH) (r : Cf ⊕ Rs), sem Ω d orc lv st h = some r → ∃ o : Outcome, r = .inr (o, h) ∧ ∀ (mc ms : Nat) (P : Outcome → AH → Prop) (k n : Nat), k ≤ mc → n ≤ ms → P o h → VV Ω μ d mc ms P h k n pc lv st) : Snd nam μ pc sem := by
  intro Ω d orc _ lv st h
  refine ⟨fun pc' lv' st' h' hr => ?_, fun o h' hr => ?_⟩
  · obtain ⟨o, e, hk⟩ := H Ω d orc lv st h _ hr
    cases e
  · obtain ⟨o, e, hk⟩ := H Ω d orc lv st h _ hr
    cases e
    refine ⟨Nat.le_refl _, Nat.le_refl _, fun mc ms P k n h1 h2 hP => ?_⟩
    simp only [Nat.sub_self, Nat.add_zero] at h1 h2
    exact hk mc ms P k n h1 h2 hP
def m_stuck : Sm := fun _ _ _ _ _ _ => none
theorem snd_stuck : Snd nam μ pc m_stuck := by
  intro Ω d orc _ lv st h
  exact ⟨fun _ _ _ _ hr => (by cases hr), fun _ _ hr => (by cases hr)⟩
theorem gO_of {sem : Sm} (hs : (pg y).2 pc = sem) : gO pg Ω d y pc lv st h = fin (sem Ω d (gM pg Ω d) lv st h) (fun c => gO pg Ω d y c.1 c.2.1 c.2.2.1 c.2.2.2) := by rw [← hs]; exact gO_eq

def m_const (v : Value) (q : Nat) : Sm := fun _ _ _ lv st h => some (.inl (q, lv, v :: st, h))
theorem snd_iconst {i : Int} {v : Int32} (hd : decode μ.2.1 pc = .ok (.iconst i, 1)) (hv0 : Int32.ofInt i = v) : Snd nam μ pc (m_const (.int v) (pc + 1)) := snd_pure (by
  intro Ω d orc lv st h r hr
  cases hr
  exact ⟨_, _, _, rfl, fun mc ms P k n kk => V.iconst hd hv0 kk⟩)
theorem snd_bipush {i : Int} {v : Int32} (hd : decode μ.2.1 pc = .ok (.bipush i, 2)) (hv0 : (Int8.ofInt i).toInt32 = v) : Snd nam μ pc (m_const (.int v) (pc + 2)) := snd_pure (by
  intro Ω d orc lv st h r hr
  cases hr
  exact ⟨_, _, _, rfl, fun mc ms P k n kk => V.bipush hd hv0 kk⟩)
theorem snd_sipush {i : Int} {v : Int32} (hd : decode μ.2.1 pc = .ok (.sipush i, 3)) (hv0 : (Int16.ofInt i).toInt32 = v) : Snd nam μ pc (m_const (.int v) (pc + 3)) := snd_pure (by
  intro Ω d orc lv st h r hr
  cases hr
  exact ⟨_, _, _, rfl, fun mc ms P k n kk => V.sipush hd hv0 kk⟩)
theorem snd_lconst {i : Fin 2} {v : Int64} (hd : decode μ.2.1 pc = .ok (.lconst i, 1)) (hv0 : Int64.ofNat (i : Nat) = v) : Snd nam μ pc (m_const (.long v) (pc + 1)) := snd_pure (by
  intro Ω d orc lv st h r hr
  cases hr
  exact ⟨_, _, _, rfl, fun mc ms P k n kk => V.lconst hd hv0 kk⟩)
theorem snd_null (hd : decode μ.2.1 pc = .ok (.aconst_null, 1)) : Snd nam μ pc (m_const .null (pc + 1)) := snd_pure (by
  intro Ω d orc lv st h r hr
  cases hr
  exact ⟨_, _, _, rfl, fun mc ms P k n kk => V.null hd kk⟩)
theorem snd_ldc {idx : Nat} {v : Int32} (hd : decode μ.2.1 pc = .ok (.ldc idx, 2)) (hc : Cond.constant μ.1.cls idx v ∈ lw_tbl) : Snd nam μ pc (m_const (.int v) (pc + 2)) := snd_pure (by
  intro Ω d orc lv st h r hr
  cases hr
  exact ⟨_, _, _, rfl, fun mc ms P k n kk => V.ldc hd hc kk⟩)
theorem snd_ldc2 {idx : Nat} {v : Int64} (hd : decode μ.2.1 pc = .ok (.ldc2_w idx, 3)) (hc : Cond.constantLong μ.1.cls idx v ∈ lw_tbl) : Snd nam μ pc (m_const (.long v) (pc + 3)) := snd_pure (by
  intro Ω d orc lv st h r hr
  cases hr
  exact ⟨_, _, _, rfl, fun mc ms P k n kk => V.ldc2 hd hc kk⟩)
theorem q_const {v : Value} {q : Nat} (hs : (pg y).2 pc = m_const v q) : gO pg Ω d y pc lv st h = gO pg Ω d y q lv (v :: st) h := gO_of hs
def m_gets (v : Om → Value) (q : Nat) : Sm := fun Ω _ _ lv st h => some (.inl (q, lv, v Ω :: st, h))
theorem snd_gets {C n0 d0 : String} {v : Om → Value} {idx : Nat} (hd : decode μ.2.1 pc = .ok (.getstatic idx, 3)) (hl0 : Cond.fieldLink μ.1.cls idx C n0 d0 ∈ lw_tbl) (hZ : ∀ Ω : Om, Ok Ω → va_Z C n0 d0 (v Ω) (fun _ => False) Ω.s Ω.s.heap) : Snd nam μ pc (m_gets v (pc + 3)) := snd_pure (by
  intro Ω d orc lv st h r hr
  cases hr
  exact ⟨_, _, _, rfl, fun mc ms P k n kk => V.gets hd hl0 (hZ Ω) kk⟩)
theorem q_gets {v : Om → Value} {q : Nat} (hs : (pg y).2 pc = m_gets v q) : gO pg Ω d y pc lv st h = gO pg Ω d y q lv (v Ω :: st) h := gO_of hs
theorem snd_ldcS {idx i : Nat} {tx : String} (hd : decode μ.2.1 pc = .ok (.ldc idx, 2)) (hl : lits[i]? = some (μ.1.cls, idx, tx)) : Snd nam μ pc (m_gets (fun Ω => .ref (Ω.k i)) (pc + 2)) := snd_pure (by
  intro Ω d orc lv st h r hr
  cases hr
  exact ⟨_, _, _, rfl, fun mc ms P k n kk => V.ldcS hd (fun hO => hO.2.2.2.1 i _ hl) kk⟩)

def m_iload (i q : Nat) : Sm := fun _ _ _ lv st h => match lv[i]? with
  | some (.int x) => some (.inl (q, lv, .int x :: st, h))
  | _ => none
theorem snd_iload_n {z : Fin 4} {i : Nat} (hd : decode μ.2.1 pc = .ok (.iload_n z, 1)) (hi : (z : Nat) = i) : Snd nam μ pc (m_iload i (pc + 1)) := snd_pure (by
  intro Ω d orc lv st h r hr
  unfold m_iload at hr
  split at hr
  · rename_i x hx
    cases hr
    exact ⟨_, _, _, rfl, fun mc ms P k n kk => V.iload_n hd hi (by have := prs_lookup (b := 0) hx rfl; rwa [Nat.zero_add] at this) kk⟩
  · cases hr)
theorem snd_iload {i : Nat} (hd : decode μ.2.1 pc = .ok (.iload i, 2)) : Snd nam μ pc (m_iload i (pc + 2)) := snd_pure (by
  intro Ω d orc lv st h r hr
  unfold m_iload at hr
  split at hr
  · rename_i x hx
    cases hr
    exact ⟨_, _, _, rfl, fun mc ms P k n kk => V.iload hd (by have := prs_lookup (b := 0) hx rfl; rwa [Nat.zero_add] at this) kk⟩
  · cases hr)
theorem q_iload {i q : Nat} {x : Int32} (hs : (pg y).2 pc = m_iload i q) (hx : lv[i]? = some (.int x)) : gO pg Ω d y pc lv st h = gO pg Ω d y q lv (.int x :: st) h := by
  rw [gO_of hs]; unfold m_iload; rw [hx]; rfl
def m_lload (i q : Nat) : Sm := fun _ _ _ lv st h => match lv[i]? with
  | some (.long x) => some (.inl (q, lv, .long x :: st, h))
  | _ => none
theorem snd_lload_n {z : Fin 4} {i : Nat} (hd : decode μ.2.1 pc = .ok (.lload_n z, 1)) (hi : (z : Nat) = i) : Snd nam μ pc (m_lload i (pc + 1)) := snd_pure (by
  intro Ω d orc lv st h r hr
  unfold m_lload at hr
  split at hr
  · rename_i x hx
    cases hr
    exact ⟨_, _, _, rfl, fun mc ms P k n kk => V.lload_n hd hi (by have := prs_lookup (b := 0) hx rfl; rwa [Nat.zero_add] at this) kk⟩
  · cases hr)
theorem snd_lload {i : Nat} (hd : decode μ.2.1 pc = .ok (.lload i, 2)) : Snd nam μ pc (m_lload i (pc + 2)) := snd_pure (by
  intro Ω d orc lv st h r hr
  unfold m_lload at hr
  split at hr
  · rename_i x hx
    cases hr
    exact ⟨_, _, _, rfl, fun mc ms P k n kk => V.lload hd (by have := prs_lookup (b := 0) hx rfl; rwa [Nat.zero_add] at this) kk⟩
  · cases hr)
theorem q_lload {i q : Nat} {x : Int64} (hs : (pg y).2 pc = m_lload i q) (hx : lv[i]? = some (.long x)) : gO pg Ω d y pc lv st h = gO pg Ω d y q lv (.long x :: st) h := by
  rw [gO_of hs]; unfold m_lload; rw [hx]; rfl
/-- a reference, else stuck -/
def cR (v : Value) (k : Option Rs) : Option Rs := match v with
  | .ref _ => k
  | .null => k
  | _ => none
def m_aload (i q : Nat) : Sm := fun _ _ _ lv st h => match lv[i]? with
  | some (.ref x) => some (.inl (q, lv, .ref x :: st, h))
  | some .null => some (.inl (q, lv, .null :: st, h))
  | _ => none
theorem snd_aload_n {z : Fin 4} {i : Nat} (hd : decode μ.2.1 pc = .ok (.aload_n z, 1)) (hi : (z : Nat) = i) : Snd nam μ pc (m_aload i (pc + 1)) := snd_pure (by
  intro Ω d orc lv st h r hr
  unfold m_aload at hr
  split at hr
  · rename_i x hx
    cases hr
    exact ⟨_, _, _, rfl, fun mc ms P k n kk => V.aload_n hd hi (by have := prs_lookup (b := 0) hx rfl; rwa [Nat.zero_add] at this) kk⟩
  · rename_i hx
    cases hr
    exact ⟨_, _, _, rfl, fun mc ms P k n kk => V.aload_nN hd hi (by have := prs_lookup (b := 0) hx rfl; rwa [Nat.zero_add] at this) kk⟩
  · cases hr)
theorem snd_aload {i : Nat} (hd : decode μ.2.1 pc = .ok (.aload i, 2)) : Snd nam μ pc (m_aload i (pc + 2)) := snd_pure (by
  intro Ω d orc lv st h r hr
  unfold m_aload at hr
  split at hr
  · rename_i x hx
    cases hr
    exact ⟨_, _, _, rfl, fun mc ms P k n kk => V.aload hd (by have := prs_lookup (b := 0) hx rfl; rwa [Nat.zero_add] at this) kk⟩
  · rename_i hx
    cases hr
    exact ⟨_, _, _, rfl, fun mc ms P k n kk => V.aloadN hd (by have := prs_lookup (b := 0) hx rfl; rwa [Nat.zero_add] at this) kk⟩
  · cases hr)
theorem q_aload {i q : Nat} {v : Value} (hs : (pg y).2 pc = m_aload i q) (hx : lv[i]? = some v) : gO pg Ω d y pc lv st h = cR v (gO pg Ω d y q lv (v :: st) h) := by
  rw [gO_of hs]; unfold m_aload cR; rw [hx]; cases v <;> rfl
/- stores -/
def m_istore (i q : Nat) : Sm := fun _ _ _ lv st h => match st with
  | .int x :: t => some (.inl (q, setL lv i (.int x), t, h))
  | _ => none
theorem snd_istore_n {z : Fin 4} {i : Nat} (hd : decode μ.2.1 pc = .ok (.istore_n z, 1)) (hi : (z : Nat) = i) (hn : i < μ.2.2.1) : Snd nam μ pc (m_istore i (pc + 1)) := snd_pure (by
  intro Ω d orc lv st h r hr
  unfold m_istore at hr
  split at hr
  · cases hr
    exact ⟨_, _, _, rfl, fun mc ms P k n kk => V.istore_n hd hi hn rfl (VV.sub prs_setL kk)⟩
  · cases hr)
theorem snd_istore {i : Nat} (hd : decode μ.2.1 pc = .ok (.istore i, 2)) (hn : i < μ.2.2.1) : Snd nam μ pc (m_istore i (pc + 2)) := snd_pure (by
  intro Ω d orc lv st h r hr
  unfold m_istore at hr
  split at hr
  · cases hr
    exact ⟨_, _, _, rfl, fun mc ms P k n kk => V.istore hd hn rfl (VV.sub prs_setL kk)⟩
  · cases hr)
theorem q_istore {i q : Nat} {x : Int32} (hs : (pg y).2 pc = m_istore i q) : gO pg Ω d y pc lv (.int x :: st) h = gO pg Ω d y q (setL lv i (.int x)) st h := gO_of hs
def m_lstore (i q : Nat) : Sm := fun _ _ _ lv st h => match st with
  | .long x :: t => some (.inl (q, setW lv i (.long x), t, h))
  | _ => none
theorem snd_lstore_n {z : Fin 4} {i : Nat} (hd : decode μ.2.1 pc = .ok (.lstore_n z, 1)) (hi : (z : Nat) = i) (hn : i + 1 < μ.2.2.1) : Snd nam μ pc (m_lstore i (pc + 1)) := snd_pure (by
  intro Ω d orc lv st h r hr
  unfold m_lstore at hr
  split at hr
  · cases hr
    exact ⟨_, _, _, rfl, fun mc ms P k n kk => V.lstore_n hd hi hn rfl (VV.sub prs_setW kk)⟩
  · cases hr)
theorem snd_lstore {i : Nat} (hd : decode μ.2.1 pc = .ok (.lstore i, 2)) (hn : i + 1 < μ.2.2.1) : Snd nam μ pc (m_lstore i (pc + 2)) := snd_pure (by
  intro Ω d orc lv st h r hr
  unfold m_lstore at hr
  split at hr
  · cases hr
    exact ⟨_, _, _, rfl, fun mc ms P k n kk => V.lstore hd hn rfl (VV.sub prs_setW kk)⟩
  · cases hr)
theorem q_lstore {i q : Nat} {x : Int64} (hs : (pg y).2 pc = m_lstore i q) : gO pg Ω d y pc lv (.long x :: st) h = gO pg Ω d y q (setW lv i (.long x)) st h := gO_of hs
def m_astore (i q : Nat) : Sm := fun _ _ _ lv st h => match st with
  | .ref x :: t => some (.inl (q, setL lv i (.ref x), t, h))
  | .null :: t => some (.inl (q, setL lv i .null, t, h))
  | _ => none
theorem snd_astore_n {z : Fin 4} {i : Nat} (hd : decode μ.2.1 pc = .ok (.astore_n z, 1)) (hi : (z : Nat) = i) (hn : i < μ.2.2.1) : Snd nam μ pc (m_astore i (pc + 1)) := snd_pure (by
  intro Ω d orc lv st h r hr
  unfold m_astore at hr
  split at hr
  · cases hr
    exact ⟨_, _, _, rfl, fun mc ms P k n kk => V.astore_n hd hi hn rfl (VV.sub prs_setL kk)⟩
  · cases hr
    exact ⟨_, _, _, rfl, fun mc ms P k n kk => V.astore_nN hd hi hn rfl (VV.sub prs_setL kk)⟩
  · cases hr)
theorem snd_astore {i : Nat} (hd : decode μ.2.1 pc = .ok (.astore i, 2)) (hn : i < μ.2.2.1) : Snd nam μ pc (m_astore i (pc + 2)) := snd_pure (by
  intro Ω d orc lv st h r hr
  unfold m_astore at hr
  split at hr
  · cases hr
    exact ⟨_, _, _, rfl, fun mc ms P k n kk => V.astore hd hn rfl (VV.sub prs_setL kk)⟩
  · cases hr
    exact ⟨_, _, _, rfl, fun mc ms P k n kk => V.astoreN hd hn rfl (VV.sub prs_setL kk)⟩
  · cases hr)
theorem q_astore {i q : Nat} {v : Value} (hs : (pg y).2 pc = m_astore i q) : gO pg Ω d y pc lv (v :: st) h = cR v (gO pg Ω d y q (setL lv i v) st h) := by
  rw [gO_of hs]; unfold m_astore cR; cases v <;> rfl
def m_iinc (i : Nat) (z : Int32) (q : Nat) : Sm := fun _ _ _ lv st h => match lv[i]? with
  | some (.int x) => some (.inl (q, setL lv i (.int (x + z)), st, h))
  | _ => none
theorem snd_iinc {i : Nat} {z : Int} {z2 : Int32} (hd : decode μ.2.1 pc = .ok (.iinc i z, 3)) (hz : Int32.ofInt z = z2) (hn : i < μ.2.2.1) : Snd nam μ pc (m_iinc i z2 (pc + 3)) := snd_pure (by
  intro Ω d orc lv st h r hr
  unfold m_iinc at hr
  split at hr
  · rename_i x hx
    cases hr
    exact ⟨_, _, _, rfl, fun mc ms P k n kk => V.iinc hd (by have := prs_lookup (b := 0) hx rfl; rwa [Nat.zero_add] at this) (by rw [hz]) hn rfl (VV.sub prs_setL kk)⟩
  · cases hr)
theorem q_iinc {i q : Nat} {z x : Int32} (hs : (pg y).2 pc = m_iinc i z q) (hx : lv[i]? = some (.int x)) : gO pg Ω d y pc lv st h = gO pg Ω d y q (setL lv i (.int (x + z))) st h := by
  rw [gO_of hs]; unfold m_iinc; rw [hx]; rfl

def m_ibin (f : Int32 → Int32 → Int32) (q : Nat) : Sm := fun _ _ _ lv st h => match st with
  | .int b :: .int a :: t => some (.inl (q, lv, .int (f a b) :: t, h))
  | _ => none
theorem snd_iadd (hd : decode μ.2.1 pc = .ok (.iadd, 1)) : Snd nam μ pc (m_ibin (fun a b => a + b) (pc + 1)) := snd_pure (by
  intro Ω d orc lv st h r hr
  unfold m_ibin at hr
  split at hr
  · cases hr
    exact ⟨_, _, _, rfl, fun mc ms P k n kk => V.iadd hd kk⟩
  · cases hr)
theorem snd_isub (hd : decode μ.2.1 pc = .ok (.isub, 1)) : Snd nam μ pc (m_ibin (fun a b => a - b) (pc + 1)) := snd_pure (by
  intro Ω d orc lv st h r hr
  unfold m_ibin at hr
  split at hr
  · cases hr
    exact ⟨_, _, _, rfl, fun mc ms P k n kk => V.isub hd kk⟩
  · cases hr)
theorem snd_imul (hd : decode μ.2.1 pc = .ok (.imul, 1)) : Snd nam μ pc (m_ibin (fun a b => a * b) (pc + 1)) := snd_pure (by
  intro Ω d orc lv st h r hr
  unfold m_ibin at hr
  split at hr
  · cases hr
    exact ⟨_, _, _, rfl, fun mc ms P k n kk => V.imul hd kk⟩
  · cases hr)
theorem snd_iand (hd : decode μ.2.1 pc = .ok (.iand, 1)) : Snd nam μ pc (m_ibin (fun a b => a &&& b) (pc + 1)) := snd_pure (by
  intro Ω d orc lv st h r hr
  unfold m_ibin at hr
  split at hr
  · cases hr
    exact ⟨_, _, _, rfl, fun mc ms P k n kk => V.iand hd kk⟩
  · cases hr)
theorem snd_ior (hd : decode μ.2.1 pc = .ok (.ior, 1)) : Snd nam μ pc (m_ibin (fun a b => a ||| b) (pc + 1)) := snd_pure (by
  intro Ω d orc lv st h r hr
  unfold m_ibin at hr
  split at hr
  · cases hr
    exact ⟨_, _, _, rfl, fun mc ms P k n kk => V.ior hd kk⟩
  · cases hr)
theorem snd_ishl (hd : decode μ.2.1 pc = .ok (.ishl, 1)) : Snd nam μ pc (m_ibin (fun a b => a <<< (b &&& 31)) (pc + 1)) := snd_pure (by
  intro Ω d orc lv st h r hr
  unfold m_ibin at hr
  split at hr
  · cases hr
    exact ⟨_, _, _, rfl, fun mc ms P k n kk => V.ishl hd kk⟩
  · cases hr)
theorem snd_ishr (hd : decode μ.2.1 pc = .ok (.ishr, 1)) : Snd nam μ pc (m_ibin (fun a b => a >>> (b &&& 31)) (pc + 1)) := snd_pure (by
  intro Ω d orc lv st h r hr
  unfold m_ibin at hr
  split at hr
  · cases hr
    exact ⟨_, _, _, rfl, fun mc ms P k n kk => V.ishr hd kk⟩
  · cases hr)
theorem q_ibin {f : Int32 → Int32 → Int32} {q : Nat} {a b : Int32} (hs : (pg y).2 pc = m_ibin f q) : gO pg Ω d y pc lv (.int b :: .int a :: st) h = gO pg Ω d y q lv (.int (f a b) :: st) h := gO_of hs
def m_iun (f : Int32 → Int32) (q : Nat) : Sm := fun _ _ _ lv st h => match st with
  | .int a :: t => some (.inl (q, lv, .int (f a) :: t, h))
  | _ => none
theorem snd_ineg (hd : decode μ.2.1 pc = .ok (.ineg, 1)) : Snd nam μ pc (m_iun (fun a => -a) (pc + 1)) := snd_pure (by
  intro Ω d orc lv st h r hr
  unfold m_iun at hr
  split at hr
  · cases hr
    exact ⟨_, _, _, rfl, fun mc ms P k n kk => V.ineg hd kk⟩
  · cases hr)
theorem snd_i2b (hd : decode μ.2.1 pc = .ok (.i2b, 1)) : Snd nam μ pc (m_iun (fun a => a.toInt8.toInt32) (pc + 1)) := snd_pure (by
  intro Ω d orc lv st h r hr
  unfold m_iun at hr
  split at hr
  · cases hr
    exact ⟨_, _, _, rfl, fun mc ms P k n kk => V.i2b hd kk⟩
  · cases hr)
theorem snd_i2c (hd : decode μ.2.1 pc = .ok (.i2c, 1)) : Snd nam μ pc (m_iun (fun a => (a.toUInt32 % 65536).toInt32) (pc + 1)) := snd_pure (by
  intro Ω d orc lv st h r hr
  unfold m_iun at hr
  split at hr
  · cases hr
    exact ⟨_, _, _, rfl, fun mc ms P k n kk => V.i2c hd kk⟩
  · cases hr)
theorem q_iun {f : Int32 → Int32} {q : Nat} {a : Int32} (hs : (pg y).2 pc = m_iun f q) : gO pg Ω d y pc lv (.int a :: st) h = gO pg Ω d y q lv (.int (f a) :: st) h := gO_of hs
def m_lbin (f : Int64 → Int64 → Int64) (q : Nat) : Sm := fun _ _ _ lv st h => match st with
  | .long b :: .long a :: t => some (.inl (q, lv, .long (f a b) :: t, h))
  | _ => none
theorem snd_ladd (hd : decode μ.2.1 pc = .ok (.ladd, 1)) : Snd nam μ pc (m_lbin (fun a b => a + b) (pc + 1)) := snd_pure (by
  intro Ω d orc lv st h r hr
  unfold m_lbin at hr
  split at hr
  · cases hr
    exact ⟨_, _, _, rfl, fun mc ms P k n kk => V.ladd hd kk⟩
  · cases hr)
theorem snd_lsub (hd : decode μ.2.1 pc = .ok (.lsub, 1)) : Snd nam μ pc (m_lbin (fun a b => a - b) (pc + 1)) := snd_pure (by
  intro Ω d orc lv st h r hr
  unfold m_lbin at hr
  split at hr
  · cases hr
    exact ⟨_, _, _, rfl, fun mc ms P k n kk => V.lsub hd kk⟩
  · cases hr)
theorem snd_lmul (hd : decode μ.2.1 pc = .ok (.lmul, 1)) : Snd nam μ pc (m_lbin (fun a b => a * b) (pc + 1)) := snd_pure (by
  intro Ω d orc lv st h r hr
  unfold m_lbin at hr
  split at hr
  · cases hr
    exact ⟨_, _, _, rfl, fun mc ms P k n kk => V.lmul hd kk⟩
  · cases hr)
theorem snd_land (hd : decode μ.2.1 pc = .ok (.land, 1)) : Snd nam μ pc (m_lbin (fun a b => a &&& b) (pc + 1)) := snd_pure (by
  intro Ω d orc lv st h r hr
  unfold m_lbin at hr
  split at hr
  · cases hr
    exact ⟨_, _, _, rfl, fun mc ms P k n kk => V.land hd kk⟩
  · cases hr)
theorem snd_lor (hd : decode μ.2.1 pc = .ok (.lor, 1)) : Snd nam μ pc (m_lbin (fun a b => a ||| b) (pc + 1)) := snd_pure (by
  intro Ω d orc lv st h r hr
  unfold m_lbin at hr
  split at hr
  · cases hr
    exact ⟨_, _, _, rfl, fun mc ms P k n kk => V.lor hd kk⟩
  · cases hr)
theorem q_lbin {f : Int64 → Int64 → Int64} {q : Nat} {a b : Int64} (hs : (pg y).2 pc = m_lbin f q) : gO pg Ω d y pc lv (.long b :: .long a :: st) h = gO pg Ω d y q lv (.long (f a b) :: st) h := gO_of hs
def m_lsh (f : Int64 → Int32 → Int64) (q : Nat) : Sm := fun _ _ _ lv st h => match st with
  | .int b :: .long a :: t => some (.inl (q, lv, .long (f a b) :: t, h))
  | _ => none
theorem snd_lshl (hd : decode μ.2.1 pc = .ok (.lshl, 1)) : Snd nam μ pc (m_lsh (fun a b => a <<< (b.toInt64 &&& 63)) (pc + 1)) := snd_pure (by
  intro Ω d orc lv st h r hr
  unfold m_lsh at hr
  split at hr
  · cases hr
    exact ⟨_, _, _, rfl, fun mc ms P k n kk => V.lshl hd kk⟩
  · cases hr)
theorem snd_lshr (hd : decode μ.2.1 pc = .ok (.lshr, 1)) : Snd nam μ pc (m_lsh (fun a b => a >>> (b.toInt64 &&& 63)) (pc + 1)) := snd_pure (by
  intro Ω d orc lv st h r hr
  unfold m_lsh at hr
  split at hr
  · cases hr
    exact ⟨_, _, _, rfl, fun mc ms P k n kk => V.lshr hd kk⟩
  · cases hr)
theorem q_lsh {f : Int64 → Int32 → Int64} {q : Nat} {a : Int64} {b : Int32} (hs : (pg y).2 pc = m_lsh f q) : gO pg Ω d y pc lv (.int b :: .long a :: st) h = gO pg Ω d y q lv (.long (f a b) :: st) h := gO_of hs
def m_i2l (q : Nat) : Sm := fun _ _ _ lv st h => match st with
  | .int a :: t => some (.inl (q, lv, .long a.toInt64 :: t, h))
  | _ => none
theorem snd_i2l (hd : decode μ.2.1 pc = .ok (.i2l, 1)) : Snd nam μ pc (m_i2l (pc + 1)) := snd_pure (by
  intro Ω d orc lv st h r hr
  unfold m_i2l at hr
  split at hr
  · cases hr
    exact ⟨_, _, _, rfl, fun mc ms P k n kk => V.i2l hd kk⟩
  · cases hr)
theorem q_i2l {q : Nat} {a : Int32} (hs : (pg y).2 pc = m_i2l q) : gO pg Ω d y pc lv (.int a :: st) h = gO pg Ω d y q lv (.long a.toInt64 :: st) h := gO_of hs
def m_l2i (q : Nat) : Sm := fun _ _ _ lv st h => match st with
  | .long a :: t => some (.inl (q, lv, .int a.toInt32 :: t, h))
  | _ => none
theorem snd_l2i (hd : decode μ.2.1 pc = .ok (.l2i, 1)) : Snd nam μ pc (m_l2i (pc + 1)) := snd_pure (by
  intro Ω d orc lv st h r hr
  unfold m_l2i at hr
  split at hr
  · cases hr
    exact ⟨_, _, _, rfl, fun mc ms P k n kk => V.l2i hd kk⟩
  · cases hr)
theorem q_l2i {q : Nat} {a : Int64} (hs : (pg y).2 pc = m_l2i q) : gO pg Ω d y pc lv (.long a :: st) h = gO pg Ω d y q lv (.int a.toInt32 :: st) h := gO_of hs
def m_lcmp (q : Nat) : Sm := fun _ _ _ lv st h => match st with
  | .long b :: .long a :: t => some (.inl (q, lv, .int (lg_cmp a b) :: t, h))
  | _ => none
theorem snd_lcmp (hd : decode μ.2.1 pc = .ok (.lcmp, 1)) : Snd nam μ pc (m_lcmp (pc + 1)) := snd_pure (by
  intro Ω d orc lv st h r hr
  unfold m_lcmp at hr
  split at hr
  · cases hr
    exact ⟨_, _, _, rfl, fun mc ms P k n kk => V.lcmp hd kk⟩
  · cases hr)
theorem q_lcmp {q : Nat} {a b : Int64} (hs : (pg y).2 pc = m_lcmp q) : gO pg Ω d y pc lv (.long b :: .long a :: st) h = gO pg Ω d y q lv (.int (lg_cmp a b) :: st) h := gO_of hs
/- the stack's own: entries of one word -/
def c1 (v : Value) (k : Option Rs) : Option Rs := if v.category = 1 then k else none
def m_dup (q : Nat) : Sm := fun _ _ _ lv st h => match st with
  | a :: t => if a.category = 1 then some (.inl (q, lv, a :: a :: t, h)) else none
  | _ => none
theorem snd_dup (hd : decode μ.2.1 pc = .ok (.dup, 1)) : Snd nam μ pc (m_dup (pc + 1)) := snd_pure (by
  intro Ω d orc lv st h r hr
  unfold m_dup at hr
  split at hr
  · split at hr
    · rename_i hc
      cases hr
      exact ⟨_, _, _, rfl, fun mc ms P k n kk => V.dup hd hc kk⟩
    · cases hr
  · cases hr)
theorem q_dup {q : Nat} {a : Value} (hs : (pg y).2 pc = m_dup q) : gO pg Ω d y pc lv (a :: st) h = c1 a (gO pg Ω d y q lv (a :: a :: st) h) := by
  rw [gO_of hs]; unfold m_dup c1; dsimp only; split <;> rfl
def m_pop (q : Nat) : Sm := fun _ _ _ lv st h => match st with
  | a :: t => if a.category = 1 then some (.inl (q, lv, t, h)) else none
  | _ => none
theorem snd_pop (hd : decode μ.2.1 pc = .ok (.pop, 1)) : Snd nam μ pc (m_pop (pc + 1)) := snd_pure (by
  intro Ω d orc lv st h r hr
  unfold m_pop at hr
  split at hr
  · split at hr
    · rename_i hc
      cases hr
      exact ⟨_, _, _, rfl, fun mc ms P k n kk => V.pop hd hc kk⟩
    · cases hr
  · cases hr)
theorem q_pop {q : Nat} {a : Value} (hs : (pg y).2 pc = m_pop q) : gO pg Ω d y pc lv (a :: st) h = c1 a (gO pg Ω d y q lv st h) := by
  rw [gO_of hs]; unfold m_pop c1; dsimp only; split <;> rfl
def m_dup_x1 (q : Nat) : Sm := fun _ _ _ lv st h => match st with
  | .int a :: .ref b :: t => some (.inl (q, lv, .int a :: .ref b :: .int a :: t, h))
  | _ => none
theorem snd_dup_x1 (hd : decode μ.2.1 pc = .ok (.dup_x1, 1)) : Snd nam μ pc (m_dup_x1 (pc + 1)) := snd_pure (by
  intro Ω d orc lv st h r hr
  unfold m_dup_x1 at hr
  split at hr
  · cases hr
    exact ⟨_, _, _, rfl, fun mc ms P k n kk => V.dup_x1 hd rfl rfl kk⟩
  · cases hr)
theorem q_dup_x1 {q : Nat} {a : Int32} {b : Nat} (hs : (pg y).2 pc = m_dup_x1 q) : gO pg Ω d y pc lv (.int a :: .ref b :: st) h = gO pg Ω d y q lv (.int a :: .ref b :: .int a :: st) h := gO_of hs
def m_dup2 (q : Nat) : Sm := fun _ _ _ lv st h => match st with
  | .int a :: .ref b :: t => some (.inl (q, lv, .int a :: .ref b :: .int a :: .ref b :: t, h))
  | _ => none
theorem snd_dup2 (hd : decode μ.2.1 pc = .ok (.dup2, 1)) : Snd nam μ pc (m_dup2 (pc + 1)) := snd_pure (by
  intro Ω d orc lv st h r hr
  unfold m_dup2 at hr
  split at hr
  · cases hr
    exact ⟨_, _, _, rfl, fun mc ms P k n kk => V.dup2 hd rfl rfl kk⟩
  · cases hr)
theorem q_dup2 {q : Nat} {a : Int32} {b : Nat} (hs : (pg y).2 pc = m_dup2 q) : gO pg Ω d y pc lv (.int a :: .ref b :: st) h = gO pg Ω d y q lv (.int a :: .ref b :: .int a :: .ref b :: st) h := gO_of hs
/- branches -/
def m_goto (q : Nat) : Sm := fun _ _ _ lv st h => some (.inl (q, lv, st, h))
theorem snd_goto {off : Int} {tgt : Nat} (hd : decode μ.2.1 pc = .ok (.goto off, 3)) (ht : (pc : Int) + off = (tgt : Int)) : Snd nam μ pc (m_goto tgt) := snd_pure (by
  intro Ω d orc lv st h r hr
  cases hr
  exact ⟨_, _, _, rfl, fun mc ms P k n kk => V.goto hd ht kk⟩)
theorem q_goto {q : Nat} (hs : (pg y).2 pc = m_goto q) : gO pg Ω d y pc lv st h = gO pg Ω d y q lv st h := gO_of hs
theorem ite_pc {c : Prop} [Decidable c] {a b : Nat} : gO pg Ω d y (if c then a else b) lv st h = if c then gO pg Ω d y a lv st h else gO pg Ω d y b lv st h := by split <;> rfl
def m_ifz (f : Int32 → Nat) : Sm := fun _ _ _ lv st h => match st with
  | .int x :: t => some (.inl (f x, lv, t, h))
  | _ => none
theorem q_ifz {f : Int32 → Nat} {x : Int32} (hs : (pg y).2 pc = m_ifz f) : gO pg Ω d y pc lv (.int x :: st) h = gO pg Ω d y (f x) lv st h := gO_of hs
theorem snd_sw {f : Int32 → Nat} (H : ∀ (Ω : Om) (d mc ms : Nat) (P : Outcome → AH → Prop) (h : AH) (k n : Nat) (lv : List (Nat × Value)) (st : List Value) (x : Int32), V Ω μ.1.cls μ.1.name μ.2.1 μ.2.2.1 μ.2.2.2.1 μ.2.2.2.2 d mc ms P h k n (f x) lv st → V Ω μ.1.cls μ.1.name μ.2.1 μ.2.2.1 μ.2.2.2.1 μ.2.2.2.2 d mc ms P h k n pc lv (.int x :: st)) : Snd nam μ pc (m_ifz f) := snd_pure (by
  intro Ω d orc lv st h r hr
  unfold m_ifz at hr
  split at hr
  · cases hr
    exact ⟨_, _, _, rfl, fun mc ms P k n kk => H Ω d mc ms P h k n _ _ _ kk⟩
  · cases hr)

theorem snd_if_eq {off : Int} {tgt : Nat} (hd : decode μ.2.1 pc = .ok (.ifCond .eq off, 3)) (ht : (pc : Int) + off = (tgt : Int)) : Snd nam μ pc (m_ifz (fun x => if x = 0 then tgt else pc + 3)) :=
  snd_sw (fun Ω d mc ms P h k n lv st x kk => V.if_eq hd ht (fun c0 => by (try dsimp only at kk); rw [if_pos c0] at kk; exact kk) (fun c0 => by (try dsimp only at kk); rw [if_neg c0] at kk; exact kk))
theorem snd_if_ne {off : Int} {tgt : Nat} (hd : decode μ.2.1 pc = .ok (.ifCond .ne off, 3)) (ht : (pc : Int) + off = (tgt : Int)) : Snd nam μ pc (m_ifz (fun x => if x = 0 then pc + 3 else tgt)) :=
  snd_sw (fun Ω d mc ms P h k n lv st x kk => V.if_ne hd ht (fun c0 => by (try dsimp only at kk); rw [if_neg c0] at kk; exact kk) (fun c0 => by (try dsimp only at kk); rw [if_pos c0] at kk; exact kk))
theorem snd_if_lt {off : Int} {tgt : Nat} (hd : decode μ.2.1 pc = .ok (.ifCond .lt off, 3)) (ht : (pc : Int) + off = (tgt : Int)) : Snd nam μ pc (m_ifz (fun x => if x < 0 then tgt else pc + 3)) :=
  snd_sw (fun Ω d mc ms P h k n lv st x kk => V.if_lt hd ht (fun c0 => by (try dsimp only at kk); rw [if_pos c0] at kk; exact kk) (fun c0 => by (try dsimp only at kk); rw [if_neg c0] at kk; exact kk))
theorem snd_if_ge {off : Int} {tgt : Nat} (hd : decode μ.2.1 pc = .ok (.ifCond .ge off, 3)) (ht : (pc : Int) + off = (tgt : Int)) : Snd nam μ pc (m_ifz (fun x => if x < 0 then pc + 3 else tgt)) :=
  snd_sw (fun Ω d mc ms P h k n lv st x kk => V.if_ge hd ht (fun c0 => by (try dsimp only at kk); rw [if_neg (Int32.not_lt.mpr c0)] at kk; exact kk) (fun c0 => by (try dsimp only at kk); rw [if_pos (Int32.not_le.mp c0)] at kk; exact kk))
theorem snd_if_gt {off : Int} {tgt : Nat} (hd : decode μ.2.1 pc = .ok (.ifCond .gt off, 3)) (ht : (pc : Int) + off = (tgt : Int)) : Snd nam μ pc (m_ifz (fun x => if 0 < x then tgt else pc + 3)) :=
  snd_sw (fun Ω d mc ms P h k n lv st x kk => V.if_gt hd ht (fun c0 => by (try dsimp only at kk); rw [if_pos c0] at kk; exact kk) (fun c0 => by (try dsimp only at kk); rw [if_neg c0] at kk; exact kk))
theorem snd_if_le {off : Int} {tgt : Nat} (hd : decode μ.2.1 pc = .ok (.ifCond .le off, 3)) (ht : (pc : Int) + off = (tgt : Int)) : Snd nam μ pc (m_ifz (fun x => if 0 < x then pc + 3 else tgt)) :=
  snd_sw (fun Ω d mc ms P h k n lv st x kk => V.if_le hd ht (fun c0 => by (try dsimp only at kk); rw [if_neg (Int32.not_lt.mpr c0)] at kk; exact kk) (fun c0 => by (try dsimp only at kk); rw [if_pos (Int32.not_le.mp c0)] at kk; exact kk))
def m_icmp (f : Int32 → Int32 → Nat) : Sm := fun _ _ _ lv st h => match st with
  | .int b :: .int a :: t => some (.inl (f a b, lv, t, h))
  | _ => none
theorem q_icmp {f : Int32 → Int32 → Nat} {a b : Int32} (hs : (pg y).2 pc = m_icmp f) : gO pg Ω d y pc lv (.int b :: .int a :: st) h = gO pg Ω d y (f a b) lv st h := gO_of hs
theorem snd_icmp_eq {off : Int} {tgt : Nat} (hd : decode μ.2.1 pc = .ok (.if_icmp .eq off, 3)) (ht : (pc : Int) + off = (tgt : Int)) : Snd nam μ pc (m_icmp (fun x z => if x = z then tgt else pc + 3)) := snd_pure (by
  intro Ω d orc lv st h r hr
  unfold m_icmp at hr
  split at hr
  · cases hr
    exact ⟨_, _, _, rfl, fun mc ms P k n kk => V.icmp_eq hd ht (fun c0 => by (try dsimp only at kk); rw [if_pos c0] at kk; exact kk) (fun c0 => by (try dsimp only at kk); rw [if_neg c0] at kk; exact kk)⟩
  · cases hr)
theorem snd_icmp_ne {off : Int} {tgt : Nat} (hd : decode μ.2.1 pc = .ok (.if_icmp .ne off, 3)) (ht : (pc : Int) + off = (tgt : Int)) : Snd nam μ pc (m_icmp (fun x z => if x = z then pc + 3 else tgt)) := snd_pure (by
  intro Ω d orc lv st h r hr
  unfold m_icmp at hr
  split at hr
  · cases hr
    exact ⟨_, _, _, rfl, fun mc ms P k n kk => V.icmp_ne hd ht (fun c0 => by (try dsimp only at kk); rw [if_neg c0] at kk; exact kk) (fun c0 => by (try dsimp only at kk); rw [if_pos c0] at kk; exact kk)⟩
  · cases hr)
theorem snd_icmp_lt {off : Int} {tgt : Nat} (hd : decode μ.2.1 pc = .ok (.if_icmp .lt off, 3)) (ht : (pc : Int) + off = (tgt : Int)) : Snd nam μ pc (m_icmp (fun x z => if x < z then tgt else pc + 3)) := snd_pure (by
  intro Ω d orc lv st h r hr
  unfold m_icmp at hr
  split at hr
  · cases hr
    exact ⟨_, _, _, rfl, fun mc ms P k n kk => V.icmp_lt hd ht (fun c0 => by (try dsimp only at kk); rw [if_pos c0] at kk; exact kk) (fun c0 => by (try dsimp only at kk); rw [if_neg c0] at kk; exact kk)⟩
  · cases hr)
theorem snd_icmp_ge {off : Int} {tgt : Nat} (hd : decode μ.2.1 pc = .ok (.if_icmp .ge off, 3)) (ht : (pc : Int) + off = (tgt : Int)) : Snd nam μ pc (m_icmp (fun x z => if x < z then pc + 3 else tgt)) := snd_pure (by
  intro Ω d orc lv st h r hr
  unfold m_icmp at hr
  split at hr
  · cases hr
    exact ⟨_, _, _, rfl, fun mc ms P k n kk => V.icmp_ge hd ht (fun c0 => by (try dsimp only at kk); rw [if_neg (Int32.not_lt.mpr c0)] at kk; exact kk) (fun c0 => by (try dsimp only at kk); rw [if_pos (Int32.not_le.mp c0)] at kk; exact kk)⟩
  · cases hr)
theorem snd_icmp_gt {off : Int} {tgt : Nat} (hd : decode μ.2.1 pc = .ok (.if_icmp .gt off, 3)) (ht : (pc : Int) + off = (tgt : Int)) : Snd nam μ pc (m_icmp (fun x z => if z < x then tgt else pc + 3)) := snd_pure (by
  intro Ω d orc lv st h r hr
  unfold m_icmp at hr
  split at hr
  · cases hr
    exact ⟨_, _, _, rfl, fun mc ms P k n kk => V.icmp_gt hd ht (fun c0 => by (try dsimp only at kk); rw [if_pos c0] at kk; exact kk) (fun c0 => by (try dsimp only at kk); rw [if_neg c0] at kk; exact kk)⟩
  · cases hr)
theorem snd_icmp_le {off : Int} {tgt : Nat} (hd : decode μ.2.1 pc = .ok (.if_icmp .le off, 3)) (ht : (pc : Int) + off = (tgt : Int)) : Snd nam μ pc (m_icmp (fun x z => if z < x then pc + 3 else tgt)) := snd_pure (by
  intro Ω d orc lv st h r hr
  unfold m_icmp at hr
  split at hr
  · cases hr
    exact ⟨_, _, _, rfl, fun mc ms P k n kk => V.icmp_le hd ht (fun c0 => by (try dsimp only at kk); rw [if_neg (Int32.not_lt.mpr c0)] at kk; exact kk) (fun c0 => by (try dsimp only at kk); rw [if_pos (Int32.not_le.mp c0)] at kk; exact kk)⟩
  · cases hr)
/-- null: a, a reference: b -/
def nB (v : Value) (a b : Option Rs) : Option Rs := match v with
  | .null => a
  | .ref _ => b
  | _ => none
def m_ifn (a b : Nat) : Sm := fun _ _ _ lv st h => match st with
  | .null :: t => some (.inl (a, lv, t, h))
  | .ref _ :: t => some (.inl (b, lv, t, h))
  | _ => none
theorem snd_ifnull {off : Int} {tgt : Nat} (hd : decode μ.2.1 pc = .ok (.ifnull off, 3)) (ht : (pc : Int) + off = (tgt : Int)) : Snd nam μ pc (m_ifn tgt (pc + 3)) := snd_pure (by
  intro Ω d orc lv st h r hr
  unfold m_ifn at hr
  split at hr
  · cases hr
    exact ⟨_, _, _, rfl, fun mc ms P k n kk => V.ifnullN hd ht kk⟩
  · cases hr
    exact ⟨_, _, _, rfl, fun mc ms P k n kk => V.ifnull hd kk⟩
  · cases hr)
theorem snd_ifnonnull {off : Int} {tgt : Nat} (hd : decode μ.2.1 pc = .ok (.ifnonnull off, 3)) (ht : (pc : Int) + off = (tgt : Int)) : Snd nam μ pc (m_ifn (pc + 3) tgt) := snd_pure (by
  intro Ω d orc lv st h r hr
  unfold m_ifn at hr
  split at hr
  · cases hr
    exact ⟨_, _, _, rfl, fun mc ms P k n kk => V.ifnonnullN hd kk⟩
  · cases hr
    exact ⟨_, _, _, rfl, fun mc ms P k n kk => V.ifnonnull hd ht kk⟩
  · cases hr)
theorem q_ifn {a b : Nat} {v : Value} (hs : (pg y).2 pc = m_ifn a b) : gO pg Ω d y pc lv (v :: st) h = nB v (gO pg Ω d y a lv st h) (gO pg Ω d y b lv st h) := by
  rw [gO_of hs]; unfold m_ifn nB; cases v <;> rfl
/-- two references -/
def toR : Value → Option (Option Nat)
  | .ref a => some (some a)
  | .null => some none
  | _ => none
def aB (v w : Value) (a b : Option Rs) : Option Rs := match toR v, toR w with
  | some x, some z => if x = z then a else b
  | _, _ => none
theorem toR_eq {v : Value} {x : Option Nat} (h : toR v = some x) : v = va_rf x := by
  cases v <;> simp [toR] at h <;> subst h <;> rfl
def m_acmp (a b : Nat) : Sm := fun _ _ _ lv st h => match st with
  | w :: v :: t => match toR v, toR w with
    | some x, some z => some (.inl (if x = z then a else b, lv, t, h))
    | _, _ => none
  | _ => none
theorem snd_acmp_ne {off : Int} {tgt : Nat} (hd : decode μ.2.1 pc = .ok (.if_acmp .ne off, 3)) (ht : (pc : Int) + off = (tgt : Int)) : Snd nam μ pc (m_acmp (pc + 3) tgt) := snd_pure (by
  intro Ω d orc lv st h r hr
  unfold m_acmp at hr
  split at hr
  · split at hr
    · rename_i w v t x z hx hz
      cases hr
      refine ⟨_, _, _, rfl, fun mc ms P k n kk => ?_⟩
      rw [toR_eq hx, toR_eq hz]
      exact V.acmp_ne hd ht (fun c0 => by rw [if_neg c0] at kk; exact kk) (fun c0 => by rw [if_pos c0] at kk; exact kk)
    · cases hr
  · cases hr)
theorem q_acmp {a b : Nat} {v w : Value} (hs : (pg y).2 pc = m_acmp a b) : gO pg Ω d y pc lv (w :: v :: st) h = aB v w (gO pg Ω d y a lv st h) (gO pg Ω d y b lv st h) := by
  rw [gO_of hs]; unfold m_acmp aB; dsimp only; split
  · unfold fin; dsimp only; split <;> rfl
  · rfl
/- returns -/
def m_vret : Sm := fun _ _ _ _ st h => match st with
  | [] => some (.inr (.returned none, h))
  | _ => none
theorem snd_vret (hd : decode μ.2.1 pc = .ok (.return_, 1)) (hr0 : μ.2.2.2.1 = none) : Snd nam μ pc m_vret := snd_ret (by
  intro Ω d orc lv st h r hr
  unfold m_vret at hr
  split at hr
  · cases hr
    exact ⟨_, rfl, fun mc ms P k n hk hn hP => V.vret hd hr0 hk hn hP⟩
  · cases hr)
theorem q_vret (hs : (pg y).2 pc = m_vret) : gO pg Ω d y pc lv [] h = some (.returned none, h) := gO_of hs
def m_iret (ty : FieldType) : Sm := fun _ _ _ _ st h => match st with
  | [.int x] => if narrow ty (.int x) = .int x then some (.inr (.returned (some (.int x)), h)) else none
  | _ => none
theorem snd_iret {ty : FieldType} (hd : decode μ.2.1 pc = .ok (.ireturn, 1)) (hr0 : μ.2.2.2.1 = some ty) : Snd nam μ pc (m_iret ty) := snd_ret (by
  intro Ω d orc lv st h r hr
  unfold m_iret at hr
  split at hr
  · split at hr
    · rename_i hc
      cases hr
      exact ⟨_, rfl, fun mc ms P k n hk hn hP => V.iret hd hr0 hc hk hn hP⟩
    · cases hr
  · cases hr)
theorem q_iret {x : Int32} (hs : (pg y).2 pc = m_iret .int) : gO pg Ω d y pc lv [.int x] h = some (.returned (some (.int x)), h) := by
  rw [gO_of hs]; unfold m_iret; dsimp only; rw [if_pos (vp_nar_int x)]; rfl
/-- a narrow answer -/
def nR (ty : FieldType) (x : Int32) (k : Option Rs) : Option Rs := if narrow ty (.int x) = .int x then k else none
theorem q_nret {ty : FieldType} {x : Int32} (hs : (pg y).2 pc = m_iret ty) : gO pg Ω d y pc lv [.int x] h = nR ty x (some (.returned (some (.int x)), h)) := by
  rw [gO_of hs]; unfold m_iret nR; dsimp only; split <;> rfl
def m_lret : Sm := fun _ _ _ _ st h => match st with
  | [.long x] => some (.inr (.returned (some (.long x)), h))
  | _ => none
theorem snd_lret (hd : decode μ.2.1 pc = .ok (.lreturn, 1)) (hr0 : μ.2.2.2.1 = some .long) : Snd nam μ pc m_lret := snd_ret (by
  intro Ω d orc lv st h r hr
  unfold m_lret at hr
  split at hr
  · cases hr
    exact ⟨_, rfl, fun mc ms P k n hk hn hP => V.lret hd hr0 hk hn hP⟩
  · cases hr)
theorem q_lret {x : Int64} (hs : (pg y).2 pc = m_lret) : gO pg Ω d y pc lv [.long x] h = some (.returned (some (.long x)), h) := gO_of hs
def m_aret : Sm := fun _ _ _ _ st h => match st with
  | [.ref x] => some (.inr (.returned (some (.ref x)), h))
  | [.null] => some (.inr (.returned (some .null), h))
  | _ => none
theorem snd_aret {ty : FieldType} (hd : decode μ.2.1 pc = .ok (.areturn, 1)) (hr0 : μ.2.2.2.1 = some ty) (hrt : (∃ n, ty = .object n) ∨ ∃ t, ty = .array t) : Snd nam μ pc m_aret := snd_ret (by
  intro Ω d orc lv st h r hr
  unfold m_aret at hr
  split at hr
  · cases hr
    exact ⟨_, rfl, fun mc ms P k n hk hn hP => V.aret hd hr0 hrt (Or.inr ⟨_, rfl⟩) hk hn hP⟩
  · cases hr
    exact ⟨_, rfl, fun mc ms P k n hk hn hP => V.aret hd hr0 hrt (Or.inl rfl) hk hn hP⟩
  · cases hr)
theorem q_aret {v : Value} (hs : (pg y).2 pc = m_aret) : gO pg Ω d y pc lv [v] h = cR v (some (.returned (some v), h)) := by
  rw [gO_of hs]; unfold m_aret cR; cases v <;> rfl
end ISEM
