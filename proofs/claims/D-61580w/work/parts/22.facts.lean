set_option maxRecDepth 100000
theorem sw_ne {x v2 : Int32} {v : Int} (h : ¬ x = v2) (hv : v2.toInt = v) : ¬ x.toInt = v := fun e => h (Int32.toInt_inj.mp (e.trans hv.symm))
theorem snd_tab {nam : Nat → MethodName} {μ : Me} {S : List (Nat × Sm)} (H : ∀ q ∈ S, Snd nam μ q.1 q.2) (pc : Nat) : Snd nam μ pc (lkS S pc) := by
  induction S with
  | nil => exact snd_stuck
  | cons a t ih =>
    obtain ⟨p, s⟩ := a
    unfold lkS
    split
    · rename_i e; subst e; exact H _ List.mem_cons_self
    · exact ih (fun q hq => H q (List.mem_cons_of_mem _ hq))
theorem exc_J7 : ExcOk "java/lang/IllegalArgumentException" ["java/lang/RuntimeException", "java/lang/Exception"] := ⟨(List.forall_mem_cons.mpr ⟨⟨w70, by simp [okw, isLS, Cond.onTables, Cond.keeps, Cond.steady]⟩,
  (List.forall_mem_cons.mpr ⟨⟨w245, by simp [okw, isLS, Cond.onTables, Cond.keeps, Cond.steady]⟩,
  (List.forall_mem_cons.mpr ⟨⟨w254, by simp [okw, isLS, Cond.onTables, Cond.keeps, Cond.steady]⟩,
  (List.forall_mem_cons.mpr ⟨⟨w259, by simp [okw, isLS, Cond.onTables, Cond.keeps, Cond.steady]⟩,
  (List.forall_mem_cons.mpr ⟨⟨w262, by simp [okw, isLS, Cond.onTables, Cond.keeps, Cond.steady]⟩,
  (List.forall_mem_cons.mpr ⟨⟨w264, by simp [okw, isLS, Cond.onTables, Cond.keeps, Cond.steady]⟩,
  (List.forall_mem_cons.mpr ⟨⟨w246, by simp [okw, isLS, Cond.onTables, Cond.keeps, Cond.steady]⟩,
  (List.forall_mem_cons.mpr ⟨⟨w247, by simp [okw, isLS, Cond.onTables, Cond.keeps, Cond.steady]⟩,
  (List.forall_mem_cons.mpr ⟨⟨w113, by simp [okw, isLS, Cond.onTables, Cond.keeps, Cond.steady]⟩,
  (List.forall_mem_cons.mpr ⟨⟨w114, by simp [okw, isLS, Cond.onTables, Cond.keeps, Cond.steady]⟩,
  (List.forall_mem_cons.mpr ⟨⟨w248, by simp [okw, isLS, Cond.onTables, Cond.keeps, Cond.steady]⟩,
  (List.forall_mem_cons.mpr ⟨⟨w253, by simp [okw, isLS, Cond.onTables, Cond.keeps, Cond.steady]⟩,
  (List.forall_mem_cons.mpr ⟨⟨w260, by simp [okw, isLS, Cond.onTables, Cond.keeps, Cond.steady]⟩,
  (List.forall_mem_cons.mpr ⟨⟨w277, by simp [okw, isLS, Cond.onTables, Cond.keeps, Cond.steady]⟩,
  (List.forall_mem_cons.mpr ⟨⟨w235, by simp [okw, isLS, Cond.onTables, Cond.keeps, Cond.steady]⟩,
  (List.forall_mem_cons.mpr ⟨⟨w278, by simp [okw, isLS, Cond.onTables, Cond.keeps, Cond.steady]⟩,
  (List.forall_mem_cons.mpr ⟨⟨w237, by simp [okw, isLS, Cond.onTables, Cond.keeps, Cond.steady]⟩,
  (List.forall_mem_cons.mpr ⟨⟨w279, by simp [okw, isLS, Cond.onTables, Cond.keeps, Cond.steady]⟩,
  (List.forall_mem_cons.mpr ⟨⟨w239, by simp [okw, isLS, Cond.onTables, Cond.keeps, Cond.steady]⟩,
  (List.forall_mem_cons.mpr ⟨⟨w249, by simp [okw, isLS, Cond.onTables, Cond.keeps, Cond.steady]⟩,
  (List.forall_mem_cons.mpr ⟨⟨w250, by simp [okw, isLS, Cond.onTables, Cond.keeps, Cond.steady]⟩,
  (List.forall_mem_cons.mpr ⟨⟨w251, by simp [okw, isLS, Cond.onTables, Cond.keeps, Cond.steady]⟩,
  (List.forall_mem_cons.mpr ⟨⟨w252, by simp [okw, isLS, Cond.onTables, Cond.keeps, Cond.steady]⟩,
  (List.forall_mem_cons.mpr ⟨⟨w241, by simp [okw, isLS, Cond.onTables, Cond.keeps, Cond.steady]⟩,
  (List.forall_mem_cons.mpr ⟨⟨w266, by simp [okw, isLS, Cond.onTables, Cond.keeps, Cond.steady]⟩,
  (List.forall_mem_cons.mpr ⟨⟨w267, by simp [okw, isLS, Cond.onTables, Cond.keeps, Cond.steady]⟩,
  (List.forall_mem_cons.mpr ⟨⟨w268, by simp [okw, isLS, Cond.onTables, Cond.keeps, Cond.steady]⟩,
  (List.forall_mem_cons.mpr ⟨⟨w269, by simp [okw, isLS, Cond.onTables, Cond.keeps, Cond.steady]⟩,
  (List.forall_mem_cons.mpr ⟨⟨w226, by simp [okw, isLS, Cond.onTables, Cond.keeps, Cond.steady]⟩,
  (List.forall_mem_cons.mpr ⟨⟨w269, by simp [okw, isLS, Cond.onTables, Cond.keeps, Cond.steady]⟩,
  (List.forall_mem_cons.mpr ⟨⟨w270, by simp [okw, isLS, Cond.onTables, Cond.keeps, Cond.steady]⟩,
  (List.forall_mem_cons.mpr ⟨⟨w271, by simp [okw, isLS, Cond.onTables, Cond.keeps, Cond.steady]⟩,
  (List.forall_mem_cons.mpr ⟨⟨w272, by simp [okw, isLS, Cond.onTables, Cond.keeps, Cond.steady]⟩,
  (List.forall_mem_cons.mpr ⟨⟨w228, by simp [okw, isLS, Cond.onTables, Cond.keeps, Cond.steady]⟩,
  (List.forall_mem_cons.mpr ⟨⟨w272, by simp [okw, isLS, Cond.onTables, Cond.keeps, Cond.steady]⟩,
  (List.forall_mem_cons.mpr ⟨⟨w273, by simp [okw, isLS, Cond.onTables, Cond.keeps, Cond.steady]⟩,
  (List.forall_mem_cons.mpr ⟨⟨w274, by simp [okw, isLS, Cond.onTables, Cond.keeps, Cond.steady]⟩,
  (List.forall_mem_cons.mpr ⟨⟨w246, by simp [okw, isLS, Cond.onTables, Cond.keeps, Cond.steady]⟩,
  (List.forall_mem_cons.mpr ⟨⟨w230, by simp [okw, isLS, Cond.onTables, Cond.keeps, Cond.steady]⟩,
  (List.forall_mem_cons.mpr ⟨⟨w224, by simp [okw, isLS, Cond.onTables, Cond.keeps, Cond.steady]⟩,
  (List.forall_mem_cons.mpr ⟨⟨w232, by simp [okw, isLS, Cond.onTables, Cond.keeps, Cond.steady]⟩,
  (List.forall_mem_cons.mpr ⟨⟨w233, by simp [okw, isLS, Cond.onTables, Cond.keeps, Cond.steady]⟩,
  (List.forall_mem_cons.mpr ⟨⟨w234, by simp [okw, isLS, Cond.onTables, Cond.keeps, Cond.steady]⟩,
  (List.forall_mem_cons.mpr ⟨⟨w236, by simp [okw, isLS, Cond.onTables, Cond.keeps, Cond.steady]⟩,
  (List.forall_mem_cons.mpr ⟨⟨w238, by simp [okw, isLS, Cond.onTables, Cond.keeps, Cond.steady]⟩,
  (List.forall_mem_cons.mpr ⟨⟨w244, by simp [okw, isLS, Cond.onTables, Cond.keeps, Cond.steady]⟩,
  (List.forall_mem_cons.mpr ⟨⟨w243, by simp [okw, isLS, Cond.onTables, Cond.keeps, Cond.steady]⟩,
  (List.forall_mem_cons.mpr ⟨⟨w242, by simp [okw, isLS, Cond.onTables, Cond.keeps, Cond.steady]⟩,
  (fun a ha => absurd ha List.not_mem_nil)⟩)⟩)⟩)⟩)⟩)⟩)⟩)⟩)⟩)⟩)⟩)⟩)⟩)⟩)⟩)⟩)⟩)⟩)⟩)⟩)⟩)⟩)⟩)⟩)⟩)⟩)⟩)⟩)⟩)⟩)⟩)⟩)⟩)⟩)⟩)⟩)⟩)⟩)⟩)⟩)⟩)⟩)⟩)⟩)⟩)⟩)⟩)⟩), by decide, by decide, by decide⟩
theorem exc_J14 : ExcOk "java/lang/IllegalStateException" ["java/lang/RuntimeException", "java/lang/Exception"] := ⟨(List.forall_mem_cons.mpr ⟨⟨w70, by simp [okw, isLS, Cond.onTables, Cond.keeps, Cond.steady]⟩,
  (List.forall_mem_cons.mpr ⟨⟨w245, by simp [okw, isLS, Cond.onTables, Cond.keeps, Cond.steady]⟩,
  (List.forall_mem_cons.mpr ⟨⟨w254, by simp [okw, isLS, Cond.onTables, Cond.keeps, Cond.steady]⟩,
  (List.forall_mem_cons.mpr ⟨⟨w259, by simp [okw, isLS, Cond.onTables, Cond.keeps, Cond.steady]⟩,
  (List.forall_mem_cons.mpr ⟨⟨w262, by simp [okw, isLS, Cond.onTables, Cond.keeps, Cond.steady]⟩,
  (List.forall_mem_cons.mpr ⟨⟨w264, by simp [okw, isLS, Cond.onTables, Cond.keeps, Cond.steady]⟩,
  (List.forall_mem_cons.mpr ⟨⟨w246, by simp [okw, isLS, Cond.onTables, Cond.keeps, Cond.steady]⟩,
  (List.forall_mem_cons.mpr ⟨⟨w247, by simp [okw, isLS, Cond.onTables, Cond.keeps, Cond.steady]⟩,
  (List.forall_mem_cons.mpr ⟨⟨w113, by simp [okw, isLS, Cond.onTables, Cond.keeps, Cond.steady]⟩,
  (List.forall_mem_cons.mpr ⟨⟨w114, by simp [okw, isLS, Cond.onTables, Cond.keeps, Cond.steady]⟩,
  (List.forall_mem_cons.mpr ⟨⟨w248, by simp [okw, isLS, Cond.onTables, Cond.keeps, Cond.steady]⟩,
  (List.forall_mem_cons.mpr ⟨⟨w253, by simp [okw, isLS, Cond.onTables, Cond.keeps, Cond.steady]⟩,
  (List.forall_mem_cons.mpr ⟨⟨w260, by simp [okw, isLS, Cond.onTables, Cond.keeps, Cond.steady]⟩,
  (List.forall_mem_cons.mpr ⟨⟨w277, by simp [okw, isLS, Cond.onTables, Cond.keeps, Cond.steady]⟩,
  (List.forall_mem_cons.mpr ⟨⟨w235, by simp [okw, isLS, Cond.onTables, Cond.keeps, Cond.steady]⟩,
  (List.forall_mem_cons.mpr ⟨⟨w278, by simp [okw, isLS, Cond.onTables, Cond.keeps, Cond.steady]⟩,
  (List.forall_mem_cons.mpr ⟨⟨w237, by simp [okw, isLS, Cond.onTables, Cond.keeps, Cond.steady]⟩,
  (List.forall_mem_cons.mpr ⟨⟨w279, by simp [okw, isLS, Cond.onTables, Cond.keeps, Cond.steady]⟩,
  (List.forall_mem_cons.mpr ⟨⟨w239, by simp [okw, isLS, Cond.onTables, Cond.keeps, Cond.steady]⟩,
  (List.forall_mem_cons.mpr ⟨⟨w249, by simp [okw, isLS, Cond.onTables, Cond.keeps, Cond.steady]⟩,
  (List.forall_mem_cons.mpr ⟨⟨w250, by simp [okw, isLS, Cond.onTables, Cond.keeps, Cond.steady]⟩,
  (List.forall_mem_cons.mpr ⟨⟨w251, by simp [okw, isLS, Cond.onTables, Cond.keeps, Cond.steady]⟩,
  (List.forall_mem_cons.mpr ⟨⟨w252, by simp [okw, isLS, Cond.onTables, Cond.keeps, Cond.steady]⟩,
  (List.forall_mem_cons.mpr ⟨⟨w241, by simp [okw, isLS, Cond.onTables, Cond.keeps, Cond.steady]⟩,
  (List.forall_mem_cons.mpr ⟨⟨w609, by simp [okw, isLS, Cond.onTables, Cond.keeps, Cond.steady]⟩,
  (List.forall_mem_cons.mpr ⟨⟨w610, by simp [okw, isLS, Cond.onTables, Cond.keeps, Cond.steady]⟩,
  (List.forall_mem_cons.mpr ⟨⟨w611, by simp [okw, isLS, Cond.onTables, Cond.keeps, Cond.steady]⟩,
  (List.forall_mem_cons.mpr ⟨⟨w269, by simp [okw, isLS, Cond.onTables, Cond.keeps, Cond.steady]⟩,
  (List.forall_mem_cons.mpr ⟨⟨w226, by simp [okw, isLS, Cond.onTables, Cond.keeps, Cond.steady]⟩,
  (List.forall_mem_cons.mpr ⟨⟨w269, by simp [okw, isLS, Cond.onTables, Cond.keeps, Cond.steady]⟩,
  (List.forall_mem_cons.mpr ⟨⟨w270, by simp [okw, isLS, Cond.onTables, Cond.keeps, Cond.steady]⟩,
  (List.forall_mem_cons.mpr ⟨⟨w271, by simp [okw, isLS, Cond.onTables, Cond.keeps, Cond.steady]⟩,
  (List.forall_mem_cons.mpr ⟨⟨w272, by simp [okw, isLS, Cond.onTables, Cond.keeps, Cond.steady]⟩,
  (List.forall_mem_cons.mpr ⟨⟨w228, by simp [okw, isLS, Cond.onTables, Cond.keeps, Cond.steady]⟩,
  (List.forall_mem_cons.mpr ⟨⟨w272, by simp [okw, isLS, Cond.onTables, Cond.keeps, Cond.steady]⟩,
  (List.forall_mem_cons.mpr ⟨⟨w273, by simp [okw, isLS, Cond.onTables, Cond.keeps, Cond.steady]⟩,
  (List.forall_mem_cons.mpr ⟨⟨w274, by simp [okw, isLS, Cond.onTables, Cond.keeps, Cond.steady]⟩,
  (List.forall_mem_cons.mpr ⟨⟨w246, by simp [okw, isLS, Cond.onTables, Cond.keeps, Cond.steady]⟩,
  (List.forall_mem_cons.mpr ⟨⟨w230, by simp [okw, isLS, Cond.onTables, Cond.keeps, Cond.steady]⟩,
  (List.forall_mem_cons.mpr ⟨⟨w600, by simp [okw, isLS, Cond.onTables, Cond.keeps, Cond.steady]⟩,
  (List.forall_mem_cons.mpr ⟨⟨w602, by simp [okw, isLS, Cond.onTables, Cond.keeps, Cond.steady]⟩,
  (List.forall_mem_cons.mpr ⟨⟨w256, by simp [okw, isLS, Cond.onTables, Cond.keeps, Cond.steady]⟩,
  (List.forall_mem_cons.mpr ⟨⟨w603, by simp [okw, isLS, Cond.onTables, Cond.keeps, Cond.steady]⟩,
  (List.forall_mem_cons.mpr ⟨⟨w604, by simp [okw, isLS, Cond.onTables, Cond.keeps, Cond.steady]⟩,
  (List.forall_mem_cons.mpr ⟨⟨w605, by simp [okw, isLS, Cond.onTables, Cond.keeps, Cond.steady]⟩,
  (List.forall_mem_cons.mpr ⟨⟨w244, by simp [okw, isLS, Cond.onTables, Cond.keeps, Cond.steady]⟩,
  (List.forall_mem_cons.mpr ⟨⟨w243, by simp [okw, isLS, Cond.onTables, Cond.keeps, Cond.steady]⟩,
  (List.forall_mem_cons.mpr ⟨⟨w607, by simp [okw, isLS, Cond.onTables, Cond.keeps, Cond.steady]⟩,
  (fun a ha => absurd ha List.not_mem_nil)⟩)⟩)⟩)⟩)⟩)⟩)⟩)⟩)⟩)⟩)⟩)⟩)⟩)⟩)⟩)⟩)⟩)⟩)⟩)⟩)⟩)⟩)⟩)⟩)⟩)⟩)⟩)⟩)⟩)⟩)⟩)⟩)⟩)⟩)⟩)⟩)⟩)⟩)⟩)⟩)⟩)⟩)⟩)⟩)⟩)⟩)⟩)⟩), by decide, by decide, by decide⟩
theorem exc_J15 : ExcOk "java/util/NoSuchElementException" ["java/lang/RuntimeException", "java/lang/Exception"] := ⟨(List.forall_mem_cons.mpr ⟨⟨w70, by simp [okw, isLS, Cond.onTables, Cond.keeps, Cond.steady]⟩,
  (List.forall_mem_cons.mpr ⟨⟨w245, by simp [okw, isLS, Cond.onTables, Cond.keeps, Cond.steady]⟩,
  (List.forall_mem_cons.mpr ⟨⟨w254, by simp [okw, isLS, Cond.onTables, Cond.keeps, Cond.steady]⟩,
  (List.forall_mem_cons.mpr ⟨⟨w259, by simp [okw, isLS, Cond.onTables, Cond.keeps, Cond.steady]⟩,
  (List.forall_mem_cons.mpr ⟨⟨w262, by simp [okw, isLS, Cond.onTables, Cond.keeps, Cond.steady]⟩,
  (List.forall_mem_cons.mpr ⟨⟨w264, by simp [okw, isLS, Cond.onTables, Cond.keeps, Cond.steady]⟩,
  (List.forall_mem_cons.mpr ⟨⟨w246, by simp [okw, isLS, Cond.onTables, Cond.keeps, Cond.steady]⟩,
  (List.forall_mem_cons.mpr ⟨⟨w247, by simp [okw, isLS, Cond.onTables, Cond.keeps, Cond.steady]⟩,
  (List.forall_mem_cons.mpr ⟨⟨w113, by simp [okw, isLS, Cond.onTables, Cond.keeps, Cond.steady]⟩,
  (List.forall_mem_cons.mpr ⟨⟨w114, by simp [okw, isLS, Cond.onTables, Cond.keeps, Cond.steady]⟩,
  (List.forall_mem_cons.mpr ⟨⟨w248, by simp [okw, isLS, Cond.onTables, Cond.keeps, Cond.steady]⟩,
  (List.forall_mem_cons.mpr ⟨⟨w253, by simp [okw, isLS, Cond.onTables, Cond.keeps, Cond.steady]⟩,
  (List.forall_mem_cons.mpr ⟨⟨w260, by simp [okw, isLS, Cond.onTables, Cond.keeps, Cond.steady]⟩,
  (List.forall_mem_cons.mpr ⟨⟨w277, by simp [okw, isLS, Cond.onTables, Cond.keeps, Cond.steady]⟩,
  (List.forall_mem_cons.mpr ⟨⟨w235, by simp [okw, isLS, Cond.onTables, Cond.keeps, Cond.steady]⟩,
  (List.forall_mem_cons.mpr ⟨⟨w278, by simp [okw, isLS, Cond.onTables, Cond.keeps, Cond.steady]⟩,
  (List.forall_mem_cons.mpr ⟨⟨w237, by simp [okw, isLS, Cond.onTables, Cond.keeps, Cond.steady]⟩,
  (List.forall_mem_cons.mpr ⟨⟨w279, by simp [okw, isLS, Cond.onTables, Cond.keeps, Cond.steady]⟩,
  (List.forall_mem_cons.mpr ⟨⟨w239, by simp [okw, isLS, Cond.onTables, Cond.keeps, Cond.steady]⟩,
  (List.forall_mem_cons.mpr ⟨⟨w249, by simp [okw, isLS, Cond.onTables, Cond.keeps, Cond.steady]⟩,
  (List.forall_mem_cons.mpr ⟨⟨w250, by simp [okw, isLS, Cond.onTables, Cond.keeps, Cond.steady]⟩,
  (List.forall_mem_cons.mpr ⟨⟨w251, by simp [okw, isLS, Cond.onTables, Cond.keeps, Cond.steady]⟩,
  (List.forall_mem_cons.mpr ⟨⟨w252, by simp [okw, isLS, Cond.onTables, Cond.keeps, Cond.steady]⟩,
  (List.forall_mem_cons.mpr ⟨⟨w241, by simp [okw, isLS, Cond.onTables, Cond.keeps, Cond.steady]⟩,
  (List.forall_mem_cons.mpr ⟨⟨w1366, by simp [okw, isLS, Cond.onTables, Cond.keeps, Cond.steady]⟩,
  (List.forall_mem_cons.mpr ⟨⟨w1367, by simp [okw, isLS, Cond.onTables, Cond.keeps, Cond.steady]⟩,
  (List.forall_mem_cons.mpr ⟨⟨w1368, by simp [okw, isLS, Cond.onTables, Cond.keeps, Cond.steady]⟩,
  (List.forall_mem_cons.mpr ⟨⟨w269, by simp [okw, isLS, Cond.onTables, Cond.keeps, Cond.steady]⟩,
  (List.forall_mem_cons.mpr ⟨⟨w226, by simp [okw, isLS, Cond.onTables, Cond.keeps, Cond.steady]⟩,
  (List.forall_mem_cons.mpr ⟨⟨w269, by simp [okw, isLS, Cond.onTables, Cond.keeps, Cond.steady]⟩,
  (List.forall_mem_cons.mpr ⟨⟨w270, by simp [okw, isLS, Cond.onTables, Cond.keeps, Cond.steady]⟩,
  (List.forall_mem_cons.mpr ⟨⟨w271, by simp [okw, isLS, Cond.onTables, Cond.keeps, Cond.steady]⟩,
  (List.forall_mem_cons.mpr ⟨⟨w272, by simp [okw, isLS, Cond.onTables, Cond.keeps, Cond.steady]⟩,
  (List.forall_mem_cons.mpr ⟨⟨w228, by simp [okw, isLS, Cond.onTables, Cond.keeps, Cond.steady]⟩,
  (List.forall_mem_cons.mpr ⟨⟨w272, by simp [okw, isLS, Cond.onTables, Cond.keeps, Cond.steady]⟩,
  (List.forall_mem_cons.mpr ⟨⟨w273, by simp [okw, isLS, Cond.onTables, Cond.keeps, Cond.steady]⟩,
  (List.forall_mem_cons.mpr ⟨⟨w274, by simp [okw, isLS, Cond.onTables, Cond.keeps, Cond.steady]⟩,
  (List.forall_mem_cons.mpr ⟨⟨w246, by simp [okw, isLS, Cond.onTables, Cond.keeps, Cond.steady]⟩,
  (List.forall_mem_cons.mpr ⟨⟨w230, by simp [okw, isLS, Cond.onTables, Cond.keeps, Cond.steady]⟩,
  (List.forall_mem_cons.mpr ⟨⟨w1357, by simp [okw, isLS, Cond.onTables, Cond.keeps, Cond.steady]⟩,
  (List.forall_mem_cons.mpr ⟨⟨w1359, by simp [okw, isLS, Cond.onTables, Cond.keeps, Cond.steady]⟩,
  (List.forall_mem_cons.mpr ⟨⟨w258, by simp [okw, isLS, Cond.onTables, Cond.keeps, Cond.steady]⟩,
  (List.forall_mem_cons.mpr ⟨⟨w1360, by simp [okw, isLS, Cond.onTables, Cond.keeps, Cond.steady]⟩,
  (List.forall_mem_cons.mpr ⟨⟨w1361, by simp [okw, isLS, Cond.onTables, Cond.keeps, Cond.steady]⟩,
  (List.forall_mem_cons.mpr ⟨⟨w1362, by simp [okw, isLS, Cond.onTables, Cond.keeps, Cond.steady]⟩,
  (List.forall_mem_cons.mpr ⟨⟨w244, by simp [okw, isLS, Cond.onTables, Cond.keeps, Cond.steady]⟩,
  (List.forall_mem_cons.mpr ⟨⟨w243, by simp [okw, isLS, Cond.onTables, Cond.keeps, Cond.steady]⟩,
  (List.forall_mem_cons.mpr ⟨⟨w1364, by simp [okw, isLS, Cond.onTables, Cond.keeps, Cond.steady]⟩,
  (fun a ha => absurd ha List.not_mem_nil)⟩)⟩)⟩)⟩)⟩)⟩)⟩)⟩)⟩)⟩)⟩)⟩)⟩)⟩)⟩)⟩)⟩)⟩)⟩)⟩)⟩)⟩)⟩)⟩)⟩)⟩)⟩)⟩)⟩)⟩)⟩)⟩)⟩)⟩)⟩)⟩)⟩)⟩)⟩)⟩)⟩)⟩)⟩)⟩)⟩)⟩)⟩)⟩), by decide, by decide, by decide⟩
theorem exc_J16 : ExcOk "java/lang/UnsupportedOperationException" ["java/lang/RuntimeException", "java/lang/Exception"] := ⟨(List.forall_mem_cons.mpr ⟨⟨w70, by simp [okw, isLS, Cond.onTables, Cond.keeps, Cond.steady]⟩,
  (List.forall_mem_cons.mpr ⟨⟨w245, by simp [okw, isLS, Cond.onTables, Cond.keeps, Cond.steady]⟩,
  (List.forall_mem_cons.mpr ⟨⟨w254, by simp [okw, isLS, Cond.onTables, Cond.keeps, Cond.steady]⟩,
  (List.forall_mem_cons.mpr ⟨⟨w259, by simp [okw, isLS, Cond.onTables, Cond.keeps, Cond.steady]⟩,
  (List.forall_mem_cons.mpr ⟨⟨w262, by simp [okw, isLS, Cond.onTables, Cond.keeps, Cond.steady]⟩,
  (List.forall_mem_cons.mpr ⟨⟨w264, by simp [okw, isLS, Cond.onTables, Cond.keeps, Cond.steady]⟩,
  (List.forall_mem_cons.mpr ⟨⟨w246, by simp [okw, isLS, Cond.onTables, Cond.keeps, Cond.steady]⟩,
  (List.forall_mem_cons.mpr ⟨⟨w247, by simp [okw, isLS, Cond.onTables, Cond.keeps, Cond.steady]⟩,
  (List.forall_mem_cons.mpr ⟨⟨w113, by simp [okw, isLS, Cond.onTables, Cond.keeps, Cond.steady]⟩,
  (List.forall_mem_cons.mpr ⟨⟨w114, by simp [okw, isLS, Cond.onTables, Cond.keeps, Cond.steady]⟩,
  (List.forall_mem_cons.mpr ⟨⟨w248, by simp [okw, isLS, Cond.onTables, Cond.keeps, Cond.steady]⟩,
  (List.forall_mem_cons.mpr ⟨⟨w253, by simp [okw, isLS, Cond.onTables, Cond.keeps, Cond.steady]⟩,
  (List.forall_mem_cons.mpr ⟨⟨w260, by simp [okw, isLS, Cond.onTables, Cond.keeps, Cond.steady]⟩,
  (List.forall_mem_cons.mpr ⟨⟨w277, by simp [okw, isLS, Cond.onTables, Cond.keeps, Cond.steady]⟩,
  (List.forall_mem_cons.mpr ⟨⟨w235, by simp [okw, isLS, Cond.onTables, Cond.keeps, Cond.steady]⟩,
  (List.forall_mem_cons.mpr ⟨⟨w278, by simp [okw, isLS, Cond.onTables, Cond.keeps, Cond.steady]⟩,
  (List.forall_mem_cons.mpr ⟨⟨w237, by simp [okw, isLS, Cond.onTables, Cond.keeps, Cond.steady]⟩,
  (List.forall_mem_cons.mpr ⟨⟨w279, by simp [okw, isLS, Cond.onTables, Cond.keeps, Cond.steady]⟩,
  (List.forall_mem_cons.mpr ⟨⟨w239, by simp [okw, isLS, Cond.onTables, Cond.keeps, Cond.steady]⟩,
  (List.forall_mem_cons.mpr ⟨⟨w249, by simp [okw, isLS, Cond.onTables, Cond.keeps, Cond.steady]⟩,
  (List.forall_mem_cons.mpr ⟨⟨w250, by simp [okw, isLS, Cond.onTables, Cond.keeps, Cond.steady]⟩,
  (List.forall_mem_cons.mpr ⟨⟨w251, by simp [okw, isLS, Cond.onTables, Cond.keeps, Cond.steady]⟩,
  (List.forall_mem_cons.mpr ⟨⟨w252, by simp [okw, isLS, Cond.onTables, Cond.keeps, Cond.steady]⟩,
  (List.forall_mem_cons.mpr ⟨⟨w241, by simp [okw, isLS, Cond.onTables, Cond.keeps, Cond.steady]⟩,
  (List.forall_mem_cons.mpr ⟨⟨w1381, by simp [okw, isLS, Cond.onTables, Cond.keeps, Cond.steady]⟩,
  (List.forall_mem_cons.mpr ⟨⟨w1382, by simp [okw, isLS, Cond.onTables, Cond.keeps, Cond.steady]⟩,
  (List.forall_mem_cons.mpr ⟨⟨w1383, by simp [okw, isLS, Cond.onTables, Cond.keeps, Cond.steady]⟩,
  (List.forall_mem_cons.mpr ⟨⟨w269, by simp [okw, isLS, Cond.onTables, Cond.keeps, Cond.steady]⟩,
  (List.forall_mem_cons.mpr ⟨⟨w226, by simp [okw, isLS, Cond.onTables, Cond.keeps, Cond.steady]⟩,
  (List.forall_mem_cons.mpr ⟨⟨w269, by simp [okw, isLS, Cond.onTables, Cond.keeps, Cond.steady]⟩,
  (List.forall_mem_cons.mpr ⟨⟨w270, by simp [okw, isLS, Cond.onTables, Cond.keeps, Cond.steady]⟩,
  (List.forall_mem_cons.mpr ⟨⟨w271, by simp [okw, isLS, Cond.onTables, Cond.keeps, Cond.steady]⟩,
  (List.forall_mem_cons.mpr ⟨⟨w272, by simp [okw, isLS, Cond.onTables, Cond.keeps, Cond.steady]⟩,
  (List.forall_mem_cons.mpr ⟨⟨w228, by simp [okw, isLS, Cond.onTables, Cond.keeps, Cond.steady]⟩,
  (List.forall_mem_cons.mpr ⟨⟨w272, by simp [okw, isLS, Cond.onTables, Cond.keeps, Cond.steady]⟩,
  (List.forall_mem_cons.mpr ⟨⟨w273, by simp [okw, isLS, Cond.onTables, Cond.keeps, Cond.steady]⟩,
  (List.forall_mem_cons.mpr ⟨⟨w274, by simp [okw, isLS, Cond.onTables, Cond.keeps, Cond.steady]⟩,
  (List.forall_mem_cons.mpr ⟨⟨w246, by simp [okw, isLS, Cond.onTables, Cond.keeps, Cond.steady]⟩,
  (List.forall_mem_cons.mpr ⟨⟨w230, by simp [okw, isLS, Cond.onTables, Cond.keeps, Cond.steady]⟩,
  (List.forall_mem_cons.mpr ⟨⟨w1372, by simp [okw, isLS, Cond.onTables, Cond.keeps, Cond.steady]⟩,
  (List.forall_mem_cons.mpr ⟨⟨w1374, by simp [okw, isLS, Cond.onTables, Cond.keeps, Cond.steady]⟩,
  (List.forall_mem_cons.mpr ⟨⟨w257, by simp [okw, isLS, Cond.onTables, Cond.keeps, Cond.steady]⟩,
  (List.forall_mem_cons.mpr ⟨⟨w1375, by simp [okw, isLS, Cond.onTables, Cond.keeps, Cond.steady]⟩,
  (List.forall_mem_cons.mpr ⟨⟨w1376, by simp [okw, isLS, Cond.onTables, Cond.keeps, Cond.steady]⟩,
  (List.forall_mem_cons.mpr ⟨⟨w1377, by simp [okw, isLS, Cond.onTables, Cond.keeps, Cond.steady]⟩,
  (List.forall_mem_cons.mpr ⟨⟨w244, by simp [okw, isLS, Cond.onTables, Cond.keeps, Cond.steady]⟩,
  (List.forall_mem_cons.mpr ⟨⟨w243, by simp [okw, isLS, Cond.onTables, Cond.keeps, Cond.steady]⟩,
  (List.forall_mem_cons.mpr ⟨⟨w1379, by simp [okw, isLS, Cond.onTables, Cond.keeps, Cond.steady]⟩,
  (fun a ha => absurd ha List.not_mem_nil)⟩)⟩)⟩)⟩)⟩)⟩)⟩)⟩)⟩)⟩)⟩)⟩)⟩)⟩)⟩)⟩)⟩)⟩)⟩)⟩)⟩)⟩)⟩)⟩)⟩)⟩)⟩)⟩)⟩)⟩)⟩)⟩)⟩)⟩)⟩)⟩)⟩)⟩)⟩)⟩)⟩)⟩)⟩)⟩)⟩)⟩)⟩)⟩), by decide, by decide, by decide⟩
theorem nc_X20_X13 : Nc "TripleStore$Minus" "TripleStore$Filter" := fun A s h => flat_of_before _ h _ (by decide +kernel)
theorem nc_X5_X6 : Nc "TripleStore$Numeral" "TripleStore$Word" := fun A s h => flat_of_before _ h _ (by decide +kernel)
theorem nc_X19_X13 : Nc "TripleStore$Optional" "TripleStore$Filter" := fun A s h => flat_of_before _ h _ (by decide +kernel)
theorem nc_X22_X13 : Nc "TripleStore$Pattern" "TripleStore$Filter" := fun A s h => flat_of_before _ h _ (by decide +kernel)
theorem nc_X21_X13 : Nc "TripleStore$Union" "TripleStore$Filter" := fun A s h => flat_of_before _ h _ (by decide +kernel)
theorem nc_X6_X5 : Nc "TripleStore$Word" "TripleStore$Numeral" := fun A s h => flat_of_before _ h _ (by decide +kernel)
theorem nc_J7_J14 : Nc "java/lang/IllegalArgumentException" "java/lang/IllegalStateException" := fun A s h => flat_of_before _ h _ (by decide +kernel)
theorem nc_J7_J16 : Nc "java/lang/IllegalArgumentException" "java/lang/UnsupportedOperationException" := fun A s h => flat_of_before _ h _ (by decide +kernel)
theorem nc_J7_J15 : Nc "java/lang/IllegalArgumentException" "java/util/NoSuchElementException" := fun A s h => flat_of_before _ h _ (by decide +kernel)
theorem nc_J14_J7 : Nc "java/lang/IllegalStateException" "java/lang/IllegalArgumentException" := fun A s h => flat_of_before _ h _ (by decide +kernel)
theorem nc_J14_J16 : Nc "java/lang/IllegalStateException" "java/lang/UnsupportedOperationException" := fun A s h => flat_of_before _ h _ (by decide +kernel)
theorem nc_J14_J15 : Nc "java/lang/IllegalStateException" "java/util/NoSuchElementException" := fun A s h => flat_of_before _ h _ (by decide +kernel)
theorem nc_J16_J7 : Nc "java/lang/UnsupportedOperationException" "java/lang/IllegalArgumentException" := fun A s h => flat_of_before _ h _ (by decide +kernel)
theorem nc_J16_J14 : Nc "java/lang/UnsupportedOperationException" "java/lang/IllegalStateException" := fun A s h => flat_of_before _ h _ (by decide +kernel)
theorem nc_J16_J15 : Nc "java/lang/UnsupportedOperationException" "java/util/NoSuchElementException" := fun A s h => flat_of_before _ h _ (by decide +kernel)
theorem nc_J15_J7 : Nc "java/util/NoSuchElementException" "java/lang/IllegalArgumentException" := fun A s h => flat_of_before _ h _ (by decide +kernel)
theorem nc_J15_J14 : Nc "java/util/NoSuchElementException" "java/lang/IllegalStateException" := fun A s h => flat_of_before _ h _ (by decide +kernel)
theorem fd_J0_15 : ∀ q ∈ ([(22, 0)] : List (Nat × Nat)), FD "java/lang/AbstractStringBuilder" 15 q.1 q.2 (.array .byte) false "java/lang/AbstractStringBuilder" := (List.forall_mem_cons.mpr ⟨⟨_, _, _, rfl, by decide, Or.inl w135, by decide +kernel, rfl, rfl⟩, (fun q hq => absurd hq List.not_mem_nil)⟩)
theorem fd_J0_22 : ∀ q ∈ ([(22, 1)] : List (Nat × Nat)), FD "java/lang/AbstractStringBuilder" 22 q.1 q.2 .byte false "java/lang/AbstractStringBuilder" := (List.forall_mem_cons.mpr ⟨⟨_, _, _, rfl, by decide, Or.inl w136, by decide +kernel, rfl, rfl⟩, (fun q hq => absurd hq List.not_mem_nil)⟩)
theorem fd_J0_73 : ∀ q ∈ ([(22, 2)] : List (Nat × Nat)), FD "java/lang/AbstractStringBuilder" 73 q.1 q.2 .boolean false "java/lang/AbstractStringBuilder" := (List.forall_mem_cons.mpr ⟨⟨_, _, _, rfl, by decide, Or.inl w137, by decide +kernel, rfl, rfl⟩, (fun q hq => absurd hq List.not_mem_nil)⟩)
theorem fd_J0_79 : ∀ q ∈ ([(22, 3)] : List (Nat × Nat)), FD "java/lang/AbstractStringBuilder" 79 q.1 q.2 .int false "java/lang/AbstractStringBuilder" := (List.forall_mem_cons.mpr ⟨⟨_, _, _, rfl, by decide, Or.inl w139, by decide +kernel, rfl, rfl⟩, (fun q hq => absurd hq List.not_mem_nil)⟩)
theorem fd_J2_1048 : ∀ q ∈ ([(22, 2)] : List (Nat × Nat)), FD "java/lang/String" 1048 q.1 q.2 .boolean false "java/lang/AbstractStringBuilder" := (List.forall_mem_cons.mpr ⟨⟨_, _, _, rfl, by decide, Or.inl w138, by decide +kernel, rfl, rfl⟩, (fun q hq => absurd hq List.not_mem_nil)⟩)
theorem fd_J2_15 : ∀ q ∈ ([(23, 1)] : List (Nat × Nat)), FD "java/lang/String" 15 q.1 q.2 .byte true "java/lang/String" := (List.forall_mem_cons.mpr ⟨⟨_, _, _, rfl, by decide, Or.inl w540, by decide +kernel, rfl, rfl⟩, (fun q hq => absurd hq List.not_mem_nil)⟩)
theorem fd_J2_19 : ∀ q ∈ ([(23, 2)] : List (Nat × Nat)), FD "java/lang/String" 19 q.1 q.2 .int false "java/lang/String" := (List.forall_mem_cons.mpr ⟨⟨_, _, _, rfl, by decide, Or.inl w541, by decide +kernel, rfl, rfl⟩, (fun q hq => absurd hq List.not_mem_nil)⟩)
theorem fd_J2_23 : ∀ q ∈ ([(23, 3)] : List (Nat × Nat)), FD "java/lang/String" 23 q.1 q.2 .boolean false "java/lang/String" := (List.forall_mem_cons.mpr ⟨⟨_, _, _, rfl, by decide, Or.inl w542, by decide +kernel, rfl, rfl⟩, (fun q hq => absurd hq List.not_mem_nil)⟩)
theorem fd_J2_9 : ∀ q ∈ ([(23, 0)] : List (Nat × Nat)), FD "java/lang/String" 9 q.1 q.2 (.array .byte) true "java/lang/String" := (List.forall_mem_cons.mpr ⟨⟨_, _, _, rfl, by decide, Or.inl w539, by decide +kernel, rfl, rfl⟩, (fun q hq => absurd hq List.not_mem_nil)⟩)
theorem fd_X10_15 : ∀ q ∈ ([(8, 4)] : List (Nat × Nat)), FD "TripleStore$Query" 15 q.1 q.2 .int false "TripleStore$Query" := (List.forall_mem_cons.mpr ⟨⟨_, _, _, rfl, by decide, Or.inl w946, by decide +kernel, rfl, rfl⟩, (fun q hq => absurd hq List.not_mem_nil)⟩)
theorem fd_X10_19 : ∀ q ∈ ([(8, 6)] : List (Nat × Nat)), FD "TripleStore$Query" 19 q.1 q.2 .int false "TripleStore$Query" := (List.forall_mem_cons.mpr ⟨⟨_, _, _, rfl, by decide, Or.inl w950, by decide +kernel, rfl, rfl⟩, (fun q hq => absurd hq List.not_mem_nil)⟩)
theorem fd_X10_9 : ∀ q ∈ ([(8, 1)] : List (Nat × Nat)), FD "TripleStore$Query" 9 q.1 q.2 (.array .int) true "TripleStore$Query" := (List.forall_mem_cons.mpr ⟨⟨_, _, _, rfl, by decide, Or.inl w937, by decide +kernel, rfl, rfl⟩, (fun q hq => absurd hq List.not_mem_nil)⟩)
theorem fd_X11_13 : ∀ q ∈ ([(9, 1)] : List (Nat × Nat)), FD "TripleStore$Group" 13 q.1 q.2 (.object "TripleStore$Element") false "TripleStore$Group" := (List.forall_mem_cons.mpr ⟨⟨_, _, _, rfl, by decide, Or.inl w998, by decide +kernel, rfl, rfl⟩, (fun q hq => absurd hq List.not_mem_nil)⟩)
theorem fd_X11_16 : ∀ q ∈ ([(10, 0), (15, 0), (16, 0), (17, 0), (18, 0)] : List (Nat × Nat)), FD "TripleStore$Group" 16 q.1 q.2 (.object "TripleStore$Element") false "TripleStore$Element" := (List.forall_mem_cons.mpr ⟨⟨_, _, _, rfl, by decide, Or.inr ⟨_, w1088⟩, by decide +kernel, rfl, rfl⟩, (List.forall_mem_cons.mpr ⟨⟨_, _, _, rfl, by decide, Or.inr ⟨_, w1088⟩, by decide +kernel, rfl, rfl⟩, (List.forall_mem_cons.mpr ⟨⟨_, _, _, rfl, by decide, Or.inr ⟨_, w1088⟩, by decide +kernel, rfl, rfl⟩, (List.forall_mem_cons.mpr ⟨⟨_, _, _, rfl, by decide, Or.inr ⟨_, w1088⟩, by decide +kernel, rfl, rfl⟩, (List.forall_mem_cons.mpr ⟨⟨_, _, _, rfl, by decide, Or.inr ⟨_, w1088⟩, by decide +kernel, rfl, rfl⟩, (fun q hq => absurd hq List.not_mem_nil)⟩)⟩)⟩)⟩)⟩)
theorem fd_X11_7 : ∀ q ∈ ([(9, 0)] : List (Nat × Nat)), FD "TripleStore$Group" 7 q.1 q.2 (.object "TripleStore$Element") false "TripleStore$Group" := (List.forall_mem_cons.mpr ⟨⟨_, _, _, rfl, by decide, Or.inl w997, by decide +kernel, rfl, rfl⟩, (fun q hq => absurd hq List.not_mem_nil)⟩)
theorem fd_X13_16 : ∀ q ∈ ([(19, 1)] : List (Nat × Nat)), FD "TripleStore$Filter" 16 q.1 q.2 .int false "TripleStore$Found" := (List.forall_mem_cons.mpr ⟨⟨_, _, _, rfl, by decide, Or.inr ⟨_, w1178⟩, by decide +kernel, rfl, rfl⟩, (fun q hq => absurd hq List.not_mem_nil)⟩)
theorem fd_X13_20 : ∀ q ∈ ([(19, 0)] : List (Nat × Nat)), FD "TripleStore$Filter" 20 q.1 q.2 (.array (.object "TripleStore$Solution")) true "TripleStore$Found" := (List.forall_mem_cons.mpr ⟨⟨_, _, _, rfl, by decide, Or.inr ⟨_, w1172⟩, by decide +kernel, rfl, rfl⟩, (fun q hq => absurd hq List.not_mem_nil)⟩)
theorem fd_X13_7 : ∀ q ∈ ([(10, 1)] : List (Nat × Nat)), FD "TripleStore$Filter" 7 q.1 q.2 (.object "TripleStore$Test") true "TripleStore$Filter" := (List.forall_mem_cons.mpr ⟨⟨_, _, _, rfl, by decide, Or.inl w1087, by decide +kernel, rfl, rfl⟩, (fun q hq => absurd hq List.not_mem_nil)⟩)
theorem fd_X15_7 : ∀ q ∈ ([(11, 0)] : List (Nat × Nat)), FD "TripleStore$Not" 7 q.1 q.2 (.object "TripleStore$Test") true "TripleStore$Not" := (List.forall_mem_cons.mpr ⟨⟨_, _, _, rfl, by decide, Or.inl w1023, by decide +kernel, rfl, rfl⟩, (fun q hq => absurd hq List.not_mem_nil)⟩)
theorem fd_X16_13 : ∀ q ∈ ([(20, 0)] : List (Nat × Nat)), FD "TripleStore$Bound" 13 q.1 q.2 (.array (.object "TripleStore$Term")) true "TripleStore$Solution" := (List.forall_mem_cons.mpr ⟨⟨_, _, _, rfl, by decide, Or.inr ⟨_, w1195⟩, by decide +kernel, rfl, rfl⟩, (fun q hq => absurd hq List.not_mem_nil)⟩)
theorem fd_X16_7 : ∀ q ∈ ([(12, 0)] : List (Nat × Nat)), FD "TripleStore$Bound" 7 q.1 q.2 .int true "TripleStore$Bound" := (List.forall_mem_cons.mpr ⟨⟨_, _, _, rfl, by decide, Or.inl w1033, by decide +kernel, rfl, rfl⟩, (fun q hq => absurd hq List.not_mem_nil)⟩)
theorem fd_X17_13 : ∀ q ∈ ([(13, 1)] : List (Nat × Nat)), FD "TripleStore$Side" 13 q.1 q.2 .int true "TripleStore$Side" := (List.forall_mem_cons.mpr ⟨⟨_, _, _, rfl, by decide, Or.inl w1049, by decide +kernel, rfl, rfl⟩, (fun q hq => absurd hq List.not_mem_nil)⟩)
theorem fd_X17_17 : ∀ q ∈ ([(20, 0)] : List (Nat × Nat)), FD "TripleStore$Side" 17 q.1 q.2 (.array (.object "TripleStore$Term")) true "TripleStore$Solution" := (List.forall_mem_cons.mpr ⟨⟨_, _, _, rfl, by decide, Or.inr ⟨_, w1196⟩, by decide +kernel, rfl, rfl⟩, (fun q hq => absurd hq List.not_mem_nil)⟩)
theorem fd_X17_7 : ∀ q ∈ ([(13, 0)] : List (Nat × Nat)), FD "TripleStore$Side" 7 q.1 q.2 (.object "TripleStore$Term") true "TripleStore$Side" := (List.forall_mem_cons.mpr ⟨⟨_, _, _, rfl, by decide, Or.inl w1047, by decide +kernel, rfl, rfl⟩, (fun q hq => absurd hq List.not_mem_nil)⟩)
theorem fd_X18_13 : ∀ q ∈ ([(14, 1)] : List (Nat × Nat)), FD "TripleStore$Comparison" 13 q.1 q.2 .char true "TripleStore$Comparison" := (List.forall_mem_cons.mpr ⟨⟨_, _, _, rfl, by decide, Or.inl w1071, by decide +kernel, rfl, rfl⟩, (fun q hq => absurd hq List.not_mem_nil)⟩)
theorem fd_X18_17 : ∀ q ∈ ([(14, 2)] : List (Nat × Nat)), FD "TripleStore$Comparison" 17 q.1 q.2 (.object "TripleStore$Side") true "TripleStore$Comparison" := (List.forall_mem_cons.mpr ⟨⟨_, _, _, rfl, by decide, Or.inl w1072, by decide +kernel, rfl, rfl⟩, (fun q hq => absurd hq List.not_mem_nil)⟩)
theorem fd_X18_7 : ∀ q ∈ ([(14, 0)] : List (Nat × Nat)), FD "TripleStore$Comparison" 7 q.1 q.2 (.object "TripleStore$Side") true "TripleStore$Comparison" := (List.forall_mem_cons.mpr ⟨⟨_, _, _, rfl, by decide, Or.inl w1070, by decide +kernel, rfl, rfl⟩, (fun q hq => absurd hq List.not_mem_nil)⟩)
theorem fd_X19_22 : ∀ q ∈ ([(19, 1)] : List (Nat × Nat)), FD "TripleStore$Optional" 22 q.1 q.2 .int false "TripleStore$Found" := (List.forall_mem_cons.mpr ⟨⟨_, _, _, rfl, by decide, Or.inr ⟨_, w1177⟩, by decide +kernel, rfl, rfl⟩, (fun q hq => absurd hq List.not_mem_nil)⟩)
theorem fd_X19_26 : ∀ q ∈ ([(19, 0)] : List (Nat × Nat)), FD "TripleStore$Optional" 26 q.1 q.2 (.array (.object "TripleStore$Solution")) true "TripleStore$Found" := (List.forall_mem_cons.mpr ⟨⟨_, _, _, rfl, by decide, Or.inr ⟨_, w1171⟩, by decide +kernel, rfl, rfl⟩, (fun q hq => absurd hq List.not_mem_nil)⟩)
theorem fd_X19_7 : ∀ q ∈ ([(15, 1)] : List (Nat × Nat)), FD "TripleStore$Optional" 7 q.1 q.2 (.object "TripleStore$Group") true "TripleStore$Optional" := (List.forall_mem_cons.mpr ⟨⟨_, _, _, rfl, by decide, Or.inl w1100, by decide +kernel, rfl, rfl⟩, (fun q hq => absurd hq List.not_mem_nil)⟩)
theorem fd_X1_103 : ∀ q ∈ ([(0, 5)] : List (Nat × Nat)), FD "TripleStore" 103 q.1 q.2 (.object "TripleStore$Commit") false "TripleStore" := (List.forall_mem_cons.mpr ⟨⟨_, _, _, rfl, by decide, Or.inl w159, by decide +kernel, rfl, rfl⟩, (fun q hq => absurd hq List.not_mem_nil)⟩)
theorem fd_X1_107 : ∀ q ∈ ([(0, 6)] : List (Nat × Nat)), FD "TripleStore" 107 q.1 q.2 (.object "TripleStore$Commit") false "TripleStore" := (List.forall_mem_cons.mpr ⟨⟨_, _, _, rfl, by decide, Or.inl w160, by decide +kernel, rfl, rfl⟩, (fun q hq => absurd hq List.not_mem_nil)⟩)
theorem fd_X1_11 : ∀ q ∈ ([(0, 0)] : List (Nat × Nat)), FD "TripleStore" 11 q.1 q.2 (.array (.object "TripleStore$Triple")) true "TripleStore" := (List.forall_mem_cons.mpr ⟨⟨_, _, _, rfl, by decide, Or.inl w152, by decide +kernel, rfl, rfl⟩, (fun q hq => absurd hq List.not_mem_nil)⟩)
theorem fd_X1_110 : ∀ q ∈ ([(6, 1)] : List (Nat × Nat)), FD "TripleStore" 110 q.1 q.2 (.object "TripleStore$Commit") false "TripleStore$Commit" := (List.forall_mem_cons.mpr ⟨⟨_, _, _, rfl, by decide, Or.inr ⟨_, w653⟩, by decide +kernel, rfl, rfl⟩, (fun q hq => absurd hq List.not_mem_nil)⟩)
theorem fd_X1_113 : ∀ q ∈ ([(0, 7)] : List (Nat × Nat)), FD "TripleStore" 113 q.1 q.2 .int false "TripleStore" := (List.forall_mem_cons.mpr ⟨⟨_, _, _, rfl, by decide, Or.inl w161, by decide +kernel, rfl, rfl⟩, (fun q hq => absurd hq List.not_mem_nil)⟩)
theorem fd_X1_116 : ∀ q ∈ ([(0, 8)] : List (Nat × Nat)), FD "TripleStore" 116 q.1 q.2 .int false "TripleStore" := (List.forall_mem_cons.mpr ⟨⟨_, _, _, rfl, by decide, Or.inl w162, by decide +kernel, rfl, rfl⟩, (fun q hq => absurd hq List.not_mem_nil)⟩)
theorem fd_X1_144 : ∀ q ∈ ([(5, 0)] : List (Nat × Nat)), FD "TripleStore" 144 q.1 q.2 .boolean true "TripleStore$Change" := (List.forall_mem_cons.mpr ⟨⟨_, _, _, rfl, by decide, Or.inr ⟨_, w629⟩, by decide +kernel, rfl, rfl⟩, (fun q hq => absurd hq List.not_mem_nil)⟩)
theorem fd_X1_147 : ∀ q ∈ ([(5, 1)] : List (Nat × Nat)), FD "TripleStore" 147 q.1 q.2 (.object "TripleStore$Triple") true "TripleStore$Change" := (List.forall_mem_cons.mpr ⟨⟨_, _, _, rfl, by decide, Or.inr ⟨_, w631⟩, by decide +kernel, rfl, rfl⟩, (fun q hq => absurd hq List.not_mem_nil)⟩)
theorem fd_X1_151 : ∀ q ∈ ([(5, 2)] : List (Nat × Nat)), FD "TripleStore" 151 q.1 q.2 (.object "TripleStore$Change") true "TripleStore$Change" := (List.forall_mem_cons.mpr ⟨⟨_, _, _, rfl, by decide, Or.inr ⟨_, w633⟩, by decide +kernel, rfl, rfl⟩, (fun q hq => absurd hq List.not_mem_nil)⟩)
theorem fd_X1_160 : ∀ q ∈ ([(6, 0)] : List (Nat × Nat)), FD "TripleStore" 160 q.1 q.2 (.object "TripleStore$Change") true "TripleStore$Commit" := (List.forall_mem_cons.mpr ⟨⟨_, _, _, rfl, by decide, Or.inr ⟨_, w652⟩, by decide +kernel, rfl, rfl⟩, (fun q hq => absurd hq List.not_mem_nil)⟩)
theorem fd_X1_170 : ∀ q ∈ ([(8, 0)] : List (Nat × Nat)), FD "TripleStore" 170 q.1 q.2 .boolean false "TripleStore$Query" := (List.forall_mem_cons.mpr ⟨⟨_, _, _, rfl, by decide, Or.inr ⟨_, w936⟩, by decide +kernel, rfl, rfl⟩, (fun q hq => absurd hq List.not_mem_nil)⟩)
theorem fd_X1_175 : ∀ q ∈ ([(0, 12)] : List (Nat × Nat)), FD "TripleStore" 175 q.1 q.2 .int false "TripleStore" := (List.forall_mem_cons.mpr ⟨⟨_, _, _, rfl, by decide, Or.inl w167, by decide +kernel, rfl, rfl⟩, (fun q hq => absurd hq List.not_mem_nil)⟩)
theorem fd_X1_182 : ∀ q ∈ ([(8, 5)] : List (Nat × Nat)), FD "TripleStore" 182 q.1 q.2 .boolean false "TripleStore$Query" := (List.forall_mem_cons.mpr ⟨⟨_, _, _, rfl, by decide, Or.inr ⟨_, w949⟩, by decide +kernel, rfl, rfl⟩, (fun q hq => absurd hq List.not_mem_nil)⟩)
theorem fd_X1_20 : ∀ q ∈ ([(0, 9)] : List (Nat × Nat)), FD "TripleStore" 20 q.1 q.2 (.object "java/lang/StringBuilder") true "TripleStore" := (List.forall_mem_cons.mpr ⟨⟨_, _, _, rfl, by decide, Or.inl w163, by decide +kernel, rfl, rfl⟩, (fun q hq => absurd hq List.not_mem_nil)⟩)
theorem fd_X1_200 : ∀ q ∈ ([(8, 2)] : List (Nat × Nat)), FD "TripleStore" 200 q.1 q.2 .int false "TripleStore$Query" := (List.forall_mem_cons.mpr ⟨⟨_, _, _, rfl, by decide, Or.inr ⟨_, w942⟩, by decide +kernel, rfl, rfl⟩, (fun q hq => absurd hq List.not_mem_nil)⟩)
theorem fd_X1_203 : ∀ q ∈ ([(0, 13)] : List (Nat × Nat)), FD "TripleStore" 203 q.1 q.2 .int false "TripleStore" := (List.forall_mem_cons.mpr ⟨⟨_, _, _, rfl, by decide, Or.inl w168, by decide +kernel, rfl, rfl⟩, (fun q hq => absurd hq List.not_mem_nil)⟩)
theorem fd_X1_206 : ∀ q ∈ ([(8, 3)] : List (Nat × Nat)), FD "TripleStore" 206 q.1 q.2 (.object "TripleStore$Group") false "TripleStore$Query" := (List.forall_mem_cons.mpr ⟨⟨_, _, _, rfl, by decide, Or.inr ⟨_, w944⟩, by decide +kernel, rfl, rfl⟩, (fun q hq => absurd hq List.not_mem_nil)⟩)
theorem fd_X1_215 : ∀ q ∈ ([(19, 1)] : List (Nat × Nat)), FD "TripleStore" 215 q.1 q.2 .int false "TripleStore$Found" := (List.forall_mem_cons.mpr ⟨⟨_, _, _, rfl, by decide, Or.inr ⟨_, w1180⟩, by decide +kernel, rfl, rfl⟩, (fun q hq => absurd hq List.not_mem_nil)⟩)
theorem fd_X1_218 : ∀ q ∈ ([(19, 0)] : List (Nat × Nat)), FD "TripleStore" 218 q.1 q.2 (.array (.object "TripleStore$Solution")) true "TripleStore$Found" := (List.forall_mem_cons.mpr ⟨⟨_, _, _, rfl, by decide, Or.inr ⟨_, w1174⟩, by decide +kernel, rfl, rfl⟩, (fun q hq => absurd hq List.not_mem_nil)⟩)
theorem fd_X1_229 : ∀ q ∈ ([(8, 6)] : List (Nat × Nat)), FD "TripleStore" 229 q.1 q.2 .int false "TripleStore$Query" := (List.forall_mem_cons.mpr ⟨⟨_, _, _, rfl, by decide, Or.inr ⟨_, w952⟩, by decide +kernel, rfl, rfl⟩, (fun q hq => absurd hq List.not_mem_nil)⟩)
theorem fd_X1_24 : ∀ q ∈ ([(0, 10)] : List (Nat × Nat)), FD "TripleStore" 24 q.1 q.2 .int false "TripleStore" := (List.forall_mem_cons.mpr ⟨⟨_, _, _, rfl, by decide, Or.inl w164, by decide +kernel, rfl, rfl⟩, (fun q hq => absurd hq List.not_mem_nil)⟩)
theorem fd_X1_241 : ∀ q ∈ ([(21, 1)] : List (Nat × Nat)), FD "TripleStore" 241 q.1 q.2 (.array (.object "TripleStore$Term")) true "TripleStore$Row" := (List.forall_mem_cons.mpr ⟨⟨_, _, _, rfl, by decide, Or.inr ⟨_, w1322⟩, by decide +kernel, rfl, rfl⟩, (fun q hq => absurd hq List.not_mem_nil)⟩)
theorem fd_X1_30 : ∀ q ∈ ([(0, 11)] : List (Nat × Nat)), FD "TripleStore" 30 q.1 q.2 (.array (.object "TripleStore$Row")) false "TripleStore" := (List.forall_mem_cons.mpr ⟨⟨_, _, _, rfl, by decide, Or.inl w166, by decide +kernel, rfl, rfl⟩, (fun q hq => absurd hq List.not_mem_nil)⟩)
theorem fd_X1_68 : ∀ q ∈ ([(2, 0)] : List (Nat × Nat)), FD "TripleStore" 68 q.1 q.2 (.array (.object "TripleStore$Term")) true "TripleStore$Triple" := (List.forall_mem_cons.mpr ⟨⟨_, _, _, rfl, by decide, Or.inr ⟨_, w568⟩, by decide +kernel, rfl, rfl⟩, (fun q hq => absurd hq List.not_mem_nil)⟩)
theorem fd_X1_72 : ∀ q ∈ ([(0, 1)] : List (Nat × Nat)), FD "TripleStore" 72 q.1 q.2 .int false "TripleStore" := (List.forall_mem_cons.mpr ⟨⟨_, _, _, rfl, by decide, Or.inl w155, by decide +kernel, rfl, rfl⟩, (fun q hq => absurd hq List.not_mem_nil)⟩)
theorem fd_X1_81 : ∀ q ∈ ([(0, 3)] : List (Nat × Nat)), FD "TripleStore" 81 q.1 q.2 (.object "TripleStore$Change") false "TripleStore" := (List.forall_mem_cons.mpr ⟨⟨_, _, _, rfl, by decide, Or.inl w157, by decide +kernel, rfl, rfl⟩, (fun q hq => absurd hq List.not_mem_nil)⟩)
theorem fd_X1_88 : ∀ q ∈ ([(0, 4)] : List (Nat × Nat)), FD "TripleStore" 88 q.1 q.2 .int false "TripleStore" := (List.forall_mem_cons.mpr ⟨⟨_, _, _, rfl, by decide, Or.inl w158, by decide +kernel, rfl, rfl⟩, (fun q hq => absurd hq List.not_mem_nil)⟩)
theorem fd_X1_91 : ∀ q ∈ ([(0, 2)] : List (Nat × Nat)), FD "TripleStore" 91 q.1 q.2 .boolean false "TripleStore" := (List.forall_mem_cons.mpr ⟨⟨_, _, _, rfl, by decide, Or.inl w156, by decide +kernel, rfl, rfl⟩, (fun q hq => absurd hq List.not_mem_nil)⟩)
theorem fd_X20_13 : ∀ q ∈ ([(19, 1)] : List (Nat × Nat)), FD "TripleStore$Minus" 13 q.1 q.2 .int false "TripleStore$Found" := (List.forall_mem_cons.mpr ⟨⟨_, _, _, rfl, by decide, Or.inr ⟨_, w1176⟩, by decide +kernel, rfl, rfl⟩, (fun q hq => absurd hq List.not_mem_nil)⟩)
theorem fd_X20_19 : ∀ q ∈ ([(19, 0)] : List (Nat × Nat)), FD "TripleStore$Minus" 19 q.1 q.2 (.array (.object "TripleStore$Solution")) true "TripleStore$Found" := (List.forall_mem_cons.mpr ⟨⟨_, _, _, rfl, by decide, Or.inr ⟨_, w1170⟩, by decide +kernel, rfl, rfl⟩, (fun q hq => absurd hq List.not_mem_nil)⟩)
theorem fd_X20_7 : ∀ q ∈ ([(16, 1)] : List (Nat × Nat)), FD "TripleStore$Minus" 7 q.1 q.2 (.object "TripleStore$Group") true "TripleStore$Minus" := (List.forall_mem_cons.mpr ⟨⟨_, _, _, rfl, by decide, Or.inl w1111, by decide +kernel, rfl, rfl⟩, (fun q hq => absurd hq List.not_mem_nil)⟩)
theorem fd_X21_15 : ∀ q ∈ ([(17, 2)] : List (Nat × Nat)), FD "TripleStore$Union" 15 q.1 q.2 .int false "TripleStore$Union" := (List.forall_mem_cons.mpr ⟨⟨_, _, _, rfl, by decide, Or.inl w1125, by decide +kernel, rfl, rfl⟩, (fun q hq => absurd hq List.not_mem_nil)⟩)
theorem fd_X21_26 : ∀ q ∈ ([(19, 1)] : List (Nat × Nat)), FD "TripleStore$Union" 26 q.1 q.2 .int false "TripleStore$Found" := (List.forall_mem_cons.mpr ⟨⟨_, _, _, rfl, by decide, Or.inr ⟨_, w1179⟩, by decide +kernel, rfl, rfl⟩, (fun q hq => absurd hq List.not_mem_nil)⟩)
theorem fd_X21_27 : ∀ q ∈ ([(19, 0)] : List (Nat × Nat)), FD "TripleStore$Union" 27 q.1 q.2 (.array (.object "TripleStore$Solution")) true "TripleStore$Found" := (List.forall_mem_cons.mpr ⟨⟨_, _, _, rfl, by decide, Or.inr ⟨_, w1173⟩, by decide +kernel, rfl, rfl⟩, (fun q hq => absurd hq List.not_mem_nil)⟩)
theorem fd_X21_9 : ∀ q ∈ ([(17, 1)] : List (Nat × Nat)), FD "TripleStore$Union" 9 q.1 q.2 (.array (.object "TripleStore$Group")) true "TripleStore$Union" := (List.forall_mem_cons.mpr ⟨⟨_, _, _, rfl, by decide, Or.inl w1124, by decide +kernel, rfl, rfl⟩, (fun q hq => absurd hq List.not_mem_nil)⟩)
theorem fd_X22_22 : ∀ q ∈ ([(2, 0)] : List (Nat × Nat)), FD "TripleStore$Pattern" 22 q.1 q.2 (.array (.object "TripleStore$Term")) true "TripleStore$Triple" := (List.forall_mem_cons.mpr ⟨⟨_, _, _, rfl, by decide, Or.inr ⟨_, w567⟩, by decide +kernel, rfl, rfl⟩, (fun q hq => absurd hq List.not_mem_nil)⟩)
theorem fd_X22_34 : ∀ q ∈ ([(13, 0)] : List (Nat × Nat)), FD "TripleStore$Pattern" 34 q.1 q.2 (.object "TripleStore$Term") true "TripleStore$Side" := (List.forall_mem_cons.mpr ⟨⟨_, _, _, rfl, by decide, Or.inr ⟨_, w1048⟩, by decide +kernel, rfl, rfl⟩, (fun q hq => absurd hq List.not_mem_nil)⟩)
theorem fd_X22_38 : ∀ q ∈ ([(20, 0)] : List (Nat × Nat)), FD "TripleStore$Pattern" 38 q.1 q.2 (.array (.object "TripleStore$Term")) true "TripleStore$Solution" := (List.forall_mem_cons.mpr ⟨⟨_, _, _, rfl, by decide, Or.inr ⟨_, w1197⟩, by decide +kernel, rfl, rfl⟩, (fun q hq => absurd hq List.not_mem_nil)⟩)
theorem fd_X22_41 : ∀ q ∈ ([(13, 1)] : List (Nat × Nat)), FD "TripleStore$Pattern" 41 q.1 q.2 .int true "TripleStore$Side" := (List.forall_mem_cons.mpr ⟨⟨_, _, _, rfl, by decide, Or.inr ⟨_, w1050⟩, by decide +kernel, rfl, rfl⟩, (fun q hq => absurd hq List.not_mem_nil)⟩)
theorem fd_X22_48 : ∀ q ∈ ([(0, 1)] : List (Nat × Nat)), FD "TripleStore$Pattern" 48 q.1 q.2 .int false "TripleStore" := (List.forall_mem_cons.mpr ⟨⟨_, _, _, rfl, by decide, Or.inr ⟨_, w154⟩, by decide +kernel, rfl, rfl⟩, (fun q hq => absurd hq List.not_mem_nil)⟩)
theorem fd_X22_53 : ∀ q ∈ ([(0, 0)] : List (Nat × Nat)), FD "TripleStore$Pattern" 53 q.1 q.2 (.array (.object "TripleStore$Triple")) true "TripleStore" := (List.forall_mem_cons.mpr ⟨⟨_, _, _, rfl, by decide, Or.inr ⟨_, w153⟩, by decide +kernel, rfl, rfl⟩, (fun q hq => absurd hq List.not_mem_nil)⟩)
theorem fd_X22_7 : ∀ q ∈ ([(18, 1)] : List (Nat × Nat)), FD "TripleStore$Pattern" 7 q.1 q.2 (.array (.object "TripleStore$Side")) true "TripleStore$Pattern" := (List.forall_mem_cons.mpr ⟨⟨_, _, _, rfl, by decide, Or.inl w1144, by decide +kernel, rfl, rfl⟩, (fun q hq => absurd hq List.not_mem_nil)⟩)
theorem fd_X23_11 : ∀ q ∈ ([(19, 0)] : List (Nat × Nat)), FD "TripleStore$Found" 11 q.1 q.2 (.array (.object "TripleStore$Solution")) true "TripleStore$Found" := (List.forall_mem_cons.mpr ⟨⟨_, _, _, rfl, by decide, Or.inl w1169, by decide +kernel, rfl, rfl⟩, (fun q hq => absurd hq List.not_mem_nil)⟩)
theorem fd_X23_17 : ∀ q ∈ ([(19, 1)] : List (Nat × Nat)), FD "TripleStore$Found" 17 q.1 q.2 .int false "TripleStore$Found" := (List.forall_mem_cons.mpr ⟨⟨_, _, _, rfl, by decide, Or.inl w1175, by decide +kernel, rfl, rfl⟩, (fun q hq => absurd hq List.not_mem_nil)⟩)
theorem fd_X24_9 : ∀ q ∈ ([(20, 0)] : List (Nat × Nat)), FD "TripleStore$Solution" 9 q.1 q.2 (.array (.object "TripleStore$Term")) true "TripleStore$Solution" := (List.forall_mem_cons.mpr ⟨⟨_, _, _, rfl, by decide, Or.inl w1193, by decide +kernel, rfl, rfl⟩, (fun q hq => absurd hq List.not_mem_nil)⟩)
theorem fd_X25_13 : ∀ q ∈ ([(20, 0)] : List (Nat × Nat)), FD "TripleStore$Row" 13 q.1 q.2 (.array (.object "TripleStore$Term")) true "TripleStore$Solution" := (List.forall_mem_cons.mpr ⟨⟨_, _, _, rfl, by decide, Or.inr ⟨_, w1194⟩, by decide +kernel, rfl, rfl⟩, (fun q hq => absurd hq List.not_mem_nil)⟩)
theorem fd_X25_19 : ∀ q ∈ ([(21, 0)] : List (Nat × Nat)), FD "TripleStore$Row" 19 q.1 q.2 (.object "TripleStore$Term") true "TripleStore$Row" := (List.forall_mem_cons.mpr ⟨⟨_, _, _, rfl, by decide, Or.inl w1320, by decide +kernel, rfl, rfl⟩, (fun q hq => absurd hq List.not_mem_nil)⟩)
theorem fd_X25_24 : ∀ q ∈ ([(8, 2)] : List (Nat × Nat)), FD "TripleStore$Row" 24 q.1 q.2 .int false "TripleStore$Query" := (List.forall_mem_cons.mpr ⟨⟨_, _, _, rfl, by decide, Or.inr ⟨_, w940⟩, by decide +kernel, rfl, rfl⟩, (fun q hq => absurd hq List.not_mem_nil)⟩)
theorem fd_X25_29 : ∀ q ∈ ([(21, 1)] : List (Nat × Nat)), FD "TripleStore$Row" 29 q.1 q.2 (.array (.object "TripleStore$Term")) true "TripleStore$Row" := (List.forall_mem_cons.mpr ⟨⟨_, _, _, rfl, by decide, Or.inl w1321, by decide +kernel, rfl, rfl⟩, (fun q hq => absurd hq List.not_mem_nil)⟩)
theorem fd_X25_32 : ∀ q ∈ ([(8, 1)] : List (Nat × Nat)), FD "TripleStore$Row" 32 q.1 q.2 (.array .int) true "TripleStore$Query" := (List.forall_mem_cons.mpr ⟨⟨_, _, _, rfl, by decide, Or.inr ⟨_, w938⟩, by decide +kernel, rfl, rfl⟩, (fun q hq => absurd hq List.not_mem_nil)⟩)
theorem fd_X25_7 : ∀ q ∈ ([(8, 4)] : List (Nat × Nat)), FD "TripleStore$Row" 7 q.1 q.2 .int false "TripleStore$Query" := (List.forall_mem_cons.mpr ⟨⟨_, _, _, rfl, by decide, Or.inr ⟨_, w945⟩, by decide +kernel, rfl, rfl⟩, (fun q hq => absurd hq List.not_mem_nil)⟩)
theorem fd_X2_102 : ∀ q ∈ ([(1, 1)] : List (Nat × Nat)), FD "TripleStoreModel" 102 q.1 q.2 .int false "TripleStoreModel" := (List.forall_mem_cons.mpr ⟨⟨_, _, _, rfl, by decide, Or.inl w1410, by decide +kernel, rfl, rfl⟩, (fun q hq => absurd hq List.not_mem_nil)⟩)
theorem fd_X2_117 : ∀ q ∈ ([(1, 7)] : List (Nat × Nat)), FD "TripleStoreModel" 117 q.1 q.2 .int false "TripleStoreModel" := (List.forall_mem_cons.mpr ⟨⟨_, _, _, rfl, by decide, Or.inl w1416, by decide +kernel, rfl, rfl⟩, (fun q hq => absurd hq List.not_mem_nil)⟩)
theorem fd_X2_120 : ∀ q ∈ ([(1, 9)] : List (Nat × Nat)), FD "TripleStoreModel" 120 q.1 q.2 .int false "TripleStoreModel" := (List.forall_mem_cons.mpr ⟨⟨_, _, _, rfl, by decide, Or.inl w1418, by decide +kernel, rfl, rfl⟩, (fun q hq => absurd hq List.not_mem_nil)⟩)
theorem fd_X2_123 : ∀ q ∈ ([(1, 10)] : List (Nat × Nat)), FD "TripleStoreModel" 123 q.1 q.2 .boolean false "TripleStoreModel" := (List.forall_mem_cons.mpr ⟨⟨_, _, _, rfl, by decide, Or.inl w1419, by decide +kernel, rfl, rfl⟩, (fun q hq => absurd hq List.not_mem_nil)⟩)
theorem fd_X2_13 : ∀ q ∈ ([(1, 2)] : List (Nat × Nat)), FD "TripleStoreModel" 13 q.1 q.2 (.array .long) true "TripleStoreModel" := (List.forall_mem_cons.mpr ⟨⟨_, _, _, rfl, by decide, Or.inl w1411, by decide +kernel, rfl, rfl⟩, (fun q hq => absurd hq List.not_mem_nil)⟩)
theorem fd_X2_130 : ∀ q ∈ ([(1, 8)] : List (Nat × Nat)), FD "TripleStoreModel" 130 q.1 q.2 .int false "TripleStoreModel" := (List.forall_mem_cons.mpr ⟨⟨_, _, _, rfl, by decide, Or.inl w1417, by decide +kernel, rfl, rfl⟩, (fun q hq => absurd hq List.not_mem_nil)⟩)
theorem fd_X2_148 : ∀ q ∈ ([(1, 11)] : List (Nat × Nat)), FD "TripleStoreModel" 148 q.1 q.2 .int false "TripleStoreModel" := (List.forall_mem_cons.mpr ⟨⟨_, _, _, rfl, by decide, Or.inl w1420, by decide +kernel, rfl, rfl⟩, (fun q hq => absurd hq List.not_mem_nil)⟩)
theorem fd_X2_155 : ∀ q ∈ ([(1, 3)] : List (Nat × Nat)), FD "TripleStoreModel" 155 q.1 q.2 .int false "TripleStoreModel" := (List.forall_mem_cons.mpr ⟨⟨_, _, _, rfl, by decide, Or.inl w1412, by decide +kernel, rfl, rfl⟩, (fun q hq => absurd hq List.not_mem_nil)⟩)
theorem fd_X2_16 : ∀ q ∈ ([(1, 4)] : List (Nat × Nat)), FD "TripleStoreModel" 16 q.1 q.2 (.array .long) true "TripleStoreModel" := (List.forall_mem_cons.mpr ⟨⟨_, _, _, rfl, by decide, Or.inl w1413, by decide +kernel, rfl, rfl⟩, (fun q hq => absurd hq List.not_mem_nil)⟩)
theorem fd_X2_161 : ∀ q ∈ ([(1, 13)] : List (Nat × Nat)), FD "TripleStoreModel" 161 q.1 q.2 .int false "TripleStoreModel" := (List.forall_mem_cons.mpr ⟨⟨_, _, _, rfl, by decide, Or.inl w1422, by decide +kernel, rfl, rfl⟩, (fun q hq => absurd hq List.not_mem_nil)⟩)
theorem fd_X2_164 : ∀ q ∈ ([(1, 16)] : List (Nat × Nat)), FD "TripleStoreModel" 164 q.1 q.2 .long false "TripleStoreModel" := (List.forall_mem_cons.mpr ⟨⟨_, _, _, rfl, by decide, Or.inl w1425, by decide +kernel, rfl, rfl⟩, (fun q hq => absurd hq List.not_mem_nil)⟩)
theorem fd_X2_172 : ∀ q ∈ ([(1, 18)] : List (Nat × Nat)), FD "TripleStoreModel" 172 q.1 q.2 .int false "TripleStoreModel" := (List.forall_mem_cons.mpr ⟨⟨_, _, _, rfl, by decide, Or.inl w1427, by decide +kernel, rfl, rfl⟩, (fun q hq => absurd hq List.not_mem_nil)⟩)
theorem fd_X2_175 : ∀ q ∈ ([(1, 19)] : List (Nat × Nat)), FD "TripleStoreModel" 175 q.1 q.2 .int false "TripleStoreModel" := (List.forall_mem_cons.mpr ⟨⟨_, _, _, rfl, by decide, Or.inl w1428, by decide +kernel, rfl, rfl⟩, (fun q hq => absurd hq List.not_mem_nil)⟩)
theorem fd_X2_178 : ∀ q ∈ ([(1, 17)] : List (Nat × Nat)), FD "TripleStoreModel" 178 q.1 q.2 .int false "TripleStoreModel" := (List.forall_mem_cons.mpr ⟨⟨_, _, _, rfl, by decide, Or.inl w1426, by decide +kernel, rfl, rfl⟩, (fun q hq => absurd hq List.not_mem_nil)⟩)
theorem fd_X2_181 : ∀ q ∈ ([(1, 15)] : List (Nat × Nat)), FD "TripleStoreModel" 181 q.1 q.2 .int false "TripleStoreModel" := (List.forall_mem_cons.mpr ⟨⟨_, _, _, rfl, by decide, Or.inl w1424, by decide +kernel, rfl, rfl⟩, (fun q hq => absurd hq List.not_mem_nil)⟩)
theorem fd_X2_19 : ∀ q ∈ ([(1, 5)] : List (Nat × Nat)), FD "TripleStoreModel" 19 q.1 q.2 (.array .boolean) true "TripleStoreModel" := (List.forall_mem_cons.mpr ⟨⟨_, _, _, rfl, by decide, Or.inl w1414, by decide +kernel, rfl, rfl⟩, (fun q hq => absurd hq List.not_mem_nil)⟩)
theorem fd_X2_220 : ∀ q ∈ ([(1, 20)] : List (Nat × Nat)), FD "TripleStoreModel" 220 q.1 q.2 .int false "TripleStoreModel" := (List.forall_mem_cons.mpr ⟨⟨_, _, _, rfl, by decide, Or.inl w1429, by decide +kernel, rfl, rfl⟩, (fun q hq => absurd hq List.not_mem_nil)⟩)
theorem fd_X2_229 : ∀ q ∈ ([(1, 24)] : List (Nat × Nat)), FD "TripleStoreModel" 229 q.1 q.2 .int false "TripleStoreModel" := (List.forall_mem_cons.mpr ⟨⟨_, _, _, rfl, by decide, Or.inl w1433, by decide +kernel, rfl, rfl⟩, (fun q hq => absurd hq List.not_mem_nil)⟩)
theorem fd_X2_23 : ∀ q ∈ ([(1, 6)] : List (Nat × Nat)), FD "TripleStoreModel" 23 q.1 q.2 (.array .int) true "TripleStoreModel" := (List.forall_mem_cons.mpr ⟨⟨_, _, _, rfl, by decide, Or.inl w1415, by decide +kernel, rfl, rfl⟩, (fun q hq => absurd hq List.not_mem_nil)⟩)
theorem fd_X2_244 : ∀ q ∈ ([(1, 32)] : List (Nat × Nat)), FD "TripleStoreModel" 244 q.1 q.2 .int false "TripleStoreModel" := (List.forall_mem_cons.mpr ⟨⟨_, _, _, rfl, by decide, Or.inl w1441, by decide +kernel, rfl, rfl⟩, (fun q hq => absurd hq List.not_mem_nil)⟩)
theorem fd_X2_247 : ∀ q ∈ ([(1, 39)] : List (Nat × Nat)), FD "TripleStoreModel" 247 q.1 q.2 .int false "TripleStoreModel" := (List.forall_mem_cons.mpr ⟨⟨_, _, _, rfl, by decide, Or.inl w1448, by decide +kernel, rfl, rfl⟩, (fun q hq => absurd hq List.not_mem_nil)⟩)
theorem fd_X2_250 : ∀ q ∈ ([(1, 27)] : List (Nat × Nat)), FD "TripleStoreModel" 250 q.1 q.2 .int false "TripleStoreModel" := (List.forall_mem_cons.mpr ⟨⟨_, _, _, rfl, by decide, Or.inl w1436, by decide +kernel, rfl, rfl⟩, (fun q hq => absurd hq List.not_mem_nil)⟩)
theorem fd_X2_259 : ∀ q ∈ ([(1, 25)] : List (Nat × Nat)), FD "TripleStoreModel" 259 q.1 q.2 .int false "TripleStoreModel" := (List.forall_mem_cons.mpr ⟨⟨_, _, _, rfl, by decide, Or.inl w1434, by decide +kernel, rfl, rfl⟩, (fun q hq => absurd hq List.not_mem_nil)⟩)
theorem fd_X2_262 : ∀ q ∈ ([(1, 22)] : List (Nat × Nat)), FD "TripleStoreModel" 262 q.1 q.2 .boolean false "TripleStoreModel" := (List.forall_mem_cons.mpr ⟨⟨_, _, _, rfl, by decide, Or.inl w1431, by decide +kernel, rfl, rfl⟩, (fun q hq => absurd hq List.not_mem_nil)⟩)
theorem fd_X2_268 : ∀ q ∈ ([(1, 35)] : List (Nat × Nat)), FD "TripleStoreModel" 268 q.1 q.2 .int false "TripleStoreModel" := (List.forall_mem_cons.mpr ⟨⟨_, _, _, rfl, by decide, Or.inl w1444, by decide +kernel, rfl, rfl⟩, (fun q hq => absurd hq List.not_mem_nil)⟩)
theorem fd_X2_27 : ∀ q ∈ ([(1, 12)] : List (Nat × Nat)), FD "TripleStoreModel" 27 q.1 q.2 (.array .int) true "TripleStoreModel" := (List.forall_mem_cons.mpr ⟨⟨_, _, _, rfl, by decide, Or.inl w1421, by decide +kernel, rfl, rfl⟩, (fun q hq => absurd hq List.not_mem_nil)⟩)
theorem fd_X2_278 : ∀ q ∈ ([(1, 26)] : List (Nat × Nat)), FD "TripleStoreModel" 278 q.1 q.2 .int false "TripleStoreModel" := (List.forall_mem_cons.mpr ⟨⟨_, _, _, rfl, by decide, Or.inl w1435, by decide +kernel, rfl, rfl⟩, (fun q hq => absurd hq List.not_mem_nil)⟩)
theorem fd_X2_281 : ∀ q ∈ ([(1, 21)] : List (Nat × Nat)), FD "TripleStoreModel" 281 q.1 q.2 .boolean false "TripleStoreModel" := (List.forall_mem_cons.mpr ⟨⟨_, _, _, rfl, by decide, Or.inl w1430, by decide +kernel, rfl, rfl⟩, (fun q hq => absurd hq List.not_mem_nil)⟩)
theorem fd_X2_293 : ∀ q ∈ ([(1, 43)] : List (Nat × Nat)), FD "TripleStoreModel" 293 q.1 q.2 .boolean false "TripleStoreModel" := (List.forall_mem_cons.mpr ⟨⟨_, _, _, rfl, by decide, Or.inl w1452, by decide +kernel, rfl, rfl⟩, (fun q hq => absurd hq List.not_mem_nil)⟩)
theorem fd_X2_296 : ∀ q ∈ ([(1, 41)] : List (Nat × Nat)), FD "TripleStoreModel" 296 q.1 q.2 .int false "TripleStoreModel" := (List.forall_mem_cons.mpr ⟨⟨_, _, _, rfl, by decide, Or.inl w1450, by decide +kernel, rfl, rfl⟩, (fun q hq => absurd hq List.not_mem_nil)⟩)
theorem fd_X2_30 : ∀ q ∈ ([(1, 14)] : List (Nat × Nat)), FD "TripleStoreModel" 30 q.1 q.2 .int false "TripleStoreModel" := (List.forall_mem_cons.mpr ⟨⟨_, _, _, rfl, by decide, Or.inl w1423, by decide +kernel, rfl, rfl⟩, (fun q hq => absurd hq List.not_mem_nil)⟩)
theorem fd_X2_302 : ∀ q ∈ ([(1, 44)] : List (Nat × Nat)), FD "TripleStoreModel" 302 q.1 q.2 .int false "TripleStoreModel" := (List.forall_mem_cons.mpr ⟨⟨_, _, _, rfl, by decide, Or.inl w1453, by decide +kernel, rfl, rfl⟩, (fun q hq => absurd hq List.not_mem_nil)⟩)
theorem fd_X2_305 : ∀ q ∈ ([(1, 45)] : List (Nat × Nat)), FD "TripleStoreModel" 305 q.1 q.2 .boolean false "TripleStoreModel" := (List.forall_mem_cons.mpr ⟨⟨_, _, _, rfl, by decide, Or.inl w1454, by decide +kernel, rfl, rfl⟩, (fun q hq => absurd hq List.not_mem_nil)⟩)
theorem fd_X2_308 : ∀ q ∈ ([(1, 46)] : List (Nat × Nat)), FD "TripleStoreModel" 308 q.1 q.2 .int false "TripleStoreModel" := (List.forall_mem_cons.mpr ⟨⟨_, _, _, rfl, by decide, Or.inl w1455, by decide +kernel, rfl, rfl⟩, (fun q hq => absurd hq List.not_mem_nil)⟩)
theorem fd_X2_311 : ∀ q ∈ ([(1, 51)] : List (Nat × Nat)), FD "TripleStoreModel" 311 q.1 q.2 .boolean false "TripleStoreModel" := (List.forall_mem_cons.mpr ⟨⟨_, _, _, rfl, by decide, Or.inl w1460, by decide +kernel, rfl, rfl⟩, (fun q hq => absurd hq List.not_mem_nil)⟩)
theorem fd_X2_318 : ∀ q ∈ ([(1, 50)] : List (Nat × Nat)), FD "TripleStoreModel" 318 q.1 q.2 .int false "TripleStoreModel" := (List.forall_mem_cons.mpr ⟨⟨_, _, _, rfl, by decide, Or.inl w1459, by decide +kernel, rfl, rfl⟩, (fun q hq => absurd hq List.not_mem_nil)⟩)
theorem fd_X2_34 : ∀ q ∈ ([(1, 23)] : List (Nat × Nat)), FD "TripleStoreModel" 34 q.1 q.2 (.array .long) true "TripleStoreModel" := (List.forall_mem_cons.mpr ⟨⟨_, _, _, rfl, by decide, Or.inl w1432, by decide +kernel, rfl, rfl⟩, (fun q hq => absurd hq List.not_mem_nil)⟩)
theorem fd_X2_358 : ∀ q ∈ ([(1, 55)] : List (Nat × Nat)), FD "TripleStoreModel" 358 q.1 q.2 .int false "TripleStoreModel" := (List.forall_mem_cons.mpr ⟨⟨_, _, _, rfl, by decide, Or.inl w1464, by decide +kernel, rfl, rfl⟩, (fun q hq => absurd hq List.not_mem_nil)⟩)
theorem fd_X2_364 : ∀ q ∈ ([(1, 57)] : List (Nat × Nat)), FD "TripleStoreModel" 364 q.1 q.2 .int false "TripleStoreModel" := (List.forall_mem_cons.mpr ⟨⟨_, _, _, rfl, by decide, Or.inl w1466, by decide +kernel, rfl, rfl⟩, (fun q hq => absurd hq List.not_mem_nil)⟩)
theorem fd_X2_37 : ∀ q ∈ ([(1, 28)] : List (Nat × Nat)), FD "TripleStoreModel" 37 q.1 q.2 (.array .int) true "TripleStoreModel" := (List.forall_mem_cons.mpr ⟨⟨_, _, _, rfl, by decide, Or.inl w1437, by decide +kernel, rfl, rfl⟩, (fun q hq => absurd hq List.not_mem_nil)⟩)
theorem fd_X2_40 : ∀ q ∈ ([(1, 29)] : List (Nat × Nat)), FD "TripleStoreModel" 40 q.1 q.2 (.array .int) true "TripleStoreModel" := (List.forall_mem_cons.mpr ⟨⟨_, _, _, rfl, by decide, Or.inl w1438, by decide +kernel, rfl, rfl⟩, (fun q hq => absurd hq List.not_mem_nil)⟩)
theorem fd_X2_43 : ∀ q ∈ ([(1, 30)] : List (Nat × Nat)), FD "TripleStoreModel" 43 q.1 q.2 (.array .int) true "TripleStoreModel" := (List.forall_mem_cons.mpr ⟨⟨_, _, _, rfl, by decide, Or.inl w1439, by decide +kernel, rfl, rfl⟩, (fun q hq => absurd hq List.not_mem_nil)⟩)
theorem fd_X2_46 : ∀ q ∈ ([(1, 31)] : List (Nat × Nat)), FD "TripleStoreModel" 46 q.1 q.2 (.array .int) true "TripleStoreModel" := (List.forall_mem_cons.mpr ⟨⟨_, _, _, rfl, by decide, Or.inl w1440, by decide +kernel, rfl, rfl⟩, (fun q hq => absurd hq List.not_mem_nil)⟩)
theorem fd_X2_49 : ∀ q ∈ ([(1, 33)] : List (Nat × Nat)), FD "TripleStoreModel" 49 q.1 q.2 (.array .int) true "TripleStoreModel" := (List.forall_mem_cons.mpr ⟨⟨_, _, _, rfl, by decide, Or.inl w1442, by decide +kernel, rfl, rfl⟩, (fun q hq => absurd hq List.not_mem_nil)⟩)
theorem fd_X2_52 : ∀ q ∈ ([(1, 34)] : List (Nat × Nat)), FD "TripleStoreModel" 52 q.1 q.2 (.array .long) true "TripleStoreModel" := (List.forall_mem_cons.mpr ⟨⟨_, _, _, rfl, by decide, Or.inl w1443, by decide +kernel, rfl, rfl⟩, (fun q hq => absurd hq List.not_mem_nil)⟩)
theorem fd_X2_55 : ∀ q ∈ ([(1, 36)] : List (Nat × Nat)), FD "TripleStoreModel" 55 q.1 q.2 (.array .int) true "TripleStoreModel" := (List.forall_mem_cons.mpr ⟨⟨_, _, _, rfl, by decide, Or.inl w1445, by decide +kernel, rfl, rfl⟩, (fun q hq => absurd hq List.not_mem_nil)⟩)
theorem fd_X2_58 : ∀ q ∈ ([(1, 37)] : List (Nat × Nat)), FD "TripleStoreModel" 58 q.1 q.2 (.array .int) true "TripleStoreModel" := (List.forall_mem_cons.mpr ⟨⟨_, _, _, rfl, by decide, Or.inl w1446, by decide +kernel, rfl, rfl⟩, (fun q hq => absurd hq List.not_mem_nil)⟩)
theorem fd_X2_61 : ∀ q ∈ ([(1, 38)] : List (Nat × Nat)), FD "TripleStoreModel" 61 q.1 q.2 (.array .boolean) true "TripleStoreModel" := (List.forall_mem_cons.mpr ⟨⟨_, _, _, rfl, by decide, Or.inl w1447, by decide +kernel, rfl, rfl⟩, (fun q hq => absurd hq List.not_mem_nil)⟩)
theorem fd_X2_64 : ∀ q ∈ ([(1, 40)] : List (Nat × Nat)), FD "TripleStoreModel" 64 q.1 q.2 (.array .int) true "TripleStoreModel" := (List.forall_mem_cons.mpr ⟨⟨_, _, _, rfl, by decide, Or.inl w1449, by decide +kernel, rfl, rfl⟩, (fun q hq => absurd hq List.not_mem_nil)⟩)
theorem fd_X2_67 : ∀ q ∈ ([(1, 42)] : List (Nat × Nat)), FD "TripleStoreModel" 67 q.1 q.2 (.array .int) true "TripleStoreModel" := (List.forall_mem_cons.mpr ⟨⟨_, _, _, rfl, by decide, Or.inl w1451, by decide +kernel, rfl, rfl⟩, (fun q hq => absurd hq List.not_mem_nil)⟩)
theorem fd_X2_7 : ∀ q ∈ ([(1, 0)] : List (Nat × Nat)), FD "TripleStoreModel" 7 q.1 q.2 (.array .long) true "TripleStoreModel" := (List.forall_mem_cons.mpr ⟨⟨_, _, _, rfl, by decide, Or.inl w1409, by decide +kernel, rfl, rfl⟩, (fun q hq => absurd hq List.not_mem_nil)⟩)
theorem fd_X2_70 : ∀ q ∈ ([(1, 47)] : List (Nat × Nat)), FD "TripleStoreModel" 70 q.1 q.2 (.array .long) true "TripleStoreModel" := (List.forall_mem_cons.mpr ⟨⟨_, _, _, rfl, by decide, Or.inl w1456, by decide +kernel, rfl, rfl⟩, (fun q hq => absurd hq List.not_mem_nil)⟩)
theorem fd_X2_73 : ∀ q ∈ ([(1, 48)] : List (Nat × Nat)), FD "TripleStoreModel" 73 q.1 q.2 (.array .int) true "TripleStoreModel" := (List.forall_mem_cons.mpr ⟨⟨_, _, _, rfl, by decide, Or.inl w1457, by decide +kernel, rfl, rfl⟩, (fun q hq => absurd hq List.not_mem_nil)⟩)
theorem fd_X2_76 : ∀ q ∈ ([(1, 49)] : List (Nat × Nat)), FD "TripleStoreModel" 76 q.1 q.2 (.array .int) true "TripleStoreModel" := (List.forall_mem_cons.mpr ⟨⟨_, _, _, rfl, by decide, Or.inl w1458, by decide +kernel, rfl, rfl⟩, (fun q hq => absurd hq List.not_mem_nil)⟩)
theorem fd_X2_79 : ∀ q ∈ ([(1, 52)] : List (Nat × Nat)), FD "TripleStoreModel" 79 q.1 q.2 (.array .long) true "TripleStoreModel" := (List.forall_mem_cons.mpr ⟨⟨_, _, _, rfl, by decide, Or.inl w1461, by decide +kernel, rfl, rfl⟩, (fun q hq => absurd hq List.not_mem_nil)⟩)
theorem fd_X2_82 : ∀ q ∈ ([(1, 53)] : List (Nat × Nat)), FD "TripleStoreModel" 82 q.1 q.2 (.array .int) true "TripleStoreModel" := (List.forall_mem_cons.mpr ⟨⟨_, _, _, rfl, by decide, Or.inl w1462, by decide +kernel, rfl, rfl⟩, (fun q hq => absurd hq List.not_mem_nil)⟩)
theorem fd_X2_85 : ∀ q ∈ ([(1, 54)] : List (Nat × Nat)), FD "TripleStoreModel" 85 q.1 q.2 (.array .int) true "TripleStoreModel" := (List.forall_mem_cons.mpr ⟨⟨_, _, _, rfl, by decide, Or.inl w1463, by decide +kernel, rfl, rfl⟩, (fun q hq => absurd hq List.not_mem_nil)⟩)
theorem fd_X2_88 : ∀ q ∈ ([(1, 56)] : List (Nat × Nat)), FD "TripleStoreModel" 88 q.1 q.2 (.array .int) true "TripleStoreModel" := (List.forall_mem_cons.mpr ⟨⟨_, _, _, rfl, by decide, Or.inl w1465, by decide +kernel, rfl, rfl⟩, (fun q hq => absurd hq List.not_mem_nil)⟩)
theorem fd_X2_91 : ∀ q ∈ ([(1, 58)] : List (Nat × Nat)), FD "TripleStoreModel" 91 q.1 q.2 .int false "TripleStoreModel" := (List.forall_mem_cons.mpr ⟨⟨_, _, _, rfl, by decide, Or.inl w1467, by decide +kernel, rfl, rfl⟩, (fun q hq => absurd hq List.not_mem_nil)⟩)
theorem fd_X3_9 : ∀ q ∈ ([(2, 0)] : List (Nat × Nat)), FD "TripleStore$Triple" 9 q.1 q.2 (.array (.object "TripleStore$Term")) true "TripleStore$Triple" := (List.forall_mem_cons.mpr ⟨⟨_, _, _, rfl, by decide, Or.inl w566, by decide +kernel, rfl, rfl⟩, (fun q hq => absurd hq List.not_mem_nil)⟩)
theorem fd_X5_7 : ∀ q ∈ ([(3, 0)] : List (Nat × Nat)), FD "TripleStore$Numeral" 7 q.1 q.2 .int true "TripleStore$Numeral" := (List.forall_mem_cons.mpr ⟨⟨_, _, _, rfl, by decide, Or.inl w298, by decide +kernel, rfl, rfl⟩, (fun q hq => absurd hq List.not_mem_nil)⟩)
theorem fd_X6_7 : ∀ q ∈ ([(4, 0)] : List (Nat × Nat)), FD "TripleStore$Word" 7 q.1 q.2 (.object "java/lang/String") true "TripleStore$Word" := (List.forall_mem_cons.mpr ⟨⟨_, _, _, rfl, by decide, Or.inl w556, by decide +kernel, rfl, rfl⟩, (fun q hq => absurd hq List.not_mem_nil)⟩)
theorem fd_X7_13 : ∀ q ∈ ([(5, 1)] : List (Nat × Nat)), FD "TripleStore$Change" 13 q.1 q.2 (.object "TripleStore$Triple") true "TripleStore$Change" := (List.forall_mem_cons.mpr ⟨⟨_, _, _, rfl, by decide, Or.inl w630, by decide +kernel, rfl, rfl⟩, (fun q hq => absurd hq List.not_mem_nil)⟩)
theorem fd_X7_17 : ∀ q ∈ ([(5, 2)] : List (Nat × Nat)), FD "TripleStore$Change" 17 q.1 q.2 (.object "TripleStore$Change") true "TripleStore$Change" := (List.forall_mem_cons.mpr ⟨⟨_, _, _, rfl, by decide, Or.inl w632, by decide +kernel, rfl, rfl⟩, (fun q hq => absurd hq List.not_mem_nil)⟩)
theorem fd_X7_7 : ∀ q ∈ ([(5, 0)] : List (Nat × Nat)), FD "TripleStore$Change" 7 q.1 q.2 .boolean true "TripleStore$Change" := (List.forall_mem_cons.mpr ⟨⟨_, _, _, rfl, by decide, Or.inl w628, by decide +kernel, rfl, rfl⟩, (fun q hq => absurd hq List.not_mem_nil)⟩)
theorem fd_X8_7 : ∀ q ∈ ([(6, 0)] : List (Nat × Nat)), FD "TripleStore$Commit" 7 q.1 q.2 (.object "TripleStore$Change") true "TripleStore$Commit" := (List.forall_mem_cons.mpr ⟨⟨_, _, _, rfl, by decide, Or.inl w651, by decide +kernel, rfl, rfl⟩, (fun q hq => absurd hq List.not_mem_nil)⟩)
theorem fd_X9_11 : ∀ q ∈ ([(7, 2)] : List (Nat × Nat)), FD "TripleStore$Reader" 11 q.1 q.2 (.array (.object "java/lang/String")) true "TripleStore$Reader" := (List.forall_mem_cons.mpr ⟨⟨_, _, _, rfl, by decide, Or.inl w893, by decide +kernel, rfl, rfl⟩, (fun q hq => absurd hq List.not_mem_nil)⟩)
theorem fd_X9_118 : ∀ q ∈ ([(7, 3)] : List (Nat × Nat)), FD "TripleStore$Reader" 118 q.1 q.2 .int false "TripleStore$Reader" := (List.forall_mem_cons.mpr ⟨⟨_, _, _, rfl, by decide, Or.inl w894, by decide +kernel, rfl, rfl⟩, (fun q hq => absurd hq List.not_mem_nil)⟩)
theorem fd_X9_148 : ∀ q ∈ ([(8, 0)] : List (Nat × Nat)), FD "TripleStore$Reader" 148 q.1 q.2 .boolean false "TripleStore$Query" := (List.forall_mem_cons.mpr ⟨⟨_, _, _, rfl, by decide, Or.inr ⟨_, w935⟩, by decide +kernel, rfl, rfl⟩, (fun q hq => absurd hq List.not_mem_nil)⟩)
theorem fd_X9_151 : ∀ q ∈ ([(8, 2)] : List (Nat × Nat)), FD "TripleStore$Reader" 151 q.1 q.2 .int false "TripleStore$Query" := (List.forall_mem_cons.mpr ⟨⟨_, _, _, rfl, by decide, Or.inr ⟨_, w941⟩, by decide +kernel, rfl, rfl⟩, (fun q hq => absurd hq List.not_mem_nil)⟩)
theorem fd_X9_154 : ∀ q ∈ ([(8, 1)] : List (Nat × Nat)), FD "TripleStore$Reader" 154 q.1 q.2 (.array .int) true "TripleStore$Query" := (List.forall_mem_cons.mpr ⟨⟨_, _, _, rfl, by decide, Or.inr ⟨_, w939⟩, by decide +kernel, rfl, rfl⟩, (fun q hq => absurd hq List.not_mem_nil)⟩)
theorem fd_X9_162 : ∀ q ∈ ([(8, 3)] : List (Nat × Nat)), FD "TripleStore$Reader" 162 q.1 q.2 (.object "TripleStore$Group") false "TripleStore$Query" := (List.forall_mem_cons.mpr ⟨⟨_, _, _, rfl, by decide, Or.inr ⟨_, w943⟩, by decide +kernel, rfl, rfl⟩, (fun q hq => absurd hq List.not_mem_nil)⟩)
theorem fd_X9_165 : ∀ q ∈ ([(8, 4)] : List (Nat × Nat)), FD "TripleStore$Reader" 165 q.1 q.2 .int false "TripleStore$Query" := (List.forall_mem_cons.mpr ⟨⟨_, _, _, rfl, by decide, Or.inr ⟨_, w947⟩, by decide +kernel, rfl, rfl⟩, (fun q hq => absurd hq List.not_mem_nil)⟩)
theorem fd_X9_167 : ∀ q ∈ ([(8, 5)] : List (Nat × Nat)), FD "TripleStore$Reader" 167 q.1 q.2 .boolean false "TripleStore$Query" := (List.forall_mem_cons.mpr ⟨⟨_, _, _, rfl, by decide, Or.inr ⟨_, w948⟩, by decide +kernel, rfl, rfl⟩, (fun q hq => absurd hq List.not_mem_nil)⟩)
theorem fd_X9_17 : ∀ q ∈ ([(7, 0)] : List (Nat × Nat)), FD "TripleStore$Reader" 17 q.1 q.2 (.object "TripleStore") true "TripleStore$Reader" := (List.forall_mem_cons.mpr ⟨⟨_, _, _, rfl, by decide, Or.inl w891, by decide +kernel, rfl, rfl⟩, (fun q hq => absurd hq List.not_mem_nil)⟩)
theorem fd_X9_170 : ∀ q ∈ ([(8, 6)] : List (Nat × Nat)), FD "TripleStore$Reader" 170 q.1 q.2 .int false "TripleStore$Query" := (List.forall_mem_cons.mpr ⟨⟨_, _, _, rfl, by decide, Or.inr ⟨_, w951⟩, by decide +kernel, rfl, rfl⟩, (fun q hq => absurd hq List.not_mem_nil)⟩)
theorem fd_X9_172 : ∀ q ∈ ([(7, 10)] : List (Nat × Nat)), FD "TripleStore$Reader" 172 q.1 q.2 .int false "TripleStore$Reader" := (List.forall_mem_cons.mpr ⟨⟨_, _, _, rfl, by decide, Or.inl w901, by decide +kernel, rfl, rfl⟩, (fun q hq => absurd hq List.not_mem_nil)⟩)
theorem fd_X9_189 : ∀ q ∈ ([(7, 9)] : List (Nat × Nat)), FD "TripleStore$Reader" 189 q.1 q.2 .int false "TripleStore$Reader" := (List.forall_mem_cons.mpr ⟨⟨_, _, _, rfl, by decide, Or.inl w900, by decide +kernel, rfl, rfl⟩, (fun q hq => absurd hq List.not_mem_nil)⟩)
theorem fd_X9_21 : ∀ q ∈ ([(7, 1)] : List (Nat × Nat)), FD "TripleStore$Reader" 21 q.1 q.2 (.object "java/lang/String") true "TripleStore$Reader" := (List.forall_mem_cons.mpr ⟨⟨_, _, _, rfl, by decide, Or.inl w892, by decide +kernel, rfl, rfl⟩, (fun q hq => absurd hq List.not_mem_nil)⟩)
theorem fd_X9_214 : ∀ q ∈ ([(17, 2)] : List (Nat × Nat)), FD "TripleStore$Reader" 214 q.1 q.2 .int false "TripleStore$Union" := (List.forall_mem_cons.mpr ⟨⟨_, _, _, rfl, by decide, Or.inr ⟨_, w1126⟩, by decide +kernel, rfl, rfl⟩, (fun q hq => absurd hq List.not_mem_nil)⟩)
theorem fd_X9_28 : ∀ q ∈ ([(0, 10)] : List (Nat × Nat)), FD "TripleStore$Reader" 28 q.1 q.2 .int false "TripleStore" := (List.forall_mem_cons.mpr ⟨⟨_, _, _, rfl, by decide, Or.inr ⟨_, w165⟩, by decide +kernel, rfl, rfl⟩, (fun q hq => absurd hq List.not_mem_nil)⟩)
theorem fd_X9_65 : ∀ q ∈ ([(7, 7)] : List (Nat × Nat)), FD "TripleStore$Reader" 65 q.1 q.2 .int false "TripleStore$Reader" := (List.forall_mem_cons.mpr ⟨⟨_, _, _, rfl, by decide, Or.inl w898, by decide +kernel, rfl, rfl⟩, (fun q hq => absurd hq List.not_mem_nil)⟩)
theorem fd_X9_79 : ∀ q ∈ ([(7, 8)] : List (Nat × Nat)), FD "TripleStore$Reader" 79 q.1 q.2 .int false "TripleStore$Reader" := (List.forall_mem_cons.mpr ⟨⟨_, _, _, rfl, by decide, Or.inl w899, by decide +kernel, rfl, rfl⟩, (fun q hq => absurd hq List.not_mem_nil)⟩)
theorem fd_X9_82 : ∀ q ∈ ([(7, 6)] : List (Nat × Nat)), FD "TripleStore$Reader" 82 q.1 q.2 .int false "TripleStore$Reader" := (List.forall_mem_cons.mpr ⟨⟨_, _, _, rfl, by decide, Or.inl w897, by decide +kernel, rfl, rfl⟩, (fun q hq => absurd hq List.not_mem_nil)⟩)
theorem fd_X9_87 : ∀ q ∈ ([(7, 5)] : List (Nat × Nat)), FD "TripleStore$Reader" 87 q.1 q.2 (.object "java/lang/String") false "TripleStore$Reader" := (List.forall_mem_cons.mpr ⟨⟨_, _, _, rfl, by decide, Or.inl w896, by decide +kernel, rfl, rfl⟩, (fun q hq => absurd hq List.not_mem_nil)⟩)
theorem fd_X9_90 : ∀ q ∈ ([(7, 4)] : List (Nat × Nat)), FD "TripleStore$Reader" 90 q.1 q.2 .int false "TripleStore$Reader" := (List.forall_mem_cons.mpr ⟨⟨_, _, _, rfl, by decide, Or.inl w895, by decide +kernel, rfl, rfl⟩, (fun q hq => absurd hq List.not_mem_nil)⟩)
theorem mi_11 : Mi (PG.nam 11) 0 := ⟨w110, by decide, by decide +kernel⟩
theorem mi_12 : Mi (PG.nam 12) 0 := ⟨w199, by decide, by decide +kernel⟩
theorem mi_13 : Mi (PG.nam 13) 0 := ⟨w203, by decide, by decide +kernel⟩
theorem mi_14 : Mi (PG.nam 14) 3 := ⟨w212, by decide, by decide +kernel⟩
theorem mi_17 : Mi (PG.nam 17) 1 := ⟨w574, by decide, by decide +kernel⟩
theorem mi_18 : Mi (PG.nam 18) 1 := ⟨w616, by decide, by decide +kernel⟩
theorem mi_19 : Mi (PG.nam 19) 2 := ⟨w620, by decide, by decide +kernel⟩
theorem mi_20 : Mi (PG.nam 20) 0 := ⟨w643, by decide, by decide +kernel⟩
theorem mi_21 : Mi (PG.nam 21) 3 := ⟨w663, by decide, by decide +kernel⟩
theorem mi_22 : Mi (PG.nam 22) 1 := ⟨w668, by decide, by decide +kernel⟩
theorem mi_23 : Mi (PG.nam 23) 0 := ⟨w674, by decide, by decide +kernel⟩
theorem mi_24 : Mi (PG.nam 24) 0 := ⟨w681, by decide, by decide +kernel⟩
theorem mi_25 : Mi (PG.nam 25) 0 := ⟨w686, by decide, by decide +kernel⟩
theorem mi_26 : Mi (PG.nam 26) 0 := ⟨w692, by decide, by decide +kernel⟩
theorem mi_27 : Mi (PG.nam 27) 0 := ⟨w697, by decide, by decide +kernel⟩
theorem mi_28 : Mi (PG.nam 28) 1 := ⟨w701, by decide, by decide +kernel⟩
theorem mi_29 : Mi (PG.nam 29) 1 := ⟨w707, by decide, by decide +kernel⟩
theorem mi_30 : Mi (PG.nam 30) 1 := ⟨w712, by decide, by decide +kernel⟩
theorem mi_31 : Mi (PG.nam 31) 2 := ⟨w720, by decide, by decide +kernel⟩
theorem mi_32 : Mi (PG.nam 32) 0 := ⟨w727, by decide, by decide +kernel⟩
theorem mi_33 : Mi (PG.nam 33) 2 := ⟨w1330, by decide, by decide +kernel⟩
theorem mi_34 : Mi (PG.nam 34) 2 := ⟨w1353, by decide, by decide +kernel⟩
theorem mi_35 : Mi (PG.nam 35) 1 := ⟨w1400, by decide, by decide +kernel⟩
theorem mi_36 : Mi (PG.nam 36) 0 := ⟨w1406, by decide, by decide +kernel⟩
theorem mi_37 : Mi (PG.nam 37) 0 := ⟨w1590, by decide, by decide +kernel⟩
theorem mi_38 : Mi (PG.nam 38) 3 := ⟨w1594, by decide, by decide +kernel⟩
theorem mi_39 : Mi (PG.nam 39) 3 := ⟨w1599, by decide, by decide +kernel⟩
theorem mi_43 : Mi (PG.nam 43) 2 := ⟨w1614, by decide, by decide +kernel⟩
theorem mi_44 : Mi (PG.nam 44) 4 := ⟨w1618, by decide, by decide +kernel⟩
theorem mi_45 : Mi (PG.nam 45) 3 := ⟨w1622, by decide, by decide +kernel⟩
theorem mi_46 : Mi (PG.nam 46) 4 := ⟨w1626, by decide, by decide +kernel⟩
theorem mi_47 : Mi (PG.nam 47) 0 := ⟨w1630, by decide, by decide +kernel⟩
theorem mi_48 : Mi (PG.nam 48) 3 := ⟨w1633, by decide, by decide +kernel⟩
theorem mi_49 : Mi (PG.nam 49) 0 := ⟨w1637, by decide, by decide +kernel⟩
theorem mi_50 : Mi (PG.nam 50) 0 := ⟨w1641, by decide, by decide +kernel⟩
theorem mi_51 : Mi (PG.nam 51) 0 := ⟨w1645, by decide, by decide +kernel⟩
theorem mi_52 : Mi (PG.nam 52) 1 := ⟨w1650, by decide, by decide +kernel⟩
theorem mi_53 : Mi (PG.nam 53) 0 := ⟨w1653, by decide, by decide +kernel⟩
theorem mi_54 : Mi (PG.nam 54) 0 := ⟨w1658, by decide, by decide +kernel⟩
theorem mi_55 : Mi (PG.nam 55) 1 := ⟨w1661, by decide, by decide +kernel⟩
theorem mi_56 : Mi (PG.nam 56) 2 := ⟨w1665, by decide, by decide +kernel⟩
theorem mi_57 : Mi (PG.nam 57) 0 := ⟨w1669, by decide, by decide +kernel⟩
theorem mi_58 : Mi (PG.nam 58) 0 := ⟨w1674, by decide, by decide +kernel⟩
theorem mi_60 : Mi (PG.nam 60) 1 := ⟨w1681, by decide, by decide +kernel⟩
theorem mi_62 : Mi (PG.nam 62) 0 := ⟨w1690, by decide, by decide +kernel⟩
theorem mi_63 : Mi (PG.nam 63) 1 := ⟨w1694, by decide, by decide +kernel⟩
theorem mi_64 : Mi (PG.nam 64) 1 := ⟨w1709, by decide, by decide +kernel⟩
theorem mi_65 : Mi (PG.nam 65) 0 := ⟨w1713, by decide, by decide +kernel⟩
theorem mi_66 : Mi (PG.nam 66) 0 := ⟨w1717, by decide, by decide +kernel⟩
theorem mi_67 : Mi (PG.nam 67) 0 := ⟨w1721, by decide, by decide +kernel⟩
theorem mi_68 : Mi (PG.nam 68) 1 := ⟨w1725, by decide, by decide +kernel⟩
theorem mi_69 : Mi (PG.nam 69) 1 := ⟨w1729, by decide, by decide +kernel⟩
theorem mi_70 : Mi (PG.nam 70) 2 := ⟨w1733, by decide, by decide +kernel⟩
theorem mi_71 : Mi (PG.nam 71) 0 := ⟨w1737, by decide, by decide +kernel⟩
theorem mi_72 : Mi (PG.nam 72) 0 := ⟨w1741, by decide, by decide +kernel⟩
theorem mi_73 : Mi (PG.nam 73) 0 := ⟨w1745, by decide, by decide +kernel⟩
theorem mi_74 : Mi (PG.nam 74) 1 := ⟨w1749, by decide, by decide +kernel⟩
theorem mi_75 : Mi (PG.nam 75) 0 := ⟨w1753, by decide, by decide +kernel⟩
theorem mi_76 : Mi (PG.nam 76) 0 := ⟨w1757, by decide, by decide +kernel⟩
theorem mi_77 : Mi (PG.nam 77) 2 := ⟨w1761, by decide, by decide +kernel⟩
theorem mi_78 : Mi (PG.nam 78) 1 := ⟨w1765, by decide, by decide +kernel⟩
theorem mi_79 : Mi (PG.nam 79) 1 := ⟨w1769, by decide, by decide +kernel⟩
theorem mi_80 : Mi (PG.nam 80) 2 := ⟨w1773, by decide, by decide +kernel⟩
theorem mi_81 : Mi (PG.nam 81) 4 := ⟨w1777, by decide, by decide +kernel⟩
theorem mi_82 : Mi (PG.nam 82) 3 := ⟨w1781, by decide, by decide +kernel⟩
theorem mi_83 : Mi (PG.nam 83) 2 := ⟨w1785, by decide, by decide +kernel⟩
theorem mi_84 : Mi (PG.nam 84) 1 := ⟨w1789, by decide, by decide +kernel⟩
theorem mi_85 : Mi (PG.nam 85) 2 := ⟨w1793, by decide, by decide +kernel⟩
theorem mi_87 : Mi (PG.nam 87) 0 := ⟨w1800, by decide, by decide +kernel⟩
theorem mi_88 : Mi (PG.nam 88) 2 := ⟨w1804, by decide, by decide +kernel⟩
theorem mi_89 : Mi (PG.nam 89) 3 := ⟨w1808, by decide, by decide +kernel⟩
theorem mi_90 : Mi (PG.nam 90) 2 := ⟨w1812, by decide, by decide +kernel⟩
theorem mi_91 : Mi (PG.nam 91) 0 := ⟨w1815, by decide, by decide +kernel⟩
theorem mi_92 : Mi (PG.nam 92) 2 := ⟨w1819, by decide, by decide +kernel⟩
theorem mi_93 : Mi (PG.nam 93) 1 := ⟨w1823, by decide, by decide +kernel⟩
theorem mi_94 : Mi (PG.nam 94) 3 := ⟨w561, by decide, by decide +kernel⟩
theorem mi_95 : Mi (PG.nam 95) 1 := ⟨w577, by decide, by decide +kernel⟩
theorem mi_96 : Mi (PG.nam 96) 0 := ⟨w295, by decide, by decide +kernel⟩
theorem mi_97 : Mi (PG.nam 97) 1 := ⟨w292, by decide, by decide +kernel⟩
theorem mi_98 : Mi (PG.nam 98) 1 := ⟨w584, by decide, by decide +kernel⟩
theorem mi_99 : Mi (PG.nam 99) 1 := ⟨w1302, by decide, by decide +kernel⟩
theorem mi_100 : Mi (PG.nam 100) 0 := ⟨w1390, by decide, by decide +kernel⟩
theorem mi_101 : Mi (PG.nam 101) 1 := ⟨w553, by decide, by decide +kernel⟩
theorem mi_102 : Mi (PG.nam 102) 1 := ⟨w588, by decide, by decide +kernel⟩
theorem mi_103 : Mi (PG.nam 103) 1 := ⟨w1305, by decide, by decide +kernel⟩
theorem mi_104 : Mi (PG.nam 104) 0 := ⟨w1394, by decide, by decide +kernel⟩
theorem mi_105 : Mi (PG.nam 105) 3 := ⟨w625, by decide, by decide +kernel⟩
theorem mi_106 : Mi (PG.nam 106) 1 := ⟨w648, by decide, by decide +kernel⟩
theorem mi_107 : Mi (PG.nam 107) 2 := ⟨w756, by decide, by decide +kernel⟩
theorem mi_108 : Mi (PG.nam 108) 0 := ⟨w763, by decide, by decide +kernel⟩
theorem mi_111 : Mi (PG.nam 111) 0 := ⟨w790, by decide, by decide +kernel⟩
theorem mi_114 : Mi (PG.nam 114) 0 := ⟨w926, by decide, by decide +kernel⟩
theorem mi_115 : Mi (PG.nam 115) 1 := ⟨w971, by decide, by decide +kernel⟩
theorem mi_116 : Mi (PG.nam 116) 2 := ⟨w975, by decide, by decide +kernel⟩
theorem mi_117 : Mi (PG.nam 117) 1 := ⟨w981, by decide, by decide +kernel⟩
theorem mi_118 : Mi (PG.nam 118) 0 := ⟨w985, by decide, by decide +kernel⟩
theorem mi_119 : Mi (PG.nam 119) 0 := ⟨w989, by decide, by decide +kernel⟩
theorem mi_120 : Mi (PG.nam 120) 0 := ⟨w1006, by decide, by decide +kernel⟩
theorem mi_121 : Mi (PG.nam 121) 1 := ⟨w1012, by decide, by decide +kernel⟩
theorem mi_122 : Mi (PG.nam 122) 0 := ⟨w1039, by decide, by decide +kernel⟩
theorem mi_123 : Mi (PG.nam 123) 0 := ⟨w1059, by decide, by decide +kernel⟩
theorem mi_124 : Mi (PG.nam 124) 1 := ⟨w1155, by decide, by decide +kernel⟩
theorem mi_125 : Mi (PG.nam 125) 0 := ⟨w932, by decide, by decide +kernel⟩
theorem mi_126 : Mi (PG.nam 126) 0 := ⟨w994, by decide, by decide +kernel⟩
theorem mi_127 : Mi (PG.nam 127) 1 := ⟨w1150, by decide, by decide +kernel⟩
theorem mi_128 : Mi (PG.nam 128) 1 := ⟨w1158, by decide, by decide +kernel⟩
theorem mi_129 : Mi (PG.nam 129) 0 := ⟨w1084, by decide, by decide +kernel⟩
theorem mi_130 : Mi (PG.nam 130) 1 := ⟨w1081, by decide, by decide +kernel⟩
theorem mi_131 : Mi (PG.nam 131) 2 := ⟨w1211, by decide, by decide +kernel⟩
theorem mi_132 : Mi (PG.nam 132) 1 := ⟨w1282, by decide, by decide +kernel⟩
theorem mi_133 : Mi (PG.nam 133) 0 := ⟨w1020, by decide, by decide +kernel⟩
theorem mi_134 : Mi (PG.nam 134) 1 := ⟨w1017, by decide, by decide +kernel⟩
theorem mi_135 : Mi (PG.nam 135) 1 := ⟨w1310, by decide, by decide +kernel⟩
theorem mi_136 : Mi (PG.nam 136) 1 := ⟨w1030, by decide, by decide +kernel⟩
theorem mi_137 : Mi (PG.nam 137) 1 := ⟨w1291, by decide, by decide +kernel⟩
theorem mi_138 : Mi (PG.nam 138) 2 := ⟨w1044, by decide, by decide +kernel⟩
theorem mi_139 : Mi (PG.nam 139) 1 := ⟨w1258, by decide, by decide +kernel⟩
theorem mi_140 : Mi (PG.nam 140) 3 := ⟨w1067, by decide, by decide +kernel⟩
theorem mi_141 : Mi (PG.nam 141) 1 := ⟨w1294, by decide, by decide +kernel⟩
theorem mi_142 : Mi (PG.nam 142) 1 := ⟨w1097, by decide, by decide +kernel⟩
theorem mi_143 : Mi (PG.nam 143) 2 := ⟨w1233, by decide, by decide +kernel⟩
theorem mi_144 : Mi (PG.nam 144) 1 := ⟨w1108, by decide, by decide +kernel⟩
theorem mi_145 : Mi (PG.nam 145) 2 := ⟨w1214, by decide, by decide +kernel⟩
theorem mi_147 : Mi (PG.nam 147) 0 := ⟨w1119, by decide, by decide +kernel⟩
theorem mi_148 : Mi (PG.nam 148) 1 := ⟨w1134, by decide, by decide +kernel⟩
theorem mi_149 : Mi (PG.nam 149) 2 := ⟨w1273, by decide, by decide +kernel⟩
theorem mi_150 : Mi (PG.nam 150) 1 := ⟨w1141, by decide, by decide +kernel⟩
theorem mi_151 : Mi (PG.nam 151) 2 := ⟨w1247, by decide, by decide +kernel⟩
theorem mi_152 : Mi (PG.nam 152) 1 := ⟨w1253, by decide, by decide +kernel⟩
theorem mi_153 : Mi (PG.nam 153) 0 := ⟨w1164, by decide, by decide +kernel⟩
theorem mi_154 : Mi (PG.nam 154) 1 := ⟨w1202, by decide, by decide +kernel⟩
theorem mi_155 : Mi (PG.nam 155) 1 := ⟨w1264, by decide, by decide +kernel⟩
theorem mi_156 : Mi (PG.nam 156) 0 := ⟨w1189, by decide, by decide +kernel⟩
theorem mi_157 : Mi (PG.nam 157) 1 := ⟨w1223, by decide, by decide +kernel⟩
theorem mi_158 : Mi (PG.nam 158) 1 := ⟨w1228, by decide, by decide +kernel⟩
theorem mi_159 : Mi (PG.nam 159) 1 := ⟨w1240, by decide, by decide +kernel⟩
theorem mi_160 : Mi (PG.nam 160) 2 := ⟨w1316, by decide, by decide +kernel⟩
theorem mi_161 : Mi (PG.nam 161) 1 := ⟨w1333, by decide, by decide +kernel⟩
theorem mi_163 : Mi (PG.nam 163) 2 := ⟨w1342, by decide, by decide +kernel⟩
theorem mi_164 : Mi (PG.nam 164) 1 := ⟨w123, by decide, by decide +kernel⟩
theorem mi_165 : Mi (PG.nam 165) 0 := ⟨w307, by decide, by decide +kernel⟩
theorem mi_166 : Mi (PG.nam 166) 1 := ⟨w314, by decide, by decide +kernel⟩
theorem mi_167 : Mi (PG.nam 167) 1 := ⟨w318, by decide, by decide +kernel⟩
theorem mi_168 : Mi (PG.nam 168) 0 := ⟨w352, by decide, by decide +kernel⟩
theorem mi_169 : Mi (PG.nam 169) 0 := ⟨w420, by decide, by decide +kernel⟩
theorem mi_170 : Mi (PG.nam 170) 1 := ⟨w735, by decide, by decide +kernel⟩
theorem mi_171 : Mi (PG.nam 171) 1 := ⟨w120, by decide, by decide +kernel⟩
theorem mi_172 : Mi (PG.nam 172) 0 := ⟨w303, by decide, by decide +kernel⟩
theorem mi_173 : Mi (PG.nam 173) 1 := ⟨w310, by decide, by decide +kernel⟩
theorem mi_174 : Mi (PG.nam 174) 0 := ⟨w407, by decide, by decide +kernel⟩
theorem mi_175 : Mi (PG.nam 175) 1 := ⟨w731, by decide, by decide +kernel⟩
theorem mi_176 : Mi (PG.nam 176) 1 := ⟨w413, by decide, by decide +kernel⟩
theorem mi_177 : Mi (PG.nam 177) 2 := ⟨w416, by decide, by decide +kernel⟩
theorem mi_178 : Mi (PG.nam 178) 2 := ⟨w805, by decide, by decide +kernel⟩
theorem mi_179 : Mi (PG.nam 179) 0 := ⟨w490, by decide, by decide +kernel⟩
theorem mi_180 : Mi (PG.nam 180) 0 := ⟨w494, by decide, by decide +kernel⟩
theorem mi_181 : Mi (PG.nam 181) 1 := ⟨w592, by decide, by decide +kernel⟩
theorem mi_182 : Mi (PG.nam 182) 1 := ⟨w767, by decide, by decide +kernel⟩
theorem mi_183 : Mi (PG.nam 183) 0 := ⟨w771, by decide, by decide +kernel⟩
theorem mi_184 : Mi (PG.nam 184) 2 := ⟨w793, by decide, by decide +kernel⟩
theorem mi_185 : Mi (PG.nam 185) 0 := ⟨w820, by decide, by decide +kernel⟩
