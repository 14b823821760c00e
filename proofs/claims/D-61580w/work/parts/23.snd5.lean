set_option maxRecDepth 100000
theorem s_J11_hashCode_0 : Snd PG.nam M198 0 (m_aload 0 1) := snd_aload_n dJ11_hashCode_0 rfl
theorem s_J11_hashCode_1 : Snd PG.nam M198 1 (m_alen 2) := snd_alen dJ11_hashCode_1
theorem s_J11_hashCode_2 : Snd PG.nam M198 2 (m_ifz (fun x => if x = (nI 0) then 28 else if x = (nI 1) then 32 else 42)) := snd_sw (fun Ω d mc ms P h k n lv st x kk => by
    dsimp only at kk
    by_cases h0 : x = (nI 0)
    · rw [if_pos h0] at kk; subst h0; exact V.lookup (off := 26) dJ11_hashCode_2 (by decide +kernel) (by decide +kernel) (by decide) kk
    rw [if_neg h0] at kk
    by_cases h1 : x = (nI 1)
    · rw [if_pos h1] at kk; subst h1; exact V.lookup (off := 30) dJ11_hashCode_2 (by decide +kernel) (by decide +kernel) (by decide) kk
    rw [if_neg h1] at kk
    have g0 := sw_ne h0 (v := 0) (by decide +kernel)
    have g1 := sw_ne h1 (v := 1) (by decide +kernel)
    refine V.lookup dJ11_hashCode_2 (by decide +kernel) (off := 40) ?_ (by decide) kk
    simp [Op.lookupswitch.offset, Ne.symm g0, Ne.symm g1])
theorem s_J11_hashCode_28 : Snd PG.nam M198 28 (m_const (.int (nI 0)) 29) := snd_iconst dJ11_hashCode_28 (by decide)
theorem s_J11_hashCode_29 : Snd PG.nam M198 29 (m_goto 51) := snd_goto dJ11_hashCode_29 (by decide)
theorem s_J11_hashCode_32 : Snd PG.nam M198 32 (m_aload 0 33) := snd_aload_n dJ11_hashCode_32 rfl
theorem s_J11_hashCode_33 : Snd PG.nam M198 33 (m_const (.int (nI 0)) 34) := snd_iconst dJ11_hashCode_33 (by decide)
theorem s_J11_hashCode_34 : Snd PG.nam M198 34 (m_iald [.byte, .boolean] 35) := snd_bald dJ11_hashCode_34
theorem s_J11_hashCode_35 : Snd PG.nam M198 35 (m_const (.int (nI 255)) 38) := snd_sipush dJ11_hashCode_35 (by decide)
theorem s_J11_hashCode_38 : Snd PG.nam M198 38 (m_ibin (fun a b => a &&& b) 39) := snd_iand dJ11_hashCode_38
theorem s_J11_hashCode_39 : Snd PG.nam M198 39 (m_goto 51) := snd_goto dJ11_hashCode_39 (by decide)
theorem s_J11_hashCode_42 : Snd PG.nam M198 42 (m_aload 0 43) := snd_aload_n dJ11_hashCode_42 rfl
theorem s_J11_hashCode_43 : Snd PG.nam M198 43 (m_const (.int (nI 0)) 44) := snd_iconst dJ11_hashCode_43 (by decide)
theorem s_J11_hashCode_44 : Snd PG.nam M198 44 (m_aload 0 45) := snd_aload_n dJ11_hashCode_44 rfl
theorem s_J11_hashCode_45 : Snd PG.nam M198 45 (m_alen 46) := snd_alen dJ11_hashCode_45
theorem s_J11_hashCode_46 : Snd PG.nam M198 46 (m_const (.int (nI 0)) 47) := snd_iconst dJ11_hashCode_46 (by decide)
theorem s_J11_hashCode_47 : Snd PG.nam M198 47 (m_const (.int (nI 4)) 48) := snd_iconst dJ11_hashCode_47 (by decide)
theorem s_J11_hashCode_48 : Snd PG.nam M198 48 (m_callS false 188 5 51) := snd_callS (nam := PG.nam) (yy := 188) dJ11_hashCode_48 (Or.inl w826) w827 ⟨by decide, by decide +kernel⟩ (by decide)
theorem s_J11_hashCode_51 : Snd PG.nam M198 51 (m_iret .int) := snd_iret dJ11_hashCode_51 rfl
theorem T198 : ∀ q ∈ S198, Snd PG.nam M198 q.1 q.2 := List.forall_mem_cons.mpr ⟨s_J11_hashCode_0, List.forall_mem_cons.mpr ⟨s_J11_hashCode_1, List.forall_mem_cons.mpr ⟨s_J11_hashCode_2, List.forall_mem_cons.mpr ⟨s_J11_hashCode_28, List.forall_mem_cons.mpr ⟨s_J11_hashCode_29, List.forall_mem_cons.mpr ⟨s_J11_hashCode_32, List.forall_mem_cons.mpr ⟨s_J11_hashCode_33, List.forall_mem_cons.mpr ⟨s_J11_hashCode_34, List.forall_mem_cons.mpr ⟨s_J11_hashCode_35, List.forall_mem_cons.mpr ⟨s_J11_hashCode_38, List.forall_mem_cons.mpr ⟨s_J11_hashCode_39, List.forall_mem_cons.mpr ⟨s_J11_hashCode_42, List.forall_mem_cons.mpr ⟨s_J11_hashCode_43, List.forall_mem_cons.mpr ⟨s_J11_hashCode_44, List.forall_mem_cons.mpr ⟨s_J11_hashCode_45, List.forall_mem_cons.mpr ⟨s_J11_hashCode_46, List.forall_mem_cons.mpr ⟨s_J11_hashCode_47, List.forall_mem_cons.mpr ⟨s_J11_hashCode_48, List.forall_mem_cons.mpr ⟨s_J11_hashCode_51, (fun q hq => absurd hq List.not_mem_nil)⟩⟩⟩⟩⟩⟩⟩⟩⟩⟩⟩⟩⟩⟩⟩⟩⟩⟩⟩
theorem s_J12_checkIndex_0 : Snd PG.nam M199 0 (m_iload 0 1) := snd_iload_n dJ12_checkIndex_0 rfl
theorem s_J12_checkIndex_1 : Snd PG.nam M199 1 (m_ifz (fun x => if x < 0 then 9 else 4)) := snd_if_lt dJ12_checkIndex_1 (by decide)
theorem s_J12_checkIndex_4 : Snd PG.nam M199 4 (m_iload 0 5) := snd_iload_n dJ12_checkIndex_4 rfl
theorem s_J12_checkIndex_5 : Snd PG.nam M199 5 (m_iload 1 6) := snd_iload_n dJ12_checkIndex_5 rfl
theorem s_J12_checkIndex_6 : Snd PG.nam M199 6 (m_icmp (fun x z => if x < z then 16 else 9)) := snd_icmp_lt dJ12_checkIndex_6 (by decide)
theorem s_J12_checkIndex_9 : Snd PG.nam M199 9 (m_aload 2 10) := snd_aload_n dJ12_checkIndex_9 rfl
theorem s_J12_checkIndex_10 : Snd PG.nam M199 10 (m_iload 0 11) := snd_iload_n dJ12_checkIndex_10 rfl
theorem s_J12_checkIndex_11 : Snd PG.nam M199 11 (m_iload 1 12) := snd_iload_n dJ12_checkIndex_11 rfl
theorem s_J12_checkIndex_16 : Snd PG.nam M199 16 (m_iload 0 17) := snd_iload_n dJ12_checkIndex_16 rfl
theorem s_J12_checkIndex_17 : Snd PG.nam M199 17 (m_iret .int) := snd_iret dJ12_checkIndex_17 rfl
theorem T199 : ∀ q ∈ S199, Snd PG.nam M199 q.1 q.2 := List.forall_mem_cons.mpr ⟨s_J12_checkIndex_0, List.forall_mem_cons.mpr ⟨s_J12_checkIndex_1, List.forall_mem_cons.mpr ⟨s_J12_checkIndex_4, List.forall_mem_cons.mpr ⟨s_J12_checkIndex_5, List.forall_mem_cons.mpr ⟨s_J12_checkIndex_6, List.forall_mem_cons.mpr ⟨s_J12_checkIndex_9, List.forall_mem_cons.mpr ⟨s_J12_checkIndex_10, List.forall_mem_cons.mpr ⟨s_J12_checkIndex_11, List.forall_mem_cons.mpr ⟨s_J12_checkIndex_16, List.forall_mem_cons.mpr ⟨s_J12_checkIndex_17, (fun q hq => absurd hq List.not_mem_nil)⟩⟩⟩⟩⟩⟩⟩⟩⟩⟩
theorem s_J12_checkFromToIndex_0 : Snd PG.nam M200 0 (m_iload 0 1) := snd_iload_n dJ12_checkFromToIndex_0 rfl
theorem s_J12_checkFromToIndex_1 : Snd PG.nam M200 1 (m_ifz (fun x => if x < 0 then 14 else 4)) := snd_if_lt dJ12_checkFromToIndex_1 (by decide)
theorem s_J12_checkFromToIndex_4 : Snd PG.nam M200 4 (m_iload 0 5) := snd_iload_n dJ12_checkFromToIndex_4 rfl
theorem s_J12_checkFromToIndex_5 : Snd PG.nam M200 5 (m_iload 1 6) := snd_iload_n dJ12_checkFromToIndex_5 rfl
theorem s_J12_checkFromToIndex_6 : Snd PG.nam M200 6 (m_icmp (fun x z => if z < x then 14 else 9)) := snd_icmp_gt dJ12_checkFromToIndex_6 (by decide)
theorem s_J12_checkFromToIndex_9 : Snd PG.nam M200 9 (m_iload 1 10) := snd_iload_n dJ12_checkFromToIndex_9 rfl
theorem s_J12_checkFromToIndex_10 : Snd PG.nam M200 10 (m_iload 2 11) := snd_iload_n dJ12_checkFromToIndex_10 rfl
theorem s_J12_checkFromToIndex_11 : Snd PG.nam M200 11 (m_icmp (fun x z => if z < x then 14 else 22)) := snd_icmp_le dJ12_checkFromToIndex_11 (by decide)
theorem s_J12_checkFromToIndex_14 : Snd PG.nam M200 14 (m_aload 3 15) := snd_aload_n dJ12_checkFromToIndex_14 rfl
theorem s_J12_checkFromToIndex_15 : Snd PG.nam M200 15 (m_iload 0 16) := snd_iload_n dJ12_checkFromToIndex_15 rfl
theorem s_J12_checkFromToIndex_16 : Snd PG.nam M200 16 (m_iload 1 17) := snd_iload_n dJ12_checkFromToIndex_16 rfl
theorem s_J12_checkFromToIndex_17 : Snd PG.nam M200 17 (m_iload 2 18) := snd_iload_n dJ12_checkFromToIndex_17 rfl
theorem s_J12_checkFromToIndex_22 : Snd PG.nam M200 22 (m_iload 0 23) := snd_iload_n dJ12_checkFromToIndex_22 rfl
theorem s_J12_checkFromToIndex_23 : Snd PG.nam M200 23 (m_iret .int) := snd_iret dJ12_checkFromToIndex_23 rfl
theorem T200 : ∀ q ∈ S200, Snd PG.nam M200 q.1 q.2 := List.forall_mem_cons.mpr ⟨s_J12_checkFromToIndex_0, List.forall_mem_cons.mpr ⟨s_J12_checkFromToIndex_1, List.forall_mem_cons.mpr ⟨s_J12_checkFromToIndex_4, List.forall_mem_cons.mpr ⟨s_J12_checkFromToIndex_5, List.forall_mem_cons.mpr ⟨s_J12_checkFromToIndex_6, List.forall_mem_cons.mpr ⟨s_J12_checkFromToIndex_9, List.forall_mem_cons.mpr ⟨s_J12_checkFromToIndex_10, List.forall_mem_cons.mpr ⟨s_J12_checkFromToIndex_11, List.forall_mem_cons.mpr ⟨s_J12_checkFromToIndex_14, List.forall_mem_cons.mpr ⟨s_J12_checkFromToIndex_15, List.forall_mem_cons.mpr ⟨s_J12_checkFromToIndex_16, List.forall_mem_cons.mpr ⟨s_J12_checkFromToIndex_17, List.forall_mem_cons.mpr ⟨s_J12_checkFromToIndex_22, List.forall_mem_cons.mpr ⟨s_J12_checkFromToIndex_23, (fun q hq => absurd hq List.not_mem_nil)⟩⟩⟩⟩⟩⟩⟩⟩⟩⟩⟩⟩⟩⟩
