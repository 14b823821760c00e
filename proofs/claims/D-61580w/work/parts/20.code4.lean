set_option maxRecDepth 100000
abbrev cX9_side : ByteArray := prog_16_method_14_code
def yX9_side : MethodName := ⟨"TripleStore$Reader", "side", "()LTripleStore$Side;"⟩
theorem dX9_side_0 : decode cX9_side 0 = .ok (.aload_n 0, 1) := by decide +kernel
theorem dX9_side_1 : decode cX9_side 1 = .ok (.getfield 90, 3) := by decide +kernel
theorem dX9_side_4 : decode cX9_side 4 = .ok (.iconst 4, 1) := by decide +kernel
theorem dX9_side_5 : decode cX9_side 5 = .ok (.if_icmp .ne 16, 3) := by decide +kernel
theorem dX9_side_8 : decode cX9_side 8 = .ok (.new 121, 3) := by decide +kernel
theorem dX9_side_11 : decode cX9_side 11 = .ok (.dup, 1) := by decide +kernel
theorem dX9_side_12 : decode cX9_side 12 = .ok (.aconst_null, 1) := by decide +kernel
theorem dX9_side_13 : decode cX9_side 13 = .ok (.aload_n 0, 1) := by decide +kernel
theorem dX9_side_14 : decode cX9_side 14 = .ok (.invokevirtual 123, 3) := by decide +kernel
theorem dX9_side_17 : decode cX9_side 17 = .ok (.invokespecial 126, 3) := by decide +kernel
theorem dX9_side_20 : decode cX9_side 20 = .ok (.areturn, 1) := by decide +kernel
theorem dX9_side_21 : decode cX9_side 21 = .ok (.aload_n 0, 1) := by decide +kernel
theorem dX9_side_22 : decode cX9_side 22 = .ok (.getfield 90, 3) := by decide +kernel
theorem dX9_side_25 : decode cX9_side 25 = .ok (.iconst 3, 1) := by decide +kernel
theorem dX9_side_26 : decode cX9_side 26 = .ok (.if_icmp .ne 23, 3) := by decide +kernel
theorem dX9_side_29 : decode cX9_side 29 = .ok (.new 121, 3) := by decide +kernel
theorem dX9_side_32 : decode cX9_side 32 = .ok (.dup, 1) := by decide +kernel
theorem dX9_side_33 : decode cX9_side 33 = .ok (.new 129, 3) := by decide +kernel
theorem dX9_side_36 : decode cX9_side 36 = .ok (.dup, 1) := by decide +kernel
theorem dX9_side_37 : decode cX9_side 37 = .ok (.aload_n 0, 1) := by decide +kernel
theorem dX9_side_38 : decode cX9_side 38 = .ok (.invokevirtual 131, 3) := by decide +kernel
theorem dX9_side_41 : decode cX9_side 41 = .ok (.invokespecial 134, 3) := by decide +kernel
theorem dX9_side_44 : decode cX9_side 44 = .ok (.iconst (-1), 1) := by decide +kernel
theorem dX9_side_45 : decode cX9_side 45 = .ok (.invokespecial 126, 3) := by decide +kernel
theorem dX9_side_48 : decode cX9_side 48 = .ok (.areturn, 1) := by decide +kernel
theorem dX9_side_49 : decode cX9_side 49 = .ok (.aload_n 0, 1) := by decide +kernel
theorem dX9_side_50 : decode cX9_side 50 = .ok (.aload_n 0, 1) := by decide +kernel
theorem dX9_side_51 : decode cX9_side 51 = .ok (.getfield 90, 3) := by decide +kernel
theorem dX9_side_54 : decode cX9_side 54 = .ok (.iconst 1, 1) := by decide +kernel
theorem dX9_side_55 : decode cX9_side 55 = .ok (.if_icmp .ne 7, 3) := by decide +kernel
theorem dX9_side_58 : decode cX9_side 58 = .ok (.iconst 1, 1) := by decide +kernel
theorem dX9_side_59 : decode cX9_side 59 = .ok (.goto 4, 3) := by decide +kernel
theorem dX9_side_62 : decode cX9_side 62 = .ok (.iconst 0, 1) := by decide +kernel
theorem dX9_side_63 : decode cX9_side 63 = .ok (.aload_n 0, 1) := by decide +kernel
theorem dX9_side_64 : decode cX9_side 64 = .ok (.getfield 82, 3) := by decide +kernel
theorem dX9_side_67 : decode cX9_side 67 = .ok (.invokevirtual 114, 3) := by decide +kernel
theorem dX9_side_70 : decode cX9_side 70 = .ok (.new 137, 3) := by decide +kernel
theorem dX9_side_73 : decode cX9_side 73 = .ok (.dup, 1) := by decide +kernel
theorem dX9_side_74 : decode cX9_side 74 = .ok (.aload_n 0, 1) := by decide +kernel
theorem dX9_side_75 : decode cX9_side 75 = .ok (.getfield 87, 3) := by decide +kernel
theorem dX9_side_78 : decode cX9_side 78 = .ok (.invokespecial 139, 3) := by decide +kernel
theorem dX9_side_81 : decode cX9_side 81 = .ok (.astore_n 1, 1) := by decide +kernel
theorem dX9_side_82 : decode cX9_side 82 = .ok (.aload_n 0, 1) := by decide +kernel
theorem dX9_side_83 : decode cX9_side 83 = .ok (.invokevirtual 25, 3) := by decide +kernel
theorem dX9_side_86 : decode cX9_side 86 = .ok (.new 121, 3) := by decide +kernel
theorem dX9_side_89 : decode cX9_side 89 = .ok (.dup, 1) := by decide +kernel
theorem dX9_side_90 : decode cX9_side 90 = .ok (.aload_n 1, 1) := by decide +kernel
theorem dX9_side_91 : decode cX9_side 91 = .ok (.iconst (-1), 1) := by decide +kernel
theorem dX9_side_92 : decode cX9_side 92 = .ok (.invokespecial 126, 3) := by decide +kernel
theorem dX9_side_95 : decode cX9_side 95 = .ok (.areturn, 1) := by decide +kernel
abbrev cX9_number : ByteArray := prog_16_method_12_code
def yX9_number : MethodName := ⟨"TripleStore$Reader", "number", "()I"⟩
theorem dX9_number_0 : decode cX9_number 0 = .ok (.aload_n 0, 1) := by decide +kernel
theorem dX9_number_1 : decode cX9_number 1 = .ok (.aload_n 0, 1) := by decide +kernel
theorem dX9_number_2 : decode cX9_number 2 = .ok (.getfield 90, 3) := by decide +kernel
theorem dX9_number_5 : decode cX9_number 5 = .ok (.iconst 3, 1) := by decide +kernel
theorem dX9_number_6 : decode cX9_number 6 = .ok (.if_icmp .ne 7, 3) := by decide +kernel
theorem dX9_number_9 : decode cX9_number 9 = .ok (.iconst 1, 1) := by decide +kernel
theorem dX9_number_10 : decode cX9_number 10 = .ok (.goto 4, 3) := by decide +kernel
theorem dX9_number_13 : decode cX9_number 13 = .ok (.iconst 0, 1) := by decide +kernel
theorem dX9_number_14 : decode cX9_number 14 = .ok (.aload_n 0, 1) := by decide +kernel
theorem dX9_number_15 : decode cX9_number 15 = .ok (.getfield 82, 3) := by decide +kernel
theorem dX9_number_18 : decode cX9_number 18 = .ok (.invokevirtual 114, 3) := by decide +kernel
theorem dX9_number_21 : decode cX9_number 21 = .ok (.iconst 0, 1) := by decide +kernel
theorem dX9_number_22 : decode cX9_number 22 = .ok (.istore_n 1, 1) := by decide +kernel
theorem dX9_number_23 : decode cX9_number 23 = .ok (.iconst 0, 1) := by decide +kernel
theorem dX9_number_24 : decode cX9_number 24 = .ok (.istore_n 2, 1) := by decide +kernel
theorem dX9_number_25 : decode cX9_number 25 = .ok (.iload_n 2, 1) := by decide +kernel
theorem dX9_number_26 : decode cX9_number 26 = .ok (.aload_n 0, 1) := by decide +kernel
theorem dX9_number_27 : decode cX9_number 27 = .ok (.getfield 87, 3) := by decide +kernel
theorem dX9_number_30 : decode cX9_number 30 = .ok (.invokevirtual 68, 3) := by decide +kernel
theorem dX9_number_33 : decode cX9_number 33 = .ok (.if_icmp .ge 26, 3) := by decide +kernel
theorem dX9_number_36 : decode cX9_number 36 = .ok (.iload_n 1, 1) := by decide +kernel
theorem dX9_number_37 : decode cX9_number 37 = .ok (.bipush 10, 2) := by decide +kernel
theorem dX9_number_39 : decode cX9_number 39 = .ok (.imul, 1) := by decide +kernel
theorem dX9_number_40 : decode cX9_number 40 = .ok (.aload_n 0, 1) := by decide +kernel
theorem dX9_number_41 : decode cX9_number 41 = .ok (.getfield 87, 3) := by decide +kernel
theorem dX9_number_44 : decode cX9_number 44 = .ok (.iload_n 2, 1) := by decide +kernel
theorem dX9_number_45 : decode cX9_number 45 = .ok (.invokevirtual 71, 3) := by decide +kernel
theorem dX9_number_48 : decode cX9_number 48 = .ok (.iadd, 1) := by decide +kernel
theorem dX9_number_49 : decode cX9_number 49 = .ok (.bipush 48, 2) := by decide +kernel
theorem dX9_number_51 : decode cX9_number 51 = .ok (.isub, 1) := by decide +kernel
theorem dX9_number_52 : decode cX9_number 52 = .ok (.istore_n 1, 1) := by decide +kernel
theorem dX9_number_53 : decode cX9_number 53 = .ok (.iinc 2 1, 3) := by decide +kernel
theorem dX9_number_56 : decode cX9_number 56 = .ok (.goto (-31), 3) := by decide +kernel
theorem dX9_number_59 : decode cX9_number 59 = .ok (.aload_n 0, 1) := by decide +kernel
theorem dX9_number_60 : decode cX9_number 60 = .ok (.invokevirtual 25, 3) := by decide +kernel
theorem dX9_number_63 : decode cX9_number 63 = .ok (.iload_n 1, 1) := by decide +kernel
theorem dX9_number_64 : decode cX9_number 64 = .ok (.ireturn, 1) := by decide +kernel
abbrev cX9_need : ByteArray := prog_16_method_11_code
def yX9_need : MethodName := ⟨"TripleStore$Reader", "need", "(I)V"⟩
theorem dX9_need_0 : decode cX9_need 0 = .ok (.aload_n 0, 1) := by decide +kernel
theorem dX9_need_1 : decode cX9_need 1 = .ok (.aload_n 0, 1) := by decide +kernel
theorem dX9_need_2 : decode cX9_need 2 = .ok (.getfield 90, 3) := by decide +kernel
theorem dX9_need_5 : decode cX9_need 5 = .ok (.iload_n 1, 1) := by decide +kernel
theorem dX9_need_6 : decode cX9_need 6 = .ok (.if_icmp .ne 7, 3) := by decide +kernel
theorem dX9_need_9 : decode cX9_need 9 = .ok (.iconst 1, 1) := by decide +kernel
theorem dX9_need_10 : decode cX9_need 10 = .ok (.goto 4, 3) := by decide +kernel
theorem dX9_need_13 : decode cX9_need 13 = .ok (.iconst 0, 1) := by decide +kernel
theorem dX9_need_14 : decode cX9_need 14 = .ok (.aload_n 0, 1) := by decide +kernel
theorem dX9_need_15 : decode cX9_need 15 = .ok (.getfield 82, 3) := by decide +kernel
theorem dX9_need_18 : decode cX9_need 18 = .ok (.invokevirtual 114, 3) := by decide +kernel
theorem dX9_need_21 : decode cX9_need 21 = .ok (.aload_n 0, 1) := by decide +kernel
theorem dX9_need_22 : decode cX9_need 22 = .ok (.invokevirtual 25, 3) := by decide +kernel
theorem dX9_need_25 : decode cX9_need 25 = .ok (.return_, 1) := by decide +kernel
abbrev cX10_init : ByteArray := prog_15_method_1_code
def yX10_init : MethodName := ⟨"TripleStore$Query", "<init>", "()V"⟩
theorem dX10_init_0 : decode cX10_init 0 = .ok (.aload_n 0, 1) := by decide +kernel
theorem dX10_init_1 : decode cX10_init 1 = .ok (.invokespecial 3, 3) := by decide +kernel
theorem dX10_init_4 : decode cX10_init 4 = .ok (.aload_n 0, 1) := by decide +kernel
theorem dX10_init_5 : decode cX10_init 5 = .ok (.bipush 6, 2) := by decide +kernel
theorem dX10_init_7 : decode cX10_init 7 = .ok (.newarray .int, 2) := by decide +kernel
theorem dX10_init_9 : decode cX10_init 9 = .ok (.putfield 9, 3) := by decide +kernel
theorem dX10_init_12 : decode cX10_init 12 = .ok (.aload_n 0, 1) := by decide +kernel
theorem dX10_init_13 : decode cX10_init 13 = .ok (.iconst (-1), 1) := by decide +kernel
theorem dX10_init_14 : decode cX10_init 14 = .ok (.putfield 15, 3) := by decide +kernel
theorem dX10_init_17 : decode cX10_init 17 = .ok (.aload_n 0, 1) := by decide +kernel
theorem dX10_init_18 : decode cX10_init 18 = .ok (.sipush 150, 3) := by decide +kernel
theorem dX10_init_21 : decode cX10_init 21 = .ok (.putfield 19, 3) := by decide +kernel
theorem dX10_init_24 : decode cX10_init 24 = .ok (.return_, 1) := by decide +kernel
abbrev cX11_init : ByteArray := prog_9_method_1_code
def yX11_init : MethodName := ⟨"TripleStore$Group", "<init>", "()V"⟩
theorem dX11_init_0 : decode cX11_init 0 = .ok (.aload_n 0, 1) := by decide +kernel
theorem dX11_init_1 : decode cX11_init 1 = .ok (.invokespecial 1, 3) := by decide +kernel
theorem dX11_init_4 : decode cX11_init 4 = .ok (.return_, 1) := by decide +kernel
abbrev cX11_add : ByteArray := prog_9_method_2_code
def yX11_add : MethodName := ⟨"TripleStore$Group", "add", "(LTripleStore$Element;)V"⟩
theorem dX11_add_0 : decode cX11_add 0 = .ok (.aload_n 0, 1) := by decide +kernel
theorem dX11_add_1 : decode cX11_add 1 = .ok (.getfield 7, 3) := by decide +kernel
theorem dX11_add_4 : decode cX11_add 4 = .ok (.ifnonnull 11, 3) := by decide +kernel
theorem dX11_add_7 : decode cX11_add 7 = .ok (.aload_n 0, 1) := by decide +kernel
theorem dX11_add_8 : decode cX11_add 8 = .ok (.aload_n 1, 1) := by decide +kernel
theorem dX11_add_9 : decode cX11_add 9 = .ok (.putfield 7, 3) := by decide +kernel
theorem dX11_add_12 : decode cX11_add 12 = .ok (.goto 11, 3) := by decide +kernel
theorem dX11_add_15 : decode cX11_add 15 = .ok (.aload_n 0, 1) := by decide +kernel
theorem dX11_add_16 : decode cX11_add 16 = .ok (.getfield 13, 3) := by decide +kernel
theorem dX11_add_19 : decode cX11_add 19 = .ok (.aload_n 1, 1) := by decide +kernel
theorem dX11_add_20 : decode cX11_add 20 = .ok (.putfield 16, 3) := by decide +kernel
theorem dX11_add_23 : decode cX11_add 23 = .ok (.aload_n 0, 1) := by decide +kernel
theorem dX11_add_24 : decode cX11_add 24 = .ok (.aload_n 1, 1) := by decide +kernel
theorem dX11_add_25 : decode cX11_add 25 = .ok (.putfield 13, 3) := by decide +kernel
theorem dX11_add_28 : decode cX11_add 28 = .ok (.return_, 1) := by decide +kernel
abbrev cX11_find : ByteArray := prog_9_method_3_code
def yX11_find : MethodName := ⟨"TripleStore$Group", "find", "(LTripleStore;)LTripleStore$Found;"⟩
theorem dX11_find_0 : decode cX11_find 0 = .ok (.new 21, 3) := by decide +kernel
theorem dX11_find_3 : decode cX11_find 3 = .ok (.dup, 1) := by decide +kernel
theorem dX11_find_4 : decode cX11_find 4 = .ok (.invokespecial 23, 3) := by decide +kernel
theorem dX11_find_7 : decode cX11_find 7 = .ok (.astore_n 2, 1) := by decide +kernel
theorem dX11_find_8 : decode cX11_find 8 = .ok (.aload_n 2, 1) := by decide +kernel
theorem dX11_find_9 : decode cX11_find 9 = .ok (.new 24, 3) := by decide +kernel
theorem dX11_find_12 : decode cX11_find 12 = .ok (.dup, 1) := by decide +kernel
theorem dX11_find_13 : decode cX11_find 13 = .ok (.invokespecial 26, 3) := by decide +kernel
theorem dX11_find_16 : decode cX11_find 16 = .ok (.invokevirtual 27, 3) := by decide +kernel
theorem dX11_find_19 : decode cX11_find 19 = .ok (.aload_n 0, 1) := by decide +kernel
theorem dX11_find_20 : decode cX11_find 20 = .ok (.getfield 7, 3) := by decide +kernel
theorem dX11_find_23 : decode cX11_find 23 = .ok (.astore_n 3, 1) := by decide +kernel
theorem dX11_find_24 : decode cX11_find 24 = .ok (.aload_n 3, 1) := by decide +kernel
theorem dX11_find_25 : decode cX11_find 25 = .ok (.ifnull 18, 3) := by decide +kernel
theorem dX11_find_28 : decode cX11_find 28 = .ok (.aload_n 3, 1) := by decide +kernel
theorem dX11_find_29 : decode cX11_find 29 = .ok (.aload_n 2, 1) := by decide +kernel
theorem dX11_find_30 : decode cX11_find 30 = .ok (.aload_n 1, 1) := by decide +kernel
theorem dX11_find_31 : decode cX11_find 31 = .ok (.invokevirtual 31, 3) := by decide +kernel
theorem dX11_find_34 : decode cX11_find 34 = .ok (.astore_n 2, 1) := by decide +kernel
theorem dX11_find_35 : decode cX11_find 35 = .ok (.aload_n 3, 1) := by decide +kernel
theorem dX11_find_36 : decode cX11_find 36 = .ok (.getfield 16, 3) := by decide +kernel
theorem dX11_find_39 : decode cX11_find 39 = .ok (.astore_n 3, 1) := by decide +kernel
theorem dX11_find_40 : decode cX11_find 40 = .ok (.goto (-16), 3) := by decide +kernel
theorem dX11_find_43 : decode cX11_find 43 = .ok (.aload_n 0, 1) := by decide +kernel
theorem dX11_find_44 : decode cX11_find 44 = .ok (.getfield 7, 3) := by decide +kernel
theorem dX11_find_47 : decode cX11_find 47 = .ok (.astore_n 3, 1) := by decide +kernel
theorem dX11_find_48 : decode cX11_find 48 = .ok (.aload_n 3, 1) := by decide +kernel
theorem dX11_find_49 : decode cX11_find 49 = .ok (.ifnull 27, 3) := by decide +kernel
theorem dX11_find_52 : decode cX11_find 52 = .ok (.aload_n 3, 1) := by decide +kernel
theorem dX11_find_53 : decode cX11_find 53 = .ok (.instanceof 35, 3) := by decide +kernel
theorem dX11_find_56 : decode cX11_find 56 = .ok (.ifCond .eq 12, 3) := by decide +kernel
theorem dX11_find_59 : decode cX11_find 59 = .ok (.aload_n 3, 1) := by decide +kernel
theorem dX11_find_60 : decode cX11_find 60 = .ok (.checkcast 35, 3) := by decide +kernel
theorem dX11_find_63 : decode cX11_find 63 = .ok (.aload_n 2, 1) := by decide +kernel
theorem dX11_find_64 : decode cX11_find 64 = .ok (.invokevirtual 37, 3) := by decide +kernel
theorem dX11_find_67 : decode cX11_find 67 = .ok (.astore_n 2, 1) := by decide +kernel
theorem dX11_find_68 : decode cX11_find 68 = .ok (.aload_n 3, 1) := by decide +kernel
theorem dX11_find_69 : decode cX11_find 69 = .ok (.getfield 16, 3) := by decide +kernel
theorem dX11_find_72 : decode cX11_find 72 = .ok (.astore_n 3, 1) := by decide +kernel
theorem dX11_find_73 : decode cX11_find 73 = .ok (.goto (-25), 3) := by decide +kernel
theorem dX11_find_76 : decode cX11_find 76 = .ok (.aload_n 2, 1) := by decide +kernel
theorem dX11_find_77 : decode cX11_find 77 = .ok (.areturn, 1) := by decide +kernel
abbrev cX12_init : ByteArray := prog_6_method_1_code
def yX12_init : MethodName := ⟨"TripleStore$Element", "<init>", "()V"⟩
theorem dX12_init_0 : decode cX12_init 0 = .ok (.aload_n 0, 1) := by decide +kernel
theorem dX12_init_1 : decode cX12_init 1 = .ok (.invokespecial 1, 3) := by decide +kernel
theorem dX12_init_4 : decode cX12_init 4 = .ok (.return_, 1) := by decide +kernel
abbrev cX13_init : ByteArray := prog_7_method_1_code
def yX13_init : MethodName := ⟨"TripleStore$Filter", "<init>", "(LTripleStore$Test;)V"⟩
theorem dX13_init_0 : decode cX13_init 0 = .ok (.aload_n 0, 1) := by decide +kernel
theorem dX13_init_1 : decode cX13_init 1 = .ok (.invokespecial 1, 3) := by decide +kernel
theorem dX13_init_4 : decode cX13_init 4 = .ok (.aload_n 0, 1) := by decide +kernel
theorem dX13_init_5 : decode cX13_init 5 = .ok (.aload_n 1, 1) := by decide +kernel
theorem dX13_init_6 : decode cX13_init 6 = .ok (.putfield 7, 3) := by decide +kernel
theorem dX13_init_9 : decode cX13_init 9 = .ok (.return_, 1) := by decide +kernel
abbrev cX13_apply : ByteArray := prog_7_method_2_code
def yX13_apply : MethodName := ⟨"TripleStore$Filter", "apply", "(LTripleStore$Found;LTripleStore;)LTripleStore$Found;"⟩
theorem dX13_apply_0 : decode cX13_apply 0 = .ok (.aload_n 1, 1) := by decide +kernel
theorem dX13_apply_1 : decode cX13_apply 1 = .ok (.areturn, 1) := by decide +kernel
abbrev cX13_filtered : ByteArray := prog_7_method_3_code
def yX13_filtered : MethodName := ⟨"TripleStore$Filter", "filtered", "(LTripleStore$Found;)LTripleStore$Found;"⟩
theorem dX13_filtered_0 : decode cX13_filtered 0 = .ok (.new 13, 3) := by decide +kernel
theorem dX13_filtered_3 : decode cX13_filtered 3 = .ok (.dup, 1) := by decide +kernel
theorem dX13_filtered_4 : decode cX13_filtered 4 = .ok (.invokespecial 15, 3) := by decide +kernel
theorem dX13_filtered_7 : decode cX13_filtered 7 = .ok (.astore_n 2, 1) := by decide +kernel
theorem dX13_filtered_8 : decode cX13_filtered 8 = .ok (.iconst 0, 1) := by decide +kernel
theorem dX13_filtered_9 : decode cX13_filtered 9 = .ok (.istore_n 3, 1) := by decide +kernel
theorem dX13_filtered_10 : decode cX13_filtered 10 = .ok (.iload_n 3, 1) := by decide +kernel
theorem dX13_filtered_11 : decode cX13_filtered 11 = .ok (.aload_n 1, 1) := by decide +kernel
theorem dX13_filtered_12 : decode cX13_filtered 12 = .ok (.getfield 16, 3) := by decide +kernel
theorem dX13_filtered_15 : decode cX13_filtered 15 = .ok (.if_icmp .ge 35, 3) := by decide +kernel
theorem dX13_filtered_18 : decode cX13_filtered 18 = .ok (.aload_n 0, 1) := by decide +kernel
theorem dX13_filtered_19 : decode cX13_filtered 19 = .ok (.getfield 7, 3) := by decide +kernel
theorem dX13_filtered_22 : decode cX13_filtered 22 = .ok (.aload_n 1, 1) := by decide +kernel
theorem dX13_filtered_23 : decode cX13_filtered 23 = .ok (.getfield 20, 3) := by decide +kernel
theorem dX13_filtered_26 : decode cX13_filtered 26 = .ok (.iload_n 3, 1) := by decide +kernel
theorem dX13_filtered_27 : decode cX13_filtered 27 = .ok (.aaload, 1) := by decide +kernel
theorem dX13_filtered_28 : decode cX13_filtered 28 = .ok (.invokevirtual 24, 3) := by decide +kernel
theorem dX13_filtered_31 : decode cX13_filtered 31 = .ok (.ifCond .eq 13, 3) := by decide +kernel
theorem dX13_filtered_34 : decode cX13_filtered 34 = .ok (.aload_n 2, 1) := by decide +kernel
theorem dX13_filtered_35 : decode cX13_filtered 35 = .ok (.aload_n 1, 1) := by decide +kernel
theorem dX13_filtered_36 : decode cX13_filtered 36 = .ok (.getfield 20, 3) := by decide +kernel
theorem dX13_filtered_39 : decode cX13_filtered 39 = .ok (.iload_n 3, 1) := by decide +kernel
theorem dX13_filtered_40 : decode cX13_filtered 40 = .ok (.aaload, 1) := by decide +kernel
theorem dX13_filtered_41 : decode cX13_filtered 41 = .ok (.invokevirtual 30, 3) := by decide +kernel
theorem dX13_filtered_44 : decode cX13_filtered 44 = .ok (.iinc 3 1, 3) := by decide +kernel
theorem dX13_filtered_47 : decode cX13_filtered 47 = .ok (.goto (-37), 3) := by decide +kernel
theorem dX13_filtered_50 : decode cX13_filtered 50 = .ok (.aload_n 2, 1) := by decide +kernel
theorem dX13_filtered_51 : decode cX13_filtered 51 = .ok (.areturn, 1) := by decide +kernel
abbrev cX14_init : ByteArray := prog_21_method_1_code
def yX14_init : MethodName := ⟨"TripleStore$Test", "<init>", "()V"⟩
theorem dX14_init_0 : decode cX14_init 0 = .ok (.aload_n 0, 1) := by decide +kernel
theorem dX14_init_1 : decode cX14_init 1 = .ok (.invokespecial 1, 3) := by decide +kernel
theorem dX14_init_4 : decode cX14_init 4 = .ok (.return_, 1) := by decide +kernel
abbrev cX15_init : ByteArray := prog_11_method_1_code
def yX15_init : MethodName := ⟨"TripleStore$Not", "<init>", "(LTripleStore$Test;)V"⟩
theorem dX15_init_0 : decode cX15_init 0 = .ok (.aload_n 0, 1) := by decide +kernel
theorem dX15_init_1 : decode cX15_init 1 = .ok (.invokespecial 1, 3) := by decide +kernel
theorem dX15_init_4 : decode cX15_init 4 = .ok (.aload_n 0, 1) := by decide +kernel
theorem dX15_init_5 : decode cX15_init 5 = .ok (.aload_n 1, 1) := by decide +kernel
theorem dX15_init_6 : decode cX15_init 6 = .ok (.putfield 7, 3) := by decide +kernel
theorem dX15_init_9 : decode cX15_init 9 = .ok (.return_, 1) := by decide +kernel
abbrev cX15_holds : ByteArray := prog_11_method_2_code
def yX15_holds : MethodName := ⟨"TripleStore$Not", "holds", "(LTripleStore$Solution;)Z"⟩
theorem dX15_holds_0 : decode cX15_holds 0 = .ok (.aload_n 0, 1) := by decide +kernel
theorem dX15_holds_1 : decode cX15_holds 1 = .ok (.getfield 7, 3) := by decide +kernel
theorem dX15_holds_4 : decode cX15_holds 4 = .ok (.aload_n 1, 1) := by decide +kernel
theorem dX15_holds_5 : decode cX15_holds 5 = .ok (.invokevirtual 13, 3) := by decide +kernel
theorem dX15_holds_8 : decode cX15_holds 8 = .ok (.ifCond .ne 7, 3) := by decide +kernel
theorem dX15_holds_11 : decode cX15_holds 11 = .ok (.iconst 1, 1) := by decide +kernel
theorem dX15_holds_12 : decode cX15_holds 12 = .ok (.goto 4, 3) := by decide +kernel
theorem dX15_holds_15 : decode cX15_holds 15 = .ok (.iconst 0, 1) := by decide +kernel
theorem dX15_holds_16 : decode cX15_holds 16 = .ok (.ireturn, 1) := by decide +kernel
abbrev cX16_init : ByteArray := prog_2_method_1_code
def yX16_init : MethodName := ⟨"TripleStore$Bound", "<init>", "(I)V"⟩
theorem dX16_init_0 : decode cX16_init 0 = .ok (.aload_n 0, 1) := by decide +kernel
theorem dX16_init_1 : decode cX16_init 1 = .ok (.invokespecial 1, 3) := by decide +kernel
theorem dX16_init_4 : decode cX16_init 4 = .ok (.aload_n 0, 1) := by decide +kernel
theorem dX16_init_5 : decode cX16_init 5 = .ok (.iload_n 1, 1) := by decide +kernel
theorem dX16_init_6 : decode cX16_init 6 = .ok (.putfield 7, 3) := by decide +kernel
theorem dX16_init_9 : decode cX16_init 9 = .ok (.return_, 1) := by decide +kernel
abbrev cX16_holds : ByteArray := prog_2_method_2_code
def yX16_holds : MethodName := ⟨"TripleStore$Bound", "holds", "(LTripleStore$Solution;)Z"⟩
theorem dX16_holds_0 : decode cX16_holds 0 = .ok (.aload_n 1, 1) := by decide +kernel
theorem dX16_holds_1 : decode cX16_holds 1 = .ok (.getfield 13, 3) := by decide +kernel
theorem dX16_holds_4 : decode cX16_holds 4 = .ok (.aload_n 0, 1) := by decide +kernel
theorem dX16_holds_5 : decode cX16_holds 5 = .ok (.getfield 7, 3) := by decide +kernel
theorem dX16_holds_8 : decode cX16_holds 8 = .ok (.aaload, 1) := by decide +kernel
theorem dX16_holds_9 : decode cX16_holds 9 = .ok (.ifnull 7, 3) := by decide +kernel
theorem dX16_holds_12 : decode cX16_holds 12 = .ok (.iconst 1, 1) := by decide +kernel
theorem dX16_holds_13 : decode cX16_holds 13 = .ok (.goto 4, 3) := by decide +kernel
theorem dX16_holds_16 : decode cX16_holds 16 = .ok (.iconst 0, 1) := by decide +kernel
theorem dX16_holds_17 : decode cX16_holds 17 = .ok (.ireturn, 1) := by decide +kernel
abbrev cX17_init : ByteArray := prog_18_method_1_code
def yX17_init : MethodName := ⟨"TripleStore$Side", "<init>", "(LTripleStore$Term;I)V"⟩
theorem dX17_init_0 : decode cX17_init 0 = .ok (.aload_n 0, 1) := by decide +kernel
theorem dX17_init_1 : decode cX17_init 1 = .ok (.invokespecial 1, 3) := by decide +kernel
theorem dX17_init_4 : decode cX17_init 4 = .ok (.aload_n 0, 1) := by decide +kernel
theorem dX17_init_5 : decode cX17_init 5 = .ok (.aload_n 1, 1) := by decide +kernel
theorem dX17_init_6 : decode cX17_init 6 = .ok (.putfield 7, 3) := by decide +kernel
theorem dX17_init_9 : decode cX17_init 9 = .ok (.aload_n 0, 1) := by decide +kernel
theorem dX17_init_10 : decode cX17_init 10 = .ok (.iload_n 2, 1) := by decide +kernel
theorem dX17_init_11 : decode cX17_init 11 = .ok (.putfield 13, 3) := by decide +kernel
theorem dX17_init_14 : decode cX17_init 14 = .ok (.return_, 1) := by decide +kernel
abbrev cX17_in : ByteArray := prog_18_method_2_code
def yX17_in : MethodName := ⟨"TripleStore$Side", "in", "(LTripleStore$Solution;)LTripleStore$Term;"⟩
theorem dX17_in_0 : decode cX17_in 0 = .ok (.aload_n 0, 1) := by decide +kernel
theorem dX17_in_1 : decode cX17_in 1 = .ok (.getfield 7, 3) := by decide +kernel
theorem dX17_in_4 : decode cX17_in 4 = .ok (.ifnull 10, 3) := by decide +kernel
theorem dX17_in_7 : decode cX17_in 7 = .ok (.aload_n 0, 1) := by decide +kernel
theorem dX17_in_8 : decode cX17_in 8 = .ok (.getfield 7, 3) := by decide +kernel
theorem dX17_in_11 : decode cX17_in 11 = .ok (.goto 12, 3) := by decide +kernel
theorem dX17_in_14 : decode cX17_in 14 = .ok (.aload_n 1, 1) := by decide +kernel
theorem dX17_in_15 : decode cX17_in 15 = .ok (.getfield 17, 3) := by decide +kernel
theorem dX17_in_18 : decode cX17_in 18 = .ok (.aload_n 0, 1) := by decide +kernel
theorem dX17_in_19 : decode cX17_in 19 = .ok (.getfield 13, 3) := by decide +kernel
theorem dX17_in_22 : decode cX17_in 22 = .ok (.aaload, 1) := by decide +kernel
theorem dX17_in_23 : decode cX17_in 23 = .ok (.areturn, 1) := by decide +kernel
abbrev cX18_init : ByteArray := prog_5_method_1_code
def yX18_init : MethodName := ⟨"TripleStore$Comparison", "<init>", "(LTripleStore$Side;CLTripleStore$Side;)V"⟩
theorem dX18_init_0 : decode cX18_init 0 = .ok (.aload_n 0, 1) := by decide +kernel
theorem dX18_init_1 : decode cX18_init 1 = .ok (.invokespecial 1, 3) := by decide +kernel
theorem dX18_init_4 : decode cX18_init 4 = .ok (.aload_n 0, 1) := by decide +kernel
theorem dX18_init_5 : decode cX18_init 5 = .ok (.aload_n 1, 1) := by decide +kernel
theorem dX18_init_6 : decode cX18_init 6 = .ok (.putfield 7, 3) := by decide +kernel
theorem dX18_init_9 : decode cX18_init 9 = .ok (.aload_n 0, 1) := by decide +kernel
theorem dX18_init_10 : decode cX18_init 10 = .ok (.iload_n 2, 1) := by decide +kernel
theorem dX18_init_11 : decode cX18_init 11 = .ok (.putfield 13, 3) := by decide +kernel
theorem dX18_init_14 : decode cX18_init 14 = .ok (.aload_n 0, 1) := by decide +kernel
theorem dX18_init_15 : decode cX18_init 15 = .ok (.aload_n 3, 1) := by decide +kernel
theorem dX18_init_16 : decode cX18_init 16 = .ok (.putfield 17, 3) := by decide +kernel
theorem dX18_init_19 : decode cX18_init 19 = .ok (.return_, 1) := by decide +kernel
abbrev cX18_holds : ByteArray := prog_5_method_2_code
def yX18_holds : MethodName := ⟨"TripleStore$Comparison", "holds", "(LTripleStore$Solution;)Z"⟩
theorem dX18_holds_0 : decode cX18_holds 0 = .ok (.aload_n 0, 1) := by decide +kernel
theorem dX18_holds_1 : decode cX18_holds 1 = .ok (.getfield 7, 3) := by decide +kernel
theorem dX18_holds_4 : decode cX18_holds 4 = .ok (.aload_n 1, 1) := by decide +kernel
theorem dX18_holds_5 : decode cX18_holds 5 = .ok (.invokevirtual 20, 3) := by decide +kernel
theorem dX18_holds_8 : decode cX18_holds 8 = .ok (.astore_n 2, 1) := by decide +kernel
theorem dX18_holds_9 : decode cX18_holds 9 = .ok (.aload_n 0, 1) := by decide +kernel
theorem dX18_holds_10 : decode cX18_holds 10 = .ok (.getfield 17, 3) := by decide +kernel
theorem dX18_holds_13 : decode cX18_holds 13 = .ok (.aload_n 1, 1) := by decide +kernel
theorem dX18_holds_14 : decode cX18_holds 14 = .ok (.invokevirtual 20, 3) := by decide +kernel
theorem dX18_holds_17 : decode cX18_holds 17 = .ok (.astore_n 3, 1) := by decide +kernel
theorem dX18_holds_18 : decode cX18_holds 18 = .ok (.aload_n 2, 1) := by decide +kernel
theorem dX18_holds_19 : decode cX18_holds 19 = .ok (.ifnull 7, 3) := by decide +kernel
theorem dX18_holds_22 : decode cX18_holds 22 = .ok (.aload_n 3, 1) := by decide +kernel
theorem dX18_holds_23 : decode cX18_holds 23 = .ok (.ifnonnull 5, 3) := by decide +kernel
theorem dX18_holds_26 : decode cX18_holds 26 = .ok (.iconst 0, 1) := by decide +kernel
theorem dX18_holds_27 : decode cX18_holds 27 = .ok (.ireturn, 1) := by decide +kernel
theorem dX18_holds_28 : decode cX18_holds 28 = .ok (.aload_n 0, 1) := by decide +kernel
theorem dX18_holds_29 : decode cX18_holds 29 = .ok (.getfield 13, 3) := by decide +kernel
theorem dX18_holds_32 : decode cX18_holds 32 = .ok (.lookupswitch 62 #[(33, 42), (60, 56), (61, 36)], 36) := by decide +kernel
theorem dX18_holds_68 : decode cX18_holds 68 = .ok (.aload_n 2, 1) := by decide +kernel
theorem dX18_holds_69 : decode cX18_holds 69 = .ok (.aload_n 3, 1) := by decide +kernel
theorem dX18_holds_70 : decode cX18_holds 70 = .ok (.invokevirtual 26, 3) := by decide +kernel
theorem dX18_holds_73 : decode cX18_holds 73 = .ok (.ireturn, 1) := by decide +kernel
theorem dX18_holds_74 : decode cX18_holds 74 = .ok (.aload_n 2, 1) := by decide +kernel
theorem dX18_holds_75 : decode cX18_holds 75 = .ok (.aload_n 3, 1) := by decide +kernel
theorem dX18_holds_76 : decode cX18_holds 76 = .ok (.invokevirtual 26, 3) := by decide +kernel
theorem dX18_holds_79 : decode cX18_holds 79 = .ok (.ifCond .ne 7, 3) := by decide +kernel
theorem dX18_holds_82 : decode cX18_holds 82 = .ok (.iconst 1, 1) := by decide +kernel
theorem dX18_holds_83 : decode cX18_holds 83 = .ok (.goto 4, 3) := by decide +kernel
theorem dX18_holds_86 : decode cX18_holds 86 = .ok (.iconst 0, 1) := by decide +kernel
theorem dX18_holds_87 : decode cX18_holds 87 = .ok (.ireturn, 1) := by decide +kernel
theorem dX18_holds_88 : decode cX18_holds 88 = .ok (.aload_n 2, 1) := by decide +kernel
theorem dX18_holds_89 : decode cX18_holds 89 = .ok (.aload_n 3, 1) := by decide +kernel
theorem dX18_holds_90 : decode cX18_holds 90 = .ok (.invokevirtual 32, 3) := by decide +kernel
theorem dX18_holds_93 : decode cX18_holds 93 = .ok (.ireturn, 1) := by decide +kernel
theorem dX18_holds_94 : decode cX18_holds 94 = .ok (.aload_n 3, 1) := by decide +kernel
theorem dX18_holds_95 : decode cX18_holds 95 = .ok (.aload_n 2, 1) := by decide +kernel
theorem dX18_holds_96 : decode cX18_holds 96 = .ok (.invokevirtual 32, 3) := by decide +kernel
theorem dX18_holds_99 : decode cX18_holds 99 = .ok (.ireturn, 1) := by decide +kernel
abbrev cX19_init : ByteArray := prog_13_method_1_code
def yX19_init : MethodName := ⟨"TripleStore$Optional", "<init>", "(LTripleStore$Group;)V"⟩
theorem dX19_init_0 : decode cX19_init 0 = .ok (.aload_n 0, 1) := by decide +kernel
theorem dX19_init_1 : decode cX19_init 1 = .ok (.invokespecial 1, 3) := by decide +kernel
theorem dX19_init_4 : decode cX19_init 4 = .ok (.aload_n 0, 1) := by decide +kernel
theorem dX19_init_5 : decode cX19_init 5 = .ok (.aload_n 1, 1) := by decide +kernel
theorem dX19_init_6 : decode cX19_init 6 = .ok (.putfield 7, 3) := by decide +kernel
theorem dX19_init_9 : decode cX19_init 9 = .ok (.return_, 1) := by decide +kernel
abbrev cX19_apply : ByteArray := prog_13_method_2_code
def yX19_apply : MethodName := ⟨"TripleStore$Optional", "apply", "(LTripleStore$Found;LTripleStore;)LTripleStore$Found;"⟩
theorem dX19_apply_0 : decode cX19_apply 0 = .ok (.aload_n 0, 1) := by decide +kernel
theorem dX19_apply_1 : decode cX19_apply 1 = .ok (.getfield 7, 3) := by decide +kernel
theorem dX19_apply_4 : decode cX19_apply 4 = .ok (.aload_n 2, 1) := by decide +kernel
theorem dX19_apply_5 : decode cX19_apply 5 = .ok (.invokevirtual 13, 3) := by decide +kernel
theorem dX19_apply_8 : decode cX19_apply 8 = .ok (.astore_n 3, 1) := by decide +kernel
theorem dX19_apply_9 : decode cX19_apply 9 = .ok (.new 19, 3) := by decide +kernel
theorem dX19_apply_12 : decode cX19_apply 12 = .ok (.dup, 1) := by decide +kernel
theorem dX19_apply_13 : decode cX19_apply 13 = .ok (.invokespecial 21, 3) := by decide +kernel
theorem dX19_apply_16 : decode cX19_apply 16 = .ok (.astore 4, 2) := by decide +kernel
theorem dX19_apply_18 : decode cX19_apply 18 = .ok (.iconst 0, 1) := by decide +kernel
theorem dX19_apply_19 : decode cX19_apply 19 = .ok (.istore 5, 2) := by decide +kernel
theorem dX19_apply_21 : decode cX19_apply 21 = .ok (.iload 5, 2) := by decide +kernel
theorem dX19_apply_23 : decode cX19_apply 23 = .ok (.aload_n 1, 1) := by decide +kernel
theorem dX19_apply_24 : decode cX19_apply 24 = .ok (.getfield 22, 3) := by decide +kernel
theorem dX19_apply_27 : decode cX19_apply 27 = .ok (.if_icmp .ge 95, 3) := by decide +kernel
theorem dX19_apply_30 : decode cX19_apply 30 = .ok (.iconst 0, 1) := by decide +kernel
theorem dX19_apply_31 : decode cX19_apply 31 = .ok (.istore 6, 2) := by decide +kernel
theorem dX19_apply_33 : decode cX19_apply 33 = .ok (.iconst 0, 1) := by decide +kernel
theorem dX19_apply_34 : decode cX19_apply 34 = .ok (.istore 7, 2) := by decide +kernel
theorem dX19_apply_36 : decode cX19_apply 36 = .ok (.iload 7, 2) := by decide +kernel
theorem dX19_apply_38 : decode cX19_apply 38 = .ok (.aload_n 3, 1) := by decide +kernel
theorem dX19_apply_39 : decode cX19_apply 39 = .ok (.getfield 22, 3) := by decide +kernel
theorem dX19_apply_42 : decode cX19_apply 42 = .ok (.if_icmp .ge 57, 3) := by decide +kernel
theorem dX19_apply_45 : decode cX19_apply 45 = .ok (.aload_n 1, 1) := by decide +kernel
theorem dX19_apply_46 : decode cX19_apply 46 = .ok (.getfield 26, 3) := by decide +kernel
theorem dX19_apply_49 : decode cX19_apply 49 = .ok (.iload 5, 2) := by decide +kernel
theorem dX19_apply_51 : decode cX19_apply 51 = .ok (.aaload, 1) := by decide +kernel
theorem dX19_apply_52 : decode cX19_apply 52 = .ok (.aload_n 3, 1) := by decide +kernel
theorem dX19_apply_53 : decode cX19_apply 53 = .ok (.getfield 26, 3) := by decide +kernel
theorem dX19_apply_56 : decode cX19_apply 56 = .ok (.iload 7, 2) := by decide +kernel
theorem dX19_apply_58 : decode cX19_apply 58 = .ok (.aaload, 1) := by decide +kernel
theorem dX19_apply_59 : decode cX19_apply 59 = .ok (.invokevirtual 30, 3) := by decide +kernel
theorem dX19_apply_62 : decode cX19_apply 62 = .ok (.ifCond .ne 6, 3) := by decide +kernel
theorem dX19_apply_65 : decode cX19_apply 65 = .ok (.goto 28, 3) := by decide +kernel
theorem dX19_apply_68 : decode cX19_apply 68 = .ok (.aload 4, 2) := by decide +kernel
theorem dX19_apply_70 : decode cX19_apply 70 = .ok (.aload_n 1, 1) := by decide +kernel
theorem dX19_apply_71 : decode cX19_apply 71 = .ok (.getfield 26, 3) := by decide +kernel
theorem dX19_apply_74 : decode cX19_apply 74 = .ok (.iload 5, 2) := by decide +kernel
theorem dX19_apply_76 : decode cX19_apply 76 = .ok (.aaload, 1) := by decide +kernel
theorem dX19_apply_77 : decode cX19_apply 77 = .ok (.aload_n 3, 1) := by decide +kernel
theorem dX19_apply_78 : decode cX19_apply 78 = .ok (.getfield 26, 3) := by decide +kernel
theorem dX19_apply_81 : decode cX19_apply 81 = .ok (.iload 7, 2) := by decide +kernel
theorem dX19_apply_83 : decode cX19_apply 83 = .ok (.aaload, 1) := by decide +kernel
theorem dX19_apply_84 : decode cX19_apply 84 = .ok (.invokevirtual 36, 3) := by decide +kernel
theorem dX19_apply_87 : decode cX19_apply 87 = .ok (.invokevirtual 40, 3) := by decide +kernel
theorem dX19_apply_90 : decode cX19_apply 90 = .ok (.iconst 1, 1) := by decide +kernel
theorem dX19_apply_91 : decode cX19_apply 91 = .ok (.istore 6, 2) := by decide +kernel
theorem dX19_apply_93 : decode cX19_apply 93 = .ok (.iinc 7 1, 3) := by decide +kernel
theorem dX19_apply_96 : decode cX19_apply 96 = .ok (.goto (-60), 3) := by decide +kernel
theorem dX19_apply_99 : decode cX19_apply 99 = .ok (.iload 6, 2) := by decide +kernel
theorem dX19_apply_101 : decode cX19_apply 101 = .ok (.ifCond .ne 15, 3) := by decide +kernel
theorem dX19_apply_104 : decode cX19_apply 104 = .ok (.aload 4, 2) := by decide +kernel
theorem dX19_apply_106 : decode cX19_apply 106 = .ok (.aload_n 1, 1) := by decide +kernel
theorem dX19_apply_107 : decode cX19_apply 107 = .ok (.getfield 26, 3) := by decide +kernel
theorem dX19_apply_110 : decode cX19_apply 110 = .ok (.iload 5, 2) := by decide +kernel
theorem dX19_apply_112 : decode cX19_apply 112 = .ok (.aaload, 1) := by decide +kernel
theorem dX19_apply_113 : decode cX19_apply 113 = .ok (.invokevirtual 40, 3) := by decide +kernel
theorem dX19_apply_116 : decode cX19_apply 116 = .ok (.iinc 5 1, 3) := by decide +kernel
theorem dX19_apply_119 : decode cX19_apply 119 = .ok (.goto (-98), 3) := by decide +kernel
theorem dX19_apply_122 : decode cX19_apply 122 = .ok (.aload 4, 2) := by decide +kernel
theorem dX19_apply_124 : decode cX19_apply 124 = .ok (.areturn, 1) := by decide +kernel
abbrev cX20_init : ByteArray := prog_10_method_1_code
def yX20_init : MethodName := ⟨"TripleStore$Minus", "<init>", "(LTripleStore$Group;)V"⟩
theorem dX20_init_0 : decode cX20_init 0 = .ok (.aload_n 0, 1) := by decide +kernel
theorem dX20_init_1 : decode cX20_init 1 = .ok (.invokespecial 1, 3) := by decide +kernel
theorem dX20_init_4 : decode cX20_init 4 = .ok (.aload_n 0, 1) := by decide +kernel
theorem dX20_init_5 : decode cX20_init 5 = .ok (.aload_n 1, 1) := by decide +kernel
theorem dX20_init_6 : decode cX20_init 6 = .ok (.putfield 7, 3) := by decide +kernel
theorem dX20_init_9 : decode cX20_init 9 = .ok (.return_, 1) := by decide +kernel
abbrev cX20_apply : ByteArray := prog_10_method_3_code
def yX20_apply : MethodName := ⟨"TripleStore$Minus", "apply", "(LTripleStore$Found;LTripleStore;)LTripleStore$Found;"⟩
theorem dX20_apply_0 : decode cX20_apply 0 = .ok (.aload_n 0, 1) := by decide +kernel
theorem dX20_apply_1 : decode cX20_apply 1 = .ok (.getfield 7, 3) := by decide +kernel
theorem dX20_apply_4 : decode cX20_apply 4 = .ok (.aload_n 2, 1) := by decide +kernel
theorem dX20_apply_5 : decode cX20_apply 5 = .ok (.invokevirtual 32, 3) := by decide +kernel
theorem dX20_apply_8 : decode cX20_apply 8 = .ok (.astore_n 3, 1) := by decide +kernel
theorem dX20_apply_9 : decode cX20_apply 9 = .ok (.new 14, 3) := by decide +kernel
theorem dX20_apply_12 : decode cX20_apply 12 = .ok (.dup, 1) := by decide +kernel
theorem dX20_apply_13 : decode cX20_apply 13 = .ok (.invokespecial 38, 3) := by decide +kernel
theorem dX20_apply_16 : decode cX20_apply 16 = .ok (.astore 4, 2) := by decide +kernel
theorem dX20_apply_18 : decode cX20_apply 18 = .ok (.iconst 0, 1) := by decide +kernel
theorem dX20_apply_19 : decode cX20_apply 19 = .ok (.istore 5, 2) := by decide +kernel
theorem dX20_apply_21 : decode cX20_apply 21 = .ok (.iload 5, 2) := by decide +kernel
theorem dX20_apply_23 : decode cX20_apply 23 = .ok (.aload_n 1, 1) := by decide +kernel
theorem dX20_apply_24 : decode cX20_apply 24 = .ok (.getfield 13, 3) := by decide +kernel
theorem dX20_apply_27 : decode cX20_apply 27 = .ok (.if_icmp .ge 35, 3) := by decide +kernel
theorem dX20_apply_30 : decode cX20_apply 30 = .ok (.aload_n 1, 1) := by decide +kernel
theorem dX20_apply_31 : decode cX20_apply 31 = .ok (.getfield 19, 3) := by decide +kernel
theorem dX20_apply_34 : decode cX20_apply 34 = .ok (.iload 5, 2) := by decide +kernel
theorem dX20_apply_36 : decode cX20_apply 36 = .ok (.aaload, 1) := by decide +kernel
theorem dX20_apply_37 : decode cX20_apply 37 = .ok (.aload_n 3, 1) := by decide +kernel
theorem dX20_apply_38 : decode cX20_apply 38 = .ok (.invokestatic 39, 3) := by decide +kernel
theorem dX20_apply_41 : decode cX20_apply 41 = .ok (.ifCond .ne 15, 3) := by decide +kernel
theorem dX20_apply_44 : decode cX20_apply 44 = .ok (.aload 4, 2) := by decide +kernel
theorem dX20_apply_46 : decode cX20_apply 46 = .ok (.aload_n 1, 1) := by decide +kernel
theorem dX20_apply_47 : decode cX20_apply 47 = .ok (.getfield 19, 3) := by decide +kernel
theorem dX20_apply_50 : decode cX20_apply 50 = .ok (.iload 5, 2) := by decide +kernel
theorem dX20_apply_52 : decode cX20_apply 52 = .ok (.aaload, 1) := by decide +kernel
theorem dX20_apply_53 : decode cX20_apply 53 = .ok (.invokevirtual 43, 3) := by decide +kernel
theorem dX20_apply_56 : decode cX20_apply 56 = .ok (.iinc 5 1, 3) := by decide +kernel
theorem dX20_apply_59 : decode cX20_apply 59 = .ok (.goto (-38), 3) := by decide +kernel
theorem dX20_apply_62 : decode cX20_apply 62 = .ok (.aload 4, 2) := by decide +kernel
theorem dX20_apply_64 : decode cX20_apply 64 = .ok (.areturn, 1) := by decide +kernel
abbrev cX20_excluded : ByteArray := prog_10_method_2_code
def yX20_excluded : MethodName := ⟨"TripleStore$Minus", "excluded", "(LTripleStore$Solution;LTripleStore$Found;)Z"⟩
theorem dX20_excluded_0 : decode cX20_excluded 0 = .ok (.iconst 0, 1) := by decide +kernel
theorem dX20_excluded_1 : decode cX20_excluded 1 = .ok (.istore_n 2, 1) := by decide +kernel
theorem dX20_excluded_2 : decode cX20_excluded 2 = .ok (.iload_n 2, 1) := by decide +kernel
theorem dX20_excluded_3 : decode cX20_excluded 3 = .ok (.aload_n 1, 1) := by decide +kernel
theorem dX20_excluded_4 : decode cX20_excluded 4 = .ok (.getfield 13, 3) := by decide +kernel
theorem dX20_excluded_7 : decode cX20_excluded 7 = .ok (.if_icmp .ge 37, 3) := by decide +kernel
theorem dX20_excluded_10 : decode cX20_excluded 10 = .ok (.aload_n 0, 1) := by decide +kernel
theorem dX20_excluded_11 : decode cX20_excluded 11 = .ok (.aload_n 1, 1) := by decide +kernel
theorem dX20_excluded_12 : decode cX20_excluded 12 = .ok (.getfield 19, 3) := by decide +kernel
theorem dX20_excluded_15 : decode cX20_excluded 15 = .ok (.iload_n 2, 1) := by decide +kernel
theorem dX20_excluded_16 : decode cX20_excluded 16 = .ok (.aaload, 1) := by decide +kernel
theorem dX20_excluded_17 : decode cX20_excluded 17 = .ok (.invokevirtual 23, 3) := by decide +kernel
theorem dX20_excluded_20 : decode cX20_excluded 20 = .ok (.ifCond .eq 18, 3) := by decide +kernel
theorem dX20_excluded_23 : decode cX20_excluded 23 = .ok (.aload_n 0, 1) := by decide +kernel
theorem dX20_excluded_24 : decode cX20_excluded 24 = .ok (.aload_n 1, 1) := by decide +kernel
theorem dX20_excluded_25 : decode cX20_excluded 25 = .ok (.getfield 19, 3) := by decide +kernel
theorem dX20_excluded_28 : decode cX20_excluded 28 = .ok (.iload_n 2, 1) := by decide +kernel
theorem dX20_excluded_29 : decode cX20_excluded 29 = .ok (.aaload, 1) := by decide +kernel
theorem dX20_excluded_30 : decode cX20_excluded 30 = .ok (.invokevirtual 29, 3) := by decide +kernel
theorem dX20_excluded_33 : decode cX20_excluded 33 = .ok (.ifCond .eq 5, 3) := by decide +kernel
theorem dX20_excluded_36 : decode cX20_excluded 36 = .ok (.iconst 1, 1) := by decide +kernel
theorem dX20_excluded_37 : decode cX20_excluded 37 = .ok (.ireturn, 1) := by decide +kernel
theorem dX20_excluded_38 : decode cX20_excluded 38 = .ok (.iinc 2 1, 3) := by decide +kernel
theorem dX20_excluded_41 : decode cX20_excluded 41 = .ok (.goto (-39), 3) := by decide +kernel
theorem dX20_excluded_44 : decode cX20_excluded 44 = .ok (.iconst 0, 1) := by decide +kernel
theorem dX20_excluded_45 : decode cX20_excluded 45 = .ok (.ireturn, 1) := by decide +kernel
abbrev cX21_init : ByteArray := prog_23_method_1_code
def yX21_init : MethodName := ⟨"TripleStore$Union", "<init>", "()V"⟩
theorem dX21_init_0 : decode cX21_init 0 = .ok (.aload_n 0, 1) := by decide +kernel
theorem dX21_init_1 : decode cX21_init 1 = .ok (.invokespecial 1, 3) := by decide +kernel
theorem dX21_init_4 : decode cX21_init 4 = .ok (.aload_n 0, 1) := by decide +kernel
theorem dX21_init_5 : decode cX21_init 5 = .ok (.bipush 12, 2) := by decide +kernel
theorem dX21_init_7 : decode cX21_init 7 = .ok (.anewarray 7, 3) := by decide +kernel
theorem dX21_init_10 : decode cX21_init 10 = .ok (.putfield 9, 3) := by decide +kernel
theorem dX21_init_13 : decode cX21_init 13 = .ok (.return_, 1) := by decide +kernel
abbrev cX21_add : ByteArray := prog_23_method_2_code
def yX21_add : MethodName := ⟨"TripleStore$Union", "add", "(LTripleStore$Group;)V"⟩
theorem dX21_add_0 : decode cX21_add 0 = .ok (.aload_n 0, 1) := by decide +kernel
theorem dX21_add_1 : decode cX21_add 1 = .ok (.getfield 9, 3) := by decide +kernel
theorem dX21_add_4 : decode cX21_add 4 = .ok (.aload_n 0, 1) := by decide +kernel
theorem dX21_add_5 : decode cX21_add 5 = .ok (.getfield 15, 3) := by decide +kernel
theorem dX21_add_8 : decode cX21_add 8 = .ok (.aload_n 1, 1) := by decide +kernel
theorem dX21_add_9 : decode cX21_add 9 = .ok (.aastore, 1) := by decide +kernel
theorem dX21_add_10 : decode cX21_add 10 = .ok (.aload_n 0, 1) := by decide +kernel
theorem dX21_add_11 : decode cX21_add 11 = .ok (.dup, 1) := by decide +kernel
theorem dX21_add_12 : decode cX21_add 12 = .ok (.getfield 15, 3) := by decide +kernel
theorem dX21_add_15 : decode cX21_add 15 = .ok (.iconst 1, 1) := by decide +kernel
theorem dX21_add_16 : decode cX21_add 16 = .ok (.iadd, 1) := by decide +kernel
theorem dX21_add_17 : decode cX21_add 17 = .ok (.putfield 15, 3) := by decide +kernel
theorem dX21_add_20 : decode cX21_add 20 = .ok (.return_, 1) := by decide +kernel
abbrev cX21_apply : ByteArray := prog_23_method_3_code
def yX21_apply : MethodName := ⟨"TripleStore$Union", "apply", "(LTripleStore$Found;LTripleStore;)LTripleStore$Found;"⟩
theorem dX21_apply_0 : decode cX21_apply 0 = .ok (.new 19, 3) := by decide +kernel
theorem dX21_apply_3 : decode cX21_apply 3 = .ok (.dup, 1) := by decide +kernel
theorem dX21_apply_4 : decode cX21_apply 4 = .ok (.invokespecial 21, 3) := by decide +kernel
theorem dX21_apply_7 : decode cX21_apply 7 = .ok (.astore_n 3, 1) := by decide +kernel
theorem dX21_apply_8 : decode cX21_apply 8 = .ok (.iconst 0, 1) := by decide +kernel
theorem dX21_apply_9 : decode cX21_apply 9 = .ok (.istore 4, 2) := by decide +kernel
theorem dX21_apply_11 : decode cX21_apply 11 = .ok (.iload 4, 2) := by decide +kernel
theorem dX21_apply_13 : decode cX21_apply 13 = .ok (.aload_n 0, 1) := by decide +kernel
theorem dX21_apply_14 : decode cX21_apply 14 = .ok (.getfield 15, 3) := by decide +kernel
theorem dX21_apply_17 : decode cX21_apply 17 = .ok (.if_icmp .ge 53, 3) := by decide +kernel
theorem dX21_apply_20 : decode cX21_apply 20 = .ok (.aload_n 0, 1) := by decide +kernel
theorem dX21_apply_21 : decode cX21_apply 21 = .ok (.getfield 9, 3) := by decide +kernel
theorem dX21_apply_24 : decode cX21_apply 24 = .ok (.iload 4, 2) := by decide +kernel
theorem dX21_apply_26 : decode cX21_apply 26 = .ok (.aaload, 1) := by decide +kernel
theorem dX21_apply_27 : decode cX21_apply 27 = .ok (.aload_n 2, 1) := by decide +kernel
theorem dX21_apply_28 : decode cX21_apply 28 = .ok (.invokevirtual 22, 3) := by decide +kernel
theorem dX21_apply_31 : decode cX21_apply 31 = .ok (.astore 5, 2) := by decide +kernel
theorem dX21_apply_33 : decode cX21_apply 33 = .ok (.iconst 0, 1) := by decide +kernel
theorem dX21_apply_34 : decode cX21_apply 34 = .ok (.istore 6, 2) := by decide +kernel
theorem dX21_apply_36 : decode cX21_apply 36 = .ok (.iload 6, 2) := by decide +kernel
theorem dX21_apply_38 : decode cX21_apply 38 = .ok (.aload 5, 2) := by decide +kernel
theorem dX21_apply_40 : decode cX21_apply 40 = .ok (.getfield 26, 3) := by decide +kernel
theorem dX21_apply_43 : decode cX21_apply 43 = .ok (.if_icmp .ge 21, 3) := by decide +kernel
theorem dX21_apply_46 : decode cX21_apply 46 = .ok (.aload_n 3, 1) := by decide +kernel
theorem dX21_apply_47 : decode cX21_apply 47 = .ok (.aload 5, 2) := by decide +kernel
theorem dX21_apply_49 : decode cX21_apply 49 = .ok (.getfield 27, 3) := by decide +kernel
theorem dX21_apply_52 : decode cX21_apply 52 = .ok (.iload 6, 2) := by decide +kernel
theorem dX21_apply_54 : decode cX21_apply 54 = .ok (.aaload, 1) := by decide +kernel
theorem dX21_apply_55 : decode cX21_apply 55 = .ok (.invokevirtual 31, 3) := by decide +kernel
theorem dX21_apply_58 : decode cX21_apply 58 = .ok (.iinc 6 1, 3) := by decide +kernel
theorem dX21_apply_61 : decode cX21_apply 61 = .ok (.goto (-25), 3) := by decide +kernel
theorem dX21_apply_64 : decode cX21_apply 64 = .ok (.iinc 4 1, 3) := by decide +kernel
theorem dX21_apply_67 : decode cX21_apply 67 = .ok (.goto (-56), 3) := by decide +kernel
theorem dX21_apply_70 : decode cX21_apply 70 = .ok (.aload_n 1, 1) := by decide +kernel
theorem dX21_apply_71 : decode cX21_apply 71 = .ok (.aload_n 3, 1) := by decide +kernel
theorem dX21_apply_72 : decode cX21_apply 72 = .ok (.invokevirtual 35, 3) := by decide +kernel
theorem dX21_apply_75 : decode cX21_apply 75 = .ok (.areturn, 1) := by decide +kernel
abbrev cX22_init : ByteArray := prog_14_method_1_code
def yX22_init : MethodName := ⟨"TripleStore$Pattern", "<init>", "([LTripleStore$Side;)V"⟩
theorem dX22_init_0 : decode cX22_init 0 = .ok (.aload_n 0, 1) := by decide +kernel
theorem dX22_init_1 : decode cX22_init 1 = .ok (.invokespecial 1, 3) := by decide +kernel
theorem dX22_init_4 : decode cX22_init 4 = .ok (.aload_n 0, 1) := by decide +kernel
theorem dX22_init_5 : decode cX22_init 5 = .ok (.aload_n 1, 1) := by decide +kernel
theorem dX22_init_6 : decode cX22_init 6 = .ok (.putfield 7, 3) := by decide +kernel
theorem dX22_init_9 : decode cX22_init 9 = .ok (.return_, 1) := by decide +kernel
abbrev cX22_apply : ByteArray := prog_14_method_3_code
def yX22_apply : MethodName := ⟨"TripleStore$Pattern", "apply", "(LTripleStore$Found;LTripleStore;)LTripleStore$Found;"⟩
theorem dX22_apply_0 : decode cX22_apply 0 = .ok (.new 45, 3) := by decide +kernel
theorem dX22_apply_3 : decode cX22_apply 3 = .ok (.dup, 1) := by decide +kernel
theorem dX22_apply_4 : decode cX22_apply 4 = .ok (.invokespecial 47, 3) := by decide +kernel
theorem dX22_apply_7 : decode cX22_apply 7 = .ok (.astore_n 3, 1) := by decide +kernel
theorem dX22_apply_8 : decode cX22_apply 8 = .ok (.iconst 0, 1) := by decide +kernel
theorem dX22_apply_9 : decode cX22_apply 9 = .ok (.istore 4, 2) := by decide +kernel
theorem dX22_apply_11 : decode cX22_apply 11 = .ok (.iload 4, 2) := by decide +kernel
theorem dX22_apply_13 : decode cX22_apply 13 = .ok (.aload_n 2, 1) := by decide +kernel
theorem dX22_apply_14 : decode cX22_apply 14 = .ok (.getfield 48, 3) := by decide +kernel
theorem dX22_apply_17 : decode cX22_apply 17 = .ok (.if_icmp .ge 33, 3) := by decide +kernel
theorem dX22_apply_20 : decode cX22_apply 20 = .ok (.aload_n 0, 1) := by decide +kernel
theorem dX22_apply_21 : decode cX22_apply 21 = .ok (.aload_n 2, 1) := by decide +kernel
theorem dX22_apply_22 : decode cX22_apply 22 = .ok (.getfield 53, 3) := by decide +kernel
theorem dX22_apply_25 : decode cX22_apply 25 = .ok (.iload 4, 2) := by decide +kernel
theorem dX22_apply_27 : decode cX22_apply 27 = .ok (.aaload, 1) := by decide +kernel
theorem dX22_apply_28 : decode cX22_apply 28 = .ok (.invokevirtual 57, 3) := by decide +kernel
theorem dX22_apply_31 : decode cX22_apply 31 = .ok (.astore 5, 2) := by decide +kernel
theorem dX22_apply_33 : decode cX22_apply 33 = .ok (.aload 5, 2) := by decide +kernel
theorem dX22_apply_35 : decode cX22_apply 35 = .ok (.ifnull 9, 3) := by decide +kernel
theorem dX22_apply_38 : decode cX22_apply 38 = .ok (.aload_n 3, 1) := by decide +kernel
theorem dX22_apply_39 : decode cX22_apply 39 = .ok (.aload 5, 2) := by decide +kernel
theorem dX22_apply_41 : decode cX22_apply 41 = .ok (.invokevirtual 61, 3) := by decide +kernel
theorem dX22_apply_44 : decode cX22_apply 44 = .ok (.iinc 4 1, 3) := by decide +kernel
theorem dX22_apply_47 : decode cX22_apply 47 = .ok (.goto (-36), 3) := by decide +kernel
theorem dX22_apply_50 : decode cX22_apply 50 = .ok (.aload_n 1, 1) := by decide +kernel
theorem dX22_apply_51 : decode cX22_apply 51 = .ok (.aload_n 3, 1) := by decide +kernel
theorem dX22_apply_52 : decode cX22_apply 52 = .ok (.invokevirtual 65, 3) := by decide +kernel
theorem dX22_apply_55 : decode cX22_apply 55 = .ok (.areturn, 1) := by decide +kernel
abbrev cX22_match : ByteArray := prog_14_method_2_code
def yX22_match : MethodName := ⟨"TripleStore$Pattern", "match", "(LTripleStore$Triple;)LTripleStore$Solution;"⟩
theorem dX22_match_0 : decode cX22_match 0 = .ok (.new 13, 3) := by decide +kernel
theorem dX22_match_3 : decode cX22_match 3 = .ok (.dup, 1) := by decide +kernel
theorem dX22_match_4 : decode cX22_match 4 = .ok (.invokespecial 15, 3) := by decide +kernel
theorem dX22_match_7 : decode cX22_match 7 = .ok (.astore_n 2, 1) := by decide +kernel
theorem dX22_match_8 : decode cX22_match 8 = .ok (.iconst 0, 1) := by decide +kernel
theorem dX22_match_9 : decode cX22_match 9 = .ok (.istore_n 3, 1) := by decide +kernel
theorem dX22_match_10 : decode cX22_match 10 = .ok (.iload_n 3, 1) := by decide +kernel
theorem dX22_match_11 : decode cX22_match 11 = .ok (.iconst 3, 1) := by decide +kernel
theorem dX22_match_12 : decode cX22_match 12 = .ok (.if_icmp .ge 74, 3) := by decide +kernel
theorem dX22_match_15 : decode cX22_match 15 = .ok (.aload_n 0, 1) := by decide +kernel
theorem dX22_match_16 : decode cX22_match 16 = .ok (.getfield 7, 3) := by decide +kernel
theorem dX22_match_19 : decode cX22_match 19 = .ok (.iload_n 3, 1) := by decide +kernel
theorem dX22_match_20 : decode cX22_match 20 = .ok (.aaload, 1) := by decide +kernel
theorem dX22_match_21 : decode cX22_match 21 = .ok (.aload_n 2, 1) := by decide +kernel
theorem dX22_match_22 : decode cX22_match 22 = .ok (.invokevirtual 16, 3) := by decide +kernel
theorem dX22_match_25 : decode cX22_match 25 = .ok (.astore 4, 2) := by decide +kernel
theorem dX22_match_27 : decode cX22_match 27 = .ok (.aload 4, 2) := by decide +kernel
theorem dX22_match_29 : decode cX22_match 29 = .ok (.ifnull 19, 3) := by decide +kernel
theorem dX22_match_32 : decode cX22_match 32 = .ok (.aload 4, 2) := by decide +kernel
theorem dX22_match_34 : decode cX22_match 34 = .ok (.aload_n 1, 1) := by decide +kernel
theorem dX22_match_35 : decode cX22_match 35 = .ok (.getfield 22, 3) := by decide +kernel
theorem dX22_match_38 : decode cX22_match 38 = .ok (.iload_n 3, 1) := by decide +kernel
theorem dX22_match_39 : decode cX22_match 39 = .ok (.aaload, 1) := by decide +kernel
theorem dX22_match_40 : decode cX22_match 40 = .ok (.invokevirtual 28, 3) := by decide +kernel
theorem dX22_match_43 : decode cX22_match 43 = .ok (.ifCond .ne 5, 3) := by decide +kernel
theorem dX22_match_46 : decode cX22_match 46 = .ok (.aconst_null, 1) := by decide +kernel
theorem dX22_match_47 : decode cX22_match 47 = .ok (.areturn, 1) := by decide +kernel
theorem dX22_match_48 : decode cX22_match 48 = .ok (.aload_n 0, 1) := by decide +kernel
theorem dX22_match_49 : decode cX22_match 49 = .ok (.getfield 7, 3) := by decide +kernel
theorem dX22_match_52 : decode cX22_match 52 = .ok (.iload_n 3, 1) := by decide +kernel
theorem dX22_match_53 : decode cX22_match 53 = .ok (.aaload, 1) := by decide +kernel
theorem dX22_match_54 : decode cX22_match 54 = .ok (.getfield 34, 3) := by decide +kernel
theorem dX22_match_57 : decode cX22_match 57 = .ok (.ifnonnull 23, 3) := by decide +kernel
theorem dX22_match_60 : decode cX22_match 60 = .ok (.aload_n 2, 1) := by decide +kernel
theorem dX22_match_61 : decode cX22_match 61 = .ok (.getfield 38, 3) := by decide +kernel
theorem dX22_match_64 : decode cX22_match 64 = .ok (.aload_n 0, 1) := by decide +kernel
theorem dX22_match_65 : decode cX22_match 65 = .ok (.getfield 7, 3) := by decide +kernel
theorem dX22_match_68 : decode cX22_match 68 = .ok (.iload_n 3, 1) := by decide +kernel
theorem dX22_match_69 : decode cX22_match 69 = .ok (.aaload, 1) := by decide +kernel
theorem dX22_match_70 : decode cX22_match 70 = .ok (.getfield 41, 3) := by decide +kernel
theorem dX22_match_73 : decode cX22_match 73 = .ok (.aload_n 1, 1) := by decide +kernel
theorem dX22_match_74 : decode cX22_match 74 = .ok (.getfield 22, 3) := by decide +kernel
theorem dX22_match_77 : decode cX22_match 77 = .ok (.iload_n 3, 1) := by decide +kernel
theorem dX22_match_78 : decode cX22_match 78 = .ok (.aaload, 1) := by decide +kernel
theorem dX22_match_79 : decode cX22_match 79 = .ok (.aastore, 1) := by decide +kernel
theorem dX22_match_80 : decode cX22_match 80 = .ok (.iinc 3 1, 3) := by decide +kernel
theorem dX22_match_83 : decode cX22_match 83 = .ok (.goto (-73), 3) := by decide +kernel
theorem dX22_match_86 : decode cX22_match 86 = .ok (.aload_n 2, 1) := by decide +kernel
theorem dX22_match_87 : decode cX22_match 87 = .ok (.areturn, 1) := by decide +kernel
abbrev cX23_init : ByteArray := prog_8_method_1_code
def yX23_init : MethodName := ⟨"TripleStore$Found", "<init>", "()V"⟩
theorem dX23_init_0 : decode cX23_init 0 = .ok (.aload_n 0, 1) := by decide +kernel
theorem dX23_init_1 : decode cX23_init 1 = .ok (.invokespecial 3, 3) := by decide +kernel
theorem dX23_init_4 : decode cX23_init 4 = .ok (.aload_n 0, 1) := by decide +kernel
theorem dX23_init_5 : decode cX23_init 5 = .ok (.sipush 150, 3) := by decide +kernel
theorem dX23_init_8 : decode cX23_init 8 = .ok (.anewarray 9, 3) := by decide +kernel
theorem dX23_init_11 : decode cX23_init 11 = .ok (.putfield 11, 3) := by decide +kernel
theorem dX23_init_14 : decode cX23_init 14 = .ok (.return_, 1) := by decide +kernel
abbrev cX23_add : ByteArray := prog_8_method_2_code
def yX23_add : MethodName := ⟨"TripleStore$Found", "add", "(LTripleStore$Solution;)V"⟩
theorem dX23_add_0 : decode cX23_add 0 = .ok (.aload_n 0, 1) := by decide +kernel
theorem dX23_add_1 : decode cX23_add 1 = .ok (.getfield 17, 3) := by decide +kernel
theorem dX23_add_4 : decode cX23_add 4 = .ok (.sipush 150, 3) := by decide +kernel
theorem dX23_add_7 : decode cX23_add 7 = .ok (.if_icmp .ne 11, 3) := by decide +kernel
theorem dX23_add_10 : decode cX23_add 10 = .ok (.new 21, 3) := by decide +kernel
theorem dX23_add_13 : decode cX23_add 13 = .ok (.dup, 1) := by decide +kernel
theorem dX23_add_14 : decode cX23_add 14 = .ok (.invokespecial 23, 3) := by decide +kernel
theorem dX23_add_17 : decode cX23_add 17 = .ok (.athrow, 1) := by decide +kernel
theorem dX23_add_18 : decode cX23_add 18 = .ok (.aload_n 0, 1) := by decide +kernel
theorem dX23_add_19 : decode cX23_add 19 = .ok (.getfield 11, 3) := by decide +kernel
theorem dX23_add_22 : decode cX23_add 22 = .ok (.aload_n 0, 1) := by decide +kernel
theorem dX23_add_23 : decode cX23_add 23 = .ok (.getfield 17, 3) := by decide +kernel
theorem dX23_add_26 : decode cX23_add 26 = .ok (.aload_n 1, 1) := by decide +kernel
theorem dX23_add_27 : decode cX23_add 27 = .ok (.aastore, 1) := by decide +kernel
theorem dX23_add_28 : decode cX23_add 28 = .ok (.aload_n 0, 1) := by decide +kernel
theorem dX23_add_29 : decode cX23_add 29 = .ok (.dup, 1) := by decide +kernel
theorem dX23_add_30 : decode cX23_add 30 = .ok (.getfield 17, 3) := by decide +kernel
theorem dX23_add_33 : decode cX23_add 33 = .ok (.iconst 1, 1) := by decide +kernel
theorem dX23_add_34 : decode cX23_add 34 = .ok (.iadd, 1) := by decide +kernel
theorem dX23_add_35 : decode cX23_add 35 = .ok (.putfield 17, 3) := by decide +kernel
theorem dX23_add_38 : decode cX23_add 38 = .ok (.return_, 1) := by decide +kernel
abbrev cX23_joined : ByteArray := prog_8_method_3_code
def yX23_joined : MethodName := ⟨"TripleStore$Found", "joined", "(LTripleStore$Found;)LTripleStore$Found;"⟩
theorem dX23_joined_0 : decode cX23_joined 0 = .ok (.new 12, 3) := by decide +kernel
theorem dX23_joined_3 : decode cX23_joined 3 = .ok (.dup, 1) := by decide +kernel
theorem dX23_joined_4 : decode cX23_joined 4 = .ok (.invokespecial 24, 3) := by decide +kernel
theorem dX23_joined_7 : decode cX23_joined 7 = .ok (.astore_n 2, 1) := by decide +kernel
theorem dX23_joined_8 : decode cX23_joined 8 = .ok (.iconst 0, 1) := by decide +kernel
theorem dX23_joined_9 : decode cX23_joined 9 = .ok (.istore_n 3, 1) := by decide +kernel
theorem dX23_joined_10 : decode cX23_joined 10 = .ok (.iload_n 3, 1) := by decide +kernel
theorem dX23_joined_11 : decode cX23_joined 11 = .ok (.aload_n 0, 1) := by decide +kernel
theorem dX23_joined_12 : decode cX23_joined 12 = .ok (.getfield 17, 3) := by decide +kernel
theorem dX23_joined_15 : decode cX23_joined 15 = .ok (.if_icmp .ge 66, 3) := by decide +kernel
theorem dX23_joined_18 : decode cX23_joined 18 = .ok (.iconst 0, 1) := by decide +kernel
theorem dX23_joined_19 : decode cX23_joined 19 = .ok (.istore 4, 2) := by decide +kernel
theorem dX23_joined_21 : decode cX23_joined 21 = .ok (.iload 4, 2) := by decide +kernel
theorem dX23_joined_23 : decode cX23_joined 23 = .ok (.aload_n 1, 1) := by decide +kernel
theorem dX23_joined_24 : decode cX23_joined 24 = .ok (.getfield 17, 3) := by decide +kernel
theorem dX23_joined_27 : decode cX23_joined 27 = .ok (.if_icmp .ge 48, 3) := by decide +kernel
theorem dX23_joined_30 : decode cX23_joined 30 = .ok (.aload_n 0, 1) := by decide +kernel
theorem dX23_joined_31 : decode cX23_joined 31 = .ok (.getfield 11, 3) := by decide +kernel
theorem dX23_joined_34 : decode cX23_joined 34 = .ok (.iload_n 3, 1) := by decide +kernel
theorem dX23_joined_35 : decode cX23_joined 35 = .ok (.aaload, 1) := by decide +kernel
theorem dX23_joined_36 : decode cX23_joined 36 = .ok (.aload_n 1, 1) := by decide +kernel
theorem dX23_joined_37 : decode cX23_joined 37 = .ok (.getfield 11, 3) := by decide +kernel
theorem dX23_joined_40 : decode cX23_joined 40 = .ok (.iload 4, 2) := by decide +kernel
theorem dX23_joined_42 : decode cX23_joined 42 = .ok (.aaload, 1) := by decide +kernel
theorem dX23_joined_43 : decode cX23_joined 43 = .ok (.invokevirtual 25, 3) := by decide +kernel
theorem dX23_joined_46 : decode cX23_joined 46 = .ok (.ifCond .eq 23, 3) := by decide +kernel
theorem dX23_joined_49 : decode cX23_joined 49 = .ok (.aload_n 2, 1) := by decide +kernel
theorem dX23_joined_50 : decode cX23_joined 50 = .ok (.aload_n 0, 1) := by decide +kernel
theorem dX23_joined_51 : decode cX23_joined 51 = .ok (.getfield 11, 3) := by decide +kernel
theorem dX23_joined_54 : decode cX23_joined 54 = .ok (.iload_n 3, 1) := by decide +kernel
theorem dX23_joined_55 : decode cX23_joined 55 = .ok (.aaload, 1) := by decide +kernel
theorem dX23_joined_56 : decode cX23_joined 56 = .ok (.aload_n 1, 1) := by decide +kernel
theorem dX23_joined_57 : decode cX23_joined 57 = .ok (.getfield 11, 3) := by decide +kernel
theorem dX23_joined_60 : decode cX23_joined 60 = .ok (.iload 4, 2) := by decide +kernel
theorem dX23_joined_62 : decode cX23_joined 62 = .ok (.aaload, 1) := by decide +kernel
theorem dX23_joined_63 : decode cX23_joined 63 = .ok (.invokevirtual 29, 3) := by decide +kernel
theorem dX23_joined_66 : decode cX23_joined 66 = .ok (.invokevirtual 33, 3) := by decide +kernel
theorem dX23_joined_69 : decode cX23_joined 69 = .ok (.iinc 4 1, 3) := by decide +kernel
theorem dX23_joined_72 : decode cX23_joined 72 = .ok (.goto (-51), 3) := by decide +kernel
theorem dX23_joined_75 : decode cX23_joined 75 = .ok (.iinc 3 1, 3) := by decide +kernel
theorem dX23_joined_78 : decode cX23_joined 78 = .ok (.goto (-68), 3) := by decide +kernel
theorem dX23_joined_81 : decode cX23_joined 81 = .ok (.aload_n 2, 1) := by decide +kernel
theorem dX23_joined_82 : decode cX23_joined 82 = .ok (.areturn, 1) := by decide +kernel
abbrev cX24_init : ByteArray := prog_19_method_1_code
def yX24_init : MethodName := ⟨"TripleStore$Solution", "<init>", "()V"⟩
theorem dX24_init_0 : decode cX24_init 0 = .ok (.aload_n 0, 1) := by decide +kernel
theorem dX24_init_1 : decode cX24_init 1 = .ok (.invokespecial 1, 3) := by decide +kernel
theorem dX24_init_4 : decode cX24_init 4 = .ok (.aload_n 0, 1) := by decide +kernel
theorem dX24_init_5 : decode cX24_init 5 = .ok (.bipush 6, 2) := by decide +kernel
theorem dX24_init_7 : decode cX24_init 7 = .ok (.anewarray 7, 3) := by decide +kernel
theorem dX24_init_10 : decode cX24_init 10 = .ok (.putfield 9, 3) := by decide +kernel
theorem dX24_init_13 : decode cX24_init 13 = .ok (.return_, 1) := by decide +kernel
abbrev cX24_compatible : ByteArray := prog_19_method_2_code
def yX24_compatible : MethodName := ⟨"TripleStore$Solution", "compatible", "(LTripleStore$Solution;)Z"⟩
theorem dX24_compatible_0 : decode cX24_compatible 0 = .ok (.iconst 0, 1) := by decide +kernel
theorem dX24_compatible_1 : decode cX24_compatible 1 = .ok (.istore_n 2, 1) := by decide +kernel
theorem dX24_compatible_2 : decode cX24_compatible 2 = .ok (.iload_n 2, 1) := by decide +kernel
theorem dX24_compatible_3 : decode cX24_compatible 3 = .ok (.bipush 6, 2) := by decide +kernel
theorem dX24_compatible_5 : decode cX24_compatible 5 = .ok (.if_icmp .ge 47, 3) := by decide +kernel
theorem dX24_compatible_8 : decode cX24_compatible 8 = .ok (.aload_n 0, 1) := by decide +kernel
theorem dX24_compatible_9 : decode cX24_compatible 9 = .ok (.getfield 9, 3) := by decide +kernel
theorem dX24_compatible_12 : decode cX24_compatible 12 = .ok (.iload_n 2, 1) := by decide +kernel
theorem dX24_compatible_13 : decode cX24_compatible 13 = .ok (.aaload, 1) := by decide +kernel
theorem dX24_compatible_14 : decode cX24_compatible 14 = .ok (.ifnull 32, 3) := by decide +kernel
theorem dX24_compatible_17 : decode cX24_compatible 17 = .ok (.aload_n 1, 1) := by decide +kernel
theorem dX24_compatible_18 : decode cX24_compatible 18 = .ok (.getfield 9, 3) := by decide +kernel
theorem dX24_compatible_21 : decode cX24_compatible 21 = .ok (.iload_n 2, 1) := by decide +kernel
theorem dX24_compatible_22 : decode cX24_compatible 22 = .ok (.aaload, 1) := by decide +kernel
theorem dX24_compatible_23 : decode cX24_compatible 23 = .ok (.ifnull 23, 3) := by decide +kernel
theorem dX24_compatible_26 : decode cX24_compatible 26 = .ok (.aload_n 0, 1) := by decide +kernel
theorem dX24_compatible_27 : decode cX24_compatible 27 = .ok (.getfield 9, 3) := by decide +kernel
theorem dX24_compatible_30 : decode cX24_compatible 30 = .ok (.iload_n 2, 1) := by decide +kernel
theorem dX24_compatible_31 : decode cX24_compatible 31 = .ok (.aaload, 1) := by decide +kernel
theorem dX24_compatible_32 : decode cX24_compatible 32 = .ok (.aload_n 1, 1) := by decide +kernel
theorem dX24_compatible_33 : decode cX24_compatible 33 = .ok (.getfield 9, 3) := by decide +kernel
theorem dX24_compatible_36 : decode cX24_compatible 36 = .ok (.iload_n 2, 1) := by decide +kernel
theorem dX24_compatible_37 : decode cX24_compatible 37 = .ok (.aaload, 1) := by decide +kernel
theorem dX24_compatible_38 : decode cX24_compatible 38 = .ok (.invokevirtual 15, 3) := by decide +kernel
theorem dX24_compatible_41 : decode cX24_compatible 41 = .ok (.ifCond .ne 5, 3) := by decide +kernel
theorem dX24_compatible_44 : decode cX24_compatible 44 = .ok (.iconst 0, 1) := by decide +kernel
theorem dX24_compatible_45 : decode cX24_compatible 45 = .ok (.ireturn, 1) := by decide +kernel
theorem dX24_compatible_46 : decode cX24_compatible 46 = .ok (.iinc 2 1, 3) := by decide +kernel
theorem dX24_compatible_49 : decode cX24_compatible 49 = .ok (.goto (-47), 3) := by decide +kernel
theorem dX24_compatible_52 : decode cX24_compatible 52 = .ok (.iconst 1, 1) := by decide +kernel
theorem dX24_compatible_53 : decode cX24_compatible 53 = .ok (.ireturn, 1) := by decide +kernel
abbrev cX24_shares : ByteArray := prog_19_method_3_code
def yX24_shares : MethodName := ⟨"TripleStore$Solution", "shares", "(LTripleStore$Solution;)Z"⟩
theorem dX24_shares_0 : decode cX24_shares 0 = .ok (.iconst 0, 1) := by decide +kernel
theorem dX24_shares_1 : decode cX24_shares 1 = .ok (.istore_n 2, 1) := by decide +kernel
theorem dX24_shares_2 : decode cX24_shares 2 = .ok (.iload_n 2, 1) := by decide +kernel
theorem dX24_shares_3 : decode cX24_shares 3 = .ok (.bipush 6, 2) := by decide +kernel
theorem dX24_shares_5 : decode cX24_shares 5 = .ok (.if_icmp .ge 29, 3) := by decide +kernel
theorem dX24_shares_8 : decode cX24_shares 8 = .ok (.aload_n 0, 1) := by decide +kernel
theorem dX24_shares_9 : decode cX24_shares 9 = .ok (.getfield 9, 3) := by decide +kernel
theorem dX24_shares_12 : decode cX24_shares 12 = .ok (.iload_n 2, 1) := by decide +kernel
theorem dX24_shares_13 : decode cX24_shares 13 = .ok (.aaload, 1) := by decide +kernel
theorem dX24_shares_14 : decode cX24_shares 14 = .ok (.ifnull 14, 3) := by decide +kernel
theorem dX24_shares_17 : decode cX24_shares 17 = .ok (.aload_n 1, 1) := by decide +kernel
theorem dX24_shares_18 : decode cX24_shares 18 = .ok (.getfield 9, 3) := by decide +kernel
theorem dX24_shares_21 : decode cX24_shares 21 = .ok (.iload_n 2, 1) := by decide +kernel
theorem dX24_shares_22 : decode cX24_shares 22 = .ok (.aaload, 1) := by decide +kernel
theorem dX24_shares_23 : decode cX24_shares 23 = .ok (.ifnull 5, 3) := by decide +kernel
theorem dX24_shares_26 : decode cX24_shares 26 = .ok (.iconst 1, 1) := by decide +kernel
theorem dX24_shares_27 : decode cX24_shares 27 = .ok (.ireturn, 1) := by decide +kernel
theorem dX24_shares_28 : decode cX24_shares 28 = .ok (.iinc 2 1, 3) := by decide +kernel
theorem dX24_shares_31 : decode cX24_shares 31 = .ok (.goto (-29), 3) := by decide +kernel
theorem dX24_shares_34 : decode cX24_shares 34 = .ok (.iconst 0, 1) := by decide +kernel
theorem dX24_shares_35 : decode cX24_shares 35 = .ok (.ireturn, 1) := by decide +kernel
abbrev cX24_join : ByteArray := prog_19_method_4_code
def yX24_join : MethodName := ⟨"TripleStore$Solution", "join", "(LTripleStore$Solution;)LTripleStore$Solution;"⟩
theorem dX24_join_0 : decode cX24_join 0 = .ok (.new 10, 3) := by decide +kernel
theorem dX24_join_3 : decode cX24_join 3 = .ok (.dup, 1) := by decide +kernel
theorem dX24_join_4 : decode cX24_join 4 = .ok (.invokespecial 19, 3) := by decide +kernel
theorem dX24_join_7 : decode cX24_join 7 = .ok (.astore_n 2, 1) := by decide +kernel
theorem dX24_join_8 : decode cX24_join 8 = .ok (.iconst 0, 1) := by decide +kernel
theorem dX24_join_9 : decode cX24_join 9 = .ok (.istore_n 3, 1) := by decide +kernel
theorem dX24_join_10 : decode cX24_join 10 = .ok (.iload_n 3, 1) := by decide +kernel
theorem dX24_join_11 : decode cX24_join 11 = .ok (.bipush 6, 2) := by decide +kernel
theorem dX24_join_13 : decode cX24_join 13 = .ok (.if_icmp .ge 39, 3) := by decide +kernel
theorem dX24_join_16 : decode cX24_join 16 = .ok (.aload_n 2, 1) := by decide +kernel
theorem dX24_join_17 : decode cX24_join 17 = .ok (.getfield 9, 3) := by decide +kernel
theorem dX24_join_20 : decode cX24_join 20 = .ok (.iload_n 3, 1) := by decide +kernel
theorem dX24_join_21 : decode cX24_join 21 = .ok (.aload_n 0, 1) := by decide +kernel
theorem dX24_join_22 : decode cX24_join 22 = .ok (.getfield 9, 3) := by decide +kernel
theorem dX24_join_25 : decode cX24_join 25 = .ok (.iload_n 3, 1) := by decide +kernel
theorem dX24_join_26 : decode cX24_join 26 = .ok (.aaload, 1) := by decide +kernel
theorem dX24_join_27 : decode cX24_join 27 = .ok (.ifnull 12, 3) := by decide +kernel
theorem dX24_join_30 : decode cX24_join 30 = .ok (.aload_n 0, 1) := by decide +kernel
theorem dX24_join_31 : decode cX24_join 31 = .ok (.getfield 9, 3) := by decide +kernel
theorem dX24_join_34 : decode cX24_join 34 = .ok (.iload_n 3, 1) := by decide +kernel
theorem dX24_join_35 : decode cX24_join 35 = .ok (.aaload, 1) := by decide +kernel
theorem dX24_join_36 : decode cX24_join 36 = .ok (.goto 9, 3) := by decide +kernel
theorem dX24_join_39 : decode cX24_join 39 = .ok (.aload_n 1, 1) := by decide +kernel
theorem dX24_join_40 : decode cX24_join 40 = .ok (.getfield 9, 3) := by decide +kernel
theorem dX24_join_43 : decode cX24_join 43 = .ok (.iload_n 3, 1) := by decide +kernel
theorem dX24_join_44 : decode cX24_join 44 = .ok (.aaload, 1) := by decide +kernel
theorem dX24_join_45 : decode cX24_join 45 = .ok (.aastore, 1) := by decide +kernel
theorem dX24_join_46 : decode cX24_join 46 = .ok (.iinc 3 1, 3) := by decide +kernel
theorem dX24_join_49 : decode cX24_join 49 = .ok (.goto (-39), 3) := by decide +kernel
theorem dX24_join_52 : decode cX24_join 52 = .ok (.aload_n 2, 1) := by decide +kernel
theorem dX24_join_53 : decode cX24_join 53 = .ok (.areturn, 1) := by decide +kernel
abbrev cX25_init : ByteArray := prog_17_method_1_code
def yX25_init : MethodName := ⟨"TripleStore$Row", "<init>", "(LTripleStore$Query;LTripleStore$Solution;)V"⟩
theorem dX25_init_0 : decode cX25_init 0 = .ok (.aload_n 0, 1) := by decide +kernel
theorem dX25_init_1 : decode cX25_init 1 = .ok (.invokespecial 1, 3) := by decide +kernel
theorem dX25_init_4 : decode cX25_init 4 = .ok (.aload_n 0, 1) := by decide +kernel
theorem dX25_init_5 : decode cX25_init 5 = .ok (.aload_n 1, 1) := by decide +kernel
theorem dX25_init_6 : decode cX25_init 6 = .ok (.getfield 7, 3) := by decide +kernel
theorem dX25_init_9 : decode cX25_init 9 = .ok (.ifCond .ge 7, 3) := by decide +kernel
theorem dX25_init_12 : decode cX25_init 12 = .ok (.aconst_null, 1) := by decide +kernel
theorem dX25_init_13 : decode cX25_init 13 = .ok (.goto 12, 3) := by decide +kernel
theorem dX25_init_16 : decode cX25_init 16 = .ok (.aload_n 2, 1) := by decide +kernel
theorem dX25_init_17 : decode cX25_init 17 = .ok (.getfield 13, 3) := by decide +kernel
theorem dX25_init_20 : decode cX25_init 20 = .ok (.aload_n 1, 1) := by decide +kernel
theorem dX25_init_21 : decode cX25_init 21 = .ok (.getfield 7, 3) := by decide +kernel
theorem dX25_init_24 : decode cX25_init 24 = .ok (.aaload, 1) := by decide +kernel
theorem dX25_init_25 : decode cX25_init 25 = .ok (.putfield 19, 3) := by decide +kernel
theorem dX25_init_28 : decode cX25_init 28 = .ok (.aload_n 0, 1) := by decide +kernel
theorem dX25_init_29 : decode cX25_init 29 = .ok (.aload_n 1, 1) := by decide +kernel
theorem dX25_init_30 : decode cX25_init 30 = .ok (.getfield 24, 3) := by decide +kernel
theorem dX25_init_33 : decode cX25_init 33 = .ok (.anewarray 27, 3) := by decide +kernel
theorem dX25_init_36 : decode cX25_init 36 = .ok (.putfield 29, 3) := by decide +kernel
theorem dX25_init_39 : decode cX25_init 39 = .ok (.iconst 0, 1) := by decide +kernel
theorem dX25_init_40 : decode cX25_init 40 = .ok (.istore_n 3, 1) := by decide +kernel
theorem dX25_init_41 : decode cX25_init 41 = .ok (.iload_n 3, 1) := by decide +kernel
theorem dX25_init_42 : decode cX25_init 42 = .ok (.aload_n 0, 1) := by decide +kernel
theorem dX25_init_43 : decode cX25_init 43 = .ok (.getfield 29, 3) := by decide +kernel
theorem dX25_init_46 : decode cX25_init 46 = .ok (.arraylength, 1) := by decide +kernel
theorem dX25_init_47 : decode cX25_init 47 = .ok (.if_icmp .ge 26, 3) := by decide +kernel
theorem dX25_init_50 : decode cX25_init 50 = .ok (.aload_n 0, 1) := by decide +kernel
theorem dX25_init_51 : decode cX25_init 51 = .ok (.getfield 29, 3) := by decide +kernel
theorem dX25_init_54 : decode cX25_init 54 = .ok (.iload_n 3, 1) := by decide +kernel
theorem dX25_init_55 : decode cX25_init 55 = .ok (.aload_n 2, 1) := by decide +kernel
theorem dX25_init_56 : decode cX25_init 56 = .ok (.getfield 13, 3) := by decide +kernel
theorem dX25_init_59 : decode cX25_init 59 = .ok (.aload_n 1, 1) := by decide +kernel
theorem dX25_init_60 : decode cX25_init 60 = .ok (.getfield 32, 3) := by decide +kernel
theorem dX25_init_63 : decode cX25_init 63 = .ok (.iload_n 3, 1) := by decide +kernel
theorem dX25_init_64 : decode cX25_init 64 = .ok (.iaload, 1) := by decide +kernel
theorem dX25_init_65 : decode cX25_init 65 = .ok (.aaload, 1) := by decide +kernel
theorem dX25_init_66 : decode cX25_init 66 = .ok (.aastore, 1) := by decide +kernel
theorem dX25_init_67 : decode cX25_init 67 = .ok (.iinc 3 1, 3) := by decide +kernel
theorem dX25_init_70 : decode cX25_init 70 = .ok (.goto (-29), 3) := by decide +kernel
theorem dX25_init_73 : decode cX25_init 73 = .ok (.return_, 1) := by decide +kernel
abbrev cX25_cellsTo : ByteArray := prog_17_method_3_code
def yX25_cellsTo : MethodName := ⟨"TripleStore$Row", "cellsTo", "(LTripleStore$Row;)I"⟩
theorem dX25_cellsTo_0 : decode cX25_cellsTo 0 = .ok (.iconst 0, 1) := by decide +kernel
theorem dX25_cellsTo_1 : decode cX25_cellsTo 1 = .ok (.istore_n 2, 1) := by decide +kernel
theorem dX25_cellsTo_2 : decode cX25_cellsTo 2 = .ok (.iload_n 2, 1) := by decide +kernel
theorem dX25_cellsTo_3 : decode cX25_cellsTo 3 = .ok (.aload_n 0, 1) := by decide +kernel
theorem dX25_cellsTo_4 : decode cX25_cellsTo 4 = .ok (.getfield 29, 3) := by decide +kernel
theorem dX25_cellsTo_7 : decode cX25_cellsTo 7 = .ok (.arraylength, 1) := by decide +kernel
theorem dX25_cellsTo_8 : decode cX25_cellsTo 8 = .ok (.if_icmp .ge 31, 3) := by decide +kernel
theorem dX25_cellsTo_11 : decode cX25_cellsTo 11 = .ok (.aload_n 0, 1) := by decide +kernel
theorem dX25_cellsTo_12 : decode cX25_cellsTo 12 = .ok (.getfield 29, 3) := by decide +kernel
theorem dX25_cellsTo_15 : decode cX25_cellsTo 15 = .ok (.iload_n 2, 1) := by decide +kernel
theorem dX25_cellsTo_16 : decode cX25_cellsTo 16 = .ok (.aaload, 1) := by decide +kernel
theorem dX25_cellsTo_17 : decode cX25_cellsTo 17 = .ok (.aload_n 1, 1) := by decide +kernel
theorem dX25_cellsTo_18 : decode cX25_cellsTo 18 = .ok (.getfield 29, 3) := by decide +kernel
theorem dX25_cellsTo_21 : decode cX25_cellsTo 21 = .ok (.iload_n 2, 1) := by decide +kernel
theorem dX25_cellsTo_22 : decode cX25_cellsTo 22 = .ok (.aaload, 1) := by decide +kernel
theorem dX25_cellsTo_23 : decode cX25_cellsTo 23 = .ok (.invokestatic 43, 3) := by decide +kernel
theorem dX25_cellsTo_26 : decode cX25_cellsTo 26 = .ok (.istore_n 3, 1) := by decide +kernel
theorem dX25_cellsTo_27 : decode cX25_cellsTo 27 = .ok (.iload_n 3, 1) := by decide +kernel
theorem dX25_cellsTo_28 : decode cX25_cellsTo 28 = .ok (.ifCond .eq 5, 3) := by decide +kernel
theorem dX25_cellsTo_31 : decode cX25_cellsTo 31 = .ok (.iload_n 3, 1) := by decide +kernel
theorem dX25_cellsTo_32 : decode cX25_cellsTo 32 = .ok (.ireturn, 1) := by decide +kernel
theorem dX25_cellsTo_33 : decode cX25_cellsTo 33 = .ok (.iinc 2 1, 3) := by decide +kernel
theorem dX25_cellsTo_36 : decode cX25_cellsTo 36 = .ok (.goto (-34), 3) := by decide +kernel
theorem dX25_cellsTo_39 : decode cX25_cellsTo 39 = .ok (.iconst 0, 1) := by decide +kernel
theorem dX25_cellsTo_40 : decode cX25_cellsTo 40 = .ok (.ireturn, 1) := by decide +kernel
abbrev cX25_compare : ByteArray := prog_17_method_2_code
def yX25_compare : MethodName := ⟨"TripleStore$Row", "compare", "(LTripleStore$Term;LTripleStore$Term;)I"⟩
theorem dX25_compare_0 : decode cX25_compare 0 = .ok (.aload_n 0, 1) := by decide +kernel
theorem dX25_compare_1 : decode cX25_compare 1 = .ok (.ifnull 7, 3) := by decide +kernel
theorem dX25_compare_4 : decode cX25_compare 4 = .ok (.aload_n 1, 1) := by decide +kernel
theorem dX25_compare_5 : decode cX25_compare 5 = .ok (.ifnonnull 22, 3) := by decide +kernel
theorem dX25_compare_8 : decode cX25_compare 8 = .ok (.aload_n 0, 1) := by decide +kernel
theorem dX25_compare_9 : decode cX25_compare 9 = .ok (.aload_n 1, 1) := by decide +kernel
theorem dX25_compare_10 : decode cX25_compare 10 = .ok (.if_acmp .ne 7, 3) := by decide +kernel
theorem dX25_compare_13 : decode cX25_compare 13 = .ok (.iconst 0, 1) := by decide +kernel
theorem dX25_compare_14 : decode cX25_compare 14 = .ok (.goto 12, 3) := by decide +kernel
theorem dX25_compare_17 : decode cX25_compare 17 = .ok (.aload_n 0, 1) := by decide +kernel
theorem dX25_compare_18 : decode cX25_compare 18 = .ok (.ifnonnull 7, 3) := by decide +kernel
theorem dX25_compare_21 : decode cX25_compare 21 = .ok (.iconst (-1), 1) := by decide +kernel
theorem dX25_compare_22 : decode cX25_compare 22 = .ok (.goto 4, 3) := by decide +kernel
theorem dX25_compare_25 : decode cX25_compare 25 = .ok (.iconst 1, 1) := by decide +kernel
theorem dX25_compare_26 : decode cX25_compare 26 = .ok (.ireturn, 1) := by decide +kernel
theorem dX25_compare_27 : decode cX25_compare 27 = .ok (.aload_n 0, 1) := by decide +kernel
theorem dX25_compare_28 : decode cX25_compare 28 = .ok (.aload_n 1, 1) := by decide +kernel
theorem dX25_compare_29 : decode cX25_compare 29 = .ok (.invokevirtual 36, 3) := by decide +kernel
theorem dX25_compare_32 : decode cX25_compare 32 = .ok (.ifCond .eq 5, 3) := by decide +kernel
theorem dX25_compare_35 : decode cX25_compare 35 = .ok (.iconst (-1), 1) := by decide +kernel
theorem dX25_compare_36 : decode cX25_compare 36 = .ok (.ireturn, 1) := by decide +kernel
theorem dX25_compare_37 : decode cX25_compare 37 = .ok (.aload_n 0, 1) := by decide +kernel
theorem dX25_compare_38 : decode cX25_compare 38 = .ok (.aload_n 1, 1) := by decide +kernel
theorem dX25_compare_39 : decode cX25_compare 39 = .ok (.invokevirtual 40, 3) := by decide +kernel
theorem dX25_compare_42 : decode cX25_compare 42 = .ok (.ifCond .eq 7, 3) := by decide +kernel
theorem dX25_compare_45 : decode cX25_compare 45 = .ok (.iconst 0, 1) := by decide +kernel
theorem dX25_compare_46 : decode cX25_compare 46 = .ok (.goto 4, 3) := by decide +kernel
theorem dX25_compare_49 : decode cX25_compare 49 = .ok (.iconst 1, 1) := by decide +kernel
theorem dX25_compare_50 : decode cX25_compare 50 = .ok (.ireturn, 1) := by decide +kernel
abbrev cX25_before : ByteArray := prog_17_method_4_code
def yX25_before : MethodName := ⟨"TripleStore$Row", "before", "(LTripleStore$Row;Z)Z"⟩
theorem dX25_before_0 : decode cX25_before 0 = .ok (.aload_n 0, 1) := by decide +kernel
theorem dX25_before_1 : decode cX25_before 1 = .ok (.getfield 19, 3) := by decide +kernel
theorem dX25_before_4 : decode cX25_before 4 = .ok (.aload_n 1, 1) := by decide +kernel
theorem dX25_before_5 : decode cX25_before 5 = .ok (.getfield 19, 3) := by decide +kernel
theorem dX25_before_8 : decode cX25_before 8 = .ok (.invokestatic 43, 3) := by decide +kernel
theorem dX25_before_11 : decode cX25_before 11 = .ok (.istore_n 3, 1) := by decide +kernel
theorem dX25_before_12 : decode cX25_before 12 = .ok (.iload_n 3, 1) := by decide +kernel
theorem dX25_before_13 : decode cX25_before 13 = .ok (.ifCond .eq 29, 3) := by decide +kernel
theorem dX25_before_16 : decode cX25_before 16 = .ok (.iload_n 2, 1) := by decide +kernel
theorem dX25_before_17 : decode cX25_before 17 = .ok (.ifCond .eq 15, 3) := by decide +kernel
theorem dX25_before_20 : decode cX25_before 20 = .ok (.iload_n 3, 1) := by decide +kernel
theorem dX25_before_21 : decode cX25_before 21 = .ok (.ifCond .le 7, 3) := by decide +kernel
theorem dX25_before_24 : decode cX25_before 24 = .ok (.iconst 1, 1) := by decide +kernel
theorem dX25_before_25 : decode cX25_before 25 = .ok (.goto 16, 3) := by decide +kernel
theorem dX25_before_28 : decode cX25_before 28 = .ok (.iconst 0, 1) := by decide +kernel
theorem dX25_before_29 : decode cX25_before 29 = .ok (.goto 12, 3) := by decide +kernel
theorem dX25_before_32 : decode cX25_before 32 = .ok (.iload_n 3, 1) := by decide +kernel
theorem dX25_before_33 : decode cX25_before 33 = .ok (.ifCond .ge 7, 3) := by decide +kernel
theorem dX25_before_36 : decode cX25_before 36 = .ok (.iconst 1, 1) := by decide +kernel
theorem dX25_before_37 : decode cX25_before 37 = .ok (.goto 4, 3) := by decide +kernel
theorem dX25_before_40 : decode cX25_before 40 = .ok (.iconst 0, 1) := by decide +kernel
theorem dX25_before_41 : decode cX25_before 41 = .ok (.ireturn, 1) := by decide +kernel
theorem dX25_before_42 : decode cX25_before 42 = .ok (.aload_n 0, 1) := by decide +kernel
theorem dX25_before_43 : decode cX25_before 43 = .ok (.aload_n 1, 1) := by decide +kernel
theorem dX25_before_44 : decode cX25_before 44 = .ok (.invokevirtual 47, 3) := by decide +kernel
theorem dX25_before_47 : decode cX25_before 47 = .ok (.ifCond .ge 7, 3) := by decide +kernel
theorem dX25_before_50 : decode cX25_before 50 = .ok (.iconst 1, 1) := by decide +kernel
theorem dX25_before_51 : decode cX25_before 51 = .ok (.goto 4, 3) := by decide +kernel
theorem dX25_before_54 : decode cX25_before 54 = .ok (.iconst 0, 1) := by decide +kernel
theorem dX25_before_55 : decode cX25_before 55 = .ok (.ireturn, 1) := by decide +kernel
abbrev cJ0_init : ByteArray := prog_28_method_2_code
def yJ0_init : MethodName := ⟨"java/lang/AbstractStringBuilder", "<init>", "(I)V"⟩
theorem dJ0_init_0 : decode cJ0_init 0 = .ok (.aload_n 0, 1) := by decide +kernel
theorem dJ0_init_1 : decode cJ0_init 1 = .ok (.invokespecial 3, 3) := by decide +kernel
theorem dJ0_init_4 : decode cJ0_init 4 = .ok (.getstatic 18, 3) := by decide +kernel
theorem dJ0_init_7 : decode cJ0_init 7 = .ok (.ifCond .eq 18, 3) := by decide +kernel
theorem dJ0_init_10 : decode cJ0_init 10 = .ok (.aload_n 0, 1) := by decide +kernel
theorem dJ0_init_11 : decode cJ0_init 11 = .ok (.iload_n 1, 1) := by decide +kernel
theorem dJ0_init_12 : decode cJ0_init 12 = .ok (.newarray .byte, 2) := by decide +kernel
theorem dJ0_init_14 : decode cJ0_init 14 = .ok (.putfield 15, 3) := by decide +kernel
theorem dJ0_init_17 : decode cJ0_init 17 = .ok (.aload_n 0, 1) := by decide +kernel
theorem dJ0_init_18 : decode cJ0_init 18 = .ok (.iconst 0, 1) := by decide +kernel
theorem dJ0_init_19 : decode cJ0_init 19 = .ok (.putfield 22, 3) := by decide +kernel
theorem dJ0_init_22 : decode cJ0_init 22 = .ok (.goto 16, 3) := by decide +kernel
theorem dJ0_init_25 : decode cJ0_init 25 = .ok (.aload_n 0, 1) := by decide +kernel
theorem dJ0_init_26 : decode cJ0_init 26 = .ok (.iload_n 1, 1) := by decide +kernel
theorem dJ0_init_27 : decode cJ0_init 27 = .ok (.invokestatic 26, 3) := by decide +kernel
theorem dJ0_init_30 : decode cJ0_init 30 = .ok (.putfield 15, 3) := by decide +kernel
theorem dJ0_init_33 : decode cJ0_init 33 = .ok (.aload_n 0, 1) := by decide +kernel
theorem dJ0_init_34 : decode cJ0_init 34 = .ok (.iconst 1, 1) := by decide +kernel
theorem dJ0_init_35 : decode cJ0_init 35 = .ok (.putfield 22, 3) := by decide +kernel
theorem dJ0_init_38 : decode cJ0_init 38 = .ok (.return_, 1) := by decide +kernel
abbrev cJ0_length : ByteArray := prog_28_method_6_code
def yJ0_length : MethodName := ⟨"java/lang/AbstractStringBuilder", "length", "()I"⟩
theorem dJ0_length_0 : decode cJ0_length 0 = .ok (.aload_n 0, 1) := by decide +kernel
theorem dJ0_length_1 : decode cJ0_length 1 = .ok (.getfield 79, 3) := by decide +kernel
theorem dJ0_length_4 : decode cJ0_length 4 = .ok (.ireturn, 1) := by decide +kernel
abbrev cJ0_append : ByteArray := prog_28_method_31_code
def yJ0_append : MethodName := ⟨"java/lang/AbstractStringBuilder", "append", "(C)Ljava/lang/AbstractStringBuilder;"⟩
theorem dJ0_append_0 : decode cJ0_append 0 = .ok (.aload_n 0, 1) := by decide +kernel
theorem dJ0_append_1 : decode cJ0_append 1 = .ok (.aload_n 0, 1) := by decide +kernel
theorem dJ0_append_2 : decode cJ0_append 2 = .ok (.getfield 79, 3) := by decide +kernel
theorem dJ0_append_5 : decode cJ0_append 5 = .ok (.iconst 1, 1) := by decide +kernel
theorem dJ0_append_6 : decode cJ0_append 6 = .ok (.iadd, 1) := by decide +kernel
theorem dJ0_append_7 : decode cJ0_append 7 = .ok (.invokevirtual 100, 3) := by decide +kernel
theorem dJ0_append_10 : decode cJ0_append 10 = .ok (.aload_n 0, 1) := by decide +kernel
theorem dJ0_append_11 : decode cJ0_append 11 = .ok (.invokevirtual 83, 3) := by decide +kernel
theorem dJ0_append_14 : decode cJ0_append 14 = .ok (.ifCond .eq 31, 3) := by decide +kernel
theorem dJ0_append_17 : decode cJ0_append 17 = .ok (.iload_n 1, 1) := by decide +kernel
theorem dJ0_append_18 : decode cJ0_append 18 = .ok (.invokestatic 191, 3) := by decide +kernel
theorem dJ0_append_21 : decode cJ0_append 21 = .ok (.ifCond .eq 24, 3) := by decide +kernel
theorem dJ0_append_24 : decode cJ0_append 24 = .ok (.aload_n 0, 1) := by decide +kernel
theorem dJ0_append_25 : decode cJ0_append 25 = .ok (.getfield 15, 3) := by decide +kernel
theorem dJ0_append_28 : decode cJ0_append 28 = .ok (.aload_n 0, 1) := by decide +kernel
theorem dJ0_append_29 : decode cJ0_append 29 = .ok (.dup, 1) := by decide +kernel
theorem dJ0_append_30 : decode cJ0_append 30 = .ok (.getfield 79, 3) := by decide +kernel
theorem dJ0_append_33 : decode cJ0_append 33 = .ok (.dup_x1, 1) := by decide +kernel
theorem dJ0_append_34 : decode cJ0_append 34 = .ok (.iconst 1, 1) := by decide +kernel
theorem dJ0_append_35 : decode cJ0_append 35 = .ok (.iadd, 1) := by decide +kernel
theorem dJ0_append_36 : decode cJ0_append 36 = .ok (.putfield 79, 3) := by decide +kernel
theorem dJ0_append_39 : decode cJ0_append 39 = .ok (.iload_n 1, 1) := by decide +kernel
theorem dJ0_append_40 : decode cJ0_append 40 = .ok (.i2b, 1) := by decide +kernel
theorem dJ0_append_41 : decode cJ0_append 41 = .ok (.bastore, 1) := by decide +kernel
theorem dJ0_append_42 : decode cJ0_append 42 = .ok (.goto 33, 3) := by decide +kernel
theorem dJ0_append_45 : decode cJ0_append 45 = .ok (.aload_n 0, 1) := by decide +kernel
theorem dJ0_append_46 : decode cJ0_append 46 = .ok (.invokevirtual 83, 3) := by decide +kernel
theorem dJ0_append_49 : decode cJ0_append 49 = .ok (.ifCond .eq 7, 3) := by decide +kernel
theorem dJ0_append_52 : decode cJ0_append 52 = .ok (.aload_n 0, 1) := by decide +kernel
theorem dJ0_append_53 : decode cJ0_append 53 = .ok (.invokevirtual 195, 3) := by decide +kernel
theorem dJ0_append_56 : decode cJ0_append 56 = .ok (.aload_n 0, 1) := by decide +kernel
theorem dJ0_append_57 : decode cJ0_append 57 = .ok (.getfield 15, 3) := by decide +kernel
theorem dJ0_append_60 : decode cJ0_append 60 = .ok (.aload_n 0, 1) := by decide +kernel
theorem dJ0_append_61 : decode cJ0_append 61 = .ok (.dup, 1) := by decide +kernel
theorem dJ0_append_62 : decode cJ0_append 62 = .ok (.getfield 79, 3) := by decide +kernel
theorem dJ0_append_65 : decode cJ0_append 65 = .ok (.dup_x1, 1) := by decide +kernel
theorem dJ0_append_66 : decode cJ0_append 66 = .ok (.iconst 1, 1) := by decide +kernel
theorem dJ0_append_67 : decode cJ0_append 67 = .ok (.iadd, 1) := by decide +kernel
theorem dJ0_append_68 : decode cJ0_append 68 = .ok (.putfield 79, 3) := by decide +kernel
theorem dJ0_append_71 : decode cJ0_append 71 = .ok (.iload_n 1, 1) := by decide +kernel
theorem dJ0_append_72 : decode cJ0_append 72 = .ok (.invokestatic 197, 3) := by decide +kernel
theorem dJ0_append_75 : decode cJ0_append 75 = .ok (.aload_n 0, 1) := by decide +kernel
theorem dJ0_append_76 : decode cJ0_append 76 = .ok (.areturn, 1) := by decide +kernel
abbrev cJ0_ensureCapacityInternal : ByteArray := prog_28_method_9_code
def yJ0_ensureCapacityInternal : MethodName := ⟨"java/lang/AbstractStringBuilder", "ensureCapacityInternal", "(I)V"⟩
theorem dJ0_ensureCapacityInternal_0 : decode cJ0_ensureCapacityInternal 0 = .ok (.aload_n 0, 1) := by decide +kernel
theorem dJ0_ensureCapacityInternal_1 : decode cJ0_ensureCapacityInternal 1 = .ok (.getfield 15, 3) := by decide +kernel
theorem dJ0_ensureCapacityInternal_4 : decode cJ0_ensureCapacityInternal 4 = .ok (.arraylength, 1) := by decide +kernel
theorem dJ0_ensureCapacityInternal_5 : decode cJ0_ensureCapacityInternal 5 = .ok (.aload_n 0, 1) := by decide +kernel
theorem dJ0_ensureCapacityInternal_6 : decode cJ0_ensureCapacityInternal 6 = .ok (.getfield 22, 3) := by decide +kernel
theorem dJ0_ensureCapacityInternal_9 : decode cJ0_ensureCapacityInternal 9 = .ok (.ishr, 1) := by decide +kernel
theorem dJ0_ensureCapacityInternal_10 : decode cJ0_ensureCapacityInternal 10 = .ok (.istore_n 2, 1) := by decide +kernel
theorem dJ0_ensureCapacityInternal_11 : decode cJ0_ensureCapacityInternal 11 = .ok (.iload_n 1, 1) := by decide +kernel
theorem dJ0_ensureCapacityInternal_12 : decode cJ0_ensureCapacityInternal 12 = .ok (.iload_n 2, 1) := by decide +kernel
theorem dJ0_ensureCapacityInternal_13 : decode cJ0_ensureCapacityInternal 13 = .ok (.isub, 1) := by decide +kernel
theorem dJ0_ensureCapacityInternal_14 : decode cJ0_ensureCapacityInternal 14 = .ok (.ifCond .le 24, 3) := by decide +kernel
theorem dJ0_ensureCapacityInternal_17 : decode cJ0_ensureCapacityInternal 17 = .ok (.aload_n 0, 1) := by decide +kernel
theorem dJ0_ensureCapacityInternal_18 : decode cJ0_ensureCapacityInternal 18 = .ok (.aload_n 0, 1) := by decide +kernel
theorem dJ0_ensureCapacityInternal_19 : decode cJ0_ensureCapacityInternal 19 = .ok (.getfield 15, 3) := by decide +kernel
theorem dJ0_ensureCapacityInternal_22 : decode cJ0_ensureCapacityInternal 22 = .ok (.aload_n 0, 1) := by decide +kernel
theorem dJ0_ensureCapacityInternal_23 : decode cJ0_ensureCapacityInternal 23 = .ok (.iload_n 1, 1) := by decide +kernel
theorem dJ0_ensureCapacityInternal_24 : decode cJ0_ensureCapacityInternal 24 = .ok (.invokevirtual 104, 3) := by decide +kernel
theorem dJ0_ensureCapacityInternal_27 : decode cJ0_ensureCapacityInternal 27 = .ok (.aload_n 0, 1) := by decide +kernel
theorem dJ0_ensureCapacityInternal_28 : decode cJ0_ensureCapacityInternal 28 = .ok (.getfield 22, 3) := by decide +kernel
theorem dJ0_ensureCapacityInternal_31 : decode cJ0_ensureCapacityInternal 31 = .ok (.ishl, 1) := by decide +kernel
theorem dJ0_ensureCapacityInternal_32 : decode cJ0_ensureCapacityInternal 32 = .ok (.invokestatic 108, 3) := by decide +kernel
theorem dJ0_ensureCapacityInternal_35 : decode cJ0_ensureCapacityInternal 35 = .ok (.putfield 15, 3) := by decide +kernel
theorem dJ0_ensureCapacityInternal_38 : decode cJ0_ensureCapacityInternal 38 = .ok (.return_, 1) := by decide +kernel
abbrev cJ0_isLatin1 : ByteArray := prog_28_method_68_code
def yJ0_isLatin1 : MethodName := ⟨"java/lang/AbstractStringBuilder", "isLatin1", "()Z"⟩
theorem dJ0_isLatin1_0 : decode cJ0_isLatin1 0 = .ok (.getstatic 18, 3) := by decide +kernel
theorem dJ0_isLatin1_3 : decode cJ0_isLatin1 3 = .ok (.ifCond .eq 14, 3) := by decide +kernel
theorem dJ0_isLatin1_6 : decode cJ0_isLatin1 6 = .ok (.aload_n 0, 1) := by decide +kernel
theorem dJ0_isLatin1_7 : decode cJ0_isLatin1 7 = .ok (.getfield 22, 3) := by decide +kernel
theorem dJ0_isLatin1_10 : decode cJ0_isLatin1 10 = .ok (.ifCond .ne 7, 3) := by decide +kernel
theorem dJ0_isLatin1_13 : decode cJ0_isLatin1 13 = .ok (.iconst 1, 1) := by decide +kernel
theorem dJ0_isLatin1_14 : decode cJ0_isLatin1 14 = .ok (.goto 4, 3) := by decide +kernel
theorem dJ0_isLatin1_17 : decode cJ0_isLatin1 17 = .ok (.iconst 0, 1) := by decide +kernel
theorem dJ0_isLatin1_18 : decode cJ0_isLatin1 18 = .ok (.ireturn, 1) := by decide +kernel
abbrev cJ0_getValue : ByteArray := prog_28_method_64_code
def yJ0_getValue : MethodName := ⟨"java/lang/AbstractStringBuilder", "getValue", "()[B"⟩
theorem dJ0_getValue_0 : decode cJ0_getValue 0 = .ok (.aload_n 0, 1) := by decide +kernel
theorem dJ0_getValue_1 : decode cJ0_getValue 1 = .ok (.getfield 15, 3) := by decide +kernel
theorem dJ0_getValue_4 : decode cJ0_getValue 4 = .ok (.areturn, 1) := by decide +kernel
abbrev cJ0_setLength : ByteArray := prog_28_method_13_code
def yJ0_setLength : MethodName := ⟨"java/lang/AbstractStringBuilder", "setLength", "(I)V"⟩
theorem dJ0_setLength_0 : decode cJ0_setLength 0 = .ok (.iload_n 1, 1) := by decide +kernel
theorem dJ0_setLength_1 : decode cJ0_setLength 1 = .ok (.ifCond .ge 12, 3) := by decide +kernel
theorem dJ0_setLength_4 : decode cJ0_setLength 4 = .ok (.new 129, 3) := by decide +kernel
theorem dJ0_setLength_7 : decode cJ0_setLength 7 = .ok (.dup, 1) := by decide +kernel
theorem dJ0_setLength_8 : decode cJ0_setLength 8 = .ok (.iload_n 1, 1) := by decide +kernel
theorem dJ0_setLength_9 : decode cJ0_setLength 9 = .ok (.invokespecial 131, 3) := by decide +kernel
theorem dJ0_setLength_12 : decode cJ0_setLength 12 = .ok (.athrow, 1) := by decide +kernel
theorem dJ0_setLength_13 : decode cJ0_setLength 13 = .ok (.aload_n 0, 1) := by decide +kernel
theorem dJ0_setLength_14 : decode cJ0_setLength 14 = .ok (.iload_n 1, 1) := by decide +kernel
theorem dJ0_setLength_15 : decode cJ0_setLength 15 = .ok (.invokevirtual 100, 3) := by decide +kernel
theorem dJ0_setLength_18 : decode cJ0_setLength 18 = .ok (.aload_n 0, 1) := by decide +kernel
theorem dJ0_setLength_19 : decode cJ0_setLength 19 = .ok (.getfield 79, 3) := by decide +kernel
theorem dJ0_setLength_22 : decode cJ0_setLength 22 = .ok (.iload_n 1, 1) := by decide +kernel
theorem dJ0_setLength_23 : decode cJ0_setLength 23 = .ok (.if_icmp .ge 40, 3) := by decide +kernel
theorem dJ0_setLength_26 : decode cJ0_setLength 26 = .ok (.aload_n 0, 1) := by decide +kernel
theorem dJ0_setLength_27 : decode cJ0_setLength 27 = .ok (.invokevirtual 83, 3) := by decide +kernel
theorem dJ0_setLength_30 : decode cJ0_setLength 30 = .ok (.ifCond .eq 18, 3) := by decide +kernel
theorem dJ0_setLength_33 : decode cJ0_setLength 33 = .ok (.aload_n 0, 1) := by decide +kernel
theorem dJ0_setLength_34 : decode cJ0_setLength 34 = .ok (.getfield 15, 3) := by decide +kernel
theorem dJ0_setLength_37 : decode cJ0_setLength 37 = .ok (.aload_n 0, 1) := by decide +kernel
theorem dJ0_setLength_38 : decode cJ0_setLength 38 = .ok (.getfield 79, 3) := by decide +kernel
theorem dJ0_setLength_41 : decode cJ0_setLength 41 = .ok (.iload_n 1, 1) := by decide +kernel
theorem dJ0_setLength_42 : decode cJ0_setLength 42 = .ok (.invokestatic 133, 3) := by decide +kernel
theorem dJ0_setLength_45 : decode cJ0_setLength 45 = .ok (.goto 31, 3) := by decide +kernel
theorem dJ0_setLength_48 : decode cJ0_setLength 48 = .ok (.aload_n 0, 1) := by decide +kernel
theorem dJ0_setLength_49 : decode cJ0_setLength 49 = .ok (.getfield 15, 3) := by decide +kernel
theorem dJ0_setLength_52 : decode cJ0_setLength 52 = .ok (.aload_n 0, 1) := by decide +kernel
theorem dJ0_setLength_53 : decode cJ0_setLength 53 = .ok (.getfield 79, 3) := by decide +kernel
theorem dJ0_setLength_56 : decode cJ0_setLength 56 = .ok (.iload_n 1, 1) := by decide +kernel
theorem dJ0_setLength_57 : decode cJ0_setLength 57 = .ok (.invokestatic 137, 3) := by decide +kernel
theorem dJ0_setLength_60 : decode cJ0_setLength 60 = .ok (.goto 16, 3) := by decide +kernel
theorem dJ0_setLength_63 : decode cJ0_setLength 63 = .ok (.aload_n 0, 1) := by decide +kernel
theorem dJ0_setLength_64 : decode cJ0_setLength 64 = .ok (.getfield 79, 3) := by decide +kernel
theorem dJ0_setLength_67 : decode cJ0_setLength 67 = .ok (.iload_n 1, 1) := by decide +kernel
theorem dJ0_setLength_68 : decode cJ0_setLength 68 = .ok (.if_icmp .le 8, 3) := by decide +kernel
theorem dJ0_setLength_71 : decode cJ0_setLength 71 = .ok (.aload_n 0, 1) := by decide +kernel
theorem dJ0_setLength_72 : decode cJ0_setLength 72 = .ok (.iconst 1, 1) := by decide +kernel
theorem dJ0_setLength_73 : decode cJ0_setLength 73 = .ok (.putfield 73, 3) := by decide +kernel
theorem dJ0_setLength_76 : decode cJ0_setLength 76 = .ok (.aload_n 0, 1) := by decide +kernel
theorem dJ0_setLength_77 : decode cJ0_setLength 77 = .ok (.iload_n 1, 1) := by decide +kernel
theorem dJ0_setLength_78 : decode cJ0_setLength 78 = .ok (.putfield 79, 3) := by decide +kernel
theorem dJ0_setLength_81 : decode cJ0_setLength 81 = .ok (.return_, 1) := by decide +kernel
abbrev cJ1_init : ByteArray := prog_41_method_2_code
def yJ1_init : MethodName := ⟨"java/lang/StringBuilder", "<init>", "(I)V"⟩
theorem dJ1_init_0 : decode cJ1_init 0 = .ok (.aload_n 0, 1) := by decide +kernel
theorem dJ1_init_1 : decode cJ1_init 1 = .ok (.iload_n 1, 1) := by decide +kernel
theorem dJ1_init_2 : decode cJ1_init 2 = .ok (.invokespecial 1, 3) := by decide +kernel
theorem dJ1_init_5 : decode cJ1_init 5 = .ok (.return_, 1) := by decide +kernel
abbrev cJ1_length : ByteArray := prog_41_method_93_code
def yJ1_length : MethodName := ⟨"java/lang/StringBuilder", "length", "()I"⟩
theorem dJ1_length_0 : decode cJ1_length 0 = .ok (.aload_n 0, 1) := by decide +kernel
theorem dJ1_length_1 : decode cJ1_length 1 = .ok (.invokespecial 343, 3) := by decide +kernel
theorem dJ1_length_4 : decode cJ1_length 4 = .ok (.ireturn, 1) := by decide +kernel
abbrev cJ1_append : ByteArray := prog_41_method_14_code
def yJ1_append : MethodName := ⟨"java/lang/StringBuilder", "append", "(C)Ljava/lang/StringBuilder;"⟩
theorem dJ1_append_0 : decode cJ1_append 0 = .ok (.aload_n 0, 1) := by decide +kernel
theorem dJ1_append_1 : decode cJ1_append 1 = .ok (.iload_n 1, 1) := by decide +kernel
theorem dJ1_append_2 : decode cJ1_append 2 = .ok (.invokespecial 50, 3) := by decide +kernel
theorem dJ1_append_5 : decode cJ1_append 5 = .ok (.pop, 1) := by decide +kernel
theorem dJ1_append_6 : decode cJ1_append 6 = .ok (.aload_n 0, 1) := by decide +kernel
theorem dJ1_append_7 : decode cJ1_append 7 = .ok (.areturn, 1) := by decide +kernel
abbrev cJ1_toString : ByteArray := prog_41_method_42_code
def yJ1_toString : MethodName := ⟨"java/lang/StringBuilder", "toString", "()Ljava/lang/String;"⟩
theorem dJ1_toString_0 : decode cJ1_toString 0 = .ok (.new 18, 3) := by decide +kernel
theorem dJ1_toString_3 : decode cJ1_toString 3 = .ok (.dup, 1) := by decide +kernel
theorem dJ1_toString_4 : decode cJ1_toString 4 = .ok (.aload_n 0, 1) := by decide +kernel
theorem dJ1_toString_5 : decode cJ1_toString 5 = .ok (.invokespecial 137, 3) := by decide +kernel
theorem dJ1_toString_8 : decode cJ1_toString 8 = .ok (.areturn, 1) := by decide +kernel
abbrev cJ1_setLength : ByteArray := prog_41_method_89_code
def yJ1_setLength : MethodName := ⟨"java/lang/StringBuilder", "setLength", "(I)V"⟩
theorem dJ1_setLength_0 : decode cJ1_setLength 0 = .ok (.aload_n 0, 1) := by decide +kernel
theorem dJ1_setLength_1 : decode cJ1_setLength 1 = .ok (.iload_n 1, 1) := by decide +kernel
theorem dJ1_setLength_2 : decode cJ1_setLength 2 = .ok (.invokespecial 333, 3) := by decide +kernel
theorem dJ1_setLength_5 : decode cJ1_setLength 5 = .ok (.return_, 1) := by decide +kernel
abbrev cJ2_init : ByteArray := prog_40_method_53_code
def yJ2_init : MethodName := ⟨"java/lang/String", "<init>", "(Ljava/lang/StringBuilder;)V"⟩
theorem dJ2_init_0 : decode cJ2_init 0 = .ok (.aload_n 0, 1) := by decide +kernel
theorem dJ2_init_1 : decode cJ2_init 1 = .ok (.aload_n 1, 1) := by decide +kernel
theorem dJ2_init_2 : decode cJ2_init 2 = .ok (.aconst_null, 1) := by decide +kernel
theorem dJ2_init_3 : decode cJ2_init 3 = .ok (.invokespecial 489, 3) := by decide +kernel
theorem dJ2_init_6 : decode cJ2_init 6 = .ok (.return_, 1) := by decide +kernel
abbrev cJ2_init_2 : ByteArray := prog_40_method_150_code
def yJ2_init_2 : MethodName := ⟨"java/lang/String", "<init>", "(Ljava/lang/AbstractStringBuilder;Ljava/lang/Void;)V"⟩
theorem dJ2_init_2_0 : decode cJ2_init_2 0 = .ok (.aload_n 0, 1) := by decide +kernel
theorem dJ2_init_2_1 : decode cJ2_init_2 1 = .ok (.invokespecial 1, 3) := by decide +kernel
theorem dJ2_init_2_4 : decode cJ2_init_2 4 = .ok (.aload_n 1, 1) := by decide +kernel
theorem dJ2_init_2_5 : decode cJ2_init_2 5 = .ok (.invokevirtual 552, 3) := by decide +kernel
theorem dJ2_init_2_8 : decode cJ2_init_2 8 = .ok (.astore_n 3, 1) := by decide +kernel
theorem dJ2_init_2_9 : decode cJ2_init_2 9 = .ok (.aload_n 1, 1) := by decide +kernel
theorem dJ2_init_2_10 : decode cJ2_init_2 10 = .ok (.invokevirtual 549, 3) := by decide +kernel
theorem dJ2_init_2_13 : decode cJ2_init_2 13 = .ok (.istore 4, 2) := by decide +kernel
theorem dJ2_init_2_15 : decode cJ2_init_2 15 = .ok (.aload_n 1, 1) := by decide +kernel
theorem dJ2_init_2_16 : decode cJ2_init_2 16 = .ok (.invokevirtual 1047, 3) := by decide +kernel
theorem dJ2_init_2_19 : decode cJ2_init_2 19 = .ok (.ifCond .eq 22, 3) := by decide +kernel
theorem dJ2_init_2_22 : decode cJ2_init_2 22 = .ok (.aload_n 0, 1) := by decide +kernel
theorem dJ2_init_2_23 : decode cJ2_init_2 23 = .ok (.iconst 0, 1) := by decide +kernel
theorem dJ2_init_2_24 : decode cJ2_init_2 24 = .ok (.putfield 15, 3) := by decide +kernel
theorem dJ2_init_2_27 : decode cJ2_init_2 27 = .ok (.aload_n 0, 1) := by decide +kernel
theorem dJ2_init_2_28 : decode cJ2_init_2 28 = .ok (.aload_n 3, 1) := by decide +kernel
theorem dJ2_init_2_29 : decode cJ2_init_2 29 = .ok (.iconst 0, 1) := by decide +kernel
theorem dJ2_init_2_30 : decode cJ2_init_2 30 = .ok (.iload 4, 2) := by decide +kernel
theorem dJ2_init_2_32 : decode cJ2_init_2 32 = .ok (.invokestatic 54, 3) := by decide +kernel
theorem dJ2_init_2_35 : decode cJ2_init_2 35 = .ok (.putfield 9, 3) := by decide +kernel
theorem dJ2_init_2_38 : decode cJ2_init_2 38 = .ok (.goto 59, 3) := by decide +kernel
theorem dJ2_init_2_41 : decode cJ2_init_2 41 = .ok (.getstatic 38, 3) := by decide +kernel
theorem dJ2_init_2_44 : decode cJ2_init_2 44 = .ok (.ifCond .eq 35, 3) := by decide +kernel
theorem dJ2_init_2_47 : decode cJ2_init_2 47 = .ok (.aload_n 1, 1) := by decide +kernel
theorem dJ2_init_2_48 : decode cJ2_init_2 48 = .ok (.getfield 1048, 3) := by decide +kernel
theorem dJ2_init_2_51 : decode cJ2_init_2 51 = .ok (.ifCond .eq 28, 3) := by decide +kernel
theorem dJ2_init_2_54 : decode cJ2_init_2 54 = .ok (.aload_n 0, 1) := by decide +kernel
theorem dJ2_init_2_55 : decode cJ2_init_2 55 = .ok (.aload_n 3, 1) := by decide +kernel
theorem dJ2_init_2_56 : decode cJ2_init_2 56 = .ok (.iconst 0, 1) := by decide +kernel
theorem dJ2_init_2_57 : decode cJ2_init_2 57 = .ok (.iload 4, 2) := by decide +kernel
theorem dJ2_init_2_59 : decode cJ2_init_2 59 = .ok (.invokestatic 1051, 3) := by decide +kernel
theorem dJ2_init_2_62 : decode cJ2_init_2 62 = .ok (.putfield 9, 3) := by decide +kernel
theorem dJ2_init_2_65 : decode cJ2_init_2 65 = .ok (.aload_n 0, 1) := by decide +kernel
theorem dJ2_init_2_66 : decode cJ2_init_2 66 = .ok (.aload_n 0, 1) := by decide +kernel
theorem dJ2_init_2_67 : decode cJ2_init_2 67 = .ok (.getfield 9, 3) := by decide +kernel
theorem dJ2_init_2_70 : decode cJ2_init_2 70 = .ok (.iload 4, 2) := by decide +kernel
theorem dJ2_init_2_72 : decode cJ2_init_2 72 = .ok (.invokestatic 47, 3) := by decide +kernel
theorem dJ2_init_2_75 : decode cJ2_init_2 75 = .ok (.putfield 15, 3) := by decide +kernel
theorem dJ2_init_2_78 : decode cJ2_init_2 78 = .ok (.return_, 1) := by decide +kernel
theorem dJ2_init_2_79 : decode cJ2_init_2 79 = .ok (.aload_n 0, 1) := by decide +kernel
theorem dJ2_init_2_80 : decode cJ2_init_2 80 = .ok (.iconst 1, 1) := by decide +kernel
theorem dJ2_init_2_81 : decode cJ2_init_2 81 = .ok (.putfield 15, 3) := by decide +kernel
theorem dJ2_init_2_84 : decode cJ2_init_2 84 = .ok (.aload_n 0, 1) := by decide +kernel
theorem dJ2_init_2_85 : decode cJ2_init_2 85 = .ok (.aload_n 3, 1) := by decide +kernel
theorem dJ2_init_2_86 : decode cJ2_init_2 86 = .ok (.iconst 0, 1) := by decide +kernel
theorem dJ2_init_2_87 : decode cJ2_init_2 87 = .ok (.iload 4, 2) := by decide +kernel
theorem dJ2_init_2_89 : decode cJ2_init_2 89 = .ok (.iconst 1, 1) := by decide +kernel
theorem dJ2_init_2_90 : decode cJ2_init_2 90 = .ok (.ishl, 1) := by decide +kernel
theorem dJ2_init_2_91 : decode cJ2_init_2 91 = .ok (.invokestatic 54, 3) := by decide +kernel
theorem dJ2_init_2_94 : decode cJ2_init_2 94 = .ok (.putfield 9, 3) := by decide +kernel
theorem dJ2_init_2_97 : decode cJ2_init_2 97 = .ok (.return_, 1) := by decide +kernel
abbrev cJ2_init_3 : ByteArray := prog_40_method_151_code
def yJ2_init_3 : MethodName := ⟨"java/lang/String", "<init>", "([BB)V"⟩
theorem dJ2_init_3_0 : decode cJ2_init_3 0 = .ok (.aload_n 0, 1) := by decide +kernel
theorem dJ2_init_3_1 : decode cJ2_init_3 1 = .ok (.invokespecial 1, 3) := by decide +kernel
theorem dJ2_init_3_4 : decode cJ2_init_3 4 = .ok (.aload_n 0, 1) := by decide +kernel
theorem dJ2_init_3_5 : decode cJ2_init_3 5 = .ok (.aload_n 1, 1) := by decide +kernel
theorem dJ2_init_3_6 : decode cJ2_init_3 6 = .ok (.putfield 9, 3) := by decide +kernel
theorem dJ2_init_3_9 : decode cJ2_init_3 9 = .ok (.aload_n 0, 1) := by decide +kernel
theorem dJ2_init_3_10 : decode cJ2_init_3 10 = .ok (.iload_n 2, 1) := by decide +kernel
theorem dJ2_init_3_11 : decode cJ2_init_3 11 = .ok (.putfield 15, 3) := by decide +kernel
theorem dJ2_init_3_14 : decode cJ2_init_3 14 = .ok (.return_, 1) := by decide +kernel
abbrev cJ2_length : ByteArray := prog_40_method_54_code
def yJ2_length : MethodName := ⟨"java/lang/String", "length", "()I"⟩
theorem dJ2_length_0 : decode cJ2_length 0 = .ok (.aload_n 0, 1) := by decide +kernel
theorem dJ2_length_1 : decode cJ2_length 1 = .ok (.getfield 9, 3) := by decide +kernel
theorem dJ2_length_4 : decode cJ2_length 4 = .ok (.arraylength, 1) := by decide +kernel
theorem dJ2_length_5 : decode cJ2_length 5 = .ok (.aload_n 0, 1) := by decide +kernel
theorem dJ2_length_6 : decode cJ2_length 6 = .ok (.invokevirtual 335, 3) := by decide +kernel
theorem dJ2_length_9 : decode cJ2_length 9 = .ok (.ishr, 1) := by decide +kernel
theorem dJ2_length_10 : decode cJ2_length 10 = .ok (.ireturn, 1) := by decide +kernel
abbrev cJ2_coder : ByteArray := prog_40_method_152_code
def yJ2_coder : MethodName := ⟨"java/lang/String", "coder", "()B"⟩
theorem dJ2_coder_0 : decode cJ2_coder 0 = .ok (.getstatic 38, 3) := by decide +kernel
theorem dJ2_coder_3 : decode cJ2_coder 3 = .ok (.ifCond .eq 10, 3) := by decide +kernel
theorem dJ2_coder_6 : decode cJ2_coder 6 = .ok (.aload_n 0, 1) := by decide +kernel
theorem dJ2_coder_7 : decode cJ2_coder 7 = .ok (.getfield 15, 3) := by decide +kernel
theorem dJ2_coder_10 : decode cJ2_coder 10 = .ok (.goto 4, 3) := by decide +kernel
theorem dJ2_coder_13 : decode cJ2_coder 13 = .ok (.iconst 1, 1) := by decide +kernel
theorem dJ2_coder_14 : decode cJ2_coder 14 = .ok (.ireturn, 1) := by decide +kernel
abbrev cJ2_equals : ByteArray := prog_40_method_66_code
def yJ2_equals : MethodName := ⟨"java/lang/String", "equals", "(Ljava/lang/Object;)Z"⟩
theorem dJ2_equals_0 : decode cJ2_equals 0 = .ok (.aload_n 0, 1) := by decide +kernel
theorem dJ2_equals_1 : decode cJ2_equals 1 = .ok (.aload_n 1, 1) := by decide +kernel
theorem dJ2_equals_2 : decode cJ2_equals 2 = .ok (.if_acmp .ne 5, 3) := by decide +kernel
theorem dJ2_equals_5 : decode cJ2_equals 5 = .ok (.iconst 1, 1) := by decide +kernel
theorem dJ2_equals_6 : decode cJ2_equals 6 = .ok (.ireturn, 1) := by decide +kernel
theorem dJ2_equals_7 : decode cJ2_equals 7 = .ok (.aload_n 1, 1) := by decide +kernel
theorem dJ2_equals_8 : decode cJ2_equals 8 = .ok (.instanceof 10, 3) := by decide +kernel
theorem dJ2_equals_11 : decode cJ2_equals 11 = .ok (.ifCond .eq 43, 3) := by decide +kernel
theorem dJ2_equals_14 : decode cJ2_equals 14 = .ok (.aload_n 1, 1) := by decide +kernel
theorem dJ2_equals_15 : decode cJ2_equals 15 = .ok (.checkcast 10, 3) := by decide +kernel
theorem dJ2_equals_18 : decode cJ2_equals 18 = .ok (.astore_n 2, 1) := by decide +kernel
theorem dJ2_equals_19 : decode cJ2_equals 19 = .ok (.getstatic 38, 3) := by decide +kernel
theorem dJ2_equals_22 : decode cJ2_equals 22 = .ok (.ifCond .eq 14, 3) := by decide +kernel
theorem dJ2_equals_25 : decode cJ2_equals 25 = .ok (.aload_n 0, 1) := by decide +kernel
theorem dJ2_equals_26 : decode cJ2_equals 26 = .ok (.getfield 15, 3) := by decide +kernel
theorem dJ2_equals_29 : decode cJ2_equals 29 = .ok (.aload_n 2, 1) := by decide +kernel
theorem dJ2_equals_30 : decode cJ2_equals 30 = .ok (.getfield 15, 3) := by decide +kernel
theorem dJ2_equals_33 : decode cJ2_equals 33 = .ok (.if_icmp .ne 21, 3) := by decide +kernel
theorem dJ2_equals_36 : decode cJ2_equals 36 = .ok (.aload_n 0, 1) := by decide +kernel
theorem dJ2_equals_37 : decode cJ2_equals 37 = .ok (.getfield 9, 3) := by decide +kernel
theorem dJ2_equals_40 : decode cJ2_equals 40 = .ok (.aload_n 2, 1) := by decide +kernel
theorem dJ2_equals_41 : decode cJ2_equals 41 = .ok (.getfield 9, 3) := by decide +kernel
theorem dJ2_equals_44 : decode cJ2_equals 44 = .ok (.invokestatic 541, 3) := by decide +kernel
theorem dJ2_equals_47 : decode cJ2_equals 47 = .ok (.ifCond .eq 7, 3) := by decide +kernel
theorem dJ2_equals_50 : decode cJ2_equals 50 = .ok (.iconst 1, 1) := by decide +kernel
theorem dJ2_equals_51 : decode cJ2_equals 51 = .ok (.goto 4, 3) := by decide +kernel
theorem dJ2_equals_54 : decode cJ2_equals 54 = .ok (.iconst 0, 1) := by decide +kernel
theorem dJ2_equals_55 : decode cJ2_equals 55 = .ok (.ireturn, 1) := by decide +kernel
abbrev cJ2_charAt : ByteArray := prog_40_method_56_code
def yJ2_charAt : MethodName := ⟨"java/lang/String", "charAt", "(I)C"⟩
theorem dJ2_charAt_0 : decode cJ2_charAt 0 = .ok (.aload_n 0, 1) := by decide +kernel
theorem dJ2_charAt_1 : decode cJ2_charAt 1 = .ok (.invokevirtual 492, 3) := by decide +kernel
theorem dJ2_charAt_4 : decode cJ2_charAt 4 = .ok (.ifCond .eq 12, 3) := by decide +kernel
theorem dJ2_charAt_7 : decode cJ2_charAt 7 = .ok (.aload_n 0, 1) := by decide +kernel
theorem dJ2_charAt_8 : decode cJ2_charAt 8 = .ok (.getfield 9, 3) := by decide +kernel
theorem dJ2_charAt_11 : decode cJ2_charAt 11 = .ok (.iload_n 1, 1) := by decide +kernel
theorem dJ2_charAt_12 : decode cJ2_charAt 12 = .ok (.invokestatic 495, 3) := by decide +kernel
theorem dJ2_charAt_15 : decode cJ2_charAt 15 = .ok (.ireturn, 1) := by decide +kernel
theorem dJ2_charAt_16 : decode cJ2_charAt 16 = .ok (.aload_n 0, 1) := by decide +kernel
theorem dJ2_charAt_17 : decode cJ2_charAt 17 = .ok (.getfield 9, 3) := by decide +kernel
theorem dJ2_charAt_20 : decode cJ2_charAt 20 = .ok (.iload_n 1, 1) := by decide +kernel
theorem dJ2_charAt_21 : decode cJ2_charAt 21 = .ok (.invokestatic 498, 3) := by decide +kernel
theorem dJ2_charAt_24 : decode cJ2_charAt 24 = .ok (.ireturn, 1) := by decide +kernel
abbrev cJ2_isLatin1 : ByteArray := prog_40_method_154_code
def yJ2_isLatin1 : MethodName := ⟨"java/lang/String", "isLatin1", "()Z"⟩
theorem dJ2_isLatin1_0 : decode cJ2_isLatin1 0 = .ok (.getstatic 38, 3) := by decide +kernel
theorem dJ2_isLatin1_3 : decode cJ2_isLatin1 3 = .ok (.ifCond .eq 14, 3) := by decide +kernel
theorem dJ2_isLatin1_6 : decode cJ2_isLatin1 6 = .ok (.aload_n 0, 1) := by decide +kernel
theorem dJ2_isLatin1_7 : decode cJ2_isLatin1 7 = .ok (.getfield 15, 3) := by decide +kernel
theorem dJ2_isLatin1_10 : decode cJ2_isLatin1 10 = .ok (.ifCond .ne 7, 3) := by decide +kernel
theorem dJ2_isLatin1_13 : decode cJ2_isLatin1 13 = .ok (.iconst 1, 1) := by decide +kernel
theorem dJ2_isLatin1_14 : decode cJ2_isLatin1 14 = .ok (.goto 4, 3) := by decide +kernel
theorem dJ2_isLatin1_17 : decode cJ2_isLatin1 17 = .ok (.iconst 0, 1) := by decide +kernel
theorem dJ2_isLatin1_18 : decode cJ2_isLatin1 18 = .ok (.ireturn, 1) := by decide +kernel
abbrev cJ2_substring : ByteArray := prog_40_method_92_code
def yJ2_substring : MethodName := ⟨"java/lang/String", "substring", "(II)Ljava/lang/String;"⟩
theorem dJ2_substring_0 : decode cJ2_substring 0 = .ok (.aload_n 0, 1) := by decide +kernel
theorem dJ2_substring_1 : decode cJ2_substring 1 = .ok (.invokevirtual 505, 3) := by decide +kernel
theorem dJ2_substring_4 : decode cJ2_substring 4 = .ok (.istore_n 3, 1) := by decide +kernel
theorem dJ2_substring_5 : decode cJ2_substring 5 = .ok (.iload_n 1, 1) := by decide +kernel
theorem dJ2_substring_6 : decode cJ2_substring 6 = .ok (.iload_n 2, 1) := by decide +kernel
theorem dJ2_substring_7 : decode cJ2_substring 7 = .ok (.iload_n 3, 1) := by decide +kernel
theorem dJ2_substring_8 : decode cJ2_substring 8 = .ok (.invokestatic 521, 3) := by decide +kernel
theorem dJ2_substring_11 : decode cJ2_substring 11 = .ok (.iload_n 1, 1) := by decide +kernel
theorem dJ2_substring_12 : decode cJ2_substring 12 = .ok (.ifCond .ne 10, 3) := by decide +kernel
theorem dJ2_substring_15 : decode cJ2_substring 15 = .ok (.iload_n 2, 1) := by decide +kernel
theorem dJ2_substring_16 : decode cJ2_substring 16 = .ok (.iload_n 3, 1) := by decide +kernel
theorem dJ2_substring_17 : decode cJ2_substring 17 = .ok (.if_icmp .ne 5, 3) := by decide +kernel
theorem dJ2_substring_20 : decode cJ2_substring 20 = .ok (.aload_n 0, 1) := by decide +kernel
theorem dJ2_substring_21 : decode cJ2_substring 21 = .ok (.areturn, 1) := by decide +kernel
theorem dJ2_substring_22 : decode cJ2_substring 22 = .ok (.iload_n 2, 1) := by decide +kernel
theorem dJ2_substring_23 : decode cJ2_substring 23 = .ok (.iload_n 1, 1) := by decide +kernel
theorem dJ2_substring_24 : decode cJ2_substring 24 = .ok (.isub, 1) := by decide +kernel
theorem dJ2_substring_25 : decode cJ2_substring 25 = .ok (.istore 4, 2) := by decide +kernel
theorem dJ2_substring_27 : decode cJ2_substring 27 = .ok (.aload_n 0, 1) := by decide +kernel
theorem dJ2_substring_28 : decode cJ2_substring 28 = .ok (.invokevirtual 492, 3) := by decide +kernel
theorem dJ2_substring_31 : decode cJ2_substring 31 = .ok (.ifCond .eq 16, 3) := by decide +kernel
theorem dJ2_substring_34 : decode cJ2_substring 34 = .ok (.aload_n 0, 1) := by decide +kernel
theorem dJ2_substring_35 : decode cJ2_substring 35 = .ok (.getfield 9, 3) := by decide +kernel
theorem dJ2_substring_38 : decode cJ2_substring 38 = .ok (.iload_n 1, 1) := by decide +kernel
theorem dJ2_substring_39 : decode cJ2_substring 39 = .ok (.iload 4, 2) := by decide +kernel
theorem dJ2_substring_41 : decode cJ2_substring 41 = .ok (.invokestatic 685, 3) := by decide +kernel
theorem dJ2_substring_44 : decode cJ2_substring 44 = .ok (.goto 13, 3) := by decide +kernel
theorem dJ2_substring_47 : decode cJ2_substring 47 = .ok (.aload_n 0, 1) := by decide +kernel
theorem dJ2_substring_48 : decode cJ2_substring 48 = .ok (.getfield 9, 3) := by decide +kernel
theorem dJ2_substring_51 : decode cJ2_substring 51 = .ok (.iload_n 1, 1) := by decide +kernel
theorem dJ2_substring_52 : decode cJ2_substring 52 = .ok (.iload 4, 2) := by decide +kernel
theorem dJ2_substring_54 : decode cJ2_substring 54 = .ok (.invokestatic 689, 3) := by decide +kernel
theorem dJ2_substring_57 : decode cJ2_substring 57 = .ok (.areturn, 1) := by decide +kernel
abbrev cJ2_hashCode : ByteArray := prog_40_method_78_code
def yJ2_hashCode : MethodName := ⟨"java/lang/String", "hashCode", "()I"⟩
theorem dJ2_hashCode_0 : decode cJ2_hashCode 0 = .ok (.aload_n 0, 1) := by decide +kernel
theorem dJ2_hashCode_1 : decode cJ2_hashCode 1 = .ok (.getfield 19, 3) := by decide +kernel
theorem dJ2_hashCode_4 : decode cJ2_hashCode 4 = .ok (.istore_n 1, 1) := by decide +kernel
theorem dJ2_hashCode_5 : decode cJ2_hashCode 5 = .ok (.iload_n 1, 1) := by decide +kernel
theorem dJ2_hashCode_6 : decode cJ2_hashCode 6 = .ok (.ifCond .ne 52, 3) := by decide +kernel
theorem dJ2_hashCode_9 : decode cJ2_hashCode 9 = .ok (.aload_n 0, 1) := by decide +kernel
theorem dJ2_hashCode_10 : decode cJ2_hashCode 10 = .ok (.getfield 23, 3) := by decide +kernel
theorem dJ2_hashCode_13 : decode cJ2_hashCode 13 = .ok (.ifCond .ne 45, 3) := by decide +kernel
theorem dJ2_hashCode_16 : decode cJ2_hashCode 16 = .ok (.aload_n 0, 1) := by decide +kernel
theorem dJ2_hashCode_17 : decode cJ2_hashCode 17 = .ok (.invokevirtual 492, 3) := by decide +kernel
theorem dJ2_hashCode_20 : decode cJ2_hashCode 20 = .ok (.ifCond .eq 13, 3) := by decide +kernel
theorem dJ2_hashCode_23 : decode cJ2_hashCode 23 = .ok (.aload_n 0, 1) := by decide +kernel
theorem dJ2_hashCode_24 : decode cJ2_hashCode 24 = .ok (.getfield 9, 3) := by decide +kernel
theorem dJ2_hashCode_27 : decode cJ2_hashCode 27 = .ok (.invokestatic 628, 3) := by decide +kernel
theorem dJ2_hashCode_30 : decode cJ2_hashCode 30 = .ok (.goto 10, 3) := by decide +kernel
theorem dJ2_hashCode_33 : decode cJ2_hashCode 33 = .ok (.aload_n 0, 1) := by decide +kernel
theorem dJ2_hashCode_34 : decode cJ2_hashCode 34 = .ok (.getfield 9, 3) := by decide +kernel
theorem dJ2_hashCode_37 : decode cJ2_hashCode 37 = .ok (.invokestatic 632, 3) := by decide +kernel
theorem dJ2_hashCode_40 : decode cJ2_hashCode 40 = .ok (.istore_n 1, 1) := by decide +kernel
theorem dJ2_hashCode_41 : decode cJ2_hashCode 41 = .ok (.iload_n 1, 1) := by decide +kernel
theorem dJ2_hashCode_42 : decode cJ2_hashCode 42 = .ok (.ifCond .ne 11, 3) := by decide +kernel
theorem dJ2_hashCode_45 : decode cJ2_hashCode 45 = .ok (.aload_n 0, 1) := by decide +kernel
theorem dJ2_hashCode_46 : decode cJ2_hashCode 46 = .ok (.iconst 1, 1) := by decide +kernel
theorem dJ2_hashCode_47 : decode cJ2_hashCode 47 = .ok (.putfield 23, 3) := by decide +kernel
theorem dJ2_hashCode_50 : decode cJ2_hashCode 50 = .ok (.goto 8, 3) := by decide +kernel
theorem dJ2_hashCode_53 : decode cJ2_hashCode 53 = .ok (.aload_n 0, 1) := by decide +kernel
theorem dJ2_hashCode_54 : decode cJ2_hashCode 54 = .ok (.iload_n 1, 1) := by decide +kernel
theorem dJ2_hashCode_55 : decode cJ2_hashCode 55 = .ok (.putfield 19, 3) := by decide +kernel
theorem dJ2_hashCode_58 : decode cJ2_hashCode 58 = .ok (.iload_n 1, 1) := by decide +kernel
theorem dJ2_hashCode_59 : decode cJ2_hashCode 59 = .ok (.ireturn, 1) := by decide +kernel
abbrev cJ2_checkIndex : ByteArray := prog_40_method_155_code
def yJ2_checkIndex : MethodName := ⟨"java/lang/String", "checkIndex", "(II)V"⟩
theorem dJ2_checkIndex_0 : decode cJ2_checkIndex 0 = .ok (.iload_n 0, 1) := by decide +kernel
theorem dJ2_checkIndex_1 : decode cJ2_checkIndex 1 = .ok (.iload_n 1, 1) := by decide +kernel
theorem dJ2_checkIndex_2 : decode cJ2_checkIndex 2 = .ok (.getstatic 1053, 3) := by decide +kernel
theorem dJ2_checkIndex_5 : decode cJ2_checkIndex 5 = .ok (.invokestatic 1059, 3) := by decide +kernel
theorem dJ2_checkIndex_8 : decode cJ2_checkIndex 8 = .ok (.pop, 1) := by decide +kernel
theorem dJ2_checkIndex_9 : decode cJ2_checkIndex 9 = .ok (.return_, 1) := by decide +kernel
abbrev cJ2_checkBoundsBeginEnd : ByteArray := prog_40_method_158_code
def yJ2_checkBoundsBeginEnd : MethodName := ⟨"java/lang/String", "checkBoundsBeginEnd", "(III)V"⟩
theorem dJ2_checkBoundsBeginEnd_0 : decode cJ2_checkBoundsBeginEnd 0 = .ok (.iload_n 0, 1) := by decide +kernel
theorem dJ2_checkBoundsBeginEnd_1 : decode cJ2_checkBoundsBeginEnd 1 = .ok (.iload_n 1, 1) := by decide +kernel
theorem dJ2_checkBoundsBeginEnd_2 : decode cJ2_checkBoundsBeginEnd 2 = .ok (.iload_n 2, 1) := by decide +kernel
theorem dJ2_checkBoundsBeginEnd_3 : decode cJ2_checkBoundsBeginEnd 3 = .ok (.getstatic 1053, 3) := by decide +kernel
theorem dJ2_checkBoundsBeginEnd_6 : decode cJ2_checkBoundsBeginEnd 6 = .ok (.invokestatic 1062, 3) := by decide +kernel
theorem dJ2_checkBoundsBeginEnd_9 : decode cJ2_checkBoundsBeginEnd 9 = .ok (.pop, 1) := by decide +kernel
theorem dJ2_checkBoundsBeginEnd_10 : decode cJ2_checkBoundsBeginEnd 10 = .ok (.return_, 1) := by decide +kernel
abbrev cJ8_vectorizedHashCode : ByteArray := prog_53_method_4_code
def yJ8_vectorizedHashCode : MethodName := ⟨"jdk/internal/util/ArraysSupport", "vectorizedHashCode", "(Ljava/lang/Object;IIII)I"⟩
theorem dJ8_vectorizedHashCode_0 : decode cJ8_vectorizedHashCode 0 = .ok (.iload 4, 2) := by decide +kernel
theorem dJ8_vectorizedHashCode_2 : decode cJ8_vectorizedHashCode 2 = .ok (.tableswitch 127 4 10 #[42, 55, 127, 127, 88, 101, 114], 42) := by decide +kernel
theorem dJ8_vectorizedHashCode_44 : decode cJ8_vectorizedHashCode 44 = .ok (.iload_n 3, 1) := by decide +kernel
theorem dJ8_vectorizedHashCode_45 : decode cJ8_vectorizedHashCode 45 = .ok (.aload_n 0, 1) := by decide +kernel
theorem dJ8_vectorizedHashCode_46 : decode cJ8_vectorizedHashCode 46 = .ok (.checkcast 60, 3) := by decide +kernel
theorem dJ8_vectorizedHashCode_49 : decode cJ8_vectorizedHashCode 49 = .ok (.iload_n 1, 1) := by decide +kernel
theorem dJ8_vectorizedHashCode_50 : decode cJ8_vectorizedHashCode 50 = .ok (.iload_n 2, 1) := by decide +kernel
theorem dJ8_vectorizedHashCode_51 : decode cJ8_vectorizedHashCode 51 = .ok (.invokestatic 62, 3) := by decide +kernel
theorem dJ8_vectorizedHashCode_54 : decode cJ8_vectorizedHashCode 54 = .ok (.goto 103, 3) := by decide +kernel
theorem dJ8_vectorizedHashCode_57 : decode cJ8_vectorizedHashCode 57 = .ok (.aload_n 0, 1) := by decide +kernel
theorem dJ8_vectorizedHashCode_58 : decode cJ8_vectorizedHashCode 58 = .ok (.instanceof 60, 3) := by decide +kernel
theorem dJ8_vectorizedHashCode_61 : decode cJ8_vectorizedHashCode 61 = .ok (.ifCond .eq 16, 3) := by decide +kernel
theorem dJ8_vectorizedHashCode_64 : decode cJ8_vectorizedHashCode 64 = .ok (.iload_n 3, 1) := by decide +kernel
theorem dJ8_vectorizedHashCode_65 : decode cJ8_vectorizedHashCode 65 = .ok (.aload_n 0, 1) := by decide +kernel
theorem dJ8_vectorizedHashCode_66 : decode cJ8_vectorizedHashCode 66 = .ok (.checkcast 60, 3) := by decide +kernel
theorem dJ8_vectorizedHashCode_69 : decode cJ8_vectorizedHashCode 69 = .ok (.iload_n 1, 1) := by decide +kernel
theorem dJ8_vectorizedHashCode_70 : decode cJ8_vectorizedHashCode 70 = .ok (.iload_n 2, 1) := by decide +kernel
theorem dJ8_vectorizedHashCode_71 : decode cJ8_vectorizedHashCode 71 = .ok (.invokestatic 66, 3) := by decide +kernel
theorem dJ8_vectorizedHashCode_74 : decode cJ8_vectorizedHashCode 74 = .ok (.goto 83, 3) := by decide +kernel
theorem dJ8_vectorizedHashCode_77 : decode cJ8_vectorizedHashCode 77 = .ok (.iload_n 3, 1) := by decide +kernel
theorem dJ8_vectorizedHashCode_78 : decode cJ8_vectorizedHashCode 78 = .ok (.aload_n 0, 1) := by decide +kernel
theorem dJ8_vectorizedHashCode_79 : decode cJ8_vectorizedHashCode 79 = .ok (.checkcast 69, 3) := by decide +kernel
theorem dJ8_vectorizedHashCode_82 : decode cJ8_vectorizedHashCode 82 = .ok (.iload_n 1, 1) := by decide +kernel
theorem dJ8_vectorizedHashCode_83 : decode cJ8_vectorizedHashCode 83 = .ok (.iload_n 2, 1) := by decide +kernel
theorem dJ8_vectorizedHashCode_84 : decode cJ8_vectorizedHashCode 84 = .ok (.invokestatic 71, 3) := by decide +kernel
theorem dJ8_vectorizedHashCode_87 : decode cJ8_vectorizedHashCode 87 = .ok (.goto 70, 3) := by decide +kernel
theorem dJ8_vectorizedHashCode_90 : decode cJ8_vectorizedHashCode 90 = .ok (.iload_n 3, 1) := by decide +kernel
theorem dJ8_vectorizedHashCode_91 : decode cJ8_vectorizedHashCode 91 = .ok (.aload_n 0, 1) := by decide +kernel
theorem dJ8_vectorizedHashCode_92 : decode cJ8_vectorizedHashCode 92 = .ok (.checkcast 60, 3) := by decide +kernel
theorem dJ8_vectorizedHashCode_95 : decode cJ8_vectorizedHashCode 95 = .ok (.iload_n 1, 1) := by decide +kernel
theorem dJ8_vectorizedHashCode_96 : decode cJ8_vectorizedHashCode 96 = .ok (.iload_n 2, 1) := by decide +kernel
theorem dJ8_vectorizedHashCode_97 : decode cJ8_vectorizedHashCode 97 = .ok (.invokestatic 75, 3) := by decide +kernel
theorem dJ8_vectorizedHashCode_100 : decode cJ8_vectorizedHashCode 100 = .ok (.goto 57, 3) := by decide +kernel
theorem dJ8_vectorizedHashCode_103 : decode cJ8_vectorizedHashCode 103 = .ok (.iload_n 3, 1) := by decide +kernel
theorem dJ8_vectorizedHashCode_104 : decode cJ8_vectorizedHashCode 104 = .ok (.aload_n 0, 1) := by decide +kernel
theorem dJ8_vectorizedHashCode_105 : decode cJ8_vectorizedHashCode 105 = .ok (.checkcast 77, 3) := by decide +kernel
theorem dJ8_vectorizedHashCode_108 : decode cJ8_vectorizedHashCode 108 = .ok (.iload_n 1, 1) := by decide +kernel
theorem dJ8_vectorizedHashCode_109 : decode cJ8_vectorizedHashCode 109 = .ok (.iload_n 2, 1) := by decide +kernel
theorem dJ8_vectorizedHashCode_110 : decode cJ8_vectorizedHashCode 110 = .ok (.invokestatic 79, 3) := by decide +kernel
theorem dJ8_vectorizedHashCode_113 : decode cJ8_vectorizedHashCode 113 = .ok (.goto 44, 3) := by decide +kernel
theorem dJ8_vectorizedHashCode_116 : decode cJ8_vectorizedHashCode 116 = .ok (.iload_n 3, 1) := by decide +kernel
theorem dJ8_vectorizedHashCode_117 : decode cJ8_vectorizedHashCode 117 = .ok (.aload_n 0, 1) := by decide +kernel
theorem dJ8_vectorizedHashCode_118 : decode cJ8_vectorizedHashCode 118 = .ok (.checkcast 82, 3) := by decide +kernel
theorem dJ8_vectorizedHashCode_121 : decode cJ8_vectorizedHashCode 121 = .ok (.iload_n 1, 1) := by decide +kernel
theorem dJ8_vectorizedHashCode_122 : decode cJ8_vectorizedHashCode 122 = .ok (.iload_n 2, 1) := by decide +kernel
theorem dJ8_vectorizedHashCode_123 : decode cJ8_vectorizedHashCode 123 = .ok (.invokestatic 84, 3) := by decide +kernel
theorem dJ8_vectorizedHashCode_126 : decode cJ8_vectorizedHashCode 126 = .ok (.goto 31, 3) := by decide +kernel
theorem dJ8_vectorizedHashCode_129 : decode cJ8_vectorizedHashCode 129 = .ok (.new 87, 3) := by decide +kernel
theorem dJ8_vectorizedHashCode_132 : decode cJ8_vectorizedHashCode 132 = .ok (.dup, 1) := by decide +kernel
theorem dJ8_vectorizedHashCode_133 : decode cJ8_vectorizedHashCode 133 = .ok (.new 89, 3) := by decide +kernel
theorem dJ8_vectorizedHashCode_136 : decode cJ8_vectorizedHashCode 136 = .ok (.dup, 1) := by decide +kernel
theorem dJ8_vectorizedHashCode_137 : decode cJ8_vectorizedHashCode 137 = .ok (.invokespecial 91, 3) := by decide +kernel
theorem dJ8_vectorizedHashCode_140 : decode cJ8_vectorizedHashCode 140 = .ok (.ldc 92, 2) := by decide +kernel
theorem dJ8_vectorizedHashCode_142 : decode cJ8_vectorizedHashCode 142 = .ok (.invokevirtual 94, 3) := by decide +kernel
theorem dJ8_vectorizedHashCode_145 : decode cJ8_vectorizedHashCode 145 = .ok (.iload 4, 2) := by decide +kernel
theorem dJ8_vectorizedHashCode_147 : decode cJ8_vectorizedHashCode 147 = .ok (.invokevirtual 98, 3) := by decide +kernel
theorem dJ8_vectorizedHashCode_150 : decode cJ8_vectorizedHashCode 150 = .ok (.invokevirtual 101, 3) := by decide +kernel
theorem dJ8_vectorizedHashCode_153 : decode cJ8_vectorizedHashCode 153 = .ok (.invokespecial 105, 3) := by decide +kernel
theorem dJ8_vectorizedHashCode_156 : decode cJ8_vectorizedHashCode 156 = .ok (.athrow, 1) := by decide +kernel
theorem dJ8_vectorizedHashCode_157 : decode cJ8_vectorizedHashCode 157 = .ok (.ireturn, 1) := by decide +kernel
abbrev cJ8_signedHashCode : ByteArray := prog_53_method_5_code
def yJ8_signedHashCode : MethodName := ⟨"jdk/internal/util/ArraysSupport", "signedHashCode", "(I[BII)I"⟩
theorem dJ8_signedHashCode_0 : decode cJ8_signedHashCode 0 = .ok (.iload_n 2, 1) := by decide +kernel
theorem dJ8_signedHashCode_1 : decode cJ8_signedHashCode 1 = .ok (.iload_n 3, 1) := by decide +kernel
theorem dJ8_signedHashCode_2 : decode cJ8_signedHashCode 2 = .ok (.iadd, 1) := by decide +kernel
theorem dJ8_signedHashCode_3 : decode cJ8_signedHashCode 3 = .ok (.istore 4, 2) := by decide +kernel
theorem dJ8_signedHashCode_5 : decode cJ8_signedHashCode 5 = .ok (.iload_n 2, 1) := by decide +kernel
theorem dJ8_signedHashCode_6 : decode cJ8_signedHashCode 6 = .ok (.istore 5, 2) := by decide +kernel
theorem dJ8_signedHashCode_8 : decode cJ8_signedHashCode 8 = .ok (.iload 5, 2) := by decide +kernel
theorem dJ8_signedHashCode_10 : decode cJ8_signedHashCode 10 = .ok (.iload 4, 2) := by decide +kernel
theorem dJ8_signedHashCode_12 : decode cJ8_signedHashCode 12 = .ok (.if_icmp .ge 23, 3) := by decide +kernel
theorem dJ8_signedHashCode_15 : decode cJ8_signedHashCode 15 = .ok (.bipush 31, 2) := by decide +kernel
theorem dJ8_signedHashCode_17 : decode cJ8_signedHashCode 17 = .ok (.iload_n 0, 1) := by decide +kernel
theorem dJ8_signedHashCode_18 : decode cJ8_signedHashCode 18 = .ok (.imul, 1) := by decide +kernel
theorem dJ8_signedHashCode_19 : decode cJ8_signedHashCode 19 = .ok (.aload_n 1, 1) := by decide +kernel
theorem dJ8_signedHashCode_20 : decode cJ8_signedHashCode 20 = .ok (.iload 5, 2) := by decide +kernel
theorem dJ8_signedHashCode_22 : decode cJ8_signedHashCode 22 = .ok (.baload, 1) := by decide +kernel
theorem dJ8_signedHashCode_23 : decode cJ8_signedHashCode 23 = .ok (.sipush 255, 3) := by decide +kernel
theorem dJ8_signedHashCode_26 : decode cJ8_signedHashCode 26 = .ok (.iand, 1) := by decide +kernel
theorem dJ8_signedHashCode_27 : decode cJ8_signedHashCode 27 = .ok (.iadd, 1) := by decide +kernel
theorem dJ8_signedHashCode_28 : decode cJ8_signedHashCode 28 = .ok (.istore_n 0, 1) := by decide +kernel
theorem dJ8_signedHashCode_29 : decode cJ8_signedHashCode 29 = .ok (.iinc 5 1, 3) := by decide +kernel
theorem dJ8_signedHashCode_32 : decode cJ8_signedHashCode 32 = .ok (.goto (-24), 3) := by decide +kernel
theorem dJ8_signedHashCode_35 : decode cJ8_signedHashCode 35 = .ok (.iload_n 0, 1) := by decide +kernel
theorem dJ8_signedHashCode_36 : decode cJ8_signedHashCode 36 = .ok (.ireturn, 1) := by decide +kernel
abbrev cJ9_min : ByteArray := prog_37_method_69_code
def yJ9_min : MethodName := ⟨"java/lang/Math", "min", "(II)I"⟩
theorem dJ9_min_0 : decode cJ9_min 0 = .ok (.iload_n 0, 1) := by decide +kernel
theorem dJ9_min_1 : decode cJ9_min 1 = .ok (.iload_n 1, 1) := by decide +kernel
theorem dJ9_min_2 : decode cJ9_min 2 = .ok (.if_icmp .gt 7, 3) := by decide +kernel
theorem dJ9_min_5 : decode cJ9_min 5 = .ok (.iload_n 0, 1) := by decide +kernel
theorem dJ9_min_6 : decode cJ9_min 6 = .ok (.goto 4, 3) := by decide +kernel
theorem dJ9_min_9 : decode cJ9_min 9 = .ok (.iload_n 1, 1) := by decide +kernel
theorem dJ9_min_10 : decode cJ9_min 10 = .ok (.ireturn, 1) := by decide +kernel
abbrev cJ10_copyOfRange : ByteArray := prog_50_method_132_code
def yJ10_copyOfRange : MethodName := ⟨"java/util/Arrays", "copyOfRange", "([BII)[B"⟩
theorem dJ10_copyOfRange_0 : decode cJ10_copyOfRange 0 = .ok (.iload_n 1, 1) := by decide +kernel
theorem dJ10_copyOfRange_1 : decode cJ10_copyOfRange 1 = .ok (.ifCond .ne 9, 3) := by decide +kernel
theorem dJ10_copyOfRange_4 : decode cJ10_copyOfRange 4 = .ok (.iload_n 2, 1) := by decide +kernel
theorem dJ10_copyOfRange_5 : decode cJ10_copyOfRange 5 = .ok (.aload_n 0, 1) := by decide +kernel
theorem dJ10_copyOfRange_6 : decode cJ10_copyOfRange 6 = .ok (.arraylength, 1) := by decide +kernel
theorem dJ10_copyOfRange_7 : decode cJ10_copyOfRange 7 = .ok (.if_icmp .eq 10, 3) := by decide +kernel
theorem dJ10_copyOfRange_10 : decode cJ10_copyOfRange 10 = .ok (.aload_n 0, 1) := by decide +kernel
theorem dJ10_copyOfRange_11 : decode cJ10_copyOfRange 11 = .ok (.iload_n 1, 1) := by decide +kernel
theorem dJ10_copyOfRange_12 : decode cJ10_copyOfRange 12 = .ok (.iload_n 2, 1) := by decide +kernel
theorem dJ10_copyOfRange_13 : decode cJ10_copyOfRange 13 = .ok (.invokestatic 339, 3) := by decide +kernel
theorem dJ10_copyOfRange_16 : decode cJ10_copyOfRange 16 = .ok (.areturn, 1) := by decide +kernel
theorem dJ10_copyOfRange_17 : decode cJ10_copyOfRange 17 = .ok (.aload_n 0, 1) := by decide +kernel
theorem dJ10_copyOfRange_18 : decode cJ10_copyOfRange 18 = .ok (.invokevirtual 310, 3) := by decide +kernel
theorem dJ10_copyOfRange_21 : decode cJ10_copyOfRange 21 = .ok (.checkcast 311, 3) := by decide +kernel
theorem dJ10_copyOfRange_24 : decode cJ10_copyOfRange 24 = .ok (.areturn, 1) := by decide +kernel
abbrev cJ10_copyOfRangeByte : ByteArray := prog_50_method_133_code
def yJ10_copyOfRangeByte : MethodName := ⟨"java/util/Arrays", "copyOfRangeByte", "([BII)[B"⟩
theorem dJ10_copyOfRangeByte_0 : decode cJ10_copyOfRangeByte 0 = .ok (.iload_n 1, 1) := by decide +kernel
theorem dJ10_copyOfRangeByte_1 : decode cJ10_copyOfRangeByte 1 = .ok (.iload_n 2, 1) := by decide +kernel
theorem dJ10_copyOfRangeByte_2 : decode cJ10_copyOfRangeByte 2 = .ok (.invokestatic 343, 3) := by decide +kernel
theorem dJ10_copyOfRangeByte_5 : decode cJ10_copyOfRangeByte 5 = .ok (.iload_n 2, 1) := by decide +kernel
theorem dJ10_copyOfRangeByte_6 : decode cJ10_copyOfRangeByte 6 = .ok (.iload_n 1, 1) := by decide +kernel
theorem dJ10_copyOfRangeByte_7 : decode cJ10_copyOfRangeByte 7 = .ok (.isub, 1) := by decide +kernel
theorem dJ10_copyOfRangeByte_8 : decode cJ10_copyOfRangeByte 8 = .ok (.istore_n 3, 1) := by decide +kernel
theorem dJ10_copyOfRangeByte_9 : decode cJ10_copyOfRangeByte 9 = .ok (.iload_n 3, 1) := by decide +kernel
theorem dJ10_copyOfRangeByte_10 : decode cJ10_copyOfRangeByte 10 = .ok (.newarray .byte, 2) := by decide +kernel
theorem dJ10_copyOfRangeByte_12 : decode cJ10_copyOfRangeByte 12 = .ok (.astore 4, 2) := by decide +kernel
theorem dJ10_copyOfRangeByte_14 : decode cJ10_copyOfRangeByte 14 = .ok (.aload_n 0, 1) := by decide +kernel
theorem dJ10_copyOfRangeByte_15 : decode cJ10_copyOfRangeByte 15 = .ok (.iload_n 1, 1) := by decide +kernel
theorem dJ10_copyOfRangeByte_16 : decode cJ10_copyOfRangeByte 16 = .ok (.aload 4, 2) := by decide +kernel
theorem dJ10_copyOfRangeByte_18 : decode cJ10_copyOfRangeByte 18 = .ok (.iconst 0, 1) := by decide +kernel
theorem dJ10_copyOfRangeByte_19 : decode cJ10_copyOfRangeByte 19 = .ok (.aload_n 0, 1) := by decide +kernel
theorem dJ10_copyOfRangeByte_20 : decode cJ10_copyOfRangeByte 20 = .ok (.arraylength, 1) := by decide +kernel
theorem dJ10_copyOfRangeByte_21 : decode cJ10_copyOfRangeByte 21 = .ok (.iload_n 1, 1) := by decide +kernel
theorem dJ10_copyOfRangeByte_22 : decode cJ10_copyOfRangeByte 22 = .ok (.isub, 1) := by decide +kernel
theorem dJ10_copyOfRangeByte_23 : decode cJ10_copyOfRangeByte 23 = .ok (.iload_n 3, 1) := by decide +kernel
theorem dJ10_copyOfRangeByte_24 : decode cJ10_copyOfRangeByte 24 = .ok (.invokestatic 304, 3) := by decide +kernel
theorem dJ10_copyOfRangeByte_27 : decode cJ10_copyOfRangeByte 27 = .ok (.invokestatic 150, 3) := by decide +kernel
theorem dJ10_copyOfRangeByte_30 : decode cJ10_copyOfRangeByte 30 = .ok (.aload 4, 2) := by decide +kernel
theorem dJ10_copyOfRangeByte_32 : decode cJ10_copyOfRangeByte 32 = .ok (.areturn, 1) := by decide +kernel
abbrev cJ10_checkLength : ByteArray := prog_50_method_131_code
def yJ10_checkLength : MethodName := ⟨"java/util/Arrays", "checkLength", "(II)V"⟩
theorem dJ10_checkLength_0 : decode cJ10_checkLength 0 = .ok (.iload_n 1, 1) := by decide +kernel
theorem dJ10_checkLength_1 : decode cJ10_checkLength 1 = .ok (.iload_n 0, 1) := by decide +kernel
theorem dJ10_checkLength_2 : decode cJ10_checkLength 2 = .ok (.if_icmp .ge 35, 3) := by decide +kernel
theorem dJ10_checkLength_5 : decode cJ10_checkLength 5 = .ok (.new 43, 3) := by decide +kernel
theorem dJ10_checkLength_8 : decode cJ10_checkLength 8 = .ok (.dup, 1) := by decide +kernel
theorem dJ10_checkLength_9 : decode cJ10_checkLength 9 = .ok (.new 45, 3) := by decide +kernel
theorem dJ10_checkLength_12 : decode cJ10_checkLength 12 = .ok (.dup, 1) := by decide +kernel
theorem dJ10_checkLength_13 : decode cJ10_checkLength 13 = .ok (.invokespecial 47, 3) := by decide +kernel
theorem dJ10_checkLength_16 : decode cJ10_checkLength 16 = .ok (.iload_n 0, 1) := by decide +kernel
theorem dJ10_checkLength_17 : decode cJ10_checkLength 17 = .ok (.invokevirtual 54, 3) := by decide +kernel
theorem dJ10_checkLength_20 : decode cJ10_checkLength 20 = .ok (.ldc_w 337, 3) := by decide +kernel
theorem dJ10_checkLength_23 : decode cJ10_checkLength 23 = .ok (.invokevirtual 50, 3) := by decide +kernel
theorem dJ10_checkLength_26 : decode cJ10_checkLength 26 = .ok (.iload_n 1, 1) := by decide +kernel
theorem dJ10_checkLength_27 : decode cJ10_checkLength 27 = .ok (.invokevirtual 54, 3) := by decide +kernel
theorem dJ10_checkLength_30 : decode cJ10_checkLength 30 = .ok (.invokevirtual 61, 3) := by decide +kernel
theorem dJ10_checkLength_33 : decode cJ10_checkLength 33 = .ok (.invokespecial 65, 3) := by decide +kernel
theorem dJ10_checkLength_36 : decode cJ10_checkLength 36 = .ok (.athrow, 1) := by decide +kernel
theorem dJ10_checkLength_37 : decode cJ10_checkLength 37 = .ok (.return_, 1) := by decide +kernel
abbrev cJ11_canEncode : ByteArray := prog_42_method_3_code
def yJ11_canEncode : MethodName := ⟨"java/lang/StringLatin1", "canEncode", "(C)Z"⟩
theorem dJ11_canEncode_0 : decode cJ11_canEncode 0 = .ok (.iload_n 0, 1) := by decide +kernel
theorem dJ11_canEncode_1 : decode cJ11_canEncode 1 = .ok (.sipush 255, 3) := by decide +kernel
theorem dJ11_canEncode_4 : decode cJ11_canEncode 4 = .ok (.if_icmp .gt 7, 3) := by decide +kernel
theorem dJ11_canEncode_7 : decode cJ11_canEncode 7 = .ok (.iconst 1, 1) := by decide +kernel
theorem dJ11_canEncode_8 : decode cJ11_canEncode 8 = .ok (.goto 4, 3) := by decide +kernel
theorem dJ11_canEncode_11 : decode cJ11_canEncode 11 = .ok (.iconst 0, 1) := by decide +kernel
theorem dJ11_canEncode_12 : decode cJ11_canEncode 12 = .ok (.ireturn, 1) := by decide +kernel
abbrev cJ11_equals : ByteArray := prog_42_method_13_code
def yJ11_equals : MethodName := ⟨"java/lang/StringLatin1", "equals", "([B[B)Z"⟩
theorem dJ11_equals_0 : decode cJ11_equals 0 = .ok (.aload_n 0, 1) := by decide +kernel
theorem dJ11_equals_1 : decode cJ11_equals 1 = .ok (.arraylength, 1) := by decide +kernel
theorem dJ11_equals_2 : decode cJ11_equals 2 = .ok (.aload_n 1, 1) := by decide +kernel
theorem dJ11_equals_3 : decode cJ11_equals 3 = .ok (.arraylength, 1) := by decide +kernel
theorem dJ11_equals_4 : decode cJ11_equals 4 = .ok (.if_icmp .ne 30, 3) := by decide +kernel
theorem dJ11_equals_7 : decode cJ11_equals 7 = .ok (.iconst 0, 1) := by decide +kernel
theorem dJ11_equals_8 : decode cJ11_equals 8 = .ok (.istore_n 2, 1) := by decide +kernel
theorem dJ11_equals_9 : decode cJ11_equals 9 = .ok (.iload_n 2, 1) := by decide +kernel
theorem dJ11_equals_10 : decode cJ11_equals 10 = .ok (.aload_n 0, 1) := by decide +kernel
theorem dJ11_equals_11 : decode cJ11_equals 11 = .ok (.arraylength, 1) := by decide +kernel
theorem dJ11_equals_12 : decode cJ11_equals 12 = .ok (.if_icmp .ge 20, 3) := by decide +kernel
theorem dJ11_equals_15 : decode cJ11_equals 15 = .ok (.aload_n 0, 1) := by decide +kernel
theorem dJ11_equals_16 : decode cJ11_equals 16 = .ok (.iload_n 2, 1) := by decide +kernel
theorem dJ11_equals_17 : decode cJ11_equals 17 = .ok (.baload, 1) := by decide +kernel
theorem dJ11_equals_18 : decode cJ11_equals 18 = .ok (.aload_n 1, 1) := by decide +kernel
theorem dJ11_equals_19 : decode cJ11_equals 19 = .ok (.iload_n 2, 1) := by decide +kernel
theorem dJ11_equals_20 : decode cJ11_equals 20 = .ok (.baload, 1) := by decide +kernel
theorem dJ11_equals_21 : decode cJ11_equals 21 = .ok (.if_icmp .eq 5, 3) := by decide +kernel
theorem dJ11_equals_24 : decode cJ11_equals 24 = .ok (.iconst 0, 1) := by decide +kernel
theorem dJ11_equals_25 : decode cJ11_equals 25 = .ok (.ireturn, 1) := by decide +kernel
theorem dJ11_equals_26 : decode cJ11_equals 26 = .ok (.iinc 2 1, 3) := by decide +kernel
theorem dJ11_equals_29 : decode cJ11_equals 29 = .ok (.goto (-20), 3) := by decide +kernel
theorem dJ11_equals_32 : decode cJ11_equals 32 = .ok (.iconst 1, 1) := by decide +kernel
theorem dJ11_equals_33 : decode cJ11_equals 33 = .ok (.ireturn, 1) := by decide +kernel
theorem dJ11_equals_34 : decode cJ11_equals 34 = .ok (.iconst 0, 1) := by decide +kernel
theorem dJ11_equals_35 : decode cJ11_equals 35 = .ok (.ireturn, 1) := by decide +kernel
