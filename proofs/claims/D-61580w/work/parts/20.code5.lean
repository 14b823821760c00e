set_option maxRecDepth 100000
abbrev cJ11_charAt : ByteArray := prog_42_method_2_code
def yJ11_charAt : MethodName := ⟨"java/lang/StringLatin1", "charAt", "([BI)C"⟩
theorem dJ11_charAt_0 : decode cJ11_charAt 0 = .ok (.iload_n 1, 1) := by decide +kernel
theorem dJ11_charAt_1 : decode cJ11_charAt 1 = .ok (.aload_n 0, 1) := by decide +kernel
theorem dJ11_charAt_2 : decode cJ11_charAt 2 = .ok (.arraylength, 1) := by decide +kernel
theorem dJ11_charAt_3 : decode cJ11_charAt 3 = .ok (.invokestatic 9, 3) := by decide +kernel
theorem dJ11_charAt_6 : decode cJ11_charAt 6 = .ok (.aload_n 0, 1) := by decide +kernel
theorem dJ11_charAt_7 : decode cJ11_charAt 7 = .ok (.iload_n 1, 1) := by decide +kernel
theorem dJ11_charAt_8 : decode cJ11_charAt 8 = .ok (.baload, 1) := by decide +kernel
theorem dJ11_charAt_9 : decode cJ11_charAt 9 = .ok (.sipush 255, 3) := by decide +kernel
theorem dJ11_charAt_12 : decode cJ11_charAt 12 = .ok (.iand, 1) := by decide +kernel
theorem dJ11_charAt_13 : decode cJ11_charAt 13 = .ok (.i2c, 1) := by decide +kernel
theorem dJ11_charAt_14 : decode cJ11_charAt 14 = .ok (.ireturn, 1) := by decide +kernel
abbrev cJ11_newString : ByteArray := prog_42_method_47_code
def yJ11_newString : MethodName := ⟨"java/lang/StringLatin1", "newString", "([BII)Ljava/lang/String;"⟩
theorem dJ11_newString_0 : decode cJ11_newString 0 = .ok (.iload_n 2, 1) := by decide +kernel
theorem dJ11_newString_1 : decode cJ11_newString 1 = .ok (.ifCond .ne 6, 3) := by decide +kernel
theorem dJ11_newString_4 : decode cJ11_newString 4 = .ok (.ldc 151, 2) := by decide +kernel
theorem dJ11_newString_6 : decode cJ11_newString 6 = .ok (.areturn, 1) := by decide +kernel
theorem dJ11_newString_7 : decode cJ11_newString 7 = .ok (.new 1, 3) := by decide +kernel
theorem dJ11_newString_10 : decode cJ11_newString 10 = .ok (.dup, 1) := by decide +kernel
theorem dJ11_newString_11 : decode cJ11_newString 11 = .ok (.aload_n 0, 1) := by decide +kernel
theorem dJ11_newString_12 : decode cJ11_newString 12 = .ok (.iload_n 1, 1) := by decide +kernel
theorem dJ11_newString_13 : decode cJ11_newString 13 = .ok (.iload_n 1, 1) := by decide +kernel
theorem dJ11_newString_14 : decode cJ11_newString 14 = .ok (.iload_n 2, 1) := by decide +kernel
theorem dJ11_newString_15 : decode cJ11_newString 15 = .ok (.iadd, 1) := by decide +kernel
theorem dJ11_newString_16 : decode cJ11_newString 16 = .ok (.invokestatic 232, 3) := by decide +kernel
theorem dJ11_newString_19 : decode cJ11_newString 19 = .ok (.iconst 0, 1) := by decide +kernel
theorem dJ11_newString_20 : decode cJ11_newString 20 = .ok (.invokespecial 112, 3) := by decide +kernel
theorem dJ11_newString_23 : decode cJ11_newString 23 = .ok (.areturn, 1) := by decide +kernel
abbrev cJ11_hashCode : ByteArray := prog_42_method_21_code
def yJ11_hashCode : MethodName := ⟨"java/lang/StringLatin1", "hashCode", "([B)I"⟩
theorem dJ11_hashCode_0 : decode cJ11_hashCode 0 = .ok (.aload_n 0, 1) := by decide +kernel
theorem dJ11_hashCode_1 : decode cJ11_hashCode 1 = .ok (.arraylength, 1) := by decide +kernel
theorem dJ11_hashCode_2 : decode cJ11_hashCode 2 = .ok (.lookupswitch 40 #[(0, 26), (1, 30)], 26) := by decide +kernel
theorem dJ11_hashCode_28 : decode cJ11_hashCode 28 = .ok (.iconst 0, 1) := by decide +kernel
theorem dJ11_hashCode_29 : decode cJ11_hashCode 29 = .ok (.goto 22, 3) := by decide +kernel
theorem dJ11_hashCode_32 : decode cJ11_hashCode 32 = .ok (.aload_n 0, 1) := by decide +kernel
theorem dJ11_hashCode_33 : decode cJ11_hashCode 33 = .ok (.iconst 0, 1) := by decide +kernel
theorem dJ11_hashCode_34 : decode cJ11_hashCode 34 = .ok (.baload, 1) := by decide +kernel
theorem dJ11_hashCode_35 : decode cJ11_hashCode 35 = .ok (.sipush 255, 3) := by decide +kernel
theorem dJ11_hashCode_38 : decode cJ11_hashCode 38 = .ok (.iand, 1) := by decide +kernel
theorem dJ11_hashCode_39 : decode cJ11_hashCode 39 = .ok (.goto 12, 3) := by decide +kernel
theorem dJ11_hashCode_42 : decode cJ11_hashCode 42 = .ok (.aload_n 0, 1) := by decide +kernel
theorem dJ11_hashCode_43 : decode cJ11_hashCode 43 = .ok (.iconst 0, 1) := by decide +kernel
theorem dJ11_hashCode_44 : decode cJ11_hashCode 44 = .ok (.aload_n 0, 1) := by decide +kernel
theorem dJ11_hashCode_45 : decode cJ11_hashCode 45 = .ok (.arraylength, 1) := by decide +kernel
theorem dJ11_hashCode_46 : decode cJ11_hashCode 46 = .ok (.iconst 0, 1) := by decide +kernel
theorem dJ11_hashCode_47 : decode cJ11_hashCode 47 = .ok (.iconst 4, 1) := by decide +kernel
theorem dJ11_hashCode_48 : decode cJ11_hashCode 48 = .ok (.invokestatic 84, 3) := by decide +kernel
theorem dJ11_hashCode_51 : decode cJ11_hashCode 51 = .ok (.ireturn, 1) := by decide +kernel
abbrev cJ12_checkIndex : ByteArray := prog_54_method_11_code
def yJ12_checkIndex : MethodName := ⟨"jdk/internal/util/Preconditions", "checkIndex", "(IILjava/util/function/BiFunction;)I"⟩
theorem dJ12_checkIndex_0 : decode cJ12_checkIndex 0 = .ok (.iload_n 0, 1) := by decide +kernel
theorem dJ12_checkIndex_1 : decode cJ12_checkIndex 1 = .ok (.ifCond .lt 8, 3) := by decide +kernel
theorem dJ12_checkIndex_4 : decode cJ12_checkIndex 4 = .ok (.iload_n 0, 1) := by decide +kernel
theorem dJ12_checkIndex_5 : decode cJ12_checkIndex 5 = .ok (.iload_n 1, 1) := by decide +kernel
theorem dJ12_checkIndex_6 : decode cJ12_checkIndex 6 = .ok (.if_icmp .lt 10, 3) := by decide +kernel
theorem dJ12_checkIndex_9 : decode cJ12_checkIndex 9 = .ok (.aload_n 2, 1) := by decide +kernel
theorem dJ12_checkIndex_10 : decode cJ12_checkIndex 10 = .ok (.iload_n 0, 1) := by decide +kernel
theorem dJ12_checkIndex_11 : decode cJ12_checkIndex 11 = .ok (.iload_n 1, 1) := by decide +kernel
theorem dJ12_checkIndex_12 : decode cJ12_checkIndex 12 = .ok (.invokestatic 95, 3) := by decide +kernel
theorem dJ12_checkIndex_15 : decode cJ12_checkIndex 15 = .ok (.athrow, 1) := by decide +kernel
theorem dJ12_checkIndex_16 : decode cJ12_checkIndex 16 = .ok (.iload_n 0, 1) := by decide +kernel
theorem dJ12_checkIndex_17 : decode cJ12_checkIndex 17 = .ok (.ireturn, 1) := by decide +kernel
abbrev cJ12_checkFromToIndex : ByteArray := prog_54_method_12_code
def yJ12_checkFromToIndex : MethodName := ⟨"jdk/internal/util/Preconditions", "checkFromToIndex", "(IIILjava/util/function/BiFunction;)I"⟩
theorem dJ12_checkFromToIndex_0 : decode cJ12_checkFromToIndex 0 = .ok (.iload_n 0, 1) := by decide +kernel
theorem dJ12_checkFromToIndex_1 : decode cJ12_checkFromToIndex 1 = .ok (.ifCond .lt 13, 3) := by decide +kernel
theorem dJ12_checkFromToIndex_4 : decode cJ12_checkFromToIndex 4 = .ok (.iload_n 0, 1) := by decide +kernel
theorem dJ12_checkFromToIndex_5 : decode cJ12_checkFromToIndex 5 = .ok (.iload_n 1, 1) := by decide +kernel
theorem dJ12_checkFromToIndex_6 : decode cJ12_checkFromToIndex 6 = .ok (.if_icmp .gt 8, 3) := by decide +kernel
theorem dJ12_checkFromToIndex_9 : decode cJ12_checkFromToIndex 9 = .ok (.iload_n 1, 1) := by decide +kernel
theorem dJ12_checkFromToIndex_10 : decode cJ12_checkFromToIndex 10 = .ok (.iload_n 2, 1) := by decide +kernel
theorem dJ12_checkFromToIndex_11 : decode cJ12_checkFromToIndex 11 = .ok (.if_icmp .le 11, 3) := by decide +kernel
theorem dJ12_checkFromToIndex_14 : decode cJ12_checkFromToIndex 14 = .ok (.aload_n 3, 1) := by decide +kernel
theorem dJ12_checkFromToIndex_15 : decode cJ12_checkFromToIndex 15 = .ok (.iload_n 0, 1) := by decide +kernel
theorem dJ12_checkFromToIndex_16 : decode cJ12_checkFromToIndex 16 = .ok (.iload_n 1, 1) := by decide +kernel
theorem dJ12_checkFromToIndex_17 : decode cJ12_checkFromToIndex 17 = .ok (.iload_n 2, 1) := by decide +kernel
theorem dJ12_checkFromToIndex_18 : decode cJ12_checkFromToIndex 18 = .ok (.invokestatic 99, 3) := by decide +kernel
theorem dJ12_checkFromToIndex_21 : decode cJ12_checkFromToIndex 21 = .ok (.athrow, 1) := by decide +kernel
theorem dJ12_checkFromToIndex_22 : decode cJ12_checkFromToIndex 22 = .ok (.iload_n 0, 1) := by decide +kernel
theorem dJ12_checkFromToIndex_23 : decode cJ12_checkFromToIndex 23 = .ok (.ireturn, 1) := by decide +kernel
