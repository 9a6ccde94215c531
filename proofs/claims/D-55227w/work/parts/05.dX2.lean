/-! decode rows -/
set_option maxRecDepth 100000
abbrev cX2_init : ByteArray := prog_7_method_1_code
def yX2_init : MethodName := ⟨RX2, "<init>", "()V"⟩
def dkwX2_init_2 : List UInt8 := [187, 0, 36, 89, 16, 8, 183, 0, 38, 181, 0, 41, 42, 16, 21, 181, 0, 45, 177]
abbrev dktX2_init_2 : List UInt8 := dkwX2_init_2 ++ []
def dkwX2_init_1 : List UInt8 := [181, 0, 21, 42, 187, 0, 25, 89, 183, 0, 27, 181, 0, 28, 42, 16, 7, 188, 10, 181, 0, 32, 42]
abbrev dktX2_init_1 : List UInt8 := dkwX2_init_1 ++ dktX2_init_2
def dkwX2_init_0 : List UInt8 := [42, 183, 0, 3, 42, 187, 0, 9, 89, 183, 0, 11, 181, 0, 12, 42, 187, 0, 18, 89, 183, 0, 20]
abbrev dktX2_init_0 : List UInt8 := dkwX2_init_0 ++ dktX2_init_1
theorem dksX2_init_0 : cX2_init.data.toList.drop 0 = dktX2_init_0 := by decide +kernel
theorem dksX2_init_1 : cX2_init.data.toList.drop 23 = dktX2_init_1 := dk_seg dksX2_init_0 23 rfl rfl
theorem dksX2_init_2 : cX2_init.data.toList.drop 46 = dktX2_init_2 := dk_seg dksX2_init_1 23 rfl rfl
theorem dX2_init_0 : decode cX2_init 0 = .ok (.aload_n 0, 1) := dk_42 (dk_at dksX2_init_0 0 rfl rfl)
theorem dX2_init_1 : decode cX2_init 1 = .ok (.invokespecial 3, 3) := dk_183 0 3 (dk_at dksX2_init_0 1 rfl rfl)
theorem dX2_init_4 : decode cX2_init 4 = .ok (.aload_n 0, 1) := dk_42 (dk_at dksX2_init_0 4 rfl rfl)
theorem dX2_init_5 : decode cX2_init 5 = .ok (.new 9, 3) := dk_187 0 9 (dk_at dksX2_init_0 5 rfl rfl)
theorem dX2_init_8 : decode cX2_init 8 = .ok (.dup, 1) := dk_89 (dk_at dksX2_init_0 8 rfl rfl)
theorem dX2_init_9 : decode cX2_init 9 = .ok (.invokespecial 11, 3) := dk_183 0 11 (dk_at dksX2_init_0 9 rfl rfl)
theorem dX2_init_12 : decode cX2_init 12 = .ok (.putfield 12, 3) := dk_181 0 12 (dk_at dksX2_init_0 12 rfl rfl)
theorem dX2_init_15 : decode cX2_init 15 = .ok (.aload_n 0, 1) := dk_42 (dk_at dksX2_init_0 15 rfl rfl)
theorem dX2_init_16 : decode cX2_init 16 = .ok (.new 18, 3) := dk_187 0 18 (dk_at dksX2_init_0 16 rfl rfl)
theorem dX2_init_19 : decode cX2_init 19 = .ok (.dup, 1) := dk_89 (dk_at dksX2_init_0 19 rfl rfl)
theorem dX2_init_20 : decode cX2_init 20 = .ok (.invokespecial 20, 3) := dk_183 0 20 (dk_at dksX2_init_0 20 rfl rfl)
theorem dX2_init_23 : decode cX2_init 23 = .ok (.putfield 21, 3) := dk_181 0 21 (dk_at dksX2_init_1 0 rfl rfl)
theorem dX2_init_26 : decode cX2_init 26 = .ok (.aload_n 0, 1) := dk_42 (dk_at dksX2_init_1 3 rfl rfl)
theorem dX2_init_27 : decode cX2_init 27 = .ok (.new 25, 3) := dk_187 0 25 (dk_at dksX2_init_1 4 rfl rfl)
theorem dX2_init_30 : decode cX2_init 30 = .ok (.dup, 1) := dk_89 (dk_at dksX2_init_1 7 rfl rfl)
theorem dX2_init_31 : decode cX2_init 31 = .ok (.invokespecial 27, 3) := dk_183 0 27 (dk_at dksX2_init_1 8 rfl rfl)
theorem dX2_init_34 : decode cX2_init 34 = .ok (.putfield 28, 3) := dk_181 0 28 (dk_at dksX2_init_1 11 rfl rfl)
theorem dX2_init_37 : decode cX2_init 37 = .ok (.aload_n 0, 1) := dk_42 (dk_at dksX2_init_1 14 rfl rfl)
theorem dX2_init_38 : decode cX2_init 38 = .ok (.bipush 7, 2) := dk_16 7 (dk_at dksX2_init_1 15 rfl rfl)
theorem dX2_init_40 : decode cX2_init 40 = .ok (.newarray .int, 2) := dk_188_10 (dk_at dksX2_init_1 17 rfl rfl)
theorem dX2_init_42 : decode cX2_init 42 = .ok (.putfield 32, 3) := dk_181 0 32 (dk_at dksX2_init_1 19 rfl rfl)
theorem dX2_init_45 : decode cX2_init 45 = .ok (.aload_n 0, 1) := dk_42 (dk_at dksX2_init_1 22 rfl rfl)
theorem dX2_init_46 : decode cX2_init 46 = .ok (.new 36, 3) := dk_187 0 36 (dk_at dksX2_init_2 0 rfl rfl)
theorem dX2_init_49 : decode cX2_init 49 = .ok (.dup, 1) := dk_89 (dk_at dksX2_init_2 3 rfl rfl)
theorem dX2_init_50 : decode cX2_init 50 = .ok (.bipush 8, 2) := dk_16 8 (dk_at dksX2_init_2 4 rfl rfl)
theorem dX2_init_52 : decode cX2_init 52 = .ok (.invokespecial 38, 3) := dk_183 0 38 (dk_at dksX2_init_2 6 rfl rfl)
theorem dX2_init_55 : decode cX2_init 55 = .ok (.putfield 41, 3) := dk_181 0 41 (dk_at dksX2_init_2 9 rfl rfl)
theorem dX2_init_58 : decode cX2_init 58 = .ok (.aload_n 0, 1) := dk_42 (dk_at dksX2_init_2 12 rfl rfl)
theorem dX2_init_59 : decode cX2_init 59 = .ok (.bipush 21, 2) := dk_16 21 (dk_at dksX2_init_2 13 rfl rfl)
theorem dX2_init_61 : decode cX2_init 61 = .ok (.putfield 45, 3) := dk_181 0 45 (dk_at dksX2_init_2 15 rfl rfl)
theorem dX2_init_64 : decode cX2_init 64 = .ok (.return_, 1) := dk_177 (dk_at dksX2_init_2 18 rfl rfl)
abbrev cX2_quarrels : ByteArray := prog_7_method_9_code
def yX2_quarrels : MethodName := ⟨RX2, "quarrels", "()I"⟩
def dkwX2_quarrels_2 : List UInt8 := [28, 4, 96, 182, 0, 124, 61, 167, 255, 212, 27, 172]
abbrev dktX2_quarrels_2 : List UInt8 := dkwX2_quarrels_2 ++ []
def dkwX2_quarrels_1 : List UInt8 := [42, 180, 0, 41, 28, 4, 96, 182, 0, 128, 153, 0, 7, 4, 167, 0, 4, 3, 96, 60, 42, 180, 0, 41]
abbrev dktX2_quarrels_1 : List UInt8 := dkwX2_quarrels_1 ++ dktX2_quarrels_2
def dkwX2_quarrels_0 : List UInt8 := [3, 60, 42, 180, 0, 41, 3, 182, 0, 124, 61, 28, 155, 0, 46, 27, 28, 4, 96, 16, 8, 162, 0, 20]
abbrev dktX2_quarrels_0 : List UInt8 := dkwX2_quarrels_0 ++ dktX2_quarrels_1
theorem dksX2_quarrels_0 : cX2_quarrels.data.toList.drop 0 = dktX2_quarrels_0 := by decide +kernel
theorem dksX2_quarrels_1 : cX2_quarrels.data.toList.drop 24 = dktX2_quarrels_1 := dk_seg dksX2_quarrels_0 24 rfl rfl
theorem dksX2_quarrels_2 : cX2_quarrels.data.toList.drop 48 = dktX2_quarrels_2 := dk_seg dksX2_quarrels_1 24 rfl rfl
theorem dX2_quarrels_0 : decode cX2_quarrels 0 = .ok (.iconst 0, 1) := dk_3 (dk_at dksX2_quarrels_0 0 rfl rfl)
theorem dX2_quarrels_1 : decode cX2_quarrels 1 = .ok (.istore_n 1, 1) := dk_60 (dk_at dksX2_quarrels_0 1 rfl rfl)
theorem dX2_quarrels_2 : decode cX2_quarrels 2 = .ok (.aload_n 0, 1) := dk_42 (dk_at dksX2_quarrels_0 2 rfl rfl)
theorem dX2_quarrels_3 : decode cX2_quarrels 3 = .ok (.getfield 41, 3) := dk_180 0 41 (dk_at dksX2_quarrels_0 3 rfl rfl)
theorem dX2_quarrels_6 : decode cX2_quarrels 6 = .ok (.iconst 0, 1) := dk_3 (dk_at dksX2_quarrels_0 6 rfl rfl)
theorem dX2_quarrels_7 : decode cX2_quarrels 7 = .ok (.invokevirtual 124, 3) := dk_182 0 124 (dk_at dksX2_quarrels_0 7 rfl rfl)
theorem dX2_quarrels_10 : decode cX2_quarrels 10 = .ok (.istore_n 2, 1) := dk_61 (dk_at dksX2_quarrels_0 10 rfl rfl)
theorem dX2_quarrels_11 : decode cX2_quarrels 11 = .ok (.iload_n 2, 1) := dk_28 (dk_at dksX2_quarrels_0 11 rfl rfl)
theorem dX2_quarrels_12 : decode cX2_quarrels 12 = .ok (.ifCond .lt 46, 3) := dk_155 0 46 (dk_at dksX2_quarrels_0 12 rfl rfl)
theorem dX2_quarrels_15 : decode cX2_quarrels 15 = .ok (.iload_n 1, 1) := dk_27 (dk_at dksX2_quarrels_0 15 rfl rfl)
theorem dX2_quarrels_16 : decode cX2_quarrels 16 = .ok (.iload_n 2, 1) := dk_28 (dk_at dksX2_quarrels_0 16 rfl rfl)
theorem dX2_quarrels_17 : decode cX2_quarrels 17 = .ok (.iconst 1, 1) := dk_4 (dk_at dksX2_quarrels_0 17 rfl rfl)
theorem dX2_quarrels_18 : decode cX2_quarrels 18 = .ok (.iadd, 1) := dk_96 (dk_at dksX2_quarrels_0 18 rfl rfl)
theorem dX2_quarrels_19 : decode cX2_quarrels 19 = .ok (.bipush 8, 2) := dk_16 8 (dk_at dksX2_quarrels_0 19 rfl rfl)
theorem dX2_quarrels_21 : decode cX2_quarrels 21 = .ok (.if_icmp .ge 20, 3) := dk_162 0 20 (dk_at dksX2_quarrels_0 21 rfl rfl)
theorem dX2_quarrels_24 : decode cX2_quarrels 24 = .ok (.aload_n 0, 1) := dk_42 (dk_at dksX2_quarrels_1 0 rfl rfl)
theorem dX2_quarrels_25 : decode cX2_quarrels 25 = .ok (.getfield 41, 3) := dk_180 0 41 (dk_at dksX2_quarrels_1 1 rfl rfl)
theorem dX2_quarrels_28 : decode cX2_quarrels 28 = .ok (.iload_n 2, 1) := dk_28 (dk_at dksX2_quarrels_1 4 rfl rfl)
theorem dX2_quarrels_29 : decode cX2_quarrels 29 = .ok (.iconst 1, 1) := dk_4 (dk_at dksX2_quarrels_1 5 rfl rfl)
theorem dX2_quarrels_30 : decode cX2_quarrels 30 = .ok (.iadd, 1) := dk_96 (dk_at dksX2_quarrels_1 6 rfl rfl)
theorem dX2_quarrels_31 : decode cX2_quarrels 31 = .ok (.invokevirtual 128, 3) := dk_182 0 128 (dk_at dksX2_quarrels_1 7 rfl rfl)
theorem dX2_quarrels_34 : decode cX2_quarrels 34 = .ok (.ifCond .eq 7, 3) := dk_153 0 7 (dk_at dksX2_quarrels_1 10 rfl rfl)
theorem dX2_quarrels_37 : decode cX2_quarrels 37 = .ok (.iconst 1, 1) := dk_4 (dk_at dksX2_quarrels_1 13 rfl rfl)
theorem dX2_quarrels_38 : decode cX2_quarrels 38 = .ok (.goto 4, 3) := dk_167 0 4 (dk_at dksX2_quarrels_1 14 rfl rfl)
theorem dX2_quarrels_41 : decode cX2_quarrels 41 = .ok (.iconst 0, 1) := dk_3 (dk_at dksX2_quarrels_1 17 rfl rfl)
theorem dX2_quarrels_42 : decode cX2_quarrels 42 = .ok (.iadd, 1) := dk_96 (dk_at dksX2_quarrels_1 18 rfl rfl)
theorem dX2_quarrels_43 : decode cX2_quarrels 43 = .ok (.istore_n 1, 1) := dk_60 (dk_at dksX2_quarrels_1 19 rfl rfl)
theorem dX2_quarrels_44 : decode cX2_quarrels 44 = .ok (.aload_n 0, 1) := dk_42 (dk_at dksX2_quarrels_1 20 rfl rfl)
theorem dX2_quarrels_45 : decode cX2_quarrels 45 = .ok (.getfield 41, 3) := dk_180 0 41 (dk_at dksX2_quarrels_1 21 rfl rfl)
theorem dX2_quarrels_48 : decode cX2_quarrels 48 = .ok (.iload_n 2, 1) := dk_28 (dk_at dksX2_quarrels_2 0 rfl rfl)
theorem dX2_quarrels_49 : decode cX2_quarrels 49 = .ok (.iconst 1, 1) := dk_4 (dk_at dksX2_quarrels_2 1 rfl rfl)
theorem dX2_quarrels_50 : decode cX2_quarrels 50 = .ok (.iadd, 1) := dk_96 (dk_at dksX2_quarrels_2 2 rfl rfl)
theorem dX2_quarrels_51 : decode cX2_quarrels 51 = .ok (.invokevirtual 124, 3) := dk_182 0 124 (dk_at dksX2_quarrels_2 3 rfl rfl)
theorem dX2_quarrels_54 : decode cX2_quarrels 54 = .ok (.istore_n 2, 1) := dk_61 (dk_at dksX2_quarrels_2 6 rfl rfl)
theorem dX2_quarrels_55 : decode cX2_quarrels 55 = .ok (.goto (-44), 3) := dk_167 255 212 (dk_at dksX2_quarrels_2 7 rfl rfl)
theorem dX2_quarrels_58 : decode cX2_quarrels 58 = .ok (.iload_n 1, 1) := dk_27 (dk_at dksX2_quarrels_2 10 rfl rfl)
theorem dX2_quarrels_59 : decode cX2_quarrels 59 = .ok (.ireturn, 1) := dk_172 (dk_at dksX2_quarrels_2 11 rfl rfl)
abbrev cX2_isCurfewAt : ByteArray := prog_7_method_3_code
def yX2_isCurfewAt : MethodName := ⟨RX2, "isCurfewAt", "(I)Z"⟩
def dkwX2_isCurfewAt_1 : List UInt8 := [172]
abbrev dktX2_isCurfewAt_1 : List UInt8 := dkwX2_isCurfewAt_1 ++ []
def dkwX2_isCurfewAt_0 : List UInt8 := [27, 16, 24, 112, 61, 28, 42, 180, 0, 45, 162, 0, 9, 28, 16, 6, 162, 0, 7, 4, 167, 0, 4, 3]
abbrev dktX2_isCurfewAt_0 : List UInt8 := dkwX2_isCurfewAt_0 ++ dktX2_isCurfewAt_1
theorem dksX2_isCurfewAt_0 : cX2_isCurfewAt.data.toList.drop 0 = dktX2_isCurfewAt_0 := by decide +kernel
theorem dksX2_isCurfewAt_1 : cX2_isCurfewAt.data.toList.drop 24 = dktX2_isCurfewAt_1 := dk_seg dksX2_isCurfewAt_0 24 rfl rfl
theorem dX2_isCurfewAt_0 : decode cX2_isCurfewAt 0 = .ok (.iload_n 1, 1) := dk_27 (dk_at dksX2_isCurfewAt_0 0 rfl rfl)
theorem dX2_isCurfewAt_1 : decode cX2_isCurfewAt 1 = .ok (.bipush 24, 2) := dk_16 24 (dk_at dksX2_isCurfewAt_0 1 rfl rfl)
theorem dX2_isCurfewAt_3 : decode cX2_isCurfewAt 3 = .ok (.irem, 1) := dk_112 (dk_at dksX2_isCurfewAt_0 3 rfl rfl)
theorem dX2_isCurfewAt_4 : decode cX2_isCurfewAt 4 = .ok (.istore_n 2, 1) := dk_61 (dk_at dksX2_isCurfewAt_0 4 rfl rfl)
theorem dX2_isCurfewAt_5 : decode cX2_isCurfewAt 5 = .ok (.iload_n 2, 1) := dk_28 (dk_at dksX2_isCurfewAt_0 5 rfl rfl)
theorem dX2_isCurfewAt_6 : decode cX2_isCurfewAt 6 = .ok (.aload_n 0, 1) := dk_42 (dk_at dksX2_isCurfewAt_0 6 rfl rfl)
theorem dX2_isCurfewAt_7 : decode cX2_isCurfewAt 7 = .ok (.getfield 45, 3) := dk_180 0 45 (dk_at dksX2_isCurfewAt_0 7 rfl rfl)
theorem dX2_isCurfewAt_10 : decode cX2_isCurfewAt 10 = .ok (.if_icmp .ge 9, 3) := dk_162 0 9 (dk_at dksX2_isCurfewAt_0 10 rfl rfl)
theorem dX2_isCurfewAt_13 : decode cX2_isCurfewAt 13 = .ok (.iload_n 2, 1) := dk_28 (dk_at dksX2_isCurfewAt_0 13 rfl rfl)
theorem dX2_isCurfewAt_14 : decode cX2_isCurfewAt 14 = .ok (.bipush 6, 2) := dk_16 6 (dk_at dksX2_isCurfewAt_0 14 rfl rfl)
theorem dX2_isCurfewAt_16 : decode cX2_isCurfewAt 16 = .ok (.if_icmp .ge 7, 3) := dk_162 0 7 (dk_at dksX2_isCurfewAt_0 16 rfl rfl)
theorem dX2_isCurfewAt_19 : decode cX2_isCurfewAt 19 = .ok (.iconst 1, 1) := dk_4 (dk_at dksX2_isCurfewAt_0 19 rfl rfl)
theorem dX2_isCurfewAt_20 : decode cX2_isCurfewAt 20 = .ok (.goto 4, 3) := dk_167 0 4 (dk_at dksX2_isCurfewAt_0 20 rfl rfl)
theorem dX2_isCurfewAt_23 : decode cX2_isCurfewAt 23 = .ok (.iconst 0, 1) := dk_3 (dk_at dksX2_isCurfewAt_0 23 rfl rfl)
theorem dX2_isCurfewAt_24 : decode cX2_isCurfewAt 24 = .ok (.ireturn, 1) := dk_172 (dk_at dksX2_isCurfewAt_1 0 rfl rfl)
abbrev cX2_untilCurfew : ByteArray := prog_7_method_4_code
def yX2_untilCurfew : MethodName := ⟨RX2, "untilCurfew", "(Z)I"⟩
def dkwX2_untilCurfew_0 : List UInt8 := [3, 61, 42, 42, 180, 0, 93, 28, 96, 182, 0, 114, 27, 159, 0, 9, 132, 2, 1, 167, 255, 239, 28, 172]
abbrev dktX2_untilCurfew_0 : List UInt8 := dkwX2_untilCurfew_0 ++ []
theorem dksX2_untilCurfew_0 : cX2_untilCurfew.data.toList.drop 0 = dktX2_untilCurfew_0 := by decide +kernel
theorem dX2_untilCurfew_0 : decode cX2_untilCurfew 0 = .ok (.iconst 0, 1) := dk_3 (dk_at dksX2_untilCurfew_0 0 rfl rfl)
theorem dX2_untilCurfew_1 : decode cX2_untilCurfew 1 = .ok (.istore_n 2, 1) := dk_61 (dk_at dksX2_untilCurfew_0 1 rfl rfl)
theorem dX2_untilCurfew_2 : decode cX2_untilCurfew 2 = .ok (.aload_n 0, 1) := dk_42 (dk_at dksX2_untilCurfew_0 2 rfl rfl)
theorem dX2_untilCurfew_3 : decode cX2_untilCurfew 3 = .ok (.aload_n 0, 1) := dk_42 (dk_at dksX2_untilCurfew_0 3 rfl rfl)
theorem dX2_untilCurfew_4 : decode cX2_untilCurfew 4 = .ok (.getfield 93, 3) := dk_180 0 93 (dk_at dksX2_untilCurfew_0 4 rfl rfl)
theorem dX2_untilCurfew_7 : decode cX2_untilCurfew 7 = .ok (.iload_n 2, 1) := dk_28 (dk_at dksX2_untilCurfew_0 7 rfl rfl)
theorem dX2_untilCurfew_8 : decode cX2_untilCurfew 8 = .ok (.iadd, 1) := dk_96 (dk_at dksX2_untilCurfew_0 8 rfl rfl)
theorem dX2_untilCurfew_9 : decode cX2_untilCurfew 9 = .ok (.invokevirtual 114, 3) := dk_182 0 114 (dk_at dksX2_untilCurfew_0 9 rfl rfl)
theorem dX2_untilCurfew_12 : decode cX2_untilCurfew 12 = .ok (.iload_n 1, 1) := dk_27 (dk_at dksX2_untilCurfew_0 12 rfl rfl)
theorem dX2_untilCurfew_13 : decode cX2_untilCurfew 13 = .ok (.if_icmp .eq 9, 3) := dk_159 0 9 (dk_at dksX2_untilCurfew_0 13 rfl rfl)
theorem dX2_untilCurfew_16 : decode cX2_untilCurfew 16 = .ok (.iinc 2 1, 3) := dk_132 2 1 (dk_at dksX2_untilCurfew_0 16 rfl rfl)
theorem dX2_untilCurfew_19 : decode cX2_untilCurfew 19 = .ok (.goto (-17), 3) := dk_167 255 239 (dk_at dksX2_untilCurfew_0 19 rfl rfl)
theorem dX2_untilCurfew_22 : decode cX2_untilCurfew 22 = .ok (.iload_n 2, 1) := dk_28 (dk_at dksX2_untilCurfew_0 22 rfl rfl)
theorem dX2_untilCurfew_23 : decode cX2_untilCurfew 23 = .ok (.ireturn, 1) := dk_172 (dk_at dksX2_untilCurfew_0 23 rfl rfl)
abbrev cX2_copy : ByteArray := prog_7_method_2_code
def yX2_copy : MethodName := ⟨RX2, "copy", "()LClayPipes$State;"⟩
def dkwX2_copy_10 : List UInt8 := [181, 0, 111, 43, 176]
abbrev dktX2_copy_10 : List UInt8 := dkwX2_copy_10 ++ []
def dkwX2_copy_9 : List UInt8 := [181, 0, 102, 43, 42, 180, 0, 105, 181, 0, 105, 43, 42, 180, 0, 108, 181, 0, 108, 43, 42, 180, 0, 111]
abbrev dktX2_copy_9 : List UInt8 := dkwX2_copy_9 ++ dktX2_copy_10
def dkwX2_copy_8 : List UInt8 := [181, 0, 45, 43, 42, 180, 0, 96, 181, 0, 96, 43, 42, 180, 0, 99, 181, 0, 99, 43, 42, 180, 0, 102]
abbrev dktX2_copy_8 : List UInt8 := dkwX2_copy_8 ++ dktX2_copy_9
def dkwX2_copy_7 : List UInt8 := [180, 0, 41, 42, 180, 0, 41, 182, 0, 89, 43, 42, 180, 0, 93, 181, 0, 93, 43, 42, 180, 0, 45]
abbrev dktX2_copy_7 : List UInt8 := dkwX2_copy_7 ++ dktX2_copy_8
def dkwX2_copy_6 : List UInt8 := [16, 6, 163, 0, 21, 43, 180, 0, 32, 28, 42, 180, 0, 32, 28, 46, 79, 132, 2, 1, 167, 255, 235, 43]
abbrev dktX2_copy_6 : List UInt8 := dkwX2_copy_6 ++ dktX2_copy_7
def dkwX2_copy_5 : List UInt8 := [180, 0, 28, 187, 0, 82, 89, 45, 180, 0, 84, 183, 0, 87, 182, 0, 88, 167, 255, 219, 4, 61, 28]
abbrev dktX2_copy_5 : List UInt8 := dkwX2_copy_5 ++ dktX2_copy_6
def dkwX2_copy_4 : List UInt8 := [182, 0, 81, 77, 44, 185, 0, 54, 1, 0, 153, 0, 34, 44, 185, 0, 60, 1, 0, 192, 0, 82, 78, 43]
abbrev dktX2_copy_4 : List UInt8 := dkwX2_copy_4 ++ dktX2_copy_5
def dkwX2_copy_3 : List UInt8 := [185, 0, 60, 1, 0, 192, 0, 75, 78, 43, 180, 0, 21, 45, 182, 0, 77, 167, 255, 229, 42, 180, 0, 28]
abbrev dktX2_copy_3 : List UInt8 := dkwX2_copy_3 ++ dktX2_copy_4
def dkwX2_copy_2 : List UInt8 := [87, 167, 255, 225, 42, 180, 0, 21, 182, 0, 74, 77, 44, 185, 0, 54, 1, 0, 153, 0, 24, 44]
abbrev dktX2_copy_2 : List UInt8 := dkwX2_copy_2 ++ dktX2_copy_3
def dkwX2_copy_1 : List UInt8 := [153, 0, 28, 44, 185, 0, 60, 1, 0, 192, 0, 64, 78, 43, 180, 0, 12, 45, 182, 0, 66, 182, 0, 70]
abbrev dktX2_copy_1 : List UInt8 := dkwX2_copy_1 ++ dktX2_copy_2
def dkwX2_copy_0 : List UInt8 := [187, 0, 13, 89, 183, 0, 49, 76, 42, 180, 0, 12, 182, 0, 50, 77, 44, 185, 0, 54, 1, 0]
abbrev dktX2_copy_0 : List UInt8 := dkwX2_copy_0 ++ dktX2_copy_1
theorem dksX2_copy_0 : cX2_copy.data.toList.drop 0 = dktX2_copy_0 := by decide +kernel
theorem dksX2_copy_1 : cX2_copy.data.toList.drop 22 = dktX2_copy_1 := dk_seg dksX2_copy_0 22 rfl rfl
theorem dksX2_copy_2 : cX2_copy.data.toList.drop 46 = dktX2_copy_2 := dk_seg dksX2_copy_1 24 rfl rfl
theorem dksX2_copy_3 : cX2_copy.data.toList.drop 68 = dktX2_copy_3 := dk_seg dksX2_copy_2 22 rfl rfl
theorem dksX2_copy_4 : cX2_copy.data.toList.drop 92 = dktX2_copy_4 := dk_seg dksX2_copy_3 24 rfl rfl
theorem dksX2_copy_5 : cX2_copy.data.toList.drop 116 = dktX2_copy_5 := dk_seg dksX2_copy_4 24 rfl rfl
theorem dksX2_copy_6 : cX2_copy.data.toList.drop 139 = dktX2_copy_6 := dk_seg dksX2_copy_5 23 rfl rfl
theorem dksX2_copy_7 : cX2_copy.data.toList.drop 163 = dktX2_copy_7 := dk_seg dksX2_copy_6 24 rfl rfl
theorem dksX2_copy_8 : cX2_copy.data.toList.drop 186 = dktX2_copy_8 := dk_seg dksX2_copy_7 23 rfl rfl
theorem dksX2_copy_9 : cX2_copy.data.toList.drop 210 = dktX2_copy_9 := dk_seg dksX2_copy_8 24 rfl rfl
theorem dksX2_copy_10 : cX2_copy.data.toList.drop 234 = dktX2_copy_10 := dk_seg dksX2_copy_9 24 rfl rfl
theorem dX2_copy_0 : decode cX2_copy 0 = .ok (.new 13, 3) := dk_187 0 13 (dk_at dksX2_copy_0 0 rfl rfl)
theorem dX2_copy_3 : decode cX2_copy 3 = .ok (.dup, 1) := dk_89 (dk_at dksX2_copy_0 3 rfl rfl)
theorem dX2_copy_4 : decode cX2_copy 4 = .ok (.invokespecial 49, 3) := dk_183 0 49 (dk_at dksX2_copy_0 4 rfl rfl)
theorem dX2_copy_7 : decode cX2_copy 7 = .ok (.astore_n 1, 1) := dk_76 (dk_at dksX2_copy_0 7 rfl rfl)
theorem dX2_copy_8 : decode cX2_copy 8 = .ok (.aload_n 0, 1) := dk_42 (dk_at dksX2_copy_0 8 rfl rfl)
theorem dX2_copy_9 : decode cX2_copy 9 = .ok (.getfield 12, 3) := dk_180 0 12 (dk_at dksX2_copy_0 9 rfl rfl)
theorem dX2_copy_12 : decode cX2_copy 12 = .ok (.invokevirtual 50, 3) := dk_182 0 50 (dk_at dksX2_copy_0 12 rfl rfl)
theorem dX2_copy_15 : decode cX2_copy 15 = .ok (.astore_n 2, 1) := dk_77 (dk_at dksX2_copy_0 15 rfl rfl)
theorem dX2_copy_16 : decode cX2_copy 16 = .ok (.aload_n 2, 1) := dk_44 (dk_at dksX2_copy_0 16 rfl rfl)
theorem dX2_copy_17 : decode cX2_copy 17 = .ok (.invokeinterface 54 1, 5) := by decide +kernel
theorem dX2_copy_22 : decode cX2_copy 22 = .ok (.ifCond .eq 28, 3) := dk_153 0 28 (dk_at dksX2_copy_1 0 rfl rfl)
theorem dX2_copy_25 : decode cX2_copy 25 = .ok (.aload_n 2, 1) := dk_44 (dk_at dksX2_copy_1 3 rfl rfl)
theorem dX2_copy_26 : decode cX2_copy 26 = .ok (.invokeinterface 60 1, 5) := by decide +kernel
theorem dX2_copy_31 : decode cX2_copy 31 = .ok (.checkcast 64, 3) := dk_192 0 64 (dk_at dksX2_copy_1 9 rfl rfl)
theorem dX2_copy_34 : decode cX2_copy 34 = .ok (.astore_n 3, 1) := dk_78 (dk_at dksX2_copy_1 12 rfl rfl)
theorem dX2_copy_35 : decode cX2_copy 35 = .ok (.aload_n 1, 1) := dk_43 (dk_at dksX2_copy_1 13 rfl rfl)
theorem dX2_copy_36 : decode cX2_copy 36 = .ok (.getfield 12, 3) := dk_180 0 12 (dk_at dksX2_copy_1 14 rfl rfl)
theorem dX2_copy_39 : decode cX2_copy 39 = .ok (.aload_n 3, 1) := dk_45 (dk_at dksX2_copy_1 17 rfl rfl)
theorem dX2_copy_40 : decode cX2_copy 40 = .ok (.invokevirtual 66, 3) := dk_182 0 66 (dk_at dksX2_copy_1 18 rfl rfl)
theorem dX2_copy_43 : decode cX2_copy 43 = .ok (.invokevirtual 70, 3) := dk_182 0 70 (dk_at dksX2_copy_1 21 rfl rfl)
theorem dX2_copy_46 : decode cX2_copy 46 = .ok (.pop, 1) := dk_87 (dk_at dksX2_copy_2 0 rfl rfl)
theorem dX2_copy_47 : decode cX2_copy 47 = .ok (.goto (-31), 3) := dk_167 255 225 (dk_at dksX2_copy_2 1 rfl rfl)
theorem dX2_copy_50 : decode cX2_copy 50 = .ok (.aload_n 0, 1) := dk_42 (dk_at dksX2_copy_2 4 rfl rfl)
theorem dX2_copy_51 : decode cX2_copy 51 = .ok (.getfield 21, 3) := dk_180 0 21 (dk_at dksX2_copy_2 5 rfl rfl)
theorem dX2_copy_54 : decode cX2_copy 54 = .ok (.invokevirtual 74, 3) := dk_182 0 74 (dk_at dksX2_copy_2 8 rfl rfl)
theorem dX2_copy_57 : decode cX2_copy 57 = .ok (.astore_n 2, 1) := dk_77 (dk_at dksX2_copy_2 11 rfl rfl)
theorem dX2_copy_58 : decode cX2_copy 58 = .ok (.aload_n 2, 1) := dk_44 (dk_at dksX2_copy_2 12 rfl rfl)
theorem dX2_copy_59 : decode cX2_copy 59 = .ok (.invokeinterface 54 1, 5) := by decide +kernel
theorem dX2_copy_64 : decode cX2_copy 64 = .ok (.ifCond .eq 24, 3) := dk_153 0 24 (dk_at dksX2_copy_2 18 rfl rfl)
theorem dX2_copy_67 : decode cX2_copy 67 = .ok (.aload_n 2, 1) := dk_44 (dk_at dksX2_copy_2 21 rfl rfl)
theorem dX2_copy_68 : decode cX2_copy 68 = .ok (.invokeinterface 60 1, 5) := by decide +kernel
theorem dX2_copy_73 : decode cX2_copy 73 = .ok (.checkcast 75, 3) := dk_192 0 75 (dk_at dksX2_copy_3 5 rfl rfl)
theorem dX2_copy_76 : decode cX2_copy 76 = .ok (.astore_n 3, 1) := dk_78 (dk_at dksX2_copy_3 8 rfl rfl)
theorem dX2_copy_77 : decode cX2_copy 77 = .ok (.aload_n 1, 1) := dk_43 (dk_at dksX2_copy_3 9 rfl rfl)
theorem dX2_copy_78 : decode cX2_copy 78 = .ok (.getfield 21, 3) := dk_180 0 21 (dk_at dksX2_copy_3 10 rfl rfl)
theorem dX2_copy_81 : decode cX2_copy 81 = .ok (.aload_n 3, 1) := dk_45 (dk_at dksX2_copy_3 13 rfl rfl)
theorem dX2_copy_82 : decode cX2_copy 82 = .ok (.invokevirtual 77, 3) := dk_182 0 77 (dk_at dksX2_copy_3 14 rfl rfl)
theorem dX2_copy_85 : decode cX2_copy 85 = .ok (.goto (-27), 3) := dk_167 255 229 (dk_at dksX2_copy_3 17 rfl rfl)
theorem dX2_copy_88 : decode cX2_copy 88 = .ok (.aload_n 0, 1) := dk_42 (dk_at dksX2_copy_3 20 rfl rfl)
theorem dX2_copy_89 : decode cX2_copy 89 = .ok (.getfield 28, 3) := dk_180 0 28 (dk_at dksX2_copy_3 21 rfl rfl)
theorem dX2_copy_92 : decode cX2_copy 92 = .ok (.invokevirtual 81, 3) := dk_182 0 81 (dk_at dksX2_copy_4 0 rfl rfl)
theorem dX2_copy_95 : decode cX2_copy 95 = .ok (.astore_n 2, 1) := dk_77 (dk_at dksX2_copy_4 3 rfl rfl)
theorem dX2_copy_96 : decode cX2_copy 96 = .ok (.aload_n 2, 1) := dk_44 (dk_at dksX2_copy_4 4 rfl rfl)
theorem dX2_copy_97 : decode cX2_copy 97 = .ok (.invokeinterface 54 1, 5) := by decide +kernel
theorem dX2_copy_102 : decode cX2_copy 102 = .ok (.ifCond .eq 34, 3) := dk_153 0 34 (dk_at dksX2_copy_4 10 rfl rfl)
theorem dX2_copy_105 : decode cX2_copy 105 = .ok (.aload_n 2, 1) := dk_44 (dk_at dksX2_copy_4 13 rfl rfl)
theorem dX2_copy_106 : decode cX2_copy 106 = .ok (.invokeinterface 60 1, 5) := by decide +kernel
theorem dX2_copy_111 : decode cX2_copy 111 = .ok (.checkcast 82, 3) := dk_192 0 82 (dk_at dksX2_copy_4 19 rfl rfl)
theorem dX2_copy_114 : decode cX2_copy 114 = .ok (.astore_n 3, 1) := dk_78 (dk_at dksX2_copy_4 22 rfl rfl)
theorem dX2_copy_115 : decode cX2_copy 115 = .ok (.aload_n 1, 1) := dk_43 (dk_at dksX2_copy_4 23 rfl rfl)
theorem dX2_copy_116 : decode cX2_copy 116 = .ok (.getfield 28, 3) := dk_180 0 28 (dk_at dksX2_copy_5 0 rfl rfl)
theorem dX2_copy_119 : decode cX2_copy 119 = .ok (.new 82, 3) := dk_187 0 82 (dk_at dksX2_copy_5 3 rfl rfl)
theorem dX2_copy_122 : decode cX2_copy 122 = .ok (.dup, 1) := dk_89 (dk_at dksX2_copy_5 6 rfl rfl)
theorem dX2_copy_123 : decode cX2_copy 123 = .ok (.aload_n 3, 1) := dk_45 (dk_at dksX2_copy_5 7 rfl rfl)
theorem dX2_copy_124 : decode cX2_copy 124 = .ok (.getfield 84, 3) := dk_180 0 84 (dk_at dksX2_copy_5 8 rfl rfl)
theorem dX2_copy_127 : decode cX2_copy 127 = .ok (.invokespecial 87, 3) := dk_183 0 87 (dk_at dksX2_copy_5 11 rfl rfl)
theorem dX2_copy_130 : decode cX2_copy 130 = .ok (.invokevirtual 88, 3) := dk_182 0 88 (dk_at dksX2_copy_5 14 rfl rfl)
theorem dX2_copy_133 : decode cX2_copy 133 = .ok (.goto (-37), 3) := dk_167 255 219 (dk_at dksX2_copy_5 17 rfl rfl)
theorem dX2_copy_136 : decode cX2_copy 136 = .ok (.iconst 1, 1) := dk_4 (dk_at dksX2_copy_5 20 rfl rfl)
theorem dX2_copy_137 : decode cX2_copy 137 = .ok (.istore_n 2, 1) := dk_61 (dk_at dksX2_copy_5 21 rfl rfl)
theorem dX2_copy_138 : decode cX2_copy 138 = .ok (.iload_n 2, 1) := dk_28 (dk_at dksX2_copy_5 22 rfl rfl)
theorem dX2_copy_139 : decode cX2_copy 139 = .ok (.bipush 6, 2) := dk_16 6 (dk_at dksX2_copy_6 0 rfl rfl)
theorem dX2_copy_141 : decode cX2_copy 141 = .ok (.if_icmp .gt 21, 3) := dk_163 0 21 (dk_at dksX2_copy_6 2 rfl rfl)
theorem dX2_copy_144 : decode cX2_copy 144 = .ok (.aload_n 1, 1) := dk_43 (dk_at dksX2_copy_6 5 rfl rfl)
theorem dX2_copy_145 : decode cX2_copy 145 = .ok (.getfield 32, 3) := dk_180 0 32 (dk_at dksX2_copy_6 6 rfl rfl)
theorem dX2_copy_148 : decode cX2_copy 148 = .ok (.iload_n 2, 1) := dk_28 (dk_at dksX2_copy_6 9 rfl rfl)
theorem dX2_copy_149 : decode cX2_copy 149 = .ok (.aload_n 0, 1) := dk_42 (dk_at dksX2_copy_6 10 rfl rfl)
theorem dX2_copy_150 : decode cX2_copy 150 = .ok (.getfield 32, 3) := dk_180 0 32 (dk_at dksX2_copy_6 11 rfl rfl)
theorem dX2_copy_153 : decode cX2_copy 153 = .ok (.iload_n 2, 1) := dk_28 (dk_at dksX2_copy_6 14 rfl rfl)
theorem dX2_copy_154 : decode cX2_copy 154 = .ok (.iaload, 1) := dk_46 (dk_at dksX2_copy_6 15 rfl rfl)
theorem dX2_copy_155 : decode cX2_copy 155 = .ok (.iastore, 1) := dk_79 (dk_at dksX2_copy_6 16 rfl rfl)
theorem dX2_copy_156 : decode cX2_copy 156 = .ok (.iinc 2 1, 3) := dk_132 2 1 (dk_at dksX2_copy_6 17 rfl rfl)
theorem dX2_copy_159 : decode cX2_copy 159 = .ok (.goto (-21), 3) := dk_167 255 235 (dk_at dksX2_copy_6 20 rfl rfl)
theorem dX2_copy_162 : decode cX2_copy 162 = .ok (.aload_n 1, 1) := dk_43 (dk_at dksX2_copy_6 23 rfl rfl)
theorem dX2_copy_163 : decode cX2_copy 163 = .ok (.getfield 41, 3) := dk_180 0 41 (dk_at dksX2_copy_7 0 rfl rfl)
theorem dX2_copy_166 : decode cX2_copy 166 = .ok (.aload_n 0, 1) := dk_42 (dk_at dksX2_copy_7 3 rfl rfl)
theorem dX2_copy_167 : decode cX2_copy 167 = .ok (.getfield 41, 3) := dk_180 0 41 (dk_at dksX2_copy_7 4 rfl rfl)
theorem dX2_copy_170 : decode cX2_copy 170 = .ok (.invokevirtual 89, 3) := dk_182 0 89 (dk_at dksX2_copy_7 7 rfl rfl)
theorem dX2_copy_173 : decode cX2_copy 173 = .ok (.aload_n 1, 1) := dk_43 (dk_at dksX2_copy_7 10 rfl rfl)
theorem dX2_copy_174 : decode cX2_copy 174 = .ok (.aload_n 0, 1) := dk_42 (dk_at dksX2_copy_7 11 rfl rfl)
theorem dX2_copy_175 : decode cX2_copy 175 = .ok (.getfield 93, 3) := dk_180 0 93 (dk_at dksX2_copy_7 12 rfl rfl)
theorem dX2_copy_178 : decode cX2_copy 178 = .ok (.putfield 93, 3) := dk_181 0 93 (dk_at dksX2_copy_7 15 rfl rfl)
theorem dX2_copy_181 : decode cX2_copy 181 = .ok (.aload_n 1, 1) := dk_43 (dk_at dksX2_copy_7 18 rfl rfl)
theorem dX2_copy_182 : decode cX2_copy 182 = .ok (.aload_n 0, 1) := dk_42 (dk_at dksX2_copy_7 19 rfl rfl)
theorem dX2_copy_183 : decode cX2_copy 183 = .ok (.getfield 45, 3) := dk_180 0 45 (dk_at dksX2_copy_7 20 rfl rfl)
theorem dX2_copy_186 : decode cX2_copy 186 = .ok (.putfield 45, 3) := dk_181 0 45 (dk_at dksX2_copy_8 0 rfl rfl)
theorem dX2_copy_189 : decode cX2_copy 189 = .ok (.aload_n 1, 1) := dk_43 (dk_at dksX2_copy_8 3 rfl rfl)
theorem dX2_copy_190 : decode cX2_copy 190 = .ok (.aload_n 0, 1) := dk_42 (dk_at dksX2_copy_8 4 rfl rfl)
theorem dX2_copy_191 : decode cX2_copy 191 = .ok (.getfield 96, 3) := dk_180 0 96 (dk_at dksX2_copy_8 5 rfl rfl)
theorem dX2_copy_194 : decode cX2_copy 194 = .ok (.putfield 96, 3) := dk_181 0 96 (dk_at dksX2_copy_8 8 rfl rfl)
theorem dX2_copy_197 : decode cX2_copy 197 = .ok (.aload_n 1, 1) := dk_43 (dk_at dksX2_copy_8 11 rfl rfl)
theorem dX2_copy_198 : decode cX2_copy 198 = .ok (.aload_n 0, 1) := dk_42 (dk_at dksX2_copy_8 12 rfl rfl)
theorem dX2_copy_199 : decode cX2_copy 199 = .ok (.getfield 99, 3) := dk_180 0 99 (dk_at dksX2_copy_8 13 rfl rfl)
theorem dX2_copy_202 : decode cX2_copy 202 = .ok (.putfield 99, 3) := dk_181 0 99 (dk_at dksX2_copy_8 16 rfl rfl)
theorem dX2_copy_205 : decode cX2_copy 205 = .ok (.aload_n 1, 1) := dk_43 (dk_at dksX2_copy_8 19 rfl rfl)
theorem dX2_copy_206 : decode cX2_copy 206 = .ok (.aload_n 0, 1) := dk_42 (dk_at dksX2_copy_8 20 rfl rfl)
theorem dX2_copy_207 : decode cX2_copy 207 = .ok (.getfield 102, 3) := dk_180 0 102 (dk_at dksX2_copy_8 21 rfl rfl)
theorem dX2_copy_210 : decode cX2_copy 210 = .ok (.putfield 102, 3) := dk_181 0 102 (dk_at dksX2_copy_9 0 rfl rfl)
theorem dX2_copy_213 : decode cX2_copy 213 = .ok (.aload_n 1, 1) := dk_43 (dk_at dksX2_copy_9 3 rfl rfl)
theorem dX2_copy_214 : decode cX2_copy 214 = .ok (.aload_n 0, 1) := dk_42 (dk_at dksX2_copy_9 4 rfl rfl)
theorem dX2_copy_215 : decode cX2_copy 215 = .ok (.getfield 105, 3) := dk_180 0 105 (dk_at dksX2_copy_9 5 rfl rfl)
theorem dX2_copy_218 : decode cX2_copy 218 = .ok (.putfield 105, 3) := dk_181 0 105 (dk_at dksX2_copy_9 8 rfl rfl)
theorem dX2_copy_221 : decode cX2_copy 221 = .ok (.aload_n 1, 1) := dk_43 (dk_at dksX2_copy_9 11 rfl rfl)
theorem dX2_copy_222 : decode cX2_copy 222 = .ok (.aload_n 0, 1) := dk_42 (dk_at dksX2_copy_9 12 rfl rfl)
theorem dX2_copy_223 : decode cX2_copy 223 = .ok (.getfield 108, 3) := dk_180 0 108 (dk_at dksX2_copy_9 13 rfl rfl)
theorem dX2_copy_226 : decode cX2_copy 226 = .ok (.putfield 108, 3) := dk_181 0 108 (dk_at dksX2_copy_9 16 rfl rfl)
theorem dX2_copy_229 : decode cX2_copy 229 = .ok (.aload_n 1, 1) := dk_43 (dk_at dksX2_copy_9 19 rfl rfl)
theorem dX2_copy_230 : decode cX2_copy 230 = .ok (.aload_n 0, 1) := dk_42 (dk_at dksX2_copy_9 20 rfl rfl)
theorem dX2_copy_231 : decode cX2_copy 231 = .ok (.getfield 111, 3) := dk_180 0 111 (dk_at dksX2_copy_9 21 rfl rfl)
theorem dX2_copy_234 : decode cX2_copy 234 = .ok (.putfield 111, 3) := dk_181 0 111 (dk_at dksX2_copy_10 0 rfl rfl)
theorem dX2_copy_237 : decode cX2_copy 237 = .ok (.aload_n 1, 1) := dk_43 (dk_at dksX2_copy_10 3 rfl rfl)
theorem dX2_copy_238 : decode cX2_copy 238 = .ok (.areturn, 1) := dk_176 (dk_at dksX2_copy_10 4 rfl rfl)
abbrev cX2_couldMend : ByteArray := prog_7_method_15_code
def yX2_couldMend : MethodName := ⟨RX2, "couldMend", "(LClayPipes$Pipe;)Z"⟩
def dkwX2_couldMend_1 : List UInt8 := [182, 0, 158, 182, 0, 161, 2, 159, 0, 7, 4, 167, 0, 4, 3, 172]
abbrev dktX2_couldMend_1 : List UInt8 := dkwX2_couldMend_1 ++ []
def dkwX2_couldMend_0 : List UInt8 := [42, 180, 0, 28, 182, 0, 152, 43, 182, 0, 155, 161, 0, 26, 43, 182, 0, 158, 153, 0, 15, 42, 43]
abbrev dktX2_couldMend_0 : List UInt8 := dkwX2_couldMend_0 ++ dktX2_couldMend_1
theorem dksX2_couldMend_0 : cX2_couldMend.data.toList.drop 0 = dktX2_couldMend_0 := by decide +kernel
theorem dksX2_couldMend_1 : cX2_couldMend.data.toList.drop 23 = dktX2_couldMend_1 := dk_seg dksX2_couldMend_0 23 rfl rfl
theorem dX2_couldMend_0 : decode cX2_couldMend 0 = .ok (.aload_n 0, 1) := dk_42 (dk_at dksX2_couldMend_0 0 rfl rfl)
theorem dX2_couldMend_1 : decode cX2_couldMend 1 = .ok (.getfield 28, 3) := dk_180 0 28 (dk_at dksX2_couldMend_0 1 rfl rfl)
theorem dX2_couldMend_4 : decode cX2_couldMend 4 = .ok (.invokevirtual 152, 3) := dk_182 0 152 (dk_at dksX2_couldMend_0 4 rfl rfl)
theorem dX2_couldMend_7 : decode cX2_couldMend 7 = .ok (.aload_n 1, 1) := dk_43 (dk_at dksX2_couldMend_0 7 rfl rfl)
theorem dX2_couldMend_8 : decode cX2_couldMend 8 = .ok (.invokevirtual 155, 3) := dk_182 0 155 (dk_at dksX2_couldMend_0 8 rfl rfl)
theorem dX2_couldMend_11 : decode cX2_couldMend 11 = .ok (.if_icmp .lt 26, 3) := dk_161 0 26 (dk_at dksX2_couldMend_0 11 rfl rfl)
theorem dX2_couldMend_14 : decode cX2_couldMend 14 = .ok (.aload_n 1, 1) := dk_43 (dk_at dksX2_couldMend_0 14 rfl rfl)
theorem dX2_couldMend_15 : decode cX2_couldMend 15 = .ok (.invokevirtual 158, 3) := dk_182 0 158 (dk_at dksX2_couldMend_0 15 rfl rfl)
theorem dX2_couldMend_18 : decode cX2_couldMend 18 = .ok (.ifCond .eq 15, 3) := dk_153 0 15 (dk_at dksX2_couldMend_0 18 rfl rfl)
theorem dX2_couldMend_21 : decode cX2_couldMend 21 = .ok (.aload_n 0, 1) := dk_42 (dk_at dksX2_couldMend_0 21 rfl rfl)
theorem dX2_couldMend_22 : decode cX2_couldMend 22 = .ok (.aload_n 1, 1) := dk_43 (dk_at dksX2_couldMend_0 22 rfl rfl)
theorem dX2_couldMend_23 : decode cX2_couldMend 23 = .ok (.invokevirtual 158, 3) := dk_182 0 158 (dk_at dksX2_couldMend_1 0 rfl rfl)
theorem dX2_couldMend_26 : decode cX2_couldMend 26 = .ok (.invokevirtual 161, 3) := dk_182 0 161 (dk_at dksX2_couldMend_1 3 rfl rfl)
theorem dX2_couldMend_29 : decode cX2_couldMend 29 = .ok (.iconst (-1), 1) := dk_2 (dk_at dksX2_couldMend_1 6 rfl rfl)
theorem dX2_couldMend_30 : decode cX2_couldMend 30 = .ok (.if_icmp .eq 7, 3) := dk_159 0 7 (dk_at dksX2_couldMend_1 7 rfl rfl)
theorem dX2_couldMend_33 : decode cX2_couldMend 33 = .ok (.iconst 1, 1) := dk_4 (dk_at dksX2_couldMend_1 10 rfl rfl)
theorem dX2_couldMend_34 : decode cX2_couldMend 34 = .ok (.goto 4, 3) := dk_167 0 4 (dk_at dksX2_couldMend_1 11 rfl rfl)
theorem dX2_couldMend_37 : decode cX2_couldMend 37 = .ok (.iconst 0, 1) := dk_3 (dk_at dksX2_couldMend_1 14 rfl rfl)
theorem dX2_couldMend_38 : decode cX2_couldMend 38 = .ok (.ireturn, 1) := dk_172 (dk_at dksX2_couldMend_1 15 rfl rfl)
abbrev cX2_shortest : ByteArray := prog_7_method_8_code
def yX2_shortest : MethodName := ⟨RX2, "shortest", "(I)I"⟩
def dkwX2_shortest_1 : List UInt8 := [132, 2, 1, 167, 255, 236, 2, 172]
abbrev dktX2_shortest_1 : List UInt8 := dkwX2_shortest_1 ++ []
def dkwX2_shortest_0 : List UInt8 := [4, 27, 184, 0, 118, 61, 28, 16, 6, 163, 0, 20, 42, 180, 0, 32, 28, 46, 158, 0, 5, 28, 172]
abbrev dktX2_shortest_0 : List UInt8 := dkwX2_shortest_0 ++ dktX2_shortest_1
theorem dksX2_shortest_0 : cX2_shortest.data.toList.drop 0 = dktX2_shortest_0 := by decide +kernel
theorem dksX2_shortest_1 : cX2_shortest.data.toList.drop 23 = dktX2_shortest_1 := dk_seg dksX2_shortest_0 23 rfl rfl
theorem dX2_shortest_0 : decode cX2_shortest 0 = .ok (.iconst 1, 1) := dk_4 (dk_at dksX2_shortest_0 0 rfl rfl)
theorem dX2_shortest_1 : decode cX2_shortest 1 = .ok (.iload_n 1, 1) := dk_27 (dk_at dksX2_shortest_0 1 rfl rfl)
theorem dX2_shortest_2 : decode cX2_shortest 2 = .ok (.invokestatic 118, 3) := dk_184 0 118 (dk_at dksX2_shortest_0 2 rfl rfl)
theorem dX2_shortest_5 : decode cX2_shortest 5 = .ok (.istore_n 2, 1) := dk_61 (dk_at dksX2_shortest_0 5 rfl rfl)
theorem dX2_shortest_6 : decode cX2_shortest 6 = .ok (.iload_n 2, 1) := dk_28 (dk_at dksX2_shortest_0 6 rfl rfl)
theorem dX2_shortest_7 : decode cX2_shortest 7 = .ok (.bipush 6, 2) := dk_16 6 (dk_at dksX2_shortest_0 7 rfl rfl)
theorem dX2_shortest_9 : decode cX2_shortest 9 = .ok (.if_icmp .gt 20, 3) := dk_163 0 20 (dk_at dksX2_shortest_0 9 rfl rfl)
theorem dX2_shortest_12 : decode cX2_shortest 12 = .ok (.aload_n 0, 1) := dk_42 (dk_at dksX2_shortest_0 12 rfl rfl)
theorem dX2_shortest_13 : decode cX2_shortest 13 = .ok (.getfield 32, 3) := dk_180 0 32 (dk_at dksX2_shortest_0 13 rfl rfl)
theorem dX2_shortest_16 : decode cX2_shortest 16 = .ok (.iload_n 2, 1) := dk_28 (dk_at dksX2_shortest_0 16 rfl rfl)
theorem dX2_shortest_17 : decode cX2_shortest 17 = .ok (.iaload, 1) := dk_46 (dk_at dksX2_shortest_0 17 rfl rfl)
theorem dX2_shortest_18 : decode cX2_shortest 18 = .ok (.ifCond .le 5, 3) := dk_158 0 5 (dk_at dksX2_shortest_0 18 rfl rfl)
theorem dX2_shortest_21 : decode cX2_shortest 21 = .ok (.iload_n 2, 1) := dk_28 (dk_at dksX2_shortest_0 21 rfl rfl)
theorem dX2_shortest_22 : decode cX2_shortest 22 = .ok (.ireturn, 1) := dk_172 (dk_at dksX2_shortest_0 22 rfl rfl)
theorem dX2_shortest_23 : decode cX2_shortest 23 = .ok (.iinc 2 1, 3) := dk_132 2 1 (dk_at dksX2_shortest_1 0 rfl rfl)
theorem dX2_shortest_26 : decode cX2_shortest 26 = .ok (.goto (-20), 3) := dk_167 255 236 (dk_at dksX2_shortest_1 3 rfl rfl)
theorem dX2_shortest_29 : decode cX2_shortest 29 = .ok (.iconst (-1), 1) := dk_2 (dk_at dksX2_shortest_1 6 rfl rfl)
theorem dX2_shortest_30 : decode cX2_shortest 30 = .ok (.ireturn, 1) := dk_172 (dk_at dksX2_shortest_1 7 rfl rfl)
abbrev cX2_mends : ByteArray := prog_7_method_16_code
def yX2_mends : MethodName := ⟨RX2, "mends", "()I"⟩
def dkwX2_mends_5 : List UInt8 := [181, 0, 108, 27, 172]
abbrev dktX2_mends_5 : List UInt8 := dkwX2_mends_5 ++ []
def dkwX2_mends_4 : List UInt8 := [180, 0, 32, 21, 4, 92, 46, 4, 100, 79, 44, 21, 4, 182, 0, 171, 42, 89, 180, 0, 108, 4, 96]
abbrev dktX2_mends_4 : List UInt8 := dkwX2_mends_4 ++ dktX2_mends_5
def dkwX2_mends_3 : List UInt8 := [154, 0, 7, 3, 167, 0, 11, 42, 44, 182, 0, 158, 182, 0, 161, 54, 4, 21, 4, 158, 0, 14, 42]
abbrev dktX2_mends_3 : List UInt8 := dkwX2_mends_3 ++ dktX2_mends_4
def dkwX2_mends_2 : List UInt8 := [182, 0, 170, 87, 132, 4, 1, 167, 255, 239, 42, 89, 180, 0, 99, 29, 96, 181, 0, 99, 44, 182, 0, 158]
abbrev dktX2_mends_2 : List UInt8 := dkwX2_mends_2 ++ dktX2_mends_3
def dkwX2_mends_1 : List UInt8 := [192, 0, 64, 77, 44, 182, 0, 155, 62, 3, 54, 4, 21, 4, 29, 162, 0, 17, 42, 180, 0, 28]
abbrev dktX2_mends_1 : List UInt8 := dkwX2_mends_1 ++ dktX2_mends_2
def dkwX2_mends_0 : List UInt8 := [42, 180, 0, 21, 182, 0, 164, 192, 0, 75, 182, 0, 149, 60, 42, 180, 0, 12, 27, 182, 0, 167]
abbrev dktX2_mends_0 : List UInt8 := dkwX2_mends_0 ++ dktX2_mends_1
theorem dksX2_mends_0 : cX2_mends.data.toList.drop 0 = dktX2_mends_0 := by decide +kernel
theorem dksX2_mends_1 : cX2_mends.data.toList.drop 22 = dktX2_mends_1 := dk_seg dksX2_mends_0 22 rfl rfl
theorem dksX2_mends_2 : cX2_mends.data.toList.drop 44 = dktX2_mends_2 := dk_seg dksX2_mends_1 22 rfl rfl
theorem dksX2_mends_3 : cX2_mends.data.toList.drop 68 = dktX2_mends_3 := dk_seg dksX2_mends_2 24 rfl rfl
theorem dksX2_mends_4 : cX2_mends.data.toList.drop 91 = dktX2_mends_4 := dk_seg dksX2_mends_3 23 rfl rfl
theorem dksX2_mends_5 : cX2_mends.data.toList.drop 114 = dktX2_mends_5 := dk_seg dksX2_mends_4 23 rfl rfl
theorem dX2_mends_0 : decode cX2_mends 0 = .ok (.aload_n 0, 1) := dk_42 (dk_at dksX2_mends_0 0 rfl rfl)
theorem dX2_mends_1 : decode cX2_mends 1 = .ok (.getfield 21, 3) := dk_180 0 21 (dk_at dksX2_mends_0 1 rfl rfl)
theorem dX2_mends_4 : decode cX2_mends 4 = .ok (.invokevirtual 164, 3) := dk_182 0 164 (dk_at dksX2_mends_0 4 rfl rfl)
theorem dX2_mends_7 : decode cX2_mends 7 = .ok (.checkcast 75, 3) := dk_192 0 75 (dk_at dksX2_mends_0 7 rfl rfl)
theorem dX2_mends_10 : decode cX2_mends 10 = .ok (.invokevirtual 149, 3) := dk_182 0 149 (dk_at dksX2_mends_0 10 rfl rfl)
theorem dX2_mends_13 : decode cX2_mends 13 = .ok (.istore_n 1, 1) := dk_60 (dk_at dksX2_mends_0 13 rfl rfl)
theorem dX2_mends_14 : decode cX2_mends 14 = .ok (.aload_n 0, 1) := dk_42 (dk_at dksX2_mends_0 14 rfl rfl)
theorem dX2_mends_15 : decode cX2_mends 15 = .ok (.getfield 12, 3) := dk_180 0 12 (dk_at dksX2_mends_0 15 rfl rfl)
theorem dX2_mends_18 : decode cX2_mends 18 = .ok (.iload_n 1, 1) := dk_27 (dk_at dksX2_mends_0 18 rfl rfl)
theorem dX2_mends_19 : decode cX2_mends 19 = .ok (.invokevirtual 167, 3) := dk_182 0 167 (dk_at dksX2_mends_0 19 rfl rfl)
theorem dX2_mends_22 : decode cX2_mends 22 = .ok (.checkcast 64, 3) := dk_192 0 64 (dk_at dksX2_mends_1 0 rfl rfl)
theorem dX2_mends_25 : decode cX2_mends 25 = .ok (.astore_n 2, 1) := dk_77 (dk_at dksX2_mends_1 3 rfl rfl)
theorem dX2_mends_26 : decode cX2_mends 26 = .ok (.aload_n 2, 1) := dk_44 (dk_at dksX2_mends_1 4 rfl rfl)
theorem dX2_mends_27 : decode cX2_mends 27 = .ok (.invokevirtual 155, 3) := dk_182 0 155 (dk_at dksX2_mends_1 5 rfl rfl)
theorem dX2_mends_30 : decode cX2_mends 30 = .ok (.istore_n 3, 1) := dk_62 (dk_at dksX2_mends_1 8 rfl rfl)
theorem dX2_mends_31 : decode cX2_mends 31 = .ok (.iconst 0, 1) := dk_3 (dk_at dksX2_mends_1 9 rfl rfl)
theorem dX2_mends_32 : decode cX2_mends 32 = .ok (.istore 4, 2) := dk_54 4 (dk_at dksX2_mends_1 10 rfl rfl)
theorem dX2_mends_34 : decode cX2_mends 34 = .ok (.iload 4, 2) := dk_21 4 (dk_at dksX2_mends_1 12 rfl rfl)
theorem dX2_mends_36 : decode cX2_mends 36 = .ok (.iload_n 3, 1) := dk_29 (dk_at dksX2_mends_1 14 rfl rfl)
theorem dX2_mends_37 : decode cX2_mends 37 = .ok (.if_icmp .ge 17, 3) := dk_162 0 17 (dk_at dksX2_mends_1 15 rfl rfl)
theorem dX2_mends_40 : decode cX2_mends 40 = .ok (.aload_n 0, 1) := dk_42 (dk_at dksX2_mends_1 18 rfl rfl)
theorem dX2_mends_41 : decode cX2_mends 41 = .ok (.getfield 28, 3) := dk_180 0 28 (dk_at dksX2_mends_1 19 rfl rfl)
theorem dX2_mends_44 : decode cX2_mends 44 = .ok (.invokevirtual 170, 3) := dk_182 0 170 (dk_at dksX2_mends_2 0 rfl rfl)
theorem dX2_mends_47 : decode cX2_mends 47 = .ok (.pop, 1) := dk_87 (dk_at dksX2_mends_2 3 rfl rfl)
theorem dX2_mends_48 : decode cX2_mends 48 = .ok (.iinc 4 1, 3) := dk_132 4 1 (dk_at dksX2_mends_2 4 rfl rfl)
theorem dX2_mends_51 : decode cX2_mends 51 = .ok (.goto (-17), 3) := dk_167 255 239 (dk_at dksX2_mends_2 7 rfl rfl)
theorem dX2_mends_54 : decode cX2_mends 54 = .ok (.aload_n 0, 1) := dk_42 (dk_at dksX2_mends_2 10 rfl rfl)
theorem dX2_mends_55 : decode cX2_mends 55 = .ok (.dup, 1) := dk_89 (dk_at dksX2_mends_2 11 rfl rfl)
theorem dX2_mends_56 : decode cX2_mends 56 = .ok (.getfield 99, 3) := dk_180 0 99 (dk_at dksX2_mends_2 12 rfl rfl)
theorem dX2_mends_59 : decode cX2_mends 59 = .ok (.iload_n 3, 1) := dk_29 (dk_at dksX2_mends_2 15 rfl rfl)
theorem dX2_mends_60 : decode cX2_mends 60 = .ok (.iadd, 1) := dk_96 (dk_at dksX2_mends_2 16 rfl rfl)
theorem dX2_mends_61 : decode cX2_mends 61 = .ok (.putfield 99, 3) := dk_181 0 99 (dk_at dksX2_mends_2 17 rfl rfl)
theorem dX2_mends_64 : decode cX2_mends 64 = .ok (.aload_n 2, 1) := dk_44 (dk_at dksX2_mends_2 20 rfl rfl)
theorem dX2_mends_65 : decode cX2_mends 65 = .ok (.invokevirtual 158, 3) := dk_182 0 158 (dk_at dksX2_mends_2 21 rfl rfl)
theorem dX2_mends_68 : decode cX2_mends 68 = .ok (.ifCond .ne 7, 3) := dk_154 0 7 (dk_at dksX2_mends_3 0 rfl rfl)
theorem dX2_mends_71 : decode cX2_mends 71 = .ok (.iconst 0, 1) := dk_3 (dk_at dksX2_mends_3 3 rfl rfl)
theorem dX2_mends_72 : decode cX2_mends 72 = .ok (.goto 11, 3) := dk_167 0 11 (dk_at dksX2_mends_3 4 rfl rfl)
theorem dX2_mends_75 : decode cX2_mends 75 = .ok (.aload_n 0, 1) := dk_42 (dk_at dksX2_mends_3 7 rfl rfl)
theorem dX2_mends_76 : decode cX2_mends 76 = .ok (.aload_n 2, 1) := dk_44 (dk_at dksX2_mends_3 8 rfl rfl)
theorem dX2_mends_77 : decode cX2_mends 77 = .ok (.invokevirtual 158, 3) := dk_182 0 158 (dk_at dksX2_mends_3 9 rfl rfl)
theorem dX2_mends_80 : decode cX2_mends 80 = .ok (.invokevirtual 161, 3) := dk_182 0 161 (dk_at dksX2_mends_3 12 rfl rfl)
theorem dX2_mends_83 : decode cX2_mends 83 = .ok (.istore 4, 2) := dk_54 4 (dk_at dksX2_mends_3 15 rfl rfl)
theorem dX2_mends_85 : decode cX2_mends 85 = .ok (.iload 4, 2) := dk_21 4 (dk_at dksX2_mends_3 17 rfl rfl)
theorem dX2_mends_87 : decode cX2_mends 87 = .ok (.ifCond .le 14, 3) := dk_158 0 14 (dk_at dksX2_mends_3 19 rfl rfl)
theorem dX2_mends_90 : decode cX2_mends 90 = .ok (.aload_n 0, 1) := dk_42 (dk_at dksX2_mends_3 22 rfl rfl)
theorem dX2_mends_91 : decode cX2_mends 91 = .ok (.getfield 32, 3) := dk_180 0 32 (dk_at dksX2_mends_4 0 rfl rfl)
theorem dX2_mends_94 : decode cX2_mends 94 = .ok (.iload 4, 2) := dk_21 4 (dk_at dksX2_mends_4 3 rfl rfl)
theorem dX2_mends_96 : decode cX2_mends 96 = .ok (.dup2, 1) := dk_92 (dk_at dksX2_mends_4 5 rfl rfl)
theorem dX2_mends_97 : decode cX2_mends 97 = .ok (.iaload, 1) := dk_46 (dk_at dksX2_mends_4 6 rfl rfl)
theorem dX2_mends_98 : decode cX2_mends 98 = .ok (.iconst 1, 1) := dk_4 (dk_at dksX2_mends_4 7 rfl rfl)
theorem dX2_mends_99 : decode cX2_mends 99 = .ok (.isub, 1) := dk_100 (dk_at dksX2_mends_4 8 rfl rfl)
theorem dX2_mends_100 : decode cX2_mends 100 = .ok (.iastore, 1) := dk_79 (dk_at dksX2_mends_4 9 rfl rfl)
theorem dX2_mends_101 : decode cX2_mends 101 = .ok (.aload_n 2, 1) := dk_44 (dk_at dksX2_mends_4 10 rfl rfl)
theorem dX2_mends_102 : decode cX2_mends 102 = .ok (.iload 4, 2) := dk_21 4 (dk_at dksX2_mends_4 11 rfl rfl)
theorem dX2_mends_104 : decode cX2_mends 104 = .ok (.invokevirtual 171, 3) := dk_182 0 171 (dk_at dksX2_mends_4 13 rfl rfl)
theorem dX2_mends_107 : decode cX2_mends 107 = .ok (.aload_n 0, 1) := dk_42 (dk_at dksX2_mends_4 16 rfl rfl)
theorem dX2_mends_108 : decode cX2_mends 108 = .ok (.dup, 1) := dk_89 (dk_at dksX2_mends_4 17 rfl rfl)
theorem dX2_mends_109 : decode cX2_mends 109 = .ok (.getfield 108, 3) := dk_180 0 108 (dk_at dksX2_mends_4 18 rfl rfl)
theorem dX2_mends_112 : decode cX2_mends 112 = .ok (.iconst 1, 1) := dk_4 (dk_at dksX2_mends_4 21 rfl rfl)
theorem dX2_mends_113 : decode cX2_mends 113 = .ok (.iadd, 1) := dk_96 (dk_at dksX2_mends_4 22 rfl rfl)
theorem dX2_mends_114 : decode cX2_mends 114 = .ok (.putfield 108, 3) := dk_181 0 108 (dk_at dksX2_mends_5 0 rfl rfl)
theorem dX2_mends_117 : decode cX2_mends 117 = .ok (.iload_n 1, 1) := dk_27 (dk_at dksX2_mends_5 3 rfl rfl)
theorem dX2_mends_118 : decode cX2_mends 118 = .ok (.ireturn, 1) := dk_172 (dk_at dksX2_mends_5 4 rfl rfl)
abbrev cX2_placeOf : ByteArray := prog_7_method_13_code
def yX2_placeOf : MethodName := ⟨RX2, "placeOf", "(I)I"⟩
def dkwX2_placeOf_2 : List UInt8 := [167, 255, 222, 2, 172]
abbrev dktX2_placeOf_2 : List UInt8 := dkwX2_placeOf_2 ++ []
def dkwX2_placeOf_1 : List UInt8 := [185, 0, 60, 1, 0, 192, 0, 75, 58, 4, 25, 4, 182, 0, 149, 27, 160, 0, 5, 28, 172, 132, 2, 1]
abbrev dktX2_placeOf_1 : List UInt8 := dkwX2_placeOf_1 ++ dktX2_placeOf_2
def dkwX2_placeOf_0 : List UInt8 := [3, 61, 42, 180, 0, 21, 182, 0, 74, 78, 45, 185, 0, 54, 1, 0, 153, 0, 31, 45]
abbrev dktX2_placeOf_0 : List UInt8 := dkwX2_placeOf_0 ++ dktX2_placeOf_1
theorem dksX2_placeOf_0 : cX2_placeOf.data.toList.drop 0 = dktX2_placeOf_0 := by decide +kernel
theorem dksX2_placeOf_1 : cX2_placeOf.data.toList.drop 20 = dktX2_placeOf_1 := dk_seg dksX2_placeOf_0 20 rfl rfl
theorem dksX2_placeOf_2 : cX2_placeOf.data.toList.drop 44 = dktX2_placeOf_2 := dk_seg dksX2_placeOf_1 24 rfl rfl
theorem dX2_placeOf_0 : decode cX2_placeOf 0 = .ok (.iconst 0, 1) := dk_3 (dk_at dksX2_placeOf_0 0 rfl rfl)
theorem dX2_placeOf_1 : decode cX2_placeOf 1 = .ok (.istore_n 2, 1) := dk_61 (dk_at dksX2_placeOf_0 1 rfl rfl)
theorem dX2_placeOf_2 : decode cX2_placeOf 2 = .ok (.aload_n 0, 1) := dk_42 (dk_at dksX2_placeOf_0 2 rfl rfl)
theorem dX2_placeOf_3 : decode cX2_placeOf 3 = .ok (.getfield 21, 3) := dk_180 0 21 (dk_at dksX2_placeOf_0 3 rfl rfl)
theorem dX2_placeOf_6 : decode cX2_placeOf 6 = .ok (.invokevirtual 74, 3) := dk_182 0 74 (dk_at dksX2_placeOf_0 6 rfl rfl)
theorem dX2_placeOf_9 : decode cX2_placeOf 9 = .ok (.astore_n 3, 1) := dk_78 (dk_at dksX2_placeOf_0 9 rfl rfl)
theorem dX2_placeOf_10 : decode cX2_placeOf 10 = .ok (.aload_n 3, 1) := dk_45 (dk_at dksX2_placeOf_0 10 rfl rfl)
theorem dX2_placeOf_11 : decode cX2_placeOf 11 = .ok (.invokeinterface 54 1, 5) := by decide +kernel
theorem dX2_placeOf_16 : decode cX2_placeOf 16 = .ok (.ifCond .eq 31, 3) := dk_153 0 31 (dk_at dksX2_placeOf_0 16 rfl rfl)
theorem dX2_placeOf_19 : decode cX2_placeOf 19 = .ok (.aload_n 3, 1) := dk_45 (dk_at dksX2_placeOf_0 19 rfl rfl)
theorem dX2_placeOf_20 : decode cX2_placeOf 20 = .ok (.invokeinterface 60 1, 5) := by decide +kernel
theorem dX2_placeOf_25 : decode cX2_placeOf 25 = .ok (.checkcast 75, 3) := dk_192 0 75 (dk_at dksX2_placeOf_1 5 rfl rfl)
theorem dX2_placeOf_28 : decode cX2_placeOf 28 = .ok (.astore 4, 2) := dk_58 4 (dk_at dksX2_placeOf_1 8 rfl rfl)
theorem dX2_placeOf_30 : decode cX2_placeOf 30 = .ok (.aload 4, 2) := dk_25 4 (dk_at dksX2_placeOf_1 10 rfl rfl)
theorem dX2_placeOf_32 : decode cX2_placeOf 32 = .ok (.invokevirtual 149, 3) := dk_182 0 149 (dk_at dksX2_placeOf_1 12 rfl rfl)
theorem dX2_placeOf_35 : decode cX2_placeOf 35 = .ok (.iload_n 1, 1) := dk_27 (dk_at dksX2_placeOf_1 15 rfl rfl)
theorem dX2_placeOf_36 : decode cX2_placeOf 36 = .ok (.if_icmp .ne 5, 3) := dk_160 0 5 (dk_at dksX2_placeOf_1 16 rfl rfl)
theorem dX2_placeOf_39 : decode cX2_placeOf 39 = .ok (.iload_n 2, 1) := dk_28 (dk_at dksX2_placeOf_1 19 rfl rfl)
theorem dX2_placeOf_40 : decode cX2_placeOf 40 = .ok (.ireturn, 1) := dk_172 (dk_at dksX2_placeOf_1 20 rfl rfl)
theorem dX2_placeOf_41 : decode cX2_placeOf 41 = .ok (.iinc 2 1, 3) := dk_132 2 1 (dk_at dksX2_placeOf_1 21 rfl rfl)
theorem dX2_placeOf_44 : decode cX2_placeOf 44 = .ok (.goto (-34), 3) := dk_167 255 222 (dk_at dksX2_placeOf_2 0 rfl rfl)
theorem dX2_placeOf_47 : decode cX2_placeOf 47 = .ok (.iconst (-1), 1) := dk_2 (dk_at dksX2_placeOf_2 3 rfl rfl)
theorem dX2_placeOf_48 : decode cX2_placeOf 48 = .ok (.ireturn, 1) := dk_172 (dk_at dksX2_placeOf_2 4 rfl rfl)
abbrev cX2_pieces : ByteArray := prog_7_method_5_code
def yX2_pieces : MethodName := ⟨RX2, "pieces", "()I"⟩
def dkwX2_pieces_1 : List UInt8 := [167, 255, 238, 27, 172]
abbrev dktX2_pieces_1 : List UInt8 := dkwX2_pieces_1 ++ []
def dkwX2_pieces_0 : List UInt8 := [3, 60, 4, 61, 28, 16, 6, 163, 0, 18, 27, 42, 180, 0, 32, 28, 46, 96, 60, 132, 2, 1]
abbrev dktX2_pieces_0 : List UInt8 := dkwX2_pieces_0 ++ dktX2_pieces_1
theorem dksX2_pieces_0 : cX2_pieces.data.toList.drop 0 = dktX2_pieces_0 := by decide +kernel
theorem dksX2_pieces_1 : cX2_pieces.data.toList.drop 22 = dktX2_pieces_1 := dk_seg dksX2_pieces_0 22 rfl rfl
theorem dX2_pieces_0 : decode cX2_pieces 0 = .ok (.iconst 0, 1) := dk_3 (dk_at dksX2_pieces_0 0 rfl rfl)
theorem dX2_pieces_1 : decode cX2_pieces 1 = .ok (.istore_n 1, 1) := dk_60 (dk_at dksX2_pieces_0 1 rfl rfl)
theorem dX2_pieces_2 : decode cX2_pieces 2 = .ok (.iconst 1, 1) := dk_4 (dk_at dksX2_pieces_0 2 rfl rfl)
theorem dX2_pieces_3 : decode cX2_pieces 3 = .ok (.istore_n 2, 1) := dk_61 (dk_at dksX2_pieces_0 3 rfl rfl)
theorem dX2_pieces_4 : decode cX2_pieces 4 = .ok (.iload_n 2, 1) := dk_28 (dk_at dksX2_pieces_0 4 rfl rfl)
theorem dX2_pieces_5 : decode cX2_pieces 5 = .ok (.bipush 6, 2) := dk_16 6 (dk_at dksX2_pieces_0 5 rfl rfl)
theorem dX2_pieces_7 : decode cX2_pieces 7 = .ok (.if_icmp .gt 18, 3) := dk_163 0 18 (dk_at dksX2_pieces_0 7 rfl rfl)
theorem dX2_pieces_10 : decode cX2_pieces 10 = .ok (.iload_n 1, 1) := dk_27 (dk_at dksX2_pieces_0 10 rfl rfl)
theorem dX2_pieces_11 : decode cX2_pieces 11 = .ok (.aload_n 0, 1) := dk_42 (dk_at dksX2_pieces_0 11 rfl rfl)
theorem dX2_pieces_12 : decode cX2_pieces 12 = .ok (.getfield 32, 3) := dk_180 0 32 (dk_at dksX2_pieces_0 12 rfl rfl)
theorem dX2_pieces_15 : decode cX2_pieces 15 = .ok (.iload_n 2, 1) := dk_28 (dk_at dksX2_pieces_0 15 rfl rfl)
theorem dX2_pieces_16 : decode cX2_pieces 16 = .ok (.iaload, 1) := dk_46 (dk_at dksX2_pieces_0 16 rfl rfl)
theorem dX2_pieces_17 : decode cX2_pieces 17 = .ok (.iadd, 1) := dk_96 (dk_at dksX2_pieces_0 17 rfl rfl)
theorem dX2_pieces_18 : decode cX2_pieces 18 = .ok (.istore_n 1, 1) := dk_60 (dk_at dksX2_pieces_0 18 rfl rfl)
theorem dX2_pieces_19 : decode cX2_pieces 19 = .ok (.iinc 2 1, 3) := dk_132 2 1 (dk_at dksX2_pieces_0 19 rfl rfl)
theorem dX2_pieces_22 : decode cX2_pieces 22 = .ok (.goto (-18), 3) := dk_167 255 238 (dk_at dksX2_pieces_1 0 rfl rfl)
theorem dX2_pieces_25 : decode cX2_pieces 25 = .ok (.iload_n 1, 1) := dk_27 (dk_at dksX2_pieces_1 3 rfl rfl)
theorem dX2_pieces_26 : decode cX2_pieces 26 = .ok (.ireturn, 1) := dk_172 (dk_at dksX2_pieces_1 4 rfl rfl)
abbrev cX2_longest : ByteArray := prog_7_method_7_code
def yX2_longest : MethodName := ⟨RX2, "longest", "()I"⟩
def dkwX2_longest_1 : List UInt8 := [167, 255, 237, 2, 172]
abbrev dktX2_longest_1 : List UInt8 := dkwX2_longest_1 ++ []
def dkwX2_longest_0 : List UInt8 := [16, 6, 60, 27, 4, 161, 0, 20, 42, 180, 0, 32, 27, 46, 158, 0, 5, 27, 172, 132, 1, 255]
abbrev dktX2_longest_0 : List UInt8 := dkwX2_longest_0 ++ dktX2_longest_1
theorem dksX2_longest_0 : cX2_longest.data.toList.drop 0 = dktX2_longest_0 := by decide +kernel
theorem dksX2_longest_1 : cX2_longest.data.toList.drop 22 = dktX2_longest_1 := dk_seg dksX2_longest_0 22 rfl rfl
theorem dX2_longest_0 : decode cX2_longest 0 = .ok (.bipush 6, 2) := dk_16 6 (dk_at dksX2_longest_0 0 rfl rfl)
theorem dX2_longest_2 : decode cX2_longest 2 = .ok (.istore_n 1, 1) := dk_60 (dk_at dksX2_longest_0 2 rfl rfl)
theorem dX2_longest_3 : decode cX2_longest 3 = .ok (.iload_n 1, 1) := dk_27 (dk_at dksX2_longest_0 3 rfl rfl)
theorem dX2_longest_4 : decode cX2_longest 4 = .ok (.iconst 1, 1) := dk_4 (dk_at dksX2_longest_0 4 rfl rfl)
theorem dX2_longest_5 : decode cX2_longest 5 = .ok (.if_icmp .lt 20, 3) := dk_161 0 20 (dk_at dksX2_longest_0 5 rfl rfl)
theorem dX2_longest_8 : decode cX2_longest 8 = .ok (.aload_n 0, 1) := dk_42 (dk_at dksX2_longest_0 8 rfl rfl)
theorem dX2_longest_9 : decode cX2_longest 9 = .ok (.getfield 32, 3) := dk_180 0 32 (dk_at dksX2_longest_0 9 rfl rfl)
theorem dX2_longest_12 : decode cX2_longest 12 = .ok (.iload_n 1, 1) := dk_27 (dk_at dksX2_longest_0 12 rfl rfl)
theorem dX2_longest_13 : decode cX2_longest 13 = .ok (.iaload, 1) := dk_46 (dk_at dksX2_longest_0 13 rfl rfl)
theorem dX2_longest_14 : decode cX2_longest 14 = .ok (.ifCond .le 5, 3) := dk_158 0 5 (dk_at dksX2_longest_0 14 rfl rfl)
theorem dX2_longest_17 : decode cX2_longest 17 = .ok (.iload_n 1, 1) := dk_27 (dk_at dksX2_longest_0 17 rfl rfl)
theorem dX2_longest_18 : decode cX2_longest 18 = .ok (.ireturn, 1) := dk_172 (dk_at dksX2_longest_0 18 rfl rfl)
theorem dX2_longest_19 : decode cX2_longest 19 = .ok (.iinc 1 (-1), 3) := dk_132 1 255 (dk_at dksX2_longest_0 19 rfl rfl)
theorem dX2_longest_22 : decode cX2_longest 22 = .ok (.goto (-19), 3) := dk_167 255 237 (dk_at dksX2_longest_1 0 rfl rfl)
theorem dX2_longest_25 : decode cX2_longest 25 = .ok (.iconst (-1), 1) := dk_2 (dk_at dksX2_longest_1 3 rfl rfl)
theorem dX2_longest_26 : decode cX2_longest 26 = .ok (.ireturn, 1) := dk_172 (dk_at dksX2_longest_1 4 rfl rfl)
abbrev cX2_nextPerch : ByteArray := prog_7_method_14_code
def yX2_nextPerch : MethodName := ⟨RX2, "nextPerch", "(I)I"⟩
def dkwX2_nextPerch_1 : List UInt8 := [27, 28, 96, 16, 8, 112, 172, 132, 2, 1, 167, 255, 224, 2, 172]
abbrev dktX2_nextPerch_1 : List UInt8 := dkwX2_nextPerch_1 ++ []
def dkwX2_nextPerch_0 : List UInt8 := [4, 61, 28, 16, 8, 163, 0, 32, 42, 180, 0, 41, 27, 28, 96, 16, 8, 112, 182, 0, 128, 154, 0, 10]
abbrev dktX2_nextPerch_0 : List UInt8 := dkwX2_nextPerch_0 ++ dktX2_nextPerch_1
theorem dksX2_nextPerch_0 : cX2_nextPerch.data.toList.drop 0 = dktX2_nextPerch_0 := by decide +kernel
theorem dksX2_nextPerch_1 : cX2_nextPerch.data.toList.drop 24 = dktX2_nextPerch_1 := dk_seg dksX2_nextPerch_0 24 rfl rfl
theorem dX2_nextPerch_0 : decode cX2_nextPerch 0 = .ok (.iconst 1, 1) := dk_4 (dk_at dksX2_nextPerch_0 0 rfl rfl)
theorem dX2_nextPerch_1 : decode cX2_nextPerch 1 = .ok (.istore_n 2, 1) := dk_61 (dk_at dksX2_nextPerch_0 1 rfl rfl)
theorem dX2_nextPerch_2 : decode cX2_nextPerch 2 = .ok (.iload_n 2, 1) := dk_28 (dk_at dksX2_nextPerch_0 2 rfl rfl)
theorem dX2_nextPerch_3 : decode cX2_nextPerch 3 = .ok (.bipush 8, 2) := dk_16 8 (dk_at dksX2_nextPerch_0 3 rfl rfl)
theorem dX2_nextPerch_5 : decode cX2_nextPerch 5 = .ok (.if_icmp .gt 32, 3) := dk_163 0 32 (dk_at dksX2_nextPerch_0 5 rfl rfl)
theorem dX2_nextPerch_8 : decode cX2_nextPerch 8 = .ok (.aload_n 0, 1) := dk_42 (dk_at dksX2_nextPerch_0 8 rfl rfl)
theorem dX2_nextPerch_9 : decode cX2_nextPerch 9 = .ok (.getfield 41, 3) := dk_180 0 41 (dk_at dksX2_nextPerch_0 9 rfl rfl)
theorem dX2_nextPerch_12 : decode cX2_nextPerch 12 = .ok (.iload_n 1, 1) := dk_27 (dk_at dksX2_nextPerch_0 12 rfl rfl)
theorem dX2_nextPerch_13 : decode cX2_nextPerch 13 = .ok (.iload_n 2, 1) := dk_28 (dk_at dksX2_nextPerch_0 13 rfl rfl)
theorem dX2_nextPerch_14 : decode cX2_nextPerch 14 = .ok (.iadd, 1) := dk_96 (dk_at dksX2_nextPerch_0 14 rfl rfl)
theorem dX2_nextPerch_15 : decode cX2_nextPerch 15 = .ok (.bipush 8, 2) := dk_16 8 (dk_at dksX2_nextPerch_0 15 rfl rfl)
theorem dX2_nextPerch_17 : decode cX2_nextPerch 17 = .ok (.irem, 1) := dk_112 (dk_at dksX2_nextPerch_0 17 rfl rfl)
theorem dX2_nextPerch_18 : decode cX2_nextPerch 18 = .ok (.invokevirtual 128, 3) := dk_182 0 128 (dk_at dksX2_nextPerch_0 18 rfl rfl)
theorem dX2_nextPerch_21 : decode cX2_nextPerch 21 = .ok (.ifCond .ne 10, 3) := dk_154 0 10 (dk_at dksX2_nextPerch_0 21 rfl rfl)
theorem dX2_nextPerch_24 : decode cX2_nextPerch 24 = .ok (.iload_n 1, 1) := dk_27 (dk_at dksX2_nextPerch_1 0 rfl rfl)
theorem dX2_nextPerch_25 : decode cX2_nextPerch 25 = .ok (.iload_n 2, 1) := dk_28 (dk_at dksX2_nextPerch_1 1 rfl rfl)
theorem dX2_nextPerch_26 : decode cX2_nextPerch 26 = .ok (.iadd, 1) := dk_96 (dk_at dksX2_nextPerch_1 2 rfl rfl)
theorem dX2_nextPerch_27 : decode cX2_nextPerch 27 = .ok (.bipush 8, 2) := dk_16 8 (dk_at dksX2_nextPerch_1 3 rfl rfl)
theorem dX2_nextPerch_29 : decode cX2_nextPerch 29 = .ok (.irem, 1) := dk_112 (dk_at dksX2_nextPerch_1 5 rfl rfl)
theorem dX2_nextPerch_30 : decode cX2_nextPerch 30 = .ok (.ireturn, 1) := dk_172 (dk_at dksX2_nextPerch_1 6 rfl rfl)
theorem dX2_nextPerch_31 : decode cX2_nextPerch 31 = .ok (.iinc 2 1, 3) := dk_132 2 1 (dk_at dksX2_nextPerch_1 7 rfl rfl)
theorem dX2_nextPerch_34 : decode cX2_nextPerch 34 = .ok (.goto (-32), 3) := dk_167 255 224 (dk_at dksX2_nextPerch_1 10 rfl rfl)
theorem dX2_nextPerch_37 : decode cX2_nextPerch 37 = .ok (.iconst (-1), 1) := dk_2 (dk_at dksX2_nextPerch_1 13 rfl rfl)
theorem dX2_nextPerch_38 : decode cX2_nextPerch 38 = .ok (.ireturn, 1) := dk_172 (dk_at dksX2_nextPerch_1 14 rfl rfl)
abbrev cX2_goesBy : ByteArray := prog_7_method_12_code
def yX2_goesBy : MethodName := ⟨RX2, "goesBy", "()I"⟩
def dkwX2_goesBy_2 : List UInt8 := [27, 172]
abbrev dktX2_goesBy_2 : List UInt8 := dkwX2_goesBy_2 ++ []
def dkwX2_goesBy_1 : List UInt8 := [182, 0, 144, 132, 2, 1, 167, 255, 244, 42, 182, 0, 147, 60, 42, 89, 180, 0, 93, 4, 96, 181, 0, 93]
abbrev dktX2_goesBy_1 : List UInt8 := dkwX2_goesBy_1 ++ dktX2_goesBy_2
def dkwX2_goesBy_0 : List UInt8 := [42, 42, 180, 0, 93, 182, 0, 114, 154, 0, 25, 42, 182, 0, 141, 60, 3, 61, 28, 27, 162, 0, 13, 42]
abbrev dktX2_goesBy_0 : List UInt8 := dkwX2_goesBy_0 ++ dktX2_goesBy_1
theorem dksX2_goesBy_0 : cX2_goesBy.data.toList.drop 0 = dktX2_goesBy_0 := by decide +kernel
theorem dksX2_goesBy_1 : cX2_goesBy.data.toList.drop 24 = dktX2_goesBy_1 := dk_seg dksX2_goesBy_0 24 rfl rfl
theorem dksX2_goesBy_2 : cX2_goesBy.data.toList.drop 48 = dktX2_goesBy_2 := dk_seg dksX2_goesBy_1 24 rfl rfl
theorem dX2_goesBy_0 : decode cX2_goesBy 0 = .ok (.aload_n 0, 1) := dk_42 (dk_at dksX2_goesBy_0 0 rfl rfl)
theorem dX2_goesBy_1 : decode cX2_goesBy 1 = .ok (.aload_n 0, 1) := dk_42 (dk_at dksX2_goesBy_0 1 rfl rfl)
theorem dX2_goesBy_2 : decode cX2_goesBy 2 = .ok (.getfield 93, 3) := dk_180 0 93 (dk_at dksX2_goesBy_0 2 rfl rfl)
theorem dX2_goesBy_5 : decode cX2_goesBy 5 = .ok (.invokevirtual 114, 3) := dk_182 0 114 (dk_at dksX2_goesBy_0 5 rfl rfl)
theorem dX2_goesBy_8 : decode cX2_goesBy 8 = .ok (.ifCond .ne 25, 3) := dk_154 0 25 (dk_at dksX2_goesBy_0 8 rfl rfl)
theorem dX2_goesBy_11 : decode cX2_goesBy 11 = .ok (.aload_n 0, 1) := dk_42 (dk_at dksX2_goesBy_0 11 rfl rfl)
theorem dX2_goesBy_12 : decode cX2_goesBy 12 = .ok (.invokevirtual 141, 3) := dk_182 0 141 (dk_at dksX2_goesBy_0 12 rfl rfl)
theorem dX2_goesBy_15 : decode cX2_goesBy 15 = .ok (.istore_n 1, 1) := dk_60 (dk_at dksX2_goesBy_0 15 rfl rfl)
theorem dX2_goesBy_16 : decode cX2_goesBy 16 = .ok (.iconst 0, 1) := dk_3 (dk_at dksX2_goesBy_0 16 rfl rfl)
theorem dX2_goesBy_17 : decode cX2_goesBy 17 = .ok (.istore_n 2, 1) := dk_61 (dk_at dksX2_goesBy_0 17 rfl rfl)
theorem dX2_goesBy_18 : decode cX2_goesBy 18 = .ok (.iload_n 2, 1) := dk_28 (dk_at dksX2_goesBy_0 18 rfl rfl)
theorem dX2_goesBy_19 : decode cX2_goesBy 19 = .ok (.iload_n 1, 1) := dk_27 (dk_at dksX2_goesBy_0 19 rfl rfl)
theorem dX2_goesBy_20 : decode cX2_goesBy 20 = .ok (.if_icmp .ge 13, 3) := dk_162 0 13 (dk_at dksX2_goesBy_0 20 rfl rfl)
theorem dX2_goesBy_23 : decode cX2_goesBy 23 = .ok (.aload_n 0, 1) := dk_42 (dk_at dksX2_goesBy_0 23 rfl rfl)
theorem dX2_goesBy_24 : decode cX2_goesBy 24 = .ok (.invokevirtual 144, 3) := dk_182 0 144 (dk_at dksX2_goesBy_1 0 rfl rfl)
theorem dX2_goesBy_27 : decode cX2_goesBy 27 = .ok (.iinc 2 1, 3) := dk_132 2 1 (dk_at dksX2_goesBy_1 3 rfl rfl)
theorem dX2_goesBy_30 : decode cX2_goesBy 30 = .ok (.goto (-12), 3) := dk_167 255 244 (dk_at dksX2_goesBy_1 6 rfl rfl)
theorem dX2_goesBy_33 : decode cX2_goesBy 33 = .ok (.aload_n 0, 1) := dk_42 (dk_at dksX2_goesBy_1 9 rfl rfl)
theorem dX2_goesBy_34 : decode cX2_goesBy 34 = .ok (.invokevirtual 147, 3) := dk_182 0 147 (dk_at dksX2_goesBy_1 10 rfl rfl)
theorem dX2_goesBy_37 : decode cX2_goesBy 37 = .ok (.istore_n 1, 1) := dk_60 (dk_at dksX2_goesBy_1 13 rfl rfl)
theorem dX2_goesBy_38 : decode cX2_goesBy 38 = .ok (.aload_n 0, 1) := dk_42 (dk_at dksX2_goesBy_1 14 rfl rfl)
theorem dX2_goesBy_39 : decode cX2_goesBy 39 = .ok (.dup, 1) := dk_89 (dk_at dksX2_goesBy_1 15 rfl rfl)
theorem dX2_goesBy_40 : decode cX2_goesBy 40 = .ok (.getfield 93, 3) := dk_180 0 93 (dk_at dksX2_goesBy_1 16 rfl rfl)
theorem dX2_goesBy_43 : decode cX2_goesBy 43 = .ok (.iconst 1, 1) := dk_4 (dk_at dksX2_goesBy_1 19 rfl rfl)
theorem dX2_goesBy_44 : decode cX2_goesBy 44 = .ok (.iadd, 1) := dk_96 (dk_at dksX2_goesBy_1 20 rfl rfl)
theorem dX2_goesBy_45 : decode cX2_goesBy 45 = .ok (.putfield 93, 3) := dk_181 0 93 (dk_at dksX2_goesBy_1 21 rfl rfl)
theorem dX2_goesBy_48 : decode cX2_goesBy 48 = .ok (.iload_n 1, 1) := dk_27 (dk_at dksX2_goesBy_2 0 rfl rfl)
theorem dX2_goesBy_49 : decode cX2_goesBy 49 = .ok (.ireturn, 1) := dk_172 (dk_at dksX2_goesBy_2 1 rfl rfl)
abbrev cX2_breaks : ByteArray := prog_7_method_10_code
def yX2_breaks : MethodName := ⟨RX2, "breaks", "()V"⟩
def dkwX2_breaks_2 : List UInt8 := [181, 0, 105, 177]
abbrev dktX2_breaks_2 : List UInt8 := dkwX2_breaks_2 ++ []
def dkwX2_breaks_1 : List UInt8 := [164, 0, 15, 42, 180, 0, 32, 27, 4, 100, 92, 46, 4, 96, 79, 42, 89, 180, 0, 105, 4, 96]
abbrev dktX2_breaks_1 : List UInt8 := dkwX2_breaks_1 ++ dktX2_breaks_2
def dkwX2_breaks_0 : List UInt8 := [42, 182, 0, 131, 60, 27, 2, 160, 0, 4, 177, 42, 180, 0, 32, 27, 92, 46, 4, 100, 79, 27, 4]
abbrev dktX2_breaks_0 : List UInt8 := dkwX2_breaks_0 ++ dktX2_breaks_1
theorem dksX2_breaks_0 : cX2_breaks.data.toList.drop 0 = dktX2_breaks_0 := by decide +kernel
theorem dksX2_breaks_1 : cX2_breaks.data.toList.drop 23 = dktX2_breaks_1 := dk_seg dksX2_breaks_0 23 rfl rfl
theorem dksX2_breaks_2 : cX2_breaks.data.toList.drop 45 = dktX2_breaks_2 := dk_seg dksX2_breaks_1 22 rfl rfl
theorem dX2_breaks_0 : decode cX2_breaks 0 = .ok (.aload_n 0, 1) := dk_42 (dk_at dksX2_breaks_0 0 rfl rfl)
theorem dX2_breaks_1 : decode cX2_breaks 1 = .ok (.invokevirtual 131, 3) := dk_182 0 131 (dk_at dksX2_breaks_0 1 rfl rfl)
theorem dX2_breaks_4 : decode cX2_breaks 4 = .ok (.istore_n 1, 1) := dk_60 (dk_at dksX2_breaks_0 4 rfl rfl)
theorem dX2_breaks_5 : decode cX2_breaks 5 = .ok (.iload_n 1, 1) := dk_27 (dk_at dksX2_breaks_0 5 rfl rfl)
theorem dX2_breaks_6 : decode cX2_breaks 6 = .ok (.iconst (-1), 1) := dk_2 (dk_at dksX2_breaks_0 6 rfl rfl)
theorem dX2_breaks_7 : decode cX2_breaks 7 = .ok (.if_icmp .ne 4, 3) := dk_160 0 4 (dk_at dksX2_breaks_0 7 rfl rfl)
theorem dX2_breaks_10 : decode cX2_breaks 10 = .ok (.return_, 1) := dk_177 (dk_at dksX2_breaks_0 10 rfl rfl)
theorem dX2_breaks_11 : decode cX2_breaks 11 = .ok (.aload_n 0, 1) := dk_42 (dk_at dksX2_breaks_0 11 rfl rfl)
theorem dX2_breaks_12 : decode cX2_breaks 12 = .ok (.getfield 32, 3) := dk_180 0 32 (dk_at dksX2_breaks_0 12 rfl rfl)
theorem dX2_breaks_15 : decode cX2_breaks 15 = .ok (.iload_n 1, 1) := dk_27 (dk_at dksX2_breaks_0 15 rfl rfl)
theorem dX2_breaks_16 : decode cX2_breaks 16 = .ok (.dup2, 1) := dk_92 (dk_at dksX2_breaks_0 16 rfl rfl)
theorem dX2_breaks_17 : decode cX2_breaks 17 = .ok (.iaload, 1) := dk_46 (dk_at dksX2_breaks_0 17 rfl rfl)
theorem dX2_breaks_18 : decode cX2_breaks 18 = .ok (.iconst 1, 1) := dk_4 (dk_at dksX2_breaks_0 18 rfl rfl)
theorem dX2_breaks_19 : decode cX2_breaks 19 = .ok (.isub, 1) := dk_100 (dk_at dksX2_breaks_0 19 rfl rfl)
theorem dX2_breaks_20 : decode cX2_breaks 20 = .ok (.iastore, 1) := dk_79 (dk_at dksX2_breaks_0 20 rfl rfl)
theorem dX2_breaks_21 : decode cX2_breaks 21 = .ok (.iload_n 1, 1) := dk_27 (dk_at dksX2_breaks_0 21 rfl rfl)
theorem dX2_breaks_22 : decode cX2_breaks 22 = .ok (.iconst 1, 1) := dk_4 (dk_at dksX2_breaks_0 22 rfl rfl)
theorem dX2_breaks_23 : decode cX2_breaks 23 = .ok (.if_icmp .le 15, 3) := dk_164 0 15 (dk_at dksX2_breaks_1 0 rfl rfl)
theorem dX2_breaks_26 : decode cX2_breaks 26 = .ok (.aload_n 0, 1) := dk_42 (dk_at dksX2_breaks_1 3 rfl rfl)
theorem dX2_breaks_27 : decode cX2_breaks 27 = .ok (.getfield 32, 3) := dk_180 0 32 (dk_at dksX2_breaks_1 4 rfl rfl)
theorem dX2_breaks_30 : decode cX2_breaks 30 = .ok (.iload_n 1, 1) := dk_27 (dk_at dksX2_breaks_1 7 rfl rfl)
theorem dX2_breaks_31 : decode cX2_breaks 31 = .ok (.iconst 1, 1) := dk_4 (dk_at dksX2_breaks_1 8 rfl rfl)
theorem dX2_breaks_32 : decode cX2_breaks 32 = .ok (.isub, 1) := dk_100 (dk_at dksX2_breaks_1 9 rfl rfl)
theorem dX2_breaks_33 : decode cX2_breaks 33 = .ok (.dup2, 1) := dk_92 (dk_at dksX2_breaks_1 10 rfl rfl)
theorem dX2_breaks_34 : decode cX2_breaks 34 = .ok (.iaload, 1) := dk_46 (dk_at dksX2_breaks_1 11 rfl rfl)
theorem dX2_breaks_35 : decode cX2_breaks 35 = .ok (.iconst 1, 1) := dk_4 (dk_at dksX2_breaks_1 12 rfl rfl)
theorem dX2_breaks_36 : decode cX2_breaks 36 = .ok (.iadd, 1) := dk_96 (dk_at dksX2_breaks_1 13 rfl rfl)
theorem dX2_breaks_37 : decode cX2_breaks 37 = .ok (.iastore, 1) := dk_79 (dk_at dksX2_breaks_1 14 rfl rfl)
theorem dX2_breaks_38 : decode cX2_breaks 38 = .ok (.aload_n 0, 1) := dk_42 (dk_at dksX2_breaks_1 15 rfl rfl)
theorem dX2_breaks_39 : decode cX2_breaks 39 = .ok (.dup, 1) := dk_89 (dk_at dksX2_breaks_1 16 rfl rfl)
theorem dX2_breaks_40 : decode cX2_breaks 40 = .ok (.getfield 105, 3) := dk_180 0 105 (dk_at dksX2_breaks_1 17 rfl rfl)
theorem dX2_breaks_43 : decode cX2_breaks 43 = .ok (.iconst 1, 1) := dk_4 (dk_at dksX2_breaks_1 20 rfl rfl)
theorem dX2_breaks_44 : decode cX2_breaks 44 = .ok (.iadd, 1) := dk_96 (dk_at dksX2_breaks_1 21 rfl rfl)
theorem dX2_breaks_45 : decode cX2_breaks 45 = .ok (.putfield 105, 3) := dk_181 0 105 (dk_at dksX2_breaks_2 0 rfl rfl)
theorem dX2_breaks_48 : decode cX2_breaks 48 = .ok (.return_, 1) := dk_177 (dk_at dksX2_breaks_2 3 rfl rfl)
abbrev cX2_dries : ByteArray := prog_7_method_11_code
def yX2_dries : MethodName := ⟨RX2, "dries", "()I"⟩
def dkwX2_dries_2 : List UInt8 := [167, 255, 223, 42, 89, 180, 0, 102, 27, 96, 181, 0, 102, 27, 172]
abbrev dktX2_dries_2 : List UInt8 := dkwX2_dries_2 ++ []
def dkwX2_dries_1 : List UInt8 := [185, 0, 60, 1, 0, 192, 0, 82, 182, 0, 135, 153, 255, 235, 44, 185, 0, 138, 1, 0, 132, 1, 1]
abbrev dktX2_dries_1 : List UInt8 := dkwX2_dries_1 ++ dktX2_dries_2
def dkwX2_dries_0 : List UInt8 := [3, 60, 42, 180, 0, 28, 182, 0, 81, 77, 44, 185, 0, 54, 1, 0, 153, 0, 30, 44]
abbrev dktX2_dries_0 : List UInt8 := dkwX2_dries_0 ++ dktX2_dries_1
theorem dksX2_dries_0 : cX2_dries.data.toList.drop 0 = dktX2_dries_0 := by decide +kernel
theorem dksX2_dries_1 : cX2_dries.data.toList.drop 20 = dktX2_dries_1 := dk_seg dksX2_dries_0 20 rfl rfl
theorem dksX2_dries_2 : cX2_dries.data.toList.drop 43 = dktX2_dries_2 := dk_seg dksX2_dries_1 23 rfl rfl
theorem dX2_dries_0 : decode cX2_dries 0 = .ok (.iconst 0, 1) := dk_3 (dk_at dksX2_dries_0 0 rfl rfl)
theorem dX2_dries_1 : decode cX2_dries 1 = .ok (.istore_n 1, 1) := dk_60 (dk_at dksX2_dries_0 1 rfl rfl)
theorem dX2_dries_2 : decode cX2_dries 2 = .ok (.aload_n 0, 1) := dk_42 (dk_at dksX2_dries_0 2 rfl rfl)
theorem dX2_dries_3 : decode cX2_dries 3 = .ok (.getfield 28, 3) := dk_180 0 28 (dk_at dksX2_dries_0 3 rfl rfl)
theorem dX2_dries_6 : decode cX2_dries 6 = .ok (.invokevirtual 81, 3) := dk_182 0 81 (dk_at dksX2_dries_0 6 rfl rfl)
theorem dX2_dries_9 : decode cX2_dries 9 = .ok (.astore_n 2, 1) := dk_77 (dk_at dksX2_dries_0 9 rfl rfl)
theorem dX2_dries_10 : decode cX2_dries 10 = .ok (.aload_n 2, 1) := dk_44 (dk_at dksX2_dries_0 10 rfl rfl)
theorem dX2_dries_11 : decode cX2_dries 11 = .ok (.invokeinterface 54 1, 5) := by decide +kernel
theorem dX2_dries_16 : decode cX2_dries 16 = .ok (.ifCond .eq 30, 3) := dk_153 0 30 (dk_at dksX2_dries_0 16 rfl rfl)
theorem dX2_dries_19 : decode cX2_dries 19 = .ok (.aload_n 2, 1) := dk_44 (dk_at dksX2_dries_0 19 rfl rfl)
theorem dX2_dries_20 : decode cX2_dries 20 = .ok (.invokeinterface 60 1, 5) := by decide +kernel
theorem dX2_dries_25 : decode cX2_dries 25 = .ok (.checkcast 82, 3) := dk_192 0 82 (dk_at dksX2_dries_1 5 rfl rfl)
theorem dX2_dries_28 : decode cX2_dries 28 = .ok (.invokevirtual 135, 3) := dk_182 0 135 (dk_at dksX2_dries_1 8 rfl rfl)
theorem dX2_dries_31 : decode cX2_dries 31 = .ok (.ifCond .eq (-21), 3) := dk_153 255 235 (dk_at dksX2_dries_1 11 rfl rfl)
theorem dX2_dries_34 : decode cX2_dries 34 = .ok (.aload_n 2, 1) := dk_44 (dk_at dksX2_dries_1 14 rfl rfl)
theorem dX2_dries_35 : decode cX2_dries 35 = .ok (.invokeinterface 138 1, 5) := by decide +kernel
theorem dX2_dries_40 : decode cX2_dries 40 = .ok (.iinc 1 1, 3) := dk_132 1 1 (dk_at dksX2_dries_1 20 rfl rfl)
theorem dX2_dries_43 : decode cX2_dries 43 = .ok (.goto (-33), 3) := dk_167 255 223 (dk_at dksX2_dries_2 0 rfl rfl)
theorem dX2_dries_46 : decode cX2_dries 46 = .ok (.aload_n 0, 1) := dk_42 (dk_at dksX2_dries_2 3 rfl rfl)
theorem dX2_dries_47 : decode cX2_dries 47 = .ok (.dup, 1) := dk_89 (dk_at dksX2_dries_2 4 rfl rfl)
theorem dX2_dries_48 : decode cX2_dries 48 = .ok (.getfield 102, 3) := dk_180 0 102 (dk_at dksX2_dries_2 5 rfl rfl)
theorem dX2_dries_51 : decode cX2_dries 51 = .ok (.iload_n 1, 1) := dk_27 (dk_at dksX2_dries_2 8 rfl rfl)
theorem dX2_dries_52 : decode cX2_dries 52 = .ok (.iadd, 1) := dk_96 (dk_at dksX2_dries_2 9 rfl rfl)
theorem dX2_dries_53 : decode cX2_dries 53 = .ok (.putfield 102, 3) := dk_181 0 102 (dk_at dksX2_dries_2 10 rfl rfl)
theorem dX2_dries_56 : decode cX2_dries 56 = .ok (.iload_n 1, 1) := dk_27 (dk_at dksX2_dries_2 13 rfl rfl)
theorem dX2_dries_57 : decode cX2_dries 57 = .ok (.ireturn, 1) := dk_172 (dk_at dksX2_dries_2 14 rfl rfl)
abbrev cX2_rank : ByteArray := prog_7_method_18_code
def yX2_rank : MethodName := ⟨RX2, "rank", "(I)I"⟩
def dkwX2_rank_3 : List UInt8 := [167, 0, 4, 3, 96, 61, 132, 4, 1, 167, 255, 195, 28, 172]
abbrev dktX2_rank_3 : List UInt8 := dkwX2_rank_3 ++ []
def dkwX2_rank_2 : List UInt8 := [182, 0, 178, 154, 0, 18, 21, 4, 27, 162, 0, 16, 45, 25, 5, 182, 0, 178, 154, 0, 7, 4]
abbrev dktX2_rank_2 : List UInt8 := dkwX2_rank_2 ++ dktX2_rank_3
def dkwX2_rank_1 : List UInt8 := [182, 0, 177, 162, 0, 55, 42, 180, 0, 12, 21, 4, 182, 0, 167, 192, 0, 64, 58, 5, 28, 25, 5, 45]
abbrev dktX2_rank_1 : List UInt8 := dkwX2_rank_1 ++ dktX2_rank_2
def dkwX2_rank_0 : List UInt8 := [3, 61, 42, 180, 0, 12, 27, 182, 0, 167, 192, 0, 64, 78, 3, 54, 4, 21, 4, 42, 180, 0, 12]
abbrev dktX2_rank_0 : List UInt8 := dkwX2_rank_0 ++ dktX2_rank_1
theorem dksX2_rank_0 : cX2_rank.data.toList.drop 0 = dktX2_rank_0 := by decide +kernel
theorem dksX2_rank_1 : cX2_rank.data.toList.drop 23 = dktX2_rank_1 := dk_seg dksX2_rank_0 23 rfl rfl
theorem dksX2_rank_2 : cX2_rank.data.toList.drop 47 = dktX2_rank_2 := dk_seg dksX2_rank_1 24 rfl rfl
theorem dksX2_rank_3 : cX2_rank.data.toList.drop 69 = dktX2_rank_3 := dk_seg dksX2_rank_2 22 rfl rfl
theorem dX2_rank_0 : decode cX2_rank 0 = .ok (.iconst 0, 1) := dk_3 (dk_at dksX2_rank_0 0 rfl rfl)
theorem dX2_rank_1 : decode cX2_rank 1 = .ok (.istore_n 2, 1) := dk_61 (dk_at dksX2_rank_0 1 rfl rfl)
theorem dX2_rank_2 : decode cX2_rank 2 = .ok (.aload_n 0, 1) := dk_42 (dk_at dksX2_rank_0 2 rfl rfl)
theorem dX2_rank_3 : decode cX2_rank 3 = .ok (.getfield 12, 3) := dk_180 0 12 (dk_at dksX2_rank_0 3 rfl rfl)
theorem dX2_rank_6 : decode cX2_rank 6 = .ok (.iload_n 1, 1) := dk_27 (dk_at dksX2_rank_0 6 rfl rfl)
theorem dX2_rank_7 : decode cX2_rank 7 = .ok (.invokevirtual 167, 3) := dk_182 0 167 (dk_at dksX2_rank_0 7 rfl rfl)
theorem dX2_rank_10 : decode cX2_rank 10 = .ok (.checkcast 64, 3) := dk_192 0 64 (dk_at dksX2_rank_0 10 rfl rfl)
theorem dX2_rank_13 : decode cX2_rank 13 = .ok (.astore_n 3, 1) := dk_78 (dk_at dksX2_rank_0 13 rfl rfl)
theorem dX2_rank_14 : decode cX2_rank 14 = .ok (.iconst 0, 1) := dk_3 (dk_at dksX2_rank_0 14 rfl rfl)
theorem dX2_rank_15 : decode cX2_rank 15 = .ok (.istore 4, 2) := dk_54 4 (dk_at dksX2_rank_0 15 rfl rfl)
theorem dX2_rank_17 : decode cX2_rank 17 = .ok (.iload 4, 2) := dk_21 4 (dk_at dksX2_rank_0 17 rfl rfl)
theorem dX2_rank_19 : decode cX2_rank 19 = .ok (.aload_n 0, 1) := dk_42 (dk_at dksX2_rank_0 19 rfl rfl)
theorem dX2_rank_20 : decode cX2_rank 20 = .ok (.getfield 12, 3) := dk_180 0 12 (dk_at dksX2_rank_0 20 rfl rfl)
theorem dX2_rank_23 : decode cX2_rank 23 = .ok (.invokevirtual 177, 3) := dk_182 0 177 (dk_at dksX2_rank_1 0 rfl rfl)
theorem dX2_rank_26 : decode cX2_rank 26 = .ok (.if_icmp .ge 55, 3) := dk_162 0 55 (dk_at dksX2_rank_1 3 rfl rfl)
theorem dX2_rank_29 : decode cX2_rank 29 = .ok (.aload_n 0, 1) := dk_42 (dk_at dksX2_rank_1 6 rfl rfl)
theorem dX2_rank_30 : decode cX2_rank 30 = .ok (.getfield 12, 3) := dk_180 0 12 (dk_at dksX2_rank_1 7 rfl rfl)
theorem dX2_rank_33 : decode cX2_rank 33 = .ok (.iload 4, 2) := dk_21 4 (dk_at dksX2_rank_1 10 rfl rfl)
theorem dX2_rank_35 : decode cX2_rank 35 = .ok (.invokevirtual 167, 3) := dk_182 0 167 (dk_at dksX2_rank_1 12 rfl rfl)
theorem dX2_rank_38 : decode cX2_rank 38 = .ok (.checkcast 64, 3) := dk_192 0 64 (dk_at dksX2_rank_1 15 rfl rfl)
theorem dX2_rank_41 : decode cX2_rank 41 = .ok (.astore 5, 2) := dk_58 5 (dk_at dksX2_rank_1 18 rfl rfl)
theorem dX2_rank_43 : decode cX2_rank 43 = .ok (.iload_n 2, 1) := dk_28 (dk_at dksX2_rank_1 20 rfl rfl)
theorem dX2_rank_44 : decode cX2_rank 44 = .ok (.aload 5, 2) := dk_25 5 (dk_at dksX2_rank_1 21 rfl rfl)
theorem dX2_rank_46 : decode cX2_rank 46 = .ok (.aload_n 3, 1) := dk_45 (dk_at dksX2_rank_1 23 rfl rfl)
theorem dX2_rank_47 : decode cX2_rank 47 = .ok (.invokevirtual 178, 3) := dk_182 0 178 (dk_at dksX2_rank_2 0 rfl rfl)
theorem dX2_rank_50 : decode cX2_rank 50 = .ok (.ifCond .ne 18, 3) := dk_154 0 18 (dk_at dksX2_rank_2 3 rfl rfl)
theorem dX2_rank_53 : decode cX2_rank 53 = .ok (.iload 4, 2) := dk_21 4 (dk_at dksX2_rank_2 6 rfl rfl)
theorem dX2_rank_55 : decode cX2_rank 55 = .ok (.iload_n 1, 1) := dk_27 (dk_at dksX2_rank_2 8 rfl rfl)
theorem dX2_rank_56 : decode cX2_rank 56 = .ok (.if_icmp .ge 16, 3) := dk_162 0 16 (dk_at dksX2_rank_2 9 rfl rfl)
theorem dX2_rank_59 : decode cX2_rank 59 = .ok (.aload_n 3, 1) := dk_45 (dk_at dksX2_rank_2 12 rfl rfl)
theorem dX2_rank_60 : decode cX2_rank 60 = .ok (.aload 5, 2) := dk_25 5 (dk_at dksX2_rank_2 13 rfl rfl)
theorem dX2_rank_62 : decode cX2_rank 62 = .ok (.invokevirtual 178, 3) := dk_182 0 178 (dk_at dksX2_rank_2 15 rfl rfl)
theorem dX2_rank_65 : decode cX2_rank 65 = .ok (.ifCond .ne 7, 3) := dk_154 0 7 (dk_at dksX2_rank_2 18 rfl rfl)
theorem dX2_rank_68 : decode cX2_rank 68 = .ok (.iconst 1, 1) := dk_4 (dk_at dksX2_rank_2 21 rfl rfl)
theorem dX2_rank_69 : decode cX2_rank 69 = .ok (.goto 4, 3) := dk_167 0 4 (dk_at dksX2_rank_3 0 rfl rfl)
theorem dX2_rank_72 : decode cX2_rank 72 = .ok (.iconst 0, 1) := dk_3 (dk_at dksX2_rank_3 3 rfl rfl)
theorem dX2_rank_73 : decode cX2_rank 73 = .ok (.iadd, 1) := dk_96 (dk_at dksX2_rank_3 4 rfl rfl)
theorem dX2_rank_74 : decode cX2_rank 74 = .ok (.istore_n 2, 1) := dk_61 (dk_at dksX2_rank_3 5 rfl rfl)
theorem dX2_rank_75 : decode cX2_rank 75 = .ok (.iinc 4 1, 3) := dk_132 4 1 (dk_at dksX2_rank_3 6 rfl rfl)
theorem dX2_rank_78 : decode cX2_rank 78 = .ok (.goto (-61), 3) := dk_167 255 195 (dk_at dksX2_rank_3 9 rfl rfl)
theorem dX2_rank_81 : decode cX2_rank 81 = .ok (.iload_n 2, 1) := dk_28 (dk_at dksX2_rank_3 12 rfl rfl)
theorem dX2_rank_82 : decode cX2_rank 82 = .ok (.ireturn, 1) := dk_172 (dk_at dksX2_rank_3 13 rfl rfl)
abbrev cX2_drawing : ByteArray := prog_7_method_17_code
def yX2_drawing : MethodName := ⟨RX2, "drawing", "()I"⟩
def dkwX2_drawing_2 : List UInt8 := [167, 255, 222, 27, 172]
abbrev dktX2_drawing_2 : List UInt8 := dkwX2_drawing_2 ++ []
def dkwX2_drawing_1 : List UInt8 := [185, 0, 60, 1, 0, 192, 0, 64, 78, 27, 45, 182, 0, 174, 153, 0, 7, 4, 167, 0, 4, 3, 96, 60]
abbrev dktX2_drawing_1 : List UInt8 := dkwX2_drawing_1 ++ dktX2_drawing_2
def dkwX2_drawing_0 : List UInt8 := [3, 60, 42, 180, 0, 12, 182, 0, 50, 77, 44, 185, 0, 54, 1, 0, 153, 0, 31, 44]
abbrev dktX2_drawing_0 : List UInt8 := dkwX2_drawing_0 ++ dktX2_drawing_1
theorem dksX2_drawing_0 : cX2_drawing.data.toList.drop 0 = dktX2_drawing_0 := by decide +kernel
theorem dksX2_drawing_1 : cX2_drawing.data.toList.drop 20 = dktX2_drawing_1 := dk_seg dksX2_drawing_0 20 rfl rfl
theorem dksX2_drawing_2 : cX2_drawing.data.toList.drop 44 = dktX2_drawing_2 := dk_seg dksX2_drawing_1 24 rfl rfl
theorem dX2_drawing_0 : decode cX2_drawing 0 = .ok (.iconst 0, 1) := dk_3 (dk_at dksX2_drawing_0 0 rfl rfl)
theorem dX2_drawing_1 : decode cX2_drawing 1 = .ok (.istore_n 1, 1) := dk_60 (dk_at dksX2_drawing_0 1 rfl rfl)
theorem dX2_drawing_2 : decode cX2_drawing 2 = .ok (.aload_n 0, 1) := dk_42 (dk_at dksX2_drawing_0 2 rfl rfl)
theorem dX2_drawing_3 : decode cX2_drawing 3 = .ok (.getfield 12, 3) := dk_180 0 12 (dk_at dksX2_drawing_0 3 rfl rfl)
theorem dX2_drawing_6 : decode cX2_drawing 6 = .ok (.invokevirtual 50, 3) := dk_182 0 50 (dk_at dksX2_drawing_0 6 rfl rfl)
theorem dX2_drawing_9 : decode cX2_drawing 9 = .ok (.astore_n 2, 1) := dk_77 (dk_at dksX2_drawing_0 9 rfl rfl)
theorem dX2_drawing_10 : decode cX2_drawing 10 = .ok (.aload_n 2, 1) := dk_44 (dk_at dksX2_drawing_0 10 rfl rfl)
theorem dX2_drawing_11 : decode cX2_drawing 11 = .ok (.invokeinterface 54 1, 5) := by decide +kernel
theorem dX2_drawing_16 : decode cX2_drawing 16 = .ok (.ifCond .eq 31, 3) := dk_153 0 31 (dk_at dksX2_drawing_0 16 rfl rfl)
theorem dX2_drawing_19 : decode cX2_drawing 19 = .ok (.aload_n 2, 1) := dk_44 (dk_at dksX2_drawing_0 19 rfl rfl)
theorem dX2_drawing_20 : decode cX2_drawing 20 = .ok (.invokeinterface 60 1, 5) := by decide +kernel
theorem dX2_drawing_25 : decode cX2_drawing 25 = .ok (.checkcast 64, 3) := dk_192 0 64 (dk_at dksX2_drawing_1 5 rfl rfl)
theorem dX2_drawing_28 : decode cX2_drawing 28 = .ok (.astore_n 3, 1) := dk_78 (dk_at dksX2_drawing_1 8 rfl rfl)
theorem dX2_drawing_29 : decode cX2_drawing 29 = .ok (.iload_n 1, 1) := dk_27 (dk_at dksX2_drawing_1 9 rfl rfl)
theorem dX2_drawing_30 : decode cX2_drawing 30 = .ok (.aload_n 3, 1) := dk_45 (dk_at dksX2_drawing_1 10 rfl rfl)
theorem dX2_drawing_31 : decode cX2_drawing 31 = .ok (.invokevirtual 174, 3) := dk_182 0 174 (dk_at dksX2_drawing_1 11 rfl rfl)
theorem dX2_drawing_34 : decode cX2_drawing 34 = .ok (.ifCond .eq 7, 3) := dk_153 0 7 (dk_at dksX2_drawing_1 14 rfl rfl)
theorem dX2_drawing_37 : decode cX2_drawing 37 = .ok (.iconst 1, 1) := dk_4 (dk_at dksX2_drawing_1 17 rfl rfl)
theorem dX2_drawing_38 : decode cX2_drawing 38 = .ok (.goto 4, 3) := dk_167 0 4 (dk_at dksX2_drawing_1 18 rfl rfl)
theorem dX2_drawing_41 : decode cX2_drawing 41 = .ok (.iconst 0, 1) := dk_3 (dk_at dksX2_drawing_1 21 rfl rfl)
theorem dX2_drawing_42 : decode cX2_drawing 42 = .ok (.iadd, 1) := dk_96 (dk_at dksX2_drawing_1 22 rfl rfl)
theorem dX2_drawing_43 : decode cX2_drawing 43 = .ok (.istore_n 1, 1) := dk_60 (dk_at dksX2_drawing_1 23 rfl rfl)
theorem dX2_drawing_44 : decode cX2_drawing 44 = .ok (.goto (-34), 3) := dk_167 255 222 (dk_at dksX2_drawing_2 0 rfl rfl)
theorem dX2_drawing_47 : decode cX2_drawing 47 = .ok (.iload_n 1, 1) := dk_27 (dk_at dksX2_drawing_2 3 rfl rfl)
theorem dX2_drawing_48 : decode cX2_drawing 48 = .ok (.ireturn, 1) := dk_172 (dk_at dksX2_drawing_2 4 rfl rfl)
abbrev cX2_inches : ByteArray := prog_7_method_6_code
def yX2_inches : MethodName := ⟨RX2, "inches", "()I"⟩
def dkwX2_inches_1 : List UInt8 := [167, 255, 236, 27, 172]
abbrev dktX2_inches_1 : List UInt8 := dkwX2_inches_1 ++ []
def dkwX2_inches_0 : List UInt8 := [3, 60, 4, 61, 28, 16, 6, 163, 0, 20, 27, 28, 42, 180, 0, 32, 28, 46, 104, 96, 60, 132, 2, 1]
abbrev dktX2_inches_0 : List UInt8 := dkwX2_inches_0 ++ dktX2_inches_1
theorem dksX2_inches_0 : cX2_inches.data.toList.drop 0 = dktX2_inches_0 := by decide +kernel
theorem dksX2_inches_1 : cX2_inches.data.toList.drop 24 = dktX2_inches_1 := dk_seg dksX2_inches_0 24 rfl rfl
theorem dX2_inches_0 : decode cX2_inches 0 = .ok (.iconst 0, 1) := dk_3 (dk_at dksX2_inches_0 0 rfl rfl)
theorem dX2_inches_1 : decode cX2_inches 1 = .ok (.istore_n 1, 1) := dk_60 (dk_at dksX2_inches_0 1 rfl rfl)
theorem dX2_inches_2 : decode cX2_inches 2 = .ok (.iconst 1, 1) := dk_4 (dk_at dksX2_inches_0 2 rfl rfl)
theorem dX2_inches_3 : decode cX2_inches 3 = .ok (.istore_n 2, 1) := dk_61 (dk_at dksX2_inches_0 3 rfl rfl)
theorem dX2_inches_4 : decode cX2_inches 4 = .ok (.iload_n 2, 1) := dk_28 (dk_at dksX2_inches_0 4 rfl rfl)
theorem dX2_inches_5 : decode cX2_inches 5 = .ok (.bipush 6, 2) := dk_16 6 (dk_at dksX2_inches_0 5 rfl rfl)
theorem dX2_inches_7 : decode cX2_inches 7 = .ok (.if_icmp .gt 20, 3) := dk_163 0 20 (dk_at dksX2_inches_0 7 rfl rfl)
theorem dX2_inches_10 : decode cX2_inches 10 = .ok (.iload_n 1, 1) := dk_27 (dk_at dksX2_inches_0 10 rfl rfl)
theorem dX2_inches_11 : decode cX2_inches 11 = .ok (.iload_n 2, 1) := dk_28 (dk_at dksX2_inches_0 11 rfl rfl)
theorem dX2_inches_12 : decode cX2_inches 12 = .ok (.aload_n 0, 1) := dk_42 (dk_at dksX2_inches_0 12 rfl rfl)
theorem dX2_inches_13 : decode cX2_inches 13 = .ok (.getfield 32, 3) := dk_180 0 32 (dk_at dksX2_inches_0 13 rfl rfl)
theorem dX2_inches_16 : decode cX2_inches 16 = .ok (.iload_n 2, 1) := dk_28 (dk_at dksX2_inches_0 16 rfl rfl)
theorem dX2_inches_17 : decode cX2_inches 17 = .ok (.iaload, 1) := dk_46 (dk_at dksX2_inches_0 17 rfl rfl)
theorem dX2_inches_18 : decode cX2_inches 18 = .ok (.imul, 1) := dk_104 (dk_at dksX2_inches_0 18 rfl rfl)
theorem dX2_inches_19 : decode cX2_inches 19 = .ok (.iadd, 1) := dk_96 (dk_at dksX2_inches_0 19 rfl rfl)
theorem dX2_inches_20 : decode cX2_inches 20 = .ok (.istore_n 1, 1) := dk_60 (dk_at dksX2_inches_0 20 rfl rfl)
theorem dX2_inches_21 : decode cX2_inches 21 = .ok (.iinc 2 1, 3) := dk_132 2 1 (dk_at dksX2_inches_0 21 rfl rfl)
theorem dX2_inches_24 : decode cX2_inches 24 = .ok (.goto (-20), 3) := dk_167 255 236 (dk_at dksX2_inches_1 0 rfl rfl)
theorem dX2_inches_27 : decode cX2_inches 27 = .ok (.iload_n 1, 1) := dk_27 (dk_at dksX2_inches_1 3 rfl rfl)
theorem dX2_inches_28 : decode cX2_inches 28 = .ok (.ireturn, 1) := dk_172 (dk_at dksX2_inches_1 4 rfl rfl)
abbrev cX4_init : ByteArray := prog_6_method_1_code
def yX4_init : MethodName := ⟨RX4, "<init>", "(IILClayPipes$Reason;)V"⟩
def dkwX4_init_0 : List UInt8 := [42, 183, 0, 1, 42, 27, 181, 0, 7, 42, 28, 181, 0, 13, 42, 45, 181, 0, 16, 177]
abbrev dktX4_init_0 : List UInt8 := dkwX4_init_0 ++ []
theorem dksX4_init_0 : cX4_init.data.toList.drop 0 = dktX4_init_0 := by decide +kernel
theorem dX4_init_0 : decode cX4_init 0 = .ok (.aload_n 0, 1) := dk_42 (dk_at dksX4_init_0 0 rfl rfl)
theorem dX4_init_1 : decode cX4_init 1 = .ok (.invokespecial 1, 3) := dk_183 0 1 (dk_at dksX4_init_0 1 rfl rfl)
theorem dX4_init_4 : decode cX4_init 4 = .ok (.aload_n 0, 1) := dk_42 (dk_at dksX4_init_0 4 rfl rfl)
theorem dX4_init_5 : decode cX4_init 5 = .ok (.iload_n 1, 1) := dk_27 (dk_at dksX4_init_0 5 rfl rfl)
theorem dX4_init_6 : decode cX4_init 6 = .ok (.putfield 7, 3) := dk_181 0 7 (dk_at dksX4_init_0 6 rfl rfl)
theorem dX4_init_9 : decode cX4_init 9 = .ok (.aload_n 0, 1) := dk_42 (dk_at dksX4_init_0 9 rfl rfl)
theorem dX4_init_10 : decode cX4_init 10 = .ok (.iload_n 2, 1) := dk_28 (dk_at dksX4_init_0 10 rfl rfl)
theorem dX4_init_11 : decode cX4_init 11 = .ok (.putfield 13, 3) := dk_181 0 13 (dk_at dksX4_init_0 11 rfl rfl)
theorem dX4_init_14 : decode cX4_init 14 = .ok (.aload_n 0, 1) := dk_42 (dk_at dksX4_init_0 14 rfl rfl)
theorem dX4_init_15 : decode cX4_init 15 = .ok (.aload_n 3, 1) := dk_45 (dk_at dksX4_init_0 15 rfl rfl)
theorem dX4_init_16 : decode cX4_init 16 = .ok (.putfield 16, 3) := dk_181 0 16 (dk_at dksX4_init_0 16 rfl rfl)
theorem dX4_init_19 : decode cX4_init 19 = .ok (.return_, 1) := dk_177 (dk_at dksX4_init_0 19 rfl rfl)
abbrev cX5_copy : ByteArray := prog_4_method_2_code
def yX5_copy : MethodName := ⟨RX5, "copy", "()LClayPipes$Pipe;"⟩
def dkwX5_copy_1 : List UInt8 := [43, 42, 180, 0, 24, 181, 0, 24, 43, 42, 180, 0, 27, 181, 0, 27, 43, 176]
abbrev dktX5_copy_1 : List UInt8 := dkwX5_copy_1 ++ []
def dkwX5_copy_0 : List UInt8 := [187, 0, 10, 89, 42, 180, 0, 9, 42, 180, 0, 15, 183, 0, 18, 76, 43, 42, 180, 0, 21, 181, 0, 21]
abbrev dktX5_copy_0 : List UInt8 := dkwX5_copy_0 ++ dktX5_copy_1
theorem dksX5_copy_0 : cX5_copy.data.toList.drop 0 = dktX5_copy_0 := by decide +kernel
theorem dksX5_copy_1 : cX5_copy.data.toList.drop 24 = dktX5_copy_1 := dk_seg dksX5_copy_0 24 rfl rfl
theorem dX5_copy_0 : decode cX5_copy 0 = .ok (.new 10, 3) := dk_187 0 10 (dk_at dksX5_copy_0 0 rfl rfl)
theorem dX5_copy_3 : decode cX5_copy 3 = .ok (.dup, 1) := dk_89 (dk_at dksX5_copy_0 3 rfl rfl)
theorem dX5_copy_4 : decode cX5_copy 4 = .ok (.aload_n 0, 1) := dk_42 (dk_at dksX5_copy_0 4 rfl rfl)
theorem dX5_copy_5 : decode cX5_copy 5 = .ok (.getfield 9, 3) := dk_180 0 9 (dk_at dksX5_copy_0 5 rfl rfl)
theorem dX5_copy_8 : decode cX5_copy 8 = .ok (.aload_n 0, 1) := dk_42 (dk_at dksX5_copy_0 8 rfl rfl)
theorem dX5_copy_9 : decode cX5_copy 9 = .ok (.getfield 15, 3) := dk_180 0 15 (dk_at dksX5_copy_0 9 rfl rfl)
theorem dX5_copy_12 : decode cX5_copy 12 = .ok (.invokespecial 18, 3) := dk_183 0 18 (dk_at dksX5_copy_0 12 rfl rfl)
theorem dX5_copy_15 : decode cX5_copy 15 = .ok (.astore_n 1, 1) := dk_76 (dk_at dksX5_copy_0 15 rfl rfl)
theorem dX5_copy_16 : decode cX5_copy 16 = .ok (.aload_n 1, 1) := dk_43 (dk_at dksX5_copy_0 16 rfl rfl)
theorem dX5_copy_17 : decode cX5_copy 17 = .ok (.aload_n 0, 1) := dk_42 (dk_at dksX5_copy_0 17 rfl rfl)
theorem dX5_copy_18 : decode cX5_copy 18 = .ok (.getfield 21, 3) := dk_180 0 21 (dk_at dksX5_copy_0 18 rfl rfl)
theorem dX5_copy_21 : decode cX5_copy 21 = .ok (.putfield 21, 3) := dk_181 0 21 (dk_at dksX5_copy_0 21 rfl rfl)
theorem dX5_copy_24 : decode cX5_copy 24 = .ok (.aload_n 1, 1) := dk_43 (dk_at dksX5_copy_1 0 rfl rfl)
theorem dX5_copy_25 : decode cX5_copy 25 = .ok (.aload_n 0, 1) := dk_42 (dk_at dksX5_copy_1 1 rfl rfl)
theorem dX5_copy_26 : decode cX5_copy 26 = .ok (.getfield 24, 3) := dk_180 0 24 (dk_at dksX5_copy_1 2 rfl rfl)
theorem dX5_copy_29 : decode cX5_copy 29 = .ok (.putfield 24, 3) := dk_181 0 24 (dk_at dksX5_copy_1 5 rfl rfl)
theorem dX5_copy_32 : decode cX5_copy 32 = .ok (.aload_n 1, 1) := dk_43 (dk_at dksX5_copy_1 8 rfl rfl)
theorem dX5_copy_33 : decode cX5_copy 33 = .ok (.aload_n 0, 1) := dk_42 (dk_at dksX5_copy_1 9 rfl rfl)
theorem dX5_copy_34 : decode cX5_copy 34 = .ok (.getfield 27, 3) := dk_180 0 27 (dk_at dksX5_copy_1 10 rfl rfl)
theorem dX5_copy_37 : decode cX5_copy 37 = .ok (.putfield 27, 3) := dk_181 0 27 (dk_at dksX5_copy_1 13 rfl rfl)
theorem dX5_copy_40 : decode cX5_copy 40 = .ok (.aload_n 1, 1) := dk_43 (dk_at dksX5_copy_1 16 rfl rfl)
theorem dX5_copy_41 : decode cX5_copy 41 = .ok (.areturn, 1) := dk_176 (dk_at dksX5_copy_1 17 rfl rfl)
abbrev cX5_init : ByteArray := prog_4_method_1_code
def yX5_init : MethodName := ⟨RX5, "<init>", "(II)V"⟩
def dkwX5_init_0 : List UInt8 := [42, 183, 0, 3, 42, 27, 181, 0, 9, 42, 28, 181, 0, 15, 177]
abbrev dktX5_init_0 : List UInt8 := dkwX5_init_0 ++ []
theorem dksX5_init_0 : cX5_init.data.toList.drop 0 = dktX5_init_0 := by decide +kernel
theorem dX5_init_0 : decode cX5_init 0 = .ok (.aload_n 0, 1) := dk_42 (dk_at dksX5_init_0 0 rfl rfl)
theorem dX5_init_1 : decode cX5_init 1 = .ok (.invokespecial 3, 3) := dk_183 0 3 (dk_at dksX5_init_0 1 rfl rfl)
theorem dX5_init_4 : decode cX5_init 4 = .ok (.aload_n 0, 1) := dk_42 (dk_at dksX5_init_0 4 rfl rfl)
theorem dX5_init_5 : decode cX5_init 5 = .ok (.iload_n 1, 1) := dk_27 (dk_at dksX5_init_0 5 rfl rfl)
theorem dX5_init_6 : decode cX5_init 6 = .ok (.putfield 9, 3) := dk_181 0 9 (dk_at dksX5_init_0 6 rfl rfl)
theorem dX5_init_9 : decode cX5_init 9 = .ok (.aload_n 0, 1) := dk_42 (dk_at dksX5_init_0 9 rfl rfl)
theorem dX5_init_10 : decode cX5_init 10 = .ok (.iload_n 2, 1) := dk_28 (dk_at dksX5_init_0 10 rfl rfl)
theorem dX5_init_11 : decode cX5_init 11 = .ok (.putfield 15, 3) := dk_181 0 15 (dk_at dksX5_init_0 11 rfl rfl)
theorem dX5_init_14 : decode cX5_init 14 = .ok (.return_, 1) := dk_177 (dk_at dksX5_init_0 14 rfl rfl)
abbrev cX5_lumps : ByteArray := prog_4_method_6_code
def yX5_lumps : MethodName := ⟨RX5, "lumps", "()I"⟩
def dkwX5_lumps_0 : List UInt8 := [42, 180, 0, 15, 5, 96, 6, 108, 42, 182, 0, 30, 153, 0, 7, 4, 167, 0, 4, 3, 96, 172]
abbrev dktX5_lumps_0 : List UInt8 := dkwX5_lumps_0 ++ []
theorem dksX5_lumps_0 : cX5_lumps.data.toList.drop 0 = dktX5_lumps_0 := by decide +kernel
theorem dX5_lumps_0 : decode cX5_lumps 0 = .ok (.aload_n 0, 1) := dk_42 (dk_at dksX5_lumps_0 0 rfl rfl)
theorem dX5_lumps_1 : decode cX5_lumps 1 = .ok (.getfield 15, 3) := dk_180 0 15 (dk_at dksX5_lumps_0 1 rfl rfl)
theorem dX5_lumps_4 : decode cX5_lumps 4 = .ok (.iconst 2, 1) := dk_5 (dk_at dksX5_lumps_0 4 rfl rfl)
theorem dX5_lumps_5 : decode cX5_lumps 5 = .ok (.iadd, 1) := dk_96 (dk_at dksX5_lumps_0 5 rfl rfl)
theorem dX5_lumps_6 : decode cX5_lumps 6 = .ok (.iconst 3, 1) := dk_6 (dk_at dksX5_lumps_0 6 rfl rfl)
theorem dX5_lumps_7 : decode cX5_lumps 7 = .ok (.idiv, 1) := dk_108 (dk_at dksX5_lumps_0 7 rfl rfl)
theorem dX5_lumps_8 : decode cX5_lumps 8 = .ok (.aload_n 0, 1) := dk_42 (dk_at dksX5_lumps_0 8 rfl rfl)
theorem dX5_lumps_9 : decode cX5_lumps 9 = .ok (.invokevirtual 30, 3) := dk_182 0 30 (dk_at dksX5_lumps_0 9 rfl rfl)
theorem dX5_lumps_12 : decode cX5_lumps 12 = .ok (.ifCond .eq 7, 3) := dk_153 0 7 (dk_at dksX5_lumps_0 12 rfl rfl)
theorem dX5_lumps_15 : decode cX5_lumps 15 = .ok (.iconst 1, 1) := dk_4 (dk_at dksX5_lumps_0 15 rfl rfl)
theorem dX5_lumps_16 : decode cX5_lumps 16 = .ok (.goto 4, 3) := dk_167 0 4 (dk_at dksX5_lumps_0 16 rfl rfl)
theorem dX5_lumps_19 : decode cX5_lumps 19 = .ok (.iconst 0, 1) := dk_3 (dk_at dksX5_lumps_0 19 rfl rfl)
theorem dX5_lumps_20 : decode cX5_lumps 20 = .ok (.iadd, 1) := dk_96 (dk_at dksX5_lumps_0 20 rfl rfl)
theorem dX5_lumps_21 : decode cX5_lumps 21 = .ok (.ireturn, 1) := dk_172 (dk_at dksX5_lumps_0 21 rfl rfl)
abbrev cX5_isShort : ByteArray := prog_4_method_3_code
def yX5_isShort : MethodName := ⟨RX5, "isShort", "()Z"⟩
def dkwX5_isShort_0 : List UInt8 := [42, 180, 0, 9, 6, 162, 0, 7, 4, 167, 0, 4, 3, 172]
abbrev dktX5_isShort_0 : List UInt8 := dkwX5_isShort_0 ++ []
theorem dksX5_isShort_0 : cX5_isShort.data.toList.drop 0 = dktX5_isShort_0 := by decide +kernel
theorem dX5_isShort_0 : decode cX5_isShort 0 = .ok (.aload_n 0, 1) := dk_42 (dk_at dksX5_isShort_0 0 rfl rfl)
theorem dX5_isShort_1 : decode cX5_isShort 1 = .ok (.getfield 9, 3) := dk_180 0 9 (dk_at dksX5_isShort_0 1 rfl rfl)
theorem dX5_isShort_4 : decode cX5_isShort 4 = .ok (.iconst 3, 1) := dk_6 (dk_at dksX5_isShort_0 4 rfl rfl)
theorem dX5_isShort_5 : decode cX5_isShort 5 = .ok (.if_icmp .ge 7, 3) := dk_162 0 7 (dk_at dksX5_isShort_0 5 rfl rfl)
theorem dX5_isShort_8 : decode cX5_isShort 8 = .ok (.iconst 1, 1) := dk_4 (dk_at dksX5_isShort_0 8 rfl rfl)
theorem dX5_isShort_9 : decode cX5_isShort 9 = .ok (.goto 4, 3) := dk_167 0 4 (dk_at dksX5_isShort_0 9 rfl rfl)
theorem dX5_isShort_12 : decode cX5_isShort 12 = .ok (.iconst 0, 1) := dk_3 (dk_at dksX5_isShort_0 12 rfl rfl)
theorem dX5_isShort_13 : decode cX5_isShort 13 = .ok (.ireturn, 1) := dk_172 (dk_at dksX5_isShort_0 13 rfl rfl)
abbrev cX5_wants : ByteArray := prog_4_method_7_code
def yX5_wants : MethodName := ⟨RX5, "wants", "()I"⟩
def dkwX5_wants_0 : List UInt8 := [42, 182, 0, 30, 153, 0, 12, 6, 42, 180, 0, 9, 100, 167, 0, 4, 3, 172]
abbrev dktX5_wants_0 : List UInt8 := dkwX5_wants_0 ++ []
theorem dksX5_wants_0 : cX5_wants.data.toList.drop 0 = dktX5_wants_0 := by decide +kernel
theorem dX5_wants_0 : decode cX5_wants 0 = .ok (.aload_n 0, 1) := dk_42 (dk_at dksX5_wants_0 0 rfl rfl)
theorem dX5_wants_1 : decode cX5_wants 1 = .ok (.invokevirtual 30, 3) := dk_182 0 30 (dk_at dksX5_wants_0 1 rfl rfl)
theorem dX5_wants_4 : decode cX5_wants 4 = .ok (.ifCond .eq 12, 3) := dk_153 0 12 (dk_at dksX5_wants_0 4 rfl rfl)
theorem dX5_wants_7 : decode cX5_wants 7 = .ok (.iconst 3, 1) := dk_6 (dk_at dksX5_wants_0 7 rfl rfl)
theorem dX5_wants_8 : decode cX5_wants 8 = .ok (.aload_n 0, 1) := dk_42 (dk_at dksX5_wants_0 8 rfl rfl)
theorem dX5_wants_9 : decode cX5_wants 9 = .ok (.getfield 9, 3) := dk_180 0 9 (dk_at dksX5_wants_0 9 rfl rfl)
theorem dX5_wants_12 : decode cX5_wants 12 = .ok (.isub, 1) := dk_100 (dk_at dksX5_wants_0 12 rfl rfl)
theorem dX5_wants_13 : decode cX5_wants 13 = .ok (.goto 4, 3) := dk_167 0 4 (dk_at dksX5_wants_0 13 rfl rfl)
theorem dX5_wants_16 : decode cX5_wants 16 = .ok (.iconst 0, 1) := dk_3 (dk_at dksX5_wants_0 16 rfl rfl)
theorem dX5_wants_17 : decode cX5_wants 17 = .ok (.ireturn, 1) := dk_172 (dk_at dksX5_wants_0 17 rfl rfl)
abbrev cX5_isMended : ByteArray := prog_4_method_10_code
def yX5_isMended : MethodName := ⟨RX5, "isMended", "(I)V"⟩
def dkwX5_isMended_1 : List UInt8 := [180, 0, 24, 4, 96, 181, 0, 24, 177]
abbrev dktX5_isMended_1 : List UInt8 := dkwX5_isMended_1 ++ []
def dkwX5_isMended_0 : List UInt8 := [42, 89, 180, 0, 9, 27, 96, 181, 0, 9, 42, 3, 181, 0, 15, 42, 3, 181, 0, 21, 42, 89]
abbrev dktX5_isMended_0 : List UInt8 := dkwX5_isMended_0 ++ dktX5_isMended_1
theorem dksX5_isMended_0 : cX5_isMended.data.toList.drop 0 = dktX5_isMended_0 := by decide +kernel
theorem dksX5_isMended_1 : cX5_isMended.data.toList.drop 22 = dktX5_isMended_1 := dk_seg dksX5_isMended_0 22 rfl rfl
theorem dX5_isMended_0 : decode cX5_isMended 0 = .ok (.aload_n 0, 1) := dk_42 (dk_at dksX5_isMended_0 0 rfl rfl)
theorem dX5_isMended_1 : decode cX5_isMended 1 = .ok (.dup, 1) := dk_89 (dk_at dksX5_isMended_0 1 rfl rfl)
theorem dX5_isMended_2 : decode cX5_isMended 2 = .ok (.getfield 9, 3) := dk_180 0 9 (dk_at dksX5_isMended_0 2 rfl rfl)
theorem dX5_isMended_5 : decode cX5_isMended 5 = .ok (.iload_n 1, 1) := dk_27 (dk_at dksX5_isMended_0 5 rfl rfl)
theorem dX5_isMended_6 : decode cX5_isMended 6 = .ok (.iadd, 1) := dk_96 (dk_at dksX5_isMended_0 6 rfl rfl)
theorem dX5_isMended_7 : decode cX5_isMended 7 = .ok (.putfield 9, 3) := dk_181 0 9 (dk_at dksX5_isMended_0 7 rfl rfl)
theorem dX5_isMended_10 : decode cX5_isMended 10 = .ok (.aload_n 0, 1) := dk_42 (dk_at dksX5_isMended_0 10 rfl rfl)
theorem dX5_isMended_11 : decode cX5_isMended 11 = .ok (.iconst 0, 1) := dk_3 (dk_at dksX5_isMended_0 11 rfl rfl)
theorem dX5_isMended_12 : decode cX5_isMended 12 = .ok (.putfield 15, 3) := dk_181 0 15 (dk_at dksX5_isMended_0 12 rfl rfl)
theorem dX5_isMended_15 : decode cX5_isMended 15 = .ok (.aload_n 0, 1) := dk_42 (dk_at dksX5_isMended_0 15 rfl rfl)
theorem dX5_isMended_16 : decode cX5_isMended 16 = .ok (.iconst 0, 1) := dk_3 (dk_at dksX5_isMended_0 16 rfl rfl)
theorem dX5_isMended_17 : decode cX5_isMended 17 = .ok (.putfield 21, 3) := dk_181 0 21 (dk_at dksX5_isMended_0 17 rfl rfl)
theorem dX5_isMended_20 : decode cX5_isMended 20 = .ok (.aload_n 0, 1) := dk_42 (dk_at dksX5_isMended_0 20 rfl rfl)
theorem dX5_isMended_21 : decode cX5_isMended 21 = .ok (.dup, 1) := dk_89 (dk_at dksX5_isMended_0 21 rfl rfl)
theorem dX5_isMended_22 : decode cX5_isMended 22 = .ok (.getfield 24, 3) := dk_180 0 24 (dk_at dksX5_isMended_1 0 rfl rfl)
theorem dX5_isMended_25 : decode cX5_isMended 25 = .ok (.iconst 1, 1) := dk_4 (dk_at dksX5_isMended_1 3 rfl rfl)
theorem dX5_isMended_26 : decode cX5_isMended 26 = .ok (.iadd, 1) := dk_96 (dk_at dksX5_isMended_1 4 rfl rfl)
theorem dX5_isMended_27 : decode cX5_isMended 27 = .ok (.putfield 24, 3) := dk_181 0 24 (dk_at dksX5_isMended_1 5 rfl rfl)
theorem dX5_isMended_30 : decode cX5_isMended 30 = .ok (.return_, 1) := dk_177 (dk_at dksX5_isMended_1 8 rfl rfl)
abbrev cX5_draws : ByteArray := prog_4_method_5_code
def yX5_draws : MethodName := ⟨RX5, "draws", "()Z"⟩
def dkwX5_draws_0 : List UInt8 := [42, 182, 0, 34, 2, 160, 0, 7, 4, 167, 0, 4, 3, 172]
abbrev dktX5_draws_0 : List UInt8 := dkwX5_draws_0 ++ []
theorem dksX5_draws_0 : cX5_draws.data.toList.drop 0 = dktX5_draws_0 := by decide +kernel
theorem dX5_draws_0 : decode cX5_draws 0 = .ok (.aload_n 0, 1) := dk_42 (dk_at dksX5_draws_0 0 rfl rfl)
theorem dX5_draws_1 : decode cX5_draws 1 = .ok (.invokevirtual 34, 3) := dk_182 0 34 (dk_at dksX5_draws_0 1 rfl rfl)
theorem dX5_draws_4 : decode cX5_draws 4 = .ok (.iconst (-1), 1) := dk_2 (dk_at dksX5_draws_0 4 rfl rfl)
theorem dX5_draws_5 : decode cX5_draws 5 = .ok (.if_icmp .ne 7, 3) := dk_160 0 7 (dk_at dksX5_draws_0 5 rfl rfl)
theorem dX5_draws_8 : decode cX5_draws 8 = .ok (.iconst 1, 1) := dk_4 (dk_at dksX5_draws_0 8 rfl rfl)
theorem dX5_draws_9 : decode cX5_draws 9 = .ok (.goto 4, 3) := dk_167 0 4 (dk_at dksX5_draws_0 9 rfl rfl)
theorem dX5_draws_12 : decode cX5_draws 12 = .ok (.iconst 0, 1) := dk_3 (dk_at dksX5_draws_0 12 rfl rfl)
theorem dX5_draws_13 : decode cX5_draws 13 = .ok (.ireturn, 1) := dk_172 (dk_at dksX5_draws_0 13 rfl rfl)
abbrev cX5_against : ByteArray := prog_4_method_4_code
def yX5_against : MethodName := ⟨RX5, "against", "()I"⟩
def dkwX5_against_1 : List UInt8 := [164, 0, 7, 5, 167, 0, 4, 2, 172]
abbrev dktX5_against_1 : List UInt8 := dkwX5_against_1 ++ []
def dkwX5_against_0 : List UInt8 := [42, 182, 0, 30, 153, 0, 5, 3, 172, 42, 180, 0, 15, 5, 164, 0, 5, 4, 172, 42, 180, 0, 21, 7]
abbrev dktX5_against_0 : List UInt8 := dkwX5_against_0 ++ dktX5_against_1
theorem dksX5_against_0 : cX5_against.data.toList.drop 0 = dktX5_against_0 := by decide +kernel
theorem dksX5_against_1 : cX5_against.data.toList.drop 24 = dktX5_against_1 := dk_seg dksX5_against_0 24 rfl rfl
theorem dX5_against_0 : decode cX5_against 0 = .ok (.aload_n 0, 1) := dk_42 (dk_at dksX5_against_0 0 rfl rfl)
theorem dX5_against_1 : decode cX5_against 1 = .ok (.invokevirtual 30, 3) := dk_182 0 30 (dk_at dksX5_against_0 1 rfl rfl)
theorem dX5_against_4 : decode cX5_against 4 = .ok (.ifCond .eq 5, 3) := dk_153 0 5 (dk_at dksX5_against_0 4 rfl rfl)
theorem dX5_against_7 : decode cX5_against 7 = .ok (.iconst 0, 1) := dk_3 (dk_at dksX5_against_0 7 rfl rfl)
theorem dX5_against_8 : decode cX5_against 8 = .ok (.ireturn, 1) := dk_172 (dk_at dksX5_against_0 8 rfl rfl)
theorem dX5_against_9 : decode cX5_against 9 = .ok (.aload_n 0, 1) := dk_42 (dk_at dksX5_against_0 9 rfl rfl)
theorem dX5_against_10 : decode cX5_against 10 = .ok (.getfield 15, 3) := dk_180 0 15 (dk_at dksX5_against_0 10 rfl rfl)
theorem dX5_against_13 : decode cX5_against 13 = .ok (.iconst 2, 1) := dk_5 (dk_at dksX5_against_0 13 rfl rfl)
theorem dX5_against_14 : decode cX5_against 14 = .ok (.if_icmp .le 5, 3) := dk_164 0 5 (dk_at dksX5_against_0 14 rfl rfl)
theorem dX5_against_17 : decode cX5_against 17 = .ok (.iconst 1, 1) := dk_4 (dk_at dksX5_against_0 17 rfl rfl)
theorem dX5_against_18 : decode cX5_against 18 = .ok (.ireturn, 1) := dk_172 (dk_at dksX5_against_0 18 rfl rfl)
theorem dX5_against_19 : decode cX5_against 19 = .ok (.aload_n 0, 1) := dk_42 (dk_at dksX5_against_0 19 rfl rfl)
theorem dX5_against_20 : decode cX5_against 20 = .ok (.getfield 21, 3) := dk_180 0 21 (dk_at dksX5_against_0 20 rfl rfl)
theorem dX5_against_23 : decode cX5_against 23 = .ok (.iconst 4, 1) := dk_7 (dk_at dksX5_against_0 23 rfl rfl)
theorem dX5_against_24 : decode cX5_against 24 = .ok (.if_icmp .le 7, 3) := dk_164 0 7 (dk_at dksX5_against_1 0 rfl rfl)
theorem dX5_against_27 : decode cX5_against 27 = .ok (.iconst 2, 1) := dk_5 (dk_at dksX5_against_1 3 rfl rfl)
theorem dX5_against_28 : decode cX5_against 28 = .ok (.goto 4, 3) := dk_167 0 4 (dk_at dksX5_against_1 4 rfl rfl)
theorem dX5_against_31 : decode cX5_against 31 = .ok (.iconst (-1), 1) := dk_2 (dk_at dksX5_against_1 7 rfl rfl)
theorem dX5_against_32 : decode cX5_against 32 = .ok (.ireturn, 1) := dk_172 (dk_at dksX5_against_1 8 rfl rfl)
abbrev cX5_smokes : ByteArray := prog_4_method_8_code
def yX5_smokes : MethodName := ⟨RX5, "smokes", "()V"⟩
def dkwX5_smokes_2 : List UInt8 := [177]
abbrev dktX5_smokes_2 : List UInt8 := dkwX5_smokes_2 ++ []
def dkwX5_smokes_1 : List UInt8 := [16, 9, 42, 180, 0, 15, 4, 96, 184, 0, 38, 181, 0, 15, 42, 89, 180, 0, 27, 4, 96, 181, 0, 27]
abbrev dktX5_smokes_1 : List UInt8 := dkwX5_smokes_1 ++ dktX5_smokes_2
def dkwX5_smokes_0 : List UInt8 := [42, 16, 9, 42, 180, 0, 21, 4, 96, 184, 0, 38, 181, 0, 21, 42, 180, 0, 21, 7, 161, 0, 18, 42]
abbrev dktX5_smokes_0 : List UInt8 := dkwX5_smokes_0 ++ dktX5_smokes_1
theorem dksX5_smokes_0 : cX5_smokes.data.toList.drop 0 = dktX5_smokes_0 := by decide +kernel
theorem dksX5_smokes_1 : cX5_smokes.data.toList.drop 24 = dktX5_smokes_1 := dk_seg dksX5_smokes_0 24 rfl rfl
theorem dksX5_smokes_2 : cX5_smokes.data.toList.drop 48 = dktX5_smokes_2 := dk_seg dksX5_smokes_1 24 rfl rfl
theorem dX5_smokes_0 : decode cX5_smokes 0 = .ok (.aload_n 0, 1) := dk_42 (dk_at dksX5_smokes_0 0 rfl rfl)
theorem dX5_smokes_1 : decode cX5_smokes 1 = .ok (.bipush 9, 2) := dk_16 9 (dk_at dksX5_smokes_0 1 rfl rfl)
theorem dX5_smokes_3 : decode cX5_smokes 3 = .ok (.aload_n 0, 1) := dk_42 (dk_at dksX5_smokes_0 3 rfl rfl)
theorem dX5_smokes_4 : decode cX5_smokes 4 = .ok (.getfield 21, 3) := dk_180 0 21 (dk_at dksX5_smokes_0 4 rfl rfl)
theorem dX5_smokes_7 : decode cX5_smokes 7 = .ok (.iconst 1, 1) := dk_4 (dk_at dksX5_smokes_0 7 rfl rfl)
theorem dX5_smokes_8 : decode cX5_smokes 8 = .ok (.iadd, 1) := dk_96 (dk_at dksX5_smokes_0 8 rfl rfl)
theorem dX5_smokes_9 : decode cX5_smokes 9 = .ok (.invokestatic 38, 3) := dk_184 0 38 (dk_at dksX5_smokes_0 9 rfl rfl)
theorem dX5_smokes_12 : decode cX5_smokes 12 = .ok (.putfield 21, 3) := dk_181 0 21 (dk_at dksX5_smokes_0 12 rfl rfl)
theorem dX5_smokes_15 : decode cX5_smokes 15 = .ok (.aload_n 0, 1) := dk_42 (dk_at dksX5_smokes_0 15 rfl rfl)
theorem dX5_smokes_16 : decode cX5_smokes 16 = .ok (.getfield 21, 3) := dk_180 0 21 (dk_at dksX5_smokes_0 16 rfl rfl)
theorem dX5_smokes_19 : decode cX5_smokes 19 = .ok (.iconst 4, 1) := dk_7 (dk_at dksX5_smokes_0 19 rfl rfl)
theorem dX5_smokes_20 : decode cX5_smokes 20 = .ok (.if_icmp .lt 18, 3) := dk_161 0 18 (dk_at dksX5_smokes_0 20 rfl rfl)
theorem dX5_smokes_23 : decode cX5_smokes 23 = .ok (.aload_n 0, 1) := dk_42 (dk_at dksX5_smokes_0 23 rfl rfl)
theorem dX5_smokes_24 : decode cX5_smokes 24 = .ok (.bipush 9, 2) := dk_16 9 (dk_at dksX5_smokes_1 0 rfl rfl)
theorem dX5_smokes_26 : decode cX5_smokes 26 = .ok (.aload_n 0, 1) := dk_42 (dk_at dksX5_smokes_1 2 rfl rfl)
theorem dX5_smokes_27 : decode cX5_smokes 27 = .ok (.getfield 15, 3) := dk_180 0 15 (dk_at dksX5_smokes_1 3 rfl rfl)
theorem dX5_smokes_30 : decode cX5_smokes 30 = .ok (.iconst 1, 1) := dk_4 (dk_at dksX5_smokes_1 6 rfl rfl)
theorem dX5_smokes_31 : decode cX5_smokes 31 = .ok (.iadd, 1) := dk_96 (dk_at dksX5_smokes_1 7 rfl rfl)
theorem dX5_smokes_32 : decode cX5_smokes 32 = .ok (.invokestatic 38, 3) := dk_184 0 38 (dk_at dksX5_smokes_1 8 rfl rfl)
theorem dX5_smokes_35 : decode cX5_smokes 35 = .ok (.putfield 15, 3) := dk_181 0 15 (dk_at dksX5_smokes_1 11 rfl rfl)
theorem dX5_smokes_38 : decode cX5_smokes 38 = .ok (.aload_n 0, 1) := dk_42 (dk_at dksX5_smokes_1 14 rfl rfl)
theorem dX5_smokes_39 : decode cX5_smokes 39 = .ok (.dup, 1) := dk_89 (dk_at dksX5_smokes_1 15 rfl rfl)
theorem dX5_smokes_40 : decode cX5_smokes 40 = .ok (.getfield 27, 3) := dk_180 0 27 (dk_at dksX5_smokes_1 16 rfl rfl)
theorem dX5_smokes_43 : decode cX5_smokes 43 = .ok (.iconst 1, 1) := dk_4 (dk_at dksX5_smokes_1 19 rfl rfl)
theorem dX5_smokes_44 : decode cX5_smokes 44 = .ok (.iadd, 1) := dk_96 (dk_at dksX5_smokes_1 20 rfl rfl)
theorem dX5_smokes_45 : decode cX5_smokes 45 = .ok (.putfield 27, 3) := dk_181 0 27 (dk_at dksX5_smokes_1 21 rfl rfl)
theorem dX5_smokes_48 : decode cX5_smokes 48 = .ok (.return_, 1) := dk_177 (dk_at dksX5_smokes_2 0 rfl rfl)
abbrev cX5_drops : ByteArray := prog_4_method_9_code
def yX5_drops : MethodName := ⟨RX5, "drops", "(I)V"⟩
def dkwX5_drops_1 : List UInt8 := [6, 108, 96, 184, 0, 38, 181, 0, 15, 177]
abbrev dktX5_drops_1 : List UInt8 := dkwX5_drops_1 ++ []
def dkwX5_drops_0 : List UInt8 := [42, 3, 42, 180, 0, 9, 27, 5, 108, 100, 184, 0, 44, 181, 0, 9, 42, 16, 9, 42, 180, 0, 15, 27]
abbrev dktX5_drops_0 : List UInt8 := dkwX5_drops_0 ++ dktX5_drops_1
theorem dksX5_drops_0 : cX5_drops.data.toList.drop 0 = dktX5_drops_0 := by decide +kernel
theorem dksX5_drops_1 : cX5_drops.data.toList.drop 24 = dktX5_drops_1 := dk_seg dksX5_drops_0 24 rfl rfl
theorem dX5_drops_0 : decode cX5_drops 0 = .ok (.aload_n 0, 1) := dk_42 (dk_at dksX5_drops_0 0 rfl rfl)
theorem dX5_drops_1 : decode cX5_drops 1 = .ok (.iconst 0, 1) := dk_3 (dk_at dksX5_drops_0 1 rfl rfl)
theorem dX5_drops_2 : decode cX5_drops 2 = .ok (.aload_n 0, 1) := dk_42 (dk_at dksX5_drops_0 2 rfl rfl)
theorem dX5_drops_3 : decode cX5_drops 3 = .ok (.getfield 9, 3) := dk_180 0 9 (dk_at dksX5_drops_0 3 rfl rfl)
theorem dX5_drops_6 : decode cX5_drops 6 = .ok (.iload_n 1, 1) := dk_27 (dk_at dksX5_drops_0 6 rfl rfl)
theorem dX5_drops_7 : decode cX5_drops 7 = .ok (.iconst 2, 1) := dk_5 (dk_at dksX5_drops_0 7 rfl rfl)
theorem dX5_drops_8 : decode cX5_drops 8 = .ok (.idiv, 1) := dk_108 (dk_at dksX5_drops_0 8 rfl rfl)
theorem dX5_drops_9 : decode cX5_drops 9 = .ok (.isub, 1) := dk_100 (dk_at dksX5_drops_0 9 rfl rfl)
theorem dX5_drops_10 : decode cX5_drops 10 = .ok (.invokestatic 44, 3) := dk_184 0 44 (dk_at dksX5_drops_0 10 rfl rfl)
theorem dX5_drops_13 : decode cX5_drops 13 = .ok (.putfield 9, 3) := dk_181 0 9 (dk_at dksX5_drops_0 13 rfl rfl)
theorem dX5_drops_16 : decode cX5_drops 16 = .ok (.aload_n 0, 1) := dk_42 (dk_at dksX5_drops_0 16 rfl rfl)
theorem dX5_drops_17 : decode cX5_drops 17 = .ok (.bipush 9, 2) := dk_16 9 (dk_at dksX5_drops_0 17 rfl rfl)
theorem dX5_drops_19 : decode cX5_drops 19 = .ok (.aload_n 0, 1) := dk_42 (dk_at dksX5_drops_0 19 rfl rfl)
theorem dX5_drops_20 : decode cX5_drops 20 = .ok (.getfield 15, 3) := dk_180 0 15 (dk_at dksX5_drops_0 20 rfl rfl)
theorem dX5_drops_23 : decode cX5_drops 23 = .ok (.iload_n 1, 1) := dk_27 (dk_at dksX5_drops_0 23 rfl rfl)
theorem dX5_drops_24 : decode cX5_drops 24 = .ok (.iconst 3, 1) := dk_6 (dk_at dksX5_drops_1 0 rfl rfl)
theorem dX5_drops_25 : decode cX5_drops 25 = .ok (.idiv, 1) := dk_108 (dk_at dksX5_drops_1 1 rfl rfl)
theorem dX5_drops_26 : decode cX5_drops 26 = .ok (.iadd, 1) := dk_96 (dk_at dksX5_drops_1 2 rfl rfl)
theorem dX5_drops_27 : decode cX5_drops 27 = .ok (.invokestatic 38, 3) := dk_184 0 38 (dk_at dksX5_drops_1 3 rfl rfl)
theorem dX5_drops_30 : decode cX5_drops 30 = .ok (.putfield 15, 3) := dk_181 0 15 (dk_at dksX5_drops_1 6 rfl rfl)
theorem dX5_drops_33 : decode cX5_drops 33 = .ok (.return_, 1) := dk_177 (dk_at dksX5_drops_1 9 rfl rfl)
abbrev cX5_isAhead : ByteArray := prog_4_method_11_code
def yX5_isAhead : MethodName := ⟨RX5, "isAhead", "(LClayPipes$Pipe;)Z"⟩
def dkwX5_isAhead_1 : List UInt8 := [167, 0, 4, 3, 172, 42, 180, 0, 15, 43, 180, 0, 15, 162, 0, 7, 4, 167, 0, 4, 3, 172]
abbrev dktX5_isAhead_1 : List UInt8 := dkwX5_isAhead_1 ++ []
def dkwX5_isAhead_0 : List UInt8 := [42, 180, 0, 9, 43, 180, 0, 9, 159, 0, 20, 42, 180, 0, 9, 43, 180, 0, 9, 164, 0, 7, 4]
abbrev dktX5_isAhead_0 : List UInt8 := dkwX5_isAhead_0 ++ dktX5_isAhead_1
theorem dksX5_isAhead_0 : cX5_isAhead.data.toList.drop 0 = dktX5_isAhead_0 := by decide +kernel
theorem dksX5_isAhead_1 : cX5_isAhead.data.toList.drop 23 = dktX5_isAhead_1 := dk_seg dksX5_isAhead_0 23 rfl rfl
theorem dX5_isAhead_0 : decode cX5_isAhead 0 = .ok (.aload_n 0, 1) := dk_42 (dk_at dksX5_isAhead_0 0 rfl rfl)
theorem dX5_isAhead_1 : decode cX5_isAhead 1 = .ok (.getfield 9, 3) := dk_180 0 9 (dk_at dksX5_isAhead_0 1 rfl rfl)
theorem dX5_isAhead_4 : decode cX5_isAhead 4 = .ok (.aload_n 1, 1) := dk_43 (dk_at dksX5_isAhead_0 4 rfl rfl)
theorem dX5_isAhead_5 : decode cX5_isAhead 5 = .ok (.getfield 9, 3) := dk_180 0 9 (dk_at dksX5_isAhead_0 5 rfl rfl)
theorem dX5_isAhead_8 : decode cX5_isAhead 8 = .ok (.if_icmp .eq 20, 3) := dk_159 0 20 (dk_at dksX5_isAhead_0 8 rfl rfl)
theorem dX5_isAhead_11 : decode cX5_isAhead 11 = .ok (.aload_n 0, 1) := dk_42 (dk_at dksX5_isAhead_0 11 rfl rfl)
theorem dX5_isAhead_12 : decode cX5_isAhead 12 = .ok (.getfield 9, 3) := dk_180 0 9 (dk_at dksX5_isAhead_0 12 rfl rfl)
theorem dX5_isAhead_15 : decode cX5_isAhead 15 = .ok (.aload_n 1, 1) := dk_43 (dk_at dksX5_isAhead_0 15 rfl rfl)
theorem dX5_isAhead_16 : decode cX5_isAhead 16 = .ok (.getfield 9, 3) := dk_180 0 9 (dk_at dksX5_isAhead_0 16 rfl rfl)
theorem dX5_isAhead_19 : decode cX5_isAhead 19 = .ok (.if_icmp .le 7, 3) := dk_164 0 7 (dk_at dksX5_isAhead_0 19 rfl rfl)
theorem dX5_isAhead_22 : decode cX5_isAhead 22 = .ok (.iconst 1, 1) := dk_4 (dk_at dksX5_isAhead_0 22 rfl rfl)
theorem dX5_isAhead_23 : decode cX5_isAhead 23 = .ok (.goto 4, 3) := dk_167 0 4 (dk_at dksX5_isAhead_1 0 rfl rfl)
theorem dX5_isAhead_26 : decode cX5_isAhead 26 = .ok (.iconst 0, 1) := dk_3 (dk_at dksX5_isAhead_1 3 rfl rfl)
theorem dX5_isAhead_27 : decode cX5_isAhead 27 = .ok (.ireturn, 1) := dk_172 (dk_at dksX5_isAhead_1 4 rfl rfl)
theorem dX5_isAhead_28 : decode cX5_isAhead 28 = .ok (.aload_n 0, 1) := dk_42 (dk_at dksX5_isAhead_1 5 rfl rfl)
theorem dX5_isAhead_29 : decode cX5_isAhead 29 = .ok (.getfield 15, 3) := dk_180 0 15 (dk_at dksX5_isAhead_1 6 rfl rfl)
theorem dX5_isAhead_32 : decode cX5_isAhead 32 = .ok (.aload_n 1, 1) := dk_43 (dk_at dksX5_isAhead_1 9 rfl rfl)
theorem dX5_isAhead_33 : decode cX5_isAhead 33 = .ok (.getfield 15, 3) := dk_180 0 15 (dk_at dksX5_isAhead_1 10 rfl rfl)
theorem dX5_isAhead_36 : decode cX5_isAhead 36 = .ok (.if_icmp .ge 7, 3) := dk_162 0 7 (dk_at dksX5_isAhead_1 13 rfl rfl)
theorem dX5_isAhead_39 : decode cX5_isAhead 39 = .ok (.iconst 1, 1) := dk_4 (dk_at dksX5_isAhead_1 16 rfl rfl)
theorem dX5_isAhead_40 : decode cX5_isAhead 40 = .ok (.goto 4, 3) := dk_167 0 4 (dk_at dksX5_isAhead_1 17 rfl rfl)
theorem dX5_isAhead_43 : decode cX5_isAhead 43 = .ok (.iconst 0, 1) := dk_3 (dk_at dksX5_isAhead_1 20 rfl rfl)
theorem dX5_isAhead_44 : decode cX5_isAhead 44 = .ok (.ireturn, 1) := dk_172 (dk_at dksX5_isAhead_1 21 rfl rfl)
abbrev cX6_init : ByteArray := prog_2_method_1_code
def yX6_init : MethodName := ⟨RX6, "<init>", "(I)V"⟩
def dkwX6_init_0 : List UInt8 := [42, 183, 0, 1, 42, 27, 181, 0, 7, 177]
abbrev dktX6_init_0 : List UInt8 := dkwX6_init_0 ++ []
theorem dksX6_init_0 : cX6_init.data.toList.drop 0 = dktX6_init_0 := by decide +kernel
theorem dX6_init_0 : decode cX6_init 0 = .ok (.aload_n 0, 1) := dk_42 (dk_at dksX6_init_0 0 rfl rfl)
theorem dX6_init_1 : decode cX6_init 1 = .ok (.invokespecial 1, 3) := dk_183 0 1 (dk_at dksX6_init_0 1 rfl rfl)
theorem dX6_init_4 : decode cX6_init 4 = .ok (.aload_n 0, 1) := dk_42 (dk_at dksX6_init_0 4 rfl rfl)
theorem dX6_init_5 : decode cX6_init 5 = .ok (.iload_n 1, 1) := dk_27 (dk_at dksX6_init_0 5 rfl rfl)
theorem dX6_init_6 : decode cX6_init 6 = .ok (.putfield 7, 3) := dk_181 0 7 (dk_at dksX6_init_0 6 rfl rfl)
theorem dX6_init_9 : decode cX6_init 9 = .ok (.return_, 1) := dk_177 (dk_at dksX6_init_0 9 rfl rfl)
abbrev cX6_dries : ByteArray := prog_2_method_2_code
def yX6_dries : MethodName := ⟨RX6, "dries", "()Z"⟩
def dkwX6_dries_0 : List UInt8 := [42, 89, 180, 0, 7, 4, 100, 181, 0, 7, 42, 180, 0, 7, 154, 0, 7, 4, 167, 0, 4, 3, 172]
abbrev dktX6_dries_0 : List UInt8 := dkwX6_dries_0 ++ []
theorem dksX6_dries_0 : cX6_dries.data.toList.drop 0 = dktX6_dries_0 := by decide +kernel
theorem dX6_dries_0 : decode cX6_dries 0 = .ok (.aload_n 0, 1) := dk_42 (dk_at dksX6_dries_0 0 rfl rfl)
theorem dX6_dries_1 : decode cX6_dries 1 = .ok (.dup, 1) := dk_89 (dk_at dksX6_dries_0 1 rfl rfl)
theorem dX6_dries_2 : decode cX6_dries 2 = .ok (.getfield 7, 3) := dk_180 0 7 (dk_at dksX6_dries_0 2 rfl rfl)
theorem dX6_dries_5 : decode cX6_dries 5 = .ok (.iconst 1, 1) := dk_4 (dk_at dksX6_dries_0 5 rfl rfl)
theorem dX6_dries_6 : decode cX6_dries 6 = .ok (.isub, 1) := dk_100 (dk_at dksX6_dries_0 6 rfl rfl)
theorem dX6_dries_7 : decode cX6_dries 7 = .ok (.putfield 7, 3) := dk_181 0 7 (dk_at dksX6_dries_0 7 rfl rfl)
theorem dX6_dries_10 : decode cX6_dries 10 = .ok (.aload_n 0, 1) := dk_42 (dk_at dksX6_dries_0 10 rfl rfl)
theorem dX6_dries_11 : decode cX6_dries 11 = .ok (.getfield 7, 3) := dk_180 0 7 (dk_at dksX6_dries_0 11 rfl rfl)
theorem dX6_dries_14 : decode cX6_dries 14 = .ok (.ifCond .ne 7, 3) := dk_154 0 7 (dk_at dksX6_dries_0 14 rfl rfl)
theorem dX6_dries_17 : decode cX6_dries 17 = .ok (.iconst 1, 1) := dk_4 (dk_at dksX6_dries_0 17 rfl rfl)
theorem dX6_dries_18 : decode cX6_dries 18 = .ok (.goto 4, 3) := dk_167 0 4 (dk_at dksX6_dries_0 18 rfl rfl)
theorem dX6_dries_21 : decode cX6_dries 21 = .ok (.iconst 0, 1) := dk_3 (dk_at dksX6_dries_0 21 rfl rfl)
theorem dX6_dries_22 : decode cX6_dries 22 = .ok (.ireturn, 1) := dk_172 (dk_at dksX6_dries_0 22 rfl rfl)
abbrev cX7_init : ByteArray := prog_5_method_1_code
def yX7_init : MethodName := ⟨RX7, "<init>", "(Ljava/lang/CharSequence;)V"⟩
def dkwX7_init_2 : List UInt8 := [184, 0, 13, 181, 0, 19, 42, 187, 0, 25, 89, 183, 0, 27, 181, 0, 28, 42, 43, 181, 0, 32, 177]
abbrev dktX7_init_2 : List UInt8 := dkwX7_init_2 ++ []
def dkwX7_init_1 : List UInt8 := [184, 0, 7, 16, 112, 184, 0, 7, 16, 120, 184, 0, 7, 16, 100, 184, 0, 7, 16, 104, 184, 0, 7]
abbrev dktX7_init_1 : List UInt8 := dkwX7_init_1 ++ dktX7_init_2
def dkwX7_init_0 : List UInt8 := [42, 183, 0, 1, 42, 16, 98, 184, 0, 7, 16, 109, 184, 0, 7, 16, 115, 184, 0, 7, 16, 99]
abbrev dktX7_init_0 : List UInt8 := dkwX7_init_0 ++ dktX7_init_1
theorem dksX7_init_0 : cX7_init.data.toList.drop 0 = dktX7_init_0 := by decide +kernel
theorem dksX7_init_1 : cX7_init.data.toList.drop 22 = dktX7_init_1 := dk_seg dksX7_init_0 22 rfl rfl
theorem dksX7_init_2 : cX7_init.data.toList.drop 45 = dktX7_init_2 := dk_seg dksX7_init_1 23 rfl rfl
theorem dX7_init_0 : decode cX7_init 0 = .ok (.aload_n 0, 1) := dk_42 (dk_at dksX7_init_0 0 rfl rfl)
theorem dX7_init_1 : decode cX7_init 1 = .ok (.invokespecial 1, 3) := dk_183 0 1 (dk_at dksX7_init_0 1 rfl rfl)
theorem dX7_init_4 : decode cX7_init 4 = .ok (.aload_n 0, 1) := dk_42 (dk_at dksX7_init_0 4 rfl rfl)
theorem dX7_init_5 : decode cX7_init 5 = .ok (.bipush 98, 2) := dk_16 98 (dk_at dksX7_init_0 5 rfl rfl)
theorem dX7_init_7 : decode cX7_init 7 = .ok (.invokestatic 7, 3) := dk_184 0 7 (dk_at dksX7_init_0 7 rfl rfl)
theorem dX7_init_10 : decode cX7_init 10 = .ok (.bipush 109, 2) := dk_16 109 (dk_at dksX7_init_0 10 rfl rfl)
theorem dX7_init_12 : decode cX7_init 12 = .ok (.invokestatic 7, 3) := dk_184 0 7 (dk_at dksX7_init_0 12 rfl rfl)
theorem dX7_init_15 : decode cX7_init 15 = .ok (.bipush 115, 2) := dk_16 115 (dk_at dksX7_init_0 15 rfl rfl)
theorem dX7_init_17 : decode cX7_init 17 = .ok (.invokestatic 7, 3) := dk_184 0 7 (dk_at dksX7_init_0 17 rfl rfl)
theorem dX7_init_20 : decode cX7_init 20 = .ok (.bipush 99, 2) := dk_16 99 (dk_at dksX7_init_0 20 rfl rfl)
theorem dX7_init_22 : decode cX7_init 22 = .ok (.invokestatic 7, 3) := dk_184 0 7 (dk_at dksX7_init_1 0 rfl rfl)
theorem dX7_init_25 : decode cX7_init 25 = .ok (.bipush 112, 2) := dk_16 112 (dk_at dksX7_init_1 3 rfl rfl)
theorem dX7_init_27 : decode cX7_init 27 = .ok (.invokestatic 7, 3) := dk_184 0 7 (dk_at dksX7_init_1 5 rfl rfl)
theorem dX7_init_30 : decode cX7_init 30 = .ok (.bipush 120, 2) := dk_16 120 (dk_at dksX7_init_1 8 rfl rfl)
theorem dX7_init_32 : decode cX7_init 32 = .ok (.invokestatic 7, 3) := dk_184 0 7 (dk_at dksX7_init_1 10 rfl rfl)
theorem dX7_init_35 : decode cX7_init 35 = .ok (.bipush 100, 2) := dk_16 100 (dk_at dksX7_init_1 13 rfl rfl)
theorem dX7_init_37 : decode cX7_init 37 = .ok (.invokestatic 7, 3) := dk_184 0 7 (dk_at dksX7_init_1 15 rfl rfl)
theorem dX7_init_40 : decode cX7_init 40 = .ok (.bipush 104, 2) := dk_16 104 (dk_at dksX7_init_1 18 rfl rfl)
theorem dX7_init_42 : decode cX7_init 42 = .ok (.invokestatic 7, 3) := dk_184 0 7 (dk_at dksX7_init_1 20 rfl rfl)
theorem dX7_init_45 : decode cX7_init 45 = .ok (.invokestatic 13, 3) := dk_184 0 13 (dk_at dksX7_init_2 0 rfl rfl)
theorem dX7_init_48 : decode cX7_init 48 = .ok (.putfield 19, 3) := dk_181 0 19 (dk_at dksX7_init_2 3 rfl rfl)
theorem dX7_init_51 : decode cX7_init 51 = .ok (.aload_n 0, 1) := dk_42 (dk_at dksX7_init_2 6 rfl rfl)
theorem dX7_init_52 : decode cX7_init 52 = .ok (.new 25, 3) := dk_187 0 25 (dk_at dksX7_init_2 7 rfl rfl)
theorem dX7_init_55 : decode cX7_init 55 = .ok (.dup, 1) := dk_89 (dk_at dksX7_init_2 10 rfl rfl)
theorem dX7_init_56 : decode cX7_init 56 = .ok (.invokespecial 27, 3) := dk_183 0 27 (dk_at dksX7_init_2 11 rfl rfl)
theorem dX7_init_59 : decode cX7_init 59 = .ok (.putfield 28, 3) := dk_181 0 28 (dk_at dksX7_init_2 14 rfl rfl)
theorem dX7_init_62 : decode cX7_init 62 = .ok (.aload_n 0, 1) := dk_42 (dk_at dksX7_init_2 17 rfl rfl)
theorem dX7_init_63 : decode cX7_init 63 = .ok (.aload_n 1, 1) := dk_43 (dk_at dksX7_init_2 18 rfl rfl)
theorem dX7_init_64 : decode cX7_init 64 = .ok (.putfield 32, 3) := dk_181 0 32 (dk_at dksX7_init_2 19 rfl rfl)
theorem dX7_init_67 : decode cX7_init 67 = .ok (.return_, 1) := dk_177 (dk_at dksX7_init_2 22 rfl rfl)
abbrev cX7_read : ByteArray := prog_5_method_10_code
def yX7_read : MethodName := ⟨RX7, "read", "()V"⟩
def dkwX7_read_2 : List UInt8 := [128, 181, 0, 50, 177]
abbrev dktX7_read_2 : List UInt8 := dkwX7_read_2 ++ []
def dkwX7_read_1 : List UInt8 := [180, 0, 50, 42, 180, 0, 36, 42, 180, 0, 32, 185, 0, 40, 1, 0, 162, 0, 7, 4, 167, 0, 4, 3]
abbrev dktX7_read_1 : List UInt8 := dkwX7_read_1 ++ dktX7_read_2
def dkwX7_read_0 : List UInt8 := [42, 182, 0, 92, 42, 16, 59, 182, 0, 65, 153, 0, 10, 42, 182, 0, 92, 167, 255, 243, 42, 89]
abbrev dktX7_read_0 : List UInt8 := dkwX7_read_0 ++ dktX7_read_1
theorem dksX7_read_0 : cX7_read.data.toList.drop 0 = dktX7_read_0 := by decide +kernel
theorem dksX7_read_1 : cX7_read.data.toList.drop 22 = dktX7_read_1 := dk_seg dksX7_read_0 22 rfl rfl
theorem dksX7_read_2 : cX7_read.data.toList.drop 46 = dktX7_read_2 := dk_seg dksX7_read_1 24 rfl rfl
theorem dX7_read_0 : decode cX7_read 0 = .ok (.aload_n 0, 1) := dk_42 (dk_at dksX7_read_0 0 rfl rfl)
theorem dX7_read_1 : decode cX7_read 1 = .ok (.invokevirtual 92, 3) := dk_182 0 92 (dk_at dksX7_read_0 1 rfl rfl)
theorem dX7_read_4 : decode cX7_read 4 = .ok (.aload_n 0, 1) := dk_42 (dk_at dksX7_read_0 4 rfl rfl)
theorem dX7_read_5 : decode cX7_read 5 = .ok (.bipush 59, 2) := dk_16 59 (dk_at dksX7_read_0 5 rfl rfl)
theorem dX7_read_7 : decode cX7_read 7 = .ok (.invokevirtual 65, 3) := dk_182 0 65 (dk_at dksX7_read_0 7 rfl rfl)
theorem dX7_read_10 : decode cX7_read 10 = .ok (.ifCond .eq 10, 3) := dk_153 0 10 (dk_at dksX7_read_0 10 rfl rfl)
theorem dX7_read_13 : decode cX7_read 13 = .ok (.aload_n 0, 1) := dk_42 (dk_at dksX7_read_0 13 rfl rfl)
theorem dX7_read_14 : decode cX7_read 14 = .ok (.invokevirtual 92, 3) := dk_182 0 92 (dk_at dksX7_read_0 14 rfl rfl)
theorem dX7_read_17 : decode cX7_read 17 = .ok (.goto (-13), 3) := dk_167 255 243 (dk_at dksX7_read_0 17 rfl rfl)
theorem dX7_read_20 : decode cX7_read 20 = .ok (.aload_n 0, 1) := dk_42 (dk_at dksX7_read_0 20 rfl rfl)
theorem dX7_read_21 : decode cX7_read 21 = .ok (.dup, 1) := dk_89 (dk_at dksX7_read_0 21 rfl rfl)
theorem dX7_read_22 : decode cX7_read 22 = .ok (.getfield 50, 3) := dk_180 0 50 (dk_at dksX7_read_1 0 rfl rfl)
theorem dX7_read_25 : decode cX7_read 25 = .ok (.aload_n 0, 1) := dk_42 (dk_at dksX7_read_1 3 rfl rfl)
theorem dX7_read_26 : decode cX7_read 26 = .ok (.getfield 36, 3) := dk_180 0 36 (dk_at dksX7_read_1 4 rfl rfl)
theorem dX7_read_29 : decode cX7_read 29 = .ok (.aload_n 0, 1) := dk_42 (dk_at dksX7_read_1 7 rfl rfl)
theorem dX7_read_30 : decode cX7_read 30 = .ok (.getfield 32, 3) := dk_180 0 32 (dk_at dksX7_read_1 8 rfl rfl)
theorem dX7_read_33 : decode cX7_read 33 = .ok (.invokeinterface 40 1, 5) := by decide +kernel
theorem dX7_read_38 : decode cX7_read 38 = .ok (.if_icmp .ge 7, 3) := dk_162 0 7 (dk_at dksX7_read_1 16 rfl rfl)
theorem dX7_read_41 : decode cX7_read 41 = .ok (.iconst 1, 1) := dk_4 (dk_at dksX7_read_1 19 rfl rfl)
theorem dX7_read_42 : decode cX7_read 42 = .ok (.goto 4, 3) := dk_167 0 4 (dk_at dksX7_read_1 20 rfl rfl)
theorem dX7_read_45 : decode cX7_read 45 = .ok (.iconst 0, 1) := dk_3 (dk_at dksX7_read_1 23 rfl rfl)
theorem dX7_read_46 : decode cX7_read 46 = .ok (.ior, 1) := dk_128 (dk_at dksX7_read_2 0 rfl rfl)
theorem dX7_read_47 : decode cX7_read 47 = .ok (.putfield 50, 3) := dk_181 0 50 (dk_at dksX7_read_2 1 rfl rfl)
theorem dX7_read_50 : decode cX7_read 50 = .ok (.return_, 1) := dk_177 (dk_at dksX7_read_2 4 rfl rfl)
abbrev cX7_order : ByteArray := prog_5_method_9_code
def yX7_order : MethodName := ⟨RX7, "order", "()V"⟩
def dkwX7_order_7 : List UInt8 := [3, 182, 0, 82, 177]
abbrev dktX7_order_7 : List UInt8 := dkwX7_order_7 ++ []
def dkwX7_order_6 : List UInt8 := [153, 0, 10, 42, 182, 0, 85, 167, 0, 4, 4, 3, 182, 0, 82, 167, 0, 13, 42, 27, 42, 182, 0, 62]
abbrev dktX7_order_6 : List UInt8 := dkwX7_order_6 ++ dktX7_order_7
def dkwX7_order_5 : List UInt8 := [27, 42, 182, 0, 62, 42, 16, 42, 182, 0, 88, 182, 0, 82, 167, 0, 37, 42, 27, 42, 182, 0, 58]
abbrev dktX7_order_5 : List UInt8 := dkwX7_order_5 ++ dktX7_order_6
def dkwX7_order_4 : List UInt8 := [42, 27, 3, 3, 182, 0, 82, 167, 0, 68, 42, 27, 42, 182, 0, 85, 3, 182, 0, 82, 167, 0, 55, 42]
abbrev dktX7_order_4 : List UInt8 := dkwX7_order_4 ++ dktX7_order_5
def dkwX7_order_3 : List UInt8 := [171, 0, 0, 0, 0, 0, 108, 0, 0, 0, 4, 0, 0, 0, 99, 0, 0, 0, 53, 0, 0, 0, 100, 0, 0, 0, 66, 0, 0, 0, 104, 0, 0, 0, 84, 0, 0, 0, 109, 0, 0, 0, 43]
abbrev dktX7_order_3 : List UInt8 := dkwX7_order_3 ++ dktX7_order_4
def dkwX7_order_2 : List UInt8 := [180, 0, 50, 153, 0, 4, 177, 42, 89, 180, 0, 36, 4, 96, 181, 0, 36, 27]
abbrev dktX7_order_2 : List UInt8 := dkwX7_order_2 ++ dktX7_order_3
def dkwX7_order_1 : List UInt8 := [180, 0, 19, 27, 184, 0, 7, 185, 0, 78, 2, 0, 154, 0, 7, 4, 167, 0, 4, 3, 181, 0, 50, 42]
abbrev dktX7_order_1 : List UInt8 := dkwX7_order_1 ++ dktX7_order_2
def dkwX7_order_0 : List UInt8 := [42, 182, 0, 54, 60, 42, 42, 180, 0, 36, 42, 180, 0, 32, 185, 0, 40, 1, 0, 159, 0, 19, 42]
abbrev dktX7_order_0 : List UInt8 := dkwX7_order_0 ++ dktX7_order_1
theorem dksX7_order_0 : cX7_order.data.toList.drop 0 = dktX7_order_0 := by decide +kernel
theorem dksX7_order_1 : cX7_order.data.toList.drop 23 = dktX7_order_1 := dk_seg dksX7_order_0 23 rfl rfl
theorem dksX7_order_2 : cX7_order.data.toList.drop 47 = dktX7_order_2 := dk_seg dksX7_order_1 24 rfl rfl
theorem dksX7_order_3 : cX7_order.data.toList.drop 65 = dktX7_order_3 := dk_seg dksX7_order_2 18 rfl rfl
theorem dksX7_order_4 : cX7_order.data.toList.drop 108 = dktX7_order_4 := dk_seg dksX7_order_3 43 rfl rfl
theorem dksX7_order_5 : cX7_order.data.toList.drop 132 = dktX7_order_5 := dk_seg dksX7_order_4 24 rfl rfl
theorem dksX7_order_6 : cX7_order.data.toList.drop 155 = dktX7_order_6 := dk_seg dksX7_order_5 23 rfl rfl
theorem dksX7_order_7 : cX7_order.data.toList.drop 179 = dktX7_order_7 := dk_seg dksX7_order_6 24 rfl rfl
theorem dX7_order_0 : decode cX7_order 0 = .ok (.aload_n 0, 1) := dk_42 (dk_at dksX7_order_0 0 rfl rfl)
theorem dX7_order_1 : decode cX7_order 1 = .ok (.invokevirtual 54, 3) := dk_182 0 54 (dk_at dksX7_order_0 1 rfl rfl)
theorem dX7_order_4 : decode cX7_order 4 = .ok (.istore_n 1, 1) := dk_60 (dk_at dksX7_order_0 4 rfl rfl)
theorem dX7_order_5 : decode cX7_order 5 = .ok (.aload_n 0, 1) := dk_42 (dk_at dksX7_order_0 5 rfl rfl)
theorem dX7_order_6 : decode cX7_order 6 = .ok (.aload_n 0, 1) := dk_42 (dk_at dksX7_order_0 6 rfl rfl)
theorem dX7_order_7 : decode cX7_order 7 = .ok (.getfield 36, 3) := dk_180 0 36 (dk_at dksX7_order_0 7 rfl rfl)
theorem dX7_order_10 : decode cX7_order 10 = .ok (.aload_n 0, 1) := dk_42 (dk_at dksX7_order_0 10 rfl rfl)
theorem dX7_order_11 : decode cX7_order 11 = .ok (.getfield 32, 3) := dk_180 0 32 (dk_at dksX7_order_0 11 rfl rfl)
theorem dX7_order_14 : decode cX7_order 14 = .ok (.invokeinterface 40 1, 5) := by decide +kernel
theorem dX7_order_19 : decode cX7_order 19 = .ok (.if_icmp .eq 19, 3) := dk_159 0 19 (dk_at dksX7_order_0 19 rfl rfl)
theorem dX7_order_22 : decode cX7_order 22 = .ok (.aload_n 0, 1) := dk_42 (dk_at dksX7_order_0 22 rfl rfl)
theorem dX7_order_23 : decode cX7_order 23 = .ok (.getfield 19, 3) := dk_180 0 19 (dk_at dksX7_order_1 0 rfl rfl)
theorem dX7_order_26 : decode cX7_order 26 = .ok (.iload_n 1, 1) := dk_27 (dk_at dksX7_order_1 3 rfl rfl)
theorem dX7_order_27 : decode cX7_order 27 = .ok (.invokestatic 7, 3) := dk_184 0 7 (dk_at dksX7_order_1 4 rfl rfl)
theorem dX7_order_30 : decode cX7_order 30 = .ok (.invokeinterface 78 2, 5) := by decide +kernel
theorem dX7_order_35 : decode cX7_order 35 = .ok (.ifCond .ne 7, 3) := dk_154 0 7 (dk_at dksX7_order_1 12 rfl rfl)
theorem dX7_order_38 : decode cX7_order 38 = .ok (.iconst 1, 1) := dk_4 (dk_at dksX7_order_1 15 rfl rfl)
theorem dX7_order_39 : decode cX7_order 39 = .ok (.goto 4, 3) := dk_167 0 4 (dk_at dksX7_order_1 16 rfl rfl)
theorem dX7_order_42 : decode cX7_order 42 = .ok (.iconst 0, 1) := dk_3 (dk_at dksX7_order_1 19 rfl rfl)
theorem dX7_order_43 : decode cX7_order 43 = .ok (.putfield 50, 3) := dk_181 0 50 (dk_at dksX7_order_1 20 rfl rfl)
theorem dX7_order_46 : decode cX7_order 46 = .ok (.aload_n 0, 1) := dk_42 (dk_at dksX7_order_1 23 rfl rfl)
theorem dX7_order_47 : decode cX7_order 47 = .ok (.getfield 50, 3) := dk_180 0 50 (dk_at dksX7_order_2 0 rfl rfl)
theorem dX7_order_50 : decode cX7_order 50 = .ok (.ifCond .eq 4, 3) := dk_153 0 4 (dk_at dksX7_order_2 3 rfl rfl)
theorem dX7_order_53 : decode cX7_order 53 = .ok (.return_, 1) := dk_177 (dk_at dksX7_order_2 6 rfl rfl)
theorem dX7_order_54 : decode cX7_order 54 = .ok (.aload_n 0, 1) := dk_42 (dk_at dksX7_order_2 7 rfl rfl)
theorem dX7_order_55 : decode cX7_order 55 = .ok (.dup, 1) := dk_89 (dk_at dksX7_order_2 8 rfl rfl)
theorem dX7_order_56 : decode cX7_order 56 = .ok (.getfield 36, 3) := dk_180 0 36 (dk_at dksX7_order_2 9 rfl rfl)
theorem dX7_order_59 : decode cX7_order 59 = .ok (.iconst 1, 1) := dk_4 (dk_at dksX7_order_2 12 rfl rfl)
theorem dX7_order_60 : decode cX7_order 60 = .ok (.iadd, 1) := dk_96 (dk_at dksX7_order_2 13 rfl rfl)
theorem dX7_order_61 : decode cX7_order 61 = .ok (.putfield 36, 3) := dk_181 0 36 (dk_at dksX7_order_2 14 rfl rfl)
theorem dX7_order_64 : decode cX7_order 64 = .ok (.iload_n 1, 1) := dk_27 (dk_at dksX7_order_2 17 rfl rfl)
theorem dX7_order_65 : decode cX7_order 65 = .ok (.lookupswitch 108 #[(99, 53), (100, 66), (104, 84), (109, 43)], 43) := by decide +kernel
theorem dX7_order_108 : decode cX7_order 108 = .ok (.aload_n 0, 1) := dk_42 (dk_at dksX7_order_4 0 rfl rfl)
theorem dX7_order_109 : decode cX7_order 109 = .ok (.iload_n 1, 1) := dk_27 (dk_at dksX7_order_4 1 rfl rfl)
theorem dX7_order_110 : decode cX7_order 110 = .ok (.iconst 0, 1) := dk_3 (dk_at dksX7_order_4 2 rfl rfl)
theorem dX7_order_111 : decode cX7_order 111 = .ok (.iconst 0, 1) := dk_3 (dk_at dksX7_order_4 3 rfl rfl)
theorem dX7_order_112 : decode cX7_order 112 = .ok (.invokevirtual 82, 3) := dk_182 0 82 (dk_at dksX7_order_4 4 rfl rfl)
theorem dX7_order_115 : decode cX7_order 115 = .ok (.goto 68, 3) := dk_167 0 68 (dk_at dksX7_order_4 7 rfl rfl)
theorem dX7_order_118 : decode cX7_order 118 = .ok (.aload_n 0, 1) := dk_42 (dk_at dksX7_order_4 10 rfl rfl)
theorem dX7_order_119 : decode cX7_order 119 = .ok (.iload_n 1, 1) := dk_27 (dk_at dksX7_order_4 11 rfl rfl)
theorem dX7_order_120 : decode cX7_order 120 = .ok (.aload_n 0, 1) := dk_42 (dk_at dksX7_order_4 12 rfl rfl)
theorem dX7_order_121 : decode cX7_order 121 = .ok (.invokevirtual 85, 3) := dk_182 0 85 (dk_at dksX7_order_4 13 rfl rfl)
theorem dX7_order_124 : decode cX7_order 124 = .ok (.iconst 0, 1) := dk_3 (dk_at dksX7_order_4 16 rfl rfl)
theorem dX7_order_125 : decode cX7_order 125 = .ok (.invokevirtual 82, 3) := dk_182 0 82 (dk_at dksX7_order_4 17 rfl rfl)
theorem dX7_order_128 : decode cX7_order 128 = .ok (.goto 55, 3) := dk_167 0 55 (dk_at dksX7_order_4 20 rfl rfl)
theorem dX7_order_131 : decode cX7_order 131 = .ok (.aload_n 0, 1) := dk_42 (dk_at dksX7_order_4 23 rfl rfl)
theorem dX7_order_132 : decode cX7_order 132 = .ok (.iload_n 1, 1) := dk_27 (dk_at dksX7_order_5 0 rfl rfl)
theorem dX7_order_133 : decode cX7_order 133 = .ok (.aload_n 0, 1) := dk_42 (dk_at dksX7_order_5 1 rfl rfl)
theorem dX7_order_134 : decode cX7_order 134 = .ok (.invokevirtual 62, 3) := dk_182 0 62 (dk_at dksX7_order_5 2 rfl rfl)
theorem dX7_order_137 : decode cX7_order 137 = .ok (.aload_n 0, 1) := dk_42 (dk_at dksX7_order_5 5 rfl rfl)
theorem dX7_order_138 : decode cX7_order 138 = .ok (.bipush 42, 2) := dk_16 42 (dk_at dksX7_order_5 6 rfl rfl)
theorem dX7_order_140 : decode cX7_order 140 = .ok (.invokevirtual 88, 3) := dk_182 0 88 (dk_at dksX7_order_5 8 rfl rfl)
theorem dX7_order_143 : decode cX7_order 143 = .ok (.invokevirtual 82, 3) := dk_182 0 82 (dk_at dksX7_order_5 11 rfl rfl)
theorem dX7_order_146 : decode cX7_order 146 = .ok (.goto 37, 3) := dk_167 0 37 (dk_at dksX7_order_5 14 rfl rfl)
theorem dX7_order_149 : decode cX7_order 149 = .ok (.aload_n 0, 1) := dk_42 (dk_at dksX7_order_5 17 rfl rfl)
theorem dX7_order_150 : decode cX7_order 150 = .ok (.iload_n 1, 1) := dk_27 (dk_at dksX7_order_5 18 rfl rfl)
theorem dX7_order_151 : decode cX7_order 151 = .ok (.aload_n 0, 1) := dk_42 (dk_at dksX7_order_5 19 rfl rfl)
theorem dX7_order_152 : decode cX7_order 152 = .ok (.invokevirtual 58, 3) := dk_182 0 58 (dk_at dksX7_order_5 20 rfl rfl)
theorem dX7_order_155 : decode cX7_order 155 = .ok (.ifCond .eq 10, 3) := dk_153 0 10 (dk_at dksX7_order_6 0 rfl rfl)
theorem dX7_order_158 : decode cX7_order 158 = .ok (.aload_n 0, 1) := dk_42 (dk_at dksX7_order_6 3 rfl rfl)
theorem dX7_order_159 : decode cX7_order 159 = .ok (.invokevirtual 85, 3) := dk_182 0 85 (dk_at dksX7_order_6 4 rfl rfl)
theorem dX7_order_162 : decode cX7_order 162 = .ok (.goto 4, 3) := dk_167 0 4 (dk_at dksX7_order_6 7 rfl rfl)
theorem dX7_order_165 : decode cX7_order 165 = .ok (.iconst 1, 1) := dk_4 (dk_at dksX7_order_6 10 rfl rfl)
theorem dX7_order_166 : decode cX7_order 166 = .ok (.iconst 0, 1) := dk_3 (dk_at dksX7_order_6 11 rfl rfl)
theorem dX7_order_167 : decode cX7_order 167 = .ok (.invokevirtual 82, 3) := dk_182 0 82 (dk_at dksX7_order_6 12 rfl rfl)
theorem dX7_order_170 : decode cX7_order 170 = .ok (.goto 13, 3) := dk_167 0 13 (dk_at dksX7_order_6 15 rfl rfl)
theorem dX7_order_173 : decode cX7_order 173 = .ok (.aload_n 0, 1) := dk_42 (dk_at dksX7_order_6 18 rfl rfl)
theorem dX7_order_174 : decode cX7_order 174 = .ok (.iload_n 1, 1) := dk_27 (dk_at dksX7_order_6 19 rfl rfl)
theorem dX7_order_175 : decode cX7_order 175 = .ok (.aload_n 0, 1) := dk_42 (dk_at dksX7_order_6 20 rfl rfl)
theorem dX7_order_176 : decode cX7_order 176 = .ok (.invokevirtual 62, 3) := dk_182 0 62 (dk_at dksX7_order_6 21 rfl rfl)
theorem dX7_order_179 : decode cX7_order 179 = .ok (.iconst 0, 1) := dk_3 (dk_at dksX7_order_7 0 rfl rfl)
theorem dX7_order_180 : decode cX7_order 180 = .ok (.invokevirtual 82, 3) := dk_182 0 82 (dk_at dksX7_order_7 1 rfl rfl)
theorem dX7_order_183 : decode cX7_order 183 = .ok (.return_, 1) := dk_177 (dk_at dksX7_order_7 4 rfl rfl)
abbrev cX7_here : ByteArray := prog_5_method_2_code
def yX7_here : MethodName := ⟨RX7, "here", "()C"⟩
def dkwX7_here_1 : List UInt8 := [185, 0, 46, 2, 0, 167, 0, 4, 3, 172]
abbrev dktX7_here_1 : List UInt8 := dkwX7_here_1 ++ []
def dkwX7_here_0 : List UInt8 := [42, 180, 0, 36, 42, 180, 0, 32, 185, 0, 40, 1, 0, 162, 0, 19, 42, 180, 0, 32, 42, 180, 0, 36]
abbrev dktX7_here_0 : List UInt8 := dkwX7_here_0 ++ dktX7_here_1
theorem dksX7_here_0 : cX7_here.data.toList.drop 0 = dktX7_here_0 := by decide +kernel
theorem dksX7_here_1 : cX7_here.data.toList.drop 24 = dktX7_here_1 := dk_seg dksX7_here_0 24 rfl rfl
theorem dX7_here_0 : decode cX7_here 0 = .ok (.aload_n 0, 1) := dk_42 (dk_at dksX7_here_0 0 rfl rfl)
theorem dX7_here_1 : decode cX7_here 1 = .ok (.getfield 36, 3) := dk_180 0 36 (dk_at dksX7_here_0 1 rfl rfl)
theorem dX7_here_4 : decode cX7_here 4 = .ok (.aload_n 0, 1) := dk_42 (dk_at dksX7_here_0 4 rfl rfl)
theorem dX7_here_5 : decode cX7_here 5 = .ok (.getfield 32, 3) := dk_180 0 32 (dk_at dksX7_here_0 5 rfl rfl)
theorem dX7_here_8 : decode cX7_here 8 = .ok (.invokeinterface 40 1, 5) := by decide +kernel
theorem dX7_here_13 : decode cX7_here 13 = .ok (.if_icmp .ge 19, 3) := dk_162 0 19 (dk_at dksX7_here_0 13 rfl rfl)
theorem dX7_here_16 : decode cX7_here 16 = .ok (.aload_n 0, 1) := dk_42 (dk_at dksX7_here_0 16 rfl rfl)
theorem dX7_here_17 : decode cX7_here 17 = .ok (.getfield 32, 3) := dk_180 0 32 (dk_at dksX7_here_0 17 rfl rfl)
theorem dX7_here_20 : decode cX7_here 20 = .ok (.aload_n 0, 1) := dk_42 (dk_at dksX7_here_0 20 rfl rfl)
theorem dX7_here_21 : decode cX7_here 21 = .ok (.getfield 36, 3) := dk_180 0 36 (dk_at dksX7_here_0 21 rfl rfl)
theorem dX7_here_24 : decode cX7_here 24 = .ok (.invokeinterface 46 2, 5) := by decide +kernel
theorem dX7_here_29 : decode cX7_here 29 = .ok (.goto 4, 3) := dk_167 0 4 (dk_at dksX7_here_1 5 rfl rfl)
theorem dX7_here_32 : decode cX7_here 32 = .ok (.iconst 0, 1) := dk_3 (dk_at dksX7_here_1 8 rfl rfl)
theorem dX7_here_33 : decode cX7_here 33 = .ok (.ireturn, 1) := dk_172 (dk_at dksX7_here_1 9 rfl rfl)
abbrev cX7_adds : ByteArray := prog_5_method_8_code
def yX7_adds : MethodName := ⟨RX7, "adds", "(CII)V"⟩
def dkwX7_adds_0 : List UInt8 := [42, 180, 0, 28, 187, 0, 69, 89, 27, 28, 29, 183, 0, 71, 182, 0, 74, 177]
abbrev dktX7_adds_0 : List UInt8 := dkwX7_adds_0 ++ []
theorem dksX7_adds_0 : cX7_adds.data.toList.drop 0 = dktX7_adds_0 := by decide +kernel
theorem dX7_adds_0 : decode cX7_adds 0 = .ok (.aload_n 0, 1) := dk_42 (dk_at dksX7_adds_0 0 rfl rfl)
theorem dX7_adds_1 : decode cX7_adds 1 = .ok (.getfield 28, 3) := dk_180 0 28 (dk_at dksX7_adds_0 1 rfl rfl)
theorem dX7_adds_4 : decode cX7_adds 4 = .ok (.new 69, 3) := dk_187 0 69 (dk_at dksX7_adds_0 4 rfl rfl)
theorem dX7_adds_7 : decode cX7_adds 7 = .ok (.dup, 1) := dk_89 (dk_at dksX7_adds_0 7 rfl rfl)
theorem dX7_adds_8 : decode cX7_adds 8 = .ok (.iload_n 1, 1) := dk_27 (dk_at dksX7_adds_0 8 rfl rfl)
theorem dX7_adds_9 : decode cX7_adds 9 = .ok (.iload_n 2, 1) := dk_28 (dk_at dksX7_adds_0 9 rfl rfl)
theorem dX7_adds_10 : decode cX7_adds 10 = .ok (.iload_n 3, 1) := dk_29 (dk_at dksX7_adds_0 10 rfl rfl)
theorem dX7_adds_11 : decode cX7_adds 11 = .ok (.invokespecial 71, 3) := dk_183 0 71 (dk_at dksX7_adds_0 11 rfl rfl)
theorem dX7_adds_14 : decode cX7_adds 14 = .ok (.invokevirtual 74, 3) := dk_182 0 74 (dk_at dksX7_adds_0 14 rfl rfl)
theorem dX7_adds_17 : decode cX7_adds 17 = .ok (.return_, 1) := dk_177 (dk_at dksX7_adds_0 17 rfl rfl)
abbrev cX7_number : ByteArray := prog_5_method_6_code
def yX7_number : MethodName := ⟨RX7, "number", "()I"⟩
def dkwX7_number_1 : List UInt8 := [27, 172]
abbrev dktX7_number_1 : List UInt8 := dkwX7_number_1 ++ []
def dkwX7_number_0 : List UInt8 := [42, 182, 0, 62, 60, 42, 182, 0, 58, 153, 0, 15, 16, 10, 27, 104, 42, 182, 0, 62, 96, 167, 0, 4]
abbrev dktX7_number_0 : List UInt8 := dkwX7_number_0 ++ dktX7_number_1
theorem dksX7_number_0 : cX7_number.data.toList.drop 0 = dktX7_number_0 := by decide +kernel
theorem dksX7_number_1 : cX7_number.data.toList.drop 24 = dktX7_number_1 := dk_seg dksX7_number_0 24 rfl rfl
theorem dX7_number_0 : decode cX7_number 0 = .ok (.aload_n 0, 1) := dk_42 (dk_at dksX7_number_0 0 rfl rfl)
theorem dX7_number_1 : decode cX7_number 1 = .ok (.invokevirtual 62, 3) := dk_182 0 62 (dk_at dksX7_number_0 1 rfl rfl)
theorem dX7_number_4 : decode cX7_number 4 = .ok (.istore_n 1, 1) := dk_60 (dk_at dksX7_number_0 4 rfl rfl)
theorem dX7_number_5 : decode cX7_number 5 = .ok (.aload_n 0, 1) := dk_42 (dk_at dksX7_number_0 5 rfl rfl)
theorem dX7_number_6 : decode cX7_number 6 = .ok (.invokevirtual 58, 3) := dk_182 0 58 (dk_at dksX7_number_0 6 rfl rfl)
theorem dX7_number_9 : decode cX7_number 9 = .ok (.ifCond .eq 15, 3) := dk_153 0 15 (dk_at dksX7_number_0 9 rfl rfl)
theorem dX7_number_12 : decode cX7_number 12 = .ok (.bipush 10, 2) := dk_16 10 (dk_at dksX7_number_0 12 rfl rfl)
theorem dX7_number_14 : decode cX7_number 14 = .ok (.iload_n 1, 1) := dk_27 (dk_at dksX7_number_0 14 rfl rfl)
theorem dX7_number_15 : decode cX7_number 15 = .ok (.imul, 1) := dk_104 (dk_at dksX7_number_0 15 rfl rfl)
theorem dX7_number_16 : decode cX7_number 16 = .ok (.aload_n 0, 1) := dk_42 (dk_at dksX7_number_0 16 rfl rfl)
theorem dX7_number_17 : decode cX7_number 17 = .ok (.invokevirtual 62, 3) := dk_182 0 62 (dk_at dksX7_number_0 17 rfl rfl)
theorem dX7_number_20 : decode cX7_number 20 = .ok (.iadd, 1) := dk_96 (dk_at dksX7_number_0 20 rfl rfl)
theorem dX7_number_21 : decode cX7_number 21 = .ok (.goto 4, 3) := dk_167 0 4 (dk_at dksX7_number_0 21 rfl rfl)
theorem dX7_number_24 : decode cX7_number 24 = .ok (.iload_n 1, 1) := dk_27 (dk_at dksX7_number_1 0 rfl rfl)
theorem dX7_number_25 : decode cX7_number 25 = .ok (.ireturn, 1) := dk_172 (dk_at dksX7_number_1 1 rfl rfl)
abbrev cX7_digit : ByteArray := prog_5_method_5_code
def yX7_digit : MethodName := ⟨RX7, "digit", "()I"⟩
def dkwX7_digit_2 : List UInt8 := [180, 0, 36, 4, 100, 185, 0, 46, 2, 0, 16, 48, 100, 172]
abbrev dktX7_digit_2 : List UInt8 := dkwX7_digit_2 ++ []
def dkwX7_digit_1 : List UInt8 := [180, 0, 50, 153, 0, 5, 3, 172, 42, 89, 180, 0, 36, 4, 96, 181, 0, 36, 42, 180, 0, 32, 42]
abbrev dktX7_digit_1 : List UInt8 := dkwX7_digit_1 ++ dktX7_digit_2
def dkwX7_digit_0 : List UInt8 := [42, 89, 180, 0, 50, 42, 182, 0, 58, 154, 0, 7, 4, 167, 0, 4, 3, 128, 181, 0, 50, 42]
abbrev dktX7_digit_0 : List UInt8 := dkwX7_digit_0 ++ dktX7_digit_1
theorem dksX7_digit_0 : cX7_digit.data.toList.drop 0 = dktX7_digit_0 := by decide +kernel
theorem dksX7_digit_1 : cX7_digit.data.toList.drop 22 = dktX7_digit_1 := dk_seg dksX7_digit_0 22 rfl rfl
theorem dksX7_digit_2 : cX7_digit.data.toList.drop 45 = dktX7_digit_2 := dk_seg dksX7_digit_1 23 rfl rfl
theorem dX7_digit_0 : decode cX7_digit 0 = .ok (.aload_n 0, 1) := dk_42 (dk_at dksX7_digit_0 0 rfl rfl)
theorem dX7_digit_1 : decode cX7_digit 1 = .ok (.dup, 1) := dk_89 (dk_at dksX7_digit_0 1 rfl rfl)
theorem dX7_digit_2 : decode cX7_digit 2 = .ok (.getfield 50, 3) := dk_180 0 50 (dk_at dksX7_digit_0 2 rfl rfl)
theorem dX7_digit_5 : decode cX7_digit 5 = .ok (.aload_n 0, 1) := dk_42 (dk_at dksX7_digit_0 5 rfl rfl)
theorem dX7_digit_6 : decode cX7_digit 6 = .ok (.invokevirtual 58, 3) := dk_182 0 58 (dk_at dksX7_digit_0 6 rfl rfl)
theorem dX7_digit_9 : decode cX7_digit 9 = .ok (.ifCond .ne 7, 3) := dk_154 0 7 (dk_at dksX7_digit_0 9 rfl rfl)
theorem dX7_digit_12 : decode cX7_digit 12 = .ok (.iconst 1, 1) := dk_4 (dk_at dksX7_digit_0 12 rfl rfl)
theorem dX7_digit_13 : decode cX7_digit 13 = .ok (.goto 4, 3) := dk_167 0 4 (dk_at dksX7_digit_0 13 rfl rfl)
theorem dX7_digit_16 : decode cX7_digit 16 = .ok (.iconst 0, 1) := dk_3 (dk_at dksX7_digit_0 16 rfl rfl)
theorem dX7_digit_17 : decode cX7_digit 17 = .ok (.ior, 1) := dk_128 (dk_at dksX7_digit_0 17 rfl rfl)
theorem dX7_digit_18 : decode cX7_digit 18 = .ok (.putfield 50, 3) := dk_181 0 50 (dk_at dksX7_digit_0 18 rfl rfl)
theorem dX7_digit_21 : decode cX7_digit 21 = .ok (.aload_n 0, 1) := dk_42 (dk_at dksX7_digit_0 21 rfl rfl)
theorem dX7_digit_22 : decode cX7_digit 22 = .ok (.getfield 50, 3) := dk_180 0 50 (dk_at dksX7_digit_1 0 rfl rfl)
theorem dX7_digit_25 : decode cX7_digit 25 = .ok (.ifCond .eq 5, 3) := dk_153 0 5 (dk_at dksX7_digit_1 3 rfl rfl)
theorem dX7_digit_28 : decode cX7_digit 28 = .ok (.iconst 0, 1) := dk_3 (dk_at dksX7_digit_1 6 rfl rfl)
theorem dX7_digit_29 : decode cX7_digit 29 = .ok (.ireturn, 1) := dk_172 (dk_at dksX7_digit_1 7 rfl rfl)
theorem dX7_digit_30 : decode cX7_digit 30 = .ok (.aload_n 0, 1) := dk_42 (dk_at dksX7_digit_1 8 rfl rfl)
theorem dX7_digit_31 : decode cX7_digit 31 = .ok (.dup, 1) := dk_89 (dk_at dksX7_digit_1 9 rfl rfl)
theorem dX7_digit_32 : decode cX7_digit 32 = .ok (.getfield 36, 3) := dk_180 0 36 (dk_at dksX7_digit_1 10 rfl rfl)
theorem dX7_digit_35 : decode cX7_digit 35 = .ok (.iconst 1, 1) := dk_4 (dk_at dksX7_digit_1 13 rfl rfl)
theorem dX7_digit_36 : decode cX7_digit 36 = .ok (.iadd, 1) := dk_96 (dk_at dksX7_digit_1 14 rfl rfl)
theorem dX7_digit_37 : decode cX7_digit 37 = .ok (.putfield 36, 3) := dk_181 0 36 (dk_at dksX7_digit_1 15 rfl rfl)
theorem dX7_digit_40 : decode cX7_digit 40 = .ok (.aload_n 0, 1) := dk_42 (dk_at dksX7_digit_1 18 rfl rfl)
theorem dX7_digit_41 : decode cX7_digit 41 = .ok (.getfield 32, 3) := dk_180 0 32 (dk_at dksX7_digit_1 19 rfl rfl)
theorem dX7_digit_44 : decode cX7_digit 44 = .ok (.aload_n 0, 1) := dk_42 (dk_at dksX7_digit_1 22 rfl rfl)
theorem dX7_digit_45 : decode cX7_digit 45 = .ok (.getfield 36, 3) := dk_180 0 36 (dk_at dksX7_digit_2 0 rfl rfl)
theorem dX7_digit_48 : decode cX7_digit 48 = .ok (.iconst 1, 1) := dk_4 (dk_at dksX7_digit_2 3 rfl rfl)
theorem dX7_digit_49 : decode cX7_digit 49 = .ok (.isub, 1) := dk_100 (dk_at dksX7_digit_2 4 rfl rfl)
theorem dX7_digit_50 : decode cX7_digit 50 = .ok (.invokeinterface 46 2, 5) := by decide +kernel
theorem dX7_digit_55 : decode cX7_digit 55 = .ok (.bipush 48, 2) := dk_16 48 (dk_at dksX7_digit_2 10 rfl rfl)
theorem dX7_digit_57 : decode cX7_digit 57 = .ok (.isub, 1) := dk_100 (dk_at dksX7_digit_2 12 rfl rfl)
theorem dX7_digit_58 : decode cX7_digit 58 = .ok (.ireturn, 1) := dk_172 (dk_at dksX7_digit_2 13 rfl rfl)
abbrev cX7_isDigit : ByteArray := prog_5_method_4_code
def yX7_isDigit : MethodName := ⟨RX7, "isDigit", "()Z"⟩
def dkwX7_isDigit_1 : List UInt8 := [163, 0, 7, 4, 167, 0, 4, 3, 172]
abbrev dktX7_isDigit_1 : List UInt8 := dkwX7_isDigit_1 ++ []
def dkwX7_isDigit_0 : List UInt8 := [42, 180, 0, 50, 154, 0, 25, 42, 182, 0, 54, 16, 48, 161, 0, 16, 42, 182, 0, 54, 16, 57]
abbrev dktX7_isDigit_0 : List UInt8 := dkwX7_isDigit_0 ++ dktX7_isDigit_1
theorem dksX7_isDigit_0 : cX7_isDigit.data.toList.drop 0 = dktX7_isDigit_0 := by decide +kernel
theorem dksX7_isDigit_1 : cX7_isDigit.data.toList.drop 22 = dktX7_isDigit_1 := dk_seg dksX7_isDigit_0 22 rfl rfl
theorem dX7_isDigit_0 : decode cX7_isDigit 0 = .ok (.aload_n 0, 1) := dk_42 (dk_at dksX7_isDigit_0 0 rfl rfl)
theorem dX7_isDigit_1 : decode cX7_isDigit 1 = .ok (.getfield 50, 3) := dk_180 0 50 (dk_at dksX7_isDigit_0 1 rfl rfl)
theorem dX7_isDigit_4 : decode cX7_isDigit 4 = .ok (.ifCond .ne 25, 3) := dk_154 0 25 (dk_at dksX7_isDigit_0 4 rfl rfl)
theorem dX7_isDigit_7 : decode cX7_isDigit 7 = .ok (.aload_n 0, 1) := dk_42 (dk_at dksX7_isDigit_0 7 rfl rfl)
theorem dX7_isDigit_8 : decode cX7_isDigit 8 = .ok (.invokevirtual 54, 3) := dk_182 0 54 (dk_at dksX7_isDigit_0 8 rfl rfl)
theorem dX7_isDigit_11 : decode cX7_isDigit 11 = .ok (.bipush 48, 2) := dk_16 48 (dk_at dksX7_isDigit_0 11 rfl rfl)
theorem dX7_isDigit_13 : decode cX7_isDigit 13 = .ok (.if_icmp .lt 16, 3) := dk_161 0 16 (dk_at dksX7_isDigit_0 13 rfl rfl)
theorem dX7_isDigit_16 : decode cX7_isDigit 16 = .ok (.aload_n 0, 1) := dk_42 (dk_at dksX7_isDigit_0 16 rfl rfl)
theorem dX7_isDigit_17 : decode cX7_isDigit 17 = .ok (.invokevirtual 54, 3) := dk_182 0 54 (dk_at dksX7_isDigit_0 17 rfl rfl)
theorem dX7_isDigit_20 : decode cX7_isDigit 20 = .ok (.bipush 57, 2) := dk_16 57 (dk_at dksX7_isDigit_0 20 rfl rfl)
theorem dX7_isDigit_22 : decode cX7_isDigit 22 = .ok (.if_icmp .gt 7, 3) := dk_163 0 7 (dk_at dksX7_isDigit_1 0 rfl rfl)
theorem dX7_isDigit_25 : decode cX7_isDigit 25 = .ok (.iconst 1, 1) := dk_4 (dk_at dksX7_isDigit_1 3 rfl rfl)
theorem dX7_isDigit_26 : decode cX7_isDigit 26 = .ok (.goto 4, 3) := dk_167 0 4 (dk_at dksX7_isDigit_1 4 rfl rfl)
theorem dX7_isDigit_29 : decode cX7_isDigit 29 = .ok (.iconst 0, 1) := dk_3 (dk_at dksX7_isDigit_1 7 rfl rfl)
theorem dX7_isDigit_30 : decode cX7_isDigit 30 = .ok (.ireturn, 1) := dk_172 (dk_at dksX7_isDigit_1 8 rfl rfl)
abbrev cX7_behind : ByteArray := prog_5_method_7_code
def yX7_behind : MethodName := ⟨RX7, "behind", "(C)I"⟩
def dkwX7_behind_1 : List UInt8 := [182, 0, 62, 172]
abbrev dktX7_behind_1 : List UInt8 := dkwX7_behind_1 ++ []
def dkwX7_behind_0 : List UInt8 := [42, 89, 180, 0, 50, 42, 27, 182, 0, 65, 154, 0, 7, 4, 167, 0, 4, 3, 128, 181, 0, 50, 42]
abbrev dktX7_behind_0 : List UInt8 := dkwX7_behind_0 ++ dktX7_behind_1
theorem dksX7_behind_0 : cX7_behind.data.toList.drop 0 = dktX7_behind_0 := by decide +kernel
theorem dksX7_behind_1 : cX7_behind.data.toList.drop 23 = dktX7_behind_1 := dk_seg dksX7_behind_0 23 rfl rfl
theorem dX7_behind_0 : decode cX7_behind 0 = .ok (.aload_n 0, 1) := dk_42 (dk_at dksX7_behind_0 0 rfl rfl)
theorem dX7_behind_1 : decode cX7_behind 1 = .ok (.dup, 1) := dk_89 (dk_at dksX7_behind_0 1 rfl rfl)
theorem dX7_behind_2 : decode cX7_behind 2 = .ok (.getfield 50, 3) := dk_180 0 50 (dk_at dksX7_behind_0 2 rfl rfl)
theorem dX7_behind_5 : decode cX7_behind 5 = .ok (.aload_n 0, 1) := dk_42 (dk_at dksX7_behind_0 5 rfl rfl)
theorem dX7_behind_6 : decode cX7_behind 6 = .ok (.iload_n 1, 1) := dk_27 (dk_at dksX7_behind_0 6 rfl rfl)
theorem dX7_behind_7 : decode cX7_behind 7 = .ok (.invokevirtual 65, 3) := dk_182 0 65 (dk_at dksX7_behind_0 7 rfl rfl)
theorem dX7_behind_10 : decode cX7_behind 10 = .ok (.ifCond .ne 7, 3) := dk_154 0 7 (dk_at dksX7_behind_0 10 rfl rfl)
theorem dX7_behind_13 : decode cX7_behind 13 = .ok (.iconst 1, 1) := dk_4 (dk_at dksX7_behind_0 13 rfl rfl)
theorem dX7_behind_14 : decode cX7_behind 14 = .ok (.goto 4, 3) := dk_167 0 4 (dk_at dksX7_behind_0 14 rfl rfl)
theorem dX7_behind_17 : decode cX7_behind 17 = .ok (.iconst 0, 1) := dk_3 (dk_at dksX7_behind_0 17 rfl rfl)
theorem dX7_behind_18 : decode cX7_behind 18 = .ok (.ior, 1) := dk_128 (dk_at dksX7_behind_0 18 rfl rfl)
theorem dX7_behind_19 : decode cX7_behind 19 = .ok (.putfield 50, 3) := dk_181 0 50 (dk_at dksX7_behind_0 19 rfl rfl)
theorem dX7_behind_22 : decode cX7_behind 22 = .ok (.aload_n 0, 1) := dk_42 (dk_at dksX7_behind_0 22 rfl rfl)
theorem dX7_behind_23 : decode cX7_behind 23 = .ok (.invokevirtual 62, 3) := dk_182 0 62 (dk_at dksX7_behind_1 0 rfl rfl)
theorem dX7_behind_26 : decode cX7_behind 26 = .ok (.ireturn, 1) := dk_172 (dk_at dksX7_behind_1 3 rfl rfl)
abbrev cX7_takes : ByteArray := prog_5_method_3_code
def yX7_takes : MethodName := ⟨RX7, "takes", "(C)Z"⟩
def dkwX7_takes_1 : List UInt8 := [181, 0, 36, 4, 172]
abbrev dktX7_takes_1 : List UInt8 := dkwX7_takes_1 ++ []
def dkwX7_takes_0 : List UInt8 := [42, 180, 0, 50, 154, 0, 11, 42, 182, 0, 54, 27, 159, 0, 5, 3, 172, 42, 89, 180, 0, 36, 4, 96]
abbrev dktX7_takes_0 : List UInt8 := dkwX7_takes_0 ++ dktX7_takes_1
theorem dksX7_takes_0 : cX7_takes.data.toList.drop 0 = dktX7_takes_0 := by decide +kernel
theorem dksX7_takes_1 : cX7_takes.data.toList.drop 24 = dktX7_takes_1 := dk_seg dksX7_takes_0 24 rfl rfl
theorem dX7_takes_0 : decode cX7_takes 0 = .ok (.aload_n 0, 1) := dk_42 (dk_at dksX7_takes_0 0 rfl rfl)
theorem dX7_takes_1 : decode cX7_takes 1 = .ok (.getfield 50, 3) := dk_180 0 50 (dk_at dksX7_takes_0 1 rfl rfl)
theorem dX7_takes_4 : decode cX7_takes 4 = .ok (.ifCond .ne 11, 3) := dk_154 0 11 (dk_at dksX7_takes_0 4 rfl rfl)
theorem dX7_takes_7 : decode cX7_takes 7 = .ok (.aload_n 0, 1) := dk_42 (dk_at dksX7_takes_0 7 rfl rfl)
theorem dX7_takes_8 : decode cX7_takes 8 = .ok (.invokevirtual 54, 3) := dk_182 0 54 (dk_at dksX7_takes_0 8 rfl rfl)
theorem dX7_takes_11 : decode cX7_takes 11 = .ok (.iload_n 1, 1) := dk_27 (dk_at dksX7_takes_0 11 rfl rfl)
theorem dX7_takes_12 : decode cX7_takes 12 = .ok (.if_icmp .eq 5, 3) := dk_159 0 5 (dk_at dksX7_takes_0 12 rfl rfl)
theorem dX7_takes_15 : decode cX7_takes 15 = .ok (.iconst 0, 1) := dk_3 (dk_at dksX7_takes_0 15 rfl rfl)
theorem dX7_takes_16 : decode cX7_takes 16 = .ok (.ireturn, 1) := dk_172 (dk_at dksX7_takes_0 16 rfl rfl)
theorem dX7_takes_17 : decode cX7_takes 17 = .ok (.aload_n 0, 1) := dk_42 (dk_at dksX7_takes_0 17 rfl rfl)
theorem dX7_takes_18 : decode cX7_takes 18 = .ok (.dup, 1) := dk_89 (dk_at dksX7_takes_0 18 rfl rfl)
theorem dX7_takes_19 : decode cX7_takes 19 = .ok (.getfield 36, 3) := dk_180 0 36 (dk_at dksX7_takes_0 19 rfl rfl)
theorem dX7_takes_22 : decode cX7_takes 22 = .ok (.iconst 1, 1) := dk_4 (dk_at dksX7_takes_0 22 rfl rfl)
theorem dX7_takes_23 : decode cX7_takes 23 = .ok (.iadd, 1) := dk_96 (dk_at dksX7_takes_0 23 rfl rfl)
theorem dX7_takes_24 : decode cX7_takes 24 = .ok (.putfield 36, 3) := dk_181 0 36 (dk_at dksX7_takes_1 0 rfl rfl)
theorem dX7_takes_27 : decode cX7_takes 27 = .ok (.iconst 1, 1) := dk_4 (dk_at dksX7_takes_1 3 rfl rfl)
theorem dX7_takes_28 : decode cX7_takes 28 = .ok (.ireturn, 1) := dk_172 (dk_at dksX7_takes_1 4 rfl rfl)
abbrev cX8_init : ByteArray := prog_3_method_1_code
def yX8_init : MethodName := ⟨RX8, "<init>", "(CII)V"⟩
def dkwX8_init_0 : List UInt8 := [42, 183, 0, 1, 42, 27, 181, 0, 7, 42, 28, 181, 0, 13, 42, 29, 181, 0, 17, 177]
abbrev dktX8_init_0 : List UInt8 := dkwX8_init_0 ++ []
theorem dksX8_init_0 : cX8_init.data.toList.drop 0 = dktX8_init_0 := by decide +kernel
theorem dX8_init_0 : decode cX8_init 0 = .ok (.aload_n 0, 1) := dk_42 (dk_at dksX8_init_0 0 rfl rfl)
theorem dX8_init_1 : decode cX8_init 1 = .ok (.invokespecial 1, 3) := dk_183 0 1 (dk_at dksX8_init_0 1 rfl rfl)
theorem dX8_init_4 : decode cX8_init 4 = .ok (.aload_n 0, 1) := dk_42 (dk_at dksX8_init_0 4 rfl rfl)
theorem dX8_init_5 : decode cX8_init 5 = .ok (.iload_n 1, 1) := dk_27 (dk_at dksX8_init_0 5 rfl rfl)
theorem dX8_init_6 : decode cX8_init 6 = .ok (.putfield 7, 3) := dk_181 0 7 (dk_at dksX8_init_0 6 rfl rfl)
theorem dX8_init_9 : decode cX8_init 9 = .ok (.aload_n 0, 1) := dk_42 (dk_at dksX8_init_0 9 rfl rfl)
theorem dX8_init_10 : decode cX8_init 10 = .ok (.iload_n 2, 1) := dk_28 (dk_at dksX8_init_0 10 rfl rfl)
theorem dX8_init_11 : decode cX8_init 11 = .ok (.putfield 13, 3) := dk_181 0 13 (dk_at dksX8_init_0 11 rfl rfl)
theorem dX8_init_14 : decode cX8_init 14 = .ok (.aload_n 0, 1) := dk_42 (dk_at dksX8_init_0 14 rfl rfl)
theorem dX8_init_15 : decode cX8_init 15 = .ok (.iload_n 3, 1) := dk_29 (dk_at dksX8_init_0 15 rfl rfl)
theorem dX8_init_16 : decode cX8_init 16 = .ok (.putfield 17, 3) := dk_181 0 17 (dk_at dksX8_init_0 16 rfl rfl)
theorem dX8_init_19 : decode cX8_init 19 = .ok (.return_, 1) := dk_177 (dk_at dksX8_init_0 19 rfl rfl)
