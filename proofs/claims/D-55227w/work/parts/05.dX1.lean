/-! decode rows -/
set_option maxRecDepth 100000
abbrev cX1_init : ByteArray := prog_1_method_1_code
def yX1_init : MethodName := ⟨RX1, "<init>", "()V"⟩
def dkwX1_init_2 : List UInt8 := [181, 0, 30, 42, 2, 181, 0, 33, 177]
abbrev dktX1_init_2 : List UInt8 := dkwX1_init_2 ++ []
def dkwX1_init_1 : List UInt8 := [181, 0, 19, 42, 187, 0, 23, 89, 183, 0, 25, 181, 0, 26, 42, 187, 0, 23, 89, 183, 0, 25]
abbrev dktX1_init_1 : List UInt8 := dkwX1_init_1 ++ dktX1_init_2
def dkwX1_init_0 : List UInt8 := [42, 183, 0, 1, 42, 187, 0, 7, 89, 183, 0, 9, 181, 0, 10, 42, 187, 0, 16, 89, 183, 0, 18]
abbrev dktX1_init_0 : List UInt8 := dkwX1_init_0 ++ dktX1_init_1
theorem dksX1_init_0 : cX1_init.data.toList.drop 0 = dktX1_init_0 := by decide +kernel
theorem dksX1_init_1 : cX1_init.data.toList.drop 23 = dktX1_init_1 := dk_seg dksX1_init_0 23 rfl rfl
theorem dksX1_init_2 : cX1_init.data.toList.drop 45 = dktX1_init_2 := dk_seg dksX1_init_1 22 rfl rfl
theorem dX1_init_0 : decode cX1_init 0 = .ok (.aload_n 0, 1) := dk_42 (dk_at dksX1_init_0 0 rfl rfl)
theorem dX1_init_1 : decode cX1_init 1 = .ok (.invokespecial 1, 3) := dk_183 0 1 (dk_at dksX1_init_0 1 rfl rfl)
theorem dX1_init_4 : decode cX1_init 4 = .ok (.aload_n 0, 1) := dk_42 (dk_at dksX1_init_0 4 rfl rfl)
theorem dX1_init_5 : decode cX1_init 5 = .ok (.new 7, 3) := dk_187 0 7 (dk_at dksX1_init_0 5 rfl rfl)
theorem dX1_init_8 : decode cX1_init 8 = .ok (.dup, 1) := dk_89 (dk_at dksX1_init_0 8 rfl rfl)
theorem dX1_init_9 : decode cX1_init 9 = .ok (.invokespecial 9, 3) := dk_183 0 9 (dk_at dksX1_init_0 9 rfl rfl)
theorem dX1_init_12 : decode cX1_init 12 = .ok (.putfield 10, 3) := dk_181 0 10 (dk_at dksX1_init_0 12 rfl rfl)
theorem dX1_init_15 : decode cX1_init 15 = .ok (.aload_n 0, 1) := dk_42 (dk_at dksX1_init_0 15 rfl rfl)
theorem dX1_init_16 : decode cX1_init 16 = .ok (.new 16, 3) := dk_187 0 16 (dk_at dksX1_init_0 16 rfl rfl)
theorem dX1_init_19 : decode cX1_init 19 = .ok (.dup, 1) := dk_89 (dk_at dksX1_init_0 19 rfl rfl)
theorem dX1_init_20 : decode cX1_init 20 = .ok (.invokespecial 18, 3) := dk_183 0 18 (dk_at dksX1_init_0 20 rfl rfl)
theorem dX1_init_23 : decode cX1_init 23 = .ok (.putfield 19, 3) := dk_181 0 19 (dk_at dksX1_init_1 0 rfl rfl)
theorem dX1_init_26 : decode cX1_init 26 = .ok (.aload_n 0, 1) := dk_42 (dk_at dksX1_init_1 3 rfl rfl)
theorem dX1_init_27 : decode cX1_init 27 = .ok (.new 23, 3) := dk_187 0 23 (dk_at dksX1_init_1 4 rfl rfl)
theorem dX1_init_30 : decode cX1_init 30 = .ok (.dup, 1) := dk_89 (dk_at dksX1_init_1 7 rfl rfl)
theorem dX1_init_31 : decode cX1_init 31 = .ok (.invokespecial 25, 3) := dk_183 0 25 (dk_at dksX1_init_1 8 rfl rfl)
theorem dX1_init_34 : decode cX1_init 34 = .ok (.putfield 26, 3) := dk_181 0 26 (dk_at dksX1_init_1 11 rfl rfl)
theorem dX1_init_37 : decode cX1_init 37 = .ok (.aload_n 0, 1) := dk_42 (dk_at dksX1_init_1 14 rfl rfl)
theorem dX1_init_38 : decode cX1_init 38 = .ok (.new 23, 3) := dk_187 0 23 (dk_at dksX1_init_1 15 rfl rfl)
theorem dX1_init_41 : decode cX1_init 41 = .ok (.dup, 1) := dk_89 (dk_at dksX1_init_1 18 rfl rfl)
theorem dX1_init_42 : decode cX1_init 42 = .ok (.invokespecial 25, 3) := dk_183 0 25 (dk_at dksX1_init_1 19 rfl rfl)
theorem dX1_init_45 : decode cX1_init 45 = .ok (.putfield 30, 3) := dk_181 0 30 (dk_at dksX1_init_2 0 rfl rfl)
theorem dX1_init_48 : decode cX1_init 48 = .ok (.aload_n 0, 1) := dk_42 (dk_at dksX1_init_2 3 rfl rfl)
theorem dX1_init_49 : decode cX1_init 49 = .ok (.iconst (-1), 1) := dk_2 (dk_at dksX1_init_2 4 rfl rfl)
theorem dX1_init_50 : decode cX1_init 50 = .ok (.putfield 33, 3) := dk_181 0 33 (dk_at dksX1_init_2 5 rfl rfl)
theorem dX1_init_53 : decode cX1_init 53 = .ok (.return_, 1) := dk_177 (dk_at dksX1_init_2 8 rfl rfl)
abbrev cX1_perches : ByteArray := prog_1_method_40_code
def yX1_perches : MethodName := ⟨RX1, "perches", "()I"⟩
def dkwX1_perches_1 : List UInt8 := [42, 180, 0, 10, 180, 1, 8, 28, 4, 96, 182, 1, 50, 61, 167, 255, 232, 27, 172]
abbrev dktX1_perches_1 : List UInt8 := dkwX1_perches_1 ++ []
def dkwX1_perches_0 : List UInt8 := [3, 60, 42, 180, 0, 10, 180, 1, 8, 3, 182, 1, 50, 61, 28, 155, 0, 26, 27, 4, 28, 120, 128, 60]
abbrev dktX1_perches_0 : List UInt8 := dkwX1_perches_0 ++ dktX1_perches_1
theorem dksX1_perches_0 : cX1_perches.data.toList.drop 0 = dktX1_perches_0 := by decide +kernel
theorem dksX1_perches_1 : cX1_perches.data.toList.drop 24 = dktX1_perches_1 := dk_seg dksX1_perches_0 24 rfl rfl
theorem dX1_perches_0 : decode cX1_perches 0 = .ok (.iconst 0, 1) := dk_3 (dk_at dksX1_perches_0 0 rfl rfl)
theorem dX1_perches_1 : decode cX1_perches 1 = .ok (.istore_n 1, 1) := dk_60 (dk_at dksX1_perches_0 1 rfl rfl)
theorem dX1_perches_2 : decode cX1_perches 2 = .ok (.aload_n 0, 1) := dk_42 (dk_at dksX1_perches_0 2 rfl rfl)
theorem dX1_perches_3 : decode cX1_perches 3 = .ok (.getfield 10, 3) := dk_180 0 10 (dk_at dksX1_perches_0 3 rfl rfl)
theorem dX1_perches_6 : decode cX1_perches 6 = .ok (.getfield 264, 3) := dk_180 1 8 (dk_at dksX1_perches_0 6 rfl rfl)
theorem dX1_perches_9 : decode cX1_perches 9 = .ok (.iconst 0, 1) := dk_3 (dk_at dksX1_perches_0 9 rfl rfl)
theorem dX1_perches_10 : decode cX1_perches 10 = .ok (.invokevirtual 306, 3) := dk_182 1 50 (dk_at dksX1_perches_0 10 rfl rfl)
theorem dX1_perches_13 : decode cX1_perches 13 = .ok (.istore_n 2, 1) := dk_61 (dk_at dksX1_perches_0 13 rfl rfl)
theorem dX1_perches_14 : decode cX1_perches 14 = .ok (.iload_n 2, 1) := dk_28 (dk_at dksX1_perches_0 14 rfl rfl)
theorem dX1_perches_15 : decode cX1_perches 15 = .ok (.ifCond .lt 26, 3) := dk_155 0 26 (dk_at dksX1_perches_0 15 rfl rfl)
theorem dX1_perches_18 : decode cX1_perches 18 = .ok (.iload_n 1, 1) := dk_27 (dk_at dksX1_perches_0 18 rfl rfl)
theorem dX1_perches_19 : decode cX1_perches 19 = .ok (.iconst 1, 1) := dk_4 (dk_at dksX1_perches_0 19 rfl rfl)
theorem dX1_perches_20 : decode cX1_perches 20 = .ok (.iload_n 2, 1) := dk_28 (dk_at dksX1_perches_0 20 rfl rfl)
theorem dX1_perches_21 : decode cX1_perches 21 = .ok (.ishl, 1) := dk_120 (dk_at dksX1_perches_0 21 rfl rfl)
theorem dX1_perches_22 : decode cX1_perches 22 = .ok (.ior, 1) := dk_128 (dk_at dksX1_perches_0 22 rfl rfl)
theorem dX1_perches_23 : decode cX1_perches 23 = .ok (.istore_n 1, 1) := dk_60 (dk_at dksX1_perches_0 23 rfl rfl)
theorem dX1_perches_24 : decode cX1_perches 24 = .ok (.aload_n 0, 1) := dk_42 (dk_at dksX1_perches_1 0 rfl rfl)
theorem dX1_perches_25 : decode cX1_perches 25 = .ok (.getfield 10, 3) := dk_180 0 10 (dk_at dksX1_perches_1 1 rfl rfl)
theorem dX1_perches_28 : decode cX1_perches 28 = .ok (.getfield 264, 3) := dk_180 1 8 (dk_at dksX1_perches_1 4 rfl rfl)
theorem dX1_perches_31 : decode cX1_perches 31 = .ok (.iload_n 2, 1) := dk_28 (dk_at dksX1_perches_1 7 rfl rfl)
theorem dX1_perches_32 : decode cX1_perches 32 = .ok (.iconst 1, 1) := dk_4 (dk_at dksX1_perches_1 8 rfl rfl)
theorem dX1_perches_33 : decode cX1_perches 33 = .ok (.iadd, 1) := dk_96 (dk_at dksX1_perches_1 9 rfl rfl)
theorem dX1_perches_34 : decode cX1_perches 34 = .ok (.invokevirtual 306, 3) := dk_182 1 50 (dk_at dksX1_perches_1 10 rfl rfl)
theorem dX1_perches_37 : decode cX1_perches 37 = .ok (.istore_n 2, 1) := dk_61 (dk_at dksX1_perches_1 13 rfl rfl)
theorem dX1_perches_38 : decode cX1_perches 38 = .ok (.goto (-24), 3) := dk_167 255 232 (dk_at dksX1_perches_1 14 rfl rfl)
theorem dX1_perches_41 : decode cX1_perches 41 = .ok (.iload_n 1, 1) := dk_27 (dk_at dksX1_perches_1 17 rfl rfl)
theorem dX1_perches_42 : decode cX1_perches 42 = .ok (.ireturn, 1) := dk_172 (dk_at dksX1_perches_1 18 rfl rfl)
abbrev cX1_quarrels : ByteArray := prog_1_method_42_code
def yX1_quarrels : MethodName := ⟨RX1, "quarrels", "()I"⟩
def dkwX1_quarrels_0 : List UInt8 := [42, 180, 0, 10, 182, 1, 53, 172]
abbrev dktX1_quarrels_0 : List UInt8 := dkwX1_quarrels_0 ++ []
theorem dksX1_quarrels_0 : cX1_quarrels.data.toList.drop 0 = dktX1_quarrels_0 := by decide +kernel
theorem dX1_quarrels_0 : decode cX1_quarrels 0 = .ok (.aload_n 0, 1) := dk_42 (dk_at dksX1_quarrels_0 0 rfl rfl)
theorem dX1_quarrels_1 : decode cX1_quarrels 1 = .ok (.getfield 10, 3) := dk_180 0 10 (dk_at dksX1_quarrels_0 1 rfl rfl)
theorem dX1_quarrels_4 : decode cX1_quarrels 4 = .ok (.invokevirtual 309, 3) := dk_182 1 53 (dk_at dksX1_quarrels_0 4 rfl rfl)
theorem dX1_quarrels_7 : decode cX1_quarrels 7 = .ok (.ireturn, 1) := dk_172 (dk_at dksX1_quarrels_0 7 rfl rfl)
abbrev cX1_isCurfew : ByteArray := prog_1_method_43_code
def yX1_isCurfew : MethodName := ⟨RX1, "isCurfew", "()Z"⟩
def dkwX1_isCurfew_0 : List UInt8 := [42, 180, 0, 10, 42, 180, 0, 10, 180, 0, 212, 182, 0, 215, 172]
abbrev dktX1_isCurfew_0 : List UInt8 := dkwX1_isCurfew_0 ++ []
theorem dksX1_isCurfew_0 : cX1_isCurfew.data.toList.drop 0 = dktX1_isCurfew_0 := by decide +kernel
theorem dX1_isCurfew_0 : decode cX1_isCurfew 0 = .ok (.aload_n 0, 1) := dk_42 (dk_at dksX1_isCurfew_0 0 rfl rfl)
theorem dX1_isCurfew_1 : decode cX1_isCurfew 1 = .ok (.getfield 10, 3) := dk_180 0 10 (dk_at dksX1_isCurfew_0 1 rfl rfl)
theorem dX1_isCurfew_4 : decode cX1_isCurfew 4 = .ok (.aload_n 0, 1) := dk_42 (dk_at dksX1_isCurfew_0 4 rfl rfl)
theorem dX1_isCurfew_5 : decode cX1_isCurfew 5 = .ok (.getfield 10, 3) := dk_180 0 10 (dk_at dksX1_isCurfew_0 5 rfl rfl)
theorem dX1_isCurfew_8 : decode cX1_isCurfew 8 = .ok (.getfield 212, 3) := dk_180 0 212 (dk_at dksX1_isCurfew_0 8 rfl rfl)
theorem dX1_isCurfew_11 : decode cX1_isCurfew 11 = .ok (.invokevirtual 215, 3) := dk_182 0 215 (dk_at dksX1_isCurfew_0 11 rfl rfl)
theorem dX1_isCurfew_14 : decode cX1_isCurfew 14 = .ok (.ireturn, 1) := dk_172 (dk_at dksX1_isCurfew_0 14 rfl rfl)
abbrev cX1_curfewIn : ByteArray := prog_1_method_44_code
def yX1_curfewIn : MethodName := ⟨RX1, "curfewIn", "()I"⟩
def dkwX1_curfewIn_0 : List UInt8 := [42, 180, 0, 10, 4, 182, 0, 218, 172]
abbrev dktX1_curfewIn_0 : List UInt8 := dkwX1_curfewIn_0 ++ []
theorem dksX1_curfewIn_0 : cX1_curfewIn.data.toList.drop 0 = dktX1_curfewIn_0 := by decide +kernel
theorem dX1_curfewIn_0 : decode cX1_curfewIn 0 = .ok (.aload_n 0, 1) := dk_42 (dk_at dksX1_curfewIn_0 0 rfl rfl)
theorem dX1_curfewIn_1 : decode cX1_curfewIn 1 = .ok (.getfield 10, 3) := dk_180 0 10 (dk_at dksX1_curfewIn_0 1 rfl rfl)
theorem dX1_curfewIn_4 : decode cX1_curfewIn 4 = .ok (.iconst 1, 1) := dk_4 (dk_at dksX1_curfewIn_0 4 rfl rfl)
theorem dX1_curfewIn_5 : decode cX1_curfewIn 5 = .ok (.invokevirtual 218, 3) := dk_182 0 218 (dk_at dksX1_curfewIn_0 5 rfl rfl)
theorem dX1_curfewIn_8 : decode cX1_curfewIn 8 = .ok (.ireturn, 1) := dk_172 (dk_at dksX1_curfewIn_0 8 rfl rfl)
abbrev cX1_couldMend : ByteArray := prog_1_method_47_code
def yX1_couldMend : MethodName := ⟨RX1, "couldMend", "()I"⟩
def dkwX1_couldMend_2 : List UInt8 := [182, 1, 56, 153, 0, 14, 43, 182, 0, 231, 87, 132, 2, 1, 167, 255, 208, 28, 172]
abbrev dktX1_couldMend_2 : List UInt8 := dkwX1_couldMend_2 ++ []
def dkwX1_couldMend_1 : List UInt8 := [180, 0, 93, 43, 180, 0, 139, 182, 0, 192, 192, 0, 144, 182, 0, 166, 182, 0, 104, 192, 0, 108]
abbrev dktX1_couldMend_1 : List UInt8 := dkwX1_couldMend_1 ++ dktX1_couldMend_2
def dkwX1_couldMend_0 : List UInt8 := [42, 180, 0, 10, 182, 0, 77, 76, 3, 61, 43, 180, 0, 139, 182, 0, 181, 154, 0, 44, 43, 43]
abbrev dktX1_couldMend_0 : List UInt8 := dkwX1_couldMend_0 ++ dktX1_couldMend_1
theorem dksX1_couldMend_0 : cX1_couldMend.data.toList.drop 0 = dktX1_couldMend_0 := by decide +kernel
theorem dksX1_couldMend_1 : cX1_couldMend.data.toList.drop 22 = dktX1_couldMend_1 := dk_seg dksX1_couldMend_0 22 rfl rfl
theorem dksX1_couldMend_2 : cX1_couldMend.data.toList.drop 44 = dktX1_couldMend_2 := dk_seg dksX1_couldMend_1 22 rfl rfl
theorem dX1_couldMend_0 : decode cX1_couldMend 0 = .ok (.aload_n 0, 1) := dk_42 (dk_at dksX1_couldMend_0 0 rfl rfl)
theorem dX1_couldMend_1 : decode cX1_couldMend 1 = .ok (.getfield 10, 3) := dk_180 0 10 (dk_at dksX1_couldMend_0 1 rfl rfl)
theorem dX1_couldMend_4 : decode cX1_couldMend 4 = .ok (.invokevirtual 77, 3) := dk_182 0 77 (dk_at dksX1_couldMend_0 4 rfl rfl)
theorem dX1_couldMend_7 : decode cX1_couldMend 7 = .ok (.astore_n 1, 1) := dk_76 (dk_at dksX1_couldMend_0 7 rfl rfl)
theorem dX1_couldMend_8 : decode cX1_couldMend 8 = .ok (.iconst 0, 1) := dk_3 (dk_at dksX1_couldMend_0 8 rfl rfl)
theorem dX1_couldMend_9 : decode cX1_couldMend 9 = .ok (.istore_n 2, 1) := dk_61 (dk_at dksX1_couldMend_0 9 rfl rfl)
theorem dX1_couldMend_10 : decode cX1_couldMend 10 = .ok (.aload_n 1, 1) := dk_43 (dk_at dksX1_couldMend_0 10 rfl rfl)
theorem dX1_couldMend_11 : decode cX1_couldMend 11 = .ok (.getfield 139, 3) := dk_180 0 139 (dk_at dksX1_couldMend_0 11 rfl rfl)
theorem dX1_couldMend_14 : decode cX1_couldMend 14 = .ok (.invokevirtual 181, 3) := dk_182 0 181 (dk_at dksX1_couldMend_0 14 rfl rfl)
theorem dX1_couldMend_17 : decode cX1_couldMend 17 = .ok (.ifCond .ne 44, 3) := dk_154 0 44 (dk_at dksX1_couldMend_0 17 rfl rfl)
theorem dX1_couldMend_20 : decode cX1_couldMend 20 = .ok (.aload_n 1, 1) := dk_43 (dk_at dksX1_couldMend_0 20 rfl rfl)
theorem dX1_couldMend_21 : decode cX1_couldMend 21 = .ok (.aload_n 1, 1) := dk_43 (dk_at dksX1_couldMend_0 21 rfl rfl)
theorem dX1_couldMend_22 : decode cX1_couldMend 22 = .ok (.getfield 93, 3) := dk_180 0 93 (dk_at dksX1_couldMend_1 0 rfl rfl)
theorem dX1_couldMend_25 : decode cX1_couldMend 25 = .ok (.aload_n 1, 1) := dk_43 (dk_at dksX1_couldMend_1 3 rfl rfl)
theorem dX1_couldMend_26 : decode cX1_couldMend 26 = .ok (.getfield 139, 3) := dk_180 0 139 (dk_at dksX1_couldMend_1 4 rfl rfl)
theorem dX1_couldMend_29 : decode cX1_couldMend 29 = .ok (.invokevirtual 192, 3) := dk_182 0 192 (dk_at dksX1_couldMend_1 7 rfl rfl)
theorem dX1_couldMend_32 : decode cX1_couldMend 32 = .ok (.checkcast 144, 3) := dk_192 0 144 (dk_at dksX1_couldMend_1 10 rfl rfl)
theorem dX1_couldMend_35 : decode cX1_couldMend 35 = .ok (.invokevirtual 166, 3) := dk_182 0 166 (dk_at dksX1_couldMend_1 13 rfl rfl)
theorem dX1_couldMend_38 : decode cX1_couldMend 38 = .ok (.invokevirtual 104, 3) := dk_182 0 104 (dk_at dksX1_couldMend_1 16 rfl rfl)
theorem dX1_couldMend_41 : decode cX1_couldMend 41 = .ok (.checkcast 108, 3) := dk_192 0 108 (dk_at dksX1_couldMend_1 19 rfl rfl)
theorem dX1_couldMend_44 : decode cX1_couldMend 44 = .ok (.invokevirtual 312, 3) := dk_182 1 56 (dk_at dksX1_couldMend_2 0 rfl rfl)
theorem dX1_couldMend_47 : decode cX1_couldMend 47 = .ok (.ifCond .eq 14, 3) := dk_153 0 14 (dk_at dksX1_couldMend_2 3 rfl rfl)
theorem dX1_couldMend_50 : decode cX1_couldMend 50 = .ok (.aload_n 1, 1) := dk_43 (dk_at dksX1_couldMend_2 6 rfl rfl)
theorem dX1_couldMend_51 : decode cX1_couldMend 51 = .ok (.invokevirtual 231, 3) := dk_182 0 231 (dk_at dksX1_couldMend_2 7 rfl rfl)
theorem dX1_couldMend_54 : decode cX1_couldMend 54 = .ok (.pop, 1) := dk_87 (dk_at dksX1_couldMend_2 10 rfl rfl)
theorem dX1_couldMend_55 : decode cX1_couldMend 55 = .ok (.iinc 2 1, 3) := dk_132 2 1 (dk_at dksX1_couldMend_2 11 rfl rfl)
theorem dX1_couldMend_58 : decode cX1_couldMend 58 = .ok (.goto (-48), 3) := dk_167 255 208 (dk_at dksX1_couldMend_2 14 rfl rfl)
theorem dX1_couldMend_61 : decode cX1_couldMend 61 = .ok (.iload_n 2, 1) := dk_28 (dk_at dksX1_couldMend_2 17 rfl rfl)
theorem dX1_couldMend_62 : decode cX1_couldMend 62 = .ok (.ireturn, 1) := dk_172 (dk_at dksX1_couldMend_2 18 rfl rfl)
abbrev cX1_alone : ByteArray := prog_1_method_53_code
def yX1_alone : MethodName := ⟨RX1, "alone", "()I"⟩
def dkwX1_alone_3 : List UInt8 := [29, 120, 128, 60, 44, 29, 4, 96, 182, 1, 50, 62, 167, 255, 190, 27, 172]
abbrev dktX1_alone_3 : List UInt8 := dkwX1_alone_3 ++ []
def dkwX1_alone_2 : List UInt8 := [182, 1, 12, 153, 0, 7, 4, 167, 0, 4, 3, 54, 4, 27, 21, 4, 153, 0, 7, 3, 167, 0, 6, 4]
abbrev dktX1_alone_2 : List UInt8 := dkwX1_alone_2 ++ dktX1_alone_3
def dkwX1_alone_1 : List UInt8 := [44, 29, 4, 100, 182, 1, 12, 154, 0, 21, 29, 4, 96, 16, 8, 162, 0, 17, 44, 29, 4, 96]
abbrev dktX1_alone_1 : List UInt8 := dkwX1_alone_1 ++ dktX1_alone_2
def dkwX1_alone_0 : List UInt8 := [3, 60, 42, 180, 0, 10, 180, 1, 8, 77, 44, 3, 182, 1, 50, 62, 29, 155, 0, 68, 29, 158, 0, 13]
abbrev dktX1_alone_0 : List UInt8 := dkwX1_alone_0 ++ dktX1_alone_1
theorem dksX1_alone_0 : cX1_alone.data.toList.drop 0 = dktX1_alone_0 := by decide +kernel
theorem dksX1_alone_1 : cX1_alone.data.toList.drop 24 = dktX1_alone_1 := dk_seg dksX1_alone_0 24 rfl rfl
theorem dksX1_alone_2 : cX1_alone.data.toList.drop 46 = dktX1_alone_2 := dk_seg dksX1_alone_1 22 rfl rfl
theorem dksX1_alone_3 : cX1_alone.data.toList.drop 70 = dktX1_alone_3 := dk_seg dksX1_alone_2 24 rfl rfl
theorem dX1_alone_0 : decode cX1_alone 0 = .ok (.iconst 0, 1) := dk_3 (dk_at dksX1_alone_0 0 rfl rfl)
theorem dX1_alone_1 : decode cX1_alone 1 = .ok (.istore_n 1, 1) := dk_60 (dk_at dksX1_alone_0 1 rfl rfl)
theorem dX1_alone_2 : decode cX1_alone 2 = .ok (.aload_n 0, 1) := dk_42 (dk_at dksX1_alone_0 2 rfl rfl)
theorem dX1_alone_3 : decode cX1_alone 3 = .ok (.getfield 10, 3) := dk_180 0 10 (dk_at dksX1_alone_0 3 rfl rfl)
theorem dX1_alone_6 : decode cX1_alone 6 = .ok (.getfield 264, 3) := dk_180 1 8 (dk_at dksX1_alone_0 6 rfl rfl)
theorem dX1_alone_9 : decode cX1_alone 9 = .ok (.astore_n 2, 1) := dk_77 (dk_at dksX1_alone_0 9 rfl rfl)
theorem dX1_alone_10 : decode cX1_alone 10 = .ok (.aload_n 2, 1) := dk_44 (dk_at dksX1_alone_0 10 rfl rfl)
theorem dX1_alone_11 : decode cX1_alone 11 = .ok (.iconst 0, 1) := dk_3 (dk_at dksX1_alone_0 11 rfl rfl)
theorem dX1_alone_12 : decode cX1_alone 12 = .ok (.invokevirtual 306, 3) := dk_182 1 50 (dk_at dksX1_alone_0 12 rfl rfl)
theorem dX1_alone_15 : decode cX1_alone 15 = .ok (.istore_n 3, 1) := dk_62 (dk_at dksX1_alone_0 15 rfl rfl)
theorem dX1_alone_16 : decode cX1_alone 16 = .ok (.iload_n 3, 1) := dk_29 (dk_at dksX1_alone_0 16 rfl rfl)
theorem dX1_alone_17 : decode cX1_alone 17 = .ok (.ifCond .lt 68, 3) := dk_155 0 68 (dk_at dksX1_alone_0 17 rfl rfl)
theorem dX1_alone_20 : decode cX1_alone 20 = .ok (.iload_n 3, 1) := dk_29 (dk_at dksX1_alone_0 20 rfl rfl)
theorem dX1_alone_21 : decode cX1_alone 21 = .ok (.ifCond .le 13, 3) := dk_158 0 13 (dk_at dksX1_alone_0 21 rfl rfl)
theorem dX1_alone_24 : decode cX1_alone 24 = .ok (.aload_n 2, 1) := dk_44 (dk_at dksX1_alone_1 0 rfl rfl)
theorem dX1_alone_25 : decode cX1_alone 25 = .ok (.iload_n 3, 1) := dk_29 (dk_at dksX1_alone_1 1 rfl rfl)
theorem dX1_alone_26 : decode cX1_alone 26 = .ok (.iconst 1, 1) := dk_4 (dk_at dksX1_alone_1 2 rfl rfl)
theorem dX1_alone_27 : decode cX1_alone 27 = .ok (.isub, 1) := dk_100 (dk_at dksX1_alone_1 3 rfl rfl)
theorem dX1_alone_28 : decode cX1_alone 28 = .ok (.invokevirtual 268, 3) := dk_182 1 12 (dk_at dksX1_alone_1 4 rfl rfl)
theorem dX1_alone_31 : decode cX1_alone 31 = .ok (.ifCond .ne 21, 3) := dk_154 0 21 (dk_at dksX1_alone_1 7 rfl rfl)
theorem dX1_alone_34 : decode cX1_alone 34 = .ok (.iload_n 3, 1) := dk_29 (dk_at dksX1_alone_1 10 rfl rfl)
theorem dX1_alone_35 : decode cX1_alone 35 = .ok (.iconst 1, 1) := dk_4 (dk_at dksX1_alone_1 11 rfl rfl)
theorem dX1_alone_36 : decode cX1_alone 36 = .ok (.iadd, 1) := dk_96 (dk_at dksX1_alone_1 12 rfl rfl)
theorem dX1_alone_37 : decode cX1_alone 37 = .ok (.bipush 8, 2) := dk_16 8 (dk_at dksX1_alone_1 13 rfl rfl)
theorem dX1_alone_39 : decode cX1_alone 39 = .ok (.if_icmp .ge 17, 3) := dk_162 0 17 (dk_at dksX1_alone_1 15 rfl rfl)
theorem dX1_alone_42 : decode cX1_alone 42 = .ok (.aload_n 2, 1) := dk_44 (dk_at dksX1_alone_1 18 rfl rfl)
theorem dX1_alone_43 : decode cX1_alone 43 = .ok (.iload_n 3, 1) := dk_29 (dk_at dksX1_alone_1 19 rfl rfl)
theorem dX1_alone_44 : decode cX1_alone 44 = .ok (.iconst 1, 1) := dk_4 (dk_at dksX1_alone_1 20 rfl rfl)
theorem dX1_alone_45 : decode cX1_alone 45 = .ok (.iadd, 1) := dk_96 (dk_at dksX1_alone_1 21 rfl rfl)
theorem dX1_alone_46 : decode cX1_alone 46 = .ok (.invokevirtual 268, 3) := dk_182 1 12 (dk_at dksX1_alone_2 0 rfl rfl)
theorem dX1_alone_49 : decode cX1_alone 49 = .ok (.ifCond .eq 7, 3) := dk_153 0 7 (dk_at dksX1_alone_2 3 rfl rfl)
theorem dX1_alone_52 : decode cX1_alone 52 = .ok (.iconst 1, 1) := dk_4 (dk_at dksX1_alone_2 6 rfl rfl)
theorem dX1_alone_53 : decode cX1_alone 53 = .ok (.goto 4, 3) := dk_167 0 4 (dk_at dksX1_alone_2 7 rfl rfl)
theorem dX1_alone_56 : decode cX1_alone 56 = .ok (.iconst 0, 1) := dk_3 (dk_at dksX1_alone_2 10 rfl rfl)
theorem dX1_alone_57 : decode cX1_alone 57 = .ok (.istore 4, 2) := dk_54 4 (dk_at dksX1_alone_2 11 rfl rfl)
theorem dX1_alone_59 : decode cX1_alone 59 = .ok (.iload_n 1, 1) := dk_27 (dk_at dksX1_alone_2 13 rfl rfl)
theorem dX1_alone_60 : decode cX1_alone 60 = .ok (.iload 4, 2) := dk_21 4 (dk_at dksX1_alone_2 14 rfl rfl)
theorem dX1_alone_62 : decode cX1_alone 62 = .ok (.ifCond .eq 7, 3) := dk_153 0 7 (dk_at dksX1_alone_2 16 rfl rfl)
theorem dX1_alone_65 : decode cX1_alone 65 = .ok (.iconst 0, 1) := dk_3 (dk_at dksX1_alone_2 19 rfl rfl)
theorem dX1_alone_66 : decode cX1_alone 66 = .ok (.goto 6, 3) := dk_167 0 6 (dk_at dksX1_alone_2 20 rfl rfl)
theorem dX1_alone_69 : decode cX1_alone 69 = .ok (.iconst 1, 1) := dk_4 (dk_at dksX1_alone_2 23 rfl rfl)
theorem dX1_alone_70 : decode cX1_alone 70 = .ok (.iload_n 3, 1) := dk_29 (dk_at dksX1_alone_3 0 rfl rfl)
theorem dX1_alone_71 : decode cX1_alone 71 = .ok (.ishl, 1) := dk_120 (dk_at dksX1_alone_3 1 rfl rfl)
theorem dX1_alone_72 : decode cX1_alone 72 = .ok (.ior, 1) := dk_128 (dk_at dksX1_alone_3 2 rfl rfl)
theorem dX1_alone_73 : decode cX1_alone 73 = .ok (.istore_n 1, 1) := dk_60 (dk_at dksX1_alone_3 3 rfl rfl)
theorem dX1_alone_74 : decode cX1_alone 74 = .ok (.aload_n 2, 1) := dk_44 (dk_at dksX1_alone_3 4 rfl rfl)
theorem dX1_alone_75 : decode cX1_alone 75 = .ok (.iload_n 3, 1) := dk_29 (dk_at dksX1_alone_3 5 rfl rfl)
theorem dX1_alone_76 : decode cX1_alone 76 = .ok (.iconst 1, 1) := dk_4 (dk_at dksX1_alone_3 6 rfl rfl)
theorem dX1_alone_77 : decode cX1_alone 77 = .ok (.iadd, 1) := dk_96 (dk_at dksX1_alone_3 7 rfl rfl)
theorem dX1_alone_78 : decode cX1_alone 78 = .ok (.invokevirtual 306, 3) := dk_182 1 50 (dk_at dksX1_alone_3 8 rfl rfl)
theorem dX1_alone_81 : decode cX1_alone 81 = .ok (.istore_n 3, 1) := dk_62 (dk_at dksX1_alone_3 11 rfl rfl)
theorem dX1_alone_82 : decode cX1_alone 82 = .ok (.goto (-66), 3) := dk_167 255 190 (dk_at dksX1_alone_3 12 rfl rfl)
theorem dX1_alone_85 : decode cX1_alone 85 = .ok (.iload_n 1, 1) := dk_27 (dk_at dksX1_alone_3 15 rfl rfl)
theorem dX1_alone_86 : decode cX1_alone 86 = .ok (.ireturn, 1) := dk_172 (dk_at dksX1_alone_3 16 rfl rfl)
abbrev cX1_needed : ByteArray := prog_1_method_56_code
def yX1_needed : MethodName := ⟨RX1, "needed", "()I"⟩
def dkwX1_needed_2 : List UInt8 := [192, 0, 108, 182, 0, 186, 96, 60, 167, 255, 214, 27, 172]
abbrev dktX1_needed_2 : List UInt8 := dkwX1_needed_2 ++ []
def dkwX1_needed_1 : List UInt8 := [185, 0, 163, 1, 0, 192, 0, 144, 78, 27, 42, 180, 0, 10, 180, 0, 93, 45, 182, 0, 166, 182, 0, 104]
abbrev dktX1_needed_1 : List UInt8 := dkwX1_needed_1 ++ dktX1_needed_2
def dkwX1_needed_0 : List UInt8 := [3, 60, 42, 180, 0, 10, 180, 0, 139, 182, 0, 153, 77, 44, 185, 0, 157, 1, 0, 153, 0, 39, 44]
abbrev dktX1_needed_0 : List UInt8 := dkwX1_needed_0 ++ dktX1_needed_1
theorem dksX1_needed_0 : cX1_needed.data.toList.drop 0 = dktX1_needed_0 := by decide +kernel
theorem dksX1_needed_1 : cX1_needed.data.toList.drop 23 = dktX1_needed_1 := dk_seg dksX1_needed_0 23 rfl rfl
theorem dksX1_needed_2 : cX1_needed.data.toList.drop 47 = dktX1_needed_2 := dk_seg dksX1_needed_1 24 rfl rfl
theorem dX1_needed_0 : decode cX1_needed 0 = .ok (.iconst 0, 1) := dk_3 (dk_at dksX1_needed_0 0 rfl rfl)
theorem dX1_needed_1 : decode cX1_needed 1 = .ok (.istore_n 1, 1) := dk_60 (dk_at dksX1_needed_0 1 rfl rfl)
theorem dX1_needed_2 : decode cX1_needed 2 = .ok (.aload_n 0, 1) := dk_42 (dk_at dksX1_needed_0 2 rfl rfl)
theorem dX1_needed_3 : decode cX1_needed 3 = .ok (.getfield 10, 3) := dk_180 0 10 (dk_at dksX1_needed_0 3 rfl rfl)
theorem dX1_needed_6 : decode cX1_needed 6 = .ok (.getfield 139, 3) := dk_180 0 139 (dk_at dksX1_needed_0 6 rfl rfl)
theorem dX1_needed_9 : decode cX1_needed 9 = .ok (.invokevirtual 153, 3) := dk_182 0 153 (dk_at dksX1_needed_0 9 rfl rfl)
theorem dX1_needed_12 : decode cX1_needed 12 = .ok (.astore_n 2, 1) := dk_77 (dk_at dksX1_needed_0 12 rfl rfl)
theorem dX1_needed_13 : decode cX1_needed 13 = .ok (.aload_n 2, 1) := dk_44 (dk_at dksX1_needed_0 13 rfl rfl)
theorem dX1_needed_14 : decode cX1_needed 14 = .ok (.invokeinterface 157 1, 5) := by decide +kernel
theorem dX1_needed_19 : decode cX1_needed 19 = .ok (.ifCond .eq 39, 3) := dk_153 0 39 (dk_at dksX1_needed_0 19 rfl rfl)
theorem dX1_needed_22 : decode cX1_needed 22 = .ok (.aload_n 2, 1) := dk_44 (dk_at dksX1_needed_0 22 rfl rfl)
theorem dX1_needed_23 : decode cX1_needed 23 = .ok (.invokeinterface 163 1, 5) := by decide +kernel
theorem dX1_needed_28 : decode cX1_needed 28 = .ok (.checkcast 144, 3) := dk_192 0 144 (dk_at dksX1_needed_1 5 rfl rfl)
theorem dX1_needed_31 : decode cX1_needed 31 = .ok (.astore_n 3, 1) := dk_78 (dk_at dksX1_needed_1 8 rfl rfl)
theorem dX1_needed_32 : decode cX1_needed 32 = .ok (.iload_n 1, 1) := dk_27 (dk_at dksX1_needed_1 9 rfl rfl)
theorem dX1_needed_33 : decode cX1_needed 33 = .ok (.aload_n 0, 1) := dk_42 (dk_at dksX1_needed_1 10 rfl rfl)
theorem dX1_needed_34 : decode cX1_needed 34 = .ok (.getfield 10, 3) := dk_180 0 10 (dk_at dksX1_needed_1 11 rfl rfl)
theorem dX1_needed_37 : decode cX1_needed 37 = .ok (.getfield 93, 3) := dk_180 0 93 (dk_at dksX1_needed_1 14 rfl rfl)
theorem dX1_needed_40 : decode cX1_needed 40 = .ok (.aload_n 3, 1) := dk_45 (dk_at dksX1_needed_1 17 rfl rfl)
theorem dX1_needed_41 : decode cX1_needed 41 = .ok (.invokevirtual 166, 3) := dk_182 0 166 (dk_at dksX1_needed_1 18 rfl rfl)
theorem dX1_needed_44 : decode cX1_needed 44 = .ok (.invokevirtual 104, 3) := dk_182 0 104 (dk_at dksX1_needed_1 21 rfl rfl)
theorem dX1_needed_47 : decode cX1_needed 47 = .ok (.checkcast 108, 3) := dk_192 0 108 (dk_at dksX1_needed_2 0 rfl rfl)
theorem dX1_needed_50 : decode cX1_needed 50 = .ok (.invokevirtual 186, 3) := dk_182 0 186 (dk_at dksX1_needed_2 3 rfl rfl)
theorem dX1_needed_53 : decode cX1_needed 53 = .ok (.iadd, 1) := dk_96 (dk_at dksX1_needed_2 6 rfl rfl)
theorem dX1_needed_54 : decode cX1_needed 54 = .ok (.istore_n 1, 1) := dk_60 (dk_at dksX1_needed_2 7 rfl rfl)
theorem dX1_needed_55 : decode cX1_needed 55 = .ok (.goto (-42), 3) := dk_167 255 214 (dk_at dksX1_needed_2 8 rfl rfl)
theorem dX1_needed_58 : decode cX1_needed 58 = .ok (.iload_n 1, 1) := dk_27 (dk_at dksX1_needed_2 11 rfl rfl)
theorem dX1_needed_59 : decode cX1_needed 59 = .ok (.ireturn, 1) := dk_172 (dk_at dksX1_needed_2 12 rfl rfl)
abbrev cX1_mendable : ByteArray := prog_1_method_57_code
def yX1_mendable : MethodName := ⟨RX1, "mendable", "()I"⟩
def dkwX1_mendable_2 : List UInt8 := [167, 0, 4, 3, 128, 60, 132, 2, 1, 167, 255, 205, 27, 172]
abbrev dktX1_mendable_2 : List UInt8 := dkwX1_mendable_2 ++ []
def dkwX1_mendable_1 : List UInt8 := [180, 0, 10, 180, 0, 93, 28, 182, 0, 104, 192, 0, 108, 182, 1, 56, 153, 0, 9, 4, 28, 120]
abbrev dktX1_mendable_1 : List UInt8 := dkwX1_mendable_1 ++ dktX1_mendable_2
def dkwX1_mendable_0 : List UInt8 := [3, 60, 3, 61, 28, 42, 180, 0, 10, 180, 0, 93, 182, 0, 97, 162, 0, 43, 27, 42, 180, 0, 10, 42]
abbrev dktX1_mendable_0 : List UInt8 := dkwX1_mendable_0 ++ dktX1_mendable_1
theorem dksX1_mendable_0 : cX1_mendable.data.toList.drop 0 = dktX1_mendable_0 := by decide +kernel
theorem dksX1_mendable_1 : cX1_mendable.data.toList.drop 24 = dktX1_mendable_1 := dk_seg dksX1_mendable_0 24 rfl rfl
theorem dksX1_mendable_2 : cX1_mendable.data.toList.drop 46 = dktX1_mendable_2 := dk_seg dksX1_mendable_1 22 rfl rfl
theorem dX1_mendable_0 : decode cX1_mendable 0 = .ok (.iconst 0, 1) := dk_3 (dk_at dksX1_mendable_0 0 rfl rfl)
theorem dX1_mendable_1 : decode cX1_mendable 1 = .ok (.istore_n 1, 1) := dk_60 (dk_at dksX1_mendable_0 1 rfl rfl)
theorem dX1_mendable_2 : decode cX1_mendable 2 = .ok (.iconst 0, 1) := dk_3 (dk_at dksX1_mendable_0 2 rfl rfl)
theorem dX1_mendable_3 : decode cX1_mendable 3 = .ok (.istore_n 2, 1) := dk_61 (dk_at dksX1_mendable_0 3 rfl rfl)
theorem dX1_mendable_4 : decode cX1_mendable 4 = .ok (.iload_n 2, 1) := dk_28 (dk_at dksX1_mendable_0 4 rfl rfl)
theorem dX1_mendable_5 : decode cX1_mendable 5 = .ok (.aload_n 0, 1) := dk_42 (dk_at dksX1_mendable_0 5 rfl rfl)
theorem dX1_mendable_6 : decode cX1_mendable 6 = .ok (.getfield 10, 3) := dk_180 0 10 (dk_at dksX1_mendable_0 6 rfl rfl)
theorem dX1_mendable_9 : decode cX1_mendable 9 = .ok (.getfield 93, 3) := dk_180 0 93 (dk_at dksX1_mendable_0 9 rfl rfl)
theorem dX1_mendable_12 : decode cX1_mendable 12 = .ok (.invokevirtual 97, 3) := dk_182 0 97 (dk_at dksX1_mendable_0 12 rfl rfl)
theorem dX1_mendable_15 : decode cX1_mendable 15 = .ok (.if_icmp .ge 43, 3) := dk_162 0 43 (dk_at dksX1_mendable_0 15 rfl rfl)
theorem dX1_mendable_18 : decode cX1_mendable 18 = .ok (.iload_n 1, 1) := dk_27 (dk_at dksX1_mendable_0 18 rfl rfl)
theorem dX1_mendable_19 : decode cX1_mendable 19 = .ok (.aload_n 0, 1) := dk_42 (dk_at dksX1_mendable_0 19 rfl rfl)
theorem dX1_mendable_20 : decode cX1_mendable 20 = .ok (.getfield 10, 3) := dk_180 0 10 (dk_at dksX1_mendable_0 20 rfl rfl)
theorem dX1_mendable_23 : decode cX1_mendable 23 = .ok (.aload_n 0, 1) := dk_42 (dk_at dksX1_mendable_0 23 rfl rfl)
theorem dX1_mendable_24 : decode cX1_mendable 24 = .ok (.getfield 10, 3) := dk_180 0 10 (dk_at dksX1_mendable_1 0 rfl rfl)
theorem dX1_mendable_27 : decode cX1_mendable 27 = .ok (.getfield 93, 3) := dk_180 0 93 (dk_at dksX1_mendable_1 3 rfl rfl)
theorem dX1_mendable_30 : decode cX1_mendable 30 = .ok (.iload_n 2, 1) := dk_28 (dk_at dksX1_mendable_1 6 rfl rfl)
theorem dX1_mendable_31 : decode cX1_mendable 31 = .ok (.invokevirtual 104, 3) := dk_182 0 104 (dk_at dksX1_mendable_1 7 rfl rfl)
theorem dX1_mendable_34 : decode cX1_mendable 34 = .ok (.checkcast 108, 3) := dk_192 0 108 (dk_at dksX1_mendable_1 10 rfl rfl)
theorem dX1_mendable_37 : decode cX1_mendable 37 = .ok (.invokevirtual 312, 3) := dk_182 1 56 (dk_at dksX1_mendable_1 13 rfl rfl)
theorem dX1_mendable_40 : decode cX1_mendable 40 = .ok (.ifCond .eq 9, 3) := dk_153 0 9 (dk_at dksX1_mendable_1 16 rfl rfl)
theorem dX1_mendable_43 : decode cX1_mendable 43 = .ok (.iconst 1, 1) := dk_4 (dk_at dksX1_mendable_1 19 rfl rfl)
theorem dX1_mendable_44 : decode cX1_mendable 44 = .ok (.iload_n 2, 1) := dk_28 (dk_at dksX1_mendable_1 20 rfl rfl)
theorem dX1_mendable_45 : decode cX1_mendable 45 = .ok (.ishl, 1) := dk_120 (dk_at dksX1_mendable_1 21 rfl rfl)
theorem dX1_mendable_46 : decode cX1_mendable 46 = .ok (.goto 4, 3) := dk_167 0 4 (dk_at dksX1_mendable_2 0 rfl rfl)
theorem dX1_mendable_49 : decode cX1_mendable 49 = .ok (.iconst 0, 1) := dk_3 (dk_at dksX1_mendable_2 3 rfl rfl)
theorem dX1_mendable_50 : decode cX1_mendable 50 = .ok (.ior, 1) := dk_128 (dk_at dksX1_mendable_2 4 rfl rfl)
theorem dX1_mendable_51 : decode cX1_mendable 51 = .ok (.istore_n 1, 1) := dk_60 (dk_at dksX1_mendable_2 5 rfl rfl)
theorem dX1_mendable_52 : decode cX1_mendable 52 = .ok (.iinc 2 1, 3) := dk_132 2 1 (dk_at dksX1_mendable_2 6 rfl rfl)
theorem dX1_mendable_55 : decode cX1_mendable 55 = .ok (.goto (-51), 3) := dk_167 255 205 (dk_at dksX1_mendable_2 9 rfl rfl)
theorem dX1_mendable_58 : decode cX1_mendable 58 = .ok (.iload_n 1, 1) := dk_27 (dk_at dksX1_mendable_2 12 rfl rfl)
theorem dX1_mendable_59 : decode cX1_mendable 59 = .ok (.ireturn, 1) := dk_172 (dk_at dksX1_mendable_2 13 rfl rfl)
abbrev cX1_lumps : ByteArray := prog_1_method_60_code
def yX1_lumps : MethodName := ⟨RX1, "lumps", "()I"⟩
def dkwX1_lumps_0 : List UInt8 := [42, 180, 0, 10, 180, 0, 195, 182, 0, 85, 172]
abbrev dktX1_lumps_0 : List UInt8 := dkwX1_lumps_0 ++ []
theorem dksX1_lumps_0 : cX1_lumps.data.toList.drop 0 = dktX1_lumps_0 := by decide +kernel
theorem dX1_lumps_0 : decode cX1_lumps 0 = .ok (.aload_n 0, 1) := dk_42 (dk_at dksX1_lumps_0 0 rfl rfl)
theorem dX1_lumps_1 : decode cX1_lumps 1 = .ok (.getfield 10, 3) := dk_180 0 10 (dk_at dksX1_lumps_0 1 rfl rfl)
theorem dX1_lumps_4 : decode cX1_lumps 4 = .ok (.getfield 195, 3) := dk_180 0 195 (dk_at dksX1_lumps_0 4 rfl rfl)
theorem dX1_lumps_7 : decode cX1_lumps 7 = .ok (.invokevirtual 85, 3) := dk_182 0 85 (dk_at dksX1_lumps_0 7 rfl rfl)
theorem dX1_lumps_10 : decode cX1_lumps 10 = .ok (.ireturn, 1) := dk_172 (dk_at dksX1_lumps_0 10 rfl rfl)
abbrev cX1_lumpsAgain : ByteArray := prog_1_method_61_code
def yX1_lumpsAgain : MethodName := ⟨RX1, "lumpsAgain", "()I"⟩
def dkwX1_lumpsAgain_0 : List UInt8 := [42, 180, 0, 10, 180, 0, 202, 42, 180, 0, 10, 180, 1, 72, 100, 42, 180, 0, 10, 180, 1, 75, 100, 172]
abbrev dktX1_lumpsAgain_0 : List UInt8 := dkwX1_lumpsAgain_0 ++ []
theorem dksX1_lumpsAgain_0 : cX1_lumpsAgain.data.toList.drop 0 = dktX1_lumpsAgain_0 := by decide +kernel
theorem dX1_lumpsAgain_0 : decode cX1_lumpsAgain 0 = .ok (.aload_n 0, 1) := dk_42 (dk_at dksX1_lumpsAgain_0 0 rfl rfl)
theorem dX1_lumpsAgain_1 : decode cX1_lumpsAgain 1 = .ok (.getfield 10, 3) := dk_180 0 10 (dk_at dksX1_lumpsAgain_0 1 rfl rfl)
theorem dX1_lumpsAgain_4 : decode cX1_lumpsAgain 4 = .ok (.getfield 202, 3) := dk_180 0 202 (dk_at dksX1_lumpsAgain_0 4 rfl rfl)
theorem dX1_lumpsAgain_7 : decode cX1_lumpsAgain 7 = .ok (.aload_n 0, 1) := dk_42 (dk_at dksX1_lumpsAgain_0 7 rfl rfl)
theorem dX1_lumpsAgain_8 : decode cX1_lumpsAgain 8 = .ok (.getfield 10, 3) := dk_180 0 10 (dk_at dksX1_lumpsAgain_0 8 rfl rfl)
theorem dX1_lumpsAgain_11 : decode cX1_lumpsAgain 11 = .ok (.getfield 328, 3) := dk_180 1 72 (dk_at dksX1_lumpsAgain_0 11 rfl rfl)
theorem dX1_lumpsAgain_14 : decode cX1_lumpsAgain 14 = .ok (.isub, 1) := dk_100 (dk_at dksX1_lumpsAgain_0 14 rfl rfl)
theorem dX1_lumpsAgain_15 : decode cX1_lumpsAgain 15 = .ok (.aload_n 0, 1) := dk_42 (dk_at dksX1_lumpsAgain_0 15 rfl rfl)
theorem dX1_lumpsAgain_16 : decode cX1_lumpsAgain 16 = .ok (.getfield 10, 3) := dk_180 0 10 (dk_at dksX1_lumpsAgain_0 16 rfl rfl)
theorem dX1_lumpsAgain_19 : decode cX1_lumpsAgain 19 = .ok (.getfield 331, 3) := dk_180 1 75 (dk_at dksX1_lumpsAgain_0 19 rfl rfl)
theorem dX1_lumpsAgain_22 : decode cX1_lumpsAgain 22 = .ok (.isub, 1) := dk_100 (dk_at dksX1_lumpsAgain_0 22 rfl rfl)
theorem dX1_lumpsAgain_23 : decode cX1_lumpsAgain 23 = .ok (.ireturn, 1) := dk_172 (dk_at dksX1_lumpsAgain_0 23 rfl rfl)
abbrev cX1_faultPosition : ByteArray := prog_1_method_66_code
def yX1_faultPosition : MethodName := ⟨RX1, "faultPosition", "()I"⟩
theorem dX1_faultPosition_0 : decode cX1_faultPosition 0 = .ok (.aload_n 0, 1) := by decide +kernel
theorem dX1_faultPosition_1 : decode cX1_faultPosition 1 = .ok (.getfield 33, 3) := by decide +kernel
theorem dX1_faultPosition_4 : decode cX1_faultPosition 4 = .ok (.ireturn, 1) := by decide +kernel
abbrev cX1_tellBench : ByteArray := prog_1_method_68_code
def yX1_tellBench : MethodName := ⟨RX1, "tellBench", "()I"⟩
def dkwX1_tellBench_7 : List UInt8 := [167, 0, 6, 19, 1, 167, 182, 1, 169, 87, 42, 180, 0, 30, 182, 1, 118, 172]
abbrev dktX1_tellBench_7 : List UInt8 := dkwX1_tellBench_7 ++ []
def dkwX1_tellBench_6 : List UInt8 := [167, 255, 139, 42, 180, 0, 30, 42, 180, 0, 10, 180, 0, 139, 182, 0, 181, 153, 0, 9, 19, 1, 180]
abbrev dktX1_tellBench_6 : List UInt8 := dkwX1_tellBench_6 ++ dktX1_tellBench_7
def dkwX1_tellBench_5 : List UInt8 := [180, 0, 30, 45, 180, 0, 249, 7, 164, 0, 9, 19, 1, 178, 167, 0, 6, 19, 1, 167, 182, 1, 169, 87]
abbrev dktX1_tellBench_5 : List UInt8 := dkwX1_tellBench_5 ++ dktX1_tellBench_6
def dkwX1_tellBench_4 : List UInt8 := [182, 1, 124, 45, 180, 0, 234, 182, 1, 175, 16, 47, 182, 1, 124, 45, 180, 0, 255, 182, 1, 175, 87, 42]
abbrev dktX1_tellBench_4 : List UInt8 := dkwX1_tellBench_4 ++ dktX1_tellBench_5
def dkwX1_tellBench_3 : List UInt8 := [182, 1, 118, 158, 0, 9, 19, 1, 165, 167, 0, 6, 19, 1, 167, 182, 1, 169, 44, 182, 1, 172, 16, 58]
abbrev dktX1_tellBench_3 : List UInt8 := dkwX1_tellBench_3 ++ dktX1_tellBench_4
def dkwX1_tellBench_2 : List UInt8 := [180, 0, 93, 44, 182, 0, 166, 182, 0, 104, 192, 0, 108, 78, 42, 180, 0, 30, 42, 180, 0, 30]
abbrev dktX1_tellBench_2 : List UInt8 := dkwX1_tellBench_2 ++ dktX1_tellBench_3
def dkwX1_tellBench_1 : List UInt8 := [185, 0, 157, 1, 0, 153, 0, 114, 43, 185, 0, 163, 1, 0, 192, 0, 144, 77, 42, 180, 0, 10]
abbrev dktX1_tellBench_1 : List UInt8 := dkwX1_tellBench_1 ++ dktX1_tellBench_2
def dkwX1_tellBench_0 : List UInt8 := [42, 180, 0, 30, 3, 182, 1, 137, 42, 180, 0, 10, 180, 0, 139, 182, 0, 153, 76, 43]
abbrev dktX1_tellBench_0 : List UInt8 := dkwX1_tellBench_0 ++ dktX1_tellBench_1
theorem dksX1_tellBench_0 : cX1_tellBench.data.toList.drop 0 = dktX1_tellBench_0 := by decide +kernel
theorem dksX1_tellBench_1 : cX1_tellBench.data.toList.drop 20 = dktX1_tellBench_1 := dk_seg dksX1_tellBench_0 20 rfl rfl
theorem dksX1_tellBench_2 : cX1_tellBench.data.toList.drop 42 = dktX1_tellBench_2 := dk_seg dksX1_tellBench_1 22 rfl rfl
theorem dksX1_tellBench_3 : cX1_tellBench.data.toList.drop 64 = dktX1_tellBench_3 := dk_seg dksX1_tellBench_2 22 rfl rfl
theorem dksX1_tellBench_4 : cX1_tellBench.data.toList.drop 88 = dktX1_tellBench_4 := dk_seg dksX1_tellBench_3 24 rfl rfl
theorem dksX1_tellBench_5 : cX1_tellBench.data.toList.drop 112 = dktX1_tellBench_5 := dk_seg dksX1_tellBench_4 24 rfl rfl
theorem dksX1_tellBench_6 : cX1_tellBench.data.toList.drop 136 = dktX1_tellBench_6 := dk_seg dksX1_tellBench_5 24 rfl rfl
theorem dksX1_tellBench_7 : cX1_tellBench.data.toList.drop 159 = dktX1_tellBench_7 := dk_seg dksX1_tellBench_6 23 rfl rfl
theorem dX1_tellBench_0 : decode cX1_tellBench 0 = .ok (.aload_n 0, 1) := dk_42 (dk_at dksX1_tellBench_0 0 rfl rfl)
theorem dX1_tellBench_1 : decode cX1_tellBench 1 = .ok (.getfield 30, 3) := dk_180 0 30 (dk_at dksX1_tellBench_0 1 rfl rfl)
theorem dX1_tellBench_4 : decode cX1_tellBench 4 = .ok (.iconst 0, 1) := dk_3 (dk_at dksX1_tellBench_0 4 rfl rfl)
theorem dX1_tellBench_5 : decode cX1_tellBench 5 = .ok (.invokevirtual 393, 3) := dk_182 1 137 (dk_at dksX1_tellBench_0 5 rfl rfl)
theorem dX1_tellBench_8 : decode cX1_tellBench 8 = .ok (.aload_n 0, 1) := dk_42 (dk_at dksX1_tellBench_0 8 rfl rfl)
theorem dX1_tellBench_9 : decode cX1_tellBench 9 = .ok (.getfield 10, 3) := dk_180 0 10 (dk_at dksX1_tellBench_0 9 rfl rfl)
theorem dX1_tellBench_12 : decode cX1_tellBench 12 = .ok (.getfield 139, 3) := dk_180 0 139 (dk_at dksX1_tellBench_0 12 rfl rfl)
theorem dX1_tellBench_15 : decode cX1_tellBench 15 = .ok (.invokevirtual 153, 3) := dk_182 0 153 (dk_at dksX1_tellBench_0 15 rfl rfl)
theorem dX1_tellBench_18 : decode cX1_tellBench 18 = .ok (.astore_n 1, 1) := dk_76 (dk_at dksX1_tellBench_0 18 rfl rfl)
theorem dX1_tellBench_19 : decode cX1_tellBench 19 = .ok (.aload_n 1, 1) := dk_43 (dk_at dksX1_tellBench_0 19 rfl rfl)
theorem dX1_tellBench_20 : decode cX1_tellBench 20 = .ok (.invokeinterface 157 1, 5) := by decide +kernel
theorem dX1_tellBench_25 : decode cX1_tellBench 25 = .ok (.ifCond .eq 114, 3) := dk_153 0 114 (dk_at dksX1_tellBench_1 5 rfl rfl)
theorem dX1_tellBench_28 : decode cX1_tellBench 28 = .ok (.aload_n 1, 1) := dk_43 (dk_at dksX1_tellBench_1 8 rfl rfl)
theorem dX1_tellBench_29 : decode cX1_tellBench 29 = .ok (.invokeinterface 163 1, 5) := by decide +kernel
theorem dX1_tellBench_34 : decode cX1_tellBench 34 = .ok (.checkcast 144, 3) := dk_192 0 144 (dk_at dksX1_tellBench_1 14 rfl rfl)
theorem dX1_tellBench_37 : decode cX1_tellBench 37 = .ok (.astore_n 2, 1) := dk_77 (dk_at dksX1_tellBench_1 17 rfl rfl)
theorem dX1_tellBench_38 : decode cX1_tellBench 38 = .ok (.aload_n 0, 1) := dk_42 (dk_at dksX1_tellBench_1 18 rfl rfl)
theorem dX1_tellBench_39 : decode cX1_tellBench 39 = .ok (.getfield 10, 3) := dk_180 0 10 (dk_at dksX1_tellBench_1 19 rfl rfl)
theorem dX1_tellBench_42 : decode cX1_tellBench 42 = .ok (.getfield 93, 3) := dk_180 0 93 (dk_at dksX1_tellBench_2 0 rfl rfl)
theorem dX1_tellBench_45 : decode cX1_tellBench 45 = .ok (.aload_n 2, 1) := dk_44 (dk_at dksX1_tellBench_2 3 rfl rfl)
theorem dX1_tellBench_46 : decode cX1_tellBench 46 = .ok (.invokevirtual 166, 3) := dk_182 0 166 (dk_at dksX1_tellBench_2 4 rfl rfl)
theorem dX1_tellBench_49 : decode cX1_tellBench 49 = .ok (.invokevirtual 104, 3) := dk_182 0 104 (dk_at dksX1_tellBench_2 7 rfl rfl)
theorem dX1_tellBench_52 : decode cX1_tellBench 52 = .ok (.checkcast 108, 3) := dk_192 0 108 (dk_at dksX1_tellBench_2 10 rfl rfl)
theorem dX1_tellBench_55 : decode cX1_tellBench 55 = .ok (.astore_n 3, 1) := dk_78 (dk_at dksX1_tellBench_2 13 rfl rfl)
theorem dX1_tellBench_56 : decode cX1_tellBench 56 = .ok (.aload_n 0, 1) := dk_42 (dk_at dksX1_tellBench_2 14 rfl rfl)
theorem dX1_tellBench_57 : decode cX1_tellBench 57 = .ok (.getfield 30, 3) := dk_180 0 30 (dk_at dksX1_tellBench_2 15 rfl rfl)
theorem dX1_tellBench_60 : decode cX1_tellBench 60 = .ok (.aload_n 0, 1) := dk_42 (dk_at dksX1_tellBench_2 18 rfl rfl)
theorem dX1_tellBench_61 : decode cX1_tellBench 61 = .ok (.getfield 30, 3) := dk_180 0 30 (dk_at dksX1_tellBench_2 19 rfl rfl)
theorem dX1_tellBench_64 : decode cX1_tellBench 64 = .ok (.invokevirtual 374, 3) := dk_182 1 118 (dk_at dksX1_tellBench_3 0 rfl rfl)
theorem dX1_tellBench_67 : decode cX1_tellBench 67 = .ok (.ifCond .le 9, 3) := dk_158 0 9 (dk_at dksX1_tellBench_3 3 rfl rfl)
theorem dX1_tellBench_70 : decode cX1_tellBench 70 = .ok (.ldc_w 421, 3) := dk_19 1 165 (dk_at dksX1_tellBench_3 6 rfl rfl)
theorem dX1_tellBench_73 : decode cX1_tellBench 73 = .ok (.goto 6, 3) := dk_167 0 6 (dk_at dksX1_tellBench_3 9 rfl rfl)
theorem dX1_tellBench_76 : decode cX1_tellBench 76 = .ok (.ldc_w 423, 3) := dk_19 1 167 (dk_at dksX1_tellBench_3 12 rfl rfl)
theorem dX1_tellBench_79 : decode cX1_tellBench 79 = .ok (.invokevirtual 425, 3) := dk_182 1 169 (dk_at dksX1_tellBench_3 15 rfl rfl)
theorem dX1_tellBench_82 : decode cX1_tellBench 82 = .ok (.aload_n 2, 1) := dk_44 (dk_at dksX1_tellBench_3 18 rfl rfl)
theorem dX1_tellBench_83 : decode cX1_tellBench 83 = .ok (.invokevirtual 428, 3) := dk_182 1 172 (dk_at dksX1_tellBench_3 19 rfl rfl)
theorem dX1_tellBench_86 : decode cX1_tellBench 86 = .ok (.bipush 58, 2) := dk_16 58 (dk_at dksX1_tellBench_3 22 rfl rfl)
theorem dX1_tellBench_88 : decode cX1_tellBench 88 = .ok (.invokevirtual 380, 3) := dk_182 1 124 (dk_at dksX1_tellBench_4 0 rfl rfl)
theorem dX1_tellBench_91 : decode cX1_tellBench 91 = .ok (.aload_n 3, 1) := dk_45 (dk_at dksX1_tellBench_4 3 rfl rfl)
theorem dX1_tellBench_92 : decode cX1_tellBench 92 = .ok (.getfield 234, 3) := dk_180 0 234 (dk_at dksX1_tellBench_4 4 rfl rfl)
theorem dX1_tellBench_95 : decode cX1_tellBench 95 = .ok (.invokevirtual 431, 3) := dk_182 1 175 (dk_at dksX1_tellBench_4 7 rfl rfl)
theorem dX1_tellBench_98 : decode cX1_tellBench 98 = .ok (.bipush 47, 2) := dk_16 47 (dk_at dksX1_tellBench_4 10 rfl rfl)
theorem dX1_tellBench_100 : decode cX1_tellBench 100 = .ok (.invokevirtual 380, 3) := dk_182 1 124 (dk_at dksX1_tellBench_4 12 rfl rfl)
theorem dX1_tellBench_103 : decode cX1_tellBench 103 = .ok (.aload_n 3, 1) := dk_45 (dk_at dksX1_tellBench_4 15 rfl rfl)
theorem dX1_tellBench_104 : decode cX1_tellBench 104 = .ok (.getfield 255, 3) := dk_180 0 255 (dk_at dksX1_tellBench_4 16 rfl rfl)
theorem dX1_tellBench_107 : decode cX1_tellBench 107 = .ok (.invokevirtual 431, 3) := dk_182 1 175 (dk_at dksX1_tellBench_4 19 rfl rfl)
theorem dX1_tellBench_110 : decode cX1_tellBench 110 = .ok (.pop, 1) := dk_87 (dk_at dksX1_tellBench_4 22 rfl rfl)
theorem dX1_tellBench_111 : decode cX1_tellBench 111 = .ok (.aload_n 0, 1) := dk_42 (dk_at dksX1_tellBench_4 23 rfl rfl)
theorem dX1_tellBench_112 : decode cX1_tellBench 112 = .ok (.getfield 30, 3) := dk_180 0 30 (dk_at dksX1_tellBench_5 0 rfl rfl)
theorem dX1_tellBench_115 : decode cX1_tellBench 115 = .ok (.aload_n 3, 1) := dk_45 (dk_at dksX1_tellBench_5 3 rfl rfl)
theorem dX1_tellBench_116 : decode cX1_tellBench 116 = .ok (.getfield 249, 3) := dk_180 0 249 (dk_at dksX1_tellBench_5 4 rfl rfl)
theorem dX1_tellBench_119 : decode cX1_tellBench 119 = .ok (.iconst 4, 1) := dk_7 (dk_at dksX1_tellBench_5 7 rfl rfl)
theorem dX1_tellBench_120 : decode cX1_tellBench 120 = .ok (.if_icmp .le 9, 3) := dk_164 0 9 (dk_at dksX1_tellBench_5 8 rfl rfl)
theorem dX1_tellBench_123 : decode cX1_tellBench 123 = .ok (.ldc_w 434, 3) := dk_19 1 178 (dk_at dksX1_tellBench_5 11 rfl rfl)
theorem dX1_tellBench_126 : decode cX1_tellBench 126 = .ok (.goto 6, 3) := dk_167 0 6 (dk_at dksX1_tellBench_5 14 rfl rfl)
theorem dX1_tellBench_129 : decode cX1_tellBench 129 = .ok (.ldc_w 423, 3) := dk_19 1 167 (dk_at dksX1_tellBench_5 17 rfl rfl)
theorem dX1_tellBench_132 : decode cX1_tellBench 132 = .ok (.invokevirtual 425, 3) := dk_182 1 169 (dk_at dksX1_tellBench_5 20 rfl rfl)
theorem dX1_tellBench_135 : decode cX1_tellBench 135 = .ok (.pop, 1) := dk_87 (dk_at dksX1_tellBench_5 23 rfl rfl)
theorem dX1_tellBench_136 : decode cX1_tellBench 136 = .ok (.goto (-117), 3) := dk_167 255 139 (dk_at dksX1_tellBench_6 0 rfl rfl)
theorem dX1_tellBench_139 : decode cX1_tellBench 139 = .ok (.aload_n 0, 1) := dk_42 (dk_at dksX1_tellBench_6 3 rfl rfl)
theorem dX1_tellBench_140 : decode cX1_tellBench 140 = .ok (.getfield 30, 3) := dk_180 0 30 (dk_at dksX1_tellBench_6 4 rfl rfl)
theorem dX1_tellBench_143 : decode cX1_tellBench 143 = .ok (.aload_n 0, 1) := dk_42 (dk_at dksX1_tellBench_6 7 rfl rfl)
theorem dX1_tellBench_144 : decode cX1_tellBench 144 = .ok (.getfield 10, 3) := dk_180 0 10 (dk_at dksX1_tellBench_6 8 rfl rfl)
theorem dX1_tellBench_147 : decode cX1_tellBench 147 = .ok (.getfield 139, 3) := dk_180 0 139 (dk_at dksX1_tellBench_6 11 rfl rfl)
theorem dX1_tellBench_150 : decode cX1_tellBench 150 = .ok (.invokevirtual 181, 3) := dk_182 0 181 (dk_at dksX1_tellBench_6 14 rfl rfl)
theorem dX1_tellBench_153 : decode cX1_tellBench 153 = .ok (.ifCond .eq 9, 3) := dk_153 0 9 (dk_at dksX1_tellBench_6 17 rfl rfl)
theorem dX1_tellBench_156 : decode cX1_tellBench 156 = .ok (.ldc_w 436, 3) := dk_19 1 180 (dk_at dksX1_tellBench_6 20 rfl rfl)
theorem dX1_tellBench_159 : decode cX1_tellBench 159 = .ok (.goto 6, 3) := dk_167 0 6 (dk_at dksX1_tellBench_7 0 rfl rfl)
theorem dX1_tellBench_162 : decode cX1_tellBench 162 = .ok (.ldc_w 423, 3) := dk_19 1 167 (dk_at dksX1_tellBench_7 3 rfl rfl)
theorem dX1_tellBench_165 : decode cX1_tellBench 165 = .ok (.invokevirtual 425, 3) := dk_182 1 169 (dk_at dksX1_tellBench_7 6 rfl rfl)
theorem dX1_tellBench_168 : decode cX1_tellBench 168 = .ok (.pop, 1) := dk_87 (dk_at dksX1_tellBench_7 9 rfl rfl)
theorem dX1_tellBench_169 : decode cX1_tellBench 169 = .ok (.aload_n 0, 1) := dk_42 (dk_at dksX1_tellBench_7 10 rfl rfl)
theorem dX1_tellBench_170 : decode cX1_tellBench 170 = .ok (.getfield 30, 3) := dk_180 0 30 (dk_at dksX1_tellBench_7 11 rfl rfl)
theorem dX1_tellBench_173 : decode cX1_tellBench 173 = .ok (.invokevirtual 374, 3) := dk_182 1 118 (dk_at dksX1_tellBench_7 14 rfl rfl)
theorem dX1_tellBench_176 : decode cX1_tellBench 176 = .ok (.ireturn, 1) := dk_172 (dk_at dksX1_tellBench_7 17 rfl rfl)
abbrev cX1_tellPerches : ByteArray := prog_1_method_69_code
def yX1_tellPerches : MethodName := ⟨RX1, "tellPerches", "()I"⟩
def dkwX1_tellPerches_2 : List UInt8 := [167, 255, 218, 42, 180, 0, 30, 182, 1, 118, 172]
abbrev dktX1_tellPerches_2 : List UInt8 := dkwX1_tellPerches_2 ++ []
def dkwX1_tellPerches_1 : List UInt8 := [180, 1, 8, 27, 182, 1, 12, 153, 0, 8, 16, 112, 167, 0, 5, 16, 46, 182, 1, 124, 87, 132, 1, 1]
abbrev dktX1_tellPerches_1 : List UInt8 := dkwX1_tellPerches_1 ++ dktX1_tellPerches_2
def dkwX1_tellPerches_0 : List UInt8 := [42, 180, 0, 30, 3, 182, 1, 137, 3, 60, 27, 16, 8, 162, 0, 38, 42, 180, 0, 30, 42, 180, 0, 10]
abbrev dktX1_tellPerches_0 : List UInt8 := dkwX1_tellPerches_0 ++ dktX1_tellPerches_1
theorem dksX1_tellPerches_0 : cX1_tellPerches.data.toList.drop 0 = dktX1_tellPerches_0 := by decide +kernel
theorem dksX1_tellPerches_1 : cX1_tellPerches.data.toList.drop 24 = dktX1_tellPerches_1 := dk_seg dksX1_tellPerches_0 24 rfl rfl
theorem dksX1_tellPerches_2 : cX1_tellPerches.data.toList.drop 48 = dktX1_tellPerches_2 := dk_seg dksX1_tellPerches_1 24 rfl rfl
theorem dX1_tellPerches_0 : decode cX1_tellPerches 0 = .ok (.aload_n 0, 1) := dk_42 (dk_at dksX1_tellPerches_0 0 rfl rfl)
theorem dX1_tellPerches_1 : decode cX1_tellPerches 1 = .ok (.getfield 30, 3) := dk_180 0 30 (dk_at dksX1_tellPerches_0 1 rfl rfl)
theorem dX1_tellPerches_4 : decode cX1_tellPerches 4 = .ok (.iconst 0, 1) := dk_3 (dk_at dksX1_tellPerches_0 4 rfl rfl)
theorem dX1_tellPerches_5 : decode cX1_tellPerches 5 = .ok (.invokevirtual 393, 3) := dk_182 1 137 (dk_at dksX1_tellPerches_0 5 rfl rfl)
theorem dX1_tellPerches_8 : decode cX1_tellPerches 8 = .ok (.iconst 0, 1) := dk_3 (dk_at dksX1_tellPerches_0 8 rfl rfl)
theorem dX1_tellPerches_9 : decode cX1_tellPerches 9 = .ok (.istore_n 1, 1) := dk_60 (dk_at dksX1_tellPerches_0 9 rfl rfl)
theorem dX1_tellPerches_10 : decode cX1_tellPerches 10 = .ok (.iload_n 1, 1) := dk_27 (dk_at dksX1_tellPerches_0 10 rfl rfl)
theorem dX1_tellPerches_11 : decode cX1_tellPerches 11 = .ok (.bipush 8, 2) := dk_16 8 (dk_at dksX1_tellPerches_0 11 rfl rfl)
theorem dX1_tellPerches_13 : decode cX1_tellPerches 13 = .ok (.if_icmp .ge 38, 3) := dk_162 0 38 (dk_at dksX1_tellPerches_0 13 rfl rfl)
theorem dX1_tellPerches_16 : decode cX1_tellPerches 16 = .ok (.aload_n 0, 1) := dk_42 (dk_at dksX1_tellPerches_0 16 rfl rfl)
theorem dX1_tellPerches_17 : decode cX1_tellPerches 17 = .ok (.getfield 30, 3) := dk_180 0 30 (dk_at dksX1_tellPerches_0 17 rfl rfl)
theorem dX1_tellPerches_20 : decode cX1_tellPerches 20 = .ok (.aload_n 0, 1) := dk_42 (dk_at dksX1_tellPerches_0 20 rfl rfl)
theorem dX1_tellPerches_21 : decode cX1_tellPerches 21 = .ok (.getfield 10, 3) := dk_180 0 10 (dk_at dksX1_tellPerches_0 21 rfl rfl)
theorem dX1_tellPerches_24 : decode cX1_tellPerches 24 = .ok (.getfield 264, 3) := dk_180 1 8 (dk_at dksX1_tellPerches_1 0 rfl rfl)
theorem dX1_tellPerches_27 : decode cX1_tellPerches 27 = .ok (.iload_n 1, 1) := dk_27 (dk_at dksX1_tellPerches_1 3 rfl rfl)
theorem dX1_tellPerches_28 : decode cX1_tellPerches 28 = .ok (.invokevirtual 268, 3) := dk_182 1 12 (dk_at dksX1_tellPerches_1 4 rfl rfl)
theorem dX1_tellPerches_31 : decode cX1_tellPerches 31 = .ok (.ifCond .eq 8, 3) := dk_153 0 8 (dk_at dksX1_tellPerches_1 7 rfl rfl)
theorem dX1_tellPerches_34 : decode cX1_tellPerches 34 = .ok (.bipush 112, 2) := dk_16 112 (dk_at dksX1_tellPerches_1 10 rfl rfl)
theorem dX1_tellPerches_36 : decode cX1_tellPerches 36 = .ok (.goto 5, 3) := dk_167 0 5 (dk_at dksX1_tellPerches_1 12 rfl rfl)
theorem dX1_tellPerches_39 : decode cX1_tellPerches 39 = .ok (.bipush 46, 2) := dk_16 46 (dk_at dksX1_tellPerches_1 15 rfl rfl)
theorem dX1_tellPerches_41 : decode cX1_tellPerches 41 = .ok (.invokevirtual 380, 3) := dk_182 1 124 (dk_at dksX1_tellPerches_1 17 rfl rfl)
theorem dX1_tellPerches_44 : decode cX1_tellPerches 44 = .ok (.pop, 1) := dk_87 (dk_at dksX1_tellPerches_1 20 rfl rfl)
theorem dX1_tellPerches_45 : decode cX1_tellPerches 45 = .ok (.iinc 1 1, 3) := dk_132 1 1 (dk_at dksX1_tellPerches_1 21 rfl rfl)
theorem dX1_tellPerches_48 : decode cX1_tellPerches 48 = .ok (.goto (-38), 3) := dk_167 255 218 (dk_at dksX1_tellPerches_2 0 rfl rfl)
theorem dX1_tellPerches_51 : decode cX1_tellPerches 51 = .ok (.aload_n 0, 1) := dk_42 (dk_at dksX1_tellPerches_2 3 rfl rfl)
theorem dX1_tellPerches_52 : decode cX1_tellPerches 52 = .ok (.getfield 30, 3) := dk_180 0 30 (dk_at dksX1_tellPerches_2 4 rfl rfl)
theorem dX1_tellPerches_55 : decode cX1_tellPerches 55 = .ok (.invokevirtual 374, 3) := dk_182 1 118 (dk_at dksX1_tellPerches_2 7 rfl rfl)
theorem dX1_tellPerches_58 : decode cX1_tellPerches 58 = .ok (.ireturn, 1) := dk_172 (dk_at dksX1_tellPerches_2 10 rfl rfl)
abbrev cX1_save : ByteArray := prog_1_method_76_code
def yX1_save : MethodName := ⟨RX1, "save", "()I"⟩
def dkwX1_save_0 : List UInt8 := [42, 42, 180, 0, 10, 182, 0, 77, 181, 1, 206, 42, 180, 0, 10, 180, 0, 212, 172]
abbrev dktX1_save_0 : List UInt8 := dkwX1_save_0 ++ []
theorem dksX1_save_0 : cX1_save.data.toList.drop 0 = dktX1_save_0 := by decide +kernel
theorem dX1_save_0 : decode cX1_save 0 = .ok (.aload_n 0, 1) := dk_42 (dk_at dksX1_save_0 0 rfl rfl)
theorem dX1_save_1 : decode cX1_save 1 = .ok (.aload_n 0, 1) := dk_42 (dk_at dksX1_save_0 1 rfl rfl)
theorem dX1_save_2 : decode cX1_save 2 = .ok (.getfield 10, 3) := dk_180 0 10 (dk_at dksX1_save_0 2 rfl rfl)
theorem dX1_save_5 : decode cX1_save 5 = .ok (.invokevirtual 77, 3) := dk_182 0 77 (dk_at dksX1_save_0 5 rfl rfl)
theorem dX1_save_8 : decode cX1_save 8 = .ok (.putfield 462, 3) := dk_181 1 206 (dk_at dksX1_save_0 8 rfl rfl)
theorem dX1_save_11 : decode cX1_save 11 = .ok (.aload_n 0, 1) := dk_42 (dk_at dksX1_save_0 11 rfl rfl)
theorem dX1_save_12 : decode cX1_save 12 = .ok (.getfield 10, 3) := dk_180 0 10 (dk_at dksX1_save_0 12 rfl rfl)
theorem dX1_save_15 : decode cX1_save 15 = .ok (.getfield 212, 3) := dk_180 0 212 (dk_at dksX1_save_0 15 rfl rfl)
theorem dX1_save_18 : decode cX1_save 18 = .ok (.ireturn, 1) := dk_172 (dk_at dksX1_save_0 18 rfl rfl)
abbrev cX1_pipe : ByteArray := prog_1_method_16_code
def yX1_pipe : MethodName := ⟨RX1, "pipe", "(II)I"⟩
def dkwX1_pipe_2 : List UInt8 := [28, 183, 0, 125, 182, 0, 127, 87, 42, 180, 0, 10, 180, 0, 93, 182, 0, 97, 4, 100, 172]
abbrev dktX1_pipe_2 : List UInt8 := dkwX1_pipe_2 ++ []
def dkwX1_pipe_1 : List UInt8 := [182, 0, 97, 16, 10, 182, 0, 118, 42, 182, 0, 122, 42, 180, 0, 10, 180, 0, 93, 187, 0, 108, 89, 27]
abbrev dktX1_pipe_1 : List UInt8 := dkwX1_pipe_1 ++ dktX1_pipe_2
def dkwX1_pipe_0 : List UInt8 := [42, 27, 4, 16, 12, 182, 0, 114, 42, 28, 3, 16, 9, 182, 0, 114, 42, 42, 180, 0, 10, 180, 0, 93]
abbrev dktX1_pipe_0 : List UInt8 := dkwX1_pipe_0 ++ dktX1_pipe_1
theorem dksX1_pipe_0 : cX1_pipe.data.toList.drop 0 = dktX1_pipe_0 := by decide +kernel
theorem dksX1_pipe_1 : cX1_pipe.data.toList.drop 24 = dktX1_pipe_1 := dk_seg dksX1_pipe_0 24 rfl rfl
theorem dksX1_pipe_2 : cX1_pipe.data.toList.drop 48 = dktX1_pipe_2 := dk_seg dksX1_pipe_1 24 rfl rfl
theorem dX1_pipe_0 : decode cX1_pipe 0 = .ok (.aload_n 0, 1) := dk_42 (dk_at dksX1_pipe_0 0 rfl rfl)
theorem dX1_pipe_1 : decode cX1_pipe 1 = .ok (.iload_n 1, 1) := dk_27 (dk_at dksX1_pipe_0 1 rfl rfl)
theorem dX1_pipe_2 : decode cX1_pipe 2 = .ok (.iconst 1, 1) := dk_4 (dk_at dksX1_pipe_0 2 rfl rfl)
theorem dX1_pipe_3 : decode cX1_pipe 3 = .ok (.bipush 12, 2) := dk_16 12 (dk_at dksX1_pipe_0 3 rfl rfl)
theorem dX1_pipe_5 : decode cX1_pipe 5 = .ok (.invokevirtual 114, 3) := dk_182 0 114 (dk_at dksX1_pipe_0 5 rfl rfl)
theorem dX1_pipe_8 : decode cX1_pipe 8 = .ok (.aload_n 0, 1) := dk_42 (dk_at dksX1_pipe_0 8 rfl rfl)
theorem dX1_pipe_9 : decode cX1_pipe 9 = .ok (.iload_n 2, 1) := dk_28 (dk_at dksX1_pipe_0 9 rfl rfl)
theorem dX1_pipe_10 : decode cX1_pipe 10 = .ok (.iconst 0, 1) := dk_3 (dk_at dksX1_pipe_0 10 rfl rfl)
theorem dX1_pipe_11 : decode cX1_pipe 11 = .ok (.bipush 9, 2) := dk_16 9 (dk_at dksX1_pipe_0 11 rfl rfl)
theorem dX1_pipe_13 : decode cX1_pipe 13 = .ok (.invokevirtual 114, 3) := dk_182 0 114 (dk_at dksX1_pipe_0 13 rfl rfl)
theorem dX1_pipe_16 : decode cX1_pipe 16 = .ok (.aload_n 0, 1) := dk_42 (dk_at dksX1_pipe_0 16 rfl rfl)
theorem dX1_pipe_17 : decode cX1_pipe 17 = .ok (.aload_n 0, 1) := dk_42 (dk_at dksX1_pipe_0 17 rfl rfl)
theorem dX1_pipe_18 : decode cX1_pipe 18 = .ok (.getfield 10, 3) := dk_180 0 10 (dk_at dksX1_pipe_0 18 rfl rfl)
theorem dX1_pipe_21 : decode cX1_pipe 21 = .ok (.getfield 93, 3) := dk_180 0 93 (dk_at dksX1_pipe_0 21 rfl rfl)
theorem dX1_pipe_24 : decode cX1_pipe 24 = .ok (.invokevirtual 97, 3) := dk_182 0 97 (dk_at dksX1_pipe_1 0 rfl rfl)
theorem dX1_pipe_27 : decode cX1_pipe 27 = .ok (.bipush 10, 2) := dk_16 10 (dk_at dksX1_pipe_1 3 rfl rfl)
theorem dX1_pipe_29 : decode cX1_pipe 29 = .ok (.invokevirtual 118, 3) := dk_182 0 118 (dk_at dksX1_pipe_1 5 rfl rfl)
theorem dX1_pipe_32 : decode cX1_pipe 32 = .ok (.aload_n 0, 1) := dk_42 (dk_at dksX1_pipe_1 8 rfl rfl)
theorem dX1_pipe_33 : decode cX1_pipe 33 = .ok (.invokevirtual 122, 3) := dk_182 0 122 (dk_at dksX1_pipe_1 9 rfl rfl)
theorem dX1_pipe_36 : decode cX1_pipe 36 = .ok (.aload_n 0, 1) := dk_42 (dk_at dksX1_pipe_1 12 rfl rfl)
theorem dX1_pipe_37 : decode cX1_pipe 37 = .ok (.getfield 10, 3) := dk_180 0 10 (dk_at dksX1_pipe_1 13 rfl rfl)
theorem dX1_pipe_40 : decode cX1_pipe 40 = .ok (.getfield 93, 3) := dk_180 0 93 (dk_at dksX1_pipe_1 16 rfl rfl)
theorem dX1_pipe_43 : decode cX1_pipe 43 = .ok (.new 108, 3) := dk_187 0 108 (dk_at dksX1_pipe_1 19 rfl rfl)
theorem dX1_pipe_46 : decode cX1_pipe 46 = .ok (.dup, 1) := dk_89 (dk_at dksX1_pipe_1 22 rfl rfl)
theorem dX1_pipe_47 : decode cX1_pipe 47 = .ok (.iload_n 1, 1) := dk_27 (dk_at dksX1_pipe_1 23 rfl rfl)
theorem dX1_pipe_48 : decode cX1_pipe 48 = .ok (.iload_n 2, 1) := dk_28 (dk_at dksX1_pipe_2 0 rfl rfl)
theorem dX1_pipe_49 : decode cX1_pipe 49 = .ok (.invokespecial 125, 3) := dk_183 0 125 (dk_at dksX1_pipe_2 1 rfl rfl)
theorem dX1_pipe_52 : decode cX1_pipe 52 = .ok (.invokevirtual 127, 3) := dk_182 0 127 (dk_at dksX1_pipe_2 4 rfl rfl)
theorem dX1_pipe_55 : decode cX1_pipe 55 = .ok (.pop, 1) := dk_87 (dk_at dksX1_pipe_2 7 rfl rfl)
theorem dX1_pipe_56 : decode cX1_pipe 56 = .ok (.aload_n 0, 1) := dk_42 (dk_at dksX1_pipe_2 8 rfl rfl)
theorem dX1_pipe_57 : decode cX1_pipe 57 = .ok (.getfield 10, 3) := dk_180 0 10 (dk_at dksX1_pipe_2 9 rfl rfl)
theorem dX1_pipe_60 : decode cX1_pipe 60 = .ok (.getfield 93, 3) := dk_180 0 93 (dk_at dksX1_pipe_2 12 rfl rfl)
theorem dX1_pipe_63 : decode cX1_pipe 63 = .ok (.invokevirtual 97, 3) := dk_182 0 97 (dk_at dksX1_pipe_2 15 rfl rfl)
theorem dX1_pipe_66 : decode cX1_pipe 66 = .ok (.iconst 1, 1) := dk_4 (dk_at dksX1_pipe_2 18 rfl rfl)
theorem dX1_pipe_67 : decode cX1_pipe 67 = .ok (.isub, 1) := dk_100 (dk_at dksX1_pipe_2 19 rfl rfl)
theorem dX1_pipe_68 : decode cX1_pipe 68 = .ok (.ireturn, 1) := dk_172 (dk_at dksX1_pipe_2 20 rfl rfl)
abbrev cX1_inRange : ByteArray := prog_1_method_5_code
def yX1_inRange : MethodName := ⟨RX1, "inRange", "(III)V"⟩
def dkwX1_inRange_0 : List UInt8 := [42, 27, 28, 29, 184, 0, 53, 154, 0, 7, 4, 167, 0, 4, 3, 6, 27, 182, 0, 57, 177]
abbrev dktX1_inRange_0 : List UInt8 := dkwX1_inRange_0 ++ []
theorem dksX1_inRange_0 : cX1_inRange.data.toList.drop 0 = dktX1_inRange_0 := by decide +kernel
theorem dX1_inRange_0 : decode cX1_inRange 0 = .ok (.aload_n 0, 1) := dk_42 (dk_at dksX1_inRange_0 0 rfl rfl)
theorem dX1_inRange_1 : decode cX1_inRange 1 = .ok (.iload_n 1, 1) := dk_27 (dk_at dksX1_inRange_0 1 rfl rfl)
theorem dX1_inRange_2 : decode cX1_inRange 2 = .ok (.iload_n 2, 1) := dk_28 (dk_at dksX1_inRange_0 2 rfl rfl)
theorem dX1_inRange_3 : decode cX1_inRange 3 = .ok (.iload_n 3, 1) := dk_29 (dk_at dksX1_inRange_0 3 rfl rfl)
theorem dX1_inRange_4 : decode cX1_inRange 4 = .ok (.invokestatic 53, 3) := dk_184 0 53 (dk_at dksX1_inRange_0 4 rfl rfl)
theorem dX1_inRange_7 : decode cX1_inRange 7 = .ok (.ifCond .ne 7, 3) := dk_154 0 7 (dk_at dksX1_inRange_0 7 rfl rfl)
theorem dX1_inRange_10 : decode cX1_inRange 10 = .ok (.iconst 1, 1) := dk_4 (dk_at dksX1_inRange_0 10 rfl rfl)
theorem dX1_inRange_11 : decode cX1_inRange 11 = .ok (.goto 4, 3) := dk_167 0 4 (dk_at dksX1_inRange_0 11 rfl rfl)
theorem dX1_inRange_14 : decode cX1_inRange 14 = .ok (.iconst 0, 1) := dk_3 (dk_at dksX1_inRange_0 14 rfl rfl)
theorem dX1_inRange_15 : decode cX1_inRange 15 = .ok (.iconst 3, 1) := dk_6 (dk_at dksX1_inRange_0 15 rfl rfl)
theorem dX1_inRange_16 : decode cX1_inRange 16 = .ok (.iload_n 1, 1) := dk_27 (dk_at dksX1_inRange_0 16 rfl rfl)
theorem dX1_inRange_17 : decode cX1_inRange 17 = .ok (.invokevirtual 57, 3) := dk_182 0 57 (dk_at dksX1_inRange_0 17 rfl rfl)
theorem dX1_inRange_20 : decode cX1_inRange 20 = .ok (.return_, 1) := dk_177 (dk_at dksX1_inRange_0 20 rfl rfl)
abbrev cX1_isBetween : ByteArray := prog_1_method_2_code
def yX1_isBetween : MethodName := ⟨RX1, "isBetween", "(III)Z"⟩
def dkwX1_isBetween_0 : List UInt8 := [26, 27, 161, 0, 12, 26, 28, 163, 0, 7, 4, 167, 0, 4, 3, 172]
abbrev dktX1_isBetween_0 : List UInt8 := dkwX1_isBetween_0 ++ []
theorem dksX1_isBetween_0 : cX1_isBetween.data.toList.drop 0 = dktX1_isBetween_0 := by decide +kernel
theorem dX1_isBetween_0 : decode cX1_isBetween 0 = .ok (.iload_n 0, 1) := dk_26 (dk_at dksX1_isBetween_0 0 rfl rfl)
theorem dX1_isBetween_1 : decode cX1_isBetween 1 = .ok (.iload_n 1, 1) := dk_27 (dk_at dksX1_isBetween_0 1 rfl rfl)
theorem dX1_isBetween_2 : decode cX1_isBetween 2 = .ok (.if_icmp .lt 12, 3) := dk_161 0 12 (dk_at dksX1_isBetween_0 2 rfl rfl)
theorem dX1_isBetween_5 : decode cX1_isBetween 5 = .ok (.iload_n 0, 1) := dk_26 (dk_at dksX1_isBetween_0 5 rfl rfl)
theorem dX1_isBetween_6 : decode cX1_isBetween 6 = .ok (.iload_n 2, 1) := dk_28 (dk_at dksX1_isBetween_0 6 rfl rfl)
theorem dX1_isBetween_7 : decode cX1_isBetween 7 = .ok (.if_icmp .gt 7, 3) := dk_163 0 7 (dk_at dksX1_isBetween_0 7 rfl rfl)
theorem dX1_isBetween_10 : decode cX1_isBetween 10 = .ok (.iconst 1, 1) := dk_4 (dk_at dksX1_isBetween_0 10 rfl rfl)
theorem dX1_isBetween_11 : decode cX1_isBetween 11 = .ok (.goto 4, 3) := dk_167 0 4 (dk_at dksX1_isBetween_0 11 rfl rfl)
theorem dX1_isBetween_14 : decode cX1_isBetween 14 = .ok (.iconst 0, 1) := dk_3 (dk_at dksX1_isBetween_0 14 rfl rfl)
theorem dX1_isBetween_15 : decode cX1_isBetween 15 = .ok (.ireturn, 1) := dk_172 (dk_at dksX1_isBetween_0 15 rfl rfl)
abbrev cX1_refuse : ByteArray := prog_1_method_3_code
def yX1_refuse : MethodName := ⟨RX1, "refuse", "(ZII)V"⟩
def dkwX1_refuse_0 : List UInt8 := [42, 27, 28, 29, 1, 182, 0, 37, 177]
abbrev dktX1_refuse_0 : List UInt8 := dkwX1_refuse_0 ++ []
theorem dksX1_refuse_0 : cX1_refuse.data.toList.drop 0 = dktX1_refuse_0 := by decide +kernel
theorem dX1_refuse_0 : decode cX1_refuse 0 = .ok (.aload_n 0, 1) := dk_42 (dk_at dksX1_refuse_0 0 rfl rfl)
theorem dX1_refuse_1 : decode cX1_refuse 1 = .ok (.iload_n 1, 1) := dk_27 (dk_at dksX1_refuse_0 1 rfl rfl)
theorem dX1_refuse_2 : decode cX1_refuse 2 = .ok (.iload_n 2, 1) := dk_28 (dk_at dksX1_refuse_0 2 rfl rfl)
theorem dX1_refuse_3 : decode cX1_refuse 3 = .ok (.iload_n 3, 1) := dk_29 (dk_at dksX1_refuse_0 3 rfl rfl)
theorem dX1_refuse_4 : decode cX1_refuse 4 = .ok (.aconst_null, 1) := dk_1 (dk_at dksX1_refuse_0 4 rfl rfl)
theorem dX1_refuse_5 : decode cX1_refuse 5 = .ok (.invokevirtual 37, 3) := dk_182 0 37 (dk_at dksX1_refuse_0 5 rfl rfl)
theorem dX1_refuse_8 : decode cX1_refuse 8 = .ok (.return_, 1) := dk_177 (dk_at dksX1_refuse_0 8 rfl rfl)
abbrev cX1_refuseBy : ByteArray := prog_1_method_4_code
def yX1_refuseBy : MethodName := ⟨RX1, "refuseBy", "(ZIILClayPipes$Reason;)V"⟩
def dkwX1_refuseBy_1 : List UInt8 := [183, 0, 52, 191, 177]
abbrev dktX1_refuseBy_1 : List UInt8 := dkwX1_refuseBy_1 ++ []
def dkwX1_refuseBy_0 : List UInt8 := [27, 153, 0, 26, 42, 187, 0, 41, 89, 28, 29, 25, 4, 183, 0, 43, 181, 0, 46, 187, 0, 50, 89]
abbrev dktX1_refuseBy_0 : List UInt8 := dkwX1_refuseBy_0 ++ dktX1_refuseBy_1
theorem dksX1_refuseBy_0 : cX1_refuseBy.data.toList.drop 0 = dktX1_refuseBy_0 := by decide +kernel
theorem dksX1_refuseBy_1 : cX1_refuseBy.data.toList.drop 23 = dktX1_refuseBy_1 := dk_seg dksX1_refuseBy_0 23 rfl rfl
theorem dX1_refuseBy_0 : decode cX1_refuseBy 0 = .ok (.iload_n 1, 1) := dk_27 (dk_at dksX1_refuseBy_0 0 rfl rfl)
theorem dX1_refuseBy_1 : decode cX1_refuseBy 1 = .ok (.ifCond .eq 26, 3) := dk_153 0 26 (dk_at dksX1_refuseBy_0 1 rfl rfl)
theorem dX1_refuseBy_4 : decode cX1_refuseBy 4 = .ok (.aload_n 0, 1) := dk_42 (dk_at dksX1_refuseBy_0 4 rfl rfl)
theorem dX1_refuseBy_5 : decode cX1_refuseBy 5 = .ok (.new 41, 3) := dk_187 0 41 (dk_at dksX1_refuseBy_0 5 rfl rfl)
theorem dX1_refuseBy_8 : decode cX1_refuseBy 8 = .ok (.dup, 1) := dk_89 (dk_at dksX1_refuseBy_0 8 rfl rfl)
theorem dX1_refuseBy_9 : decode cX1_refuseBy 9 = .ok (.iload_n 2, 1) := dk_28 (dk_at dksX1_refuseBy_0 9 rfl rfl)
theorem dX1_refuseBy_10 : decode cX1_refuseBy 10 = .ok (.iload_n 3, 1) := dk_29 (dk_at dksX1_refuseBy_0 10 rfl rfl)
theorem dX1_refuseBy_11 : decode cX1_refuseBy 11 = .ok (.aload 4, 2) := dk_25 4 (dk_at dksX1_refuseBy_0 11 rfl rfl)
theorem dX1_refuseBy_13 : decode cX1_refuseBy 13 = .ok (.invokespecial 43, 3) := dk_183 0 43 (dk_at dksX1_refuseBy_0 13 rfl rfl)
theorem dX1_refuseBy_16 : decode cX1_refuseBy 16 = .ok (.putfield 46, 3) := dk_181 0 46 (dk_at dksX1_refuseBy_0 16 rfl rfl)
theorem dX1_refuseBy_19 : decode cX1_refuseBy 19 = .ok (.new 50, 3) := dk_187 0 50 (dk_at dksX1_refuseBy_0 19 rfl rfl)
theorem dX1_refuseBy_22 : decode cX1_refuseBy 22 = .ok (.dup, 1) := dk_89 (dk_at dksX1_refuseBy_0 22 rfl rfl)
theorem dX1_refuseBy_23 : decode cX1_refuseBy 23 = .ok (.invokespecial 52, 3) := dk_183 0 52 (dk_at dksX1_refuseBy_1 0 rfl rfl)
theorem dX1_refuseBy_26 : decode cX1_refuseBy 26 = .ok (.athrow, 1) := dk_191 (dk_at dksX1_refuseBy_1 3 rfl rfl)
theorem dX1_refuseBy_27 : decode cX1_refuseBy 27 = .ok (.return_, 1) := dk_177 (dk_at dksX1_refuseBy_1 4 rfl rfl)
abbrev cX1_hasPlace : ByteArray := prog_1_method_6_code
def yX1_hasPlace : MethodName := ⟨RX1, "hasPlace", "(II)V"⟩
def dkwX1_hasPlace_0 : List UInt8 := [42, 27, 28, 160, 0, 7, 4, 167, 0, 4, 3, 7, 28, 182, 0, 57, 177]
abbrev dktX1_hasPlace_0 : List UInt8 := dkwX1_hasPlace_0 ++ []
theorem dksX1_hasPlace_0 : cX1_hasPlace.data.toList.drop 0 = dktX1_hasPlace_0 := by decide +kernel
theorem dX1_hasPlace_0 : decode cX1_hasPlace 0 = .ok (.aload_n 0, 1) := dk_42 (dk_at dksX1_hasPlace_0 0 rfl rfl)
theorem dX1_hasPlace_1 : decode cX1_hasPlace 1 = .ok (.iload_n 1, 1) := dk_27 (dk_at dksX1_hasPlace_0 1 rfl rfl)
theorem dX1_hasPlace_2 : decode cX1_hasPlace 2 = .ok (.iload_n 2, 1) := dk_28 (dk_at dksX1_hasPlace_0 2 rfl rfl)
theorem dX1_hasPlace_3 : decode cX1_hasPlace 3 = .ok (.if_icmp .ne 7, 3) := dk_160 0 7 (dk_at dksX1_hasPlace_0 3 rfl rfl)
theorem dX1_hasPlace_6 : decode cX1_hasPlace 6 = .ok (.iconst 1, 1) := dk_4 (dk_at dksX1_hasPlace_0 6 rfl rfl)
theorem dX1_hasPlace_7 : decode cX1_hasPlace 7 = .ok (.goto 4, 3) := dk_167 0 4 (dk_at dksX1_hasPlace_0 7 rfl rfl)
theorem dX1_hasPlace_10 : decode cX1_hasPlace 10 = .ok (.iconst 0, 1) := dk_3 (dk_at dksX1_hasPlace_0 10 rfl rfl)
theorem dX1_hasPlace_11 : decode cX1_hasPlace 11 = .ok (.iconst 4, 1) := dk_7 (dk_at dksX1_hasPlace_0 11 rfl rfl)
theorem dX1_hasPlace_12 : decode cX1_hasPlace 12 = .ok (.iload_n 2, 1) := dk_28 (dk_at dksX1_hasPlace_0 12 rfl rfl)
theorem dX1_hasPlace_13 : decode cX1_hasPlace 13 = .ok (.invokevirtual 57, 3) := dk_182 0 57 (dk_at dksX1_hasPlace_0 13 rfl rfl)
theorem dX1_hasPlace_16 : decode cX1_hasPlace 16 = .ok (.return_, 1) := dk_177 (dk_at dksX1_hasPlace_0 16 rfl rfl)
abbrev cX1_change : ByteArray := prog_1_method_11_code
def yX1_change : MethodName := ⟨RX1, "change", "()V"⟩
def dkwX1_change_1 : List UInt8 := [180, 0, 19, 182, 0, 85, 16, 8, 164, 0, 11, 42, 180, 0, 19, 182, 0, 89, 87, 177]
abbrev dktX1_change_1 : List UInt8 := dkwX1_change_1 ++ []
def dkwX1_change_0 : List UInt8 := [42, 180, 0, 73, 153, 0, 4, 177, 42, 180, 0, 19, 42, 180, 0, 10, 182, 0, 77, 182, 0, 81, 42]
abbrev dktX1_change_0 : List UInt8 := dkwX1_change_0 ++ dktX1_change_1
theorem dksX1_change_0 : cX1_change.data.toList.drop 0 = dktX1_change_0 := by decide +kernel
theorem dksX1_change_1 : cX1_change.data.toList.drop 23 = dktX1_change_1 := dk_seg dksX1_change_0 23 rfl rfl
theorem dX1_change_0 : decode cX1_change 0 = .ok (.aload_n 0, 1) := dk_42 (dk_at dksX1_change_0 0 rfl rfl)
theorem dX1_change_1 : decode cX1_change 1 = .ok (.getfield 73, 3) := dk_180 0 73 (dk_at dksX1_change_0 1 rfl rfl)
theorem dX1_change_4 : decode cX1_change 4 = .ok (.ifCond .eq 4, 3) := dk_153 0 4 (dk_at dksX1_change_0 4 rfl rfl)
theorem dX1_change_7 : decode cX1_change 7 = .ok (.return_, 1) := dk_177 (dk_at dksX1_change_0 7 rfl rfl)
theorem dX1_change_8 : decode cX1_change 8 = .ok (.aload_n 0, 1) := dk_42 (dk_at dksX1_change_0 8 rfl rfl)
theorem dX1_change_9 : decode cX1_change 9 = .ok (.getfield 19, 3) := dk_180 0 19 (dk_at dksX1_change_0 9 rfl rfl)
theorem dX1_change_12 : decode cX1_change 12 = .ok (.aload_n 0, 1) := dk_42 (dk_at dksX1_change_0 12 rfl rfl)
theorem dX1_change_13 : decode cX1_change 13 = .ok (.getfield 10, 3) := dk_180 0 10 (dk_at dksX1_change_0 13 rfl rfl)
theorem dX1_change_16 : decode cX1_change 16 = .ok (.invokevirtual 77, 3) := dk_182 0 77 (dk_at dksX1_change_0 16 rfl rfl)
theorem dX1_change_19 : decode cX1_change 19 = .ok (.invokevirtual 81, 3) := dk_182 0 81 (dk_at dksX1_change_0 19 rfl rfl)
theorem dX1_change_22 : decode cX1_change 22 = .ok (.aload_n 0, 1) := dk_42 (dk_at dksX1_change_0 22 rfl rfl)
theorem dX1_change_23 : decode cX1_change 23 = .ok (.getfield 19, 3) := dk_180 0 19 (dk_at dksX1_change_1 0 rfl rfl)
theorem dX1_change_26 : decode cX1_change 26 = .ok (.invokevirtual 85, 3) := dk_182 0 85 (dk_at dksX1_change_1 3 rfl rfl)
theorem dX1_change_29 : decode cX1_change 29 = .ok (.bipush 8, 2) := dk_16 8 (dk_at dksX1_change_1 6 rfl rfl)
theorem dX1_change_31 : decode cX1_change 31 = .ok (.if_icmp .le 11, 3) := dk_164 0 11 (dk_at dksX1_change_1 8 rfl rfl)
theorem dX1_change_34 : decode cX1_change 34 = .ok (.aload_n 0, 1) := dk_42 (dk_at dksX1_change_1 11 rfl rfl)
theorem dX1_change_35 : decode cX1_change 35 = .ok (.getfield 19, 3) := dk_180 0 19 (dk_at dksX1_change_1 12 rfl rfl)
theorem dX1_change_38 : decode cX1_change 38 = .ok (.invokevirtual 89, 3) := dk_182 0 89 (dk_at dksX1_change_1 15 rfl rfl)
theorem dX1_change_41 : decode cX1_change 41 = .ok (.pop, 1) := dk_87 (dk_at dksX1_change_1 18 rfl rfl)
theorem dX1_change_42 : decode cX1_change 42 = .ok (.return_, 1) := dk_177 (dk_at dksX1_change_1 19 rfl rfl)
abbrev cX1_bring : ByteArray := prog_1_method_17_code
def yX1_bring : MethodName := ⟨RX1, "bring", "(I)I"⟩
def dkwX1_bring_2 : List UInt8 := [182, 0, 149, 42, 180, 0, 10, 180, 0, 139, 182, 0, 152, 4, 100, 172]
abbrev dktX1_bring_2 : List UInt8 := dkwX1_bring_2 ++ []
def dkwX1_bring_1 : List UInt8 := [167, 0, 4, 3, 8, 28, 182, 0, 57, 42, 182, 0, 122, 42, 180, 0, 10, 180, 0, 139, 27, 184, 0, 143]
abbrev dktX1_bring_1 : List UInt8 := dkwX1_bring_1 ++ dktX1_bring_2
def dkwX1_bring_0 : List UInt8 := [42, 27, 182, 0, 131, 87, 42, 180, 0, 10, 27, 182, 0, 135, 61, 42, 28, 2, 159, 0, 7, 4]
abbrev dktX1_bring_0 : List UInt8 := dkwX1_bring_0 ++ dktX1_bring_1
theorem dksX1_bring_0 : cX1_bring.data.toList.drop 0 = dktX1_bring_0 := by decide +kernel
theorem dksX1_bring_1 : cX1_bring.data.toList.drop 22 = dktX1_bring_1 := dk_seg dksX1_bring_0 22 rfl rfl
theorem dksX1_bring_2 : cX1_bring.data.toList.drop 46 = dktX1_bring_2 := dk_seg dksX1_bring_1 24 rfl rfl
theorem dX1_bring_0 : decode cX1_bring 0 = .ok (.aload_n 0, 1) := dk_42 (dk_at dksX1_bring_0 0 rfl rfl)
theorem dX1_bring_1 : decode cX1_bring 1 = .ok (.iload_n 1, 1) := dk_27 (dk_at dksX1_bring_0 1 rfl rfl)
theorem dX1_bring_2 : decode cX1_bring 2 = .ok (.invokevirtual 131, 3) := dk_182 0 131 (dk_at dksX1_bring_0 2 rfl rfl)
theorem dX1_bring_5 : decode cX1_bring 5 = .ok (.pop, 1) := dk_87 (dk_at dksX1_bring_0 5 rfl rfl)
theorem dX1_bring_6 : decode cX1_bring 6 = .ok (.aload_n 0, 1) := dk_42 (dk_at dksX1_bring_0 6 rfl rfl)
theorem dX1_bring_7 : decode cX1_bring 7 = .ok (.getfield 10, 3) := dk_180 0 10 (dk_at dksX1_bring_0 7 rfl rfl)
theorem dX1_bring_10 : decode cX1_bring 10 = .ok (.iload_n 1, 1) := dk_27 (dk_at dksX1_bring_0 10 rfl rfl)
theorem dX1_bring_11 : decode cX1_bring 11 = .ok (.invokevirtual 135, 3) := dk_182 0 135 (dk_at dksX1_bring_0 11 rfl rfl)
theorem dX1_bring_14 : decode cX1_bring 14 = .ok (.istore_n 2, 1) := dk_61 (dk_at dksX1_bring_0 14 rfl rfl)
theorem dX1_bring_15 : decode cX1_bring 15 = .ok (.aload_n 0, 1) := dk_42 (dk_at dksX1_bring_0 15 rfl rfl)
theorem dX1_bring_16 : decode cX1_bring 16 = .ok (.iload_n 2, 1) := dk_28 (dk_at dksX1_bring_0 16 rfl rfl)
theorem dX1_bring_17 : decode cX1_bring 17 = .ok (.iconst (-1), 1) := dk_2 (dk_at dksX1_bring_0 17 rfl rfl)
theorem dX1_bring_18 : decode cX1_bring 18 = .ok (.if_icmp .eq 7, 3) := dk_159 0 7 (dk_at dksX1_bring_0 18 rfl rfl)
theorem dX1_bring_21 : decode cX1_bring 21 = .ok (.iconst 1, 1) := dk_4 (dk_at dksX1_bring_0 21 rfl rfl)
theorem dX1_bring_22 : decode cX1_bring 22 = .ok (.goto 4, 3) := dk_167 0 4 (dk_at dksX1_bring_1 0 rfl rfl)
theorem dX1_bring_25 : decode cX1_bring 25 = .ok (.iconst 0, 1) := dk_3 (dk_at dksX1_bring_1 3 rfl rfl)
theorem dX1_bring_26 : decode cX1_bring 26 = .ok (.iconst 5, 1) := dk_8 (dk_at dksX1_bring_1 4 rfl rfl)
theorem dX1_bring_27 : decode cX1_bring 27 = .ok (.iload_n 2, 1) := dk_28 (dk_at dksX1_bring_1 5 rfl rfl)
theorem dX1_bring_28 : decode cX1_bring 28 = .ok (.invokevirtual 57, 3) := dk_182 0 57 (dk_at dksX1_bring_1 6 rfl rfl)
theorem dX1_bring_31 : decode cX1_bring 31 = .ok (.aload_n 0, 1) := dk_42 (dk_at dksX1_bring_1 9 rfl rfl)
theorem dX1_bring_32 : decode cX1_bring 32 = .ok (.invokevirtual 122, 3) := dk_182 0 122 (dk_at dksX1_bring_1 10 rfl rfl)
theorem dX1_bring_35 : decode cX1_bring 35 = .ok (.aload_n 0, 1) := dk_42 (dk_at dksX1_bring_1 13 rfl rfl)
theorem dX1_bring_36 : decode cX1_bring 36 = .ok (.getfield 10, 3) := dk_180 0 10 (dk_at dksX1_bring_1 14 rfl rfl)
theorem dX1_bring_39 : decode cX1_bring 39 = .ok (.getfield 139, 3) := dk_180 0 139 (dk_at dksX1_bring_1 17 rfl rfl)
theorem dX1_bring_42 : decode cX1_bring 42 = .ok (.iload_n 1, 1) := dk_27 (dk_at dksX1_bring_1 20 rfl rfl)
theorem dX1_bring_43 : decode cX1_bring 43 = .ok (.invokestatic 143, 3) := dk_184 0 143 (dk_at dksX1_bring_1 21 rfl rfl)
theorem dX1_bring_46 : decode cX1_bring 46 = .ok (.invokevirtual 149, 3) := dk_182 0 149 (dk_at dksX1_bring_2 0 rfl rfl)
theorem dX1_bring_49 : decode cX1_bring 49 = .ok (.aload_n 0, 1) := dk_42 (dk_at dksX1_bring_2 3 rfl rfl)
theorem dX1_bring_50 : decode cX1_bring 50 = .ok (.getfield 10, 3) := dk_180 0 10 (dk_at dksX1_bring_2 4 rfl rfl)
theorem dX1_bring_53 : decode cX1_bring 53 = .ok (.getfield 139, 3) := dk_180 0 139 (dk_at dksX1_bring_2 7 rfl rfl)
theorem dX1_bring_56 : decode cX1_bring 56 = .ok (.invokevirtual 152, 3) := dk_182 0 152 (dk_at dksX1_bring_2 10 rfl rfl)
theorem dX1_bring_59 : decode cX1_bring 59 = .ok (.iconst 1, 1) := dk_4 (dk_at dksX1_bring_2 13 rfl rfl)
theorem dX1_bring_60 : decode cX1_bring 60 = .ok (.isub, 1) := dk_100 (dk_at dksX1_bring_2 14 rfl rfl)
theorem dX1_bring_61 : decode cX1_bring 61 = .ok (.ireturn, 1) := dk_172 (dk_at dksX1_bring_2 15 rfl rfl)
abbrev cX1_pipeFor : ByteArray := prog_1_method_14_code
def yX1_pipeFor : MethodName := ⟨RX1, "pipeFor", "(I)LClayPipes$Pipe;"⟩
def dkwX1_pipeFor_1 : List UInt8 := [180, 0, 93, 27, 182, 0, 104, 192, 0, 108, 176]
abbrev dktX1_pipeFor_1 : List UInt8 := dkwX1_pipeFor_1 ++ []
def dkwX1_pipeFor_0 : List UInt8 := [42, 42, 27, 182, 0, 100, 154, 0, 7, 4, 167, 0, 4, 3, 4, 27, 182, 0, 57, 42, 180, 0, 10]
abbrev dktX1_pipeFor_0 : List UInt8 := dkwX1_pipeFor_0 ++ dktX1_pipeFor_1
theorem dksX1_pipeFor_0 : cX1_pipeFor.data.toList.drop 0 = dktX1_pipeFor_0 := by decide +kernel
theorem dksX1_pipeFor_1 : cX1_pipeFor.data.toList.drop 23 = dktX1_pipeFor_1 := dk_seg dksX1_pipeFor_0 23 rfl rfl
theorem dX1_pipeFor_0 : decode cX1_pipeFor 0 = .ok (.aload_n 0, 1) := dk_42 (dk_at dksX1_pipeFor_0 0 rfl rfl)
theorem dX1_pipeFor_1 : decode cX1_pipeFor 1 = .ok (.aload_n 0, 1) := dk_42 (dk_at dksX1_pipeFor_0 1 rfl rfl)
theorem dX1_pipeFor_2 : decode cX1_pipeFor 2 = .ok (.iload_n 1, 1) := dk_27 (dk_at dksX1_pipeFor_0 2 rfl rfl)
theorem dX1_pipeFor_3 : decode cX1_pipeFor 3 = .ok (.invokevirtual 100, 3) := dk_182 0 100 (dk_at dksX1_pipeFor_0 3 rfl rfl)
theorem dX1_pipeFor_6 : decode cX1_pipeFor 6 = .ok (.ifCond .ne 7, 3) := dk_154 0 7 (dk_at dksX1_pipeFor_0 6 rfl rfl)
theorem dX1_pipeFor_9 : decode cX1_pipeFor 9 = .ok (.iconst 1, 1) := dk_4 (dk_at dksX1_pipeFor_0 9 rfl rfl)
theorem dX1_pipeFor_10 : decode cX1_pipeFor 10 = .ok (.goto 4, 3) := dk_167 0 4 (dk_at dksX1_pipeFor_0 10 rfl rfl)
theorem dX1_pipeFor_13 : decode cX1_pipeFor 13 = .ok (.iconst 0, 1) := dk_3 (dk_at dksX1_pipeFor_0 13 rfl rfl)
theorem dX1_pipeFor_14 : decode cX1_pipeFor 14 = .ok (.iconst 1, 1) := dk_4 (dk_at dksX1_pipeFor_0 14 rfl rfl)
theorem dX1_pipeFor_15 : decode cX1_pipeFor 15 = .ok (.iload_n 1, 1) := dk_27 (dk_at dksX1_pipeFor_0 15 rfl rfl)
theorem dX1_pipeFor_16 : decode cX1_pipeFor 16 = .ok (.invokevirtual 57, 3) := dk_182 0 57 (dk_at dksX1_pipeFor_0 16 rfl rfl)
theorem dX1_pipeFor_19 : decode cX1_pipeFor 19 = .ok (.aload_n 0, 1) := dk_42 (dk_at dksX1_pipeFor_0 19 rfl rfl)
theorem dX1_pipeFor_20 : decode cX1_pipeFor 20 = .ok (.getfield 10, 3) := dk_180 0 10 (dk_at dksX1_pipeFor_0 20 rfl rfl)
theorem dX1_pipeFor_23 : decode cX1_pipeFor 23 = .ok (.getfield 93, 3) := dk_180 0 93 (dk_at dksX1_pipeFor_1 0 rfl rfl)
theorem dX1_pipeFor_26 : decode cX1_pipeFor 26 = .ok (.iload_n 1, 1) := dk_27 (dk_at dksX1_pipeFor_1 3 rfl rfl)
theorem dX1_pipeFor_27 : decode cX1_pipeFor 27 = .ok (.invokevirtual 104, 3) := dk_182 0 104 (dk_at dksX1_pipeFor_1 4 rfl rfl)
theorem dX1_pipeFor_30 : decode cX1_pipeFor 30 = .ok (.checkcast 108, 3) := dk_192 0 108 (dk_at dksX1_pipeFor_1 7 rfl rfl)
theorem dX1_pipeFor_33 : decode cX1_pipeFor 33 = .ok (.areturn, 1) := dk_176 (dk_at dksX1_pipeFor_1 10 rfl rfl)
abbrev cX1_isPipe : ByteArray := prog_1_method_12_code
def yX1_isPipe : MethodName := ⟨RX1, "isPipe", "(I)Z"⟩
def dkwX1_isPipe_0 : List UInt8 := [27, 3, 42, 180, 0, 10, 180, 0, 93, 182, 0, 97, 4, 100, 184, 0, 53, 172]
abbrev dktX1_isPipe_0 : List UInt8 := dkwX1_isPipe_0 ++ []
theorem dksX1_isPipe_0 : cX1_isPipe.data.toList.drop 0 = dktX1_isPipe_0 := by decide +kernel
theorem dX1_isPipe_0 : decode cX1_isPipe 0 = .ok (.iload_n 1, 1) := dk_27 (dk_at dksX1_isPipe_0 0 rfl rfl)
theorem dX1_isPipe_1 : decode cX1_isPipe 1 = .ok (.iconst 0, 1) := dk_3 (dk_at dksX1_isPipe_0 1 rfl rfl)
theorem dX1_isPipe_2 : decode cX1_isPipe 2 = .ok (.aload_n 0, 1) := dk_42 (dk_at dksX1_isPipe_0 2 rfl rfl)
theorem dX1_isPipe_3 : decode cX1_isPipe 3 = .ok (.getfield 10, 3) := dk_180 0 10 (dk_at dksX1_isPipe_0 3 rfl rfl)
theorem dX1_isPipe_6 : decode cX1_isPipe 6 = .ok (.getfield 93, 3) := dk_180 0 93 (dk_at dksX1_isPipe_0 6 rfl rfl)
theorem dX1_isPipe_9 : decode cX1_isPipe 9 = .ok (.invokevirtual 97, 3) := dk_182 0 97 (dk_at dksX1_isPipe_0 9 rfl rfl)
theorem dX1_isPipe_12 : decode cX1_isPipe 12 = .ok (.iconst 1, 1) := dk_4 (dk_at dksX1_isPipe_0 12 rfl rfl)
theorem dX1_isPipe_13 : decode cX1_isPipe 13 = .ok (.isub, 1) := dk_100 (dk_at dksX1_isPipe_0 13 rfl rfl)
theorem dX1_isPipe_14 : decode cX1_isPipe 14 = .ok (.invokestatic 53, 3) := dk_184 0 53 (dk_at dksX1_isPipe_0 14 rfl rfl)
theorem dX1_isPipe_17 : decode cX1_isPipe 17 = .ok (.ireturn, 1) := dk_172 (dk_at dksX1_isPipe_0 17 rfl rfl)
abbrev cX1_takeBack : ByteArray := prog_1_method_18_code
def yX1_takeBack : MethodName := ⟨RX1, "takeBack", "(I)I"⟩
def dkwX1_takeBack_3 : List UInt8 := [160, 255, 234, 45, 185, 0, 169, 1, 0, 167, 255, 225, 28, 172]
abbrev dktX1_takeBack_3 : List UInt8 := dkwX1_takeBack_3 ++ []
def dkwX1_takeBack_2 : List UInt8 := [78, 45, 185, 0, 157, 1, 0, 153, 0, 28, 45, 185, 0, 163, 1, 0, 192, 0, 144, 182, 0, 166, 27]
abbrev dktX1_takeBack_2 : List UInt8 := dkwX1_takeBack_2 ++ dktX1_takeBack_3
def dkwX1_takeBack_1 : List UInt8 := [167, 0, 4, 3, 16, 6, 27, 182, 0, 57, 42, 182, 0, 122, 42, 180, 0, 10, 180, 0, 139, 182, 0, 153]
abbrev dktX1_takeBack_1 : List UInt8 := dkwX1_takeBack_1 ++ dktX1_takeBack_2
def dkwX1_takeBack_0 : List UInt8 := [42, 27, 182, 0, 131, 87, 42, 180, 0, 10, 27, 182, 0, 135, 61, 42, 28, 2, 160, 0, 7, 4]
abbrev dktX1_takeBack_0 : List UInt8 := dkwX1_takeBack_0 ++ dktX1_takeBack_1
theorem dksX1_takeBack_0 : cX1_takeBack.data.toList.drop 0 = dktX1_takeBack_0 := by decide +kernel
theorem dksX1_takeBack_1 : cX1_takeBack.data.toList.drop 22 = dktX1_takeBack_1 := dk_seg dksX1_takeBack_0 22 rfl rfl
theorem dksX1_takeBack_2 : cX1_takeBack.data.toList.drop 46 = dktX1_takeBack_2 := dk_seg dksX1_takeBack_1 24 rfl rfl
theorem dksX1_takeBack_3 : cX1_takeBack.data.toList.drop 69 = dktX1_takeBack_3 := dk_seg dksX1_takeBack_2 23 rfl rfl
theorem dX1_takeBack_0 : decode cX1_takeBack 0 = .ok (.aload_n 0, 1) := dk_42 (dk_at dksX1_takeBack_0 0 rfl rfl)
theorem dX1_takeBack_1 : decode cX1_takeBack 1 = .ok (.iload_n 1, 1) := dk_27 (dk_at dksX1_takeBack_0 1 rfl rfl)
theorem dX1_takeBack_2 : decode cX1_takeBack 2 = .ok (.invokevirtual 131, 3) := dk_182 0 131 (dk_at dksX1_takeBack_0 2 rfl rfl)
theorem dX1_takeBack_5 : decode cX1_takeBack 5 = .ok (.pop, 1) := dk_87 (dk_at dksX1_takeBack_0 5 rfl rfl)
theorem dX1_takeBack_6 : decode cX1_takeBack 6 = .ok (.aload_n 0, 1) := dk_42 (dk_at dksX1_takeBack_0 6 rfl rfl)
theorem dX1_takeBack_7 : decode cX1_takeBack 7 = .ok (.getfield 10, 3) := dk_180 0 10 (dk_at dksX1_takeBack_0 7 rfl rfl)
theorem dX1_takeBack_10 : decode cX1_takeBack 10 = .ok (.iload_n 1, 1) := dk_27 (dk_at dksX1_takeBack_0 10 rfl rfl)
theorem dX1_takeBack_11 : decode cX1_takeBack 11 = .ok (.invokevirtual 135, 3) := dk_182 0 135 (dk_at dksX1_takeBack_0 11 rfl rfl)
theorem dX1_takeBack_14 : decode cX1_takeBack 14 = .ok (.istore_n 2, 1) := dk_61 (dk_at dksX1_takeBack_0 14 rfl rfl)
theorem dX1_takeBack_15 : decode cX1_takeBack 15 = .ok (.aload_n 0, 1) := dk_42 (dk_at dksX1_takeBack_0 15 rfl rfl)
theorem dX1_takeBack_16 : decode cX1_takeBack 16 = .ok (.iload_n 2, 1) := dk_28 (dk_at dksX1_takeBack_0 16 rfl rfl)
theorem dX1_takeBack_17 : decode cX1_takeBack 17 = .ok (.iconst (-1), 1) := dk_2 (dk_at dksX1_takeBack_0 17 rfl rfl)
theorem dX1_takeBack_18 : decode cX1_takeBack 18 = .ok (.if_icmp .ne 7, 3) := dk_160 0 7 (dk_at dksX1_takeBack_0 18 rfl rfl)
theorem dX1_takeBack_21 : decode cX1_takeBack 21 = .ok (.iconst 1, 1) := dk_4 (dk_at dksX1_takeBack_0 21 rfl rfl)
theorem dX1_takeBack_22 : decode cX1_takeBack 22 = .ok (.goto 4, 3) := dk_167 0 4 (dk_at dksX1_takeBack_1 0 rfl rfl)
theorem dX1_takeBack_25 : decode cX1_takeBack 25 = .ok (.iconst 0, 1) := dk_3 (dk_at dksX1_takeBack_1 3 rfl rfl)
theorem dX1_takeBack_26 : decode cX1_takeBack 26 = .ok (.bipush 6, 2) := dk_16 6 (dk_at dksX1_takeBack_1 4 rfl rfl)
theorem dX1_takeBack_28 : decode cX1_takeBack 28 = .ok (.iload_n 1, 1) := dk_27 (dk_at dksX1_takeBack_1 6 rfl rfl)
theorem dX1_takeBack_29 : decode cX1_takeBack 29 = .ok (.invokevirtual 57, 3) := dk_182 0 57 (dk_at dksX1_takeBack_1 7 rfl rfl)
theorem dX1_takeBack_32 : decode cX1_takeBack 32 = .ok (.aload_n 0, 1) := dk_42 (dk_at dksX1_takeBack_1 10 rfl rfl)
theorem dX1_takeBack_33 : decode cX1_takeBack 33 = .ok (.invokevirtual 122, 3) := dk_182 0 122 (dk_at dksX1_takeBack_1 11 rfl rfl)
theorem dX1_takeBack_36 : decode cX1_takeBack 36 = .ok (.aload_n 0, 1) := dk_42 (dk_at dksX1_takeBack_1 14 rfl rfl)
theorem dX1_takeBack_37 : decode cX1_takeBack 37 = .ok (.getfield 10, 3) := dk_180 0 10 (dk_at dksX1_takeBack_1 15 rfl rfl)
theorem dX1_takeBack_40 : decode cX1_takeBack 40 = .ok (.getfield 139, 3) := dk_180 0 139 (dk_at dksX1_takeBack_1 18 rfl rfl)
theorem dX1_takeBack_43 : decode cX1_takeBack 43 = .ok (.invokevirtual 153, 3) := dk_182 0 153 (dk_at dksX1_takeBack_1 21 rfl rfl)
theorem dX1_takeBack_46 : decode cX1_takeBack 46 = .ok (.astore_n 3, 1) := dk_78 (dk_at dksX1_takeBack_2 0 rfl rfl)
theorem dX1_takeBack_47 : decode cX1_takeBack 47 = .ok (.aload_n 3, 1) := dk_45 (dk_at dksX1_takeBack_2 1 rfl rfl)
theorem dX1_takeBack_48 : decode cX1_takeBack 48 = .ok (.invokeinterface 157 1, 5) := by decide +kernel
theorem dX1_takeBack_53 : decode cX1_takeBack 53 = .ok (.ifCond .eq 28, 3) := dk_153 0 28 (dk_at dksX1_takeBack_2 7 rfl rfl)
theorem dX1_takeBack_56 : decode cX1_takeBack 56 = .ok (.aload_n 3, 1) := dk_45 (dk_at dksX1_takeBack_2 10 rfl rfl)
theorem dX1_takeBack_57 : decode cX1_takeBack 57 = .ok (.invokeinterface 163 1, 5) := by decide +kernel
theorem dX1_takeBack_62 : decode cX1_takeBack 62 = .ok (.checkcast 144, 3) := dk_192 0 144 (dk_at dksX1_takeBack_2 16 rfl rfl)
theorem dX1_takeBack_65 : decode cX1_takeBack 65 = .ok (.invokevirtual 166, 3) := dk_182 0 166 (dk_at dksX1_takeBack_2 19 rfl rfl)
theorem dX1_takeBack_68 : decode cX1_takeBack 68 = .ok (.iload_n 1, 1) := dk_27 (dk_at dksX1_takeBack_2 22 rfl rfl)
theorem dX1_takeBack_69 : decode cX1_takeBack 69 = .ok (.if_icmp .ne (-22), 3) := dk_160 255 234 (dk_at dksX1_takeBack_3 0 rfl rfl)
theorem dX1_takeBack_72 : decode cX1_takeBack 72 = .ok (.aload_n 3, 1) := dk_45 (dk_at dksX1_takeBack_3 3 rfl rfl)
theorem dX1_takeBack_73 : decode cX1_takeBack 73 = .ok (.invokeinterface 169 1, 5) := by decide +kernel
theorem dX1_takeBack_78 : decode cX1_takeBack 78 = .ok (.goto (-31), 3) := dk_167 255 225 (dk_at dksX1_takeBack_3 9 rfl rfl)
theorem dX1_takeBack_81 : decode cX1_takeBack 81 = .ok (.iload_n 2, 1) := dk_28 (dk_at dksX1_takeBack_3 12 rfl rfl)
theorem dX1_takeBack_82 : decode cX1_takeBack 82 = .ok (.ireturn, 1) := dk_172 (dk_at dksX1_takeBack_3 13 rfl rfl)
abbrev cX1_exchange : ByteArray := prog_1_method_20_code
def yX1_exchange : MethodName := ⟨RX1, "exchange", "(II)I"⟩
def dkwX1_exchange_4 : List UInt8 := [172]
abbrev dktX1_exchange_4 : List UInt8 := dkwX1_exchange_4 ++ []
def dkwX1_exchange_3 : List UInt8 := [184, 0, 143, 182, 0, 177, 87, 42, 180, 0, 10, 180, 0, 139, 27, 182, 0, 176, 192, 0, 144, 182, 0, 166]
abbrev dktX1_exchange_3 : List UInt8 := dkwX1_exchange_3 ++ dktX1_exchange_4
def dkwX1_exchange_2 : List UInt8 := [180, 0, 139, 28, 182, 0, 176, 192, 0, 144, 182, 0, 177, 87, 42, 180, 0, 10, 180, 0, 139, 28, 29]
abbrev dktX1_exchange_2 : List UInt8 := dkwX1_exchange_2 ++ dktX1_exchange_3
def dkwX1_exchange_1 : List UInt8 := [182, 0, 176, 192, 0, 144, 182, 0, 166, 62, 42, 180, 0, 10, 180, 0, 139, 27, 42, 180, 0, 10]
abbrev dktX1_exchange_1 : List UInt8 := dkwX1_exchange_1 ++ dktX1_exchange_2
def dkwX1_exchange_0 : List UInt8 := [42, 27, 182, 0, 172, 42, 28, 182, 0, 172, 42, 182, 0, 122, 42, 180, 0, 10, 180, 0, 139, 27]
abbrev dktX1_exchange_0 : List UInt8 := dkwX1_exchange_0 ++ dktX1_exchange_1
theorem dksX1_exchange_0 : cX1_exchange.data.toList.drop 0 = dktX1_exchange_0 := by decide +kernel
theorem dksX1_exchange_1 : cX1_exchange.data.toList.drop 22 = dktX1_exchange_1 := dk_seg dksX1_exchange_0 22 rfl rfl
theorem dksX1_exchange_2 : cX1_exchange.data.toList.drop 44 = dktX1_exchange_2 := dk_seg dksX1_exchange_1 22 rfl rfl
theorem dksX1_exchange_3 : cX1_exchange.data.toList.drop 67 = dktX1_exchange_3 := dk_seg dksX1_exchange_2 23 rfl rfl
theorem dksX1_exchange_4 : cX1_exchange.data.toList.drop 91 = dktX1_exchange_4 := dk_seg dksX1_exchange_3 24 rfl rfl
theorem dX1_exchange_0 : decode cX1_exchange 0 = .ok (.aload_n 0, 1) := dk_42 (dk_at dksX1_exchange_0 0 rfl rfl)
theorem dX1_exchange_1 : decode cX1_exchange 1 = .ok (.iload_n 1, 1) := dk_27 (dk_at dksX1_exchange_0 1 rfl rfl)
theorem dX1_exchange_2 : decode cX1_exchange 2 = .ok (.invokevirtual 172, 3) := dk_182 0 172 (dk_at dksX1_exchange_0 2 rfl rfl)
theorem dX1_exchange_5 : decode cX1_exchange 5 = .ok (.aload_n 0, 1) := dk_42 (dk_at dksX1_exchange_0 5 rfl rfl)
theorem dX1_exchange_6 : decode cX1_exchange 6 = .ok (.iload_n 2, 1) := dk_28 (dk_at dksX1_exchange_0 6 rfl rfl)
theorem dX1_exchange_7 : decode cX1_exchange 7 = .ok (.invokevirtual 172, 3) := dk_182 0 172 (dk_at dksX1_exchange_0 7 rfl rfl)
theorem dX1_exchange_10 : decode cX1_exchange 10 = .ok (.aload_n 0, 1) := dk_42 (dk_at dksX1_exchange_0 10 rfl rfl)
theorem dX1_exchange_11 : decode cX1_exchange 11 = .ok (.invokevirtual 122, 3) := dk_182 0 122 (dk_at dksX1_exchange_0 11 rfl rfl)
theorem dX1_exchange_14 : decode cX1_exchange 14 = .ok (.aload_n 0, 1) := dk_42 (dk_at dksX1_exchange_0 14 rfl rfl)
theorem dX1_exchange_15 : decode cX1_exchange 15 = .ok (.getfield 10, 3) := dk_180 0 10 (dk_at dksX1_exchange_0 15 rfl rfl)
theorem dX1_exchange_18 : decode cX1_exchange 18 = .ok (.getfield 139, 3) := dk_180 0 139 (dk_at dksX1_exchange_0 18 rfl rfl)
theorem dX1_exchange_21 : decode cX1_exchange 21 = .ok (.iload_n 1, 1) := dk_27 (dk_at dksX1_exchange_0 21 rfl rfl)
theorem dX1_exchange_22 : decode cX1_exchange 22 = .ok (.invokevirtual 176, 3) := dk_182 0 176 (dk_at dksX1_exchange_1 0 rfl rfl)
theorem dX1_exchange_25 : decode cX1_exchange 25 = .ok (.checkcast 144, 3) := dk_192 0 144 (dk_at dksX1_exchange_1 3 rfl rfl)
theorem dX1_exchange_28 : decode cX1_exchange 28 = .ok (.invokevirtual 166, 3) := dk_182 0 166 (dk_at dksX1_exchange_1 6 rfl rfl)
theorem dX1_exchange_31 : decode cX1_exchange 31 = .ok (.istore_n 3, 1) := dk_62 (dk_at dksX1_exchange_1 9 rfl rfl)
theorem dX1_exchange_32 : decode cX1_exchange 32 = .ok (.aload_n 0, 1) := dk_42 (dk_at dksX1_exchange_1 10 rfl rfl)
theorem dX1_exchange_33 : decode cX1_exchange 33 = .ok (.getfield 10, 3) := dk_180 0 10 (dk_at dksX1_exchange_1 11 rfl rfl)
theorem dX1_exchange_36 : decode cX1_exchange 36 = .ok (.getfield 139, 3) := dk_180 0 139 (dk_at dksX1_exchange_1 14 rfl rfl)
theorem dX1_exchange_39 : decode cX1_exchange 39 = .ok (.iload_n 1, 1) := dk_27 (dk_at dksX1_exchange_1 17 rfl rfl)
theorem dX1_exchange_40 : decode cX1_exchange 40 = .ok (.aload_n 0, 1) := dk_42 (dk_at dksX1_exchange_1 18 rfl rfl)
theorem dX1_exchange_41 : decode cX1_exchange 41 = .ok (.getfield 10, 3) := dk_180 0 10 (dk_at dksX1_exchange_1 19 rfl rfl)
theorem dX1_exchange_44 : decode cX1_exchange 44 = .ok (.getfield 139, 3) := dk_180 0 139 (dk_at dksX1_exchange_2 0 rfl rfl)
theorem dX1_exchange_47 : decode cX1_exchange 47 = .ok (.iload_n 2, 1) := dk_28 (dk_at dksX1_exchange_2 3 rfl rfl)
theorem dX1_exchange_48 : decode cX1_exchange 48 = .ok (.invokevirtual 176, 3) := dk_182 0 176 (dk_at dksX1_exchange_2 4 rfl rfl)
theorem dX1_exchange_51 : decode cX1_exchange 51 = .ok (.checkcast 144, 3) := dk_192 0 144 (dk_at dksX1_exchange_2 7 rfl rfl)
theorem dX1_exchange_54 : decode cX1_exchange 54 = .ok (.invokevirtual 177, 3) := dk_182 0 177 (dk_at dksX1_exchange_2 10 rfl rfl)
theorem dX1_exchange_57 : decode cX1_exchange 57 = .ok (.pop, 1) := dk_87 (dk_at dksX1_exchange_2 13 rfl rfl)
theorem dX1_exchange_58 : decode cX1_exchange 58 = .ok (.aload_n 0, 1) := dk_42 (dk_at dksX1_exchange_2 14 rfl rfl)
theorem dX1_exchange_59 : decode cX1_exchange 59 = .ok (.getfield 10, 3) := dk_180 0 10 (dk_at dksX1_exchange_2 15 rfl rfl)
theorem dX1_exchange_62 : decode cX1_exchange 62 = .ok (.getfield 139, 3) := dk_180 0 139 (dk_at dksX1_exchange_2 18 rfl rfl)
theorem dX1_exchange_65 : decode cX1_exchange 65 = .ok (.iload_n 2, 1) := dk_28 (dk_at dksX1_exchange_2 21 rfl rfl)
theorem dX1_exchange_66 : decode cX1_exchange 66 = .ok (.iload_n 3, 1) := dk_29 (dk_at dksX1_exchange_2 22 rfl rfl)
theorem dX1_exchange_67 : decode cX1_exchange 67 = .ok (.invokestatic 143, 3) := dk_184 0 143 (dk_at dksX1_exchange_3 0 rfl rfl)
theorem dX1_exchange_70 : decode cX1_exchange 70 = .ok (.invokevirtual 177, 3) := dk_182 0 177 (dk_at dksX1_exchange_3 3 rfl rfl)
theorem dX1_exchange_73 : decode cX1_exchange 73 = .ok (.pop, 1) := dk_87 (dk_at dksX1_exchange_3 6 rfl rfl)
theorem dX1_exchange_74 : decode cX1_exchange 74 = .ok (.aload_n 0, 1) := dk_42 (dk_at dksX1_exchange_3 7 rfl rfl)
theorem dX1_exchange_75 : decode cX1_exchange 75 = .ok (.getfield 10, 3) := dk_180 0 10 (dk_at dksX1_exchange_3 8 rfl rfl)
theorem dX1_exchange_78 : decode cX1_exchange 78 = .ok (.getfield 139, 3) := dk_180 0 139 (dk_at dksX1_exchange_3 11 rfl rfl)
theorem dX1_exchange_81 : decode cX1_exchange 81 = .ok (.iload_n 1, 1) := dk_27 (dk_at dksX1_exchange_3 14 rfl rfl)
theorem dX1_exchange_82 : decode cX1_exchange 82 = .ok (.invokevirtual 176, 3) := dk_182 0 176 (dk_at dksX1_exchange_3 15 rfl rfl)
theorem dX1_exchange_85 : decode cX1_exchange 85 = .ok (.checkcast 144, 3) := dk_192 0 144 (dk_at dksX1_exchange_3 18 rfl rfl)
theorem dX1_exchange_88 : decode cX1_exchange 88 = .ok (.invokevirtual 166, 3) := dk_182 0 166 (dk_at dksX1_exchange_3 21 rfl rfl)
theorem dX1_exchange_91 : decode cX1_exchange 91 = .ok (.ireturn, 1) := dk_172 (dk_at dksX1_exchange_4 0 rfl rfl)
abbrev cX1_placeFor : ByteArray := prog_1_method_19_code
def yX1_placeFor : MethodName := ⟨RX1, "placeFor", "(I)V"⟩
def dkwX1_placeFor_1 : List UInt8 := [167, 0, 4, 3, 16, 17, 27, 182, 0, 57, 177]
abbrev dktX1_placeFor_1 : List UInt8 := dkwX1_placeFor_1 ++ []
def dkwX1_placeFor_0 : List UInt8 := [42, 27, 3, 42, 180, 0, 10, 180, 0, 139, 182, 0, 152, 4, 100, 184, 0, 53, 154, 0, 7, 4]
abbrev dktX1_placeFor_0 : List UInt8 := dkwX1_placeFor_0 ++ dktX1_placeFor_1
theorem dksX1_placeFor_0 : cX1_placeFor.data.toList.drop 0 = dktX1_placeFor_0 := by decide +kernel
theorem dksX1_placeFor_1 : cX1_placeFor.data.toList.drop 22 = dktX1_placeFor_1 := dk_seg dksX1_placeFor_0 22 rfl rfl
theorem dX1_placeFor_0 : decode cX1_placeFor 0 = .ok (.aload_n 0, 1) := dk_42 (dk_at dksX1_placeFor_0 0 rfl rfl)
theorem dX1_placeFor_1 : decode cX1_placeFor 1 = .ok (.iload_n 1, 1) := dk_27 (dk_at dksX1_placeFor_0 1 rfl rfl)
theorem dX1_placeFor_2 : decode cX1_placeFor 2 = .ok (.iconst 0, 1) := dk_3 (dk_at dksX1_placeFor_0 2 rfl rfl)
theorem dX1_placeFor_3 : decode cX1_placeFor 3 = .ok (.aload_n 0, 1) := dk_42 (dk_at dksX1_placeFor_0 3 rfl rfl)
theorem dX1_placeFor_4 : decode cX1_placeFor 4 = .ok (.getfield 10, 3) := dk_180 0 10 (dk_at dksX1_placeFor_0 4 rfl rfl)
theorem dX1_placeFor_7 : decode cX1_placeFor 7 = .ok (.getfield 139, 3) := dk_180 0 139 (dk_at dksX1_placeFor_0 7 rfl rfl)
theorem dX1_placeFor_10 : decode cX1_placeFor 10 = .ok (.invokevirtual 152, 3) := dk_182 0 152 (dk_at dksX1_placeFor_0 10 rfl rfl)
theorem dX1_placeFor_13 : decode cX1_placeFor 13 = .ok (.iconst 1, 1) := dk_4 (dk_at dksX1_placeFor_0 13 rfl rfl)
theorem dX1_placeFor_14 : decode cX1_placeFor 14 = .ok (.isub, 1) := dk_100 (dk_at dksX1_placeFor_0 14 rfl rfl)
theorem dX1_placeFor_15 : decode cX1_placeFor 15 = .ok (.invokestatic 53, 3) := dk_184 0 53 (dk_at dksX1_placeFor_0 15 rfl rfl)
theorem dX1_placeFor_18 : decode cX1_placeFor 18 = .ok (.ifCond .ne 7, 3) := dk_154 0 7 (dk_at dksX1_placeFor_0 18 rfl rfl)
theorem dX1_placeFor_21 : decode cX1_placeFor 21 = .ok (.iconst 1, 1) := dk_4 (dk_at dksX1_placeFor_0 21 rfl rfl)
theorem dX1_placeFor_22 : decode cX1_placeFor 22 = .ok (.goto 4, 3) := dk_167 0 4 (dk_at dksX1_placeFor_1 0 rfl rfl)
theorem dX1_placeFor_25 : decode cX1_placeFor 25 = .ok (.iconst 0, 1) := dk_3 (dk_at dksX1_placeFor_1 3 rfl rfl)
theorem dX1_placeFor_26 : decode cX1_placeFor 26 = .ok (.bipush 17, 2) := dk_16 17 (dk_at dksX1_placeFor_1 4 rfl rfl)
theorem dX1_placeFor_28 : decode cX1_placeFor 28 = .ok (.iload_n 1, 1) := dk_27 (dk_at dksX1_placeFor_1 6 rfl rfl)
theorem dX1_placeFor_29 : decode cX1_placeFor 29 = .ok (.invokevirtual 57, 3) := dk_182 0 57 (dk_at dksX1_placeFor_1 7 rfl rfl)
theorem dX1_placeFor_32 : decode cX1_placeFor 32 = .ok (.return_, 1) := dk_177 (dk_at dksX1_placeFor_1 10 rfl rfl)
abbrev cX1_sort : ByteArray := prog_1_method_21_code
def yX1_sort : MethodName := ⟨RX1, "sort", "()I"⟩
def dkwX1_sort_8 : List UInt8 := [192, 0, 144, 182, 0, 166, 172]
abbrev dktX1_sort_8 : List UInt8 := dkwX1_sort_8 ++ []
def dkwX1_sort_7 : List UInt8 := [180, 0, 10, 180, 0, 139, 45, 182, 0, 149, 167, 255, 226, 42, 180, 0, 10, 180, 0, 139, 182, 0, 192]
abbrev dktX1_sort_7 : List UInt8 := dkwX1_sort_7 ++ dktX1_sort_8
def dkwX1_sort_6 : List UInt8 := [182, 0, 153, 77, 44, 185, 0, 157, 1, 0, 153, 0, 27, 44, 185, 0, 163, 1, 0, 192, 0, 144, 78, 42]
abbrev dktX1_sort_6 : List UInt8 := dkwX1_sort_6 ++ dktX1_sort_7
def dkwX1_sort_5 : List UInt8 := [29, 163, 0, 9, 132, 4, 1, 167, 255, 212, 43, 21, 4, 28, 184, 0, 143, 182, 0, 189, 167, 255, 148, 43]
abbrev dktX1_sort_5 : List UInt8 := dkwX1_sort_5 ++ dktX1_sort_6
def dkwX1_sort_4 : List UInt8 := [180, 0, 93, 43, 21, 4, 182, 0, 176, 192, 0, 144, 182, 0, 166, 182, 0, 104, 192, 0, 108, 182, 0, 186]
abbrev dktX1_sort_4 : List UInt8 := dkwX1_sort_4 ++ dktX1_sort_5
def dkwX1_sort_3 : List UInt8 := [192, 0, 108, 182, 0, 186, 62, 3, 54, 4, 21, 4, 43, 182, 0, 152, 162, 0, 41, 42, 180, 0, 10]
abbrev dktX1_sort_3 : List UInt8 := dkwX1_sort_3 ++ dktX1_sort_4
def dkwX1_sort_2 : List UInt8 := [180, 0, 139, 182, 0, 185, 192, 0, 144, 182, 0, 166, 61, 42, 180, 0, 10, 180, 0, 93, 28, 182, 0, 104]
abbrev dktX1_sort_2 : List UInt8 := dkwX1_sort_2 ++ dktX1_sort_3
def dkwX1_sort_1 : List UInt8 := [89, 183, 0, 184, 76, 42, 180, 0, 10, 180, 0, 139, 182, 0, 181, 154, 0, 101, 42, 180, 0, 10]
abbrev dktX1_sort_1 : List UInt8 := dkwX1_sort_1 ++ dktX1_sort_2
def dkwX1_sort_0 : List UInt8 := [42, 42, 180, 0, 10, 180, 0, 139, 182, 0, 181, 16, 7, 3, 182, 0, 57, 42, 182, 0, 122, 187, 0, 150]
abbrev dktX1_sort_0 : List UInt8 := dkwX1_sort_0 ++ dktX1_sort_1
theorem dksX1_sort_0 : cX1_sort.data.toList.drop 0 = dktX1_sort_0 := by decide +kernel
theorem dksX1_sort_1 : cX1_sort.data.toList.drop 24 = dktX1_sort_1 := dk_seg dksX1_sort_0 24 rfl rfl
theorem dksX1_sort_2 : cX1_sort.data.toList.drop 46 = dktX1_sort_2 := dk_seg dksX1_sort_1 22 rfl rfl
theorem dksX1_sort_3 : cX1_sort.data.toList.drop 70 = dktX1_sort_3 := dk_seg dksX1_sort_2 24 rfl rfl
theorem dksX1_sort_4 : cX1_sort.data.toList.drop 93 = dktX1_sort_4 := dk_seg dksX1_sort_3 23 rfl rfl
theorem dksX1_sort_5 : cX1_sort.data.toList.drop 117 = dktX1_sort_5 := dk_seg dksX1_sort_4 24 rfl rfl
theorem dksX1_sort_6 : cX1_sort.data.toList.drop 141 = dktX1_sort_6 := dk_seg dksX1_sort_5 24 rfl rfl
theorem dksX1_sort_7 : cX1_sort.data.toList.drop 165 = dktX1_sort_7 := dk_seg dksX1_sort_6 24 rfl rfl
theorem dksX1_sort_8 : cX1_sort.data.toList.drop 188 = dktX1_sort_8 := dk_seg dksX1_sort_7 23 rfl rfl
theorem dX1_sort_0 : decode cX1_sort 0 = .ok (.aload_n 0, 1) := dk_42 (dk_at dksX1_sort_0 0 rfl rfl)
theorem dX1_sort_1 : decode cX1_sort 1 = .ok (.aload_n 0, 1) := dk_42 (dk_at dksX1_sort_0 1 rfl rfl)
theorem dX1_sort_2 : decode cX1_sort 2 = .ok (.getfield 10, 3) := dk_180 0 10 (dk_at dksX1_sort_0 2 rfl rfl)
theorem dX1_sort_5 : decode cX1_sort 5 = .ok (.getfield 139, 3) := dk_180 0 139 (dk_at dksX1_sort_0 5 rfl rfl)
theorem dX1_sort_8 : decode cX1_sort 8 = .ok (.invokevirtual 181, 3) := dk_182 0 181 (dk_at dksX1_sort_0 8 rfl rfl)
theorem dX1_sort_11 : decode cX1_sort 11 = .ok (.bipush 7, 2) := dk_16 7 (dk_at dksX1_sort_0 11 rfl rfl)
theorem dX1_sort_13 : decode cX1_sort 13 = .ok (.iconst 0, 1) := dk_3 (dk_at dksX1_sort_0 13 rfl rfl)
theorem dX1_sort_14 : decode cX1_sort 14 = .ok (.invokevirtual 57, 3) := dk_182 0 57 (dk_at dksX1_sort_0 14 rfl rfl)
theorem dX1_sort_17 : decode cX1_sort 17 = .ok (.aload_n 0, 1) := dk_42 (dk_at dksX1_sort_0 17 rfl rfl)
theorem dX1_sort_18 : decode cX1_sort 18 = .ok (.invokevirtual 122, 3) := dk_182 0 122 (dk_at dksX1_sort_0 18 rfl rfl)
theorem dX1_sort_21 : decode cX1_sort 21 = .ok (.new 150, 3) := dk_187 0 150 (dk_at dksX1_sort_0 21 rfl rfl)
theorem dX1_sort_24 : decode cX1_sort 24 = .ok (.dup, 1) := dk_89 (dk_at dksX1_sort_1 0 rfl rfl)
theorem dX1_sort_25 : decode cX1_sort 25 = .ok (.invokespecial 184, 3) := dk_183 0 184 (dk_at dksX1_sort_1 1 rfl rfl)
theorem dX1_sort_28 : decode cX1_sort 28 = .ok (.astore_n 1, 1) := dk_76 (dk_at dksX1_sort_1 4 rfl rfl)
theorem dX1_sort_29 : decode cX1_sort 29 = .ok (.aload_n 0, 1) := dk_42 (dk_at dksX1_sort_1 5 rfl rfl)
theorem dX1_sort_30 : decode cX1_sort 30 = .ok (.getfield 10, 3) := dk_180 0 10 (dk_at dksX1_sort_1 6 rfl rfl)
theorem dX1_sort_33 : decode cX1_sort 33 = .ok (.getfield 139, 3) := dk_180 0 139 (dk_at dksX1_sort_1 9 rfl rfl)
theorem dX1_sort_36 : decode cX1_sort 36 = .ok (.invokevirtual 181, 3) := dk_182 0 181 (dk_at dksX1_sort_1 12 rfl rfl)
theorem dX1_sort_39 : decode cX1_sort 39 = .ok (.ifCond .ne 101, 3) := dk_154 0 101 (dk_at dksX1_sort_1 15 rfl rfl)
theorem dX1_sort_42 : decode cX1_sort 42 = .ok (.aload_n 0, 1) := dk_42 (dk_at dksX1_sort_1 18 rfl rfl)
theorem dX1_sort_43 : decode cX1_sort 43 = .ok (.getfield 10, 3) := dk_180 0 10 (dk_at dksX1_sort_1 19 rfl rfl)
theorem dX1_sort_46 : decode cX1_sort 46 = .ok (.getfield 139, 3) := dk_180 0 139 (dk_at dksX1_sort_2 0 rfl rfl)
theorem dX1_sort_49 : decode cX1_sort 49 = .ok (.invokevirtual 185, 3) := dk_182 0 185 (dk_at dksX1_sort_2 3 rfl rfl)
theorem dX1_sort_52 : decode cX1_sort 52 = .ok (.checkcast 144, 3) := dk_192 0 144 (dk_at dksX1_sort_2 6 rfl rfl)
theorem dX1_sort_55 : decode cX1_sort 55 = .ok (.invokevirtual 166, 3) := dk_182 0 166 (dk_at dksX1_sort_2 9 rfl rfl)
theorem dX1_sort_58 : decode cX1_sort 58 = .ok (.istore_n 2, 1) := dk_61 (dk_at dksX1_sort_2 12 rfl rfl)
theorem dX1_sort_59 : decode cX1_sort 59 = .ok (.aload_n 0, 1) := dk_42 (dk_at dksX1_sort_2 13 rfl rfl)
theorem dX1_sort_60 : decode cX1_sort 60 = .ok (.getfield 10, 3) := dk_180 0 10 (dk_at dksX1_sort_2 14 rfl rfl)
theorem dX1_sort_63 : decode cX1_sort 63 = .ok (.getfield 93, 3) := dk_180 0 93 (dk_at dksX1_sort_2 17 rfl rfl)
theorem dX1_sort_66 : decode cX1_sort 66 = .ok (.iload_n 2, 1) := dk_28 (dk_at dksX1_sort_2 20 rfl rfl)
theorem dX1_sort_67 : decode cX1_sort 67 = .ok (.invokevirtual 104, 3) := dk_182 0 104 (dk_at dksX1_sort_2 21 rfl rfl)
theorem dX1_sort_70 : decode cX1_sort 70 = .ok (.checkcast 108, 3) := dk_192 0 108 (dk_at dksX1_sort_3 0 rfl rfl)
theorem dX1_sort_73 : decode cX1_sort 73 = .ok (.invokevirtual 186, 3) := dk_182 0 186 (dk_at dksX1_sort_3 3 rfl rfl)
theorem dX1_sort_76 : decode cX1_sort 76 = .ok (.istore_n 3, 1) := dk_62 (dk_at dksX1_sort_3 6 rfl rfl)
theorem dX1_sort_77 : decode cX1_sort 77 = .ok (.iconst 0, 1) := dk_3 (dk_at dksX1_sort_3 7 rfl rfl)
theorem dX1_sort_78 : decode cX1_sort 78 = .ok (.istore 4, 2) := dk_54 4 (dk_at dksX1_sort_3 8 rfl rfl)
theorem dX1_sort_80 : decode cX1_sort 80 = .ok (.iload 4, 2) := dk_21 4 (dk_at dksX1_sort_3 10 rfl rfl)
theorem dX1_sort_82 : decode cX1_sort 82 = .ok (.aload_n 1, 1) := dk_43 (dk_at dksX1_sort_3 12 rfl rfl)
theorem dX1_sort_83 : decode cX1_sort 83 = .ok (.invokevirtual 152, 3) := dk_182 0 152 (dk_at dksX1_sort_3 13 rfl rfl)
theorem dX1_sort_86 : decode cX1_sort 86 = .ok (.if_icmp .ge 41, 3) := dk_162 0 41 (dk_at dksX1_sort_3 16 rfl rfl)
theorem dX1_sort_89 : decode cX1_sort 89 = .ok (.aload_n 0, 1) := dk_42 (dk_at dksX1_sort_3 19 rfl rfl)
theorem dX1_sort_90 : decode cX1_sort 90 = .ok (.getfield 10, 3) := dk_180 0 10 (dk_at dksX1_sort_3 20 rfl rfl)
theorem dX1_sort_93 : decode cX1_sort 93 = .ok (.getfield 93, 3) := dk_180 0 93 (dk_at dksX1_sort_4 0 rfl rfl)
theorem dX1_sort_96 : decode cX1_sort 96 = .ok (.aload_n 1, 1) := dk_43 (dk_at dksX1_sort_4 3 rfl rfl)
theorem dX1_sort_97 : decode cX1_sort 97 = .ok (.iload 4, 2) := dk_21 4 (dk_at dksX1_sort_4 4 rfl rfl)
theorem dX1_sort_99 : decode cX1_sort 99 = .ok (.invokevirtual 176, 3) := dk_182 0 176 (dk_at dksX1_sort_4 6 rfl rfl)
theorem dX1_sort_102 : decode cX1_sort 102 = .ok (.checkcast 144, 3) := dk_192 0 144 (dk_at dksX1_sort_4 9 rfl rfl)
theorem dX1_sort_105 : decode cX1_sort 105 = .ok (.invokevirtual 166, 3) := dk_182 0 166 (dk_at dksX1_sort_4 12 rfl rfl)
theorem dX1_sort_108 : decode cX1_sort 108 = .ok (.invokevirtual 104, 3) := dk_182 0 104 (dk_at dksX1_sort_4 15 rfl rfl)
theorem dX1_sort_111 : decode cX1_sort 111 = .ok (.checkcast 108, 3) := dk_192 0 108 (dk_at dksX1_sort_4 18 rfl rfl)
theorem dX1_sort_114 : decode cX1_sort 114 = .ok (.invokevirtual 186, 3) := dk_182 0 186 (dk_at dksX1_sort_4 21 rfl rfl)
theorem dX1_sort_117 : decode cX1_sort 117 = .ok (.iload_n 3, 1) := dk_29 (dk_at dksX1_sort_5 0 rfl rfl)
theorem dX1_sort_118 : decode cX1_sort 118 = .ok (.if_icmp .gt 9, 3) := dk_163 0 9 (dk_at dksX1_sort_5 1 rfl rfl)
theorem dX1_sort_121 : decode cX1_sort 121 = .ok (.iinc 4 1, 3) := dk_132 4 1 (dk_at dksX1_sort_5 4 rfl rfl)
theorem dX1_sort_124 : decode cX1_sort 124 = .ok (.goto (-44), 3) := dk_167 255 212 (dk_at dksX1_sort_5 7 rfl rfl)
theorem dX1_sort_127 : decode cX1_sort 127 = .ok (.aload_n 1, 1) := dk_43 (dk_at dksX1_sort_5 10 rfl rfl)
theorem dX1_sort_128 : decode cX1_sort 128 = .ok (.iload 4, 2) := dk_21 4 (dk_at dksX1_sort_5 11 rfl rfl)
theorem dX1_sort_130 : decode cX1_sort 130 = .ok (.iload_n 2, 1) := dk_28 (dk_at dksX1_sort_5 13 rfl rfl)
theorem dX1_sort_131 : decode cX1_sort 131 = .ok (.invokestatic 143, 3) := dk_184 0 143 (dk_at dksX1_sort_5 14 rfl rfl)
theorem dX1_sort_134 : decode cX1_sort 134 = .ok (.invokevirtual 189, 3) := dk_182 0 189 (dk_at dksX1_sort_5 17 rfl rfl)
theorem dX1_sort_137 : decode cX1_sort 137 = .ok (.goto (-108), 3) := dk_167 255 148 (dk_at dksX1_sort_5 20 rfl rfl)
theorem dX1_sort_140 : decode cX1_sort 140 = .ok (.aload_n 1, 1) := dk_43 (dk_at dksX1_sort_5 23 rfl rfl)
theorem dX1_sort_141 : decode cX1_sort 141 = .ok (.invokevirtual 153, 3) := dk_182 0 153 (dk_at dksX1_sort_6 0 rfl rfl)
theorem dX1_sort_144 : decode cX1_sort 144 = .ok (.astore_n 2, 1) := dk_77 (dk_at dksX1_sort_6 3 rfl rfl)
theorem dX1_sort_145 : decode cX1_sort 145 = .ok (.aload_n 2, 1) := dk_44 (dk_at dksX1_sort_6 4 rfl rfl)
theorem dX1_sort_146 : decode cX1_sort 146 = .ok (.invokeinterface 157 1, 5) := by decide +kernel
theorem dX1_sort_151 : decode cX1_sort 151 = .ok (.ifCond .eq 27, 3) := dk_153 0 27 (dk_at dksX1_sort_6 10 rfl rfl)
theorem dX1_sort_154 : decode cX1_sort 154 = .ok (.aload_n 2, 1) := dk_44 (dk_at dksX1_sort_6 13 rfl rfl)
theorem dX1_sort_155 : decode cX1_sort 155 = .ok (.invokeinterface 163 1, 5) := by decide +kernel
theorem dX1_sort_160 : decode cX1_sort 160 = .ok (.checkcast 144, 3) := dk_192 0 144 (dk_at dksX1_sort_6 19 rfl rfl)
theorem dX1_sort_163 : decode cX1_sort 163 = .ok (.astore_n 3, 1) := dk_78 (dk_at dksX1_sort_6 22 rfl rfl)
theorem dX1_sort_164 : decode cX1_sort 164 = .ok (.aload_n 0, 1) := dk_42 (dk_at dksX1_sort_6 23 rfl rfl)
theorem dX1_sort_165 : decode cX1_sort 165 = .ok (.getfield 10, 3) := dk_180 0 10 (dk_at dksX1_sort_7 0 rfl rfl)
theorem dX1_sort_168 : decode cX1_sort 168 = .ok (.getfield 139, 3) := dk_180 0 139 (dk_at dksX1_sort_7 3 rfl rfl)
theorem dX1_sort_171 : decode cX1_sort 171 = .ok (.aload_n 3, 1) := dk_45 (dk_at dksX1_sort_7 6 rfl rfl)
theorem dX1_sort_172 : decode cX1_sort 172 = .ok (.invokevirtual 149, 3) := dk_182 0 149 (dk_at dksX1_sort_7 7 rfl rfl)
theorem dX1_sort_175 : decode cX1_sort 175 = .ok (.goto (-30), 3) := dk_167 255 226 (dk_at dksX1_sort_7 10 rfl rfl)
theorem dX1_sort_178 : decode cX1_sort 178 = .ok (.aload_n 0, 1) := dk_42 (dk_at dksX1_sort_7 13 rfl rfl)
theorem dX1_sort_179 : decode cX1_sort 179 = .ok (.getfield 10, 3) := dk_180 0 10 (dk_at dksX1_sort_7 14 rfl rfl)
theorem dX1_sort_182 : decode cX1_sort 182 = .ok (.getfield 139, 3) := dk_180 0 139 (dk_at dksX1_sort_7 17 rfl rfl)
theorem dX1_sort_185 : decode cX1_sort 185 = .ok (.invokevirtual 192, 3) := dk_182 0 192 (dk_at dksX1_sort_7 20 rfl rfl)
theorem dX1_sort_188 : decode cX1_sort 188 = .ok (.checkcast 144, 3) := dk_192 0 144 (dk_at dksX1_sort_8 0 rfl rfl)
theorem dX1_sort_191 : decode cX1_sort 191 = .ok (.invokevirtual 166, 3) := dk_182 0 166 (dk_at dksX1_sort_8 3 rfl rfl)
theorem dX1_sort_194 : decode cX1_sort 194 = .ok (.ireturn, 1) := dk_172 (dk_at dksX1_sort_8 6 rfl rfl)
abbrev cX1_lump : ByteArray := prog_1_method_22_code
def yX1_lump : MethodName := ⟨RX1, "lump", "(I)I"⟩
def dkwX1_lump_2 : List UInt8 := [180, 0, 10, 89, 180, 0, 202, 4, 96, 181, 0, 202, 42, 180, 0, 10, 180, 0, 195, 182, 0, 85, 172]
abbrev dktX1_lump_2 : List UInt8 := dkwX1_lump_2 ++ []
def dkwX1_lump_1 : List UInt8 := [42, 182, 0, 122, 42, 180, 0, 10, 180, 0, 195, 187, 0, 198, 89, 27, 183, 0, 200, 182, 0, 81, 42]
abbrev dktX1_lump_1 : List UInt8 := dkwX1_lump_1 ++ dktX1_lump_2
def dkwX1_lump_0 : List UInt8 := [42, 27, 4, 16, 20, 182, 0, 114, 42, 42, 180, 0, 10, 180, 0, 195, 182, 0, 85, 16, 20, 182, 0, 118]
abbrev dktX1_lump_0 : List UInt8 := dkwX1_lump_0 ++ dktX1_lump_1
theorem dksX1_lump_0 : cX1_lump.data.toList.drop 0 = dktX1_lump_0 := by decide +kernel
theorem dksX1_lump_1 : cX1_lump.data.toList.drop 24 = dktX1_lump_1 := dk_seg dksX1_lump_0 24 rfl rfl
theorem dksX1_lump_2 : cX1_lump.data.toList.drop 47 = dktX1_lump_2 := dk_seg dksX1_lump_1 23 rfl rfl
theorem dX1_lump_0 : decode cX1_lump 0 = .ok (.aload_n 0, 1) := dk_42 (dk_at dksX1_lump_0 0 rfl rfl)
theorem dX1_lump_1 : decode cX1_lump 1 = .ok (.iload_n 1, 1) := dk_27 (dk_at dksX1_lump_0 1 rfl rfl)
theorem dX1_lump_2 : decode cX1_lump 2 = .ok (.iconst 1, 1) := dk_4 (dk_at dksX1_lump_0 2 rfl rfl)
theorem dX1_lump_3 : decode cX1_lump 3 = .ok (.bipush 20, 2) := dk_16 20 (dk_at dksX1_lump_0 3 rfl rfl)
theorem dX1_lump_5 : decode cX1_lump 5 = .ok (.invokevirtual 114, 3) := dk_182 0 114 (dk_at dksX1_lump_0 5 rfl rfl)
theorem dX1_lump_8 : decode cX1_lump 8 = .ok (.aload_n 0, 1) := dk_42 (dk_at dksX1_lump_0 8 rfl rfl)
theorem dX1_lump_9 : decode cX1_lump 9 = .ok (.aload_n 0, 1) := dk_42 (dk_at dksX1_lump_0 9 rfl rfl)
theorem dX1_lump_10 : decode cX1_lump 10 = .ok (.getfield 10, 3) := dk_180 0 10 (dk_at dksX1_lump_0 10 rfl rfl)
theorem dX1_lump_13 : decode cX1_lump 13 = .ok (.getfield 195, 3) := dk_180 0 195 (dk_at dksX1_lump_0 13 rfl rfl)
theorem dX1_lump_16 : decode cX1_lump 16 = .ok (.invokevirtual 85, 3) := dk_182 0 85 (dk_at dksX1_lump_0 16 rfl rfl)
theorem dX1_lump_19 : decode cX1_lump 19 = .ok (.bipush 20, 2) := dk_16 20 (dk_at dksX1_lump_0 19 rfl rfl)
theorem dX1_lump_21 : decode cX1_lump 21 = .ok (.invokevirtual 118, 3) := dk_182 0 118 (dk_at dksX1_lump_0 21 rfl rfl)
theorem dX1_lump_24 : decode cX1_lump 24 = .ok (.aload_n 0, 1) := dk_42 (dk_at dksX1_lump_1 0 rfl rfl)
theorem dX1_lump_25 : decode cX1_lump 25 = .ok (.invokevirtual 122, 3) := dk_182 0 122 (dk_at dksX1_lump_1 1 rfl rfl)
theorem dX1_lump_28 : decode cX1_lump 28 = .ok (.aload_n 0, 1) := dk_42 (dk_at dksX1_lump_1 4 rfl rfl)
theorem dX1_lump_29 : decode cX1_lump 29 = .ok (.getfield 10, 3) := dk_180 0 10 (dk_at dksX1_lump_1 5 rfl rfl)
theorem dX1_lump_32 : decode cX1_lump 32 = .ok (.getfield 195, 3) := dk_180 0 195 (dk_at dksX1_lump_1 8 rfl rfl)
theorem dX1_lump_35 : decode cX1_lump 35 = .ok (.new 198, 3) := dk_187 0 198 (dk_at dksX1_lump_1 11 rfl rfl)
theorem dX1_lump_38 : decode cX1_lump 38 = .ok (.dup, 1) := dk_89 (dk_at dksX1_lump_1 14 rfl rfl)
theorem dX1_lump_39 : decode cX1_lump 39 = .ok (.iload_n 1, 1) := dk_27 (dk_at dksX1_lump_1 15 rfl rfl)
theorem dX1_lump_40 : decode cX1_lump 40 = .ok (.invokespecial 200, 3) := dk_183 0 200 (dk_at dksX1_lump_1 16 rfl rfl)
theorem dX1_lump_43 : decode cX1_lump 43 = .ok (.invokevirtual 81, 3) := dk_182 0 81 (dk_at dksX1_lump_1 19 rfl rfl)
theorem dX1_lump_46 : decode cX1_lump 46 = .ok (.aload_n 0, 1) := dk_42 (dk_at dksX1_lump_1 22 rfl rfl)
theorem dX1_lump_47 : decode cX1_lump 47 = .ok (.getfield 10, 3) := dk_180 0 10 (dk_at dksX1_lump_2 0 rfl rfl)
theorem dX1_lump_50 : decode cX1_lump 50 = .ok (.dup, 1) := dk_89 (dk_at dksX1_lump_2 3 rfl rfl)
theorem dX1_lump_51 : decode cX1_lump 51 = .ok (.getfield 202, 3) := dk_180 0 202 (dk_at dksX1_lump_2 4 rfl rfl)
theorem dX1_lump_54 : decode cX1_lump 54 = .ok (.iconst 1, 1) := dk_4 (dk_at dksX1_lump_2 7 rfl rfl)
theorem dX1_lump_55 : decode cX1_lump 55 = .ok (.iadd, 1) := dk_96 (dk_at dksX1_lump_2 8 rfl rfl)
theorem dX1_lump_56 : decode cX1_lump 56 = .ok (.putfield 202, 3) := dk_181 0 202 (dk_at dksX1_lump_2 9 rfl rfl)
theorem dX1_lump_59 : decode cX1_lump 59 = .ok (.aload_n 0, 1) := dk_42 (dk_at dksX1_lump_2 12 rfl rfl)
theorem dX1_lump_60 : decode cX1_lump 60 = .ok (.getfield 10, 3) := dk_180 0 10 (dk_at dksX1_lump_2 13 rfl rfl)
theorem dX1_lump_63 : decode cX1_lump 63 = .ok (.getfield 195, 3) := dk_180 0 195 (dk_at dksX1_lump_2 16 rfl rfl)
theorem dX1_lump_66 : decode cX1_lump 66 = .ok (.invokevirtual 85, 3) := dk_182 0 85 (dk_at dksX1_lump_2 19 rfl rfl)
theorem dX1_lump_69 : decode cX1_lump 69 = .ok (.ireturn, 1) := dk_172 (dk_at dksX1_lump_2 22 rfl rfl)
abbrev cX1_piece : ByteArray := prog_1_method_23_code
def yX1_piece : MethodName := ⟨RX1, "piece", "(I)I"⟩
def dkwX1_piece_1 : List UInt8 := [182, 0, 122, 42, 180, 0, 10, 180, 0, 208, 27, 92, 46, 4, 96, 79, 42, 180, 0, 10, 182, 0, 205, 172]
abbrev dktX1_piece_1 : List UInt8 := dkwX1_piece_1 ++ []
def dkwX1_piece_0 : List UInt8 := [42, 27, 4, 16, 6, 182, 0, 114, 42, 42, 180, 0, 10, 182, 0, 205, 16, 24, 182, 0, 118, 42]
abbrev dktX1_piece_0 : List UInt8 := dkwX1_piece_0 ++ dktX1_piece_1
theorem dksX1_piece_0 : cX1_piece.data.toList.drop 0 = dktX1_piece_0 := by decide +kernel
theorem dksX1_piece_1 : cX1_piece.data.toList.drop 22 = dktX1_piece_1 := dk_seg dksX1_piece_0 22 rfl rfl
theorem dX1_piece_0 : decode cX1_piece 0 = .ok (.aload_n 0, 1) := dk_42 (dk_at dksX1_piece_0 0 rfl rfl)
theorem dX1_piece_1 : decode cX1_piece 1 = .ok (.iload_n 1, 1) := dk_27 (dk_at dksX1_piece_0 1 rfl rfl)
theorem dX1_piece_2 : decode cX1_piece 2 = .ok (.iconst 1, 1) := dk_4 (dk_at dksX1_piece_0 2 rfl rfl)
theorem dX1_piece_3 : decode cX1_piece 3 = .ok (.bipush 6, 2) := dk_16 6 (dk_at dksX1_piece_0 3 rfl rfl)
theorem dX1_piece_5 : decode cX1_piece 5 = .ok (.invokevirtual 114, 3) := dk_182 0 114 (dk_at dksX1_piece_0 5 rfl rfl)
theorem dX1_piece_8 : decode cX1_piece 8 = .ok (.aload_n 0, 1) := dk_42 (dk_at dksX1_piece_0 8 rfl rfl)
theorem dX1_piece_9 : decode cX1_piece 9 = .ok (.aload_n 0, 1) := dk_42 (dk_at dksX1_piece_0 9 rfl rfl)
theorem dX1_piece_10 : decode cX1_piece 10 = .ok (.getfield 10, 3) := dk_180 0 10 (dk_at dksX1_piece_0 10 rfl rfl)
theorem dX1_piece_13 : decode cX1_piece 13 = .ok (.invokevirtual 205, 3) := dk_182 0 205 (dk_at dksX1_piece_0 13 rfl rfl)
theorem dX1_piece_16 : decode cX1_piece 16 = .ok (.bipush 24, 2) := dk_16 24 (dk_at dksX1_piece_0 16 rfl rfl)
theorem dX1_piece_18 : decode cX1_piece 18 = .ok (.invokevirtual 118, 3) := dk_182 0 118 (dk_at dksX1_piece_0 18 rfl rfl)
theorem dX1_piece_21 : decode cX1_piece 21 = .ok (.aload_n 0, 1) := dk_42 (dk_at dksX1_piece_0 21 rfl rfl)
theorem dX1_piece_22 : decode cX1_piece 22 = .ok (.invokevirtual 122, 3) := dk_182 0 122 (dk_at dksX1_piece_1 0 rfl rfl)
theorem dX1_piece_25 : decode cX1_piece 25 = .ok (.aload_n 0, 1) := dk_42 (dk_at dksX1_piece_1 3 rfl rfl)
theorem dX1_piece_26 : decode cX1_piece 26 = .ok (.getfield 10, 3) := dk_180 0 10 (dk_at dksX1_piece_1 4 rfl rfl)
theorem dX1_piece_29 : decode cX1_piece 29 = .ok (.getfield 208, 3) := dk_180 0 208 (dk_at dksX1_piece_1 7 rfl rfl)
theorem dX1_piece_32 : decode cX1_piece 32 = .ok (.iload_n 1, 1) := dk_27 (dk_at dksX1_piece_1 10 rfl rfl)
theorem dX1_piece_33 : decode cX1_piece 33 = .ok (.dup2, 1) := dk_92 (dk_at dksX1_piece_1 11 rfl rfl)
theorem dX1_piece_34 : decode cX1_piece 34 = .ok (.iaload, 1) := dk_46 (dk_at dksX1_piece_1 12 rfl rfl)
theorem dX1_piece_35 : decode cX1_piece 35 = .ok (.iconst 1, 1) := dk_4 (dk_at dksX1_piece_1 13 rfl rfl)
theorem dX1_piece_36 : decode cX1_piece 36 = .ok (.iadd, 1) := dk_96 (dk_at dksX1_piece_1 14 rfl rfl)
theorem dX1_piece_37 : decode cX1_piece 37 = .ok (.iastore, 1) := dk_79 (dk_at dksX1_piece_1 15 rfl rfl)
theorem dX1_piece_38 : decode cX1_piece 38 = .ok (.aload_n 0, 1) := dk_42 (dk_at dksX1_piece_1 16 rfl rfl)
theorem dX1_piece_39 : decode cX1_piece 39 = .ok (.getfield 10, 3) := dk_180 0 10 (dk_at dksX1_piece_1 17 rfl rfl)
theorem dX1_piece_42 : decode cX1_piece 42 = .ok (.invokevirtual 205, 3) := dk_182 0 205 (dk_at dksX1_piece_1 20 rfl rfl)
theorem dX1_piece_45 : decode cX1_piece 45 = .ok (.ireturn, 1) := dk_172 (dk_at dksX1_piece_1 23 rfl rfl)
abbrev cX1_mend : ByteArray := prog_1_method_24_code
def yX1_mend : MethodName := ⟨RX1, "mend", "()I"⟩
def dkwX1_mend_8 : List UInt8 := [182, 0, 225, 44, 182, 0, 37, 42, 182, 0, 122, 42, 180, 0, 10, 182, 0, 231, 172]
abbrev dktX1_mend_8 : List UInt8 := dkwX1_mend_8 ++ []
def dkwX1_mend_7 : List UInt8 := [180, 0, 10, 43, 182, 0, 225, 182, 0, 228, 2, 160, 0, 7, 4, 167, 0, 4, 3, 16, 10, 43]
abbrev dktX1_mend_7 : List UInt8 := dkwX1_mend_7 ++ dktX1_mend_8
def dkwX1_mend_6 : List UInt8 := [16, 11, 42, 180, 0, 10, 182, 0, 222, 1, 183, 0, 43, 77, 42, 43, 182, 0, 225, 158, 0, 22, 42]
abbrev dktX1_mend_6 : List UInt8 := dkwX1_mend_6 ++ dktX1_mend_7
def dkwX1_mend_5 : List UInt8 := [100, 182, 0, 57, 42, 180, 0, 10, 182, 0, 222, 2, 160, 0, 7, 1, 167, 0, 20, 187, 0, 41, 89]
abbrev dktX1_mend_5 : List UInt8 := dkwX1_mend_5 ++ dktX1_mend_6
def dkwX1_mend_4 : List UInt8 := [162, 0, 7, 4, 167, 0, 4, 3, 16, 9, 43, 182, 0, 186, 42, 180, 0, 10, 180, 0, 195, 182, 0, 85]
abbrev dktX1_mend_4 : List UInt8 := dkwX1_mend_4 ++ dktX1_mend_5
def dkwX1_mend_3 : List UInt8 := [182, 0, 104, 192, 0, 108, 76, 42, 42, 180, 0, 10, 180, 0, 195, 182, 0, 85, 43, 182, 0, 186]
abbrev dktX1_mend_3 : List UInt8 := dkwX1_mend_3 ++ dktX1_mend_4
def dkwX1_mend_2 : List UInt8 := [180, 0, 10, 180, 0, 93, 42, 180, 0, 10, 180, 0, 139, 182, 0, 192, 192, 0, 144, 182, 0, 166]
abbrev dktX1_mend_2 : List UInt8 := dkwX1_mend_2 ++ dktX1_mend_3
def dkwX1_mend_1 : List UInt8 := [180, 0, 10, 180, 0, 212, 182, 0, 215, 16, 8, 42, 180, 0, 10, 3, 182, 0, 218, 182, 0, 57, 42]
abbrev dktX1_mend_1 : List UInt8 := dkwX1_mend_1 ++ dktX1_mend_2
def dkwX1_mend_0 : List UInt8 := [42, 42, 180, 0, 10, 180, 0, 139, 182, 0, 181, 16, 7, 3, 182, 0, 57, 42, 42, 180, 0, 10, 42]
abbrev dktX1_mend_0 : List UInt8 := dkwX1_mend_0 ++ dktX1_mend_1
theorem dksX1_mend_0 : cX1_mend.data.toList.drop 0 = dktX1_mend_0 := by decide +kernel
theorem dksX1_mend_1 : cX1_mend.data.toList.drop 23 = dktX1_mend_1 := dk_seg dksX1_mend_0 23 rfl rfl
theorem dksX1_mend_2 : cX1_mend.data.toList.drop 46 = dktX1_mend_2 := dk_seg dksX1_mend_1 23 rfl rfl
theorem dksX1_mend_3 : cX1_mend.data.toList.drop 68 = dktX1_mend_3 := dk_seg dksX1_mend_2 22 rfl rfl
theorem dksX1_mend_4 : cX1_mend.data.toList.drop 90 = dktX1_mend_4 := dk_seg dksX1_mend_3 22 rfl rfl
theorem dksX1_mend_5 : cX1_mend.data.toList.drop 114 = dktX1_mend_5 := dk_seg dksX1_mend_4 24 rfl rfl
theorem dksX1_mend_6 : cX1_mend.data.toList.drop 137 = dktX1_mend_6 := dk_seg dksX1_mend_5 23 rfl rfl
theorem dksX1_mend_7 : cX1_mend.data.toList.drop 160 = dktX1_mend_7 := dk_seg dksX1_mend_6 23 rfl rfl
theorem dksX1_mend_8 : cX1_mend.data.toList.drop 182 = dktX1_mend_8 := dk_seg dksX1_mend_7 22 rfl rfl
theorem dX1_mend_0 : decode cX1_mend 0 = .ok (.aload_n 0, 1) := dk_42 (dk_at dksX1_mend_0 0 rfl rfl)
theorem dX1_mend_1 : decode cX1_mend 1 = .ok (.aload_n 0, 1) := dk_42 (dk_at dksX1_mend_0 1 rfl rfl)
theorem dX1_mend_2 : decode cX1_mend 2 = .ok (.getfield 10, 3) := dk_180 0 10 (dk_at dksX1_mend_0 2 rfl rfl)
theorem dX1_mend_5 : decode cX1_mend 5 = .ok (.getfield 139, 3) := dk_180 0 139 (dk_at dksX1_mend_0 5 rfl rfl)
theorem dX1_mend_8 : decode cX1_mend 8 = .ok (.invokevirtual 181, 3) := dk_182 0 181 (dk_at dksX1_mend_0 8 rfl rfl)
theorem dX1_mend_11 : decode cX1_mend 11 = .ok (.bipush 7, 2) := dk_16 7 (dk_at dksX1_mend_0 11 rfl rfl)
theorem dX1_mend_13 : decode cX1_mend 13 = .ok (.iconst 0, 1) := dk_3 (dk_at dksX1_mend_0 13 rfl rfl)
theorem dX1_mend_14 : decode cX1_mend 14 = .ok (.invokevirtual 57, 3) := dk_182 0 57 (dk_at dksX1_mend_0 14 rfl rfl)
theorem dX1_mend_17 : decode cX1_mend 17 = .ok (.aload_n 0, 1) := dk_42 (dk_at dksX1_mend_0 17 rfl rfl)
theorem dX1_mend_18 : decode cX1_mend 18 = .ok (.aload_n 0, 1) := dk_42 (dk_at dksX1_mend_0 18 rfl rfl)
theorem dX1_mend_19 : decode cX1_mend 19 = .ok (.getfield 10, 3) := dk_180 0 10 (dk_at dksX1_mend_0 19 rfl rfl)
theorem dX1_mend_22 : decode cX1_mend 22 = .ok (.aload_n 0, 1) := dk_42 (dk_at dksX1_mend_0 22 rfl rfl)
theorem dX1_mend_23 : decode cX1_mend 23 = .ok (.getfield 10, 3) := dk_180 0 10 (dk_at dksX1_mend_1 0 rfl rfl)
theorem dX1_mend_26 : decode cX1_mend 26 = .ok (.getfield 212, 3) := dk_180 0 212 (dk_at dksX1_mend_1 3 rfl rfl)
theorem dX1_mend_29 : decode cX1_mend 29 = .ok (.invokevirtual 215, 3) := dk_182 0 215 (dk_at dksX1_mend_1 6 rfl rfl)
theorem dX1_mend_32 : decode cX1_mend 32 = .ok (.bipush 8, 2) := dk_16 8 (dk_at dksX1_mend_1 9 rfl rfl)
theorem dX1_mend_34 : decode cX1_mend 34 = .ok (.aload_n 0, 1) := dk_42 (dk_at dksX1_mend_1 11 rfl rfl)
theorem dX1_mend_35 : decode cX1_mend 35 = .ok (.getfield 10, 3) := dk_180 0 10 (dk_at dksX1_mend_1 12 rfl rfl)
theorem dX1_mend_38 : decode cX1_mend 38 = .ok (.iconst 0, 1) := dk_3 (dk_at dksX1_mend_1 15 rfl rfl)
theorem dX1_mend_39 : decode cX1_mend 39 = .ok (.invokevirtual 218, 3) := dk_182 0 218 (dk_at dksX1_mend_1 16 rfl rfl)
theorem dX1_mend_42 : decode cX1_mend 42 = .ok (.invokevirtual 57, 3) := dk_182 0 57 (dk_at dksX1_mend_1 19 rfl rfl)
theorem dX1_mend_45 : decode cX1_mend 45 = .ok (.aload_n 0, 1) := dk_42 (dk_at dksX1_mend_1 22 rfl rfl)
theorem dX1_mend_46 : decode cX1_mend 46 = .ok (.getfield 10, 3) := dk_180 0 10 (dk_at dksX1_mend_2 0 rfl rfl)
theorem dX1_mend_49 : decode cX1_mend 49 = .ok (.getfield 93, 3) := dk_180 0 93 (dk_at dksX1_mend_2 3 rfl rfl)
theorem dX1_mend_52 : decode cX1_mend 52 = .ok (.aload_n 0, 1) := dk_42 (dk_at dksX1_mend_2 6 rfl rfl)
theorem dX1_mend_53 : decode cX1_mend 53 = .ok (.getfield 10, 3) := dk_180 0 10 (dk_at dksX1_mend_2 7 rfl rfl)
theorem dX1_mend_56 : decode cX1_mend 56 = .ok (.getfield 139, 3) := dk_180 0 139 (dk_at dksX1_mend_2 10 rfl rfl)
theorem dX1_mend_59 : decode cX1_mend 59 = .ok (.invokevirtual 192, 3) := dk_182 0 192 (dk_at dksX1_mend_2 13 rfl rfl)
theorem dX1_mend_62 : decode cX1_mend 62 = .ok (.checkcast 144, 3) := dk_192 0 144 (dk_at dksX1_mend_2 16 rfl rfl)
theorem dX1_mend_65 : decode cX1_mend 65 = .ok (.invokevirtual 166, 3) := dk_182 0 166 (dk_at dksX1_mend_2 19 rfl rfl)
theorem dX1_mend_68 : decode cX1_mend 68 = .ok (.invokevirtual 104, 3) := dk_182 0 104 (dk_at dksX1_mend_3 0 rfl rfl)
theorem dX1_mend_71 : decode cX1_mend 71 = .ok (.checkcast 108, 3) := dk_192 0 108 (dk_at dksX1_mend_3 3 rfl rfl)
theorem dX1_mend_74 : decode cX1_mend 74 = .ok (.astore_n 1, 1) := dk_76 (dk_at dksX1_mend_3 6 rfl rfl)
theorem dX1_mend_75 : decode cX1_mend 75 = .ok (.aload_n 0, 1) := dk_42 (dk_at dksX1_mend_3 7 rfl rfl)
theorem dX1_mend_76 : decode cX1_mend 76 = .ok (.aload_n 0, 1) := dk_42 (dk_at dksX1_mend_3 8 rfl rfl)
theorem dX1_mend_77 : decode cX1_mend 77 = .ok (.getfield 10, 3) := dk_180 0 10 (dk_at dksX1_mend_3 9 rfl rfl)
theorem dX1_mend_80 : decode cX1_mend 80 = .ok (.getfield 195, 3) := dk_180 0 195 (dk_at dksX1_mend_3 12 rfl rfl)
theorem dX1_mend_83 : decode cX1_mend 83 = .ok (.invokevirtual 85, 3) := dk_182 0 85 (dk_at dksX1_mend_3 15 rfl rfl)
theorem dX1_mend_86 : decode cX1_mend 86 = .ok (.aload_n 1, 1) := dk_43 (dk_at dksX1_mend_3 18 rfl rfl)
theorem dX1_mend_87 : decode cX1_mend 87 = .ok (.invokevirtual 186, 3) := dk_182 0 186 (dk_at dksX1_mend_3 19 rfl rfl)
theorem dX1_mend_90 : decode cX1_mend 90 = .ok (.if_icmp .ge 7, 3) := dk_162 0 7 (dk_at dksX1_mend_4 0 rfl rfl)
theorem dX1_mend_93 : decode cX1_mend 93 = .ok (.iconst 1, 1) := dk_4 (dk_at dksX1_mend_4 3 rfl rfl)
theorem dX1_mend_94 : decode cX1_mend 94 = .ok (.goto 4, 3) := dk_167 0 4 (dk_at dksX1_mend_4 4 rfl rfl)
theorem dX1_mend_97 : decode cX1_mend 97 = .ok (.iconst 0, 1) := dk_3 (dk_at dksX1_mend_4 7 rfl rfl)
theorem dX1_mend_98 : decode cX1_mend 98 = .ok (.bipush 9, 2) := dk_16 9 (dk_at dksX1_mend_4 8 rfl rfl)
theorem dX1_mend_100 : decode cX1_mend 100 = .ok (.aload_n 1, 1) := dk_43 (dk_at dksX1_mend_4 10 rfl rfl)
theorem dX1_mend_101 : decode cX1_mend 101 = .ok (.invokevirtual 186, 3) := dk_182 0 186 (dk_at dksX1_mend_4 11 rfl rfl)
theorem dX1_mend_104 : decode cX1_mend 104 = .ok (.aload_n 0, 1) := dk_42 (dk_at dksX1_mend_4 14 rfl rfl)
theorem dX1_mend_105 : decode cX1_mend 105 = .ok (.getfield 10, 3) := dk_180 0 10 (dk_at dksX1_mend_4 15 rfl rfl)
theorem dX1_mend_108 : decode cX1_mend 108 = .ok (.getfield 195, 3) := dk_180 0 195 (dk_at dksX1_mend_4 18 rfl rfl)
theorem dX1_mend_111 : decode cX1_mend 111 = .ok (.invokevirtual 85, 3) := dk_182 0 85 (dk_at dksX1_mend_4 21 rfl rfl)
theorem dX1_mend_114 : decode cX1_mend 114 = .ok (.isub, 1) := dk_100 (dk_at dksX1_mend_5 0 rfl rfl)
theorem dX1_mend_115 : decode cX1_mend 115 = .ok (.invokevirtual 57, 3) := dk_182 0 57 (dk_at dksX1_mend_5 1 rfl rfl)
theorem dX1_mend_118 : decode cX1_mend 118 = .ok (.aload_n 0, 1) := dk_42 (dk_at dksX1_mend_5 4 rfl rfl)
theorem dX1_mend_119 : decode cX1_mend 119 = .ok (.getfield 10, 3) := dk_180 0 10 (dk_at dksX1_mend_5 5 rfl rfl)
theorem dX1_mend_122 : decode cX1_mend 122 = .ok (.invokevirtual 222, 3) := dk_182 0 222 (dk_at dksX1_mend_5 8 rfl rfl)
theorem dX1_mend_125 : decode cX1_mend 125 = .ok (.iconst (-1), 1) := dk_2 (dk_at dksX1_mend_5 11 rfl rfl)
theorem dX1_mend_126 : decode cX1_mend 126 = .ok (.if_icmp .ne 7, 3) := dk_160 0 7 (dk_at dksX1_mend_5 12 rfl rfl)
theorem dX1_mend_129 : decode cX1_mend 129 = .ok (.aconst_null, 1) := dk_1 (dk_at dksX1_mend_5 15 rfl rfl)
theorem dX1_mend_130 : decode cX1_mend 130 = .ok (.goto 20, 3) := dk_167 0 20 (dk_at dksX1_mend_5 16 rfl rfl)
theorem dX1_mend_133 : decode cX1_mend 133 = .ok (.new 41, 3) := dk_187 0 41 (dk_at dksX1_mend_5 19 rfl rfl)
theorem dX1_mend_136 : decode cX1_mend 136 = .ok (.dup, 1) := dk_89 (dk_at dksX1_mend_5 22 rfl rfl)
theorem dX1_mend_137 : decode cX1_mend 137 = .ok (.bipush 11, 2) := dk_16 11 (dk_at dksX1_mend_6 0 rfl rfl)
theorem dX1_mend_139 : decode cX1_mend 139 = .ok (.aload_n 0, 1) := dk_42 (dk_at dksX1_mend_6 2 rfl rfl)
theorem dX1_mend_140 : decode cX1_mend 140 = .ok (.getfield 10, 3) := dk_180 0 10 (dk_at dksX1_mend_6 3 rfl rfl)
theorem dX1_mend_143 : decode cX1_mend 143 = .ok (.invokevirtual 222, 3) := dk_182 0 222 (dk_at dksX1_mend_6 6 rfl rfl)
theorem dX1_mend_146 : decode cX1_mend 146 = .ok (.aconst_null, 1) := dk_1 (dk_at dksX1_mend_6 9 rfl rfl)
theorem dX1_mend_147 : decode cX1_mend 147 = .ok (.invokespecial 43, 3) := dk_183 0 43 (dk_at dksX1_mend_6 10 rfl rfl)
theorem dX1_mend_150 : decode cX1_mend 150 = .ok (.astore_n 2, 1) := dk_77 (dk_at dksX1_mend_6 13 rfl rfl)
theorem dX1_mend_151 : decode cX1_mend 151 = .ok (.aload_n 0, 1) := dk_42 (dk_at dksX1_mend_6 14 rfl rfl)
theorem dX1_mend_152 : decode cX1_mend 152 = .ok (.aload_n 1, 1) := dk_43 (dk_at dksX1_mend_6 15 rfl rfl)
theorem dX1_mend_153 : decode cX1_mend 153 = .ok (.invokevirtual 225, 3) := dk_182 0 225 (dk_at dksX1_mend_6 16 rfl rfl)
theorem dX1_mend_156 : decode cX1_mend 156 = .ok (.ifCond .le 22, 3) := dk_158 0 22 (dk_at dksX1_mend_6 19 rfl rfl)
theorem dX1_mend_159 : decode cX1_mend 159 = .ok (.aload_n 0, 1) := dk_42 (dk_at dksX1_mend_6 22 rfl rfl)
theorem dX1_mend_160 : decode cX1_mend 160 = .ok (.getfield 10, 3) := dk_180 0 10 (dk_at dksX1_mend_7 0 rfl rfl)
theorem dX1_mend_163 : decode cX1_mend 163 = .ok (.aload_n 1, 1) := dk_43 (dk_at dksX1_mend_7 3 rfl rfl)
theorem dX1_mend_164 : decode cX1_mend 164 = .ok (.invokevirtual 225, 3) := dk_182 0 225 (dk_at dksX1_mend_7 4 rfl rfl)
theorem dX1_mend_167 : decode cX1_mend 167 = .ok (.invokevirtual 228, 3) := dk_182 0 228 (dk_at dksX1_mend_7 7 rfl rfl)
theorem dX1_mend_170 : decode cX1_mend 170 = .ok (.iconst (-1), 1) := dk_2 (dk_at dksX1_mend_7 10 rfl rfl)
theorem dX1_mend_171 : decode cX1_mend 171 = .ok (.if_icmp .ne 7, 3) := dk_160 0 7 (dk_at dksX1_mend_7 11 rfl rfl)
theorem dX1_mend_174 : decode cX1_mend 174 = .ok (.iconst 1, 1) := dk_4 (dk_at dksX1_mend_7 14 rfl rfl)
theorem dX1_mend_175 : decode cX1_mend 175 = .ok (.goto 4, 3) := dk_167 0 4 (dk_at dksX1_mend_7 15 rfl rfl)
theorem dX1_mend_178 : decode cX1_mend 178 = .ok (.iconst 0, 1) := dk_3 (dk_at dksX1_mend_7 18 rfl rfl)
theorem dX1_mend_179 : decode cX1_mend 179 = .ok (.bipush 10, 2) := dk_16 10 (dk_at dksX1_mend_7 19 rfl rfl)
theorem dX1_mend_181 : decode cX1_mend 181 = .ok (.aload_n 1, 1) := dk_43 (dk_at dksX1_mend_7 21 rfl rfl)
theorem dX1_mend_182 : decode cX1_mend 182 = .ok (.invokevirtual 225, 3) := dk_182 0 225 (dk_at dksX1_mend_8 0 rfl rfl)
theorem dX1_mend_185 : decode cX1_mend 185 = .ok (.aload_n 2, 1) := dk_44 (dk_at dksX1_mend_8 3 rfl rfl)
theorem dX1_mend_186 : decode cX1_mend 186 = .ok (.invokevirtual 37, 3) := dk_182 0 37 (dk_at dksX1_mend_8 4 rfl rfl)
theorem dX1_mend_189 : decode cX1_mend 189 = .ok (.aload_n 0, 1) := dk_42 (dk_at dksX1_mend_8 7 rfl rfl)
theorem dX1_mend_190 : decode cX1_mend 190 = .ok (.invokevirtual 122, 3) := dk_182 0 122 (dk_at dksX1_mend_8 8 rfl rfl)
theorem dX1_mend_193 : decode cX1_mend 193 = .ok (.aload_n 0, 1) := dk_42 (dk_at dksX1_mend_8 11 rfl rfl)
theorem dX1_mend_194 : decode cX1_mend 194 = .ok (.getfield 10, 3) := dk_180 0 10 (dk_at dksX1_mend_8 12 rfl rfl)
theorem dX1_mend_197 : decode cX1_mend 197 = .ok (.invokevirtual 231, 3) := dk_182 0 231 (dk_at dksX1_mend_8 15 rfl rfl)
theorem dX1_mend_200 : decode cX1_mend 200 = .ok (.ireturn, 1) := dk_172 (dk_at dksX1_mend_8 18 rfl rfl)
abbrev cX1_cut : ByteArray := prog_1_method_25_code
def yX1_cut : MethodName := ⟨RX1, "cut", "(II)I"⟩
def dkwX1_cut_4 : List UInt8 := [25, 4, 180, 0, 234, 172]
abbrev dktX1_cut_4 : List UInt8 := dkwX1_cut_4 ++ []
def dkwX1_cut_3 : List UInt8 := [25, 4, 89, 180, 0, 234, 28, 100, 181, 0, 234, 42, 180, 0, 10, 180, 0, 208, 28, 92, 46, 4, 96, 79]
abbrev dktX1_cut_3 : List UInt8 := dkwX1_cut_3 ++ dktX1_cut_4
def dkwX1_cut_2 : List UInt8 := [182, 0, 118, 42, 182, 0, 122, 42, 180, 0, 10, 180, 0, 93, 27, 182, 0, 104, 192, 0, 108, 58, 4]
abbrev dktX1_cut_2 : List UInt8 := dkwX1_cut_2 ++ dktX1_cut_3
def dkwX1_cut_1 : List UInt8 := [167, 0, 4, 3, 16, 18, 45, 180, 0, 234, 182, 0, 57, 42, 42, 180, 0, 10, 182, 0, 205, 16, 24]
abbrev dktX1_cut_1 : List UInt8 := dkwX1_cut_1 ++ dktX1_cut_2
def dkwX1_cut_0 : List UInt8 := [42, 27, 182, 0, 131, 78, 42, 28, 4, 16, 6, 182, 0, 114, 42, 45, 180, 0, 234, 28, 162, 0, 7, 4]
abbrev dktX1_cut_0 : List UInt8 := dkwX1_cut_0 ++ dktX1_cut_1
theorem dksX1_cut_0 : cX1_cut.data.toList.drop 0 = dktX1_cut_0 := by decide +kernel
theorem dksX1_cut_1 : cX1_cut.data.toList.drop 24 = dktX1_cut_1 := dk_seg dksX1_cut_0 24 rfl rfl
theorem dksX1_cut_2 : cX1_cut.data.toList.drop 47 = dktX1_cut_2 := dk_seg dksX1_cut_1 23 rfl rfl
theorem dksX1_cut_3 : cX1_cut.data.toList.drop 70 = dktX1_cut_3 := dk_seg dksX1_cut_2 23 rfl rfl
theorem dksX1_cut_4 : cX1_cut.data.toList.drop 94 = dktX1_cut_4 := dk_seg dksX1_cut_3 24 rfl rfl
theorem dX1_cut_0 : decode cX1_cut 0 = .ok (.aload_n 0, 1) := dk_42 (dk_at dksX1_cut_0 0 rfl rfl)
theorem dX1_cut_1 : decode cX1_cut 1 = .ok (.iload_n 1, 1) := dk_27 (dk_at dksX1_cut_0 1 rfl rfl)
theorem dX1_cut_2 : decode cX1_cut 2 = .ok (.invokevirtual 131, 3) := dk_182 0 131 (dk_at dksX1_cut_0 2 rfl rfl)
theorem dX1_cut_5 : decode cX1_cut 5 = .ok (.astore_n 3, 1) := dk_78 (dk_at dksX1_cut_0 5 rfl rfl)
theorem dX1_cut_6 : decode cX1_cut 6 = .ok (.aload_n 0, 1) := dk_42 (dk_at dksX1_cut_0 6 rfl rfl)
theorem dX1_cut_7 : decode cX1_cut 7 = .ok (.iload_n 2, 1) := dk_28 (dk_at dksX1_cut_0 7 rfl rfl)
theorem dX1_cut_8 : decode cX1_cut 8 = .ok (.iconst 1, 1) := dk_4 (dk_at dksX1_cut_0 8 rfl rfl)
theorem dX1_cut_9 : decode cX1_cut 9 = .ok (.bipush 6, 2) := dk_16 6 (dk_at dksX1_cut_0 9 rfl rfl)
theorem dX1_cut_11 : decode cX1_cut 11 = .ok (.invokevirtual 114, 3) := dk_182 0 114 (dk_at dksX1_cut_0 11 rfl rfl)
theorem dX1_cut_14 : decode cX1_cut 14 = .ok (.aload_n 0, 1) := dk_42 (dk_at dksX1_cut_0 14 rfl rfl)
theorem dX1_cut_15 : decode cX1_cut 15 = .ok (.aload_n 3, 1) := dk_45 (dk_at dksX1_cut_0 15 rfl rfl)
theorem dX1_cut_16 : decode cX1_cut 16 = .ok (.getfield 234, 3) := dk_180 0 234 (dk_at dksX1_cut_0 16 rfl rfl)
theorem dX1_cut_19 : decode cX1_cut 19 = .ok (.iload_n 2, 1) := dk_28 (dk_at dksX1_cut_0 19 rfl rfl)
theorem dX1_cut_20 : decode cX1_cut 20 = .ok (.if_icmp .ge 7, 3) := dk_162 0 7 (dk_at dksX1_cut_0 20 rfl rfl)
theorem dX1_cut_23 : decode cX1_cut 23 = .ok (.iconst 1, 1) := dk_4 (dk_at dksX1_cut_0 23 rfl rfl)
theorem dX1_cut_24 : decode cX1_cut 24 = .ok (.goto 4, 3) := dk_167 0 4 (dk_at dksX1_cut_1 0 rfl rfl)
theorem dX1_cut_27 : decode cX1_cut 27 = .ok (.iconst 0, 1) := dk_3 (dk_at dksX1_cut_1 3 rfl rfl)
theorem dX1_cut_28 : decode cX1_cut 28 = .ok (.bipush 18, 2) := dk_16 18 (dk_at dksX1_cut_1 4 rfl rfl)
theorem dX1_cut_30 : decode cX1_cut 30 = .ok (.aload_n 3, 1) := dk_45 (dk_at dksX1_cut_1 6 rfl rfl)
theorem dX1_cut_31 : decode cX1_cut 31 = .ok (.getfield 234, 3) := dk_180 0 234 (dk_at dksX1_cut_1 7 rfl rfl)
theorem dX1_cut_34 : decode cX1_cut 34 = .ok (.invokevirtual 57, 3) := dk_182 0 57 (dk_at dksX1_cut_1 10 rfl rfl)
theorem dX1_cut_37 : decode cX1_cut 37 = .ok (.aload_n 0, 1) := dk_42 (dk_at dksX1_cut_1 13 rfl rfl)
theorem dX1_cut_38 : decode cX1_cut 38 = .ok (.aload_n 0, 1) := dk_42 (dk_at dksX1_cut_1 14 rfl rfl)
theorem dX1_cut_39 : decode cX1_cut 39 = .ok (.getfield 10, 3) := dk_180 0 10 (dk_at dksX1_cut_1 15 rfl rfl)
theorem dX1_cut_42 : decode cX1_cut 42 = .ok (.invokevirtual 205, 3) := dk_182 0 205 (dk_at dksX1_cut_1 18 rfl rfl)
theorem dX1_cut_45 : decode cX1_cut 45 = .ok (.bipush 24, 2) := dk_16 24 (dk_at dksX1_cut_1 21 rfl rfl)
theorem dX1_cut_47 : decode cX1_cut 47 = .ok (.invokevirtual 118, 3) := dk_182 0 118 (dk_at dksX1_cut_2 0 rfl rfl)
theorem dX1_cut_50 : decode cX1_cut 50 = .ok (.aload_n 0, 1) := dk_42 (dk_at dksX1_cut_2 3 rfl rfl)
theorem dX1_cut_51 : decode cX1_cut 51 = .ok (.invokevirtual 122, 3) := dk_182 0 122 (dk_at dksX1_cut_2 4 rfl rfl)
theorem dX1_cut_54 : decode cX1_cut 54 = .ok (.aload_n 0, 1) := dk_42 (dk_at dksX1_cut_2 7 rfl rfl)
theorem dX1_cut_55 : decode cX1_cut 55 = .ok (.getfield 10, 3) := dk_180 0 10 (dk_at dksX1_cut_2 8 rfl rfl)
theorem dX1_cut_58 : decode cX1_cut 58 = .ok (.getfield 93, 3) := dk_180 0 93 (dk_at dksX1_cut_2 11 rfl rfl)
theorem dX1_cut_61 : decode cX1_cut 61 = .ok (.iload_n 1, 1) := dk_27 (dk_at dksX1_cut_2 14 rfl rfl)
theorem dX1_cut_62 : decode cX1_cut 62 = .ok (.invokevirtual 104, 3) := dk_182 0 104 (dk_at dksX1_cut_2 15 rfl rfl)
theorem dX1_cut_65 : decode cX1_cut 65 = .ok (.checkcast 108, 3) := dk_192 0 108 (dk_at dksX1_cut_2 18 rfl rfl)
theorem dX1_cut_68 : decode cX1_cut 68 = .ok (.astore 4, 2) := dk_58 4 (dk_at dksX1_cut_2 21 rfl rfl)
theorem dX1_cut_70 : decode cX1_cut 70 = .ok (.aload 4, 2) := dk_25 4 (dk_at dksX1_cut_3 0 rfl rfl)
theorem dX1_cut_72 : decode cX1_cut 72 = .ok (.dup, 1) := dk_89 (dk_at dksX1_cut_3 2 rfl rfl)
theorem dX1_cut_73 : decode cX1_cut 73 = .ok (.getfield 234, 3) := dk_180 0 234 (dk_at dksX1_cut_3 3 rfl rfl)
theorem dX1_cut_76 : decode cX1_cut 76 = .ok (.iload_n 2, 1) := dk_28 (dk_at dksX1_cut_3 6 rfl rfl)
theorem dX1_cut_77 : decode cX1_cut 77 = .ok (.isub, 1) := dk_100 (dk_at dksX1_cut_3 7 rfl rfl)
theorem dX1_cut_78 : decode cX1_cut 78 = .ok (.putfield 234, 3) := dk_181 0 234 (dk_at dksX1_cut_3 8 rfl rfl)
theorem dX1_cut_81 : decode cX1_cut 81 = .ok (.aload_n 0, 1) := dk_42 (dk_at dksX1_cut_3 11 rfl rfl)
theorem dX1_cut_82 : decode cX1_cut 82 = .ok (.getfield 10, 3) := dk_180 0 10 (dk_at dksX1_cut_3 12 rfl rfl)
theorem dX1_cut_85 : decode cX1_cut 85 = .ok (.getfield 208, 3) := dk_180 0 208 (dk_at dksX1_cut_3 15 rfl rfl)
theorem dX1_cut_88 : decode cX1_cut 88 = .ok (.iload_n 2, 1) := dk_28 (dk_at dksX1_cut_3 18 rfl rfl)
theorem dX1_cut_89 : decode cX1_cut 89 = .ok (.dup2, 1) := dk_92 (dk_at dksX1_cut_3 19 rfl rfl)
theorem dX1_cut_90 : decode cX1_cut 90 = .ok (.iaload, 1) := dk_46 (dk_at dksX1_cut_3 20 rfl rfl)
theorem dX1_cut_91 : decode cX1_cut 91 = .ok (.iconst 1, 1) := dk_4 (dk_at dksX1_cut_3 21 rfl rfl)
theorem dX1_cut_92 : decode cX1_cut 92 = .ok (.iadd, 1) := dk_96 (dk_at dksX1_cut_3 22 rfl rfl)
theorem dX1_cut_93 : decode cX1_cut 93 = .ok (.iastore, 1) := dk_79 (dk_at dksX1_cut_3 23 rfl rfl)
theorem dX1_cut_94 : decode cX1_cut 94 = .ok (.aload 4, 2) := dk_25 4 (dk_at dksX1_cut_4 0 rfl rfl)
theorem dX1_cut_96 : decode cX1_cut 96 = .ok (.getfield 234, 3) := dk_180 0 234 (dk_at dksX1_cut_4 2 rfl rfl)
theorem dX1_cut_99 : decode cX1_cut 99 = .ok (.ireturn, 1) := dk_172 (dk_at dksX1_cut_4 5 rfl rfl)
abbrev cX1_smoke : ByteArray := prog_1_method_26_code
def yX1_smoke : MethodName := ⟨RX1, "smoke", "(I)I"⟩
def dkwX1_smoke_4 : List UInt8 := [25, 4, 180, 0, 249, 172]
abbrev dktX1_smoke_4 : List UInt8 := dkwX1_smoke_4 ++ []
def dkwX1_smoke_3 : List UInt8 := [192, 0, 108, 58, 4, 25, 4, 182, 0, 243, 42, 180, 0, 10, 89, 180, 0, 246, 4, 96, 181, 0, 246]
abbrev dktX1_smoke_3 : List UInt8 := dkwX1_smoke_3 ++ dktX1_smoke_4
def dkwX1_smoke_2 : List UInt8 := [44, 182, 0, 240, 182, 0, 57, 42, 182, 0, 122, 42, 180, 0, 10, 180, 0, 93, 27, 182, 0, 104]
abbrev dktX1_smoke_2 : List UInt8 := dkwX1_smoke_2 ++ dktX1_smoke_3
def dkwX1_smoke_1 : List UInt8 := [167, 0, 4, 3, 8, 29, 182, 0, 57, 42, 44, 182, 0, 237, 154, 0, 7, 4, 167, 0, 4, 3, 16, 12]
abbrev dktX1_smoke_1 : List UInt8 := dkwX1_smoke_1 ++ dktX1_smoke_2
def dkwX1_smoke_0 : List UInt8 := [42, 27, 182, 0, 131, 77, 42, 180, 0, 10, 27, 182, 0, 135, 62, 42, 29, 2, 159, 0, 7, 4]
abbrev dktX1_smoke_0 : List UInt8 := dkwX1_smoke_0 ++ dktX1_smoke_1
theorem dksX1_smoke_0 : cX1_smoke.data.toList.drop 0 = dktX1_smoke_0 := by decide +kernel
theorem dksX1_smoke_1 : cX1_smoke.data.toList.drop 22 = dktX1_smoke_1 := dk_seg dksX1_smoke_0 22 rfl rfl
theorem dksX1_smoke_2 : cX1_smoke.data.toList.drop 46 = dktX1_smoke_2 := dk_seg dksX1_smoke_1 24 rfl rfl
theorem dksX1_smoke_3 : cX1_smoke.data.toList.drop 68 = dktX1_smoke_3 := dk_seg dksX1_smoke_2 22 rfl rfl
theorem dksX1_smoke_4 : cX1_smoke.data.toList.drop 91 = dktX1_smoke_4 := dk_seg dksX1_smoke_3 23 rfl rfl
theorem dX1_smoke_0 : decode cX1_smoke 0 = .ok (.aload_n 0, 1) := dk_42 (dk_at dksX1_smoke_0 0 rfl rfl)
theorem dX1_smoke_1 : decode cX1_smoke 1 = .ok (.iload_n 1, 1) := dk_27 (dk_at dksX1_smoke_0 1 rfl rfl)
theorem dX1_smoke_2 : decode cX1_smoke 2 = .ok (.invokevirtual 131, 3) := dk_182 0 131 (dk_at dksX1_smoke_0 2 rfl rfl)
theorem dX1_smoke_5 : decode cX1_smoke 5 = .ok (.astore_n 2, 1) := dk_77 (dk_at dksX1_smoke_0 5 rfl rfl)
theorem dX1_smoke_6 : decode cX1_smoke 6 = .ok (.aload_n 0, 1) := dk_42 (dk_at dksX1_smoke_0 6 rfl rfl)
theorem dX1_smoke_7 : decode cX1_smoke 7 = .ok (.getfield 10, 3) := dk_180 0 10 (dk_at dksX1_smoke_0 7 rfl rfl)
theorem dX1_smoke_10 : decode cX1_smoke 10 = .ok (.iload_n 1, 1) := dk_27 (dk_at dksX1_smoke_0 10 rfl rfl)
theorem dX1_smoke_11 : decode cX1_smoke 11 = .ok (.invokevirtual 135, 3) := dk_182 0 135 (dk_at dksX1_smoke_0 11 rfl rfl)
theorem dX1_smoke_14 : decode cX1_smoke 14 = .ok (.istore_n 3, 1) := dk_62 (dk_at dksX1_smoke_0 14 rfl rfl)
theorem dX1_smoke_15 : decode cX1_smoke 15 = .ok (.aload_n 0, 1) := dk_42 (dk_at dksX1_smoke_0 15 rfl rfl)
theorem dX1_smoke_16 : decode cX1_smoke 16 = .ok (.iload_n 3, 1) := dk_29 (dk_at dksX1_smoke_0 16 rfl rfl)
theorem dX1_smoke_17 : decode cX1_smoke 17 = .ok (.iconst (-1), 1) := dk_2 (dk_at dksX1_smoke_0 17 rfl rfl)
theorem dX1_smoke_18 : decode cX1_smoke 18 = .ok (.if_icmp .eq 7, 3) := dk_159 0 7 (dk_at dksX1_smoke_0 18 rfl rfl)
theorem dX1_smoke_21 : decode cX1_smoke 21 = .ok (.iconst 1, 1) := dk_4 (dk_at dksX1_smoke_0 21 rfl rfl)
theorem dX1_smoke_22 : decode cX1_smoke 22 = .ok (.goto 4, 3) := dk_167 0 4 (dk_at dksX1_smoke_1 0 rfl rfl)
theorem dX1_smoke_25 : decode cX1_smoke 25 = .ok (.iconst 0, 1) := dk_3 (dk_at dksX1_smoke_1 3 rfl rfl)
theorem dX1_smoke_26 : decode cX1_smoke 26 = .ok (.iconst 5, 1) := dk_8 (dk_at dksX1_smoke_1 4 rfl rfl)
theorem dX1_smoke_27 : decode cX1_smoke 27 = .ok (.iload_n 3, 1) := dk_29 (dk_at dksX1_smoke_1 5 rfl rfl)
theorem dX1_smoke_28 : decode cX1_smoke 28 = .ok (.invokevirtual 57, 3) := dk_182 0 57 (dk_at dksX1_smoke_1 6 rfl rfl)
theorem dX1_smoke_31 : decode cX1_smoke 31 = .ok (.aload_n 0, 1) := dk_42 (dk_at dksX1_smoke_1 9 rfl rfl)
theorem dX1_smoke_32 : decode cX1_smoke 32 = .ok (.aload_n 2, 1) := dk_44 (dk_at dksX1_smoke_1 10 rfl rfl)
theorem dX1_smoke_33 : decode cX1_smoke 33 = .ok (.invokevirtual 237, 3) := dk_182 0 237 (dk_at dksX1_smoke_1 11 rfl rfl)
theorem dX1_smoke_36 : decode cX1_smoke 36 = .ok (.ifCond .ne 7, 3) := dk_154 0 7 (dk_at dksX1_smoke_1 14 rfl rfl)
theorem dX1_smoke_39 : decode cX1_smoke 39 = .ok (.iconst 1, 1) := dk_4 (dk_at dksX1_smoke_1 17 rfl rfl)
theorem dX1_smoke_40 : decode cX1_smoke 40 = .ok (.goto 4, 3) := dk_167 0 4 (dk_at dksX1_smoke_1 18 rfl rfl)
theorem dX1_smoke_43 : decode cX1_smoke 43 = .ok (.iconst 0, 1) := dk_3 (dk_at dksX1_smoke_1 21 rfl rfl)
theorem dX1_smoke_44 : decode cX1_smoke 44 = .ok (.bipush 12, 2) := dk_16 12 (dk_at dksX1_smoke_1 22 rfl rfl)
theorem dX1_smoke_46 : decode cX1_smoke 46 = .ok (.aload_n 2, 1) := dk_44 (dk_at dksX1_smoke_2 0 rfl rfl)
theorem dX1_smoke_47 : decode cX1_smoke 47 = .ok (.invokevirtual 240, 3) := dk_182 0 240 (dk_at dksX1_smoke_2 1 rfl rfl)
theorem dX1_smoke_50 : decode cX1_smoke 50 = .ok (.invokevirtual 57, 3) := dk_182 0 57 (dk_at dksX1_smoke_2 4 rfl rfl)
theorem dX1_smoke_53 : decode cX1_smoke 53 = .ok (.aload_n 0, 1) := dk_42 (dk_at dksX1_smoke_2 7 rfl rfl)
theorem dX1_smoke_54 : decode cX1_smoke 54 = .ok (.invokevirtual 122, 3) := dk_182 0 122 (dk_at dksX1_smoke_2 8 rfl rfl)
theorem dX1_smoke_57 : decode cX1_smoke 57 = .ok (.aload_n 0, 1) := dk_42 (dk_at dksX1_smoke_2 11 rfl rfl)
theorem dX1_smoke_58 : decode cX1_smoke 58 = .ok (.getfield 10, 3) := dk_180 0 10 (dk_at dksX1_smoke_2 12 rfl rfl)
theorem dX1_smoke_61 : decode cX1_smoke 61 = .ok (.getfield 93, 3) := dk_180 0 93 (dk_at dksX1_smoke_2 15 rfl rfl)
theorem dX1_smoke_64 : decode cX1_smoke 64 = .ok (.iload_n 1, 1) := dk_27 (dk_at dksX1_smoke_2 18 rfl rfl)
theorem dX1_smoke_65 : decode cX1_smoke 65 = .ok (.invokevirtual 104, 3) := dk_182 0 104 (dk_at dksX1_smoke_2 19 rfl rfl)
theorem dX1_smoke_68 : decode cX1_smoke 68 = .ok (.checkcast 108, 3) := dk_192 0 108 (dk_at dksX1_smoke_3 0 rfl rfl)
theorem dX1_smoke_71 : decode cX1_smoke 71 = .ok (.astore 4, 2) := dk_58 4 (dk_at dksX1_smoke_3 3 rfl rfl)
theorem dX1_smoke_73 : decode cX1_smoke 73 = .ok (.aload 4, 2) := dk_25 4 (dk_at dksX1_smoke_3 5 rfl rfl)
theorem dX1_smoke_75 : decode cX1_smoke 75 = .ok (.invokevirtual 243, 3) := dk_182 0 243 (dk_at dksX1_smoke_3 7 rfl rfl)
theorem dX1_smoke_78 : decode cX1_smoke 78 = .ok (.aload_n 0, 1) := dk_42 (dk_at dksX1_smoke_3 10 rfl rfl)
theorem dX1_smoke_79 : decode cX1_smoke 79 = .ok (.getfield 10, 3) := dk_180 0 10 (dk_at dksX1_smoke_3 11 rfl rfl)
theorem dX1_smoke_82 : decode cX1_smoke 82 = .ok (.dup, 1) := dk_89 (dk_at dksX1_smoke_3 14 rfl rfl)
theorem dX1_smoke_83 : decode cX1_smoke 83 = .ok (.getfield 246, 3) := dk_180 0 246 (dk_at dksX1_smoke_3 15 rfl rfl)
theorem dX1_smoke_86 : decode cX1_smoke 86 = .ok (.iconst 1, 1) := dk_4 (dk_at dksX1_smoke_3 18 rfl rfl)
theorem dX1_smoke_87 : decode cX1_smoke 87 = .ok (.iadd, 1) := dk_96 (dk_at dksX1_smoke_3 19 rfl rfl)
theorem dX1_smoke_88 : decode cX1_smoke 88 = .ok (.putfield 246, 3) := dk_181 0 246 (dk_at dksX1_smoke_3 20 rfl rfl)
theorem dX1_smoke_91 : decode cX1_smoke 91 = .ok (.aload 4, 2) := dk_25 4 (dk_at dksX1_smoke_4 0 rfl rfl)
theorem dX1_smoke_93 : decode cX1_smoke 93 = .ok (.getfield 249, 3) := dk_180 0 249 (dk_at dksX1_smoke_4 2 rfl rfl)
theorem dX1_smoke_96 : decode cX1_smoke 96 = .ok (.ireturn, 1) := dk_172 (dk_at dksX1_smoke_4 5 rfl rfl)
abbrev cX1_drop : ByteArray := prog_1_method_27_code
def yX1_drop : MethodName := ⟨RX1, "drop", "(II)I"⟩
def dkwX1_drop_1 : List UInt8 := [180, 0, 93, 27, 182, 0, 104, 192, 0, 108, 78, 45, 28, 182, 0, 252, 45, 180, 0, 255, 172]
abbrev dktX1_drop_1 : List UInt8 := dkwX1_drop_1 ++ []
def dkwX1_drop_0 : List UInt8 := [42, 27, 182, 0, 131, 87, 42, 28, 4, 16, 9, 182, 0, 114, 42, 182, 0, 122, 42, 180, 0, 10]
abbrev dktX1_drop_0 : List UInt8 := dkwX1_drop_0 ++ dktX1_drop_1
theorem dksX1_drop_0 : cX1_drop.data.toList.drop 0 = dktX1_drop_0 := by decide +kernel
theorem dksX1_drop_1 : cX1_drop.data.toList.drop 22 = dktX1_drop_1 := dk_seg dksX1_drop_0 22 rfl rfl
theorem dX1_drop_0 : decode cX1_drop 0 = .ok (.aload_n 0, 1) := dk_42 (dk_at dksX1_drop_0 0 rfl rfl)
theorem dX1_drop_1 : decode cX1_drop 1 = .ok (.iload_n 1, 1) := dk_27 (dk_at dksX1_drop_0 1 rfl rfl)
theorem dX1_drop_2 : decode cX1_drop 2 = .ok (.invokevirtual 131, 3) := dk_182 0 131 (dk_at dksX1_drop_0 2 rfl rfl)
theorem dX1_drop_5 : decode cX1_drop 5 = .ok (.pop, 1) := dk_87 (dk_at dksX1_drop_0 5 rfl rfl)
theorem dX1_drop_6 : decode cX1_drop 6 = .ok (.aload_n 0, 1) := dk_42 (dk_at dksX1_drop_0 6 rfl rfl)
theorem dX1_drop_7 : decode cX1_drop 7 = .ok (.iload_n 2, 1) := dk_28 (dk_at dksX1_drop_0 7 rfl rfl)
theorem dX1_drop_8 : decode cX1_drop 8 = .ok (.iconst 1, 1) := dk_4 (dk_at dksX1_drop_0 8 rfl rfl)
theorem dX1_drop_9 : decode cX1_drop 9 = .ok (.bipush 9, 2) := dk_16 9 (dk_at dksX1_drop_0 9 rfl rfl)
theorem dX1_drop_11 : decode cX1_drop 11 = .ok (.invokevirtual 114, 3) := dk_182 0 114 (dk_at dksX1_drop_0 11 rfl rfl)
theorem dX1_drop_14 : decode cX1_drop 14 = .ok (.aload_n 0, 1) := dk_42 (dk_at dksX1_drop_0 14 rfl rfl)
theorem dX1_drop_15 : decode cX1_drop 15 = .ok (.invokevirtual 122, 3) := dk_182 0 122 (dk_at dksX1_drop_0 15 rfl rfl)
theorem dX1_drop_18 : decode cX1_drop 18 = .ok (.aload_n 0, 1) := dk_42 (dk_at dksX1_drop_0 18 rfl rfl)
theorem dX1_drop_19 : decode cX1_drop 19 = .ok (.getfield 10, 3) := dk_180 0 10 (dk_at dksX1_drop_0 19 rfl rfl)
theorem dX1_drop_22 : decode cX1_drop 22 = .ok (.getfield 93, 3) := dk_180 0 93 (dk_at dksX1_drop_1 0 rfl rfl)
theorem dX1_drop_25 : decode cX1_drop 25 = .ok (.iload_n 1, 1) := dk_27 (dk_at dksX1_drop_1 3 rfl rfl)
theorem dX1_drop_26 : decode cX1_drop 26 = .ok (.invokevirtual 104, 3) := dk_182 0 104 (dk_at dksX1_drop_1 4 rfl rfl)
theorem dX1_drop_29 : decode cX1_drop 29 = .ok (.checkcast 108, 3) := dk_192 0 108 (dk_at dksX1_drop_1 7 rfl rfl)
theorem dX1_drop_32 : decode cX1_drop 32 = .ok (.astore_n 3, 1) := dk_78 (dk_at dksX1_drop_1 10 rfl rfl)
theorem dX1_drop_33 : decode cX1_drop 33 = .ok (.aload_n 3, 1) := dk_45 (dk_at dksX1_drop_1 11 rfl rfl)
theorem dX1_drop_34 : decode cX1_drop 34 = .ok (.iload_n 2, 1) := dk_28 (dk_at dksX1_drop_1 12 rfl rfl)
theorem dX1_drop_35 : decode cX1_drop 35 = .ok (.invokevirtual 252, 3) := dk_182 0 252 (dk_at dksX1_drop_1 13 rfl rfl)
theorem dX1_drop_38 : decode cX1_drop 38 = .ok (.aload_n 3, 1) := dk_45 (dk_at dksX1_drop_1 16 rfl rfl)
theorem dX1_drop_39 : decode cX1_drop 39 = .ok (.getfield 255, 3) := dk_180 0 255 (dk_at dksX1_drop_1 17 rfl rfl)
theorem dX1_drop_42 : decode cX1_drop 42 = .ok (.ireturn, 1) := dk_172 (dk_at dksX1_drop_1 20 rfl rfl)
abbrev cX1_parrot : ByteArray := prog_1_method_29_code
def yX1_parrot : MethodName := ⟨RX1, "parrot", "(I)I"⟩
def dkwX1_parrot_2 : List UInt8 := [172]
abbrev dktX1_parrot_2 : List UInt8 := dkwX1_parrot_2 ++ []
def dkwX1_parrot_1 : List UInt8 := [182, 0, 122, 42, 180, 0, 10, 180, 1, 8, 27, 182, 1, 16, 42, 180, 0, 10, 180, 1, 8, 182, 1, 18]
abbrev dktX1_parrot_1 : List UInt8 := dkwX1_parrot_1 ++ dktX1_parrot_2
def dkwX1_parrot_0 : List UInt8 := [42, 27, 182, 1, 5, 42, 42, 180, 0, 10, 180, 1, 8, 27, 182, 1, 12, 16, 13, 27, 182, 0, 57, 42]
abbrev dktX1_parrot_0 : List UInt8 := dkwX1_parrot_0 ++ dktX1_parrot_1
theorem dksX1_parrot_0 : cX1_parrot.data.toList.drop 0 = dktX1_parrot_0 := by decide +kernel
theorem dksX1_parrot_1 : cX1_parrot.data.toList.drop 24 = dktX1_parrot_1 := dk_seg dksX1_parrot_0 24 rfl rfl
theorem dksX1_parrot_2 : cX1_parrot.data.toList.drop 48 = dktX1_parrot_2 := dk_seg dksX1_parrot_1 24 rfl rfl
theorem dX1_parrot_0 : decode cX1_parrot 0 = .ok (.aload_n 0, 1) := dk_42 (dk_at dksX1_parrot_0 0 rfl rfl)
theorem dX1_parrot_1 : decode cX1_parrot 1 = .ok (.iload_n 1, 1) := dk_27 (dk_at dksX1_parrot_0 1 rfl rfl)
theorem dX1_parrot_2 : decode cX1_parrot 2 = .ok (.invokevirtual 261, 3) := dk_182 1 5 (dk_at dksX1_parrot_0 2 rfl rfl)
theorem dX1_parrot_5 : decode cX1_parrot 5 = .ok (.aload_n 0, 1) := dk_42 (dk_at dksX1_parrot_0 5 rfl rfl)
theorem dX1_parrot_6 : decode cX1_parrot 6 = .ok (.aload_n 0, 1) := dk_42 (dk_at dksX1_parrot_0 6 rfl rfl)
theorem dX1_parrot_7 : decode cX1_parrot 7 = .ok (.getfield 10, 3) := dk_180 0 10 (dk_at dksX1_parrot_0 7 rfl rfl)
theorem dX1_parrot_10 : decode cX1_parrot 10 = .ok (.getfield 264, 3) := dk_180 1 8 (dk_at dksX1_parrot_0 10 rfl rfl)
theorem dX1_parrot_13 : decode cX1_parrot 13 = .ok (.iload_n 1, 1) := dk_27 (dk_at dksX1_parrot_0 13 rfl rfl)
theorem dX1_parrot_14 : decode cX1_parrot 14 = .ok (.invokevirtual 268, 3) := dk_182 1 12 (dk_at dksX1_parrot_0 14 rfl rfl)
theorem dX1_parrot_17 : decode cX1_parrot 17 = .ok (.bipush 13, 2) := dk_16 13 (dk_at dksX1_parrot_0 17 rfl rfl)
theorem dX1_parrot_19 : decode cX1_parrot 19 = .ok (.iload_n 1, 1) := dk_27 (dk_at dksX1_parrot_0 19 rfl rfl)
theorem dX1_parrot_20 : decode cX1_parrot 20 = .ok (.invokevirtual 57, 3) := dk_182 0 57 (dk_at dksX1_parrot_0 20 rfl rfl)
theorem dX1_parrot_23 : decode cX1_parrot 23 = .ok (.aload_n 0, 1) := dk_42 (dk_at dksX1_parrot_0 23 rfl rfl)
theorem dX1_parrot_24 : decode cX1_parrot 24 = .ok (.invokevirtual 122, 3) := dk_182 0 122 (dk_at dksX1_parrot_1 0 rfl rfl)
theorem dX1_parrot_27 : decode cX1_parrot 27 = .ok (.aload_n 0, 1) := dk_42 (dk_at dksX1_parrot_1 3 rfl rfl)
theorem dX1_parrot_28 : decode cX1_parrot 28 = .ok (.getfield 10, 3) := dk_180 0 10 (dk_at dksX1_parrot_1 4 rfl rfl)
theorem dX1_parrot_31 : decode cX1_parrot 31 = .ok (.getfield 264, 3) := dk_180 1 8 (dk_at dksX1_parrot_1 7 rfl rfl)
theorem dX1_parrot_34 : decode cX1_parrot 34 = .ok (.iload_n 1, 1) := dk_27 (dk_at dksX1_parrot_1 10 rfl rfl)
theorem dX1_parrot_35 : decode cX1_parrot 35 = .ok (.invokevirtual 272, 3) := dk_182 1 16 (dk_at dksX1_parrot_1 11 rfl rfl)
theorem dX1_parrot_38 : decode cX1_parrot 38 = .ok (.aload_n 0, 1) := dk_42 (dk_at dksX1_parrot_1 14 rfl rfl)
theorem dX1_parrot_39 : decode cX1_parrot 39 = .ok (.getfield 10, 3) := dk_180 0 10 (dk_at dksX1_parrot_1 15 rfl rfl)
theorem dX1_parrot_42 : decode cX1_parrot 42 = .ok (.getfield 264, 3) := dk_180 1 8 (dk_at dksX1_parrot_1 18 rfl rfl)
theorem dX1_parrot_45 : decode cX1_parrot 45 = .ok (.invokevirtual 274, 3) := dk_182 1 18 (dk_at dksX1_parrot_1 21 rfl rfl)
theorem dX1_parrot_48 : decode cX1_parrot 48 = .ok (.ireturn, 1) := dk_172 (dk_at dksX1_parrot_2 0 rfl rfl)
abbrev cX1_perchFor : ByteArray := prog_1_method_28_code
def yX1_perchFor : MethodName := ⟨RX1, "perchFor", "(I)V"⟩
def dkwX1_perchFor_0 : List UInt8 := [42, 27, 184, 1, 2, 154, 0, 7, 4, 167, 0, 4, 3, 5, 27, 182, 0, 57, 177]
abbrev dktX1_perchFor_0 : List UInt8 := dkwX1_perchFor_0 ++ []
theorem dksX1_perchFor_0 : cX1_perchFor.data.toList.drop 0 = dktX1_perchFor_0 := by decide +kernel
theorem dX1_perchFor_0 : decode cX1_perchFor 0 = .ok (.aload_n 0, 1) := dk_42 (dk_at dksX1_perchFor_0 0 rfl rfl)
theorem dX1_perchFor_1 : decode cX1_perchFor 1 = .ok (.iload_n 1, 1) := dk_27 (dk_at dksX1_perchFor_0 1 rfl rfl)
theorem dX1_perchFor_2 : decode cX1_perchFor 2 = .ok (.invokestatic 258, 3) := dk_184 1 2 (dk_at dksX1_perchFor_0 2 rfl rfl)
theorem dX1_perchFor_5 : decode cX1_perchFor 5 = .ok (.ifCond .ne 7, 3) := dk_154 0 7 (dk_at dksX1_perchFor_0 5 rfl rfl)
theorem dX1_perchFor_8 : decode cX1_perchFor 8 = .ok (.iconst 1, 1) := dk_4 (dk_at dksX1_perchFor_0 8 rfl rfl)
theorem dX1_perchFor_9 : decode cX1_perchFor 9 = .ok (.goto 4, 3) := dk_167 0 4 (dk_at dksX1_perchFor_0 9 rfl rfl)
theorem dX1_perchFor_12 : decode cX1_perchFor 12 = .ok (.iconst 0, 1) := dk_3 (dk_at dksX1_perchFor_0 12 rfl rfl)
theorem dX1_perchFor_13 : decode cX1_perchFor 13 = .ok (.iconst 2, 1) := dk_5 (dk_at dksX1_perchFor_0 13 rfl rfl)
theorem dX1_perchFor_14 : decode cX1_perchFor 14 = .ok (.iload_n 1, 1) := dk_27 (dk_at dksX1_perchFor_0 14 rfl rfl)
theorem dX1_perchFor_15 : decode cX1_perchFor 15 = .ok (.invokevirtual 57, 3) := dk_182 0 57 (dk_at dksX1_perchFor_0 15 rfl rfl)
theorem dX1_perchFor_18 : decode cX1_perchFor 18 = .ok (.return_, 1) := dk_177 (dk_at dksX1_perchFor_0 18 rfl rfl)
abbrev cX1_isPerch : ByteArray := prog_1_method_13_code
def yX1_isPerch : MethodName := ⟨RX1, "isPerch", "(I)Z"⟩
def dkwX1_isPerch_0 : List UInt8 := [26, 3, 16, 7, 184, 0, 53, 172]
abbrev dktX1_isPerch_0 : List UInt8 := dkwX1_isPerch_0 ++ []
theorem dksX1_isPerch_0 : cX1_isPerch.data.toList.drop 0 = dktX1_isPerch_0 := by decide +kernel
theorem dX1_isPerch_0 : decode cX1_isPerch 0 = .ok (.iload_n 0, 1) := dk_26 (dk_at dksX1_isPerch_0 0 rfl rfl)
theorem dX1_isPerch_1 : decode cX1_isPerch 1 = .ok (.iconst 0, 1) := dk_3 (dk_at dksX1_isPerch_0 1 rfl rfl)
theorem dX1_isPerch_2 : decode cX1_isPerch 2 = .ok (.bipush 7, 2) := dk_16 7 (dk_at dksX1_isPerch_0 2 rfl rfl)
theorem dX1_isPerch_4 : decode cX1_isPerch 4 = .ok (.invokestatic 53, 3) := dk_184 0 53 (dk_at dksX1_isPerch_0 4 rfl rfl)
theorem dX1_isPerch_7 : decode cX1_isPerch 7 = .ok (.ireturn, 1) := dk_172 (dk_at dksX1_isPerch_0 7 rfl rfl)
abbrev cX1_scare : ByteArray := prog_1_method_30_code
def yX1_scare : MethodName := ⟨RX1, "scare", "(I)I"⟩
def dkwX1_scare_3 : List UInt8 := [182, 1, 24, 42, 180, 0, 10, 180, 1, 8, 28, 182, 1, 16, 28, 172]
abbrev dktX1_scare_3 : List UInt8 := dkwX1_scare_3 ++ []
def dkwX1_scare_2 : List UInt8 := [167, 0, 4, 3, 16, 15, 16, 8, 182, 0, 57, 42, 182, 0, 122, 42, 180, 0, 10, 180, 1, 8, 27]
abbrev dktX1_scare_2 : List UInt8 := dkwX1_scare_2 ++ dktX1_scare_3
def dkwX1_scare_1 : List UInt8 := [3, 16, 14, 27, 182, 0, 57, 42, 180, 0, 10, 27, 182, 1, 21, 61, 42, 28, 2, 160, 0, 7, 4]
abbrev dktX1_scare_1 : List UInt8 := dkwX1_scare_1 ++ dktX1_scare_2
def dkwX1_scare_0 : List UInt8 := [42, 27, 182, 1, 5, 42, 42, 180, 0, 10, 180, 1, 8, 27, 182, 1, 12, 154, 0, 7, 4, 167, 0, 4]
abbrev dktX1_scare_0 : List UInt8 := dkwX1_scare_0 ++ dktX1_scare_1
theorem dksX1_scare_0 : cX1_scare.data.toList.drop 0 = dktX1_scare_0 := by decide +kernel
theorem dksX1_scare_1 : cX1_scare.data.toList.drop 24 = dktX1_scare_1 := dk_seg dksX1_scare_0 24 rfl rfl
theorem dksX1_scare_2 : cX1_scare.data.toList.drop 47 = dktX1_scare_2 := dk_seg dksX1_scare_1 23 rfl rfl
theorem dksX1_scare_3 : cX1_scare.data.toList.drop 70 = dktX1_scare_3 := dk_seg dksX1_scare_2 23 rfl rfl
theorem dX1_scare_0 : decode cX1_scare 0 = .ok (.aload_n 0, 1) := dk_42 (dk_at dksX1_scare_0 0 rfl rfl)
theorem dX1_scare_1 : decode cX1_scare 1 = .ok (.iload_n 1, 1) := dk_27 (dk_at dksX1_scare_0 1 rfl rfl)
theorem dX1_scare_2 : decode cX1_scare 2 = .ok (.invokevirtual 261, 3) := dk_182 1 5 (dk_at dksX1_scare_0 2 rfl rfl)
theorem dX1_scare_5 : decode cX1_scare 5 = .ok (.aload_n 0, 1) := dk_42 (dk_at dksX1_scare_0 5 rfl rfl)
theorem dX1_scare_6 : decode cX1_scare 6 = .ok (.aload_n 0, 1) := dk_42 (dk_at dksX1_scare_0 6 rfl rfl)
theorem dX1_scare_7 : decode cX1_scare 7 = .ok (.getfield 10, 3) := dk_180 0 10 (dk_at dksX1_scare_0 7 rfl rfl)
theorem dX1_scare_10 : decode cX1_scare 10 = .ok (.getfield 264, 3) := dk_180 1 8 (dk_at dksX1_scare_0 10 rfl rfl)
theorem dX1_scare_13 : decode cX1_scare 13 = .ok (.iload_n 1, 1) := dk_27 (dk_at dksX1_scare_0 13 rfl rfl)
theorem dX1_scare_14 : decode cX1_scare 14 = .ok (.invokevirtual 268, 3) := dk_182 1 12 (dk_at dksX1_scare_0 14 rfl rfl)
theorem dX1_scare_17 : decode cX1_scare 17 = .ok (.ifCond .ne 7, 3) := dk_154 0 7 (dk_at dksX1_scare_0 17 rfl rfl)
theorem dX1_scare_20 : decode cX1_scare 20 = .ok (.iconst 1, 1) := dk_4 (dk_at dksX1_scare_0 20 rfl rfl)
theorem dX1_scare_21 : decode cX1_scare 21 = .ok (.goto 4, 3) := dk_167 0 4 (dk_at dksX1_scare_0 21 rfl rfl)
theorem dX1_scare_24 : decode cX1_scare 24 = .ok (.iconst 0, 1) := dk_3 (dk_at dksX1_scare_1 0 rfl rfl)
theorem dX1_scare_25 : decode cX1_scare 25 = .ok (.bipush 14, 2) := dk_16 14 (dk_at dksX1_scare_1 1 rfl rfl)
theorem dX1_scare_27 : decode cX1_scare 27 = .ok (.iload_n 1, 1) := dk_27 (dk_at dksX1_scare_1 3 rfl rfl)
theorem dX1_scare_28 : decode cX1_scare 28 = .ok (.invokevirtual 57, 3) := dk_182 0 57 (dk_at dksX1_scare_1 4 rfl rfl)
theorem dX1_scare_31 : decode cX1_scare 31 = .ok (.aload_n 0, 1) := dk_42 (dk_at dksX1_scare_1 7 rfl rfl)
theorem dX1_scare_32 : decode cX1_scare 32 = .ok (.getfield 10, 3) := dk_180 0 10 (dk_at dksX1_scare_1 8 rfl rfl)
theorem dX1_scare_35 : decode cX1_scare 35 = .ok (.iload_n 1, 1) := dk_27 (dk_at dksX1_scare_1 11 rfl rfl)
theorem dX1_scare_36 : decode cX1_scare 36 = .ok (.invokevirtual 277, 3) := dk_182 1 21 (dk_at dksX1_scare_1 12 rfl rfl)
theorem dX1_scare_39 : decode cX1_scare 39 = .ok (.istore_n 2, 1) := dk_61 (dk_at dksX1_scare_1 15 rfl rfl)
theorem dX1_scare_40 : decode cX1_scare 40 = .ok (.aload_n 0, 1) := dk_42 (dk_at dksX1_scare_1 16 rfl rfl)
theorem dX1_scare_41 : decode cX1_scare 41 = .ok (.iload_n 2, 1) := dk_28 (dk_at dksX1_scare_1 17 rfl rfl)
theorem dX1_scare_42 : decode cX1_scare 42 = .ok (.iconst (-1), 1) := dk_2 (dk_at dksX1_scare_1 18 rfl rfl)
theorem dX1_scare_43 : decode cX1_scare 43 = .ok (.if_icmp .ne 7, 3) := dk_160 0 7 (dk_at dksX1_scare_1 19 rfl rfl)
theorem dX1_scare_46 : decode cX1_scare 46 = .ok (.iconst 1, 1) := dk_4 (dk_at dksX1_scare_1 22 rfl rfl)
theorem dX1_scare_47 : decode cX1_scare 47 = .ok (.goto 4, 3) := dk_167 0 4 (dk_at dksX1_scare_2 0 rfl rfl)
theorem dX1_scare_50 : decode cX1_scare 50 = .ok (.iconst 0, 1) := dk_3 (dk_at dksX1_scare_2 3 rfl rfl)
theorem dX1_scare_51 : decode cX1_scare 51 = .ok (.bipush 15, 2) := dk_16 15 (dk_at dksX1_scare_2 4 rfl rfl)
theorem dX1_scare_53 : decode cX1_scare 53 = .ok (.bipush 8, 2) := dk_16 8 (dk_at dksX1_scare_2 6 rfl rfl)
theorem dX1_scare_55 : decode cX1_scare 55 = .ok (.invokevirtual 57, 3) := dk_182 0 57 (dk_at dksX1_scare_2 8 rfl rfl)
theorem dX1_scare_58 : decode cX1_scare 58 = .ok (.aload_n 0, 1) := dk_42 (dk_at dksX1_scare_2 11 rfl rfl)
theorem dX1_scare_59 : decode cX1_scare 59 = .ok (.invokevirtual 122, 3) := dk_182 0 122 (dk_at dksX1_scare_2 12 rfl rfl)
theorem dX1_scare_62 : decode cX1_scare 62 = .ok (.aload_n 0, 1) := dk_42 (dk_at dksX1_scare_2 15 rfl rfl)
theorem dX1_scare_63 : decode cX1_scare 63 = .ok (.getfield 10, 3) := dk_180 0 10 (dk_at dksX1_scare_2 16 rfl rfl)
theorem dX1_scare_66 : decode cX1_scare 66 = .ok (.getfield 264, 3) := dk_180 1 8 (dk_at dksX1_scare_2 19 rfl rfl)
theorem dX1_scare_69 : decode cX1_scare 69 = .ok (.iload_n 1, 1) := dk_27 (dk_at dksX1_scare_2 22 rfl rfl)
theorem dX1_scare_70 : decode cX1_scare 70 = .ok (.invokevirtual 280, 3) := dk_182 1 24 (dk_at dksX1_scare_3 0 rfl rfl)
theorem dX1_scare_73 : decode cX1_scare 73 = .ok (.aload_n 0, 1) := dk_42 (dk_at dksX1_scare_3 3 rfl rfl)
theorem dX1_scare_74 : decode cX1_scare 74 = .ok (.getfield 10, 3) := dk_180 0 10 (dk_at dksX1_scare_3 4 rfl rfl)
theorem dX1_scare_77 : decode cX1_scare 77 = .ok (.getfield 264, 3) := dk_180 1 8 (dk_at dksX1_scare_3 7 rfl rfl)
theorem dX1_scare_80 : decode cX1_scare 80 = .ok (.iload_n 2, 1) := dk_28 (dk_at dksX1_scare_3 10 rfl rfl)
theorem dX1_scare_81 : decode cX1_scare 81 = .ok (.invokevirtual 272, 3) := dk_182 1 16 (dk_at dksX1_scare_3 11 rfl rfl)
theorem dX1_scare_84 : decode cX1_scare 84 = .ok (.iload_n 2, 1) := dk_28 (dk_at dksX1_scare_3 14 rfl rfl)
theorem dX1_scare_85 : decode cX1_scare 85 = .ok (.ireturn, 1) := dk_172 (dk_at dksX1_scare_3 15 rfl rfl)
abbrev cX1_curfew : ByteArray := prog_1_method_31_code
def yX1_curfew : MethodName := ⟨RX1, "curfew", "(I)I"⟩
def dkwX1_curfew_1 : List UInt8 := [180, 0, 10, 27, 181, 1, 27, 28, 172]
abbrev dktX1_curfew_1 : List UInt8 := dkwX1_curfew_1 ++ []
def dkwX1_curfew_0 : List UInt8 := [42, 27, 16, 18, 16, 23, 182, 0, 114, 42, 182, 0, 122, 42, 180, 0, 10, 180, 1, 27, 61, 42]
abbrev dktX1_curfew_0 : List UInt8 := dkwX1_curfew_0 ++ dktX1_curfew_1
theorem dksX1_curfew_0 : cX1_curfew.data.toList.drop 0 = dktX1_curfew_0 := by decide +kernel
theorem dksX1_curfew_1 : cX1_curfew.data.toList.drop 22 = dktX1_curfew_1 := dk_seg dksX1_curfew_0 22 rfl rfl
theorem dX1_curfew_0 : decode cX1_curfew 0 = .ok (.aload_n 0, 1) := dk_42 (dk_at dksX1_curfew_0 0 rfl rfl)
theorem dX1_curfew_1 : decode cX1_curfew 1 = .ok (.iload_n 1, 1) := dk_27 (dk_at dksX1_curfew_0 1 rfl rfl)
theorem dX1_curfew_2 : decode cX1_curfew 2 = .ok (.bipush 18, 2) := dk_16 18 (dk_at dksX1_curfew_0 2 rfl rfl)
theorem dX1_curfew_4 : decode cX1_curfew 4 = .ok (.bipush 23, 2) := dk_16 23 (dk_at dksX1_curfew_0 4 rfl rfl)
theorem dX1_curfew_6 : decode cX1_curfew 6 = .ok (.invokevirtual 114, 3) := dk_182 0 114 (dk_at dksX1_curfew_0 6 rfl rfl)
theorem dX1_curfew_9 : decode cX1_curfew 9 = .ok (.aload_n 0, 1) := dk_42 (dk_at dksX1_curfew_0 9 rfl rfl)
theorem dX1_curfew_10 : decode cX1_curfew 10 = .ok (.invokevirtual 122, 3) := dk_182 0 122 (dk_at dksX1_curfew_0 10 rfl rfl)
theorem dX1_curfew_13 : decode cX1_curfew 13 = .ok (.aload_n 0, 1) := dk_42 (dk_at dksX1_curfew_0 13 rfl rfl)
theorem dX1_curfew_14 : decode cX1_curfew 14 = .ok (.getfield 10, 3) := dk_180 0 10 (dk_at dksX1_curfew_0 14 rfl rfl)
theorem dX1_curfew_17 : decode cX1_curfew 17 = .ok (.getfield 283, 3) := dk_180 1 27 (dk_at dksX1_curfew_0 17 rfl rfl)
theorem dX1_curfew_20 : decode cX1_curfew 20 = .ok (.istore_n 2, 1) := dk_61 (dk_at dksX1_curfew_0 20 rfl rfl)
theorem dX1_curfew_21 : decode cX1_curfew 21 = .ok (.aload_n 0, 1) := dk_42 (dk_at dksX1_curfew_0 21 rfl rfl)
theorem dX1_curfew_22 : decode cX1_curfew 22 = .ok (.getfield 10, 3) := dk_180 0 10 (dk_at dksX1_curfew_1 0 rfl rfl)
theorem dX1_curfew_25 : decode cX1_curfew 25 = .ok (.iload_n 1, 1) := dk_27 (dk_at dksX1_curfew_1 3 rfl rfl)
theorem dX1_curfew_26 : decode cX1_curfew 26 = .ok (.putfield 283, 3) := dk_181 1 27 (dk_at dksX1_curfew_1 4 rfl rfl)
theorem dX1_curfew_29 : decode cX1_curfew 29 = .ok (.iload_n 2, 1) := dk_28 (dk_at dksX1_curfew_1 7 rfl rfl)
theorem dX1_curfew_30 : decode cX1_curfew 30 = .ok (.ireturn, 1) := dk_172 (dk_at dksX1_curfew_1 8 rfl rfl)
abbrev cX1_hour : ByteArray := prog_1_method_32_code
def yX1_hour : MethodName := ⟨RX1, "hour", "(I)I"⟩
def dkwX1_hour_1 : List UInt8 := [180, 0, 10, 182, 1, 30, 96, 61, 132, 3, 1, 167, 255, 238, 28, 172]
abbrev dktX1_hour_1 : List UInt8 := dkwX1_hour_1 ++ []
def dkwX1_hour_0 : List UInt8 := [42, 27, 4, 16, 48, 182, 0, 114, 42, 182, 0, 122, 3, 61, 3, 62, 29, 27, 162, 0, 19, 28, 42]
abbrev dktX1_hour_0 : List UInt8 := dkwX1_hour_0 ++ dktX1_hour_1
theorem dksX1_hour_0 : cX1_hour.data.toList.drop 0 = dktX1_hour_0 := by decide +kernel
theorem dksX1_hour_1 : cX1_hour.data.toList.drop 23 = dktX1_hour_1 := dk_seg dksX1_hour_0 23 rfl rfl
theorem dX1_hour_0 : decode cX1_hour 0 = .ok (.aload_n 0, 1) := dk_42 (dk_at dksX1_hour_0 0 rfl rfl)
theorem dX1_hour_1 : decode cX1_hour 1 = .ok (.iload_n 1, 1) := dk_27 (dk_at dksX1_hour_0 1 rfl rfl)
theorem dX1_hour_2 : decode cX1_hour 2 = .ok (.iconst 1, 1) := dk_4 (dk_at dksX1_hour_0 2 rfl rfl)
theorem dX1_hour_3 : decode cX1_hour 3 = .ok (.bipush 48, 2) := dk_16 48 (dk_at dksX1_hour_0 3 rfl rfl)
theorem dX1_hour_5 : decode cX1_hour 5 = .ok (.invokevirtual 114, 3) := dk_182 0 114 (dk_at dksX1_hour_0 5 rfl rfl)
theorem dX1_hour_8 : decode cX1_hour 8 = .ok (.aload_n 0, 1) := dk_42 (dk_at dksX1_hour_0 8 rfl rfl)
theorem dX1_hour_9 : decode cX1_hour 9 = .ok (.invokevirtual 122, 3) := dk_182 0 122 (dk_at dksX1_hour_0 9 rfl rfl)
theorem dX1_hour_12 : decode cX1_hour 12 = .ok (.iconst 0, 1) := dk_3 (dk_at dksX1_hour_0 12 rfl rfl)
theorem dX1_hour_13 : decode cX1_hour 13 = .ok (.istore_n 2, 1) := dk_61 (dk_at dksX1_hour_0 13 rfl rfl)
theorem dX1_hour_14 : decode cX1_hour 14 = .ok (.iconst 0, 1) := dk_3 (dk_at dksX1_hour_0 14 rfl rfl)
theorem dX1_hour_15 : decode cX1_hour 15 = .ok (.istore_n 3, 1) := dk_62 (dk_at dksX1_hour_0 15 rfl rfl)
theorem dX1_hour_16 : decode cX1_hour 16 = .ok (.iload_n 3, 1) := dk_29 (dk_at dksX1_hour_0 16 rfl rfl)
theorem dX1_hour_17 : decode cX1_hour 17 = .ok (.iload_n 1, 1) := dk_27 (dk_at dksX1_hour_0 17 rfl rfl)
theorem dX1_hour_18 : decode cX1_hour 18 = .ok (.if_icmp .ge 19, 3) := dk_162 0 19 (dk_at dksX1_hour_0 18 rfl rfl)
theorem dX1_hour_21 : decode cX1_hour 21 = .ok (.iload_n 2, 1) := dk_28 (dk_at dksX1_hour_0 21 rfl rfl)
theorem dX1_hour_22 : decode cX1_hour 22 = .ok (.aload_n 0, 1) := dk_42 (dk_at dksX1_hour_0 22 rfl rfl)
theorem dX1_hour_23 : decode cX1_hour 23 = .ok (.getfield 10, 3) := dk_180 0 10 (dk_at dksX1_hour_1 0 rfl rfl)
theorem dX1_hour_26 : decode cX1_hour 26 = .ok (.invokevirtual 286, 3) := dk_182 1 30 (dk_at dksX1_hour_1 3 rfl rfl)
theorem dX1_hour_29 : decode cX1_hour 29 = .ok (.iadd, 1) := dk_96 (dk_at dksX1_hour_1 6 rfl rfl)
theorem dX1_hour_30 : decode cX1_hour 30 = .ok (.istore_n 2, 1) := dk_61 (dk_at dksX1_hour_1 7 rfl rfl)
theorem dX1_hour_31 : decode cX1_hour 31 = .ok (.iinc 3 1, 3) := dk_132 3 1 (dk_at dksX1_hour_1 8 rfl rfl)
theorem dX1_hour_34 : decode cX1_hour 34 = .ok (.goto (-18), 3) := dk_167 255 238 (dk_at dksX1_hour_1 11 rfl rfl)
theorem dX1_hour_37 : decode cX1_hour 37 = .ok (.iload_n 2, 1) := dk_28 (dk_at dksX1_hour_1 14 rfl rfl)
theorem dX1_hour_38 : decode cX1_hour 38 = .ok (.ireturn, 1) := dk_172 (dk_at dksX1_hour_1 15 rfl rfl)
abbrev cX1_pipeOf : ByteArray := prog_1_method_33_code
def yX1_pipeOf : MethodName := ⟨RX1, "pipeOf", "(II)I"⟩
def dkwX1_pipeOf_3 : List UInt8 := [45, 180, 1, 39, 172, 45, 180, 1, 42, 172]
abbrev dktX1_pipeOf_3 : List UInt8 := dkwX1_pipeOf_3 ++ []
def dkwX1_pipeOf_2 : List UInt8 := [45, 180, 0, 234, 172, 45, 180, 0, 255, 172, 45, 180, 0, 249, 172, 42, 180, 0, 10, 27, 182, 0, 135, 172]
abbrev dktX1_pipeOf_2 : List UInt8 := dkwX1_pipeOf_2 ++ dktX1_pipeOf_3
def dkwX1_pipeOf_1 : List UInt8 := [170, 0, 0, 0, 0, 0, 0, 65, 0, 0, 0, 0, 0, 0, 0, 4, 0, 0, 0, 36, 0, 0, 0, 41, 0, 0, 0, 46, 0, 0, 0, 51, 0, 0, 0, 60]
abbrev dktX1_pipeOf_1 : List UInt8 := dkwX1_pipeOf_1 ++ dktX1_pipeOf_2
def dkwX1_pipeOf_0 : List UInt8 := [42, 27, 182, 1, 33, 78, 28, 3, 8, 184, 0, 53, 184, 1, 36, 28]
abbrev dktX1_pipeOf_0 : List UInt8 := dkwX1_pipeOf_0 ++ dktX1_pipeOf_1
theorem dksX1_pipeOf_0 : cX1_pipeOf.data.toList.drop 0 = dktX1_pipeOf_0 := by decide +kernel
theorem dksX1_pipeOf_1 : cX1_pipeOf.data.toList.drop 16 = dktX1_pipeOf_1 := dk_seg dksX1_pipeOf_0 16 rfl rfl
theorem dksX1_pipeOf_2 : cX1_pipeOf.data.toList.drop 52 = dktX1_pipeOf_2 := dk_seg dksX1_pipeOf_1 36 rfl rfl
theorem dksX1_pipeOf_3 : cX1_pipeOf.data.toList.drop 76 = dktX1_pipeOf_3 := dk_seg dksX1_pipeOf_2 24 rfl rfl
theorem dX1_pipeOf_0 : decode cX1_pipeOf 0 = .ok (.aload_n 0, 1) := dk_42 (dk_at dksX1_pipeOf_0 0 rfl rfl)
theorem dX1_pipeOf_1 : decode cX1_pipeOf 1 = .ok (.iload_n 1, 1) := dk_27 (dk_at dksX1_pipeOf_0 1 rfl rfl)
theorem dX1_pipeOf_2 : decode cX1_pipeOf 2 = .ok (.invokevirtual 289, 3) := dk_182 1 33 (dk_at dksX1_pipeOf_0 2 rfl rfl)
theorem dX1_pipeOf_5 : decode cX1_pipeOf 5 = .ok (.astore_n 3, 1) := dk_78 (dk_at dksX1_pipeOf_0 5 rfl rfl)
theorem dX1_pipeOf_6 : decode cX1_pipeOf 6 = .ok (.iload_n 2, 1) := dk_28 (dk_at dksX1_pipeOf_0 6 rfl rfl)
theorem dX1_pipeOf_7 : decode cX1_pipeOf 7 = .ok (.iconst 0, 1) := dk_3 (dk_at dksX1_pipeOf_0 7 rfl rfl)
theorem dX1_pipeOf_8 : decode cX1_pipeOf 8 = .ok (.iconst 5, 1) := dk_8 (dk_at dksX1_pipeOf_0 8 rfl rfl)
theorem dX1_pipeOf_9 : decode cX1_pipeOf 9 = .ok (.invokestatic 53, 3) := dk_184 0 53 (dk_at dksX1_pipeOf_0 9 rfl rfl)
theorem dX1_pipeOf_12 : decode cX1_pipeOf 12 = .ok (.invokestatic 292, 3) := dk_184 1 36 (dk_at dksX1_pipeOf_0 12 rfl rfl)
theorem dX1_pipeOf_15 : decode cX1_pipeOf 15 = .ok (.iload_n 2, 1) := dk_28 (dk_at dksX1_pipeOf_0 15 rfl rfl)
theorem dX1_pipeOf_16 : decode cX1_pipeOf 16 = .ok (.tableswitch 65 0 4 #[36, 41, 46, 51, 60], 36) := by decide +kernel
theorem dX1_pipeOf_52 : decode cX1_pipeOf 52 = .ok (.aload_n 3, 1) := dk_45 (dk_at dksX1_pipeOf_2 0 rfl rfl)
theorem dX1_pipeOf_53 : decode cX1_pipeOf 53 = .ok (.getfield 234, 3) := dk_180 0 234 (dk_at dksX1_pipeOf_2 1 rfl rfl)
theorem dX1_pipeOf_56 : decode cX1_pipeOf 56 = .ok (.ireturn, 1) := dk_172 (dk_at dksX1_pipeOf_2 4 rfl rfl)
theorem dX1_pipeOf_57 : decode cX1_pipeOf 57 = .ok (.aload_n 3, 1) := dk_45 (dk_at dksX1_pipeOf_2 5 rfl rfl)
theorem dX1_pipeOf_58 : decode cX1_pipeOf 58 = .ok (.getfield 255, 3) := dk_180 0 255 (dk_at dksX1_pipeOf_2 6 rfl rfl)
theorem dX1_pipeOf_61 : decode cX1_pipeOf 61 = .ok (.ireturn, 1) := dk_172 (dk_at dksX1_pipeOf_2 9 rfl rfl)
theorem dX1_pipeOf_62 : decode cX1_pipeOf 62 = .ok (.aload_n 3, 1) := dk_45 (dk_at dksX1_pipeOf_2 10 rfl rfl)
theorem dX1_pipeOf_63 : decode cX1_pipeOf 63 = .ok (.getfield 249, 3) := dk_180 0 249 (dk_at dksX1_pipeOf_2 11 rfl rfl)
theorem dX1_pipeOf_66 : decode cX1_pipeOf 66 = .ok (.ireturn, 1) := dk_172 (dk_at dksX1_pipeOf_2 14 rfl rfl)
theorem dX1_pipeOf_67 : decode cX1_pipeOf 67 = .ok (.aload_n 0, 1) := dk_42 (dk_at dksX1_pipeOf_2 15 rfl rfl)
theorem dX1_pipeOf_68 : decode cX1_pipeOf 68 = .ok (.getfield 10, 3) := dk_180 0 10 (dk_at dksX1_pipeOf_2 16 rfl rfl)
theorem dX1_pipeOf_71 : decode cX1_pipeOf 71 = .ok (.iload_n 1, 1) := dk_27 (dk_at dksX1_pipeOf_2 19 rfl rfl)
theorem dX1_pipeOf_72 : decode cX1_pipeOf 72 = .ok (.invokevirtual 135, 3) := dk_182 0 135 (dk_at dksX1_pipeOf_2 20 rfl rfl)
theorem dX1_pipeOf_75 : decode cX1_pipeOf 75 = .ok (.ireturn, 1) := dk_172 (dk_at dksX1_pipeOf_2 23 rfl rfl)
theorem dX1_pipeOf_76 : decode cX1_pipeOf 76 = .ok (.aload_n 3, 1) := dk_45 (dk_at dksX1_pipeOf_3 0 rfl rfl)
theorem dX1_pipeOf_77 : decode cX1_pipeOf 77 = .ok (.getfield 295, 3) := dk_180 1 39 (dk_at dksX1_pipeOf_3 1 rfl rfl)
theorem dX1_pipeOf_80 : decode cX1_pipeOf 80 = .ok (.ireturn, 1) := dk_172 (dk_at dksX1_pipeOf_3 4 rfl rfl)
theorem dX1_pipeOf_81 : decode cX1_pipeOf 81 = .ok (.aload_n 3, 1) := dk_45 (dk_at dksX1_pipeOf_3 5 rfl rfl)
theorem dX1_pipeOf_82 : decode cX1_pipeOf 82 = .ok (.getfield 298, 3) := dk_180 1 42 (dk_at dksX1_pipeOf_3 6 rfl rfl)
theorem dX1_pipeOf_85 : decode cX1_pipeOf 85 = .ok (.ireturn, 1) := dk_172 (dk_at dksX1_pipeOf_3 9 rfl rfl)
abbrev cX1_pipe0 : ByteArray := prog_1_method_15_code
def yX1_pipe0 : MethodName := ⟨RX1, "pipe0", "(I)LClayPipes$Pipe;"⟩
def dkwX1_pipe0_0 : List UInt8 := [42, 27, 182, 0, 100, 184, 0, 110, 42, 180, 0, 10, 180, 0, 93, 27, 182, 0, 104, 192, 0, 108, 176]
abbrev dktX1_pipe0_0 : List UInt8 := dkwX1_pipe0_0 ++ []
theorem dksX1_pipe0_0 : cX1_pipe0.data.toList.drop 0 = dktX1_pipe0_0 := by decide +kernel
theorem dX1_pipe0_0 : decode cX1_pipe0 0 = .ok (.aload_n 0, 1) := dk_42 (dk_at dksX1_pipe0_0 0 rfl rfl)
theorem dX1_pipe0_1 : decode cX1_pipe0 1 = .ok (.iload_n 1, 1) := dk_27 (dk_at dksX1_pipe0_0 1 rfl rfl)
theorem dX1_pipe0_2 : decode cX1_pipe0 2 = .ok (.invokevirtual 100, 3) := dk_182 0 100 (dk_at dksX1_pipe0_0 2 rfl rfl)
theorem dX1_pipe0_5 : decode cX1_pipe0 5 = .ok (.invokestatic 110, 3) := dk_184 0 110 (dk_at dksX1_pipe0_0 5 rfl rfl)
theorem dX1_pipe0_8 : decode cX1_pipe0 8 = .ok (.aload_n 0, 1) := dk_42 (dk_at dksX1_pipe0_0 8 rfl rfl)
theorem dX1_pipe0_9 : decode cX1_pipe0 9 = .ok (.getfield 10, 3) := dk_180 0 10 (dk_at dksX1_pipe0_0 9 rfl rfl)
theorem dX1_pipe0_12 : decode cX1_pipe0 12 = .ok (.getfield 93, 3) := dk_180 0 93 (dk_at dksX1_pipe0_0 12 rfl rfl)
theorem dX1_pipe0_15 : decode cX1_pipe0 15 = .ok (.iload_n 1, 1) := dk_27 (dk_at dksX1_pipe0_0 15 rfl rfl)
theorem dX1_pipe0_16 : decode cX1_pipe0 16 = .ok (.invokevirtual 104, 3) := dk_182 0 104 (dk_at dksX1_pipe0_0 16 rfl rfl)
theorem dX1_pipe0_19 : decode cX1_pipe0 19 = .ok (.checkcast 108, 3) := dk_192 0 108 (dk_at dksX1_pipe0_0 19 rfl rfl)
theorem dX1_pipe0_22 : decode cX1_pipe0 22 = .ok (.areturn, 1) := dk_176 (dk_at dksX1_pipe0_0 22 rfl rfl)
abbrev cX1_checkIndex : ByteArray := prog_1_method_8_code
def yX1_checkIndex : MethodName := ⟨RX1, "checkIndex", "(Z)V"⟩
def dkwX1_checkIndex_0 : List UInt8 := [26, 154, 0, 11, 187, 0, 64, 89, 183, 0, 66, 191, 177]
abbrev dktX1_checkIndex_0 : List UInt8 := dkwX1_checkIndex_0 ++ []
theorem dksX1_checkIndex_0 : cX1_checkIndex.data.toList.drop 0 = dktX1_checkIndex_0 := by decide +kernel
theorem dX1_checkIndex_0 : decode cX1_checkIndex 0 = .ok (.iload_n 0, 1) := dk_26 (dk_at dksX1_checkIndex_0 0 rfl rfl)
theorem dX1_checkIndex_1 : decode cX1_checkIndex 1 = .ok (.ifCond .ne 11, 3) := dk_154 0 11 (dk_at dksX1_checkIndex_0 1 rfl rfl)
theorem dX1_checkIndex_4 : decode cX1_checkIndex 4 = .ok (.new 64, 3) := dk_187 0 64 (dk_at dksX1_checkIndex_0 4 rfl rfl)
theorem dX1_checkIndex_7 : decode cX1_checkIndex 7 = .ok (.dup, 1) := dk_89 (dk_at dksX1_checkIndex_0 7 rfl rfl)
theorem dX1_checkIndex_8 : decode cX1_checkIndex 8 = .ok (.invokespecial 66, 3) := dk_183 0 66 (dk_at dksX1_checkIndex_0 8 rfl rfl)
theorem dX1_checkIndex_11 : decode cX1_checkIndex 11 = .ok (.athrow, 1) := dk_191 (dk_at dksX1_checkIndex_0 11 rfl rfl)
theorem dX1_checkIndex_12 : decode cX1_checkIndex 12 = .ok (.return_, 1) := dk_177 (dk_at dksX1_checkIndex_0 12 rfl rfl)
abbrev cX1_check : ByteArray := prog_1_method_7_code
def yX1_check : MethodName := ⟨RX1, "check", "(Z)V"⟩
def dkwX1_check_0 : List UInt8 := [26, 154, 0, 11, 187, 0, 61, 89, 183, 0, 63, 191, 177]
abbrev dktX1_check_0 : List UInt8 := dkwX1_check_0 ++ []
theorem dksX1_check_0 : cX1_check.data.toList.drop 0 = dktX1_check_0 := by decide +kernel
theorem dX1_check_0 : decode cX1_check 0 = .ok (.iload_n 0, 1) := dk_26 (dk_at dksX1_check_0 0 rfl rfl)
theorem dX1_check_1 : decode cX1_check 1 = .ok (.ifCond .ne 11, 3) := dk_154 0 11 (dk_at dksX1_check_0 1 rfl rfl)
theorem dX1_check_4 : decode cX1_check 4 = .ok (.new 61, 3) := dk_187 0 61 (dk_at dksX1_check_0 4 rfl rfl)
theorem dX1_check_7 : decode cX1_check 7 = .ok (.dup, 1) := dk_89 (dk_at dksX1_check_0 7 rfl rfl)
theorem dX1_check_8 : decode cX1_check 8 = .ok (.invokespecial 63, 3) := dk_183 0 63 (dk_at dksX1_check_0 8 rfl rfl)
theorem dX1_check_11 : decode cX1_check 11 = .ok (.athrow, 1) := dk_191 (dk_at dksX1_check_0 11 rfl rfl)
theorem dX1_check_12 : decode cX1_check 12 = .ok (.return_, 1) := dk_177 (dk_at dksX1_check_0 12 rfl rfl)
abbrev cX1_draws : ByteArray := prog_1_method_34_code
def yX1_draws : MethodName := ⟨RX1, "draws", "(I)Z"⟩
def dkwX1_draws_0 : List UInt8 := [42, 27, 182, 1, 33, 182, 0, 237, 172]
abbrev dktX1_draws_0 : List UInt8 := dkwX1_draws_0 ++ []
theorem dksX1_draws_0 : cX1_draws.data.toList.drop 0 = dktX1_draws_0 := by decide +kernel
theorem dX1_draws_0 : decode cX1_draws 0 = .ok (.aload_n 0, 1) := dk_42 (dk_at dksX1_draws_0 0 rfl rfl)
theorem dX1_draws_1 : decode cX1_draws 1 = .ok (.iload_n 1, 1) := dk_27 (dk_at dksX1_draws_0 1 rfl rfl)
theorem dX1_draws_2 : decode cX1_draws 2 = .ok (.invokevirtual 289, 3) := dk_182 1 33 (dk_at dksX1_draws_0 2 rfl rfl)
theorem dX1_draws_5 : decode cX1_draws 5 = .ok (.invokevirtual 237, 3) := dk_182 0 237 (dk_at dksX1_draws_0 5 rfl rfl)
theorem dX1_draws_8 : decode cX1_draws 8 = .ok (.ireturn, 1) := dk_172 (dk_at dksX1_draws_0 8 rfl rfl)
abbrev cX1_onBench : ByteArray := prog_1_method_35_code
def yX1_onBench : MethodName := ⟨RX1, "onBench", "(I)I"⟩
def dkwX1_onBench_1 : List UInt8 := [180, 0, 139, 27, 182, 0, 176, 192, 0, 144, 182, 0, 166, 172]
abbrev dktX1_onBench_1 : List UInt8 := dkwX1_onBench_1 ++ []
def dkwX1_onBench_0 : List UInt8 := [27, 3, 42, 180, 0, 10, 180, 0, 139, 182, 0, 152, 4, 100, 184, 0, 53, 184, 1, 43, 42, 180, 0, 10]
abbrev dktX1_onBench_0 : List UInt8 := dkwX1_onBench_0 ++ dktX1_onBench_1
theorem dksX1_onBench_0 : cX1_onBench.data.toList.drop 0 = dktX1_onBench_0 := by decide +kernel
theorem dksX1_onBench_1 : cX1_onBench.data.toList.drop 24 = dktX1_onBench_1 := dk_seg dksX1_onBench_0 24 rfl rfl
theorem dX1_onBench_0 : decode cX1_onBench 0 = .ok (.iload_n 1, 1) := dk_27 (dk_at dksX1_onBench_0 0 rfl rfl)
theorem dX1_onBench_1 : decode cX1_onBench 1 = .ok (.iconst 0, 1) := dk_3 (dk_at dksX1_onBench_0 1 rfl rfl)
theorem dX1_onBench_2 : decode cX1_onBench 2 = .ok (.aload_n 0, 1) := dk_42 (dk_at dksX1_onBench_0 2 rfl rfl)
theorem dX1_onBench_3 : decode cX1_onBench 3 = .ok (.getfield 10, 3) := dk_180 0 10 (dk_at dksX1_onBench_0 3 rfl rfl)
theorem dX1_onBench_6 : decode cX1_onBench 6 = .ok (.getfield 139, 3) := dk_180 0 139 (dk_at dksX1_onBench_0 6 rfl rfl)
theorem dX1_onBench_9 : decode cX1_onBench 9 = .ok (.invokevirtual 152, 3) := dk_182 0 152 (dk_at dksX1_onBench_0 9 rfl rfl)
theorem dX1_onBench_12 : decode cX1_onBench 12 = .ok (.iconst 1, 1) := dk_4 (dk_at dksX1_onBench_0 12 rfl rfl)
theorem dX1_onBench_13 : decode cX1_onBench 13 = .ok (.isub, 1) := dk_100 (dk_at dksX1_onBench_0 13 rfl rfl)
theorem dX1_onBench_14 : decode cX1_onBench 14 = .ok (.invokestatic 53, 3) := dk_184 0 53 (dk_at dksX1_onBench_0 14 rfl rfl)
theorem dX1_onBench_17 : decode cX1_onBench 17 = .ok (.invokestatic 299, 3) := dk_184 1 43 (dk_at dksX1_onBench_0 17 rfl rfl)
theorem dX1_onBench_20 : decode cX1_onBench 20 = .ok (.aload_n 0, 1) := dk_42 (dk_at dksX1_onBench_0 20 rfl rfl)
theorem dX1_onBench_21 : decode cX1_onBench 21 = .ok (.getfield 10, 3) := dk_180 0 10 (dk_at dksX1_onBench_0 21 rfl rfl)
theorem dX1_onBench_24 : decode cX1_onBench 24 = .ok (.getfield 139, 3) := dk_180 0 139 (dk_at dksX1_onBench_1 0 rfl rfl)
theorem dX1_onBench_27 : decode cX1_onBench 27 = .ok (.iload_n 1, 1) := dk_27 (dk_at dksX1_onBench_1 3 rfl rfl)
theorem dX1_onBench_28 : decode cX1_onBench 28 = .ok (.invokevirtual 176, 3) := dk_182 0 176 (dk_at dksX1_onBench_1 4 rfl rfl)
theorem dX1_onBench_31 : decode cX1_onBench 31 = .ok (.checkcast 144, 3) := dk_192 0 144 (dk_at dksX1_onBench_1 7 rfl rfl)
theorem dX1_onBench_34 : decode cX1_onBench 34 = .ok (.invokevirtual 166, 3) := dk_182 0 166 (dk_at dksX1_onBench_1 10 rfl rfl)
theorem dX1_onBench_37 : decode cX1_onBench 37 = .ok (.ireturn, 1) := dk_172 (dk_at dksX1_onBench_1 13 rfl rfl)
abbrev cX1_checkElement : ByteArray := prog_1_method_9_code
def yX1_checkElement : MethodName := ⟨RX1, "checkElement", "(Z)V"⟩
def dkwX1_checkElement_0 : List UInt8 := [26, 154, 0, 11, 187, 0, 67, 89, 183, 0, 69, 191, 177]
abbrev dktX1_checkElement_0 : List UInt8 := dkwX1_checkElement_0 ++ []
theorem dksX1_checkElement_0 : cX1_checkElement.data.toList.drop 0 = dktX1_checkElement_0 := by decide +kernel
theorem dX1_checkElement_0 : decode cX1_checkElement 0 = .ok (.iload_n 0, 1) := dk_26 (dk_at dksX1_checkElement_0 0 rfl rfl)
theorem dX1_checkElement_1 : decode cX1_checkElement 1 = .ok (.ifCond .ne 11, 3) := dk_154 0 11 (dk_at dksX1_checkElement_0 1 rfl rfl)
theorem dX1_checkElement_4 : decode cX1_checkElement 4 = .ok (.new 67, 3) := dk_187 0 67 (dk_at dksX1_checkElement_0 4 rfl rfl)
theorem dX1_checkElement_7 : decode cX1_checkElement 7 = .ok (.dup, 1) := dk_89 (dk_at dksX1_checkElement_0 7 rfl rfl)
theorem dX1_checkElement_8 : decode cX1_checkElement 8 = .ok (.invokespecial 69, 3) := dk_183 0 69 (dk_at dksX1_checkElement_0 8 rfl rfl)
theorem dX1_checkElement_11 : decode cX1_checkElement 11 = .ok (.athrow, 1) := dk_191 (dk_at dksX1_checkElement_0 11 rfl rfl)
theorem dX1_checkElement_12 : decode cX1_checkElement 12 = .ok (.return_, 1) := dk_177 (dk_at dksX1_checkElement_0 12 rfl rfl)
abbrev cX1_lumpOf : ByteArray := prog_1_method_36_code
def yX1_lumpOf : MethodName := ⟨RX1, "lumpOf", "(I)I"⟩
def dkwX1_lumpOf_3 : List UInt8 := [62, 132, 2, 1, 167, 255, 216, 29, 172]
abbrev dktX1_lumpOf_3 : List UInt8 := dkwX1_lumpOf_3 ++ []
def dkwX1_lumpOf_2 : List UInt8 := [185, 0, 163, 1, 0, 192, 0, 198, 58, 5, 28, 27, 160, 0, 11, 25, 5, 180, 1, 47, 167, 0, 4, 29]
abbrev dktX1_lumpOf_2 : List UInt8 := dkwX1_lumpOf_2 ++ dktX1_lumpOf_3
def dkwX1_lumpOf_1 : List UInt8 := [42, 180, 0, 10, 180, 0, 195, 182, 1, 46, 58, 4, 25, 4, 185, 0, 157, 1, 0, 153, 0, 36, 25, 4]
abbrev dktX1_lumpOf_1 : List UInt8 := dkwX1_lumpOf_1 ++ dktX1_lumpOf_2
def dkwX1_lumpOf_0 : List UInt8 := [27, 3, 42, 180, 0, 10, 180, 0, 195, 182, 0, 85, 4, 100, 184, 0, 53, 184, 1, 43, 3, 61, 3, 62]
abbrev dktX1_lumpOf_0 : List UInt8 := dkwX1_lumpOf_0 ++ dktX1_lumpOf_1
theorem dksX1_lumpOf_0 : cX1_lumpOf.data.toList.drop 0 = dktX1_lumpOf_0 := by decide +kernel
theorem dksX1_lumpOf_1 : cX1_lumpOf.data.toList.drop 24 = dktX1_lumpOf_1 := dk_seg dksX1_lumpOf_0 24 rfl rfl
theorem dksX1_lumpOf_2 : cX1_lumpOf.data.toList.drop 48 = dktX1_lumpOf_2 := dk_seg dksX1_lumpOf_1 24 rfl rfl
theorem dksX1_lumpOf_3 : cX1_lumpOf.data.toList.drop 72 = dktX1_lumpOf_3 := dk_seg dksX1_lumpOf_2 24 rfl rfl
theorem dX1_lumpOf_0 : decode cX1_lumpOf 0 = .ok (.iload_n 1, 1) := dk_27 (dk_at dksX1_lumpOf_0 0 rfl rfl)
theorem dX1_lumpOf_1 : decode cX1_lumpOf 1 = .ok (.iconst 0, 1) := dk_3 (dk_at dksX1_lumpOf_0 1 rfl rfl)
theorem dX1_lumpOf_2 : decode cX1_lumpOf 2 = .ok (.aload_n 0, 1) := dk_42 (dk_at dksX1_lumpOf_0 2 rfl rfl)
theorem dX1_lumpOf_3 : decode cX1_lumpOf 3 = .ok (.getfield 10, 3) := dk_180 0 10 (dk_at dksX1_lumpOf_0 3 rfl rfl)
theorem dX1_lumpOf_6 : decode cX1_lumpOf 6 = .ok (.getfield 195, 3) := dk_180 0 195 (dk_at dksX1_lumpOf_0 6 rfl rfl)
theorem dX1_lumpOf_9 : decode cX1_lumpOf 9 = .ok (.invokevirtual 85, 3) := dk_182 0 85 (dk_at dksX1_lumpOf_0 9 rfl rfl)
theorem dX1_lumpOf_12 : decode cX1_lumpOf 12 = .ok (.iconst 1, 1) := dk_4 (dk_at dksX1_lumpOf_0 12 rfl rfl)
theorem dX1_lumpOf_13 : decode cX1_lumpOf 13 = .ok (.isub, 1) := dk_100 (dk_at dksX1_lumpOf_0 13 rfl rfl)
theorem dX1_lumpOf_14 : decode cX1_lumpOf 14 = .ok (.invokestatic 53, 3) := dk_184 0 53 (dk_at dksX1_lumpOf_0 14 rfl rfl)
theorem dX1_lumpOf_17 : decode cX1_lumpOf 17 = .ok (.invokestatic 299, 3) := dk_184 1 43 (dk_at dksX1_lumpOf_0 17 rfl rfl)
theorem dX1_lumpOf_20 : decode cX1_lumpOf 20 = .ok (.iconst 0, 1) := dk_3 (dk_at dksX1_lumpOf_0 20 rfl rfl)
theorem dX1_lumpOf_21 : decode cX1_lumpOf 21 = .ok (.istore_n 2, 1) := dk_61 (dk_at dksX1_lumpOf_0 21 rfl rfl)
theorem dX1_lumpOf_22 : decode cX1_lumpOf 22 = .ok (.iconst 0, 1) := dk_3 (dk_at dksX1_lumpOf_0 22 rfl rfl)
theorem dX1_lumpOf_23 : decode cX1_lumpOf 23 = .ok (.istore_n 3, 1) := dk_62 (dk_at dksX1_lumpOf_0 23 rfl rfl)
theorem dX1_lumpOf_24 : decode cX1_lumpOf 24 = .ok (.aload_n 0, 1) := dk_42 (dk_at dksX1_lumpOf_1 0 rfl rfl)
theorem dX1_lumpOf_25 : decode cX1_lumpOf 25 = .ok (.getfield 10, 3) := dk_180 0 10 (dk_at dksX1_lumpOf_1 1 rfl rfl)
theorem dX1_lumpOf_28 : decode cX1_lumpOf 28 = .ok (.getfield 195, 3) := dk_180 0 195 (dk_at dksX1_lumpOf_1 4 rfl rfl)
theorem dX1_lumpOf_31 : decode cX1_lumpOf 31 = .ok (.invokevirtual 302, 3) := dk_182 1 46 (dk_at dksX1_lumpOf_1 7 rfl rfl)
theorem dX1_lumpOf_34 : decode cX1_lumpOf 34 = .ok (.astore 4, 2) := dk_58 4 (dk_at dksX1_lumpOf_1 10 rfl rfl)
theorem dX1_lumpOf_36 : decode cX1_lumpOf 36 = .ok (.aload 4, 2) := dk_25 4 (dk_at dksX1_lumpOf_1 12 rfl rfl)
theorem dX1_lumpOf_38 : decode cX1_lumpOf 38 = .ok (.invokeinterface 157 1, 5) := by decide +kernel
theorem dX1_lumpOf_43 : decode cX1_lumpOf 43 = .ok (.ifCond .eq 36, 3) := dk_153 0 36 (dk_at dksX1_lumpOf_1 19 rfl rfl)
theorem dX1_lumpOf_46 : decode cX1_lumpOf 46 = .ok (.aload 4, 2) := dk_25 4 (dk_at dksX1_lumpOf_1 22 rfl rfl)
theorem dX1_lumpOf_48 : decode cX1_lumpOf 48 = .ok (.invokeinterface 163 1, 5) := by decide +kernel
theorem dX1_lumpOf_53 : decode cX1_lumpOf 53 = .ok (.checkcast 198, 3) := dk_192 0 198 (dk_at dksX1_lumpOf_2 5 rfl rfl)
theorem dX1_lumpOf_56 : decode cX1_lumpOf 56 = .ok (.astore 5, 2) := dk_58 5 (dk_at dksX1_lumpOf_2 8 rfl rfl)
theorem dX1_lumpOf_58 : decode cX1_lumpOf 58 = .ok (.iload_n 2, 1) := dk_28 (dk_at dksX1_lumpOf_2 10 rfl rfl)
theorem dX1_lumpOf_59 : decode cX1_lumpOf 59 = .ok (.iload_n 1, 1) := dk_27 (dk_at dksX1_lumpOf_2 11 rfl rfl)
theorem dX1_lumpOf_60 : decode cX1_lumpOf 60 = .ok (.if_icmp .ne 11, 3) := dk_160 0 11 (dk_at dksX1_lumpOf_2 12 rfl rfl)
theorem dX1_lumpOf_63 : decode cX1_lumpOf 63 = .ok (.aload 5, 2) := dk_25 5 (dk_at dksX1_lumpOf_2 15 rfl rfl)
theorem dX1_lumpOf_65 : decode cX1_lumpOf 65 = .ok (.getfield 303, 3) := dk_180 1 47 (dk_at dksX1_lumpOf_2 17 rfl rfl)
theorem dX1_lumpOf_68 : decode cX1_lumpOf 68 = .ok (.goto 4, 3) := dk_167 0 4 (dk_at dksX1_lumpOf_2 20 rfl rfl)
theorem dX1_lumpOf_71 : decode cX1_lumpOf 71 = .ok (.iload_n 3, 1) := dk_29 (dk_at dksX1_lumpOf_2 23 rfl rfl)
theorem dX1_lumpOf_72 : decode cX1_lumpOf 72 = .ok (.istore_n 3, 1) := dk_62 (dk_at dksX1_lumpOf_3 0 rfl rfl)
theorem dX1_lumpOf_73 : decode cX1_lumpOf 73 = .ok (.iinc 2 1, 3) := dk_132 2 1 (dk_at dksX1_lumpOf_3 1 rfl rfl)
theorem dX1_lumpOf_76 : decode cX1_lumpOf 76 = .ok (.goto (-40), 3) := dk_167 255 216 (dk_at dksX1_lumpOf_3 4 rfl rfl)
theorem dX1_lumpOf_79 : decode cX1_lumpOf 79 = .ok (.iload_n 3, 1) := dk_29 (dk_at dksX1_lumpOf_3 7 rfl rfl)
theorem dX1_lumpOf_80 : decode cX1_lumpOf 80 = .ok (.ireturn, 1) := dk_172 (dk_at dksX1_lumpOf_3 8 rfl rfl)
abbrev cX1_pieces : ByteArray := prog_1_method_37_code
def yX1_pieces : MethodName := ⟨RX1, "pieces", "(I)I"⟩
def dkwX1_pieces_0 : List UInt8 := [27, 4, 16, 6, 184, 0, 53, 184, 1, 36, 42, 180, 0, 10, 180, 0, 208, 27, 46, 172]
abbrev dktX1_pieces_0 : List UInt8 := dkwX1_pieces_0 ++ []
theorem dksX1_pieces_0 : cX1_pieces.data.toList.drop 0 = dktX1_pieces_0 := by decide +kernel
theorem dX1_pieces_0 : decode cX1_pieces 0 = .ok (.iload_n 1, 1) := dk_27 (dk_at dksX1_pieces_0 0 rfl rfl)
theorem dX1_pieces_1 : decode cX1_pieces 1 = .ok (.iconst 1, 1) := dk_4 (dk_at dksX1_pieces_0 1 rfl rfl)
theorem dX1_pieces_2 : decode cX1_pieces 2 = .ok (.bipush 6, 2) := dk_16 6 (dk_at dksX1_pieces_0 2 rfl rfl)
theorem dX1_pieces_4 : decode cX1_pieces 4 = .ok (.invokestatic 53, 3) := dk_184 0 53 (dk_at dksX1_pieces_0 4 rfl rfl)
theorem dX1_pieces_7 : decode cX1_pieces 7 = .ok (.invokestatic 292, 3) := dk_184 1 36 (dk_at dksX1_pieces_0 7 rfl rfl)
theorem dX1_pieces_10 : decode cX1_pieces 10 = .ok (.aload_n 0, 1) := dk_42 (dk_at dksX1_pieces_0 10 rfl rfl)
theorem dX1_pieces_11 : decode cX1_pieces 11 = .ok (.getfield 10, 3) := dk_180 0 10 (dk_at dksX1_pieces_0 11 rfl rfl)
theorem dX1_pieces_14 : decode cX1_pieces 14 = .ok (.getfield 208, 3) := dk_180 0 208 (dk_at dksX1_pieces_0 14 rfl rfl)
theorem dX1_pieces_17 : decode cX1_pieces 17 = .ok (.iload_n 1, 1) := dk_27 (dk_at dksX1_pieces_0 17 rfl rfl)
theorem dX1_pieces_18 : decode cX1_pieces 18 = .ok (.iaload, 1) := dk_46 (dk_at dksX1_pieces_0 18 rfl rfl)
theorem dX1_pieces_19 : decode cX1_pieces 19 = .ok (.ireturn, 1) := dk_172 (dk_at dksX1_pieces_0 19 rfl rfl)
abbrev cX1_longest : ByteArray := prog_1_method_38_code
def yX1_longest : MethodName := ⟨RX1, "longest", "()I"⟩
def dkwX1_longest_0 : List UInt8 := [42, 180, 0, 10, 182, 0, 222, 60, 27, 2, 159, 0, 7, 4, 167, 0, 4, 3, 184, 1, 43, 27, 172]
abbrev dktX1_longest_0 : List UInt8 := dkwX1_longest_0 ++ []
theorem dksX1_longest_0 : cX1_longest.data.toList.drop 0 = dktX1_longest_0 := by decide +kernel
theorem dX1_longest_0 : decode cX1_longest 0 = .ok (.aload_n 0, 1) := dk_42 (dk_at dksX1_longest_0 0 rfl rfl)
theorem dX1_longest_1 : decode cX1_longest 1 = .ok (.getfield 10, 3) := dk_180 0 10 (dk_at dksX1_longest_0 1 rfl rfl)
theorem dX1_longest_4 : decode cX1_longest 4 = .ok (.invokevirtual 222, 3) := dk_182 0 222 (dk_at dksX1_longest_0 4 rfl rfl)
theorem dX1_longest_7 : decode cX1_longest 7 = .ok (.istore_n 1, 1) := dk_60 (dk_at dksX1_longest_0 7 rfl rfl)
theorem dX1_longest_8 : decode cX1_longest 8 = .ok (.iload_n 1, 1) := dk_27 (dk_at dksX1_longest_0 8 rfl rfl)
theorem dX1_longest_9 : decode cX1_longest 9 = .ok (.iconst (-1), 1) := dk_2 (dk_at dksX1_longest_0 9 rfl rfl)
theorem dX1_longest_10 : decode cX1_longest 10 = .ok (.if_icmp .eq 7, 3) := dk_159 0 7 (dk_at dksX1_longest_0 10 rfl rfl)
theorem dX1_longest_13 : decode cX1_longest 13 = .ok (.iconst 1, 1) := dk_4 (dk_at dksX1_longest_0 13 rfl rfl)
theorem dX1_longest_14 : decode cX1_longest 14 = .ok (.goto 4, 3) := dk_167 0 4 (dk_at dksX1_longest_0 14 rfl rfl)
theorem dX1_longest_17 : decode cX1_longest 17 = .ok (.iconst 0, 1) := dk_3 (dk_at dksX1_longest_0 17 rfl rfl)
theorem dX1_longest_18 : decode cX1_longest 18 = .ok (.invokestatic 299, 3) := dk_184 1 43 (dk_at dksX1_longest_0 18 rfl rfl)
theorem dX1_longest_21 : decode cX1_longest 21 = .ok (.iload_n 1, 1) := dk_27 (dk_at dksX1_longest_0 21 rfl rfl)
theorem dX1_longest_22 : decode cX1_longest 22 = .ok (.ireturn, 1) := dk_172 (dk_at dksX1_longest_0 22 rfl rfl)
abbrev cX1_sits : ByteArray := prog_1_method_39_code
def yX1_sits : MethodName := ⟨RX1, "sits", "(I)Z"⟩
def dkwX1_sits_0 : List UInt8 := [27, 184, 1, 2, 184, 1, 36, 42, 180, 0, 10, 180, 1, 8, 27, 182, 1, 12, 172]
abbrev dktX1_sits_0 : List UInt8 := dkwX1_sits_0 ++ []
theorem dksX1_sits_0 : cX1_sits.data.toList.drop 0 = dktX1_sits_0 := by decide +kernel
theorem dX1_sits_0 : decode cX1_sits 0 = .ok (.iload_n 1, 1) := dk_27 (dk_at dksX1_sits_0 0 rfl rfl)
theorem dX1_sits_1 : decode cX1_sits 1 = .ok (.invokestatic 258, 3) := dk_184 1 2 (dk_at dksX1_sits_0 1 rfl rfl)
theorem dX1_sits_4 : decode cX1_sits 4 = .ok (.invokestatic 292, 3) := dk_184 1 36 (dk_at dksX1_sits_0 4 rfl rfl)
theorem dX1_sits_7 : decode cX1_sits 7 = .ok (.aload_n 0, 1) := dk_42 (dk_at dksX1_sits_0 7 rfl rfl)
theorem dX1_sits_8 : decode cX1_sits 8 = .ok (.getfield 10, 3) := dk_180 0 10 (dk_at dksX1_sits_0 8 rfl rfl)
theorem dX1_sits_11 : decode cX1_sits 11 = .ok (.getfield 264, 3) := dk_180 1 8 (dk_at dksX1_sits_0 11 rfl rfl)
theorem dX1_sits_14 : decode cX1_sits 14 = .ok (.iload_n 1, 1) := dk_27 (dk_at dksX1_sits_0 14 rfl rfl)
theorem dX1_sits_15 : decode cX1_sits 15 = .ok (.invokevirtual 268, 3) := dk_182 1 12 (dk_at dksX1_sits_0 15 rfl rfl)
theorem dX1_sits_18 : decode cX1_sits 18 = .ok (.ireturn, 1) := dk_172 (dk_at dksX1_sits_0 18 rfl rfl)
abbrev cX1_nextPerch : ByteArray := prog_1_method_41_code
def yX1_nextPerch : MethodName := ⟨RX1, "nextPerch", "(I)I"⟩
def dkwX1_nextPerch_1 : List UInt8 := [167, 0, 4, 3, 184, 1, 43, 28, 172]
abbrev dktX1_nextPerch_1 : List UInt8 := dkwX1_nextPerch_1 ++ []
def dkwX1_nextPerch_0 : List UInt8 := [27, 184, 1, 2, 184, 1, 36, 42, 180, 0, 10, 27, 182, 1, 21, 61, 28, 2, 159, 0, 7, 4]
abbrev dktX1_nextPerch_0 : List UInt8 := dkwX1_nextPerch_0 ++ dktX1_nextPerch_1
theorem dksX1_nextPerch_0 : cX1_nextPerch.data.toList.drop 0 = dktX1_nextPerch_0 := by decide +kernel
theorem dksX1_nextPerch_1 : cX1_nextPerch.data.toList.drop 22 = dktX1_nextPerch_1 := dk_seg dksX1_nextPerch_0 22 rfl rfl
theorem dX1_nextPerch_0 : decode cX1_nextPerch 0 = .ok (.iload_n 1, 1) := dk_27 (dk_at dksX1_nextPerch_0 0 rfl rfl)
theorem dX1_nextPerch_1 : decode cX1_nextPerch 1 = .ok (.invokestatic 258, 3) := dk_184 1 2 (dk_at dksX1_nextPerch_0 1 rfl rfl)
theorem dX1_nextPerch_4 : decode cX1_nextPerch 4 = .ok (.invokestatic 292, 3) := dk_184 1 36 (dk_at dksX1_nextPerch_0 4 rfl rfl)
theorem dX1_nextPerch_7 : decode cX1_nextPerch 7 = .ok (.aload_n 0, 1) := dk_42 (dk_at dksX1_nextPerch_0 7 rfl rfl)
theorem dX1_nextPerch_8 : decode cX1_nextPerch 8 = .ok (.getfield 10, 3) := dk_180 0 10 (dk_at dksX1_nextPerch_0 8 rfl rfl)
theorem dX1_nextPerch_11 : decode cX1_nextPerch 11 = .ok (.iload_n 1, 1) := dk_27 (dk_at dksX1_nextPerch_0 11 rfl rfl)
theorem dX1_nextPerch_12 : decode cX1_nextPerch 12 = .ok (.invokevirtual 277, 3) := dk_182 1 21 (dk_at dksX1_nextPerch_0 12 rfl rfl)
theorem dX1_nextPerch_15 : decode cX1_nextPerch 15 = .ok (.istore_n 2, 1) := dk_61 (dk_at dksX1_nextPerch_0 15 rfl rfl)
theorem dX1_nextPerch_16 : decode cX1_nextPerch 16 = .ok (.iload_n 2, 1) := dk_28 (dk_at dksX1_nextPerch_0 16 rfl rfl)
theorem dX1_nextPerch_17 : decode cX1_nextPerch 17 = .ok (.iconst (-1), 1) := dk_2 (dk_at dksX1_nextPerch_0 17 rfl rfl)
theorem dX1_nextPerch_18 : decode cX1_nextPerch 18 = .ok (.if_icmp .eq 7, 3) := dk_159 0 7 (dk_at dksX1_nextPerch_0 18 rfl rfl)
theorem dX1_nextPerch_21 : decode cX1_nextPerch 21 = .ok (.iconst 1, 1) := dk_4 (dk_at dksX1_nextPerch_0 21 rfl rfl)
theorem dX1_nextPerch_22 : decode cX1_nextPerch 22 = .ok (.goto 4, 3) := dk_167 0 4 (dk_at dksX1_nextPerch_1 0 rfl rfl)
theorem dX1_nextPerch_25 : decode cX1_nextPerch 25 = .ok (.iconst 0, 1) := dk_3 (dk_at dksX1_nextPerch_1 3 rfl rfl)
theorem dX1_nextPerch_26 : decode cX1_nextPerch 26 = .ok (.invokestatic 299, 3) := dk_184 1 43 (dk_at dksX1_nextPerch_1 4 rfl rfl)
theorem dX1_nextPerch_29 : decode cX1_nextPerch 29 = .ok (.iload_n 2, 1) := dk_28 (dk_at dksX1_nextPerch_1 7 rfl rfl)
theorem dX1_nextPerch_30 : decode cX1_nextPerch 30 = .ok (.ireturn, 1) := dk_172 (dk_at dksX1_nextPerch_1 8 rfl rfl)
abbrev cX1_lumpsFor : ByteArray := prog_1_method_45_code
def yX1_lumpsFor : MethodName := ⟨RX1, "lumpsFor", "(I)I"⟩
def dkwX1_lumpsFor_0 : List UInt8 := [42, 27, 182, 1, 33, 182, 0, 186, 172]
abbrev dktX1_lumpsFor_0 : List UInt8 := dkwX1_lumpsFor_0 ++ []
theorem dksX1_lumpsFor_0 : cX1_lumpsFor.data.toList.drop 0 = dktX1_lumpsFor_0 := by decide +kernel
theorem dX1_lumpsFor_0 : decode cX1_lumpsFor 0 = .ok (.aload_n 0, 1) := dk_42 (dk_at dksX1_lumpsFor_0 0 rfl rfl)
theorem dX1_lumpsFor_1 : decode cX1_lumpsFor 1 = .ok (.iload_n 1, 1) := dk_27 (dk_at dksX1_lumpsFor_0 1 rfl rfl)
theorem dX1_lumpsFor_2 : decode cX1_lumpsFor 2 = .ok (.invokevirtual 289, 3) := dk_182 1 33 (dk_at dksX1_lumpsFor_0 2 rfl rfl)
theorem dX1_lumpsFor_5 : decode cX1_lumpsFor 5 = .ok (.invokevirtual 186, 3) := dk_182 0 186 (dk_at dksX1_lumpsFor_0 5 rfl rfl)
theorem dX1_lumpsFor_8 : decode cX1_lumpsFor 8 = .ok (.ireturn, 1) := dk_172 (dk_at dksX1_lumpsFor_0 8 rfl rfl)
abbrev cX1_pieceFor : ByteArray := prog_1_method_46_code
def yX1_pieceFor : MethodName := ⟨RX1, "pieceFor", "(I)I"⟩
def dkwX1_pieceFor_1 : List UInt8 := [29, 2, 159, 0, 7, 4, 167, 0, 4, 3, 184, 1, 43, 29, 172]
abbrev dktX1_pieceFor_1 : List UInt8 := dkwX1_pieceFor_1 ++ []
def dkwX1_pieceFor_0 : List UInt8 := [42, 27, 182, 1, 33, 182, 0, 225, 61, 28, 154, 0, 5, 3, 172, 42, 180, 0, 10, 28, 182, 0, 228, 62]
abbrev dktX1_pieceFor_0 : List UInt8 := dkwX1_pieceFor_0 ++ dktX1_pieceFor_1
theorem dksX1_pieceFor_0 : cX1_pieceFor.data.toList.drop 0 = dktX1_pieceFor_0 := by decide +kernel
theorem dksX1_pieceFor_1 : cX1_pieceFor.data.toList.drop 24 = dktX1_pieceFor_1 := dk_seg dksX1_pieceFor_0 24 rfl rfl
theorem dX1_pieceFor_0 : decode cX1_pieceFor 0 = .ok (.aload_n 0, 1) := dk_42 (dk_at dksX1_pieceFor_0 0 rfl rfl)
theorem dX1_pieceFor_1 : decode cX1_pieceFor 1 = .ok (.iload_n 1, 1) := dk_27 (dk_at dksX1_pieceFor_0 1 rfl rfl)
theorem dX1_pieceFor_2 : decode cX1_pieceFor 2 = .ok (.invokevirtual 289, 3) := dk_182 1 33 (dk_at dksX1_pieceFor_0 2 rfl rfl)
theorem dX1_pieceFor_5 : decode cX1_pieceFor 5 = .ok (.invokevirtual 225, 3) := dk_182 0 225 (dk_at dksX1_pieceFor_0 5 rfl rfl)
theorem dX1_pieceFor_8 : decode cX1_pieceFor 8 = .ok (.istore_n 2, 1) := dk_61 (dk_at dksX1_pieceFor_0 8 rfl rfl)
theorem dX1_pieceFor_9 : decode cX1_pieceFor 9 = .ok (.iload_n 2, 1) := dk_28 (dk_at dksX1_pieceFor_0 9 rfl rfl)
theorem dX1_pieceFor_10 : decode cX1_pieceFor 10 = .ok (.ifCond .ne 5, 3) := dk_154 0 5 (dk_at dksX1_pieceFor_0 10 rfl rfl)
theorem dX1_pieceFor_13 : decode cX1_pieceFor 13 = .ok (.iconst 0, 1) := dk_3 (dk_at dksX1_pieceFor_0 13 rfl rfl)
theorem dX1_pieceFor_14 : decode cX1_pieceFor 14 = .ok (.ireturn, 1) := dk_172 (dk_at dksX1_pieceFor_0 14 rfl rfl)
theorem dX1_pieceFor_15 : decode cX1_pieceFor 15 = .ok (.aload_n 0, 1) := dk_42 (dk_at dksX1_pieceFor_0 15 rfl rfl)
theorem dX1_pieceFor_16 : decode cX1_pieceFor 16 = .ok (.getfield 10, 3) := dk_180 0 10 (dk_at dksX1_pieceFor_0 16 rfl rfl)
theorem dX1_pieceFor_19 : decode cX1_pieceFor 19 = .ok (.iload_n 2, 1) := dk_28 (dk_at dksX1_pieceFor_0 19 rfl rfl)
theorem dX1_pieceFor_20 : decode cX1_pieceFor 20 = .ok (.invokevirtual 228, 3) := dk_182 0 228 (dk_at dksX1_pieceFor_0 20 rfl rfl)
theorem dX1_pieceFor_23 : decode cX1_pieceFor 23 = .ok (.istore_n 3, 1) := dk_62 (dk_at dksX1_pieceFor_0 23 rfl rfl)
theorem dX1_pieceFor_24 : decode cX1_pieceFor 24 = .ok (.iload_n 3, 1) := dk_29 (dk_at dksX1_pieceFor_1 0 rfl rfl)
theorem dX1_pieceFor_25 : decode cX1_pieceFor 25 = .ok (.iconst (-1), 1) := dk_2 (dk_at dksX1_pieceFor_1 1 rfl rfl)
theorem dX1_pieceFor_26 : decode cX1_pieceFor 26 = .ok (.if_icmp .eq 7, 3) := dk_159 0 7 (dk_at dksX1_pieceFor_1 2 rfl rfl)
theorem dX1_pieceFor_29 : decode cX1_pieceFor 29 = .ok (.iconst 1, 1) := dk_4 (dk_at dksX1_pieceFor_1 5 rfl rfl)
theorem dX1_pieceFor_30 : decode cX1_pieceFor 30 = .ok (.goto 4, 3) := dk_167 0 4 (dk_at dksX1_pieceFor_1 6 rfl rfl)
theorem dX1_pieceFor_33 : decode cX1_pieceFor 33 = .ok (.iconst 0, 1) := dk_3 (dk_at dksX1_pieceFor_1 9 rfl rfl)
theorem dX1_pieceFor_34 : decode cX1_pieceFor 34 = .ok (.invokestatic 299, 3) := dk_184 1 43 (dk_at dksX1_pieceFor_1 10 rfl rfl)
theorem dX1_pieceFor_37 : decode cX1_pieceFor 37 = .ok (.iload_n 3, 1) := dk_29 (dk_at dksX1_pieceFor_1 13 rfl rfl)
theorem dX1_pieceFor_38 : decode cX1_pieceFor 38 = .ok (.ireturn, 1) := dk_172 (dk_at dksX1_pieceFor_1 14 rfl rfl)
abbrev cX1_freshIn : ByteArray := prog_1_method_49_code
def yX1_freshIn : MethodName := ⟨RX1, "freshIn", "(I)I"⟩
def dkwX1_freshIn_0 : List UInt8 := [42, 27, 182, 1, 60, 180, 0, 195, 182, 0, 85, 172]
abbrev dktX1_freshIn_0 : List UInt8 := dkwX1_freshIn_0 ++ []
theorem dksX1_freshIn_0 : cX1_freshIn.data.toList.drop 0 = dktX1_freshIn_0 := by decide +kernel
theorem dX1_freshIn_0 : decode cX1_freshIn 0 = .ok (.aload_n 0, 1) := dk_42 (dk_at dksX1_freshIn_0 0 rfl rfl)
theorem dX1_freshIn_1 : decode cX1_freshIn 1 = .ok (.iload_n 1, 1) := dk_27 (dk_at dksX1_freshIn_0 1 rfl rfl)
theorem dX1_freshIn_2 : decode cX1_freshIn 2 = .ok (.invokevirtual 316, 3) := dk_182 1 60 (dk_at dksX1_freshIn_0 2 rfl rfl)
theorem dX1_freshIn_5 : decode cX1_freshIn 5 = .ok (.getfield 195, 3) := dk_180 0 195 (dk_at dksX1_freshIn_0 5 rfl rfl)
theorem dX1_freshIn_8 : decode cX1_freshIn 8 = .ok (.invokevirtual 85, 3) := dk_182 0 85 (dk_at dksX1_freshIn_0 8 rfl rfl)
theorem dX1_freshIn_11 : decode cX1_freshIn 11 = .ok (.ireturn, 1) := dk_172 (dk_at dksX1_freshIn_0 11 rfl rfl)
abbrev cX1_behind : ByteArray := prog_1_method_48_code
def yX1_behind : MethodName := ⟨RX1, "behind", "(I)LClayPipes$State;"⟩
def dkwX1_behind_1 : List UInt8 := [162, 0, 14, 44, 182, 1, 30, 87, 132, 3, 1, 167, 255, 243, 44, 176]
abbrev dktX1_behind_1 : List UInt8 := dkwX1_behind_1 ++ []
def dkwX1_behind_0 : List UInt8 := [27, 3, 16, 48, 184, 0, 53, 184, 1, 36, 42, 180, 0, 10, 182, 0, 77, 77, 3, 62, 29, 27]
abbrev dktX1_behind_0 : List UInt8 := dkwX1_behind_0 ++ dktX1_behind_1
theorem dksX1_behind_0 : cX1_behind.data.toList.drop 0 = dktX1_behind_0 := by decide +kernel
theorem dksX1_behind_1 : cX1_behind.data.toList.drop 22 = dktX1_behind_1 := dk_seg dksX1_behind_0 22 rfl rfl
theorem dX1_behind_0 : decode cX1_behind 0 = .ok (.iload_n 1, 1) := dk_27 (dk_at dksX1_behind_0 0 rfl rfl)
theorem dX1_behind_1 : decode cX1_behind 1 = .ok (.iconst 0, 1) := dk_3 (dk_at dksX1_behind_0 1 rfl rfl)
theorem dX1_behind_2 : decode cX1_behind 2 = .ok (.bipush 48, 2) := dk_16 48 (dk_at dksX1_behind_0 2 rfl rfl)
theorem dX1_behind_4 : decode cX1_behind 4 = .ok (.invokestatic 53, 3) := dk_184 0 53 (dk_at dksX1_behind_0 4 rfl rfl)
theorem dX1_behind_7 : decode cX1_behind 7 = .ok (.invokestatic 292, 3) := dk_184 1 36 (dk_at dksX1_behind_0 7 rfl rfl)
theorem dX1_behind_10 : decode cX1_behind 10 = .ok (.aload_n 0, 1) := dk_42 (dk_at dksX1_behind_0 10 rfl rfl)
theorem dX1_behind_11 : decode cX1_behind 11 = .ok (.getfield 10, 3) := dk_180 0 10 (dk_at dksX1_behind_0 11 rfl rfl)
theorem dX1_behind_14 : decode cX1_behind 14 = .ok (.invokevirtual 77, 3) := dk_182 0 77 (dk_at dksX1_behind_0 14 rfl rfl)
theorem dX1_behind_17 : decode cX1_behind 17 = .ok (.astore_n 2, 1) := dk_77 (dk_at dksX1_behind_0 17 rfl rfl)
theorem dX1_behind_18 : decode cX1_behind 18 = .ok (.iconst 0, 1) := dk_3 (dk_at dksX1_behind_0 18 rfl rfl)
theorem dX1_behind_19 : decode cX1_behind 19 = .ok (.istore_n 3, 1) := dk_62 (dk_at dksX1_behind_0 19 rfl rfl)
theorem dX1_behind_20 : decode cX1_behind 20 = .ok (.iload_n 3, 1) := dk_29 (dk_at dksX1_behind_0 20 rfl rfl)
theorem dX1_behind_21 : decode cX1_behind 21 = .ok (.iload_n 1, 1) := dk_27 (dk_at dksX1_behind_0 21 rfl rfl)
theorem dX1_behind_22 : decode cX1_behind 22 = .ok (.if_icmp .ge 14, 3) := dk_162 0 14 (dk_at dksX1_behind_1 0 rfl rfl)
theorem dX1_behind_25 : decode cX1_behind 25 = .ok (.aload_n 2, 1) := dk_44 (dk_at dksX1_behind_1 3 rfl rfl)
theorem dX1_behind_26 : decode cX1_behind 26 = .ok (.invokevirtual 286, 3) := dk_182 1 30 (dk_at dksX1_behind_1 4 rfl rfl)
theorem dX1_behind_29 : decode cX1_behind 29 = .ok (.pop, 1) := dk_87 (dk_at dksX1_behind_1 7 rfl rfl)
theorem dX1_behind_30 : decode cX1_behind 30 = .ok (.iinc 3 1, 3) := dk_132 3 1 (dk_at dksX1_behind_1 8 rfl rfl)
theorem dX1_behind_33 : decode cX1_behind 33 = .ok (.goto (-13), 3) := dk_167 255 243 (dk_at dksX1_behind_1 11 rfl rfl)
theorem dX1_behind_36 : decode cX1_behind 36 = .ok (.aload_n 2, 1) := dk_44 (dk_at dksX1_behind_1 14 rfl rfl)
theorem dX1_behind_37 : decode cX1_behind 37 = .ok (.areturn, 1) := dk_176 (dk_at dksX1_behind_1 15 rfl rfl)
abbrev cX1_piecesIn : ByteArray := prog_1_method_50_code
def yX1_piecesIn : MethodName := ⟨RX1, "piecesIn", "(I)I"⟩
def dkwX1_piecesIn_0 : List UInt8 := [42, 27, 182, 1, 60, 182, 0, 205, 172]
abbrev dktX1_piecesIn_0 : List UInt8 := dkwX1_piecesIn_0 ++ []
theorem dksX1_piecesIn_0 : cX1_piecesIn.data.toList.drop 0 = dktX1_piecesIn_0 := by decide +kernel
theorem dX1_piecesIn_0 : decode cX1_piecesIn 0 = .ok (.aload_n 0, 1) := dk_42 (dk_at dksX1_piecesIn_0 0 rfl rfl)
theorem dX1_piecesIn_1 : decode cX1_piecesIn 1 = .ok (.iload_n 1, 1) := dk_27 (dk_at dksX1_piecesIn_0 1 rfl rfl)
theorem dX1_piecesIn_2 : decode cX1_piecesIn 2 = .ok (.invokevirtual 316, 3) := dk_182 1 60 (dk_at dksX1_piecesIn_0 2 rfl rfl)
theorem dX1_piecesIn_5 : decode cX1_piecesIn 5 = .ok (.invokevirtual 205, 3) := dk_182 0 205 (dk_at dksX1_piecesIn_0 5 rfl rfl)
theorem dX1_piecesIn_8 : decode cX1_piecesIn 8 = .ok (.ireturn, 1) := dk_172 (dk_at dksX1_piecesIn_0 8 rfl rfl)
abbrev cX1_atLeast : ByteArray := prog_1_method_51_code
def yX1_atLeast : MethodName := ⟨RX1, "atLeast", "(I)I"⟩
def dkwX1_atLeast_1 : List UInt8 := [180, 0, 10, 180, 0, 208, 29, 46, 96, 61, 132, 3, 1, 167, 255, 235, 28, 172]
abbrev dktX1_atLeast_1 : List UInt8 := dkwX1_atLeast_1 ++ []
def dkwX1_atLeast_0 : List UInt8 := [27, 4, 16, 6, 184, 0, 53, 184, 1, 36, 3, 61, 27, 62, 29, 16, 6, 163, 0, 21, 28, 42]
abbrev dktX1_atLeast_0 : List UInt8 := dkwX1_atLeast_0 ++ dktX1_atLeast_1
theorem dksX1_atLeast_0 : cX1_atLeast.data.toList.drop 0 = dktX1_atLeast_0 := by decide +kernel
theorem dksX1_atLeast_1 : cX1_atLeast.data.toList.drop 22 = dktX1_atLeast_1 := dk_seg dksX1_atLeast_0 22 rfl rfl
theorem dX1_atLeast_0 : decode cX1_atLeast 0 = .ok (.iload_n 1, 1) := dk_27 (dk_at dksX1_atLeast_0 0 rfl rfl)
theorem dX1_atLeast_1 : decode cX1_atLeast 1 = .ok (.iconst 1, 1) := dk_4 (dk_at dksX1_atLeast_0 1 rfl rfl)
theorem dX1_atLeast_2 : decode cX1_atLeast 2 = .ok (.bipush 6, 2) := dk_16 6 (dk_at dksX1_atLeast_0 2 rfl rfl)
theorem dX1_atLeast_4 : decode cX1_atLeast 4 = .ok (.invokestatic 53, 3) := dk_184 0 53 (dk_at dksX1_atLeast_0 4 rfl rfl)
theorem dX1_atLeast_7 : decode cX1_atLeast 7 = .ok (.invokestatic 292, 3) := dk_184 1 36 (dk_at dksX1_atLeast_0 7 rfl rfl)
theorem dX1_atLeast_10 : decode cX1_atLeast 10 = .ok (.iconst 0, 1) := dk_3 (dk_at dksX1_atLeast_0 10 rfl rfl)
theorem dX1_atLeast_11 : decode cX1_atLeast 11 = .ok (.istore_n 2, 1) := dk_61 (dk_at dksX1_atLeast_0 11 rfl rfl)
theorem dX1_atLeast_12 : decode cX1_atLeast 12 = .ok (.iload_n 1, 1) := dk_27 (dk_at dksX1_atLeast_0 12 rfl rfl)
theorem dX1_atLeast_13 : decode cX1_atLeast 13 = .ok (.istore_n 3, 1) := dk_62 (dk_at dksX1_atLeast_0 13 rfl rfl)
theorem dX1_atLeast_14 : decode cX1_atLeast 14 = .ok (.iload_n 3, 1) := dk_29 (dk_at dksX1_atLeast_0 14 rfl rfl)
theorem dX1_atLeast_15 : decode cX1_atLeast 15 = .ok (.bipush 6, 2) := dk_16 6 (dk_at dksX1_atLeast_0 15 rfl rfl)
theorem dX1_atLeast_17 : decode cX1_atLeast 17 = .ok (.if_icmp .gt 21, 3) := dk_163 0 21 (dk_at dksX1_atLeast_0 17 rfl rfl)
theorem dX1_atLeast_20 : decode cX1_atLeast 20 = .ok (.iload_n 2, 1) := dk_28 (dk_at dksX1_atLeast_0 20 rfl rfl)
theorem dX1_atLeast_21 : decode cX1_atLeast 21 = .ok (.aload_n 0, 1) := dk_42 (dk_at dksX1_atLeast_0 21 rfl rfl)
theorem dX1_atLeast_22 : decode cX1_atLeast 22 = .ok (.getfield 10, 3) := dk_180 0 10 (dk_at dksX1_atLeast_1 0 rfl rfl)
theorem dX1_atLeast_25 : decode cX1_atLeast 25 = .ok (.getfield 208, 3) := dk_180 0 208 (dk_at dksX1_atLeast_1 3 rfl rfl)
theorem dX1_atLeast_28 : decode cX1_atLeast 28 = .ok (.iload_n 3, 1) := dk_29 (dk_at dksX1_atLeast_1 6 rfl rfl)
theorem dX1_atLeast_29 : decode cX1_atLeast 29 = .ok (.iaload, 1) := dk_46 (dk_at dksX1_atLeast_1 7 rfl rfl)
theorem dX1_atLeast_30 : decode cX1_atLeast 30 = .ok (.iadd, 1) := dk_96 (dk_at dksX1_atLeast_1 8 rfl rfl)
theorem dX1_atLeast_31 : decode cX1_atLeast 31 = .ok (.istore_n 2, 1) := dk_61 (dk_at dksX1_atLeast_1 9 rfl rfl)
theorem dX1_atLeast_32 : decode cX1_atLeast 32 = .ok (.iinc 3 1, 3) := dk_132 3 1 (dk_at dksX1_atLeast_1 10 rfl rfl)
theorem dX1_atLeast_35 : decode cX1_atLeast 35 = .ok (.goto (-21), 3) := dk_167 255 235 (dk_at dksX1_atLeast_1 13 rfl rfl)
theorem dX1_atLeast_38 : decode cX1_atLeast 38 = .ok (.iload_n 2, 1) := dk_28 (dk_at dksX1_atLeast_1 16 rfl rfl)
theorem dX1_atLeast_39 : decode cX1_atLeast 39 = .ok (.ireturn, 1) := dk_172 (dk_at dksX1_atLeast_1 17 rfl rfl)
abbrev cX1_driest : ByteArray := prog_1_method_52_code
def yX1_driest : MethodName := ⟨RX1, "driest", "()I"⟩
def dkwX1_driest_3 : List UInt8 := [25, 5, 180, 1, 47, 61, 29, 60, 132, 3, 1, 167, 255, 214, 27, 172]
abbrev dktX1_driest_3 : List UInt8 := dkwX1_driest_3 ++ []
def dkwX1_driest_2 : List UInt8 := [153, 0, 38, 25, 4, 185, 0, 163, 1, 0, 192, 0, 198, 58, 5, 25, 5, 180, 1, 47, 28, 162, 0, 11]
abbrev dktX1_driest_2 : List UInt8 := dkwX1_driest_2 ++ dktX1_driest_3
def dkwX1_driest_1 : List UInt8 := [16, 21, 61, 3, 62, 42, 180, 0, 10, 180, 0, 195, 182, 1, 46, 58, 4, 25, 4, 185, 0, 157, 1, 0]
abbrev dktX1_driest_1 : List UInt8 := dkwX1_driest_1 ++ dktX1_driest_2
def dkwX1_driest_0 : List UInt8 := [42, 180, 0, 10, 180, 0, 195, 182, 1, 64, 154, 0, 7, 4, 167, 0, 4, 3, 184, 1, 43, 3, 60]
abbrev dktX1_driest_0 : List UInt8 := dkwX1_driest_0 ++ dktX1_driest_1
theorem dksX1_driest_0 : cX1_driest.data.toList.drop 0 = dktX1_driest_0 := by decide +kernel
theorem dksX1_driest_1 : cX1_driest.data.toList.drop 23 = dktX1_driest_1 := dk_seg dksX1_driest_0 23 rfl rfl
theorem dksX1_driest_2 : cX1_driest.data.toList.drop 47 = dktX1_driest_2 := dk_seg dksX1_driest_1 24 rfl rfl
theorem dksX1_driest_3 : cX1_driest.data.toList.drop 71 = dktX1_driest_3 := dk_seg dksX1_driest_2 24 rfl rfl
theorem dX1_driest_0 : decode cX1_driest 0 = .ok (.aload_n 0, 1) := dk_42 (dk_at dksX1_driest_0 0 rfl rfl)
theorem dX1_driest_1 : decode cX1_driest 1 = .ok (.getfield 10, 3) := dk_180 0 10 (dk_at dksX1_driest_0 1 rfl rfl)
theorem dX1_driest_4 : decode cX1_driest 4 = .ok (.getfield 195, 3) := dk_180 0 195 (dk_at dksX1_driest_0 4 rfl rfl)
theorem dX1_driest_7 : decode cX1_driest 7 = .ok (.invokevirtual 320, 3) := dk_182 1 64 (dk_at dksX1_driest_0 7 rfl rfl)
theorem dX1_driest_10 : decode cX1_driest 10 = .ok (.ifCond .ne 7, 3) := dk_154 0 7 (dk_at dksX1_driest_0 10 rfl rfl)
theorem dX1_driest_13 : decode cX1_driest 13 = .ok (.iconst 1, 1) := dk_4 (dk_at dksX1_driest_0 13 rfl rfl)
theorem dX1_driest_14 : decode cX1_driest 14 = .ok (.goto 4, 3) := dk_167 0 4 (dk_at dksX1_driest_0 14 rfl rfl)
theorem dX1_driest_17 : decode cX1_driest 17 = .ok (.iconst 0, 1) := dk_3 (dk_at dksX1_driest_0 17 rfl rfl)
theorem dX1_driest_18 : decode cX1_driest 18 = .ok (.invokestatic 299, 3) := dk_184 1 43 (dk_at dksX1_driest_0 18 rfl rfl)
theorem dX1_driest_21 : decode cX1_driest 21 = .ok (.iconst 0, 1) := dk_3 (dk_at dksX1_driest_0 21 rfl rfl)
theorem dX1_driest_22 : decode cX1_driest 22 = .ok (.istore_n 1, 1) := dk_60 (dk_at dksX1_driest_0 22 rfl rfl)
theorem dX1_driest_23 : decode cX1_driest 23 = .ok (.bipush 21, 2) := dk_16 21 (dk_at dksX1_driest_1 0 rfl rfl)
theorem dX1_driest_25 : decode cX1_driest 25 = .ok (.istore_n 2, 1) := dk_61 (dk_at dksX1_driest_1 2 rfl rfl)
theorem dX1_driest_26 : decode cX1_driest 26 = .ok (.iconst 0, 1) := dk_3 (dk_at dksX1_driest_1 3 rfl rfl)
theorem dX1_driest_27 : decode cX1_driest 27 = .ok (.istore_n 3, 1) := dk_62 (dk_at dksX1_driest_1 4 rfl rfl)
theorem dX1_driest_28 : decode cX1_driest 28 = .ok (.aload_n 0, 1) := dk_42 (dk_at dksX1_driest_1 5 rfl rfl)
theorem dX1_driest_29 : decode cX1_driest 29 = .ok (.getfield 10, 3) := dk_180 0 10 (dk_at dksX1_driest_1 6 rfl rfl)
theorem dX1_driest_32 : decode cX1_driest 32 = .ok (.getfield 195, 3) := dk_180 0 195 (dk_at dksX1_driest_1 9 rfl rfl)
theorem dX1_driest_35 : decode cX1_driest 35 = .ok (.invokevirtual 302, 3) := dk_182 1 46 (dk_at dksX1_driest_1 12 rfl rfl)
theorem dX1_driest_38 : decode cX1_driest 38 = .ok (.astore 4, 2) := dk_58 4 (dk_at dksX1_driest_1 15 rfl rfl)
theorem dX1_driest_40 : decode cX1_driest 40 = .ok (.aload 4, 2) := dk_25 4 (dk_at dksX1_driest_1 17 rfl rfl)
theorem dX1_driest_42 : decode cX1_driest 42 = .ok (.invokeinterface 157 1, 5) := by decide +kernel
theorem dX1_driest_47 : decode cX1_driest 47 = .ok (.ifCond .eq 38, 3) := dk_153 0 38 (dk_at dksX1_driest_2 0 rfl rfl)
theorem dX1_driest_50 : decode cX1_driest 50 = .ok (.aload 4, 2) := dk_25 4 (dk_at dksX1_driest_2 3 rfl rfl)
theorem dX1_driest_52 : decode cX1_driest 52 = .ok (.invokeinterface 163 1, 5) := by decide +kernel
theorem dX1_driest_57 : decode cX1_driest 57 = .ok (.checkcast 198, 3) := dk_192 0 198 (dk_at dksX1_driest_2 10 rfl rfl)
theorem dX1_driest_60 : decode cX1_driest 60 = .ok (.astore 5, 2) := dk_58 5 (dk_at dksX1_driest_2 13 rfl rfl)
theorem dX1_driest_62 : decode cX1_driest 62 = .ok (.aload 5, 2) := dk_25 5 (dk_at dksX1_driest_2 15 rfl rfl)
theorem dX1_driest_64 : decode cX1_driest 64 = .ok (.getfield 303, 3) := dk_180 1 47 (dk_at dksX1_driest_2 17 rfl rfl)
theorem dX1_driest_67 : decode cX1_driest 67 = .ok (.iload_n 2, 1) := dk_28 (dk_at dksX1_driest_2 20 rfl rfl)
theorem dX1_driest_68 : decode cX1_driest 68 = .ok (.if_icmp .ge 11, 3) := dk_162 0 11 (dk_at dksX1_driest_2 21 rfl rfl)
theorem dX1_driest_71 : decode cX1_driest 71 = .ok (.aload 5, 2) := dk_25 5 (dk_at dksX1_driest_3 0 rfl rfl)
theorem dX1_driest_73 : decode cX1_driest 73 = .ok (.getfield 303, 3) := dk_180 1 47 (dk_at dksX1_driest_3 2 rfl rfl)
theorem dX1_driest_76 : decode cX1_driest 76 = .ok (.istore_n 2, 1) := dk_61 (dk_at dksX1_driest_3 5 rfl rfl)
theorem dX1_driest_77 : decode cX1_driest 77 = .ok (.iload_n 3, 1) := dk_29 (dk_at dksX1_driest_3 6 rfl rfl)
theorem dX1_driest_78 : decode cX1_driest 78 = .ok (.istore_n 1, 1) := dk_60 (dk_at dksX1_driest_3 7 rfl rfl)
theorem dX1_driest_79 : decode cX1_driest 79 = .ok (.iinc 3 1, 3) := dk_132 3 1 (dk_at dksX1_driest_3 8 rfl rfl)
theorem dX1_driest_82 : decode cX1_driest 82 = .ok (.goto (-42), 3) := dk_167 255 214 (dk_at dksX1_driest_3 11 rfl rfl)
theorem dX1_driest_85 : decode cX1_driest 85 = .ok (.iload_n 1, 1) := dk_27 (dk_at dksX1_driest_3 14 rfl rfl)
theorem dX1_driest_86 : decode cX1_driest 86 = .ok (.ireturn, 1) := dk_172 (dk_at dksX1_driest_3 15 rfl rfl)
abbrev cX1_wouldDraw : ByteArray := prog_1_method_54_code
def yX1_wouldDraw : MethodName := ⟨RX1, "wouldDraw", "(II)Z"⟩
def dkwX1_wouldDraw_1 : List UInt8 := [45, 182, 0, 237, 172]
abbrev dktX1_wouldDraw_1 : List UInt8 := dkwX1_wouldDraw_1 ++ []
def dkwX1_wouldDraw_0 : List UInt8 := [42, 27, 182, 1, 33, 182, 1, 65, 78, 28, 4, 16, 9, 184, 0, 53, 184, 1, 36, 45, 28, 182, 0, 252]
abbrev dktX1_wouldDraw_0 : List UInt8 := dkwX1_wouldDraw_0 ++ dktX1_wouldDraw_1
theorem dksX1_wouldDraw_0 : cX1_wouldDraw.data.toList.drop 0 = dktX1_wouldDraw_0 := by decide +kernel
theorem dksX1_wouldDraw_1 : cX1_wouldDraw.data.toList.drop 24 = dktX1_wouldDraw_1 := dk_seg dksX1_wouldDraw_0 24 rfl rfl
theorem dX1_wouldDraw_0 : decode cX1_wouldDraw 0 = .ok (.aload_n 0, 1) := dk_42 (dk_at dksX1_wouldDraw_0 0 rfl rfl)
theorem dX1_wouldDraw_1 : decode cX1_wouldDraw 1 = .ok (.iload_n 1, 1) := dk_27 (dk_at dksX1_wouldDraw_0 1 rfl rfl)
theorem dX1_wouldDraw_2 : decode cX1_wouldDraw 2 = .ok (.invokevirtual 289, 3) := dk_182 1 33 (dk_at dksX1_wouldDraw_0 2 rfl rfl)
theorem dX1_wouldDraw_5 : decode cX1_wouldDraw 5 = .ok (.invokevirtual 321, 3) := dk_182 1 65 (dk_at dksX1_wouldDraw_0 5 rfl rfl)
theorem dX1_wouldDraw_8 : decode cX1_wouldDraw 8 = .ok (.astore_n 3, 1) := dk_78 (dk_at dksX1_wouldDraw_0 8 rfl rfl)
theorem dX1_wouldDraw_9 : decode cX1_wouldDraw 9 = .ok (.iload_n 2, 1) := dk_28 (dk_at dksX1_wouldDraw_0 9 rfl rfl)
theorem dX1_wouldDraw_10 : decode cX1_wouldDraw 10 = .ok (.iconst 1, 1) := dk_4 (dk_at dksX1_wouldDraw_0 10 rfl rfl)
theorem dX1_wouldDraw_11 : decode cX1_wouldDraw 11 = .ok (.bipush 9, 2) := dk_16 9 (dk_at dksX1_wouldDraw_0 11 rfl rfl)
theorem dX1_wouldDraw_13 : decode cX1_wouldDraw 13 = .ok (.invokestatic 53, 3) := dk_184 0 53 (dk_at dksX1_wouldDraw_0 13 rfl rfl)
theorem dX1_wouldDraw_16 : decode cX1_wouldDraw 16 = .ok (.invokestatic 292, 3) := dk_184 1 36 (dk_at dksX1_wouldDraw_0 16 rfl rfl)
theorem dX1_wouldDraw_19 : decode cX1_wouldDraw 19 = .ok (.aload_n 3, 1) := dk_45 (dk_at dksX1_wouldDraw_0 19 rfl rfl)
theorem dX1_wouldDraw_20 : decode cX1_wouldDraw 20 = .ok (.iload_n 2, 1) := dk_28 (dk_at dksX1_wouldDraw_0 20 rfl rfl)
theorem dX1_wouldDraw_21 : decode cX1_wouldDraw 21 = .ok (.invokevirtual 252, 3) := dk_182 0 252 (dk_at dksX1_wouldDraw_0 21 rfl rfl)
theorem dX1_wouldDraw_24 : decode cX1_wouldDraw 24 = .ok (.aload_n 3, 1) := dk_45 (dk_at dksX1_wouldDraw_1 0 rfl rfl)
theorem dX1_wouldDraw_25 : decode cX1_wouldDraw 25 = .ok (.invokevirtual 237, 3) := dk_182 0 237 (dk_at dksX1_wouldDraw_1 1 rfl rfl)
theorem dX1_wouldDraw_28 : decode cX1_wouldDraw 28 = .ok (.ireturn, 1) := dk_172 (dk_at dksX1_wouldDraw_1 4 rfl rfl)
abbrev cX1_mostSmoked : ByteArray := prog_1_method_55_code
def yX1_mostSmoked : MethodName := ⟨RX1, "mostSmoked", "()I"⟩
def dkwX1_mostSmoked_3 : List UInt8 := [180, 1, 42, 164, 0, 5, 28, 60, 132, 2, 1, 167, 255, 200, 27, 172]
abbrev dktX1_mostSmoked_3 : List UInt8 := dkwX1_mostSmoked_3 ++ []
def dkwX1_mostSmoked_2 : List UInt8 := [182, 0, 104, 192, 0, 108, 180, 1, 42, 42, 180, 0, 10, 180, 0, 93, 27, 182, 0, 104, 192, 0, 108]
abbrev dktX1_mostSmoked_2 : List UInt8 := dkwX1_mostSmoked_2 ++ dktX1_mostSmoked_3
def dkwX1_mostSmoked_1 : List UInt8 := [61, 28, 42, 180, 0, 10, 180, 0, 93, 182, 0, 97, 162, 0, 48, 42, 180, 0, 10, 180, 0, 93, 28]
abbrev dktX1_mostSmoked_1 : List UInt8 := dkwX1_mostSmoked_1 ++ dktX1_mostSmoked_2
def dkwX1_mostSmoked_0 : List UInt8 := [42, 180, 0, 10, 180, 0, 93, 182, 1, 68, 154, 0, 7, 4, 167, 0, 4, 3, 184, 1, 43, 3, 60, 4]
abbrev dktX1_mostSmoked_0 : List UInt8 := dkwX1_mostSmoked_0 ++ dktX1_mostSmoked_1
theorem dksX1_mostSmoked_0 : cX1_mostSmoked.data.toList.drop 0 = dktX1_mostSmoked_0 := by decide +kernel
theorem dksX1_mostSmoked_1 : cX1_mostSmoked.data.toList.drop 24 = dktX1_mostSmoked_1 := dk_seg dksX1_mostSmoked_0 24 rfl rfl
theorem dksX1_mostSmoked_2 : cX1_mostSmoked.data.toList.drop 47 = dktX1_mostSmoked_2 := dk_seg dksX1_mostSmoked_1 23 rfl rfl
theorem dksX1_mostSmoked_3 : cX1_mostSmoked.data.toList.drop 70 = dktX1_mostSmoked_3 := dk_seg dksX1_mostSmoked_2 23 rfl rfl
theorem dX1_mostSmoked_0 : decode cX1_mostSmoked 0 = .ok (.aload_n 0, 1) := dk_42 (dk_at dksX1_mostSmoked_0 0 rfl rfl)
theorem dX1_mostSmoked_1 : decode cX1_mostSmoked 1 = .ok (.getfield 10, 3) := dk_180 0 10 (dk_at dksX1_mostSmoked_0 1 rfl rfl)
theorem dX1_mostSmoked_4 : decode cX1_mostSmoked 4 = .ok (.getfield 93, 3) := dk_180 0 93 (dk_at dksX1_mostSmoked_0 4 rfl rfl)
theorem dX1_mostSmoked_7 : decode cX1_mostSmoked 7 = .ok (.invokevirtual 324, 3) := dk_182 1 68 (dk_at dksX1_mostSmoked_0 7 rfl rfl)
theorem dX1_mostSmoked_10 : decode cX1_mostSmoked 10 = .ok (.ifCond .ne 7, 3) := dk_154 0 7 (dk_at dksX1_mostSmoked_0 10 rfl rfl)
theorem dX1_mostSmoked_13 : decode cX1_mostSmoked 13 = .ok (.iconst 1, 1) := dk_4 (dk_at dksX1_mostSmoked_0 13 rfl rfl)
theorem dX1_mostSmoked_14 : decode cX1_mostSmoked 14 = .ok (.goto 4, 3) := dk_167 0 4 (dk_at dksX1_mostSmoked_0 14 rfl rfl)
theorem dX1_mostSmoked_17 : decode cX1_mostSmoked 17 = .ok (.iconst 0, 1) := dk_3 (dk_at dksX1_mostSmoked_0 17 rfl rfl)
theorem dX1_mostSmoked_18 : decode cX1_mostSmoked 18 = .ok (.invokestatic 299, 3) := dk_184 1 43 (dk_at dksX1_mostSmoked_0 18 rfl rfl)
theorem dX1_mostSmoked_21 : decode cX1_mostSmoked 21 = .ok (.iconst 0, 1) := dk_3 (dk_at dksX1_mostSmoked_0 21 rfl rfl)
theorem dX1_mostSmoked_22 : decode cX1_mostSmoked 22 = .ok (.istore_n 1, 1) := dk_60 (dk_at dksX1_mostSmoked_0 22 rfl rfl)
theorem dX1_mostSmoked_23 : decode cX1_mostSmoked 23 = .ok (.iconst 1, 1) := dk_4 (dk_at dksX1_mostSmoked_0 23 rfl rfl)
theorem dX1_mostSmoked_24 : decode cX1_mostSmoked 24 = .ok (.istore_n 2, 1) := dk_61 (dk_at dksX1_mostSmoked_1 0 rfl rfl)
theorem dX1_mostSmoked_25 : decode cX1_mostSmoked 25 = .ok (.iload_n 2, 1) := dk_28 (dk_at dksX1_mostSmoked_1 1 rfl rfl)
theorem dX1_mostSmoked_26 : decode cX1_mostSmoked 26 = .ok (.aload_n 0, 1) := dk_42 (dk_at dksX1_mostSmoked_1 2 rfl rfl)
theorem dX1_mostSmoked_27 : decode cX1_mostSmoked 27 = .ok (.getfield 10, 3) := dk_180 0 10 (dk_at dksX1_mostSmoked_1 3 rfl rfl)
theorem dX1_mostSmoked_30 : decode cX1_mostSmoked 30 = .ok (.getfield 93, 3) := dk_180 0 93 (dk_at dksX1_mostSmoked_1 6 rfl rfl)
theorem dX1_mostSmoked_33 : decode cX1_mostSmoked 33 = .ok (.invokevirtual 97, 3) := dk_182 0 97 (dk_at dksX1_mostSmoked_1 9 rfl rfl)
theorem dX1_mostSmoked_36 : decode cX1_mostSmoked 36 = .ok (.if_icmp .ge 48, 3) := dk_162 0 48 (dk_at dksX1_mostSmoked_1 12 rfl rfl)
theorem dX1_mostSmoked_39 : decode cX1_mostSmoked 39 = .ok (.aload_n 0, 1) := dk_42 (dk_at dksX1_mostSmoked_1 15 rfl rfl)
theorem dX1_mostSmoked_40 : decode cX1_mostSmoked 40 = .ok (.getfield 10, 3) := dk_180 0 10 (dk_at dksX1_mostSmoked_1 16 rfl rfl)
theorem dX1_mostSmoked_43 : decode cX1_mostSmoked 43 = .ok (.getfield 93, 3) := dk_180 0 93 (dk_at dksX1_mostSmoked_1 19 rfl rfl)
theorem dX1_mostSmoked_46 : decode cX1_mostSmoked 46 = .ok (.iload_n 2, 1) := dk_28 (dk_at dksX1_mostSmoked_1 22 rfl rfl)
theorem dX1_mostSmoked_47 : decode cX1_mostSmoked 47 = .ok (.invokevirtual 104, 3) := dk_182 0 104 (dk_at dksX1_mostSmoked_2 0 rfl rfl)
theorem dX1_mostSmoked_50 : decode cX1_mostSmoked 50 = .ok (.checkcast 108, 3) := dk_192 0 108 (dk_at dksX1_mostSmoked_2 3 rfl rfl)
theorem dX1_mostSmoked_53 : decode cX1_mostSmoked 53 = .ok (.getfield 298, 3) := dk_180 1 42 (dk_at dksX1_mostSmoked_2 6 rfl rfl)
theorem dX1_mostSmoked_56 : decode cX1_mostSmoked 56 = .ok (.aload_n 0, 1) := dk_42 (dk_at dksX1_mostSmoked_2 9 rfl rfl)
theorem dX1_mostSmoked_57 : decode cX1_mostSmoked 57 = .ok (.getfield 10, 3) := dk_180 0 10 (dk_at dksX1_mostSmoked_2 10 rfl rfl)
theorem dX1_mostSmoked_60 : decode cX1_mostSmoked 60 = .ok (.getfield 93, 3) := dk_180 0 93 (dk_at dksX1_mostSmoked_2 13 rfl rfl)
theorem dX1_mostSmoked_63 : decode cX1_mostSmoked 63 = .ok (.iload_n 1, 1) := dk_27 (dk_at dksX1_mostSmoked_2 16 rfl rfl)
theorem dX1_mostSmoked_64 : decode cX1_mostSmoked 64 = .ok (.invokevirtual 104, 3) := dk_182 0 104 (dk_at dksX1_mostSmoked_2 17 rfl rfl)
theorem dX1_mostSmoked_67 : decode cX1_mostSmoked 67 = .ok (.checkcast 108, 3) := dk_192 0 108 (dk_at dksX1_mostSmoked_2 20 rfl rfl)
theorem dX1_mostSmoked_70 : decode cX1_mostSmoked 70 = .ok (.getfield 298, 3) := dk_180 1 42 (dk_at dksX1_mostSmoked_3 0 rfl rfl)
theorem dX1_mostSmoked_73 : decode cX1_mostSmoked 73 = .ok (.if_icmp .le 5, 3) := dk_164 0 5 (dk_at dksX1_mostSmoked_3 3 rfl rfl)
theorem dX1_mostSmoked_76 : decode cX1_mostSmoked 76 = .ok (.iload_n 2, 1) := dk_28 (dk_at dksX1_mostSmoked_3 6 rfl rfl)
theorem dX1_mostSmoked_77 : decode cX1_mostSmoked 77 = .ok (.istore_n 1, 1) := dk_60 (dk_at dksX1_mostSmoked_3 7 rfl rfl)
theorem dX1_mostSmoked_78 : decode cX1_mostSmoked 78 = .ok (.iinc 2 1, 3) := dk_132 2 1 (dk_at dksX1_mostSmoked_3 8 rfl rfl)
theorem dX1_mostSmoked_81 : decode cX1_mostSmoked 81 = .ok (.goto (-56), 3) := dk_167 255 200 (dk_at dksX1_mostSmoked_3 11 rfl rfl)
theorem dX1_mostSmoked_84 : decode cX1_mostSmoked 84 = .ok (.iload_n 1, 1) := dk_27 (dk_at dksX1_mostSmoked_3 14 rfl rfl)
theorem dX1_mostSmoked_85 : decode cX1_mostSmoked 85 = .ok (.ireturn, 1) := dk_172 (dk_at dksX1_mostSmoked_3 15 rfl rfl)
abbrev cX1_ranked : ByteArray := prog_1_method_58_code
def yX1_ranked : MethodName := ⟨RX1, "ranked", "(I)I"⟩
def dkwX1_ranked_1 : List UInt8 := [180, 0, 10, 28, 182, 1, 69, 27, 159, 0, 9, 132, 2, 1, 167, 255, 241, 28, 172]
abbrev dktX1_ranked_1 : List UInt8 := dkwX1_ranked_1 ++ []
def dkwX1_ranked_0 : List UInt8 := [27, 3, 42, 180, 0, 10, 180, 0, 93, 182, 0, 97, 4, 100, 184, 0, 53, 184, 1, 43, 3, 61, 42]
abbrev dktX1_ranked_0 : List UInt8 := dkwX1_ranked_0 ++ dktX1_ranked_1
theorem dksX1_ranked_0 : cX1_ranked.data.toList.drop 0 = dktX1_ranked_0 := by decide +kernel
theorem dksX1_ranked_1 : cX1_ranked.data.toList.drop 23 = dktX1_ranked_1 := dk_seg dksX1_ranked_0 23 rfl rfl
theorem dX1_ranked_0 : decode cX1_ranked 0 = .ok (.iload_n 1, 1) := dk_27 (dk_at dksX1_ranked_0 0 rfl rfl)
theorem dX1_ranked_1 : decode cX1_ranked 1 = .ok (.iconst 0, 1) := dk_3 (dk_at dksX1_ranked_0 1 rfl rfl)
theorem dX1_ranked_2 : decode cX1_ranked 2 = .ok (.aload_n 0, 1) := dk_42 (dk_at dksX1_ranked_0 2 rfl rfl)
theorem dX1_ranked_3 : decode cX1_ranked 3 = .ok (.getfield 10, 3) := dk_180 0 10 (dk_at dksX1_ranked_0 3 rfl rfl)
theorem dX1_ranked_6 : decode cX1_ranked 6 = .ok (.getfield 93, 3) := dk_180 0 93 (dk_at dksX1_ranked_0 6 rfl rfl)
theorem dX1_ranked_9 : decode cX1_ranked 9 = .ok (.invokevirtual 97, 3) := dk_182 0 97 (dk_at dksX1_ranked_0 9 rfl rfl)
theorem dX1_ranked_12 : decode cX1_ranked 12 = .ok (.iconst 1, 1) := dk_4 (dk_at dksX1_ranked_0 12 rfl rfl)
theorem dX1_ranked_13 : decode cX1_ranked 13 = .ok (.isub, 1) := dk_100 (dk_at dksX1_ranked_0 13 rfl rfl)
theorem dX1_ranked_14 : decode cX1_ranked 14 = .ok (.invokestatic 53, 3) := dk_184 0 53 (dk_at dksX1_ranked_0 14 rfl rfl)
theorem dX1_ranked_17 : decode cX1_ranked 17 = .ok (.invokestatic 299, 3) := dk_184 1 43 (dk_at dksX1_ranked_0 17 rfl rfl)
theorem dX1_ranked_20 : decode cX1_ranked 20 = .ok (.iconst 0, 1) := dk_3 (dk_at dksX1_ranked_0 20 rfl rfl)
theorem dX1_ranked_21 : decode cX1_ranked 21 = .ok (.istore_n 2, 1) := dk_61 (dk_at dksX1_ranked_0 21 rfl rfl)
theorem dX1_ranked_22 : decode cX1_ranked 22 = .ok (.aload_n 0, 1) := dk_42 (dk_at dksX1_ranked_0 22 rfl rfl)
theorem dX1_ranked_23 : decode cX1_ranked 23 = .ok (.getfield 10, 3) := dk_180 0 10 (dk_at dksX1_ranked_1 0 rfl rfl)
theorem dX1_ranked_26 : decode cX1_ranked 26 = .ok (.iload_n 2, 1) := dk_28 (dk_at dksX1_ranked_1 3 rfl rfl)
theorem dX1_ranked_27 : decode cX1_ranked 27 = .ok (.invokevirtual 325, 3) := dk_182 1 69 (dk_at dksX1_ranked_1 4 rfl rfl)
theorem dX1_ranked_30 : decode cX1_ranked 30 = .ok (.iload_n 1, 1) := dk_27 (dk_at dksX1_ranked_1 7 rfl rfl)
theorem dX1_ranked_31 : decode cX1_ranked 31 = .ok (.if_icmp .eq 9, 3) := dk_159 0 9 (dk_at dksX1_ranked_1 8 rfl rfl)
theorem dX1_ranked_34 : decode cX1_ranked 34 = .ok (.iinc 2 1, 3) := dk_132 2 1 (dk_at dksX1_ranked_1 11 rfl rfl)
theorem dX1_ranked_37 : decode cX1_ranked 37 = .ok (.goto (-15), 3) := dk_167 255 241 (dk_at dksX1_ranked_1 14 rfl rfl)
theorem dX1_ranked_40 : decode cX1_ranked 40 = .ok (.iload_n 2, 1) := dk_28 (dk_at dksX1_ranked_1 17 rfl rfl)
theorem dX1_ranked_41 : decode cX1_ranked 41 = .ok (.ireturn, 1) := dk_172 (dk_at dksX1_ranked_1 18 rfl rfl)
abbrev cX1_smokes : ByteArray := prog_1_method_59_code
def yX1_smokes : MethodName := ⟨RX1, "smokes", "(I)I"⟩
def dkwX1_smokes_1 : List UInt8 := [62, 44, 182, 0, 237, 153, 0, 13, 44, 182, 0, 243, 132, 3, 1, 167, 255, 242, 29, 172]
abbrev dktX1_smokes_1 : List UInt8 := dkwX1_smokes_1 ++ []
def dkwX1_smokes_0 : List UInt8 := [42, 27, 182, 1, 33, 182, 1, 65, 77, 42, 180, 0, 10, 27, 182, 0, 135, 2, 159, 0, 5, 3, 172, 3]
abbrev dktX1_smokes_0 : List UInt8 := dkwX1_smokes_0 ++ dktX1_smokes_1
theorem dksX1_smokes_0 : cX1_smokes.data.toList.drop 0 = dktX1_smokes_0 := by decide +kernel
theorem dksX1_smokes_1 : cX1_smokes.data.toList.drop 24 = dktX1_smokes_1 := dk_seg dksX1_smokes_0 24 rfl rfl
theorem dX1_smokes_0 : decode cX1_smokes 0 = .ok (.aload_n 0, 1) := dk_42 (dk_at dksX1_smokes_0 0 rfl rfl)
theorem dX1_smokes_1 : decode cX1_smokes 1 = .ok (.iload_n 1, 1) := dk_27 (dk_at dksX1_smokes_0 1 rfl rfl)
theorem dX1_smokes_2 : decode cX1_smokes 2 = .ok (.invokevirtual 289, 3) := dk_182 1 33 (dk_at dksX1_smokes_0 2 rfl rfl)
theorem dX1_smokes_5 : decode cX1_smokes 5 = .ok (.invokevirtual 321, 3) := dk_182 1 65 (dk_at dksX1_smokes_0 5 rfl rfl)
theorem dX1_smokes_8 : decode cX1_smokes 8 = .ok (.astore_n 2, 1) := dk_77 (dk_at dksX1_smokes_0 8 rfl rfl)
theorem dX1_smokes_9 : decode cX1_smokes 9 = .ok (.aload_n 0, 1) := dk_42 (dk_at dksX1_smokes_0 9 rfl rfl)
theorem dX1_smokes_10 : decode cX1_smokes 10 = .ok (.getfield 10, 3) := dk_180 0 10 (dk_at dksX1_smokes_0 10 rfl rfl)
theorem dX1_smokes_13 : decode cX1_smokes 13 = .ok (.iload_n 1, 1) := dk_27 (dk_at dksX1_smokes_0 13 rfl rfl)
theorem dX1_smokes_14 : decode cX1_smokes 14 = .ok (.invokevirtual 135, 3) := dk_182 0 135 (dk_at dksX1_smokes_0 14 rfl rfl)
theorem dX1_smokes_17 : decode cX1_smokes 17 = .ok (.iconst (-1), 1) := dk_2 (dk_at dksX1_smokes_0 17 rfl rfl)
theorem dX1_smokes_18 : decode cX1_smokes 18 = .ok (.if_icmp .eq 5, 3) := dk_159 0 5 (dk_at dksX1_smokes_0 18 rfl rfl)
theorem dX1_smokes_21 : decode cX1_smokes 21 = .ok (.iconst 0, 1) := dk_3 (dk_at dksX1_smokes_0 21 rfl rfl)
theorem dX1_smokes_22 : decode cX1_smokes 22 = .ok (.ireturn, 1) := dk_172 (dk_at dksX1_smokes_0 22 rfl rfl)
theorem dX1_smokes_23 : decode cX1_smokes 23 = .ok (.iconst 0, 1) := dk_3 (dk_at dksX1_smokes_0 23 rfl rfl)
theorem dX1_smokes_24 : decode cX1_smokes 24 = .ok (.istore_n 3, 1) := dk_62 (dk_at dksX1_smokes_1 0 rfl rfl)
theorem dX1_smokes_25 : decode cX1_smokes 25 = .ok (.aload_n 2, 1) := dk_44 (dk_at dksX1_smokes_1 1 rfl rfl)
theorem dX1_smokes_26 : decode cX1_smokes 26 = .ok (.invokevirtual 237, 3) := dk_182 0 237 (dk_at dksX1_smokes_1 2 rfl rfl)
theorem dX1_smokes_29 : decode cX1_smokes 29 = .ok (.ifCond .eq 13, 3) := dk_153 0 13 (dk_at dksX1_smokes_1 5 rfl rfl)
theorem dX1_smokes_32 : decode cX1_smokes 32 = .ok (.aload_n 2, 1) := dk_44 (dk_at dksX1_smokes_1 8 rfl rfl)
theorem dX1_smokes_33 : decode cX1_smokes 33 = .ok (.invokevirtual 243, 3) := dk_182 0 243 (dk_at dksX1_smokes_1 9 rfl rfl)
theorem dX1_smokes_36 : decode cX1_smokes 36 = .ok (.iinc 3 1, 3) := dk_132 3 1 (dk_at dksX1_smokes_1 12 rfl rfl)
theorem dX1_smokes_39 : decode cX1_smokes 39 = .ok (.goto (-14), 3) := dk_167 255 242 (dk_at dksX1_smokes_1 15 rfl rfl)
theorem dX1_smokes_42 : decode cX1_smokes 42 = .ok (.iload_n 3, 1) := dk_29 (dk_at dksX1_smokes_1 18 rfl rfl)
theorem dX1_smokes_43 : decode cX1_smokes 43 = .ok (.ireturn, 1) := dk_172 (dk_at dksX1_smokes_1 19 rfl rfl)
abbrev cX1_append : ByteArray := prog_1_method_64_code
def yX1_append : MethodName := ⟨RX1, "append", "(C)I"⟩
def dkwX1_append_1 : List UInt8 := [167, 0, 4, 3, 184, 1, 121, 42, 180, 0, 26, 27, 182, 1, 124, 87, 42, 180, 0, 26, 182, 1, 118, 172]
abbrev dktX1_append_1 : List UInt8 := dkwX1_append_1 ++ []
def dkwX1_append_0 : List UInt8 := [27, 16, 33, 16, 126, 184, 0, 53, 184, 1, 36, 42, 180, 0, 26, 182, 1, 118, 16, 60, 162, 0, 7, 4]
abbrev dktX1_append_0 : List UInt8 := dkwX1_append_0 ++ dktX1_append_1
theorem dksX1_append_0 : cX1_append.data.toList.drop 0 = dktX1_append_0 := by decide +kernel
theorem dksX1_append_1 : cX1_append.data.toList.drop 24 = dktX1_append_1 := dk_seg dksX1_append_0 24 rfl rfl
theorem dX1_append_0 : decode cX1_append 0 = .ok (.iload_n 1, 1) := dk_27 (dk_at dksX1_append_0 0 rfl rfl)
theorem dX1_append_1 : decode cX1_append 1 = .ok (.bipush 33, 2) := dk_16 33 (dk_at dksX1_append_0 1 rfl rfl)
theorem dX1_append_3 : decode cX1_append 3 = .ok (.bipush 126, 2) := dk_16 126 (dk_at dksX1_append_0 3 rfl rfl)
theorem dX1_append_5 : decode cX1_append 5 = .ok (.invokestatic 53, 3) := dk_184 0 53 (dk_at dksX1_append_0 5 rfl rfl)
theorem dX1_append_8 : decode cX1_append 8 = .ok (.invokestatic 292, 3) := dk_184 1 36 (dk_at dksX1_append_0 8 rfl rfl)
theorem dX1_append_11 : decode cX1_append 11 = .ok (.aload_n 0, 1) := dk_42 (dk_at dksX1_append_0 11 rfl rfl)
theorem dX1_append_12 : decode cX1_append 12 = .ok (.getfield 26, 3) := dk_180 0 26 (dk_at dksX1_append_0 12 rfl rfl)
theorem dX1_append_15 : decode cX1_append 15 = .ok (.invokevirtual 374, 3) := dk_182 1 118 (dk_at dksX1_append_0 15 rfl rfl)
theorem dX1_append_18 : decode cX1_append 18 = .ok (.bipush 60, 2) := dk_16 60 (dk_at dksX1_append_0 18 rfl rfl)
theorem dX1_append_20 : decode cX1_append 20 = .ok (.if_icmp .ge 7, 3) := dk_162 0 7 (dk_at dksX1_append_0 20 rfl rfl)
theorem dX1_append_23 : decode cX1_append 23 = .ok (.iconst 1, 1) := dk_4 (dk_at dksX1_append_0 23 rfl rfl)
theorem dX1_append_24 : decode cX1_append 24 = .ok (.goto 4, 3) := dk_167 0 4 (dk_at dksX1_append_1 0 rfl rfl)
theorem dX1_append_27 : decode cX1_append 27 = .ok (.iconst 0, 1) := dk_3 (dk_at dksX1_append_1 3 rfl rfl)
theorem dX1_append_28 : decode cX1_append 28 = .ok (.invokestatic 377, 3) := dk_184 1 121 (dk_at dksX1_append_1 4 rfl rfl)
theorem dX1_append_31 : decode cX1_append 31 = .ok (.aload_n 0, 1) := dk_42 (dk_at dksX1_append_1 7 rfl rfl)
theorem dX1_append_32 : decode cX1_append 32 = .ok (.getfield 26, 3) := dk_180 0 26 (dk_at dksX1_append_1 8 rfl rfl)
theorem dX1_append_35 : decode cX1_append 35 = .ok (.iload_n 1, 1) := dk_27 (dk_at dksX1_append_1 11 rfl rfl)
theorem dX1_append_36 : decode cX1_append 36 = .ok (.invokevirtual 380, 3) := dk_182 1 124 (dk_at dksX1_append_1 12 rfl rfl)
theorem dX1_append_39 : decode cX1_append 39 = .ok (.pop, 1) := dk_87 (dk_at dksX1_append_1 15 rfl rfl)
theorem dX1_append_40 : decode cX1_append 40 = .ok (.aload_n 0, 1) := dk_42 (dk_at dksX1_append_1 16 rfl rfl)
theorem dX1_append_41 : decode cX1_append 41 = .ok (.getfield 26, 3) := dk_180 0 26 (dk_at dksX1_append_1 17 rfl rfl)
theorem dX1_append_44 : decode cX1_append 44 = .ok (.invokevirtual 374, 3) := dk_182 1 118 (dk_at dksX1_append_1 20 rfl rfl)
theorem dX1_append_47 : decode cX1_append 47 = .ok (.ireturn, 1) := dk_172 (dk_at dksX1_append_1 23 rfl rfl)
abbrev cX1_checkState : ByteArray := prog_1_method_10_code
def yX1_checkState : MethodName := ⟨RX1, "checkState", "(Z)V"⟩
def dkwX1_checkState_0 : List UInt8 := [26, 154, 0, 11, 187, 0, 70, 89, 183, 0, 72, 191, 177]
abbrev dktX1_checkState_0 : List UInt8 := dkwX1_checkState_0 ++ []
theorem dksX1_checkState_0 : cX1_checkState.data.toList.drop 0 = dktX1_checkState_0 := by decide +kernel
theorem dX1_checkState_0 : decode cX1_checkState 0 = .ok (.iload_n 0, 1) := dk_26 (dk_at dksX1_checkState_0 0 rfl rfl)
theorem dX1_checkState_1 : decode cX1_checkState 1 = .ok (.ifCond .ne 11, 3) := dk_154 0 11 (dk_at dksX1_checkState_0 1 rfl rfl)
theorem dX1_checkState_4 : decode cX1_checkState 4 = .ok (.new 70, 3) := dk_187 0 70 (dk_at dksX1_checkState_0 4 rfl rfl)
theorem dX1_checkState_7 : decode cX1_checkState 7 = .ok (.dup, 1) := dk_89 (dk_at dksX1_checkState_0 7 rfl rfl)
theorem dX1_checkState_8 : decode cX1_checkState 8 = .ok (.invokespecial 72, 3) := dk_183 0 72 (dk_at dksX1_checkState_0 8 rfl rfl)
theorem dX1_checkState_11 : decode cX1_checkState 11 = .ok (.athrow, 1) := dk_191 (dk_at dksX1_checkState_0 11 rfl rfl)
theorem dX1_checkState_12 : decode cX1_checkState 12 = .ok (.return_, 1) := dk_177 (dk_at dksX1_checkState_0 12 rfl rfl)
abbrev cX1_run : ByteArray := prog_1_method_65_code
def yX1_run : MethodName := ⟨RX1, "run", "()I"⟩
def dkwX1_run_2 : List UInt8 := [180, 1, 143, 154, 0, 7, 4, 167, 0, 4, 3, 184, 1, 36, 42, 43, 180, 1, 149, 182, 1, 152, 172]
abbrev dktX1_run_2 : List UInt8 := dkwX1_run_2 ++ []
def dkwX1_run_1 : List UInt8 := [182, 1, 140, 42, 43, 180, 1, 143, 153, 0, 10, 43, 180, 1, 146, 167, 0, 4, 2, 181, 0, 33, 43]
abbrev dktX1_run_1 : List UInt8 := dkwX1_run_1 ++ dktX1_run_2
def dkwX1_run_0 : List UInt8 := [187, 1, 128, 89, 42, 180, 0, 26, 182, 1, 130, 183, 1, 134, 76, 42, 180, 0, 26, 3, 182, 1, 137, 43]
abbrev dktX1_run_0 : List UInt8 := dkwX1_run_0 ++ dktX1_run_1
theorem dksX1_run_0 : cX1_run.data.toList.drop 0 = dktX1_run_0 := by decide +kernel
theorem dksX1_run_1 : cX1_run.data.toList.drop 24 = dktX1_run_1 := dk_seg dksX1_run_0 24 rfl rfl
theorem dksX1_run_2 : cX1_run.data.toList.drop 47 = dktX1_run_2 := dk_seg dksX1_run_1 23 rfl rfl
theorem dX1_run_0 : decode cX1_run 0 = .ok (.new 384, 3) := dk_187 1 128 (dk_at dksX1_run_0 0 rfl rfl)
theorem dX1_run_3 : decode cX1_run 3 = .ok (.dup, 1) := dk_89 (dk_at dksX1_run_0 3 rfl rfl)
theorem dX1_run_4 : decode cX1_run 4 = .ok (.aload_n 0, 1) := dk_42 (dk_at dksX1_run_0 4 rfl rfl)
theorem dX1_run_5 : decode cX1_run 5 = .ok (.getfield 26, 3) := dk_180 0 26 (dk_at dksX1_run_0 5 rfl rfl)
theorem dX1_run_8 : decode cX1_run 8 = .ok (.invokevirtual 386, 3) := dk_182 1 130 (dk_at dksX1_run_0 8 rfl rfl)
theorem dX1_run_11 : decode cX1_run 11 = .ok (.invokespecial 390, 3) := dk_183 1 134 (dk_at dksX1_run_0 11 rfl rfl)
theorem dX1_run_14 : decode cX1_run 14 = .ok (.astore_n 1, 1) := dk_76 (dk_at dksX1_run_0 14 rfl rfl)
theorem dX1_run_15 : decode cX1_run 15 = .ok (.aload_n 0, 1) := dk_42 (dk_at dksX1_run_0 15 rfl rfl)
theorem dX1_run_16 : decode cX1_run 16 = .ok (.getfield 26, 3) := dk_180 0 26 (dk_at dksX1_run_0 16 rfl rfl)
theorem dX1_run_19 : decode cX1_run 19 = .ok (.iconst 0, 1) := dk_3 (dk_at dksX1_run_0 19 rfl rfl)
theorem dX1_run_20 : decode cX1_run 20 = .ok (.invokevirtual 393, 3) := dk_182 1 137 (dk_at dksX1_run_0 20 rfl rfl)
theorem dX1_run_23 : decode cX1_run 23 = .ok (.aload_n 1, 1) := dk_43 (dk_at dksX1_run_0 23 rfl rfl)
theorem dX1_run_24 : decode cX1_run 24 = .ok (.invokevirtual 396, 3) := dk_182 1 140 (dk_at dksX1_run_1 0 rfl rfl)
theorem dX1_run_27 : decode cX1_run 27 = .ok (.aload_n 0, 1) := dk_42 (dk_at dksX1_run_1 3 rfl rfl)
theorem dX1_run_28 : decode cX1_run 28 = .ok (.aload_n 1, 1) := dk_43 (dk_at dksX1_run_1 4 rfl rfl)
theorem dX1_run_29 : decode cX1_run 29 = .ok (.getfield 399, 3) := dk_180 1 143 (dk_at dksX1_run_1 5 rfl rfl)
theorem dX1_run_32 : decode cX1_run 32 = .ok (.ifCond .eq 10, 3) := dk_153 0 10 (dk_at dksX1_run_1 8 rfl rfl)
theorem dX1_run_35 : decode cX1_run 35 = .ok (.aload_n 1, 1) := dk_43 (dk_at dksX1_run_1 11 rfl rfl)
theorem dX1_run_36 : decode cX1_run 36 = .ok (.getfield 402, 3) := dk_180 1 146 (dk_at dksX1_run_1 12 rfl rfl)
theorem dX1_run_39 : decode cX1_run 39 = .ok (.goto 4, 3) := dk_167 0 4 (dk_at dksX1_run_1 15 rfl rfl)
theorem dX1_run_42 : decode cX1_run 42 = .ok (.iconst (-1), 1) := dk_2 (dk_at dksX1_run_1 18 rfl rfl)
theorem dX1_run_43 : decode cX1_run 43 = .ok (.putfield 33, 3) := dk_181 0 33 (dk_at dksX1_run_1 19 rfl rfl)
theorem dX1_run_46 : decode cX1_run 46 = .ok (.aload_n 1, 1) := dk_43 (dk_at dksX1_run_1 22 rfl rfl)
theorem dX1_run_47 : decode cX1_run 47 = .ok (.getfield 399, 3) := dk_180 1 143 (dk_at dksX1_run_2 0 rfl rfl)
theorem dX1_run_50 : decode cX1_run 50 = .ok (.ifCond .ne 7, 3) := dk_154 0 7 (dk_at dksX1_run_2 3 rfl rfl)
theorem dX1_run_53 : decode cX1_run 53 = .ok (.iconst 1, 1) := dk_4 (dk_at dksX1_run_2 6 rfl rfl)
theorem dX1_run_54 : decode cX1_run 54 = .ok (.goto 4, 3) := dk_167 0 4 (dk_at dksX1_run_2 7 rfl rfl)
theorem dX1_run_57 : decode cX1_run 57 = .ok (.iconst 0, 1) := dk_3 (dk_at dksX1_run_2 10 rfl rfl)
theorem dX1_run_58 : decode cX1_run 58 = .ok (.invokestatic 292, 3) := dk_184 1 36 (dk_at dksX1_run_2 11 rfl rfl)
theorem dX1_run_61 : decode cX1_run 61 = .ok (.aload_n 0, 1) := dk_42 (dk_at dksX1_run_2 14 rfl rfl)
theorem dX1_run_62 : decode cX1_run 62 = .ok (.aload_n 1, 1) := dk_43 (dk_at dksX1_run_2 15 rfl rfl)
theorem dX1_run_63 : decode cX1_run 63 = .ok (.getfield 405, 3) := dk_180 1 149 (dk_at dksX1_run_2 16 rfl rfl)
theorem dX1_run_66 : decode cX1_run 66 = .ok (.invokevirtual 408, 3) := dk_182 1 152 (dk_at dksX1_run_2 19 rfl rfl)
theorem dX1_run_69 : decode cX1_run 69 = .ok (.ireturn, 1) := dk_172 (dk_at dksX1_run_2 22 rfl rfl)
abbrev cX1_doAll : ByteArray := prog_1_method_63_code
def yX1_doAll : MethodName := ⟨RX1, "doAll", "(Ljava/util/LinkedList;)I"⟩
def dkwX1_doAll_5 : List UInt8 := [182, 0, 122, 42, 25, 4, 181, 0, 10, 29, 172]
abbrev dktX1_doAll_5 : List UInt8 := dkwX1_doAll_5 ++ []
def dkwX1_doAll_4 : List UInt8 := [191, 58, 6, 42, 3, 181, 0, 73, 25, 6, 191, 42, 180, 0, 10, 58, 4, 42, 44, 181, 0, 10, 42]
abbrev dktX1_doAll_4 : List UInt8 := dkwX1_doAll_4 ++ dktX1_doAll_5
def dkwX1_doAll_3 : List UInt8 := [44, 181, 0, 10, 42, 187, 0, 41, 89, 16, 16, 29, 42, 180, 0, 46, 183, 0, 43, 181, 0, 46, 25, 4]
abbrev dktX1_doAll_3 : List UInt8 := dkwX1_doAll_3 ++ dktX1_doAll_4
def dkwX1_doAll_2 : List UInt8 := [42, 25, 5, 182, 1, 114, 87, 132, 3, 1, 167, 255, 224, 42, 3, 181, 0, 73, 167, 0, 41, 58, 4, 42]
abbrev dktX1_doAll_2 : List UInt8 := dkwX1_doAll_2 ++ dktX1_doAll_3
def dkwX1_doAll_1 : List UInt8 := [58, 4, 25, 4, 185, 0, 157, 1, 0, 153, 0, 28, 25, 4, 185, 0, 163, 1, 0, 192, 1, 79, 58, 5]
abbrev dktX1_doAll_1 : List UInt8 := dkwX1_doAll_1 ++ dktX1_doAll_2
def dkwX1_doAll_0 : List UInt8 := [42, 180, 0, 10, 77, 42, 44, 182, 0, 77, 181, 0, 10, 42, 4, 181, 0, 73, 3, 62, 43, 182, 0, 153]
abbrev dktX1_doAll_0 : List UInt8 := dkwX1_doAll_0 ++ dktX1_doAll_1
theorem dksX1_doAll_0 : cX1_doAll.data.toList.drop 0 = dktX1_doAll_0 := by decide +kernel
theorem dksX1_doAll_1 : cX1_doAll.data.toList.drop 24 = dktX1_doAll_1 := dk_seg dksX1_doAll_0 24 rfl rfl
theorem dksX1_doAll_2 : cX1_doAll.data.toList.drop 48 = dktX1_doAll_2 := dk_seg dksX1_doAll_1 24 rfl rfl
theorem dksX1_doAll_3 : cX1_doAll.data.toList.drop 72 = dktX1_doAll_3 := dk_seg dksX1_doAll_2 24 rfl rfl
theorem dksX1_doAll_4 : cX1_doAll.data.toList.drop 96 = dktX1_doAll_4 := dk_seg dksX1_doAll_3 24 rfl rfl
theorem dksX1_doAll_5 : cX1_doAll.data.toList.drop 119 = dktX1_doAll_5 := dk_seg dksX1_doAll_4 23 rfl rfl
theorem dX1_doAll_0 : decode cX1_doAll 0 = .ok (.aload_n 0, 1) := dk_42 (dk_at dksX1_doAll_0 0 rfl rfl)
theorem dX1_doAll_1 : decode cX1_doAll 1 = .ok (.getfield 10, 3) := dk_180 0 10 (dk_at dksX1_doAll_0 1 rfl rfl)
theorem dX1_doAll_4 : decode cX1_doAll 4 = .ok (.astore_n 2, 1) := dk_77 (dk_at dksX1_doAll_0 4 rfl rfl)
theorem dX1_doAll_5 : decode cX1_doAll 5 = .ok (.aload_n 0, 1) := dk_42 (dk_at dksX1_doAll_0 5 rfl rfl)
theorem dX1_doAll_6 : decode cX1_doAll 6 = .ok (.aload_n 2, 1) := dk_44 (dk_at dksX1_doAll_0 6 rfl rfl)
theorem dX1_doAll_7 : decode cX1_doAll 7 = .ok (.invokevirtual 77, 3) := dk_182 0 77 (dk_at dksX1_doAll_0 7 rfl rfl)
theorem dX1_doAll_10 : decode cX1_doAll 10 = .ok (.putfield 10, 3) := dk_181 0 10 (dk_at dksX1_doAll_0 10 rfl rfl)
theorem dX1_doAll_13 : decode cX1_doAll 13 = .ok (.aload_n 0, 1) := dk_42 (dk_at dksX1_doAll_0 13 rfl rfl)
theorem dX1_doAll_14 : decode cX1_doAll 14 = .ok (.iconst 1, 1) := dk_4 (dk_at dksX1_doAll_0 14 rfl rfl)
theorem dX1_doAll_15 : decode cX1_doAll 15 = .ok (.putfield 73, 3) := dk_181 0 73 (dk_at dksX1_doAll_0 15 rfl rfl)
theorem dX1_doAll_18 : decode cX1_doAll 18 = .ok (.iconst 0, 1) := dk_3 (dk_at dksX1_doAll_0 18 rfl rfl)
theorem dX1_doAll_19 : decode cX1_doAll 19 = .ok (.istore_n 3, 1) := dk_62 (dk_at dksX1_doAll_0 19 rfl rfl)
theorem dX1_doAll_20 : decode cX1_doAll 20 = .ok (.aload_n 1, 1) := dk_43 (dk_at dksX1_doAll_0 20 rfl rfl)
theorem dX1_doAll_21 : decode cX1_doAll 21 = .ok (.invokevirtual 153, 3) := dk_182 0 153 (dk_at dksX1_doAll_0 21 rfl rfl)
theorem dX1_doAll_24 : decode cX1_doAll 24 = .ok (.astore 4, 2) := dk_58 4 (dk_at dksX1_doAll_1 0 rfl rfl)
theorem dX1_doAll_26 : decode cX1_doAll 26 = .ok (.aload 4, 2) := dk_25 4 (dk_at dksX1_doAll_1 2 rfl rfl)
theorem dX1_doAll_28 : decode cX1_doAll 28 = .ok (.invokeinterface 157 1, 5) := by decide +kernel
theorem dX1_doAll_33 : decode cX1_doAll 33 = .ok (.ifCond .eq 28, 3) := dk_153 0 28 (dk_at dksX1_doAll_1 9 rfl rfl)
theorem dX1_doAll_36 : decode cX1_doAll 36 = .ok (.aload 4, 2) := dk_25 4 (dk_at dksX1_doAll_1 12 rfl rfl)
theorem dX1_doAll_38 : decode cX1_doAll 38 = .ok (.invokeinterface 163 1, 5) := by decide +kernel
theorem dX1_doAll_43 : decode cX1_doAll 43 = .ok (.checkcast 335, 3) := dk_192 1 79 (dk_at dksX1_doAll_1 19 rfl rfl)
theorem dX1_doAll_46 : decode cX1_doAll 46 = .ok (.astore 5, 2) := dk_58 5 (dk_at dksX1_doAll_1 22 rfl rfl)
theorem dX1_doAll_48 : decode cX1_doAll 48 = .ok (.aload_n 0, 1) := dk_42 (dk_at dksX1_doAll_2 0 rfl rfl)
theorem dX1_doAll_49 : decode cX1_doAll 49 = .ok (.aload 5, 2) := dk_25 5 (dk_at dksX1_doAll_2 1 rfl rfl)
theorem dX1_doAll_51 : decode cX1_doAll 51 = .ok (.invokevirtual 370, 3) := dk_182 1 114 (dk_at dksX1_doAll_2 3 rfl rfl)
theorem dX1_doAll_54 : decode cX1_doAll 54 = .ok (.pop, 1) := dk_87 (dk_at dksX1_doAll_2 6 rfl rfl)
theorem dX1_doAll_55 : decode cX1_doAll 55 = .ok (.iinc 3 1, 3) := dk_132 3 1 (dk_at dksX1_doAll_2 7 rfl rfl)
theorem dX1_doAll_58 : decode cX1_doAll 58 = .ok (.goto (-32), 3) := dk_167 255 224 (dk_at dksX1_doAll_2 10 rfl rfl)
theorem dX1_doAll_61 : decode cX1_doAll 61 = .ok (.aload_n 0, 1) := dk_42 (dk_at dksX1_doAll_2 13 rfl rfl)
theorem dX1_doAll_62 : decode cX1_doAll 62 = .ok (.iconst 0, 1) := dk_3 (dk_at dksX1_doAll_2 14 rfl rfl)
theorem dX1_doAll_63 : decode cX1_doAll 63 = .ok (.putfield 73, 3) := dk_181 0 73 (dk_at dksX1_doAll_2 15 rfl rfl)
theorem dX1_doAll_66 : decode cX1_doAll 66 = .ok (.goto 41, 3) := dk_167 0 41 (dk_at dksX1_doAll_2 18 rfl rfl)
theorem dX1_doAll_69 : decode cX1_doAll 69 = .ok (.astore 4, 2) := dk_58 4 (dk_at dksX1_doAll_2 21 rfl rfl)
theorem dX1_doAll_71 : decode cX1_doAll 71 = .ok (.aload_n 0, 1) := dk_42 (dk_at dksX1_doAll_2 23 rfl rfl)
theorem dX1_doAll_72 : decode cX1_doAll 72 = .ok (.aload_n 2, 1) := dk_44 (dk_at dksX1_doAll_3 0 rfl rfl)
theorem dX1_doAll_73 : decode cX1_doAll 73 = .ok (.putfield 10, 3) := dk_181 0 10 (dk_at dksX1_doAll_3 1 rfl rfl)
theorem dX1_doAll_76 : decode cX1_doAll 76 = .ok (.aload_n 0, 1) := dk_42 (dk_at dksX1_doAll_3 4 rfl rfl)
theorem dX1_doAll_77 : decode cX1_doAll 77 = .ok (.new 41, 3) := dk_187 0 41 (dk_at dksX1_doAll_3 5 rfl rfl)
theorem dX1_doAll_80 : decode cX1_doAll 80 = .ok (.dup, 1) := dk_89 (dk_at dksX1_doAll_3 8 rfl rfl)
theorem dX1_doAll_81 : decode cX1_doAll 81 = .ok (.bipush 16, 2) := dk_16 16 (dk_at dksX1_doAll_3 9 rfl rfl)
theorem dX1_doAll_83 : decode cX1_doAll 83 = .ok (.iload_n 3, 1) := dk_29 (dk_at dksX1_doAll_3 11 rfl rfl)
theorem dX1_doAll_84 : decode cX1_doAll 84 = .ok (.aload_n 0, 1) := dk_42 (dk_at dksX1_doAll_3 12 rfl rfl)
theorem dX1_doAll_85 : decode cX1_doAll 85 = .ok (.getfield 46, 3) := dk_180 0 46 (dk_at dksX1_doAll_3 13 rfl rfl)
theorem dX1_doAll_88 : decode cX1_doAll 88 = .ok (.invokespecial 43, 3) := dk_183 0 43 (dk_at dksX1_doAll_3 16 rfl rfl)
theorem dX1_doAll_91 : decode cX1_doAll 91 = .ok (.putfield 46, 3) := dk_181 0 46 (dk_at dksX1_doAll_3 19 rfl rfl)
theorem dX1_doAll_94 : decode cX1_doAll 94 = .ok (.aload 4, 2) := dk_25 4 (dk_at dksX1_doAll_3 22 rfl rfl)
theorem dX1_doAll_96 : decode cX1_doAll 96 = .ok (.athrow, 1) := dk_191 (dk_at dksX1_doAll_4 0 rfl rfl)
theorem dX1_doAll_97 : decode cX1_doAll 97 = .ok (.astore 6, 2) := dk_58 6 (dk_at dksX1_doAll_4 1 rfl rfl)
theorem dX1_doAll_99 : decode cX1_doAll 99 = .ok (.aload_n 0, 1) := dk_42 (dk_at dksX1_doAll_4 3 rfl rfl)
theorem dX1_doAll_100 : decode cX1_doAll 100 = .ok (.iconst 0, 1) := dk_3 (dk_at dksX1_doAll_4 4 rfl rfl)
theorem dX1_doAll_101 : decode cX1_doAll 101 = .ok (.putfield 73, 3) := dk_181 0 73 (dk_at dksX1_doAll_4 5 rfl rfl)
theorem dX1_doAll_104 : decode cX1_doAll 104 = .ok (.aload 6, 2) := dk_25 6 (dk_at dksX1_doAll_4 8 rfl rfl)
theorem dX1_doAll_106 : decode cX1_doAll 106 = .ok (.athrow, 1) := dk_191 (dk_at dksX1_doAll_4 10 rfl rfl)
theorem dX1_doAll_107 : decode cX1_doAll 107 = .ok (.aload_n 0, 1) := dk_42 (dk_at dksX1_doAll_4 11 rfl rfl)
theorem dX1_doAll_108 : decode cX1_doAll 108 = .ok (.getfield 10, 3) := dk_180 0 10 (dk_at dksX1_doAll_4 12 rfl rfl)
theorem dX1_doAll_111 : decode cX1_doAll 111 = .ok (.astore 4, 2) := dk_58 4 (dk_at dksX1_doAll_4 15 rfl rfl)
theorem dX1_doAll_113 : decode cX1_doAll 113 = .ok (.aload_n 0, 1) := dk_42 (dk_at dksX1_doAll_4 17 rfl rfl)
theorem dX1_doAll_114 : decode cX1_doAll 114 = .ok (.aload_n 2, 1) := dk_44 (dk_at dksX1_doAll_4 18 rfl rfl)
theorem dX1_doAll_115 : decode cX1_doAll 115 = .ok (.putfield 10, 3) := dk_181 0 10 (dk_at dksX1_doAll_4 19 rfl rfl)
theorem dX1_doAll_118 : decode cX1_doAll 118 = .ok (.aload_n 0, 1) := dk_42 (dk_at dksX1_doAll_4 22 rfl rfl)
theorem dX1_doAll_119 : decode cX1_doAll 119 = .ok (.invokevirtual 122, 3) := dk_182 0 122 (dk_at dksX1_doAll_5 0 rfl rfl)
theorem dX1_doAll_122 : decode cX1_doAll 122 = .ok (.aload_n 0, 1) := dk_42 (dk_at dksX1_doAll_5 3 rfl rfl)
theorem dX1_doAll_123 : decode cX1_doAll 123 = .ok (.aload 4, 2) := dk_25 4 (dk_at dksX1_doAll_5 4 rfl rfl)
theorem dX1_doAll_125 : decode cX1_doAll 125 = .ok (.putfield 10, 3) := dk_181 0 10 (dk_at dksX1_doAll_5 6 rfl rfl)
theorem dX1_doAll_128 : decode cX1_doAll 128 = .ok (.iload_n 3, 1) := dk_29 (dk_at dksX1_doAll_5 9 rfl rfl)
theorem dX1_doAll_129 : decode cX1_doAll 129 = .ok (.ireturn, 1) := dk_172 (dk_at dksX1_doAll_5 10 rfl rfl)
abbrev cX1_does : ByteArray := prog_1_method_62_code
def yX1_does : MethodName := ⟨RX1, "does", "(LClayPipes$Order;)I"⟩
def dkwX1_does_5 : List UInt8 := [182, 1, 112, 172]
abbrev dktX1_does_5 : List UInt8 := dkwX1_does_5 ++ []
def dkwX1_does_4 : List UInt8 := [182, 1, 102, 172, 42, 43, 180, 1, 84, 43, 180, 1, 105, 182, 1, 108, 172, 42, 43, 180, 1, 84]
abbrev dktX1_does_4 : List UInt8 := dkwX1_does_4 ++ dktX1_does_5
def dkwX1_does_3 : List UInt8 := [43, 180, 1, 84, 182, 1, 96, 172, 42, 43, 180, 1, 84, 182, 1, 99, 172, 42, 43, 180, 1, 84]
abbrev dktX1_does_3 : List UInt8 := dkwX1_does_3 ++ dktX1_does_4
def dkwX1_does_2 : List UInt8 := [42, 43, 180, 1, 84, 182, 1, 87, 172, 42, 182, 1, 90, 172, 42, 43, 180, 1, 84, 182, 1, 93, 172, 42]
abbrev dktX1_does_2 : List UInt8 := dkwX1_does_2 ++ dktX1_does_3
def dkwX1_does_1 : List UInt8 := [170, 0, 0, 0, 0, 0, 0, 171, 0, 0, 0, 98, 0, 0, 0, 120, 0, 0, 0, 108, 0, 0, 0, 131, 0, 0, 0, 158, 0, 0, 0, 171, 0, 0, 0, 171, 0, 0, 0, 171, 0, 0, 0, 171, 0, 0, 0, 171, 0, 0, 0, 171, 0, 0, 0, 171, 0, 0, 0, 171, 0, 0, 0, 117, 0, 0, 0, 171, 0, 0, 0, 171, 0, 0, 0, 140, 0, 0, 0, 171, 0, 0, 0, 171, 0, 0, 0, 122, 0, 0, 0, 171, 0, 0, 0, 171, 0, 0, 0, 171, 0, 0, 0, 171, 0, 0, 0, 149]
abbrev dktX1_does_1 : List UInt8 := dkwX1_does_1 ++ dktX1_does_2
def dkwX1_does_0 : List UInt8 := [43, 180, 1, 78]
abbrev dktX1_does_0 : List UInt8 := dkwX1_does_0 ++ dktX1_does_1
theorem dksX1_does_0 : cX1_does.data.toList.drop 0 = dktX1_does_0 := by decide +kernel
theorem dksX1_does_1 : cX1_does.data.toList.drop 4 = dktX1_does_1 := dk_seg dksX1_does_0 4 rfl rfl
theorem dksX1_does_2 : cX1_does.data.toList.drop 112 = dktX1_does_2 := dk_seg dksX1_does_1 108 rfl rfl
theorem dksX1_does_3 : cX1_does.data.toList.drop 136 = dktX1_does_3 := dk_seg dksX1_does_2 24 rfl rfl
theorem dksX1_does_4 : cX1_does.data.toList.drop 158 = dktX1_does_4 := dk_seg dksX1_does_3 22 rfl rfl
theorem dksX1_does_5 : cX1_does.data.toList.drop 180 = dktX1_does_5 := dk_seg dksX1_does_4 22 rfl rfl
theorem dX1_does_0 : decode cX1_does 0 = .ok (.aload_n 1, 1) := dk_43 (dk_at dksX1_does_0 0 rfl rfl)
theorem dX1_does_1 : decode cX1_does 1 = .ok (.getfield 334, 3) := dk_180 1 78 (dk_at dksX1_does_0 1 rfl rfl)
theorem dX1_does_4 : decode cX1_does 4 = .ok (.tableswitch 171 98 120 #[108, 131, 158, 171, 171, 171, 171, 171, 171, 171, 171, 117, 171, 171, 140, 171, 171, 122, 171, 171, 171, 171, 149], 108) := by decide +kernel
theorem dX1_does_112 : decode cX1_does 112 = .ok (.aload_n 0, 1) := dk_42 (dk_at dksX1_does_2 0 rfl rfl)
theorem dX1_does_113 : decode cX1_does 113 = .ok (.aload_n 1, 1) := dk_43 (dk_at dksX1_does_2 1 rfl rfl)
theorem dX1_does_114 : decode cX1_does 114 = .ok (.getfield 340, 3) := dk_180 1 84 (dk_at dksX1_does_2 2 rfl rfl)
theorem dX1_does_117 : decode cX1_does 117 = .ok (.invokevirtual 343, 3) := dk_182 1 87 (dk_at dksX1_does_2 5 rfl rfl)
theorem dX1_does_120 : decode cX1_does 120 = .ok (.ireturn, 1) := dk_172 (dk_at dksX1_does_2 8 rfl rfl)
theorem dX1_does_121 : decode cX1_does 121 = .ok (.aload_n 0, 1) := dk_42 (dk_at dksX1_does_2 9 rfl rfl)
theorem dX1_does_122 : decode cX1_does 122 = .ok (.invokevirtual 346, 3) := dk_182 1 90 (dk_at dksX1_does_2 10 rfl rfl)
theorem dX1_does_125 : decode cX1_does 125 = .ok (.ireturn, 1) := dk_172 (dk_at dksX1_does_2 13 rfl rfl)
theorem dX1_does_126 : decode cX1_does 126 = .ok (.aload_n 0, 1) := dk_42 (dk_at dksX1_does_2 14 rfl rfl)
theorem dX1_does_127 : decode cX1_does 127 = .ok (.aload_n 1, 1) := dk_43 (dk_at dksX1_does_2 15 rfl rfl)
theorem dX1_does_128 : decode cX1_does 128 = .ok (.getfield 340, 3) := dk_180 1 84 (dk_at dksX1_does_2 16 rfl rfl)
theorem dX1_does_131 : decode cX1_does 131 = .ok (.invokevirtual 349, 3) := dk_182 1 93 (dk_at dksX1_does_2 19 rfl rfl)
theorem dX1_does_134 : decode cX1_does 134 = .ok (.ireturn, 1) := dk_172 (dk_at dksX1_does_2 22 rfl rfl)
theorem dX1_does_135 : decode cX1_does 135 = .ok (.aload_n 0, 1) := dk_42 (dk_at dksX1_does_2 23 rfl rfl)
theorem dX1_does_136 : decode cX1_does 136 = .ok (.aload_n 1, 1) := dk_43 (dk_at dksX1_does_3 0 rfl rfl)
theorem dX1_does_137 : decode cX1_does 137 = .ok (.getfield 340, 3) := dk_180 1 84 (dk_at dksX1_does_3 1 rfl rfl)
theorem dX1_does_140 : decode cX1_does 140 = .ok (.invokevirtual 352, 3) := dk_182 1 96 (dk_at dksX1_does_3 4 rfl rfl)
theorem dX1_does_143 : decode cX1_does 143 = .ok (.ireturn, 1) := dk_172 (dk_at dksX1_does_3 7 rfl rfl)
theorem dX1_does_144 : decode cX1_does 144 = .ok (.aload_n 0, 1) := dk_42 (dk_at dksX1_does_3 8 rfl rfl)
theorem dX1_does_145 : decode cX1_does 145 = .ok (.aload_n 1, 1) := dk_43 (dk_at dksX1_does_3 9 rfl rfl)
theorem dX1_does_146 : decode cX1_does 146 = .ok (.getfield 340, 3) := dk_180 1 84 (dk_at dksX1_does_3 10 rfl rfl)
theorem dX1_does_149 : decode cX1_does 149 = .ok (.invokevirtual 355, 3) := dk_182 1 99 (dk_at dksX1_does_3 13 rfl rfl)
theorem dX1_does_152 : decode cX1_does 152 = .ok (.ireturn, 1) := dk_172 (dk_at dksX1_does_3 16 rfl rfl)
theorem dX1_does_153 : decode cX1_does 153 = .ok (.aload_n 0, 1) := dk_42 (dk_at dksX1_does_3 17 rfl rfl)
theorem dX1_does_154 : decode cX1_does 154 = .ok (.aload_n 1, 1) := dk_43 (dk_at dksX1_does_3 18 rfl rfl)
theorem dX1_does_155 : decode cX1_does 155 = .ok (.getfield 340, 3) := dk_180 1 84 (dk_at dksX1_does_3 19 rfl rfl)
theorem dX1_does_158 : decode cX1_does 158 = .ok (.invokevirtual 358, 3) := dk_182 1 102 (dk_at dksX1_does_4 0 rfl rfl)
theorem dX1_does_161 : decode cX1_does 161 = .ok (.ireturn, 1) := dk_172 (dk_at dksX1_does_4 3 rfl rfl)
theorem dX1_does_162 : decode cX1_does 162 = .ok (.aload_n 0, 1) := dk_42 (dk_at dksX1_does_4 4 rfl rfl)
theorem dX1_does_163 : decode cX1_does 163 = .ok (.aload_n 1, 1) := dk_43 (dk_at dksX1_does_4 5 rfl rfl)
theorem dX1_does_164 : decode cX1_does 164 = .ok (.getfield 340, 3) := dk_180 1 84 (dk_at dksX1_does_4 6 rfl rfl)
theorem dX1_does_167 : decode cX1_does 167 = .ok (.aload_n 1, 1) := dk_43 (dk_at dksX1_does_4 9 rfl rfl)
theorem dX1_does_168 : decode cX1_does 168 = .ok (.getfield 361, 3) := dk_180 1 105 (dk_at dksX1_does_4 10 rfl rfl)
theorem dX1_does_171 : decode cX1_does 171 = .ok (.invokevirtual 364, 3) := dk_182 1 108 (dk_at dksX1_does_4 13 rfl rfl)
theorem dX1_does_174 : decode cX1_does 174 = .ok (.ireturn, 1) := dk_172 (dk_at dksX1_does_4 16 rfl rfl)
theorem dX1_does_175 : decode cX1_does 175 = .ok (.aload_n 0, 1) := dk_42 (dk_at dksX1_does_4 17 rfl rfl)
theorem dX1_does_176 : decode cX1_does 176 = .ok (.aload_n 1, 1) := dk_43 (dk_at dksX1_does_4 18 rfl rfl)
theorem dX1_does_177 : decode cX1_does 177 = .ok (.getfield 340, 3) := dk_180 1 84 (dk_at dksX1_does_4 19 rfl rfl)
theorem dX1_does_180 : decode cX1_does 180 = .ok (.invokevirtual 368, 3) := dk_182 1 112 (dk_at dksX1_does_5 0 rfl rfl)
theorem dX1_does_183 : decode cX1_does 183 = .ok (.ireturn, 1) := dk_172 (dk_at dksX1_does_5 3 rfl rfl)
abbrev cX1_reason : ByteArray := prog_1_method_67_code
def yX1_reason : MethodName := ⟨RX1, "reason", "(IZ)I"⟩
def dkwX1_reason_3 : List UInt8 := [167, 0, 7, 45, 180, 1, 162, 172]
abbrev dktX1_reason_3 : List UInt8 := dkwX1_reason_3 ++ []
def dkwX1_reason_2 : List UInt8 := [167, 0, 4, 3, 184, 1, 43, 45, 199, 0, 7, 3, 167, 0, 18, 28, 153, 0, 10, 45, 180, 1, 159]
abbrev dktX1_reason_2 : List UInt8 := dkwX1_reason_2 ++ dktX1_reason_3
def dkwX1_reason_1 : List UInt8 := [162, 0, 18, 45, 198, 0, 14, 45, 180, 1, 156, 78, 132, 4, 1, 167, 255, 238, 45, 198, 0, 7, 4]
abbrev dktX1_reason_1 : List UInt8 := dkwX1_reason_1 ++ dktX1_reason_2
def dkwX1_reason_0 : List UInt8 := [27, 155, 0, 7, 4, 167, 0, 4, 3, 184, 1, 36, 42, 180, 0, 46, 78, 3, 54, 4, 21, 4, 27]
abbrev dktX1_reason_0 : List UInt8 := dkwX1_reason_0 ++ dktX1_reason_1
theorem dksX1_reason_0 : cX1_reason.data.toList.drop 0 = dktX1_reason_0 := by decide +kernel
theorem dksX1_reason_1 : cX1_reason.data.toList.drop 23 = dktX1_reason_1 := dk_seg dksX1_reason_0 23 rfl rfl
theorem dksX1_reason_2 : cX1_reason.data.toList.drop 46 = dktX1_reason_2 := dk_seg dksX1_reason_1 23 rfl rfl
theorem dksX1_reason_3 : cX1_reason.data.toList.drop 69 = dktX1_reason_3 := dk_seg dksX1_reason_2 23 rfl rfl
theorem dX1_reason_0 : decode cX1_reason 0 = .ok (.iload_n 1, 1) := dk_27 (dk_at dksX1_reason_0 0 rfl rfl)
theorem dX1_reason_1 : decode cX1_reason 1 = .ok (.ifCond .lt 7, 3) := dk_155 0 7 (dk_at dksX1_reason_0 1 rfl rfl)
theorem dX1_reason_4 : decode cX1_reason 4 = .ok (.iconst 1, 1) := dk_4 (dk_at dksX1_reason_0 4 rfl rfl)
theorem dX1_reason_5 : decode cX1_reason 5 = .ok (.goto 4, 3) := dk_167 0 4 (dk_at dksX1_reason_0 5 rfl rfl)
theorem dX1_reason_8 : decode cX1_reason 8 = .ok (.iconst 0, 1) := dk_3 (dk_at dksX1_reason_0 8 rfl rfl)
theorem dX1_reason_9 : decode cX1_reason 9 = .ok (.invokestatic 292, 3) := dk_184 1 36 (dk_at dksX1_reason_0 9 rfl rfl)
theorem dX1_reason_12 : decode cX1_reason 12 = .ok (.aload_n 0, 1) := dk_42 (dk_at dksX1_reason_0 12 rfl rfl)
theorem dX1_reason_13 : decode cX1_reason 13 = .ok (.getfield 46, 3) := dk_180 0 46 (dk_at dksX1_reason_0 13 rfl rfl)
theorem dX1_reason_16 : decode cX1_reason 16 = .ok (.astore_n 3, 1) := dk_78 (dk_at dksX1_reason_0 16 rfl rfl)
theorem dX1_reason_17 : decode cX1_reason 17 = .ok (.iconst 0, 1) := dk_3 (dk_at dksX1_reason_0 17 rfl rfl)
theorem dX1_reason_18 : decode cX1_reason 18 = .ok (.istore 4, 2) := dk_54 4 (dk_at dksX1_reason_0 18 rfl rfl)
theorem dX1_reason_20 : decode cX1_reason 20 = .ok (.iload 4, 2) := dk_21 4 (dk_at dksX1_reason_0 20 rfl rfl)
theorem dX1_reason_22 : decode cX1_reason 22 = .ok (.iload_n 1, 1) := dk_27 (dk_at dksX1_reason_0 22 rfl rfl)
theorem dX1_reason_23 : decode cX1_reason 23 = .ok (.if_icmp .ge 18, 3) := dk_162 0 18 (dk_at dksX1_reason_1 0 rfl rfl)
theorem dX1_reason_26 : decode cX1_reason 26 = .ok (.aload_n 3, 1) := dk_45 (dk_at dksX1_reason_1 3 rfl rfl)
theorem dX1_reason_27 : decode cX1_reason 27 = .ok (.ifnull 14, 3) := dk_198 0 14 (dk_at dksX1_reason_1 4 rfl rfl)
theorem dX1_reason_30 : decode cX1_reason 30 = .ok (.aload_n 3, 1) := dk_45 (dk_at dksX1_reason_1 7 rfl rfl)
theorem dX1_reason_31 : decode cX1_reason 31 = .ok (.getfield 412, 3) := dk_180 1 156 (dk_at dksX1_reason_1 8 rfl rfl)
theorem dX1_reason_34 : decode cX1_reason 34 = .ok (.astore_n 3, 1) := dk_78 (dk_at dksX1_reason_1 11 rfl rfl)
theorem dX1_reason_35 : decode cX1_reason 35 = .ok (.iinc 4 1, 3) := dk_132 4 1 (dk_at dksX1_reason_1 12 rfl rfl)
theorem dX1_reason_38 : decode cX1_reason 38 = .ok (.goto (-18), 3) := dk_167 255 238 (dk_at dksX1_reason_1 15 rfl rfl)
theorem dX1_reason_41 : decode cX1_reason 41 = .ok (.aload_n 3, 1) := dk_45 (dk_at dksX1_reason_1 18 rfl rfl)
theorem dX1_reason_42 : decode cX1_reason 42 = .ok (.ifnull 7, 3) := dk_198 0 7 (dk_at dksX1_reason_1 19 rfl rfl)
theorem dX1_reason_45 : decode cX1_reason 45 = .ok (.iconst 1, 1) := dk_4 (dk_at dksX1_reason_1 22 rfl rfl)
theorem dX1_reason_46 : decode cX1_reason 46 = .ok (.goto 4, 3) := dk_167 0 4 (dk_at dksX1_reason_2 0 rfl rfl)
theorem dX1_reason_49 : decode cX1_reason 49 = .ok (.iconst 0, 1) := dk_3 (dk_at dksX1_reason_2 3 rfl rfl)
theorem dX1_reason_50 : decode cX1_reason 50 = .ok (.invokestatic 299, 3) := dk_184 1 43 (dk_at dksX1_reason_2 4 rfl rfl)
theorem dX1_reason_53 : decode cX1_reason 53 = .ok (.aload_n 3, 1) := dk_45 (dk_at dksX1_reason_2 7 rfl rfl)
theorem dX1_reason_54 : decode cX1_reason 54 = .ok (.ifnonnull 7, 3) := dk_199 0 7 (dk_at dksX1_reason_2 8 rfl rfl)
theorem dX1_reason_57 : decode cX1_reason 57 = .ok (.iconst 0, 1) := dk_3 (dk_at dksX1_reason_2 11 rfl rfl)
theorem dX1_reason_58 : decode cX1_reason 58 = .ok (.goto 18, 3) := dk_167 0 18 (dk_at dksX1_reason_2 12 rfl rfl)
theorem dX1_reason_61 : decode cX1_reason 61 = .ok (.iload_n 2, 1) := dk_28 (dk_at dksX1_reason_2 15 rfl rfl)
theorem dX1_reason_62 : decode cX1_reason 62 = .ok (.ifCond .eq 10, 3) := dk_153 0 10 (dk_at dksX1_reason_2 16 rfl rfl)
theorem dX1_reason_65 : decode cX1_reason 65 = .ok (.aload_n 3, 1) := dk_45 (dk_at dksX1_reason_2 19 rfl rfl)
theorem dX1_reason_66 : decode cX1_reason 66 = .ok (.getfield 415, 3) := dk_180 1 159 (dk_at dksX1_reason_2 20 rfl rfl)
theorem dX1_reason_69 : decode cX1_reason 69 = .ok (.goto 7, 3) := dk_167 0 7 (dk_at dksX1_reason_3 0 rfl rfl)
theorem dX1_reason_72 : decode cX1_reason 72 = .ok (.aload_n 3, 1) := dk_45 (dk_at dksX1_reason_3 3 rfl rfl)
theorem dX1_reason_73 : decode cX1_reason 73 = .ok (.getfield 418, 3) := dk_180 1 162 (dk_at dksX1_reason_3 4 rfl rfl)
theorem dX1_reason_76 : decode cX1_reason 76 = .ok (.ireturn, 1) := dk_172 (dk_at dksX1_reason_3 7 rfl rfl)
abbrev cX1_character : ByteArray := prog_1_method_70_code
def yX1_character : MethodName := ⟨RX1, "character", "(I)C"⟩
def dkwX1_character_1 : List UInt8 := [182, 1, 182, 172]
abbrev dktX1_character_1 : List UInt8 := dkwX1_character_1 ++ []
def dkwX1_character_0 : List UInt8 := [27, 3, 42, 180, 0, 30, 182, 1, 118, 4, 100, 184, 0, 53, 184, 0, 110, 42, 180, 0, 30, 27]
abbrev dktX1_character_0 : List UInt8 := dkwX1_character_0 ++ dktX1_character_1
theorem dksX1_character_0 : cX1_character.data.toList.drop 0 = dktX1_character_0 := by decide +kernel
theorem dksX1_character_1 : cX1_character.data.toList.drop 22 = dktX1_character_1 := dk_seg dksX1_character_0 22 rfl rfl
theorem dX1_character_0 : decode cX1_character 0 = .ok (.iload_n 1, 1) := dk_27 (dk_at dksX1_character_0 0 rfl rfl)
theorem dX1_character_1 : decode cX1_character 1 = .ok (.iconst 0, 1) := dk_3 (dk_at dksX1_character_0 1 rfl rfl)
theorem dX1_character_2 : decode cX1_character 2 = .ok (.aload_n 0, 1) := dk_42 (dk_at dksX1_character_0 2 rfl rfl)
theorem dX1_character_3 : decode cX1_character 3 = .ok (.getfield 30, 3) := dk_180 0 30 (dk_at dksX1_character_0 3 rfl rfl)
theorem dX1_character_6 : decode cX1_character 6 = .ok (.invokevirtual 374, 3) := dk_182 1 118 (dk_at dksX1_character_0 6 rfl rfl)
theorem dX1_character_9 : decode cX1_character 9 = .ok (.iconst 1, 1) := dk_4 (dk_at dksX1_character_0 9 rfl rfl)
theorem dX1_character_10 : decode cX1_character 10 = .ok (.isub, 1) := dk_100 (dk_at dksX1_character_0 10 rfl rfl)
theorem dX1_character_11 : decode cX1_character 11 = .ok (.invokestatic 53, 3) := dk_184 0 53 (dk_at dksX1_character_0 11 rfl rfl)
theorem dX1_character_14 : decode cX1_character 14 = .ok (.invokestatic 110, 3) := dk_184 0 110 (dk_at dksX1_character_0 14 rfl rfl)
theorem dX1_character_17 : decode cX1_character 17 = .ok (.aload_n 0, 1) := dk_42 (dk_at dksX1_character_0 17 rfl rfl)
theorem dX1_character_18 : decode cX1_character 18 = .ok (.getfield 30, 3) := dk_180 0 30 (dk_at dksX1_character_0 18 rfl rfl)
theorem dX1_character_21 : decode cX1_character 21 = .ok (.iload_n 1, 1) := dk_27 (dk_at dksX1_character_0 21 rfl rfl)
theorem dX1_character_22 : decode cX1_character 22 = .ok (.invokevirtual 438, 3) := dk_182 1 182 (dk_at dksX1_character_1 0 rfl rfl)
theorem dX1_character_25 : decode cX1_character 25 = .ok (.ireturn, 1) := dk_172 (dk_at dksX1_character_1 3 rfl rfl)
abbrev cX1_account : ByteArray := prog_1_method_71_code
def yX1_account : MethodName := ⟨RX1, "account", "(I)I"⟩
def dkwX1_account_8 : List UInt8 := [180, 0, 19, 182, 0, 85, 172]
abbrev dktX1_account_8 : List UInt8 := dkwX1_account_8 ++ []
def dkwX1_account_7 : List UInt8 := [180, 0, 10, 180, 1, 195, 172, 42, 180, 0, 10, 180, 0, 246, 172, 42, 180, 0, 26, 182, 1, 118, 172, 42]
abbrev dktX1_account_7 : List UInt8 := dkwX1_account_7 ++ dktX1_account_8
def dkwX1_account_6 : List UInt8 := [182, 1, 189, 172, 42, 180, 0, 10, 180, 1, 192, 172, 42, 180, 0, 10, 180, 1, 8, 182, 1, 18, 172, 42]
abbrev dktX1_account_6 : List UInt8 := dkwX1_account_6 ++ dktX1_account_7
def dkwX1_account_5 : List UInt8 := [180, 1, 72, 172, 42, 180, 0, 10, 180, 1, 75, 172, 42, 180, 0, 10, 182, 0, 205, 172, 42, 180, 0, 10]
abbrev dktX1_account_5 : List UInt8 := dkwX1_account_5 ++ dktX1_account_6
def dkwX1_account_4 : List UInt8 := [180, 0, 10, 180, 0, 139, 182, 0, 152, 172, 42, 180, 0, 10, 180, 0, 202, 172, 42, 180, 0, 10]
abbrev dktX1_account_4 : List UInt8 := dkwX1_account_4 ++ dktX1_account_5
def dkwX1_account_3 : List UInt8 := [180, 1, 27, 172, 42, 180, 0, 10, 180, 0, 93, 182, 0, 97, 172, 42, 180, 0, 10, 182, 1, 186, 172, 42]
abbrev dktX1_account_3 : List UInt8 := dkwX1_account_3 ++ dktX1_account_4
def dkwX1_account_2 : List UInt8 := [42, 180, 0, 10, 180, 0, 212, 172, 42, 180, 0, 10, 180, 0, 212, 16, 24, 112, 172, 42, 180, 0, 10]
abbrev dktX1_account_2 : List UInt8 := dkwX1_account_2 ++ dktX1_account_3
def dkwX1_account_1 : List UInt8 := [170, 0, 0, 0, 217, 0, 0, 0, 0, 0, 0, 0, 15, 0, 0, 0, 77, 0, 0, 0, 85, 0, 0, 0, 96, 0, 0, 0, 104, 0, 0, 0, 115, 0, 0, 0, 123, 0, 0, 0, 134, 0, 0, 0, 142, 0, 0, 0, 150, 0, 0, 0, 158, 0, 0, 0, 166, 0, 0, 0, 174, 0, 0, 0, 182, 0, 0, 0, 193, 0, 0, 0, 201, 0, 0, 0, 209]
abbrev dktX1_account_1 : List UInt8 := dkwX1_account_1 ++ dktX1_account_2
def dkwX1_account_0 : List UInt8 := [27, 3, 16, 16, 184, 0, 53, 184, 1, 36, 27]
abbrev dktX1_account_0 : List UInt8 := dkwX1_account_0 ++ dktX1_account_1
theorem dksX1_account_0 : cX1_account.data.toList.drop 0 = dktX1_account_0 := by decide +kernel
theorem dksX1_account_1 : cX1_account.data.toList.drop 11 = dktX1_account_1 := dk_seg dksX1_account_0 11 rfl rfl
theorem dksX1_account_2 : cX1_account.data.toList.drop 88 = dktX1_account_2 := dk_seg dksX1_account_1 77 rfl rfl
theorem dksX1_account_3 : cX1_account.data.toList.drop 111 = dktX1_account_3 := dk_seg dksX1_account_2 23 rfl rfl
theorem dksX1_account_4 : cX1_account.data.toList.drop 135 = dktX1_account_4 := dk_seg dksX1_account_3 24 rfl rfl
theorem dksX1_account_5 : cX1_account.data.toList.drop 157 = dktX1_account_5 := dk_seg dksX1_account_4 22 rfl rfl
theorem dksX1_account_6 : cX1_account.data.toList.drop 181 = dktX1_account_6 := dk_seg dksX1_account_5 24 rfl rfl
theorem dksX1_account_7 : cX1_account.data.toList.drop 205 = dktX1_account_7 := dk_seg dksX1_account_6 24 rfl rfl
theorem dksX1_account_8 : cX1_account.data.toList.drop 229 = dktX1_account_8 := dk_seg dksX1_account_7 24 rfl rfl
theorem dX1_account_0 : decode cX1_account 0 = .ok (.iload_n 1, 1) := dk_27 (dk_at dksX1_account_0 0 rfl rfl)
theorem dX1_account_1 : decode cX1_account 1 = .ok (.iconst 0, 1) := dk_3 (dk_at dksX1_account_0 1 rfl rfl)
theorem dX1_account_2 : decode cX1_account 2 = .ok (.bipush 16, 2) := dk_16 16 (dk_at dksX1_account_0 2 rfl rfl)
theorem dX1_account_4 : decode cX1_account 4 = .ok (.invokestatic 53, 3) := dk_184 0 53 (dk_at dksX1_account_0 4 rfl rfl)
theorem dX1_account_7 : decode cX1_account 7 = .ok (.invokestatic 292, 3) := dk_184 1 36 (dk_at dksX1_account_0 7 rfl rfl)
theorem dX1_account_10 : decode cX1_account 10 = .ok (.iload_n 1, 1) := dk_27 (dk_at dksX1_account_0 10 rfl rfl)
theorem dX1_account_11 : decode cX1_account 11 = .ok (.tableswitch 217 0 15 #[77, 85, 96, 104, 115, 123, 134, 142, 150, 158, 166, 174, 182, 193, 201, 209], 77) := by decide +kernel
theorem dX1_account_88 : decode cX1_account 88 = .ok (.aload_n 0, 1) := dk_42 (dk_at dksX1_account_2 0 rfl rfl)
theorem dX1_account_89 : decode cX1_account 89 = .ok (.getfield 10, 3) := dk_180 0 10 (dk_at dksX1_account_2 1 rfl rfl)
theorem dX1_account_92 : decode cX1_account 92 = .ok (.getfield 212, 3) := dk_180 0 212 (dk_at dksX1_account_2 4 rfl rfl)
theorem dX1_account_95 : decode cX1_account 95 = .ok (.ireturn, 1) := dk_172 (dk_at dksX1_account_2 7 rfl rfl)
theorem dX1_account_96 : decode cX1_account 96 = .ok (.aload_n 0, 1) := dk_42 (dk_at dksX1_account_2 8 rfl rfl)
theorem dX1_account_97 : decode cX1_account 97 = .ok (.getfield 10, 3) := dk_180 0 10 (dk_at dksX1_account_2 9 rfl rfl)
theorem dX1_account_100 : decode cX1_account 100 = .ok (.getfield 212, 3) := dk_180 0 212 (dk_at dksX1_account_2 12 rfl rfl)
theorem dX1_account_103 : decode cX1_account 103 = .ok (.bipush 24, 2) := dk_16 24 (dk_at dksX1_account_2 15 rfl rfl)
theorem dX1_account_105 : decode cX1_account 105 = .ok (.irem, 1) := dk_112 (dk_at dksX1_account_2 17 rfl rfl)
theorem dX1_account_106 : decode cX1_account 106 = .ok (.ireturn, 1) := dk_172 (dk_at dksX1_account_2 18 rfl rfl)
theorem dX1_account_107 : decode cX1_account 107 = .ok (.aload_n 0, 1) := dk_42 (dk_at dksX1_account_2 19 rfl rfl)
theorem dX1_account_108 : decode cX1_account 108 = .ok (.getfield 10, 3) := dk_180 0 10 (dk_at dksX1_account_2 20 rfl rfl)
theorem dX1_account_111 : decode cX1_account 111 = .ok (.getfield 283, 3) := dk_180 1 27 (dk_at dksX1_account_3 0 rfl rfl)
theorem dX1_account_114 : decode cX1_account 114 = .ok (.ireturn, 1) := dk_172 (dk_at dksX1_account_3 3 rfl rfl)
theorem dX1_account_115 : decode cX1_account 115 = .ok (.aload_n 0, 1) := dk_42 (dk_at dksX1_account_3 4 rfl rfl)
theorem dX1_account_116 : decode cX1_account 116 = .ok (.getfield 10, 3) := dk_180 0 10 (dk_at dksX1_account_3 5 rfl rfl)
theorem dX1_account_119 : decode cX1_account 119 = .ok (.getfield 93, 3) := dk_180 0 93 (dk_at dksX1_account_3 8 rfl rfl)
theorem dX1_account_122 : decode cX1_account 122 = .ok (.invokevirtual 97, 3) := dk_182 0 97 (dk_at dksX1_account_3 11 rfl rfl)
theorem dX1_account_125 : decode cX1_account 125 = .ok (.ireturn, 1) := dk_172 (dk_at dksX1_account_3 14 rfl rfl)
theorem dX1_account_126 : decode cX1_account 126 = .ok (.aload_n 0, 1) := dk_42 (dk_at dksX1_account_3 15 rfl rfl)
theorem dX1_account_127 : decode cX1_account 127 = .ok (.getfield 10, 3) := dk_180 0 10 (dk_at dksX1_account_3 16 rfl rfl)
theorem dX1_account_130 : decode cX1_account 130 = .ok (.invokevirtual 442, 3) := dk_182 1 186 (dk_at dksX1_account_3 19 rfl rfl)
theorem dX1_account_133 : decode cX1_account 133 = .ok (.ireturn, 1) := dk_172 (dk_at dksX1_account_3 22 rfl rfl)
theorem dX1_account_134 : decode cX1_account 134 = .ok (.aload_n 0, 1) := dk_42 (dk_at dksX1_account_3 23 rfl rfl)
theorem dX1_account_135 : decode cX1_account 135 = .ok (.getfield 10, 3) := dk_180 0 10 (dk_at dksX1_account_4 0 rfl rfl)
theorem dX1_account_138 : decode cX1_account 138 = .ok (.getfield 139, 3) := dk_180 0 139 (dk_at dksX1_account_4 3 rfl rfl)
theorem dX1_account_141 : decode cX1_account 141 = .ok (.invokevirtual 152, 3) := dk_182 0 152 (dk_at dksX1_account_4 6 rfl rfl)
theorem dX1_account_144 : decode cX1_account 144 = .ok (.ireturn, 1) := dk_172 (dk_at dksX1_account_4 9 rfl rfl)
theorem dX1_account_145 : decode cX1_account 145 = .ok (.aload_n 0, 1) := dk_42 (dk_at dksX1_account_4 10 rfl rfl)
theorem dX1_account_146 : decode cX1_account 146 = .ok (.getfield 10, 3) := dk_180 0 10 (dk_at dksX1_account_4 11 rfl rfl)
theorem dX1_account_149 : decode cX1_account 149 = .ok (.getfield 202, 3) := dk_180 0 202 (dk_at dksX1_account_4 14 rfl rfl)
theorem dX1_account_152 : decode cX1_account 152 = .ok (.ireturn, 1) := dk_172 (dk_at dksX1_account_4 17 rfl rfl)
theorem dX1_account_153 : decode cX1_account 153 = .ok (.aload_n 0, 1) := dk_42 (dk_at dksX1_account_4 18 rfl rfl)
theorem dX1_account_154 : decode cX1_account 154 = .ok (.getfield 10, 3) := dk_180 0 10 (dk_at dksX1_account_4 19 rfl rfl)
theorem dX1_account_157 : decode cX1_account 157 = .ok (.getfield 328, 3) := dk_180 1 72 (dk_at dksX1_account_5 0 rfl rfl)
theorem dX1_account_160 : decode cX1_account 160 = .ok (.ireturn, 1) := dk_172 (dk_at dksX1_account_5 3 rfl rfl)
theorem dX1_account_161 : decode cX1_account 161 = .ok (.aload_n 0, 1) := dk_42 (dk_at dksX1_account_5 4 rfl rfl)
theorem dX1_account_162 : decode cX1_account 162 = .ok (.getfield 10, 3) := dk_180 0 10 (dk_at dksX1_account_5 5 rfl rfl)
theorem dX1_account_165 : decode cX1_account 165 = .ok (.getfield 331, 3) := dk_180 1 75 (dk_at dksX1_account_5 8 rfl rfl)
theorem dX1_account_168 : decode cX1_account 168 = .ok (.ireturn, 1) := dk_172 (dk_at dksX1_account_5 11 rfl rfl)
theorem dX1_account_169 : decode cX1_account 169 = .ok (.aload_n 0, 1) := dk_42 (dk_at dksX1_account_5 12 rfl rfl)
theorem dX1_account_170 : decode cX1_account 170 = .ok (.getfield 10, 3) := dk_180 0 10 (dk_at dksX1_account_5 13 rfl rfl)
theorem dX1_account_173 : decode cX1_account 173 = .ok (.invokevirtual 205, 3) := dk_182 0 205 (dk_at dksX1_account_5 16 rfl rfl)
theorem dX1_account_176 : decode cX1_account 176 = .ok (.ireturn, 1) := dk_172 (dk_at dksX1_account_5 19 rfl rfl)
theorem dX1_account_177 : decode cX1_account 177 = .ok (.aload_n 0, 1) := dk_42 (dk_at dksX1_account_5 20 rfl rfl)
theorem dX1_account_178 : decode cX1_account 178 = .ok (.getfield 10, 3) := dk_180 0 10 (dk_at dksX1_account_5 21 rfl rfl)
theorem dX1_account_181 : decode cX1_account 181 = .ok (.invokevirtual 445, 3) := dk_182 1 189 (dk_at dksX1_account_6 0 rfl rfl)
theorem dX1_account_184 : decode cX1_account 184 = .ok (.ireturn, 1) := dk_172 (dk_at dksX1_account_6 3 rfl rfl)
theorem dX1_account_185 : decode cX1_account 185 = .ok (.aload_n 0, 1) := dk_42 (dk_at dksX1_account_6 4 rfl rfl)
theorem dX1_account_186 : decode cX1_account 186 = .ok (.getfield 10, 3) := dk_180 0 10 (dk_at dksX1_account_6 5 rfl rfl)
theorem dX1_account_189 : decode cX1_account 189 = .ok (.getfield 448, 3) := dk_180 1 192 (dk_at dksX1_account_6 8 rfl rfl)
theorem dX1_account_192 : decode cX1_account 192 = .ok (.ireturn, 1) := dk_172 (dk_at dksX1_account_6 11 rfl rfl)
theorem dX1_account_193 : decode cX1_account 193 = .ok (.aload_n 0, 1) := dk_42 (dk_at dksX1_account_6 12 rfl rfl)
theorem dX1_account_194 : decode cX1_account 194 = .ok (.getfield 10, 3) := dk_180 0 10 (dk_at dksX1_account_6 13 rfl rfl)
theorem dX1_account_197 : decode cX1_account 197 = .ok (.getfield 264, 3) := dk_180 1 8 (dk_at dksX1_account_6 16 rfl rfl)
theorem dX1_account_200 : decode cX1_account 200 = .ok (.invokevirtual 274, 3) := dk_182 1 18 (dk_at dksX1_account_6 19 rfl rfl)
theorem dX1_account_203 : decode cX1_account 203 = .ok (.ireturn, 1) := dk_172 (dk_at dksX1_account_6 22 rfl rfl)
theorem dX1_account_204 : decode cX1_account 204 = .ok (.aload_n 0, 1) := dk_42 (dk_at dksX1_account_6 23 rfl rfl)
theorem dX1_account_205 : decode cX1_account 205 = .ok (.getfield 10, 3) := dk_180 0 10 (dk_at dksX1_account_7 0 rfl rfl)
theorem dX1_account_208 : decode cX1_account 208 = .ok (.getfield 451, 3) := dk_180 1 195 (dk_at dksX1_account_7 3 rfl rfl)
theorem dX1_account_211 : decode cX1_account 211 = .ok (.ireturn, 1) := dk_172 (dk_at dksX1_account_7 6 rfl rfl)
theorem dX1_account_212 : decode cX1_account 212 = .ok (.aload_n 0, 1) := dk_42 (dk_at dksX1_account_7 7 rfl rfl)
theorem dX1_account_213 : decode cX1_account 213 = .ok (.getfield 10, 3) := dk_180 0 10 (dk_at dksX1_account_7 8 rfl rfl)
theorem dX1_account_216 : decode cX1_account 216 = .ok (.getfield 246, 3) := dk_180 0 246 (dk_at dksX1_account_7 11 rfl rfl)
theorem dX1_account_219 : decode cX1_account 219 = .ok (.ireturn, 1) := dk_172 (dk_at dksX1_account_7 14 rfl rfl)
theorem dX1_account_220 : decode cX1_account 220 = .ok (.aload_n 0, 1) := dk_42 (dk_at dksX1_account_7 15 rfl rfl)
theorem dX1_account_221 : decode cX1_account 221 = .ok (.getfield 26, 3) := dk_180 0 26 (dk_at dksX1_account_7 16 rfl rfl)
theorem dX1_account_224 : decode cX1_account 224 = .ok (.invokevirtual 374, 3) := dk_182 1 118 (dk_at dksX1_account_7 19 rfl rfl)
theorem dX1_account_227 : decode cX1_account 227 = .ok (.ireturn, 1) := dk_172 (dk_at dksX1_account_7 22 rfl rfl)
theorem dX1_account_228 : decode cX1_account 228 = .ok (.aload_n 0, 1) := dk_42 (dk_at dksX1_account_7 23 rfl rfl)
theorem dX1_account_229 : decode cX1_account 229 = .ok (.getfield 19, 3) := dk_180 0 19 (dk_at dksX1_account_8 0 rfl rfl)
theorem dX1_account_232 : decode cX1_account 232 = .ok (.invokevirtual 85, 3) := dk_182 0 85 (dk_at dksX1_account_8 3 rfl rfl)
theorem dX1_account_235 : decode cX1_account 235 = .ok (.ireturn, 1) := dk_172 (dk_at dksX1_account_8 6 rfl rfl)
abbrev cX1_meanStem : ByteArray := prog_1_method_73_code
def yX1_meanStem : MethodName := ⟨RX1, "meanStem", "()D"⟩
def dkwX1_meanStem_2 : List UInt8 := [135, 42, 180, 0, 10, 180, 0, 93, 182, 0, 97, 135, 111, 175]
abbrev dktX1_meanStem_2 : List UInt8 := dkwX1_meanStem_2 ++ []
def dkwX1_meanStem_1 : List UInt8 := [153, 0, 23, 44, 185, 0, 163, 1, 0, 192, 0, 108, 78, 27, 45, 180, 0, 234, 96, 60, 167, 255, 230, 27]
abbrev dktX1_meanStem_1 : List UInt8 := dkwX1_meanStem_1 ++ dktX1_meanStem_2
def dkwX1_meanStem_0 : List UInt8 := [42, 182, 1, 199, 3, 60, 42, 180, 0, 10, 180, 0, 93, 182, 1, 202, 77, 44, 185, 0, 157, 1, 0]
abbrev dktX1_meanStem_0 : List UInt8 := dkwX1_meanStem_0 ++ dktX1_meanStem_1
theorem dksX1_meanStem_0 : cX1_meanStem.data.toList.drop 0 = dktX1_meanStem_0 := by decide +kernel
theorem dksX1_meanStem_1 : cX1_meanStem.data.toList.drop 23 = dktX1_meanStem_1 := dk_seg dksX1_meanStem_0 23 rfl rfl
theorem dksX1_meanStem_2 : cX1_meanStem.data.toList.drop 47 = dktX1_meanStem_2 := dk_seg dksX1_meanStem_1 24 rfl rfl
theorem dX1_meanStem_0 : decode cX1_meanStem 0 = .ok (.aload_n 0, 1) := dk_42 (dk_at dksX1_meanStem_0 0 rfl rfl)
theorem dX1_meanStem_1 : decode cX1_meanStem 1 = .ok (.invokevirtual 455, 3) := dk_182 1 199 (dk_at dksX1_meanStem_0 1 rfl rfl)
theorem dX1_meanStem_4 : decode cX1_meanStem 4 = .ok (.iconst 0, 1) := dk_3 (dk_at dksX1_meanStem_0 4 rfl rfl)
theorem dX1_meanStem_5 : decode cX1_meanStem 5 = .ok (.istore_n 1, 1) := dk_60 (dk_at dksX1_meanStem_0 5 rfl rfl)
theorem dX1_meanStem_6 : decode cX1_meanStem 6 = .ok (.aload_n 0, 1) := dk_42 (dk_at dksX1_meanStem_0 6 rfl rfl)
theorem dX1_meanStem_7 : decode cX1_meanStem 7 = .ok (.getfield 10, 3) := dk_180 0 10 (dk_at dksX1_meanStem_0 7 rfl rfl)
theorem dX1_meanStem_10 : decode cX1_meanStem 10 = .ok (.getfield 93, 3) := dk_180 0 93 (dk_at dksX1_meanStem_0 10 rfl rfl)
theorem dX1_meanStem_13 : decode cX1_meanStem 13 = .ok (.invokevirtual 458, 3) := dk_182 1 202 (dk_at dksX1_meanStem_0 13 rfl rfl)
theorem dX1_meanStem_16 : decode cX1_meanStem 16 = .ok (.astore_n 2, 1) := dk_77 (dk_at dksX1_meanStem_0 16 rfl rfl)
theorem dX1_meanStem_17 : decode cX1_meanStem 17 = .ok (.aload_n 2, 1) := dk_44 (dk_at dksX1_meanStem_0 17 rfl rfl)
theorem dX1_meanStem_18 : decode cX1_meanStem 18 = .ok (.invokeinterface 157 1, 5) := by decide +kernel
theorem dX1_meanStem_23 : decode cX1_meanStem 23 = .ok (.ifCond .eq 23, 3) := dk_153 0 23 (dk_at dksX1_meanStem_1 0 rfl rfl)
theorem dX1_meanStem_26 : decode cX1_meanStem 26 = .ok (.aload_n 2, 1) := dk_44 (dk_at dksX1_meanStem_1 3 rfl rfl)
theorem dX1_meanStem_27 : decode cX1_meanStem 27 = .ok (.invokeinterface 163 1, 5) := by decide +kernel
theorem dX1_meanStem_32 : decode cX1_meanStem 32 = .ok (.checkcast 108, 3) := dk_192 0 108 (dk_at dksX1_meanStem_1 9 rfl rfl)
theorem dX1_meanStem_35 : decode cX1_meanStem 35 = .ok (.astore_n 3, 1) := dk_78 (dk_at dksX1_meanStem_1 12 rfl rfl)
theorem dX1_meanStem_36 : decode cX1_meanStem 36 = .ok (.iload_n 1, 1) := dk_27 (dk_at dksX1_meanStem_1 13 rfl rfl)
theorem dX1_meanStem_37 : decode cX1_meanStem 37 = .ok (.aload_n 3, 1) := dk_45 (dk_at dksX1_meanStem_1 14 rfl rfl)
theorem dX1_meanStem_38 : decode cX1_meanStem 38 = .ok (.getfield 234, 3) := dk_180 0 234 (dk_at dksX1_meanStem_1 15 rfl rfl)
theorem dX1_meanStem_41 : decode cX1_meanStem 41 = .ok (.iadd, 1) := dk_96 (dk_at dksX1_meanStem_1 18 rfl rfl)
theorem dX1_meanStem_42 : decode cX1_meanStem 42 = .ok (.istore_n 1, 1) := dk_60 (dk_at dksX1_meanStem_1 19 rfl rfl)
theorem dX1_meanStem_43 : decode cX1_meanStem 43 = .ok (.goto (-26), 3) := dk_167 255 230 (dk_at dksX1_meanStem_1 20 rfl rfl)
theorem dX1_meanStem_46 : decode cX1_meanStem 46 = .ok (.iload_n 1, 1) := dk_27 (dk_at dksX1_meanStem_1 23 rfl rfl)
theorem dX1_meanStem_47 : decode cX1_meanStem 47 = .ok (.i2d, 1) := dk_135 (dk_at dksX1_meanStem_2 0 rfl rfl)
theorem dX1_meanStem_48 : decode cX1_meanStem 48 = .ok (.aload_n 0, 1) := dk_42 (dk_at dksX1_meanStem_2 1 rfl rfl)
theorem dX1_meanStem_49 : decode cX1_meanStem 49 = .ok (.getfield 10, 3) := dk_180 0 10 (dk_at dksX1_meanStem_2 2 rfl rfl)
theorem dX1_meanStem_52 : decode cX1_meanStem 52 = .ok (.getfield 93, 3) := dk_180 0 93 (dk_at dksX1_meanStem_2 5 rfl rfl)
theorem dX1_meanStem_55 : decode cX1_meanStem 55 = .ok (.invokevirtual 97, 3) := dk_182 0 97 (dk_at dksX1_meanStem_2 8 rfl rfl)
theorem dX1_meanStem_58 : decode cX1_meanStem 58 = .ok (.i2d, 1) := dk_135 (dk_at dksX1_meanStem_2 11 rfl rfl)
theorem dX1_meanStem_59 : decode cX1_meanStem 59 = .ok (.ddiv, 1) := dk_111 (dk_at dksX1_meanStem_2 12 rfl rfl)
theorem dX1_meanStem_60 : decode cX1_meanStem 60 = .ok (.dreturn, 1) := dk_175 (dk_at dksX1_meanStem_2 13 rfl rfl)
abbrev cX1_checkPipes : ByteArray := prog_1_method_72_code
def yX1_checkPipes : MethodName := ⟨RX1, "checkPipes", "()V"⟩
def dkwX1_checkPipes_0 : List UInt8 := [42, 180, 0, 10, 180, 0, 93, 182, 1, 68, 153, 0, 11, 187, 1, 196, 89, 183, 1, 198, 191, 177]
abbrev dktX1_checkPipes_0 : List UInt8 := dkwX1_checkPipes_0 ++ []
theorem dksX1_checkPipes_0 : cX1_checkPipes.data.toList.drop 0 = dktX1_checkPipes_0 := by decide +kernel
theorem dX1_checkPipes_0 : decode cX1_checkPipes 0 = .ok (.aload_n 0, 1) := dk_42 (dk_at dksX1_checkPipes_0 0 rfl rfl)
theorem dX1_checkPipes_1 : decode cX1_checkPipes 1 = .ok (.getfield 10, 3) := dk_180 0 10 (dk_at dksX1_checkPipes_0 1 rfl rfl)
theorem dX1_checkPipes_4 : decode cX1_checkPipes 4 = .ok (.getfield 93, 3) := dk_180 0 93 (dk_at dksX1_checkPipes_0 4 rfl rfl)
theorem dX1_checkPipes_7 : decode cX1_checkPipes 7 = .ok (.invokevirtual 324, 3) := dk_182 1 68 (dk_at dksX1_checkPipes_0 7 rfl rfl)
theorem dX1_checkPipes_10 : decode cX1_checkPipes 10 = .ok (.ifCond .eq 11, 3) := dk_153 0 11 (dk_at dksX1_checkPipes_0 10 rfl rfl)
theorem dX1_checkPipes_13 : decode cX1_checkPipes 13 = .ok (.new 452, 3) := dk_187 1 196 (dk_at dksX1_checkPipes_0 13 rfl rfl)
theorem dX1_checkPipes_16 : decode cX1_checkPipes 16 = .ok (.dup, 1) := dk_89 (dk_at dksX1_checkPipes_0 16 rfl rfl)
theorem dX1_checkPipes_17 : decode cX1_checkPipes 17 = .ok (.invokespecial 454, 3) := dk_183 1 198 (dk_at dksX1_checkPipes_0 17 rfl rfl)
theorem dX1_checkPipes_20 : decode cX1_checkPipes 20 = .ok (.athrow, 1) := dk_191 (dk_at dksX1_checkPipes_0 20 rfl rfl)
theorem dX1_checkPipes_21 : decode cX1_checkPipes 21 = .ok (.return_, 1) := dk_177 (dk_at dksX1_checkPipes_0 21 rfl rfl)
abbrev cX1_drawShare : ByteArray := prog_1_method_74_code
def yX1_drawShare : MethodName := ⟨RX1, "drawShare", "()F"⟩
def dkwX1_drawShare_1 : List UInt8 := [174]
abbrev dktX1_drawShare_1 : List UInt8 := dkwX1_drawShare_1 ++ []
def dkwX1_drawShare_0 : List UInt8 := [42, 182, 1, 199, 42, 180, 0, 10, 182, 1, 186, 134, 42, 180, 0, 10, 180, 0, 93, 182, 0, 97, 134, 110]
abbrev dktX1_drawShare_0 : List UInt8 := dkwX1_drawShare_0 ++ dktX1_drawShare_1
theorem dksX1_drawShare_0 : cX1_drawShare.data.toList.drop 0 = dktX1_drawShare_0 := by decide +kernel
theorem dksX1_drawShare_1 : cX1_drawShare.data.toList.drop 24 = dktX1_drawShare_1 := dk_seg dksX1_drawShare_0 24 rfl rfl
theorem dX1_drawShare_0 : decode cX1_drawShare 0 = .ok (.aload_n 0, 1) := dk_42 (dk_at dksX1_drawShare_0 0 rfl rfl)
theorem dX1_drawShare_1 : decode cX1_drawShare 1 = .ok (.invokevirtual 455, 3) := dk_182 1 199 (dk_at dksX1_drawShare_0 1 rfl rfl)
theorem dX1_drawShare_4 : decode cX1_drawShare 4 = .ok (.aload_n 0, 1) := dk_42 (dk_at dksX1_drawShare_0 4 rfl rfl)
theorem dX1_drawShare_5 : decode cX1_drawShare 5 = .ok (.getfield 10, 3) := dk_180 0 10 (dk_at dksX1_drawShare_0 5 rfl rfl)
theorem dX1_drawShare_8 : decode cX1_drawShare 8 = .ok (.invokevirtual 442, 3) := dk_182 1 186 (dk_at dksX1_drawShare_0 8 rfl rfl)
theorem dX1_drawShare_11 : decode cX1_drawShare 11 = .ok (.i2f, 1) := dk_134 (dk_at dksX1_drawShare_0 11 rfl rfl)
theorem dX1_drawShare_12 : decode cX1_drawShare 12 = .ok (.aload_n 0, 1) := dk_42 (dk_at dksX1_drawShare_0 12 rfl rfl)
theorem dX1_drawShare_13 : decode cX1_drawShare 13 = .ok (.getfield 10, 3) := dk_180 0 10 (dk_at dksX1_drawShare_0 13 rfl rfl)
theorem dX1_drawShare_16 : decode cX1_drawShare 16 = .ok (.getfield 93, 3) := dk_180 0 93 (dk_at dksX1_drawShare_0 16 rfl rfl)
theorem dX1_drawShare_19 : decode cX1_drawShare 19 = .ok (.invokevirtual 97, 3) := dk_182 0 97 (dk_at dksX1_drawShare_0 19 rfl rfl)
theorem dX1_drawShare_22 : decode cX1_drawShare 22 = .ok (.i2f, 1) := dk_134 (dk_at dksX1_drawShare_0 22 rfl rfl)
theorem dX1_drawShare_23 : decode cX1_drawShare 23 = .ok (.fdiv, 1) := dk_110 (dk_at dksX1_drawShare_0 23 rfl rfl)
theorem dX1_drawShare_24 : decode cX1_drawShare 24 = .ok (.freturn, 1) := dk_174 (dk_at dksX1_drawShare_1 0 rfl rfl)
abbrev cX1_undo : ByteArray := prog_1_method_75_code
def yX1_undo : MethodName := ⟨RX1, "undo", "()I"⟩
def dkwX1_undo_1 : List UInt8 := [182, 1, 203, 192, 0, 7, 181, 0, 10, 42, 180, 0, 19, 182, 0, 85, 172]
abbrev dktX1_undo_1 : List UInt8 := dkwX1_undo_1 ++ []
def dkwX1_undo_0 : List UInt8 := [42, 180, 0, 19, 182, 1, 64, 154, 0, 7, 4, 167, 0, 4, 3, 184, 1, 121, 42, 42, 180, 0, 19]
abbrev dktX1_undo_0 : List UInt8 := dkwX1_undo_0 ++ dktX1_undo_1
theorem dksX1_undo_0 : cX1_undo.data.toList.drop 0 = dktX1_undo_0 := by decide +kernel
theorem dksX1_undo_1 : cX1_undo.data.toList.drop 23 = dktX1_undo_1 := dk_seg dksX1_undo_0 23 rfl rfl
theorem dX1_undo_0 : decode cX1_undo 0 = .ok (.aload_n 0, 1) := dk_42 (dk_at dksX1_undo_0 0 rfl rfl)
theorem dX1_undo_1 : decode cX1_undo 1 = .ok (.getfield 19, 3) := dk_180 0 19 (dk_at dksX1_undo_0 1 rfl rfl)
theorem dX1_undo_4 : decode cX1_undo 4 = .ok (.invokevirtual 320, 3) := dk_182 1 64 (dk_at dksX1_undo_0 4 rfl rfl)
theorem dX1_undo_7 : decode cX1_undo 7 = .ok (.ifCond .ne 7, 3) := dk_154 0 7 (dk_at dksX1_undo_0 7 rfl rfl)
theorem dX1_undo_10 : decode cX1_undo 10 = .ok (.iconst 1, 1) := dk_4 (dk_at dksX1_undo_0 10 rfl rfl)
theorem dX1_undo_11 : decode cX1_undo 11 = .ok (.goto 4, 3) := dk_167 0 4 (dk_at dksX1_undo_0 11 rfl rfl)
theorem dX1_undo_14 : decode cX1_undo 14 = .ok (.iconst 0, 1) := dk_3 (dk_at dksX1_undo_0 14 rfl rfl)
theorem dX1_undo_15 : decode cX1_undo 15 = .ok (.invokestatic 377, 3) := dk_184 1 121 (dk_at dksX1_undo_0 15 rfl rfl)
theorem dX1_undo_18 : decode cX1_undo 18 = .ok (.aload_n 0, 1) := dk_42 (dk_at dksX1_undo_0 18 rfl rfl)
theorem dX1_undo_19 : decode cX1_undo 19 = .ok (.aload_n 0, 1) := dk_42 (dk_at dksX1_undo_0 19 rfl rfl)
theorem dX1_undo_20 : decode cX1_undo 20 = .ok (.getfield 19, 3) := dk_180 0 19 (dk_at dksX1_undo_0 20 rfl rfl)
theorem dX1_undo_23 : decode cX1_undo 23 = .ok (.invokevirtual 459, 3) := dk_182 1 203 (dk_at dksX1_undo_1 0 rfl rfl)
theorem dX1_undo_26 : decode cX1_undo 26 = .ok (.checkcast 7, 3) := dk_192 0 7 (dk_at dksX1_undo_1 3 rfl rfl)
theorem dX1_undo_29 : decode cX1_undo 29 = .ok (.putfield 10, 3) := dk_181 0 10 (dk_at dksX1_undo_1 6 rfl rfl)
theorem dX1_undo_32 : decode cX1_undo 32 = .ok (.aload_n 0, 1) := dk_42 (dk_at dksX1_undo_1 9 rfl rfl)
theorem dX1_undo_33 : decode cX1_undo 33 = .ok (.getfield 19, 3) := dk_180 0 19 (dk_at dksX1_undo_1 10 rfl rfl)
theorem dX1_undo_36 : decode cX1_undo 36 = .ok (.invokevirtual 85, 3) := dk_182 0 85 (dk_at dksX1_undo_1 13 rfl rfl)
theorem dX1_undo_39 : decode cX1_undo 39 = .ok (.ireturn, 1) := dk_172 (dk_at dksX1_undo_1 16 rfl rfl)
abbrev cX1_restore : ByteArray := prog_1_method_77_code
def yX1_restore : MethodName := ⟨RX1, "restore", "()I"⟩
def dkwX1_restore_1 : List UInt8 := [181, 0, 10, 42, 180, 0, 19, 182, 1, 209, 42, 180, 0, 10, 180, 0, 212, 172]
abbrev dktX1_restore_1 : List UInt8 := dkwX1_restore_1 ++ []
def dkwX1_restore_0 : List UInt8 := [42, 180, 1, 206, 198, 0, 7, 4, 167, 0, 4, 3, 184, 1, 121, 42, 42, 180, 1, 206, 182, 0, 77]
abbrev dktX1_restore_0 : List UInt8 := dkwX1_restore_0 ++ dktX1_restore_1
theorem dksX1_restore_0 : cX1_restore.data.toList.drop 0 = dktX1_restore_0 := by decide +kernel
theorem dksX1_restore_1 : cX1_restore.data.toList.drop 23 = dktX1_restore_1 := dk_seg dksX1_restore_0 23 rfl rfl
theorem dX1_restore_0 : decode cX1_restore 0 = .ok (.aload_n 0, 1) := dk_42 (dk_at dksX1_restore_0 0 rfl rfl)
theorem dX1_restore_1 : decode cX1_restore 1 = .ok (.getfield 462, 3) := dk_180 1 206 (dk_at dksX1_restore_0 1 rfl rfl)
theorem dX1_restore_4 : decode cX1_restore 4 = .ok (.ifnull 7, 3) := dk_198 0 7 (dk_at dksX1_restore_0 4 rfl rfl)
theorem dX1_restore_7 : decode cX1_restore 7 = .ok (.iconst 1, 1) := dk_4 (dk_at dksX1_restore_0 7 rfl rfl)
theorem dX1_restore_8 : decode cX1_restore 8 = .ok (.goto 4, 3) := dk_167 0 4 (dk_at dksX1_restore_0 8 rfl rfl)
theorem dX1_restore_11 : decode cX1_restore 11 = .ok (.iconst 0, 1) := dk_3 (dk_at dksX1_restore_0 11 rfl rfl)
theorem dX1_restore_12 : decode cX1_restore 12 = .ok (.invokestatic 377, 3) := dk_184 1 121 (dk_at dksX1_restore_0 12 rfl rfl)
theorem dX1_restore_15 : decode cX1_restore 15 = .ok (.aload_n 0, 1) := dk_42 (dk_at dksX1_restore_0 15 rfl rfl)
theorem dX1_restore_16 : decode cX1_restore 16 = .ok (.aload_n 0, 1) := dk_42 (dk_at dksX1_restore_0 16 rfl rfl)
theorem dX1_restore_17 : decode cX1_restore 17 = .ok (.getfield 462, 3) := dk_180 1 206 (dk_at dksX1_restore_0 17 rfl rfl)
theorem dX1_restore_20 : decode cX1_restore 20 = .ok (.invokevirtual 77, 3) := dk_182 0 77 (dk_at dksX1_restore_0 20 rfl rfl)
theorem dX1_restore_23 : decode cX1_restore 23 = .ok (.putfield 10, 3) := dk_181 0 10 (dk_at dksX1_restore_1 0 rfl rfl)
theorem dX1_restore_26 : decode cX1_restore 26 = .ok (.aload_n 0, 1) := dk_42 (dk_at dksX1_restore_1 3 rfl rfl)
theorem dX1_restore_27 : decode cX1_restore 27 = .ok (.getfield 19, 3) := dk_180 0 19 (dk_at dksX1_restore_1 4 rfl rfl)
theorem dX1_restore_30 : decode cX1_restore 30 = .ok (.invokevirtual 465, 3) := dk_182 1 209 (dk_at dksX1_restore_1 7 rfl rfl)
theorem dX1_restore_33 : decode cX1_restore 33 = .ok (.aload_n 0, 1) := dk_42 (dk_at dksX1_restore_1 10 rfl rfl)
theorem dX1_restore_34 : decode cX1_restore 34 = .ok (.getfield 10, 3) := dk_180 0 10 (dk_at dksX1_restore_1 11 rfl rfl)
theorem dX1_restore_37 : decode cX1_restore 37 = .ok (.getfield 212, 3) := dk_180 0 212 (dk_at dksX1_restore_1 14 rfl rfl)
theorem dX1_restore_40 : decode cX1_restore 40 = .ok (.ireturn, 1) := dk_172 (dk_at dksX1_restore_1 17 rfl rfl)
