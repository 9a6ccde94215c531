/-! decode rows -/
set_option maxRecDepth 100000
abbrev cX3_init : ByteArray := prog_9_method_1_code
def yX3_init : MethodName := ⟨RX3, "<init>", "()V"⟩
def dkwX3_init_3 : List UInt8 := [181, 0, 36, 42, 16, 90, 188, 5, 181, 0, 39, 42, 180, 0, 16, 4, 16, 21, 79, 177]
abbrev dktX3_init_3 : List UInt8 := dkwX3_init_3 ++ []
def dkwX3_init_2 : List UInt8 := [188, 10, 181, 0, 25, 42, 16, 60, 188, 5, 181, 0, 28, 42, 2, 181, 0, 32, 42, 5, 188, 10]
abbrev dktX3_init_2 : List UInt8 := dkwX3_init_2 ++ dktX3_init_3
def dkwX3_init_1 : List UInt8 := [181, 0, 16, 42, 17, 3, 24, 188, 10, 181, 0, 19, 42, 16, 99, 188, 10, 181, 0, 22, 42, 16, 99]
abbrev dktX3_init_1 : List UInt8 := dkwX3_init_1 ++ dktX3_init_2
def dkwX3_init_0 : List UInt8 := [42, 183, 0, 1, 42, 6, 188, 10, 181, 0, 7, 42, 6, 188, 10, 181, 0, 13, 42, 16, 99, 188, 10]
abbrev dktX3_init_0 : List UInt8 := dkwX3_init_0 ++ dktX3_init_1
theorem dksX3_init_0 : cX3_init.data.toList.drop 0 = dktX3_init_0 := by decide +kernel
theorem dksX3_init_1 : cX3_init.data.toList.drop 23 = dktX3_init_1 := dk_seg dksX3_init_0 23 rfl rfl
theorem dksX3_init_2 : cX3_init.data.toList.drop 46 = dktX3_init_2 := dk_seg dksX3_init_1 23 rfl rfl
theorem dksX3_init_3 : cX3_init.data.toList.drop 68 = dktX3_init_3 := dk_seg dksX3_init_2 22 rfl rfl
theorem dX3_init_0 : decode cX3_init 0 = .ok (.aload_n 0, 1) := dk_42 (dk_at dksX3_init_0 0 rfl rfl)
theorem dX3_init_1 : decode cX3_init 1 = .ok (.invokespecial 1, 3) := dk_183 0 1 (dk_at dksX3_init_0 1 rfl rfl)
theorem dX3_init_4 : decode cX3_init 4 = .ok (.aload_n 0, 1) := dk_42 (dk_at dksX3_init_0 4 rfl rfl)
theorem dX3_init_5 : decode cX3_init 5 = .ok (.iconst 3, 1) := dk_6 (dk_at dksX3_init_0 5 rfl rfl)
theorem dX3_init_6 : decode cX3_init 6 = .ok (.newarray .int, 2) := dk_188_10 (dk_at dksX3_init_0 6 rfl rfl)
theorem dX3_init_8 : decode cX3_init 8 = .ok (.putfield 7, 3) := dk_181 0 7 (dk_at dksX3_init_0 8 rfl rfl)
theorem dX3_init_11 : decode cX3_init 11 = .ok (.aload_n 0, 1) := dk_42 (dk_at dksX3_init_0 11 rfl rfl)
theorem dX3_init_12 : decode cX3_init 12 = .ok (.iconst 3, 1) := dk_6 (dk_at dksX3_init_0 12 rfl rfl)
theorem dX3_init_13 : decode cX3_init 13 = .ok (.newarray .int, 2) := dk_188_10 (dk_at dksX3_init_0 13 rfl rfl)
theorem dX3_init_15 : decode cX3_init 15 = .ok (.putfield 13, 3) := dk_181 0 13 (dk_at dksX3_init_0 15 rfl rfl)
theorem dX3_init_18 : decode cX3_init 18 = .ok (.aload_n 0, 1) := dk_42 (dk_at dksX3_init_0 18 rfl rfl)
theorem dX3_init_19 : decode cX3_init 19 = .ok (.bipush 99, 2) := dk_16 99 (dk_at dksX3_init_0 19 rfl rfl)
theorem dX3_init_21 : decode cX3_init 21 = .ok (.newarray .int, 2) := dk_188_10 (dk_at dksX3_init_0 21 rfl rfl)
theorem dX3_init_23 : decode cX3_init 23 = .ok (.putfield 16, 3) := dk_181 0 16 (dk_at dksX3_init_1 0 rfl rfl)
theorem dX3_init_26 : decode cX3_init 26 = .ok (.aload_n 0, 1) := dk_42 (dk_at dksX3_init_1 3 rfl rfl)
theorem dX3_init_27 : decode cX3_init 27 = .ok (.sipush 792, 3) := dk_17 3 24 (dk_at dksX3_init_1 4 rfl rfl)
theorem dX3_init_30 : decode cX3_init 30 = .ok (.newarray .int, 2) := dk_188_10 (dk_at dksX3_init_1 7 rfl rfl)
theorem dX3_init_32 : decode cX3_init 32 = .ok (.putfield 19, 3) := dk_181 0 19 (dk_at dksX3_init_1 9 rfl rfl)
theorem dX3_init_35 : decode cX3_init 35 = .ok (.aload_n 0, 1) := dk_42 (dk_at dksX3_init_1 12 rfl rfl)
theorem dX3_init_36 : decode cX3_init 36 = .ok (.bipush 99, 2) := dk_16 99 (dk_at dksX3_init_1 13 rfl rfl)
theorem dX3_init_38 : decode cX3_init 38 = .ok (.newarray .int, 2) := dk_188_10 (dk_at dksX3_init_1 15 rfl rfl)
theorem dX3_init_40 : decode cX3_init 40 = .ok (.putfield 22, 3) := dk_181 0 22 (dk_at dksX3_init_1 17 rfl rfl)
theorem dX3_init_43 : decode cX3_init 43 = .ok (.aload_n 0, 1) := dk_42 (dk_at dksX3_init_1 20 rfl rfl)
theorem dX3_init_44 : decode cX3_init 44 = .ok (.bipush 99, 2) := dk_16 99 (dk_at dksX3_init_1 21 rfl rfl)
theorem dX3_init_46 : decode cX3_init 46 = .ok (.newarray .int, 2) := dk_188_10 (dk_at dksX3_init_2 0 rfl rfl)
theorem dX3_init_48 : decode cX3_init 48 = .ok (.putfield 25, 3) := dk_181 0 25 (dk_at dksX3_init_2 2 rfl rfl)
theorem dX3_init_51 : decode cX3_init 51 = .ok (.aload_n 0, 1) := dk_42 (dk_at dksX3_init_2 5 rfl rfl)
theorem dX3_init_52 : decode cX3_init 52 = .ok (.bipush 60, 2) := dk_16 60 (dk_at dksX3_init_2 6 rfl rfl)
theorem dX3_init_54 : decode cX3_init 54 = .ok (.newarray .char, 2) := dk_188_5 (dk_at dksX3_init_2 8 rfl rfl)
theorem dX3_init_56 : decode cX3_init 56 = .ok (.putfield 28, 3) := dk_181 0 28 (dk_at dksX3_init_2 10 rfl rfl)
theorem dX3_init_59 : decode cX3_init 59 = .ok (.aload_n 0, 1) := dk_42 (dk_at dksX3_init_2 13 rfl rfl)
theorem dX3_init_60 : decode cX3_init 60 = .ok (.iconst (-1), 1) := dk_2 (dk_at dksX3_init_2 14 rfl rfl)
theorem dX3_init_61 : decode cX3_init 61 = .ok (.putfield 32, 3) := dk_181 0 32 (dk_at dksX3_init_2 15 rfl rfl)
theorem dX3_init_64 : decode cX3_init 64 = .ok (.aload_n 0, 1) := dk_42 (dk_at dksX3_init_2 18 rfl rfl)
theorem dX3_init_65 : decode cX3_init 65 = .ok (.iconst 2, 1) := dk_5 (dk_at dksX3_init_2 19 rfl rfl)
theorem dX3_init_66 : decode cX3_init 66 = .ok (.newarray .int, 2) := dk_188_10 (dk_at dksX3_init_2 20 rfl rfl)
theorem dX3_init_68 : decode cX3_init 68 = .ok (.putfield 36, 3) := dk_181 0 36 (dk_at dksX3_init_3 0 rfl rfl)
theorem dX3_init_71 : decode cX3_init 71 = .ok (.aload_n 0, 1) := dk_42 (dk_at dksX3_init_3 3 rfl rfl)
theorem dX3_init_72 : decode cX3_init 72 = .ok (.bipush 90, 2) := dk_16 90 (dk_at dksX3_init_3 4 rfl rfl)
theorem dX3_init_74 : decode cX3_init 74 = .ok (.newarray .char, 2) := dk_188_5 (dk_at dksX3_init_3 6 rfl rfl)
theorem dX3_init_76 : decode cX3_init 76 = .ok (.putfield 39, 3) := dk_181 0 39 (dk_at dksX3_init_3 8 rfl rfl)
theorem dX3_init_79 : decode cX3_init 79 = .ok (.aload_n 0, 1) := dk_42 (dk_at dksX3_init_3 11 rfl rfl)
theorem dX3_init_80 : decode cX3_init 80 = .ok (.getfield 16, 3) := dk_180 0 16 (dk_at dksX3_init_3 12 rfl rfl)
theorem dX3_init_83 : decode cX3_init 83 = .ok (.iconst 1, 1) := dk_4 (dk_at dksX3_init_3 15 rfl rfl)
theorem dX3_init_84 : decode cX3_init 84 = .ok (.bipush 21, 2) := dk_16 21 (dk_at dksX3_init_3 16 rfl rfl)
theorem dX3_init_86 : decode cX3_init 86 = .ok (.iastore, 1) := dk_79 (dk_at dksX3_init_3 18 rfl rfl)
theorem dX3_init_87 : decode cX3_init 87 = .ok (.return_, 1) := dk_177 (dk_at dksX3_init_3 19 rfl rfl)
abbrev cX3_thrown : ByteArray := prog_9_method_2_code
def yX3_thrown : MethodName := ⟨RX3, "thrown", "()I"⟩
theorem dX3_thrown_0 : decode cX3_thrown 0 = .ok (.aload_n 0, 1) := by decide +kernel
theorem dX3_thrown_1 : decode cX3_thrown 1 = .ok (.getfield 42, 3) := by decide +kernel
theorem dX3_thrown_4 : decode cX3_thrown 4 = .ok (.ireturn, 1) := by decide +kernel
abbrev cX3_pipe : ByteArray := prog_9_method_22_code
def yX3_pipe : MethodName := ⟨RX3, "pipe", "(II)I"⟩
def dkwX3_pipe_2 : List UInt8 := [29, 4, 28, 182, 0, 99, 29, 172]
abbrev dktX3_pipe_2 : List UInt8 := dkwX3_pipe_2 ++ []
def dkwX3_pipe_1 : List UInt8 := [180, 0, 16, 5, 46, 62, 42, 180, 0, 16, 5, 92, 46, 4, 96, 79, 42, 29, 3, 27, 182, 0, 99, 42]
abbrev dktX3_pipe_1 : List UInt8 := dkwX3_pipe_1 ++ dktX3_pipe_2
def dkwX3_pipe_0 : List UInt8 := [42, 3, 181, 0, 42, 42, 27, 28, 182, 0, 89, 153, 0, 8, 42, 182, 0, 92, 172, 42, 182, 0, 96, 42]
abbrev dktX3_pipe_0 : List UInt8 := dkwX3_pipe_0 ++ dktX3_pipe_1
theorem dksX3_pipe_0 : cX3_pipe.data.toList.drop 0 = dktX3_pipe_0 := by decide +kernel
theorem dksX3_pipe_1 : cX3_pipe.data.toList.drop 24 = dktX3_pipe_1 := dk_seg dksX3_pipe_0 24 rfl rfl
theorem dksX3_pipe_2 : cX3_pipe.data.toList.drop 48 = dktX3_pipe_2 := dk_seg dksX3_pipe_1 24 rfl rfl
theorem dX3_pipe_0 : decode cX3_pipe 0 = .ok (.aload_n 0, 1) := dk_42 (dk_at dksX3_pipe_0 0 rfl rfl)
theorem dX3_pipe_1 : decode cX3_pipe 1 = .ok (.iconst 0, 1) := dk_3 (dk_at dksX3_pipe_0 1 rfl rfl)
theorem dX3_pipe_2 : decode cX3_pipe 2 = .ok (.putfield 42, 3) := dk_181 0 42 (dk_at dksX3_pipe_0 2 rfl rfl)
theorem dX3_pipe_5 : decode cX3_pipe 5 = .ok (.aload_n 0, 1) := dk_42 (dk_at dksX3_pipe_0 5 rfl rfl)
theorem dX3_pipe_6 : decode cX3_pipe 6 = .ok (.iload_n 1, 1) := dk_27 (dk_at dksX3_pipe_0 6 rfl rfl)
theorem dX3_pipe_7 : decode cX3_pipe 7 = .ok (.iload_n 2, 1) := dk_28 (dk_at dksX3_pipe_0 7 rfl rfl)
theorem dX3_pipe_8 : decode cX3_pipe 8 = .ok (.invokevirtual 89, 3) := dk_182 0 89 (dk_at dksX3_pipe_0 8 rfl rfl)
theorem dX3_pipe_11 : decode cX3_pipe 11 = .ok (.ifCond .eq 8, 3) := dk_153 0 8 (dk_at dksX3_pipe_0 11 rfl rfl)
theorem dX3_pipe_14 : decode cX3_pipe 14 = .ok (.aload_n 0, 1) := dk_42 (dk_at dksX3_pipe_0 14 rfl rfl)
theorem dX3_pipe_15 : decode cX3_pipe 15 = .ok (.invokevirtual 92, 3) := dk_182 0 92 (dk_at dksX3_pipe_0 15 rfl rfl)
theorem dX3_pipe_18 : decode cX3_pipe 18 = .ok (.ireturn, 1) := dk_172 (dk_at dksX3_pipe_0 18 rfl rfl)
theorem dX3_pipe_19 : decode cX3_pipe 19 = .ok (.aload_n 0, 1) := dk_42 (dk_at dksX3_pipe_0 19 rfl rfl)
theorem dX3_pipe_20 : decode cX3_pipe 20 = .ok (.invokevirtual 96, 3) := dk_182 0 96 (dk_at dksX3_pipe_0 20 rfl rfl)
theorem dX3_pipe_23 : decode cX3_pipe 23 = .ok (.aload_n 0, 1) := dk_42 (dk_at dksX3_pipe_0 23 rfl rfl)
theorem dX3_pipe_24 : decode cX3_pipe 24 = .ok (.getfield 16, 3) := dk_180 0 16 (dk_at dksX3_pipe_1 0 rfl rfl)
theorem dX3_pipe_27 : decode cX3_pipe 27 = .ok (.iconst 2, 1) := dk_5 (dk_at dksX3_pipe_1 3 rfl rfl)
theorem dX3_pipe_28 : decode cX3_pipe 28 = .ok (.iaload, 1) := dk_46 (dk_at dksX3_pipe_1 4 rfl rfl)
theorem dX3_pipe_29 : decode cX3_pipe 29 = .ok (.istore_n 3, 1) := dk_62 (dk_at dksX3_pipe_1 5 rfl rfl)
theorem dX3_pipe_30 : decode cX3_pipe 30 = .ok (.aload_n 0, 1) := dk_42 (dk_at dksX3_pipe_1 6 rfl rfl)
theorem dX3_pipe_31 : decode cX3_pipe 31 = .ok (.getfield 16, 3) := dk_180 0 16 (dk_at dksX3_pipe_1 7 rfl rfl)
theorem dX3_pipe_34 : decode cX3_pipe 34 = .ok (.iconst 2, 1) := dk_5 (dk_at dksX3_pipe_1 10 rfl rfl)
theorem dX3_pipe_35 : decode cX3_pipe 35 = .ok (.dup2, 1) := dk_92 (dk_at dksX3_pipe_1 11 rfl rfl)
theorem dX3_pipe_36 : decode cX3_pipe 36 = .ok (.iaload, 1) := dk_46 (dk_at dksX3_pipe_1 12 rfl rfl)
theorem dX3_pipe_37 : decode cX3_pipe 37 = .ok (.iconst 1, 1) := dk_4 (dk_at dksX3_pipe_1 13 rfl rfl)
theorem dX3_pipe_38 : decode cX3_pipe 38 = .ok (.iadd, 1) := dk_96 (dk_at dksX3_pipe_1 14 rfl rfl)
theorem dX3_pipe_39 : decode cX3_pipe 39 = .ok (.iastore, 1) := dk_79 (dk_at dksX3_pipe_1 15 rfl rfl)
theorem dX3_pipe_40 : decode cX3_pipe 40 = .ok (.aload_n 0, 1) := dk_42 (dk_at dksX3_pipe_1 16 rfl rfl)
theorem dX3_pipe_41 : decode cX3_pipe 41 = .ok (.iload_n 3, 1) := dk_29 (dk_at dksX3_pipe_1 17 rfl rfl)
theorem dX3_pipe_42 : decode cX3_pipe 42 = .ok (.iconst 0, 1) := dk_3 (dk_at dksX3_pipe_1 18 rfl rfl)
theorem dX3_pipe_43 : decode cX3_pipe 43 = .ok (.iload_n 1, 1) := dk_27 (dk_at dksX3_pipe_1 19 rfl rfl)
theorem dX3_pipe_44 : decode cX3_pipe 44 = .ok (.invokevirtual 99, 3) := dk_182 0 99 (dk_at dksX3_pipe_1 20 rfl rfl)
theorem dX3_pipe_47 : decode cX3_pipe 47 = .ok (.aload_n 0, 1) := dk_42 (dk_at dksX3_pipe_1 23 rfl rfl)
theorem dX3_pipe_48 : decode cX3_pipe 48 = .ok (.iload_n 3, 1) := dk_29 (dk_at dksX3_pipe_2 0 rfl rfl)
theorem dX3_pipe_49 : decode cX3_pipe 49 = .ok (.iconst 1, 1) := dk_4 (dk_at dksX3_pipe_2 1 rfl rfl)
theorem dX3_pipe_50 : decode cX3_pipe 50 = .ok (.iload_n 2, 1) := dk_28 (dk_at dksX3_pipe_2 2 rfl rfl)
theorem dX3_pipe_51 : decode cX3_pipe 51 = .ok (.invokevirtual 99, 3) := dk_182 0 99 (dk_at dksX3_pipe_2 3 rfl rfl)
theorem dX3_pipe_54 : decode cX3_pipe 54 = .ok (.iload_n 3, 1) := dk_29 (dk_at dksX3_pipe_2 6 rfl rfl)
theorem dX3_pipe_55 : decode cX3_pipe 55 = .ok (.ireturn, 1) := dk_172 (dk_at dksX3_pipe_2 7 rfl rfl)
abbrev cX3_notPipe : ByteArray := prog_9_method_21_code
def yX3_notPipe : MethodName := ⟨RX3, "notPipe", "(II)I"⟩
def dkwX3_notPipe_2 : List UInt8 := [16, 10, 182, 0, 85, 167, 0, 4, 3, 172]
abbrev dktX3_notPipe_2 : List UInt8 := dkwX3_notPipe_2 ++ []
def dkwX3_notPipe_1 : List UInt8 := [154, 0, 10, 42, 6, 28, 182, 0, 85, 172, 42, 180, 0, 16, 5, 46, 16, 10, 160, 0, 13, 42, 7]
abbrev dktX3_notPipe_1 : List UInt8 := dkwX3_notPipe_1 ++ dktX3_notPipe_2
def dkwX3_notPipe_0 : List UInt8 := [27, 4, 16, 12, 184, 0, 77, 154, 0, 10, 42, 6, 27, 182, 0, 85, 172, 28, 3, 16, 9, 184, 0, 77]
abbrev dktX3_notPipe_0 : List UInt8 := dkwX3_notPipe_0 ++ dktX3_notPipe_1
theorem dksX3_notPipe_0 : cX3_notPipe.data.toList.drop 0 = dktX3_notPipe_0 := by decide +kernel
theorem dksX3_notPipe_1 : cX3_notPipe.data.toList.drop 24 = dktX3_notPipe_1 := dk_seg dksX3_notPipe_0 24 rfl rfl
theorem dksX3_notPipe_2 : cX3_notPipe.data.toList.drop 47 = dktX3_notPipe_2 := dk_seg dksX3_notPipe_1 23 rfl rfl
theorem dX3_notPipe_0 : decode cX3_notPipe 0 = .ok (.iload_n 1, 1) := dk_27 (dk_at dksX3_notPipe_0 0 rfl rfl)
theorem dX3_notPipe_1 : decode cX3_notPipe 1 = .ok (.iconst 1, 1) := dk_4 (dk_at dksX3_notPipe_0 1 rfl rfl)
theorem dX3_notPipe_2 : decode cX3_notPipe 2 = .ok (.bipush 12, 2) := dk_16 12 (dk_at dksX3_notPipe_0 2 rfl rfl)
theorem dX3_notPipe_4 : decode cX3_notPipe 4 = .ok (.invokestatic 77, 3) := dk_184 0 77 (dk_at dksX3_notPipe_0 4 rfl rfl)
theorem dX3_notPipe_7 : decode cX3_notPipe 7 = .ok (.ifCond .ne 10, 3) := dk_154 0 10 (dk_at dksX3_notPipe_0 7 rfl rfl)
theorem dX3_notPipe_10 : decode cX3_notPipe 10 = .ok (.aload_n 0, 1) := dk_42 (dk_at dksX3_notPipe_0 10 rfl rfl)
theorem dX3_notPipe_11 : decode cX3_notPipe 11 = .ok (.iconst 3, 1) := dk_6 (dk_at dksX3_notPipe_0 11 rfl rfl)
theorem dX3_notPipe_12 : decode cX3_notPipe 12 = .ok (.iload_n 1, 1) := dk_27 (dk_at dksX3_notPipe_0 12 rfl rfl)
theorem dX3_notPipe_13 : decode cX3_notPipe 13 = .ok (.invokevirtual 85, 3) := dk_182 0 85 (dk_at dksX3_notPipe_0 13 rfl rfl)
theorem dX3_notPipe_16 : decode cX3_notPipe 16 = .ok (.ireturn, 1) := dk_172 (dk_at dksX3_notPipe_0 16 rfl rfl)
theorem dX3_notPipe_17 : decode cX3_notPipe 17 = .ok (.iload_n 2, 1) := dk_28 (dk_at dksX3_notPipe_0 17 rfl rfl)
theorem dX3_notPipe_18 : decode cX3_notPipe 18 = .ok (.iconst 0, 1) := dk_3 (dk_at dksX3_notPipe_0 18 rfl rfl)
theorem dX3_notPipe_19 : decode cX3_notPipe 19 = .ok (.bipush 9, 2) := dk_16 9 (dk_at dksX3_notPipe_0 19 rfl rfl)
theorem dX3_notPipe_21 : decode cX3_notPipe 21 = .ok (.invokestatic 77, 3) := dk_184 0 77 (dk_at dksX3_notPipe_0 21 rfl rfl)
theorem dX3_notPipe_24 : decode cX3_notPipe 24 = .ok (.ifCond .ne 10, 3) := dk_154 0 10 (dk_at dksX3_notPipe_1 0 rfl rfl)
theorem dX3_notPipe_27 : decode cX3_notPipe 27 = .ok (.aload_n 0, 1) := dk_42 (dk_at dksX3_notPipe_1 3 rfl rfl)
theorem dX3_notPipe_28 : decode cX3_notPipe 28 = .ok (.iconst 3, 1) := dk_6 (dk_at dksX3_notPipe_1 4 rfl rfl)
theorem dX3_notPipe_29 : decode cX3_notPipe 29 = .ok (.iload_n 2, 1) := dk_28 (dk_at dksX3_notPipe_1 5 rfl rfl)
theorem dX3_notPipe_30 : decode cX3_notPipe 30 = .ok (.invokevirtual 85, 3) := dk_182 0 85 (dk_at dksX3_notPipe_1 6 rfl rfl)
theorem dX3_notPipe_33 : decode cX3_notPipe 33 = .ok (.ireturn, 1) := dk_172 (dk_at dksX3_notPipe_1 9 rfl rfl)
theorem dX3_notPipe_34 : decode cX3_notPipe 34 = .ok (.aload_n 0, 1) := dk_42 (dk_at dksX3_notPipe_1 10 rfl rfl)
theorem dX3_notPipe_35 : decode cX3_notPipe 35 = .ok (.getfield 16, 3) := dk_180 0 16 (dk_at dksX3_notPipe_1 11 rfl rfl)
theorem dX3_notPipe_38 : decode cX3_notPipe 38 = .ok (.iconst 2, 1) := dk_5 (dk_at dksX3_notPipe_1 14 rfl rfl)
theorem dX3_notPipe_39 : decode cX3_notPipe 39 = .ok (.iaload, 1) := dk_46 (dk_at dksX3_notPipe_1 15 rfl rfl)
theorem dX3_notPipe_40 : decode cX3_notPipe 40 = .ok (.bipush 10, 2) := dk_16 10 (dk_at dksX3_notPipe_1 16 rfl rfl)
theorem dX3_notPipe_42 : decode cX3_notPipe 42 = .ok (.if_icmp .ne 13, 3) := dk_160 0 13 (dk_at dksX3_notPipe_1 18 rfl rfl)
theorem dX3_notPipe_45 : decode cX3_notPipe 45 = .ok (.aload_n 0, 1) := dk_42 (dk_at dksX3_notPipe_1 21 rfl rfl)
theorem dX3_notPipe_46 : decode cX3_notPipe 46 = .ok (.iconst 4, 1) := dk_7 (dk_at dksX3_notPipe_1 22 rfl rfl)
theorem dX3_notPipe_47 : decode cX3_notPipe 47 = .ok (.bipush 10, 2) := dk_16 10 (dk_at dksX3_notPipe_2 0 rfl rfl)
theorem dX3_notPipe_49 : decode cX3_notPipe 49 = .ok (.invokevirtual 85, 3) := dk_182 0 85 (dk_at dksX3_notPipe_2 2 rfl rfl)
theorem dX3_notPipe_52 : decode cX3_notPipe 52 = .ok (.goto 4, 3) := dk_167 0 4 (dk_at dksX3_notPipe_2 5 rfl rfl)
theorem dX3_notPipe_55 : decode cX3_notPipe 55 = .ok (.iconst 0, 1) := dk_3 (dk_at dksX3_notPipe_2 8 rfl rfl)
theorem dX3_notPipe_56 : decode cX3_notPipe 56 = .ok (.ireturn, 1) := dk_172 (dk_at dksX3_notPipe_2 9 rfl rfl)
abbrev cX3_isBetween : ByteArray := prog_9_method_4_code
def yX3_isBetween : MethodName := ⟨RX3, "isBetween", "(III)Z"⟩
def dkwX3_isBetween_0 : List UInt8 := [27, 26, 163, 0, 12, 26, 28, 163, 0, 7, 4, 167, 0, 4, 3, 172]
abbrev dktX3_isBetween_0 : List UInt8 := dkwX3_isBetween_0 ++ []
theorem dksX3_isBetween_0 : cX3_isBetween.data.toList.drop 0 = dktX3_isBetween_0 := by decide +kernel
theorem dX3_isBetween_0 : decode cX3_isBetween 0 = .ok (.iload_n 1, 1) := dk_27 (dk_at dksX3_isBetween_0 0 rfl rfl)
theorem dX3_isBetween_1 : decode cX3_isBetween 1 = .ok (.iload_n 0, 1) := dk_26 (dk_at dksX3_isBetween_0 1 rfl rfl)
theorem dX3_isBetween_2 : decode cX3_isBetween 2 = .ok (.if_icmp .gt 12, 3) := dk_163 0 12 (dk_at dksX3_isBetween_0 2 rfl rfl)
theorem dX3_isBetween_5 : decode cX3_isBetween 5 = .ok (.iload_n 0, 1) := dk_26 (dk_at dksX3_isBetween_0 5 rfl rfl)
theorem dX3_isBetween_6 : decode cX3_isBetween 6 = .ok (.iload_n 2, 1) := dk_28 (dk_at dksX3_isBetween_0 6 rfl rfl)
theorem dX3_isBetween_7 : decode cX3_isBetween 7 = .ok (.if_icmp .gt 7, 3) := dk_163 0 7 (dk_at dksX3_isBetween_0 7 rfl rfl)
theorem dX3_isBetween_10 : decode cX3_isBetween 10 = .ok (.iconst 1, 1) := dk_4 (dk_at dksX3_isBetween_0 10 rfl rfl)
theorem dX3_isBetween_11 : decode cX3_isBetween 11 = .ok (.goto 4, 3) := dk_167 0 4 (dk_at dksX3_isBetween_0 11 rfl rfl)
theorem dX3_isBetween_14 : decode cX3_isBetween 14 = .ok (.iconst 0, 1) := dk_3 (dk_at dksX3_isBetween_0 14 rfl rfl)
theorem dX3_isBetween_15 : decode cX3_isBetween 15 = .ok (.ireturn, 1) := dk_172 (dk_at dksX3_isBetween_0 15 rfl rfl)
abbrev cX3_isNot : ByteArray := prog_9_method_5_code
def yX3_isNot : MethodName := ⟨RX3, "isNot", "(II)I"⟩
def dkwX3_isNot_0 : List UInt8 := [42, 27, 181, 0, 45, 42, 28, 181, 0, 48, 42, 3, 181, 0, 51, 42, 3, 181, 0, 54, 16, 9, 172]
abbrev dktX3_isNot_0 : List UInt8 := dkwX3_isNot_0 ++ []
theorem dksX3_isNot_0 : cX3_isNot.data.toList.drop 0 = dktX3_isNot_0 := by decide +kernel
theorem dX3_isNot_0 : decode cX3_isNot 0 = .ok (.aload_n 0, 1) := dk_42 (dk_at dksX3_isNot_0 0 rfl rfl)
theorem dX3_isNot_1 : decode cX3_isNot 1 = .ok (.iload_n 1, 1) := dk_27 (dk_at dksX3_isNot_0 1 rfl rfl)
theorem dX3_isNot_2 : decode cX3_isNot 2 = .ok (.putfield 45, 3) := dk_181 0 45 (dk_at dksX3_isNot_0 2 rfl rfl)
theorem dX3_isNot_5 : decode cX3_isNot 5 = .ok (.aload_n 0, 1) := dk_42 (dk_at dksX3_isNot_0 5 rfl rfl)
theorem dX3_isNot_6 : decode cX3_isNot 6 = .ok (.iload_n 2, 1) := dk_28 (dk_at dksX3_isNot_0 6 rfl rfl)
theorem dX3_isNot_7 : decode cX3_isNot 7 = .ok (.putfield 48, 3) := dk_181 0 48 (dk_at dksX3_isNot_0 7 rfl rfl)
theorem dX3_isNot_10 : decode cX3_isNot 10 = .ok (.aload_n 0, 1) := dk_42 (dk_at dksX3_isNot_0 10 rfl rfl)
theorem dX3_isNot_11 : decode cX3_isNot 11 = .ok (.iconst 0, 1) := dk_3 (dk_at dksX3_isNot_0 11 rfl rfl)
theorem dX3_isNot_12 : decode cX3_isNot 12 = .ok (.putfield 51, 3) := dk_181 0 51 (dk_at dksX3_isNot_0 12 rfl rfl)
theorem dX3_isNot_15 : decode cX3_isNot 15 = .ok (.aload_n 0, 1) := dk_42 (dk_at dksX3_isNot_0 15 rfl rfl)
theorem dX3_isNot_16 : decode cX3_isNot 16 = .ok (.iconst 0, 1) := dk_3 (dk_at dksX3_isNot_0 16 rfl rfl)
theorem dX3_isNot_17 : decode cX3_isNot 17 = .ok (.putfield 54, 3) := dk_181 0 54 (dk_at dksX3_isNot_0 17 rfl rfl)
theorem dX3_isNot_20 : decode cX3_isNot 20 = .ok (.bipush 9, 2) := dk_16 9 (dk_at dksX3_isNot_0 20 rfl rfl)
theorem dX3_isNot_22 : decode cX3_isNot 22 = .ok (.ireturn, 1) := dk_172 (dk_at dksX3_isNot_0 22 rfl rfl)
abbrev cX3_refuses : ByteArray := prog_9_method_7_code
def yX3_refuses : MethodName := ⟨RX3, "refuses", "()I"⟩
def dkwX3_refuses_1 : List UInt8 := [182, 0, 57, 42, 5, 3, 3, 182, 0, 57, 42, 4, 182, 0, 61, 172]
abbrev dktX3_refuses_1 : List UInt8 := dkwX3_refuses_1 ++ []
def dkwX3_refuses_0 : List UInt8 := [42, 3, 42, 180, 0, 45, 42, 180, 0, 48, 182, 0, 57, 42, 4, 42, 180, 0, 51, 42, 180, 0, 54]
abbrev dktX3_refuses_0 : List UInt8 := dkwX3_refuses_0 ++ dktX3_refuses_1
theorem dksX3_refuses_0 : cX3_refuses.data.toList.drop 0 = dktX3_refuses_0 := by decide +kernel
theorem dksX3_refuses_1 : cX3_refuses.data.toList.drop 23 = dktX3_refuses_1 := dk_seg dksX3_refuses_0 23 rfl rfl
theorem dX3_refuses_0 : decode cX3_refuses 0 = .ok (.aload_n 0, 1) := dk_42 (dk_at dksX3_refuses_0 0 rfl rfl)
theorem dX3_refuses_1 : decode cX3_refuses 1 = .ok (.iconst 0, 1) := dk_3 (dk_at dksX3_refuses_0 1 rfl rfl)
theorem dX3_refuses_2 : decode cX3_refuses 2 = .ok (.aload_n 0, 1) := dk_42 (dk_at dksX3_refuses_0 2 rfl rfl)
theorem dX3_refuses_3 : decode cX3_refuses 3 = .ok (.getfield 45, 3) := dk_180 0 45 (dk_at dksX3_refuses_0 3 rfl rfl)
theorem dX3_refuses_6 : decode cX3_refuses 6 = .ok (.aload_n 0, 1) := dk_42 (dk_at dksX3_refuses_0 6 rfl rfl)
theorem dX3_refuses_7 : decode cX3_refuses 7 = .ok (.getfield 48, 3) := dk_180 0 48 (dk_at dksX3_refuses_0 7 rfl rfl)
theorem dX3_refuses_10 : decode cX3_refuses 10 = .ok (.invokevirtual 57, 3) := dk_182 0 57 (dk_at dksX3_refuses_0 10 rfl rfl)
theorem dX3_refuses_13 : decode cX3_refuses 13 = .ok (.aload_n 0, 1) := dk_42 (dk_at dksX3_refuses_0 13 rfl rfl)
theorem dX3_refuses_14 : decode cX3_refuses 14 = .ok (.iconst 1, 1) := dk_4 (dk_at dksX3_refuses_0 14 rfl rfl)
theorem dX3_refuses_15 : decode cX3_refuses 15 = .ok (.aload_n 0, 1) := dk_42 (dk_at dksX3_refuses_0 15 rfl rfl)
theorem dX3_refuses_16 : decode cX3_refuses 16 = .ok (.getfield 51, 3) := dk_180 0 51 (dk_at dksX3_refuses_0 16 rfl rfl)
theorem dX3_refuses_19 : decode cX3_refuses 19 = .ok (.aload_n 0, 1) := dk_42 (dk_at dksX3_refuses_0 19 rfl rfl)
theorem dX3_refuses_20 : decode cX3_refuses 20 = .ok (.getfield 54, 3) := dk_180 0 54 (dk_at dksX3_refuses_0 20 rfl rfl)
theorem dX3_refuses_23 : decode cX3_refuses 23 = .ok (.invokevirtual 57, 3) := dk_182 0 57 (dk_at dksX3_refuses_1 0 rfl rfl)
theorem dX3_refuses_26 : decode cX3_refuses 26 = .ok (.aload_n 0, 1) := dk_42 (dk_at dksX3_refuses_1 3 rfl rfl)
theorem dX3_refuses_27 : decode cX3_refuses 27 = .ok (.iconst 2, 1) := dk_5 (dk_at dksX3_refuses_1 4 rfl rfl)
theorem dX3_refuses_28 : decode cX3_refuses 28 = .ok (.iconst 0, 1) := dk_3 (dk_at dksX3_refuses_1 5 rfl rfl)
theorem dX3_refuses_29 : decode cX3_refuses 29 = .ok (.iconst 0, 1) := dk_3 (dk_at dksX3_refuses_1 6 rfl rfl)
theorem dX3_refuses_30 : decode cX3_refuses 30 = .ok (.invokevirtual 57, 3) := dk_182 0 57 (dk_at dksX3_refuses_1 7 rfl rfl)
theorem dX3_refuses_33 : decode cX3_refuses 33 = .ok (.aload_n 0, 1) := dk_42 (dk_at dksX3_refuses_1 10 rfl rfl)
theorem dX3_refuses_34 : decode cX3_refuses 34 = .ok (.iconst 1, 1) := dk_4 (dk_at dksX3_refuses_1 11 rfl rfl)
theorem dX3_refuses_35 : decode cX3_refuses 35 = .ok (.invokevirtual 61, 3) := dk_182 0 61 (dk_at dksX3_refuses_1 12 rfl rfl)
theorem dX3_refuses_38 : decode cX3_refuses 38 = .ok (.ireturn, 1) := dk_172 (dk_at dksX3_refuses_1 15 rfl rfl)
abbrev cX3_keepsAt : ByteArray := prog_9_method_6_code
def yX3_keepsAt : MethodName := ⟨RX3, "keepsAt", "(III)V"⟩
def dkwX3_keepsAt_0 : List UInt8 := [42, 180, 0, 7, 27, 28, 79, 42, 180, 0, 13, 27, 29, 79, 177]
abbrev dktX3_keepsAt_0 : List UInt8 := dkwX3_keepsAt_0 ++ []
theorem dksX3_keepsAt_0 : cX3_keepsAt.data.toList.drop 0 = dktX3_keepsAt_0 := by decide +kernel
theorem dX3_keepsAt_0 : decode cX3_keepsAt 0 = .ok (.aload_n 0, 1) := dk_42 (dk_at dksX3_keepsAt_0 0 rfl rfl)
theorem dX3_keepsAt_1 : decode cX3_keepsAt 1 = .ok (.getfield 7, 3) := dk_180 0 7 (dk_at dksX3_keepsAt_0 1 rfl rfl)
theorem dX3_keepsAt_4 : decode cX3_keepsAt 4 = .ok (.iload_n 1, 1) := dk_27 (dk_at dksX3_keepsAt_0 4 rfl rfl)
theorem dX3_keepsAt_5 : decode cX3_keepsAt 5 = .ok (.iload_n 2, 1) := dk_28 (dk_at dksX3_keepsAt_0 5 rfl rfl)
theorem dX3_keepsAt_6 : decode cX3_keepsAt 6 = .ok (.iastore, 1) := dk_79 (dk_at dksX3_keepsAt_0 6 rfl rfl)
theorem dX3_keepsAt_7 : decode cX3_keepsAt 7 = .ok (.aload_n 0, 1) := dk_42 (dk_at dksX3_keepsAt_0 7 rfl rfl)
theorem dX3_keepsAt_8 : decode cX3_keepsAt 8 = .ok (.getfield 13, 3) := dk_180 0 13 (dk_at dksX3_keepsAt_0 8 rfl rfl)
theorem dX3_keepsAt_11 : decode cX3_keepsAt 11 = .ok (.iload_n 1, 1) := dk_27 (dk_at dksX3_keepsAt_0 11 rfl rfl)
theorem dX3_keepsAt_12 : decode cX3_keepsAt 12 = .ok (.iload_n 3, 1) := dk_29 (dk_at dksX3_keepsAt_0 12 rfl rfl)
theorem dX3_keepsAt_13 : decode cX3_keepsAt 13 = .ok (.iastore, 1) := dk_79 (dk_at dksX3_keepsAt_0 13 rfl rfl)
theorem dX3_keepsAt_14 : decode cX3_keepsAt 14 = .ok (.return_, 1) := dk_177 (dk_at dksX3_keepsAt_0 14 rfl rfl)
abbrev cX3_fails : ByteArray := prog_9_method_3_code
def yX3_fails : MethodName := ⟨RX3, "fails", "(I)I"⟩
def dkwX3_fails_0 : List UInt8 := [42, 27, 181, 0, 42, 3, 172]
abbrev dktX3_fails_0 : List UInt8 := dkwX3_fails_0 ++ []
theorem dksX3_fails_0 : cX3_fails.data.toList.drop 0 = dktX3_fails_0 := by decide +kernel
theorem dX3_fails_0 : decode cX3_fails 0 = .ok (.aload_n 0, 1) := dk_42 (dk_at dksX3_fails_0 0 rfl rfl)
theorem dX3_fails_1 : decode cX3_fails 1 = .ok (.iload_n 1, 1) := dk_27 (dk_at dksX3_fails_0 1 rfl rfl)
theorem dX3_fails_2 : decode cX3_fails 2 = .ok (.putfield 42, 3) := dk_181 0 42 (dk_at dksX3_fails_0 2 rfl rfl)
theorem dX3_fails_5 : decode cX3_fails 5 = .ok (.iconst 0, 1) := dk_3 (dk_at dksX3_fails_0 5 rfl rfl)
theorem dX3_fails_6 : decode cX3_fails 6 = .ok (.ireturn, 1) := dk_172 (dk_at dksX3_fails_0 6 rfl rfl)
abbrev cX3_remembers : ByteArray := prog_9_method_11_code
def yX3_remembers : MethodName := ⟨RX3, "remembers", "()V"⟩
def dkwX3_remembers_0 : List UInt8 := [42, 182, 0, 71, 42, 182, 0, 74, 177]
abbrev dktX3_remembers_0 : List UInt8 := dkwX3_remembers_0 ++ []
theorem dksX3_remembers_0 : cX3_remembers.data.toList.drop 0 = dktX3_remembers_0 := by decide +kernel
theorem dX3_remembers_0 : decode cX3_remembers 0 = .ok (.aload_n 0, 1) := dk_42 (dk_at dksX3_remembers_0 0 rfl rfl)
theorem dX3_remembers_1 : decode cX3_remembers 1 = .ok (.invokevirtual 71, 3) := dk_182 0 71 (dk_at dksX3_remembers_0 1 rfl rfl)
theorem dX3_remembers_4 : decode cX3_remembers 4 = .ok (.aload_n 0, 1) := dk_42 (dk_at dksX3_remembers_0 4 rfl rfl)
theorem dX3_remembers_5 : decode cX3_remembers 5 = .ok (.invokevirtual 74, 3) := dk_182 0 74 (dk_at dksX3_remembers_0 5 rfl rfl)
theorem dX3_remembers_8 : decode cX3_remembers 8 = .ok (.return_, 1) := dk_177 (dk_at dksX3_remembers_0 8 rfl rfl)
abbrev cX3_thinks : ByteArray := prog_9_method_8_code
def yX3_thinks : MethodName := ⟨RX3, "thinks", "()V"⟩
def dkwX3_thinks_1 : List UInt8 := [167, 255, 235, 177]
abbrev dktX3_thinks_1 : List UInt8 := dkwX3_thinks_1 ++ []
def dkwX3_thinks_0 : List UInt8 := [3, 60, 27, 16, 99, 162, 0, 21, 42, 180, 0, 25, 27, 42, 180, 0, 16, 27, 46, 79, 132, 1, 1]
abbrev dktX3_thinks_0 : List UInt8 := dkwX3_thinks_0 ++ dktX3_thinks_1
theorem dksX3_thinks_0 : cX3_thinks.data.toList.drop 0 = dktX3_thinks_0 := by decide +kernel
theorem dksX3_thinks_1 : cX3_thinks.data.toList.drop 23 = dktX3_thinks_1 := dk_seg dksX3_thinks_0 23 rfl rfl
theorem dX3_thinks_0 : decode cX3_thinks 0 = .ok (.iconst 0, 1) := dk_3 (dk_at dksX3_thinks_0 0 rfl rfl)
theorem dX3_thinks_1 : decode cX3_thinks 1 = .ok (.istore_n 1, 1) := dk_60 (dk_at dksX3_thinks_0 1 rfl rfl)
theorem dX3_thinks_2 : decode cX3_thinks 2 = .ok (.iload_n 1, 1) := dk_27 (dk_at dksX3_thinks_0 2 rfl rfl)
theorem dX3_thinks_3 : decode cX3_thinks 3 = .ok (.bipush 99, 2) := dk_16 99 (dk_at dksX3_thinks_0 3 rfl rfl)
theorem dX3_thinks_5 : decode cX3_thinks 5 = .ok (.if_icmp .ge 21, 3) := dk_162 0 21 (dk_at dksX3_thinks_0 5 rfl rfl)
theorem dX3_thinks_8 : decode cX3_thinks 8 = .ok (.aload_n 0, 1) := dk_42 (dk_at dksX3_thinks_0 8 rfl rfl)
theorem dX3_thinks_9 : decode cX3_thinks 9 = .ok (.getfield 25, 3) := dk_180 0 25 (dk_at dksX3_thinks_0 9 rfl rfl)
theorem dX3_thinks_12 : decode cX3_thinks 12 = .ok (.iload_n 1, 1) := dk_27 (dk_at dksX3_thinks_0 12 rfl rfl)
theorem dX3_thinks_13 : decode cX3_thinks 13 = .ok (.aload_n 0, 1) := dk_42 (dk_at dksX3_thinks_0 13 rfl rfl)
theorem dX3_thinks_14 : decode cX3_thinks 14 = .ok (.getfield 16, 3) := dk_180 0 16 (dk_at dksX3_thinks_0 14 rfl rfl)
theorem dX3_thinks_17 : decode cX3_thinks 17 = .ok (.iload_n 1, 1) := dk_27 (dk_at dksX3_thinks_0 17 rfl rfl)
theorem dX3_thinks_18 : decode cX3_thinks 18 = .ok (.iaload, 1) := dk_46 (dk_at dksX3_thinks_0 18 rfl rfl)
theorem dX3_thinks_19 : decode cX3_thinks 19 = .ok (.iastore, 1) := dk_79 (dk_at dksX3_thinks_0 19 rfl rfl)
theorem dX3_thinks_20 : decode cX3_thinks 20 = .ok (.iinc 1 1, 3) := dk_132 1 1 (dk_at dksX3_thinks_0 20 rfl rfl)
theorem dX3_thinks_23 : decode cX3_thinks 23 = .ok (.goto (-21), 3) := dk_167 255 235 (dk_at dksX3_thinks_1 0 rfl rfl)
theorem dX3_thinks_26 : decode cX3_thinks 26 = .ok (.return_, 1) := dk_177 (dk_at dksX3_thinks_1 3 rfl rfl)
abbrev cX3_keepsMind : ByteArray := prog_9_method_10_code
def yX3_keepsMind : MethodName := ⟨RX3, "keepsMind", "()V"⟩
def dkwX3_keepsMind_3 : List UInt8 := [132, 2, 1, 167, 255, 230, 42, 89, 180, 0, 65, 4, 96, 181, 0, 65, 177]
abbrev dktX3_keepsMind_3 : List UInt8 := dkwX3_keepsMind_3 ++ []
def dkwX3_keepsMind_2 : List UInt8 := [16, 99, 162, 0, 26, 42, 180, 0, 19, 16, 99, 27, 104, 28, 96, 42, 180, 0, 25, 28, 46, 79]
abbrev dktX3_keepsMind_2 : List UInt8 := dkwX3_keepsMind_2 ++ dktX3_keepsMind_3
def dkwX3_keepsMind_1 : List UInt8 := [180, 0, 65, 4, 100, 181, 0, 65, 42, 180, 0, 68, 42, 180, 0, 65, 96, 16, 8, 112, 60, 3, 61, 28]
abbrev dktX3_keepsMind_1 : List UInt8 := dkwX3_keepsMind_1 ++ dktX3_keepsMind_2
def dkwX3_keepsMind_0 : List UInt8 := [42, 180, 0, 65, 16, 8, 160, 0, 26, 42, 42, 180, 0, 68, 4, 96, 16, 8, 112, 181, 0, 68, 42, 89]
abbrev dktX3_keepsMind_0 : List UInt8 := dkwX3_keepsMind_0 ++ dktX3_keepsMind_1
theorem dksX3_keepsMind_0 : cX3_keepsMind.data.toList.drop 0 = dktX3_keepsMind_0 := by decide +kernel
theorem dksX3_keepsMind_1 : cX3_keepsMind.data.toList.drop 24 = dktX3_keepsMind_1 := dk_seg dksX3_keepsMind_0 24 rfl rfl
theorem dksX3_keepsMind_2 : cX3_keepsMind.data.toList.drop 48 = dktX3_keepsMind_2 := dk_seg dksX3_keepsMind_1 24 rfl rfl
theorem dksX3_keepsMind_3 : cX3_keepsMind.data.toList.drop 70 = dktX3_keepsMind_3 := dk_seg dksX3_keepsMind_2 22 rfl rfl
theorem dX3_keepsMind_0 : decode cX3_keepsMind 0 = .ok (.aload_n 0, 1) := dk_42 (dk_at dksX3_keepsMind_0 0 rfl rfl)
theorem dX3_keepsMind_1 : decode cX3_keepsMind 1 = .ok (.getfield 65, 3) := dk_180 0 65 (dk_at dksX3_keepsMind_0 1 rfl rfl)
theorem dX3_keepsMind_4 : decode cX3_keepsMind 4 = .ok (.bipush 8, 2) := dk_16 8 (dk_at dksX3_keepsMind_0 4 rfl rfl)
theorem dX3_keepsMind_6 : decode cX3_keepsMind 6 = .ok (.if_icmp .ne 26, 3) := dk_160 0 26 (dk_at dksX3_keepsMind_0 6 rfl rfl)
theorem dX3_keepsMind_9 : decode cX3_keepsMind 9 = .ok (.aload_n 0, 1) := dk_42 (dk_at dksX3_keepsMind_0 9 rfl rfl)
theorem dX3_keepsMind_10 : decode cX3_keepsMind 10 = .ok (.aload_n 0, 1) := dk_42 (dk_at dksX3_keepsMind_0 10 rfl rfl)
theorem dX3_keepsMind_11 : decode cX3_keepsMind 11 = .ok (.getfield 68, 3) := dk_180 0 68 (dk_at dksX3_keepsMind_0 11 rfl rfl)
theorem dX3_keepsMind_14 : decode cX3_keepsMind 14 = .ok (.iconst 1, 1) := dk_4 (dk_at dksX3_keepsMind_0 14 rfl rfl)
theorem dX3_keepsMind_15 : decode cX3_keepsMind 15 = .ok (.iadd, 1) := dk_96 (dk_at dksX3_keepsMind_0 15 rfl rfl)
theorem dX3_keepsMind_16 : decode cX3_keepsMind 16 = .ok (.bipush 8, 2) := dk_16 8 (dk_at dksX3_keepsMind_0 16 rfl rfl)
theorem dX3_keepsMind_18 : decode cX3_keepsMind 18 = .ok (.irem, 1) := dk_112 (dk_at dksX3_keepsMind_0 18 rfl rfl)
theorem dX3_keepsMind_19 : decode cX3_keepsMind 19 = .ok (.putfield 68, 3) := dk_181 0 68 (dk_at dksX3_keepsMind_0 19 rfl rfl)
theorem dX3_keepsMind_22 : decode cX3_keepsMind 22 = .ok (.aload_n 0, 1) := dk_42 (dk_at dksX3_keepsMind_0 22 rfl rfl)
theorem dX3_keepsMind_23 : decode cX3_keepsMind 23 = .ok (.dup, 1) := dk_89 (dk_at dksX3_keepsMind_0 23 rfl rfl)
theorem dX3_keepsMind_24 : decode cX3_keepsMind 24 = .ok (.getfield 65, 3) := dk_180 0 65 (dk_at dksX3_keepsMind_1 0 rfl rfl)
theorem dX3_keepsMind_27 : decode cX3_keepsMind 27 = .ok (.iconst 1, 1) := dk_4 (dk_at dksX3_keepsMind_1 3 rfl rfl)
theorem dX3_keepsMind_28 : decode cX3_keepsMind 28 = .ok (.isub, 1) := dk_100 (dk_at dksX3_keepsMind_1 4 rfl rfl)
theorem dX3_keepsMind_29 : decode cX3_keepsMind 29 = .ok (.putfield 65, 3) := dk_181 0 65 (dk_at dksX3_keepsMind_1 5 rfl rfl)
theorem dX3_keepsMind_32 : decode cX3_keepsMind 32 = .ok (.aload_n 0, 1) := dk_42 (dk_at dksX3_keepsMind_1 8 rfl rfl)
theorem dX3_keepsMind_33 : decode cX3_keepsMind 33 = .ok (.getfield 68, 3) := dk_180 0 68 (dk_at dksX3_keepsMind_1 9 rfl rfl)
theorem dX3_keepsMind_36 : decode cX3_keepsMind 36 = .ok (.aload_n 0, 1) := dk_42 (dk_at dksX3_keepsMind_1 12 rfl rfl)
theorem dX3_keepsMind_37 : decode cX3_keepsMind 37 = .ok (.getfield 65, 3) := dk_180 0 65 (dk_at dksX3_keepsMind_1 13 rfl rfl)
theorem dX3_keepsMind_40 : decode cX3_keepsMind 40 = .ok (.iadd, 1) := dk_96 (dk_at dksX3_keepsMind_1 16 rfl rfl)
theorem dX3_keepsMind_41 : decode cX3_keepsMind 41 = .ok (.bipush 8, 2) := dk_16 8 (dk_at dksX3_keepsMind_1 17 rfl rfl)
theorem dX3_keepsMind_43 : decode cX3_keepsMind 43 = .ok (.irem, 1) := dk_112 (dk_at dksX3_keepsMind_1 19 rfl rfl)
theorem dX3_keepsMind_44 : decode cX3_keepsMind 44 = .ok (.istore_n 1, 1) := dk_60 (dk_at dksX3_keepsMind_1 20 rfl rfl)
theorem dX3_keepsMind_45 : decode cX3_keepsMind 45 = .ok (.iconst 0, 1) := dk_3 (dk_at dksX3_keepsMind_1 21 rfl rfl)
theorem dX3_keepsMind_46 : decode cX3_keepsMind 46 = .ok (.istore_n 2, 1) := dk_61 (dk_at dksX3_keepsMind_1 22 rfl rfl)
theorem dX3_keepsMind_47 : decode cX3_keepsMind 47 = .ok (.iload_n 2, 1) := dk_28 (dk_at dksX3_keepsMind_1 23 rfl rfl)
theorem dX3_keepsMind_48 : decode cX3_keepsMind 48 = .ok (.bipush 99, 2) := dk_16 99 (dk_at dksX3_keepsMind_2 0 rfl rfl)
theorem dX3_keepsMind_50 : decode cX3_keepsMind 50 = .ok (.if_icmp .ge 26, 3) := dk_162 0 26 (dk_at dksX3_keepsMind_2 2 rfl rfl)
theorem dX3_keepsMind_53 : decode cX3_keepsMind 53 = .ok (.aload_n 0, 1) := dk_42 (dk_at dksX3_keepsMind_2 5 rfl rfl)
theorem dX3_keepsMind_54 : decode cX3_keepsMind 54 = .ok (.getfield 19, 3) := dk_180 0 19 (dk_at dksX3_keepsMind_2 6 rfl rfl)
theorem dX3_keepsMind_57 : decode cX3_keepsMind 57 = .ok (.bipush 99, 2) := dk_16 99 (dk_at dksX3_keepsMind_2 9 rfl rfl)
theorem dX3_keepsMind_59 : decode cX3_keepsMind 59 = .ok (.iload_n 1, 1) := dk_27 (dk_at dksX3_keepsMind_2 11 rfl rfl)
theorem dX3_keepsMind_60 : decode cX3_keepsMind 60 = .ok (.imul, 1) := dk_104 (dk_at dksX3_keepsMind_2 12 rfl rfl)
theorem dX3_keepsMind_61 : decode cX3_keepsMind 61 = .ok (.iload_n 2, 1) := dk_28 (dk_at dksX3_keepsMind_2 13 rfl rfl)
theorem dX3_keepsMind_62 : decode cX3_keepsMind 62 = .ok (.iadd, 1) := dk_96 (dk_at dksX3_keepsMind_2 14 rfl rfl)
theorem dX3_keepsMind_63 : decode cX3_keepsMind 63 = .ok (.aload_n 0, 1) := dk_42 (dk_at dksX3_keepsMind_2 15 rfl rfl)
theorem dX3_keepsMind_64 : decode cX3_keepsMind 64 = .ok (.getfield 25, 3) := dk_180 0 25 (dk_at dksX3_keepsMind_2 16 rfl rfl)
theorem dX3_keepsMind_67 : decode cX3_keepsMind 67 = .ok (.iload_n 2, 1) := dk_28 (dk_at dksX3_keepsMind_2 19 rfl rfl)
theorem dX3_keepsMind_68 : decode cX3_keepsMind 68 = .ok (.iaload, 1) := dk_46 (dk_at dksX3_keepsMind_2 20 rfl rfl)
theorem dX3_keepsMind_69 : decode cX3_keepsMind 69 = .ok (.iastore, 1) := dk_79 (dk_at dksX3_keepsMind_2 21 rfl rfl)
theorem dX3_keepsMind_70 : decode cX3_keepsMind 70 = .ok (.iinc 2 1, 3) := dk_132 2 1 (dk_at dksX3_keepsMind_3 0 rfl rfl)
theorem dX3_keepsMind_73 : decode cX3_keepsMind 73 = .ok (.goto (-26), 3) := dk_167 255 230 (dk_at dksX3_keepsMind_3 3 rfl rfl)
theorem dX3_keepsMind_76 : decode cX3_keepsMind 76 = .ok (.aload_n 0, 1) := dk_42 (dk_at dksX3_keepsMind_3 6 rfl rfl)
theorem dX3_keepsMind_77 : decode cX3_keepsMind 77 = .ok (.dup, 1) := dk_89 (dk_at dksX3_keepsMind_3 7 rfl rfl)
theorem dX3_keepsMind_78 : decode cX3_keepsMind 78 = .ok (.getfield 65, 3) := dk_180 0 65 (dk_at dksX3_keepsMind_3 8 rfl rfl)
theorem dX3_keepsMind_81 : decode cX3_keepsMind 81 = .ok (.iconst 1, 1) := dk_4 (dk_at dksX3_keepsMind_3 11 rfl rfl)
theorem dX3_keepsMind_82 : decode cX3_keepsMind 82 = .ok (.iadd, 1) := dk_96 (dk_at dksX3_keepsMind_3 12 rfl rfl)
theorem dX3_keepsMind_83 : decode cX3_keepsMind 83 = .ok (.putfield 65, 3) := dk_181 0 65 (dk_at dksX3_keepsMind_3 13 rfl rfl)
theorem dX3_keepsMind_86 : decode cX3_keepsMind 86 = .ok (.return_, 1) := dk_177 (dk_at dksX3_keepsMind_3 16 rfl rfl)
abbrev cX3_sets : ByteArray := prog_9_method_13_code
def yX3_sets : MethodName := ⟨RX3, "sets", "(III)V"⟩
def dkwX3_sets_0 : List UInt8 := [42, 180, 0, 16, 16, 49, 8, 27, 104, 96, 28, 96, 29, 79, 177]
abbrev dktX3_sets_0 : List UInt8 := dkwX3_sets_0 ++ []
theorem dksX3_sets_0 : cX3_sets.data.toList.drop 0 = dktX3_sets_0 := by decide +kernel
theorem dX3_sets_0 : decode cX3_sets 0 = .ok (.aload_n 0, 1) := dk_42 (dk_at dksX3_sets_0 0 rfl rfl)
theorem dX3_sets_1 : decode cX3_sets 1 = .ok (.getfield 16, 3) := dk_180 0 16 (dk_at dksX3_sets_0 1 rfl rfl)
theorem dX3_sets_4 : decode cX3_sets 4 = .ok (.bipush 49, 2) := dk_16 49 (dk_at dksX3_sets_0 4 rfl rfl)
theorem dX3_sets_6 : decode cX3_sets 6 = .ok (.iconst 5, 1) := dk_8 (dk_at dksX3_sets_0 6 rfl rfl)
theorem dX3_sets_7 : decode cX3_sets 7 = .ok (.iload_n 1, 1) := dk_27 (dk_at dksX3_sets_0 7 rfl rfl)
theorem dX3_sets_8 : decode cX3_sets 8 = .ok (.imul, 1) := dk_104 (dk_at dksX3_sets_0 8 rfl rfl)
theorem dX3_sets_9 : decode cX3_sets 9 = .ok (.iadd, 1) := dk_96 (dk_at dksX3_sets_0 9 rfl rfl)
theorem dX3_sets_10 : decode cX3_sets 10 = .ok (.iload_n 2, 1) := dk_28 (dk_at dksX3_sets_0 10 rfl rfl)
theorem dX3_sets_11 : decode cX3_sets 11 = .ok (.iadd, 1) := dk_96 (dk_at dksX3_sets_0 11 rfl rfl)
theorem dX3_sets_12 : decode cX3_sets 12 = .ok (.iload_n 3, 1) := dk_29 (dk_at dksX3_sets_0 12 rfl rfl)
theorem dX3_sets_13 : decode cX3_sets 13 = .ok (.iastore, 1) := dk_79 (dk_at dksX3_sets_0 13 rfl rfl)
theorem dX3_sets_14 : decode cX3_sets 14 = .ok (.return_, 1) := dk_177 (dk_at dksX3_sets_0 14 rfl rfl)
abbrev cX3_bring : ByteArray := prog_9_method_25_code
def yX3_bring : MethodName := ⟨RX3, "bring", "(I)I"⟩
def dkwX3_bring_1 : List UInt8 := [182, 0, 111, 172]
abbrev dktX3_bring_1 : List UInt8 := dkwX3_bring_1 ++ []
def dkwX3_bring_0 : List UInt8 := [42, 3, 181, 0, 42, 42, 27, 182, 0, 108, 153, 0, 8, 42, 182, 0, 92, 172, 42, 182, 0, 96, 42, 27]
abbrev dktX3_bring_0 : List UInt8 := dkwX3_bring_0 ++ dktX3_bring_1
theorem dksX3_bring_0 : cX3_bring.data.toList.drop 0 = dktX3_bring_0 := by decide +kernel
theorem dksX3_bring_1 : cX3_bring.data.toList.drop 24 = dktX3_bring_1 := dk_seg dksX3_bring_0 24 rfl rfl
theorem dX3_bring_0 : decode cX3_bring 0 = .ok (.aload_n 0, 1) := dk_42 (dk_at dksX3_bring_0 0 rfl rfl)
theorem dX3_bring_1 : decode cX3_bring 1 = .ok (.iconst 0, 1) := dk_3 (dk_at dksX3_bring_0 1 rfl rfl)
theorem dX3_bring_2 : decode cX3_bring 2 = .ok (.putfield 42, 3) := dk_181 0 42 (dk_at dksX3_bring_0 2 rfl rfl)
theorem dX3_bring_5 : decode cX3_bring 5 = .ok (.aload_n 0, 1) := dk_42 (dk_at dksX3_bring_0 5 rfl rfl)
theorem dX3_bring_6 : decode cX3_bring 6 = .ok (.iload_n 1, 1) := dk_27 (dk_at dksX3_bring_0 6 rfl rfl)
theorem dX3_bring_7 : decode cX3_bring 7 = .ok (.invokevirtual 108, 3) := dk_182 0 108 (dk_at dksX3_bring_0 7 rfl rfl)
theorem dX3_bring_10 : decode cX3_bring 10 = .ok (.ifCond .eq 8, 3) := dk_153 0 8 (dk_at dksX3_bring_0 10 rfl rfl)
theorem dX3_bring_13 : decode cX3_bring 13 = .ok (.aload_n 0, 1) := dk_42 (dk_at dksX3_bring_0 13 rfl rfl)
theorem dX3_bring_14 : decode cX3_bring 14 = .ok (.invokevirtual 92, 3) := dk_182 0 92 (dk_at dksX3_bring_0 14 rfl rfl)
theorem dX3_bring_17 : decode cX3_bring 17 = .ok (.ireturn, 1) := dk_172 (dk_at dksX3_bring_0 17 rfl rfl)
theorem dX3_bring_18 : decode cX3_bring 18 = .ok (.aload_n 0, 1) := dk_42 (dk_at dksX3_bring_0 18 rfl rfl)
theorem dX3_bring_19 : decode cX3_bring 19 = .ok (.invokevirtual 96, 3) := dk_182 0 96 (dk_at dksX3_bring_0 19 rfl rfl)
theorem dX3_bring_22 : decode cX3_bring 22 = .ok (.aload_n 0, 1) := dk_42 (dk_at dksX3_bring_0 22 rfl rfl)
theorem dX3_bring_23 : decode cX3_bring 23 = .ok (.iload_n 1, 1) := dk_27 (dk_at dksX3_bring_0 23 rfl rfl)
theorem dX3_bring_24 : decode cX3_bring 24 = .ok (.invokevirtual 111, 3) := dk_182 0 111 (dk_at dksX3_bring_1 0 rfl rfl)
theorem dX3_bring_27 : decode cX3_bring 27 = .ok (.ireturn, 1) := dk_172 (dk_at dksX3_bring_1 3 rfl rfl)
abbrev cX3_notBring : ByteArray := prog_9_method_23_code
def yX3_notBring : MethodName := ⟨RX3, "notBring", "(I)I"⟩
def dkwX3_notBring_1 : List UInt8 := [8, 42, 27, 182, 0, 105, 182, 0, 85, 167, 0, 4, 3, 172]
abbrev dktX3_notBring_1 : List UInt8 := dkwX3_notBring_1 ++ []
def dkwX3_notBring_0 : List UInt8 := [42, 27, 182, 0, 102, 154, 0, 10, 42, 4, 27, 182, 0, 85, 172, 42, 27, 182, 0, 105, 155, 0, 16, 42]
abbrev dktX3_notBring_0 : List UInt8 := dkwX3_notBring_0 ++ dktX3_notBring_1
theorem dksX3_notBring_0 : cX3_notBring.data.toList.drop 0 = dktX3_notBring_0 := by decide +kernel
theorem dksX3_notBring_1 : cX3_notBring.data.toList.drop 24 = dktX3_notBring_1 := dk_seg dksX3_notBring_0 24 rfl rfl
theorem dX3_notBring_0 : decode cX3_notBring 0 = .ok (.aload_n 0, 1) := dk_42 (dk_at dksX3_notBring_0 0 rfl rfl)
theorem dX3_notBring_1 : decode cX3_notBring 1 = .ok (.iload_n 1, 1) := dk_27 (dk_at dksX3_notBring_0 1 rfl rfl)
theorem dX3_notBring_2 : decode cX3_notBring 2 = .ok (.invokevirtual 102, 3) := dk_182 0 102 (dk_at dksX3_notBring_0 2 rfl rfl)
theorem dX3_notBring_5 : decode cX3_notBring 5 = .ok (.ifCond .ne 10, 3) := dk_154 0 10 (dk_at dksX3_notBring_0 5 rfl rfl)
theorem dX3_notBring_8 : decode cX3_notBring 8 = .ok (.aload_n 0, 1) := dk_42 (dk_at dksX3_notBring_0 8 rfl rfl)
theorem dX3_notBring_9 : decode cX3_notBring 9 = .ok (.iconst 1, 1) := dk_4 (dk_at dksX3_notBring_0 9 rfl rfl)
theorem dX3_notBring_10 : decode cX3_notBring 10 = .ok (.iload_n 1, 1) := dk_27 (dk_at dksX3_notBring_0 10 rfl rfl)
theorem dX3_notBring_11 : decode cX3_notBring 11 = .ok (.invokevirtual 85, 3) := dk_182 0 85 (dk_at dksX3_notBring_0 11 rfl rfl)
theorem dX3_notBring_14 : decode cX3_notBring 14 = .ok (.ireturn, 1) := dk_172 (dk_at dksX3_notBring_0 14 rfl rfl)
theorem dX3_notBring_15 : decode cX3_notBring 15 = .ok (.aload_n 0, 1) := dk_42 (dk_at dksX3_notBring_0 15 rfl rfl)
theorem dX3_notBring_16 : decode cX3_notBring 16 = .ok (.iload_n 1, 1) := dk_27 (dk_at dksX3_notBring_0 16 rfl rfl)
theorem dX3_notBring_17 : decode cX3_notBring 17 = .ok (.invokevirtual 105, 3) := dk_182 0 105 (dk_at dksX3_notBring_0 17 rfl rfl)
theorem dX3_notBring_20 : decode cX3_notBring 20 = .ok (.ifCond .lt 16, 3) := dk_155 0 16 (dk_at dksX3_notBring_0 20 rfl rfl)
theorem dX3_notBring_23 : decode cX3_notBring 23 = .ok (.aload_n 0, 1) := dk_42 (dk_at dksX3_notBring_0 23 rfl rfl)
theorem dX3_notBring_24 : decode cX3_notBring 24 = .ok (.iconst 5, 1) := dk_8 (dk_at dksX3_notBring_1 0 rfl rfl)
theorem dX3_notBring_25 : decode cX3_notBring 25 = .ok (.aload_n 0, 1) := dk_42 (dk_at dksX3_notBring_1 1 rfl rfl)
theorem dX3_notBring_26 : decode cX3_notBring 26 = .ok (.iload_n 1, 1) := dk_27 (dk_at dksX3_notBring_1 2 rfl rfl)
theorem dX3_notBring_27 : decode cX3_notBring 27 = .ok (.invokevirtual 105, 3) := dk_182 0 105 (dk_at dksX3_notBring_1 3 rfl rfl)
theorem dX3_notBring_30 : decode cX3_notBring 30 = .ok (.invokevirtual 85, 3) := dk_182 0 85 (dk_at dksX3_notBring_1 6 rfl rfl)
theorem dX3_notBring_33 : decode cX3_notBring 33 = .ok (.goto 4, 3) := dk_167 0 4 (dk_at dksX3_notBring_1 9 rfl rfl)
theorem dX3_notBring_36 : decode cX3_notBring 36 = .ok (.iconst 0, 1) := dk_3 (dk_at dksX3_notBring_1 12 rfl rfl)
theorem dX3_notBring_37 : decode cX3_notBring 37 = .ok (.ireturn, 1) := dk_172 (dk_at dksX3_notBring_1 13 rfl rfl)
abbrev cX3_isPipe : ByteArray := prog_9_method_14_code
def yX3_isPipe : MethodName := ⟨RX3, "isPipe", "(I)Z"⟩
def dkwX3_isPipe_0 : List UInt8 := [27, 3, 42, 180, 0, 16, 5, 46, 4, 100, 184, 0, 77, 172]
abbrev dktX3_isPipe_0 : List UInt8 := dkwX3_isPipe_0 ++ []
theorem dksX3_isPipe_0 : cX3_isPipe.data.toList.drop 0 = dktX3_isPipe_0 := by decide +kernel
theorem dX3_isPipe_0 : decode cX3_isPipe 0 = .ok (.iload_n 1, 1) := dk_27 (dk_at dksX3_isPipe_0 0 rfl rfl)
theorem dX3_isPipe_1 : decode cX3_isPipe 1 = .ok (.iconst 0, 1) := dk_3 (dk_at dksX3_isPipe_0 1 rfl rfl)
theorem dX3_isPipe_2 : decode cX3_isPipe 2 = .ok (.aload_n 0, 1) := dk_42 (dk_at dksX3_isPipe_0 2 rfl rfl)
theorem dX3_isPipe_3 : decode cX3_isPipe 3 = .ok (.getfield 16, 3) := dk_180 0 16 (dk_at dksX3_isPipe_0 3 rfl rfl)
theorem dX3_isPipe_6 : decode cX3_isPipe 6 = .ok (.iconst 2, 1) := dk_5 (dk_at dksX3_isPipe_0 6 rfl rfl)
theorem dX3_isPipe_7 : decode cX3_isPipe 7 = .ok (.iaload, 1) := dk_46 (dk_at dksX3_isPipe_0 7 rfl rfl)
theorem dX3_isPipe_8 : decode cX3_isPipe 8 = .ok (.iconst 1, 1) := dk_4 (dk_at dksX3_isPipe_0 8 rfl rfl)
theorem dX3_isPipe_9 : decode cX3_isPipe 9 = .ok (.isub, 1) := dk_100 (dk_at dksX3_isPipe_0 9 rfl rfl)
theorem dX3_isPipe_10 : decode cX3_isPipe 10 = .ok (.invokestatic 77, 3) := dk_184 0 77 (dk_at dksX3_isPipe_0 10 rfl rfl)
theorem dX3_isPipe_13 : decode cX3_isPipe 13 = .ok (.ireturn, 1) := dk_172 (dk_at dksX3_isPipe_0 13 rfl rfl)
abbrev cX3_placeOf : ByteArray := prog_9_method_18_code
def yX3_placeOf : MethodName := ⟨RX3, "placeOf", "(I)I"⟩
def dkwX3_placeOf_1 : List UInt8 := [160, 0, 5, 28, 172, 132, 2, 1, 167, 255, 228, 2, 172]
abbrev dktX3_placeOf_1 : List UInt8 := dkwX3_placeOf_1 ++ []
def dkwX3_placeOf_0 : List UInt8 := [3, 61, 28, 42, 180, 0, 16, 6, 46, 162, 0, 24, 42, 180, 0, 16, 16, 12, 28, 96, 46, 27]
abbrev dktX3_placeOf_0 : List UInt8 := dkwX3_placeOf_0 ++ dktX3_placeOf_1
theorem dksX3_placeOf_0 : cX3_placeOf.data.toList.drop 0 = dktX3_placeOf_0 := by decide +kernel
theorem dksX3_placeOf_1 : cX3_placeOf.data.toList.drop 22 = dktX3_placeOf_1 := dk_seg dksX3_placeOf_0 22 rfl rfl
theorem dX3_placeOf_0 : decode cX3_placeOf 0 = .ok (.iconst 0, 1) := dk_3 (dk_at dksX3_placeOf_0 0 rfl rfl)
theorem dX3_placeOf_1 : decode cX3_placeOf 1 = .ok (.istore_n 2, 1) := dk_61 (dk_at dksX3_placeOf_0 1 rfl rfl)
theorem dX3_placeOf_2 : decode cX3_placeOf 2 = .ok (.iload_n 2, 1) := dk_28 (dk_at dksX3_placeOf_0 2 rfl rfl)
theorem dX3_placeOf_3 : decode cX3_placeOf 3 = .ok (.aload_n 0, 1) := dk_42 (dk_at dksX3_placeOf_0 3 rfl rfl)
theorem dX3_placeOf_4 : decode cX3_placeOf 4 = .ok (.getfield 16, 3) := dk_180 0 16 (dk_at dksX3_placeOf_0 4 rfl rfl)
theorem dX3_placeOf_7 : decode cX3_placeOf 7 = .ok (.iconst 3, 1) := dk_6 (dk_at dksX3_placeOf_0 7 rfl rfl)
theorem dX3_placeOf_8 : decode cX3_placeOf 8 = .ok (.iaload, 1) := dk_46 (dk_at dksX3_placeOf_0 8 rfl rfl)
theorem dX3_placeOf_9 : decode cX3_placeOf 9 = .ok (.if_icmp .ge 24, 3) := dk_162 0 24 (dk_at dksX3_placeOf_0 9 rfl rfl)
theorem dX3_placeOf_12 : decode cX3_placeOf 12 = .ok (.aload_n 0, 1) := dk_42 (dk_at dksX3_placeOf_0 12 rfl rfl)
theorem dX3_placeOf_13 : decode cX3_placeOf 13 = .ok (.getfield 16, 3) := dk_180 0 16 (dk_at dksX3_placeOf_0 13 rfl rfl)
theorem dX3_placeOf_16 : decode cX3_placeOf 16 = .ok (.bipush 12, 2) := dk_16 12 (dk_at dksX3_placeOf_0 16 rfl rfl)
theorem dX3_placeOf_18 : decode cX3_placeOf 18 = .ok (.iload_n 2, 1) := dk_28 (dk_at dksX3_placeOf_0 18 rfl rfl)
theorem dX3_placeOf_19 : decode cX3_placeOf 19 = .ok (.iadd, 1) := dk_96 (dk_at dksX3_placeOf_0 19 rfl rfl)
theorem dX3_placeOf_20 : decode cX3_placeOf 20 = .ok (.iaload, 1) := dk_46 (dk_at dksX3_placeOf_0 20 rfl rfl)
theorem dX3_placeOf_21 : decode cX3_placeOf 21 = .ok (.iload_n 1, 1) := dk_27 (dk_at dksX3_placeOf_0 21 rfl rfl)
theorem dX3_placeOf_22 : decode cX3_placeOf 22 = .ok (.if_icmp .ne 5, 3) := dk_160 0 5 (dk_at dksX3_placeOf_1 0 rfl rfl)
theorem dX3_placeOf_25 : decode cX3_placeOf 25 = .ok (.iload_n 2, 1) := dk_28 (dk_at dksX3_placeOf_1 3 rfl rfl)
theorem dX3_placeOf_26 : decode cX3_placeOf 26 = .ok (.ireturn, 1) := dk_172 (dk_at dksX3_placeOf_1 4 rfl rfl)
theorem dX3_placeOf_27 : decode cX3_placeOf 27 = .ok (.iinc 2 1, 3) := dk_132 2 1 (dk_at dksX3_placeOf_1 5 rfl rfl)
theorem dX3_placeOf_30 : decode cX3_placeOf 30 = .ok (.goto (-28), 3) := dk_167 255 228 (dk_at dksX3_placeOf_1 8 rfl rfl)
theorem dX3_placeOf_33 : decode cX3_placeOf 33 = .ok (.iconst (-1), 1) := dk_2 (dk_at dksX3_placeOf_1 11 rfl rfl)
theorem dX3_placeOf_34 : decode cX3_placeOf 34 = .ok (.ireturn, 1) := dk_172 (dk_at dksX3_placeOf_1 12 rfl rfl)
abbrev cX3_brings : ByteArray := prog_9_method_24_code
def yX3_brings : MethodName := ⟨RX3, "brings", "(I)I"⟩
def dkwX3_brings_1 : List UInt8 := [79, 42, 180, 0, 16, 6, 46, 4, 100, 172]
abbrev dktX3_brings_1 : List UInt8 := dkwX3_brings_1 ++ []
def dkwX3_brings_0 : List UInt8 := [42, 180, 0, 16, 16, 12, 42, 180, 0, 16, 6, 46, 96, 27, 79, 42, 180, 0, 16, 6, 92, 46, 4, 96]
abbrev dktX3_brings_0 : List UInt8 := dkwX3_brings_0 ++ dktX3_brings_1
theorem dksX3_brings_0 : cX3_brings.data.toList.drop 0 = dktX3_brings_0 := by decide +kernel
theorem dksX3_brings_1 : cX3_brings.data.toList.drop 24 = dktX3_brings_1 := dk_seg dksX3_brings_0 24 rfl rfl
theorem dX3_brings_0 : decode cX3_brings 0 = .ok (.aload_n 0, 1) := dk_42 (dk_at dksX3_brings_0 0 rfl rfl)
theorem dX3_brings_1 : decode cX3_brings 1 = .ok (.getfield 16, 3) := dk_180 0 16 (dk_at dksX3_brings_0 1 rfl rfl)
theorem dX3_brings_4 : decode cX3_brings 4 = .ok (.bipush 12, 2) := dk_16 12 (dk_at dksX3_brings_0 4 rfl rfl)
theorem dX3_brings_6 : decode cX3_brings 6 = .ok (.aload_n 0, 1) := dk_42 (dk_at dksX3_brings_0 6 rfl rfl)
theorem dX3_brings_7 : decode cX3_brings 7 = .ok (.getfield 16, 3) := dk_180 0 16 (dk_at dksX3_brings_0 7 rfl rfl)
theorem dX3_brings_10 : decode cX3_brings 10 = .ok (.iconst 3, 1) := dk_6 (dk_at dksX3_brings_0 10 rfl rfl)
theorem dX3_brings_11 : decode cX3_brings 11 = .ok (.iaload, 1) := dk_46 (dk_at dksX3_brings_0 11 rfl rfl)
theorem dX3_brings_12 : decode cX3_brings 12 = .ok (.iadd, 1) := dk_96 (dk_at dksX3_brings_0 12 rfl rfl)
theorem dX3_brings_13 : decode cX3_brings 13 = .ok (.iload_n 1, 1) := dk_27 (dk_at dksX3_brings_0 13 rfl rfl)
theorem dX3_brings_14 : decode cX3_brings 14 = .ok (.iastore, 1) := dk_79 (dk_at dksX3_brings_0 14 rfl rfl)
theorem dX3_brings_15 : decode cX3_brings 15 = .ok (.aload_n 0, 1) := dk_42 (dk_at dksX3_brings_0 15 rfl rfl)
theorem dX3_brings_16 : decode cX3_brings 16 = .ok (.getfield 16, 3) := dk_180 0 16 (dk_at dksX3_brings_0 16 rfl rfl)
theorem dX3_brings_19 : decode cX3_brings 19 = .ok (.iconst 3, 1) := dk_6 (dk_at dksX3_brings_0 19 rfl rfl)
theorem dX3_brings_20 : decode cX3_brings 20 = .ok (.dup2, 1) := dk_92 (dk_at dksX3_brings_0 20 rfl rfl)
theorem dX3_brings_21 : decode cX3_brings 21 = .ok (.iaload, 1) := dk_46 (dk_at dksX3_brings_0 21 rfl rfl)
theorem dX3_brings_22 : decode cX3_brings 22 = .ok (.iconst 1, 1) := dk_4 (dk_at dksX3_brings_0 22 rfl rfl)
theorem dX3_brings_23 : decode cX3_brings 23 = .ok (.iadd, 1) := dk_96 (dk_at dksX3_brings_0 23 rfl rfl)
theorem dX3_brings_24 : decode cX3_brings 24 = .ok (.iastore, 1) := dk_79 (dk_at dksX3_brings_1 0 rfl rfl)
theorem dX3_brings_25 : decode cX3_brings 25 = .ok (.aload_n 0, 1) := dk_42 (dk_at dksX3_brings_1 1 rfl rfl)
theorem dX3_brings_26 : decode cX3_brings 26 = .ok (.getfield 16, 3) := dk_180 0 16 (dk_at dksX3_brings_1 2 rfl rfl)
theorem dX3_brings_29 : decode cX3_brings 29 = .ok (.iconst 3, 1) := dk_6 (dk_at dksX3_brings_1 5 rfl rfl)
theorem dX3_brings_30 : decode cX3_brings 30 = .ok (.iaload, 1) := dk_46 (dk_at dksX3_brings_1 6 rfl rfl)
theorem dX3_brings_31 : decode cX3_brings 31 = .ok (.iconst 1, 1) := dk_4 (dk_at dksX3_brings_1 7 rfl rfl)
theorem dX3_brings_32 : decode cX3_brings 32 = .ok (.isub, 1) := dk_100 (dk_at dksX3_brings_1 8 rfl rfl)
theorem dX3_brings_33 : decode cX3_brings 33 = .ok (.ireturn, 1) := dk_172 (dk_at dksX3_brings_1 9 rfl rfl)
abbrev cX3_takeBack : ByteArray := prog_9_method_28_code
def yX3_takeBack : MethodName := ⟨RX3, "takeBack", "(I)I"⟩
def dkwX3_takeBack_1 : List UInt8 := [182, 0, 105, 61, 42, 28, 182, 0, 117, 28, 172]
abbrev dktX3_takeBack_1 : List UInt8 := dkwX3_takeBack_1 ++ []
def dkwX3_takeBack_0 : List UInt8 := [42, 3, 181, 0, 42, 42, 27, 182, 0, 114, 153, 0, 8, 42, 182, 0, 92, 172, 42, 182, 0, 96, 42, 27]
abbrev dktX3_takeBack_0 : List UInt8 := dkwX3_takeBack_0 ++ dktX3_takeBack_1
theorem dksX3_takeBack_0 : cX3_takeBack.data.toList.drop 0 = dktX3_takeBack_0 := by decide +kernel
theorem dksX3_takeBack_1 : cX3_takeBack.data.toList.drop 24 = dktX3_takeBack_1 := dk_seg dksX3_takeBack_0 24 rfl rfl
theorem dX3_takeBack_0 : decode cX3_takeBack 0 = .ok (.aload_n 0, 1) := dk_42 (dk_at dksX3_takeBack_0 0 rfl rfl)
theorem dX3_takeBack_1 : decode cX3_takeBack 1 = .ok (.iconst 0, 1) := dk_3 (dk_at dksX3_takeBack_0 1 rfl rfl)
theorem dX3_takeBack_2 : decode cX3_takeBack 2 = .ok (.putfield 42, 3) := dk_181 0 42 (dk_at dksX3_takeBack_0 2 rfl rfl)
theorem dX3_takeBack_5 : decode cX3_takeBack 5 = .ok (.aload_n 0, 1) := dk_42 (dk_at dksX3_takeBack_0 5 rfl rfl)
theorem dX3_takeBack_6 : decode cX3_takeBack 6 = .ok (.iload_n 1, 1) := dk_27 (dk_at dksX3_takeBack_0 6 rfl rfl)
theorem dX3_takeBack_7 : decode cX3_takeBack 7 = .ok (.invokevirtual 114, 3) := dk_182 0 114 (dk_at dksX3_takeBack_0 7 rfl rfl)
theorem dX3_takeBack_10 : decode cX3_takeBack 10 = .ok (.ifCond .eq 8, 3) := dk_153 0 8 (dk_at dksX3_takeBack_0 10 rfl rfl)
theorem dX3_takeBack_13 : decode cX3_takeBack 13 = .ok (.aload_n 0, 1) := dk_42 (dk_at dksX3_takeBack_0 13 rfl rfl)
theorem dX3_takeBack_14 : decode cX3_takeBack 14 = .ok (.invokevirtual 92, 3) := dk_182 0 92 (dk_at dksX3_takeBack_0 14 rfl rfl)
theorem dX3_takeBack_17 : decode cX3_takeBack 17 = .ok (.ireturn, 1) := dk_172 (dk_at dksX3_takeBack_0 17 rfl rfl)
theorem dX3_takeBack_18 : decode cX3_takeBack 18 = .ok (.aload_n 0, 1) := dk_42 (dk_at dksX3_takeBack_0 18 rfl rfl)
theorem dX3_takeBack_19 : decode cX3_takeBack 19 = .ok (.invokevirtual 96, 3) := dk_182 0 96 (dk_at dksX3_takeBack_0 19 rfl rfl)
theorem dX3_takeBack_22 : decode cX3_takeBack 22 = .ok (.aload_n 0, 1) := dk_42 (dk_at dksX3_takeBack_0 22 rfl rfl)
theorem dX3_takeBack_23 : decode cX3_takeBack 23 = .ok (.iload_n 1, 1) := dk_27 (dk_at dksX3_takeBack_0 23 rfl rfl)
theorem dX3_takeBack_24 : decode cX3_takeBack 24 = .ok (.invokevirtual 105, 3) := dk_182 0 105 (dk_at dksX3_takeBack_1 0 rfl rfl)
theorem dX3_takeBack_27 : decode cX3_takeBack 27 = .ok (.istore_n 2, 1) := dk_61 (dk_at dksX3_takeBack_1 3 rfl rfl)
theorem dX3_takeBack_28 : decode cX3_takeBack 28 = .ok (.aload_n 0, 1) := dk_42 (dk_at dksX3_takeBack_1 4 rfl rfl)
theorem dX3_takeBack_29 : decode cX3_takeBack 29 = .ok (.iload_n 2, 1) := dk_28 (dk_at dksX3_takeBack_1 5 rfl rfl)
theorem dX3_takeBack_30 : decode cX3_takeBack 30 = .ok (.invokevirtual 117, 3) := dk_182 0 117 (dk_at dksX3_takeBack_1 6 rfl rfl)
theorem dX3_takeBack_33 : decode cX3_takeBack 33 = .ok (.iload_n 2, 1) := dk_28 (dk_at dksX3_takeBack_1 9 rfl rfl)
theorem dX3_takeBack_34 : decode cX3_takeBack 34 = .ok (.ireturn, 1) := dk_172 (dk_at dksX3_takeBack_1 10 rfl rfl)
abbrev cX3_notTakeBack : ByteArray := prog_9_method_27_code
def yX3_notTakeBack : MethodName := ⟨RX3, "notTakeBack", "(I)I"⟩
def dkwX3_notTakeBack_1 : List UInt8 := [16, 6, 27, 182, 0, 85, 167, 0, 4, 3, 172]
abbrev dktX3_notTakeBack_1 : List UInt8 := dkwX3_notTakeBack_1 ++ []
def dkwX3_notTakeBack_0 : List UInt8 := [42, 27, 182, 0, 102, 154, 0, 10, 42, 4, 27, 182, 0, 85, 172, 42, 27, 182, 0, 105, 156, 0, 13, 42]
abbrev dktX3_notTakeBack_0 : List UInt8 := dkwX3_notTakeBack_0 ++ dktX3_notTakeBack_1
theorem dksX3_notTakeBack_0 : cX3_notTakeBack.data.toList.drop 0 = dktX3_notTakeBack_0 := by decide +kernel
theorem dksX3_notTakeBack_1 : cX3_notTakeBack.data.toList.drop 24 = dktX3_notTakeBack_1 := dk_seg dksX3_notTakeBack_0 24 rfl rfl
theorem dX3_notTakeBack_0 : decode cX3_notTakeBack 0 = .ok (.aload_n 0, 1) := dk_42 (dk_at dksX3_notTakeBack_0 0 rfl rfl)
theorem dX3_notTakeBack_1 : decode cX3_notTakeBack 1 = .ok (.iload_n 1, 1) := dk_27 (dk_at dksX3_notTakeBack_0 1 rfl rfl)
theorem dX3_notTakeBack_2 : decode cX3_notTakeBack 2 = .ok (.invokevirtual 102, 3) := dk_182 0 102 (dk_at dksX3_notTakeBack_0 2 rfl rfl)
theorem dX3_notTakeBack_5 : decode cX3_notTakeBack 5 = .ok (.ifCond .ne 10, 3) := dk_154 0 10 (dk_at dksX3_notTakeBack_0 5 rfl rfl)
theorem dX3_notTakeBack_8 : decode cX3_notTakeBack 8 = .ok (.aload_n 0, 1) := dk_42 (dk_at dksX3_notTakeBack_0 8 rfl rfl)
theorem dX3_notTakeBack_9 : decode cX3_notTakeBack 9 = .ok (.iconst 1, 1) := dk_4 (dk_at dksX3_notTakeBack_0 9 rfl rfl)
theorem dX3_notTakeBack_10 : decode cX3_notTakeBack 10 = .ok (.iload_n 1, 1) := dk_27 (dk_at dksX3_notTakeBack_0 10 rfl rfl)
theorem dX3_notTakeBack_11 : decode cX3_notTakeBack 11 = .ok (.invokevirtual 85, 3) := dk_182 0 85 (dk_at dksX3_notTakeBack_0 11 rfl rfl)
theorem dX3_notTakeBack_14 : decode cX3_notTakeBack 14 = .ok (.ireturn, 1) := dk_172 (dk_at dksX3_notTakeBack_0 14 rfl rfl)
theorem dX3_notTakeBack_15 : decode cX3_notTakeBack 15 = .ok (.aload_n 0, 1) := dk_42 (dk_at dksX3_notTakeBack_0 15 rfl rfl)
theorem dX3_notTakeBack_16 : decode cX3_notTakeBack 16 = .ok (.iload_n 1, 1) := dk_27 (dk_at dksX3_notTakeBack_0 16 rfl rfl)
theorem dX3_notTakeBack_17 : decode cX3_notTakeBack 17 = .ok (.invokevirtual 105, 3) := dk_182 0 105 (dk_at dksX3_notTakeBack_0 17 rfl rfl)
theorem dX3_notTakeBack_20 : decode cX3_notTakeBack 20 = .ok (.ifCond .ge 13, 3) := dk_156 0 13 (dk_at dksX3_notTakeBack_0 20 rfl rfl)
theorem dX3_notTakeBack_23 : decode cX3_notTakeBack 23 = .ok (.aload_n 0, 1) := dk_42 (dk_at dksX3_notTakeBack_0 23 rfl rfl)
theorem dX3_notTakeBack_24 : decode cX3_notTakeBack 24 = .ok (.bipush 6, 2) := dk_16 6 (dk_at dksX3_notTakeBack_1 0 rfl rfl)
theorem dX3_notTakeBack_26 : decode cX3_notTakeBack 26 = .ok (.iload_n 1, 1) := dk_27 (dk_at dksX3_notTakeBack_1 2 rfl rfl)
theorem dX3_notTakeBack_27 : decode cX3_notTakeBack 27 = .ok (.invokevirtual 85, 3) := dk_182 0 85 (dk_at dksX3_notTakeBack_1 3 rfl rfl)
theorem dX3_notTakeBack_30 : decode cX3_notTakeBack 30 = .ok (.goto 4, 3) := dk_167 0 4 (dk_at dksX3_notTakeBack_1 6 rfl rfl)
theorem dX3_notTakeBack_33 : decode cX3_notTakeBack 33 = .ok (.iconst 0, 1) := dk_3 (dk_at dksX3_notTakeBack_1 9 rfl rfl)
theorem dX3_notTakeBack_34 : decode cX3_notTakeBack 34 = .ok (.ireturn, 1) := dk_172 (dk_at dksX3_notTakeBack_1 10 rfl rfl)
abbrev cX3_leavesBench : ByteArray := prog_9_method_26_code
def yX3_leavesBench : MethodName := ⟨RX3, "leavesBench", "(I)V"⟩
def dkwX3_leavesBench_2 : List UInt8 := [167, 255, 223, 42, 180, 0, 16, 16, 12, 42, 180, 0, 16, 6, 46, 96, 3, 79, 177]
abbrev dktX3_leavesBench_2 : List UInt8 := dkwX3_leavesBench_2 ++ []
def dkwX3_leavesBench_1 : List UInt8 := [180, 0, 16, 16, 12, 28, 96, 42, 180, 0, 16, 16, 12, 28, 96, 4, 96, 46, 79, 132, 2, 1]
abbrev dktX3_leavesBench_1 : List UInt8 := dkwX3_leavesBench_1 ++ dktX3_leavesBench_2
def dkwX3_leavesBench_0 : List UInt8 := [42, 180, 0, 16, 6, 92, 46, 4, 100, 79, 27, 61, 28, 42, 180, 0, 16, 6, 46, 162, 0, 29, 42]
abbrev dktX3_leavesBench_0 : List UInt8 := dkwX3_leavesBench_0 ++ dktX3_leavesBench_1
theorem dksX3_leavesBench_0 : cX3_leavesBench.data.toList.drop 0 = dktX3_leavesBench_0 := by decide +kernel
theorem dksX3_leavesBench_1 : cX3_leavesBench.data.toList.drop 23 = dktX3_leavesBench_1 := dk_seg dksX3_leavesBench_0 23 rfl rfl
theorem dksX3_leavesBench_2 : cX3_leavesBench.data.toList.drop 45 = dktX3_leavesBench_2 := dk_seg dksX3_leavesBench_1 22 rfl rfl
theorem dX3_leavesBench_0 : decode cX3_leavesBench 0 = .ok (.aload_n 0, 1) := dk_42 (dk_at dksX3_leavesBench_0 0 rfl rfl)
theorem dX3_leavesBench_1 : decode cX3_leavesBench 1 = .ok (.getfield 16, 3) := dk_180 0 16 (dk_at dksX3_leavesBench_0 1 rfl rfl)
theorem dX3_leavesBench_4 : decode cX3_leavesBench 4 = .ok (.iconst 3, 1) := dk_6 (dk_at dksX3_leavesBench_0 4 rfl rfl)
theorem dX3_leavesBench_5 : decode cX3_leavesBench 5 = .ok (.dup2, 1) := dk_92 (dk_at dksX3_leavesBench_0 5 rfl rfl)
theorem dX3_leavesBench_6 : decode cX3_leavesBench 6 = .ok (.iaload, 1) := dk_46 (dk_at dksX3_leavesBench_0 6 rfl rfl)
theorem dX3_leavesBench_7 : decode cX3_leavesBench 7 = .ok (.iconst 1, 1) := dk_4 (dk_at dksX3_leavesBench_0 7 rfl rfl)
theorem dX3_leavesBench_8 : decode cX3_leavesBench 8 = .ok (.isub, 1) := dk_100 (dk_at dksX3_leavesBench_0 8 rfl rfl)
theorem dX3_leavesBench_9 : decode cX3_leavesBench 9 = .ok (.iastore, 1) := dk_79 (dk_at dksX3_leavesBench_0 9 rfl rfl)
theorem dX3_leavesBench_10 : decode cX3_leavesBench 10 = .ok (.iload_n 1, 1) := dk_27 (dk_at dksX3_leavesBench_0 10 rfl rfl)
theorem dX3_leavesBench_11 : decode cX3_leavesBench 11 = .ok (.istore_n 2, 1) := dk_61 (dk_at dksX3_leavesBench_0 11 rfl rfl)
theorem dX3_leavesBench_12 : decode cX3_leavesBench 12 = .ok (.iload_n 2, 1) := dk_28 (dk_at dksX3_leavesBench_0 12 rfl rfl)
theorem dX3_leavesBench_13 : decode cX3_leavesBench 13 = .ok (.aload_n 0, 1) := dk_42 (dk_at dksX3_leavesBench_0 13 rfl rfl)
theorem dX3_leavesBench_14 : decode cX3_leavesBench 14 = .ok (.getfield 16, 3) := dk_180 0 16 (dk_at dksX3_leavesBench_0 14 rfl rfl)
theorem dX3_leavesBench_17 : decode cX3_leavesBench 17 = .ok (.iconst 3, 1) := dk_6 (dk_at dksX3_leavesBench_0 17 rfl rfl)
theorem dX3_leavesBench_18 : decode cX3_leavesBench 18 = .ok (.iaload, 1) := dk_46 (dk_at dksX3_leavesBench_0 18 rfl rfl)
theorem dX3_leavesBench_19 : decode cX3_leavesBench 19 = .ok (.if_icmp .ge 29, 3) := dk_162 0 29 (dk_at dksX3_leavesBench_0 19 rfl rfl)
theorem dX3_leavesBench_22 : decode cX3_leavesBench 22 = .ok (.aload_n 0, 1) := dk_42 (dk_at dksX3_leavesBench_0 22 rfl rfl)
theorem dX3_leavesBench_23 : decode cX3_leavesBench 23 = .ok (.getfield 16, 3) := dk_180 0 16 (dk_at dksX3_leavesBench_1 0 rfl rfl)
theorem dX3_leavesBench_26 : decode cX3_leavesBench 26 = .ok (.bipush 12, 2) := dk_16 12 (dk_at dksX3_leavesBench_1 3 rfl rfl)
theorem dX3_leavesBench_28 : decode cX3_leavesBench 28 = .ok (.iload_n 2, 1) := dk_28 (dk_at dksX3_leavesBench_1 5 rfl rfl)
theorem dX3_leavesBench_29 : decode cX3_leavesBench 29 = .ok (.iadd, 1) := dk_96 (dk_at dksX3_leavesBench_1 6 rfl rfl)
theorem dX3_leavesBench_30 : decode cX3_leavesBench 30 = .ok (.aload_n 0, 1) := dk_42 (dk_at dksX3_leavesBench_1 7 rfl rfl)
theorem dX3_leavesBench_31 : decode cX3_leavesBench 31 = .ok (.getfield 16, 3) := dk_180 0 16 (dk_at dksX3_leavesBench_1 8 rfl rfl)
theorem dX3_leavesBench_34 : decode cX3_leavesBench 34 = .ok (.bipush 12, 2) := dk_16 12 (dk_at dksX3_leavesBench_1 11 rfl rfl)
theorem dX3_leavesBench_36 : decode cX3_leavesBench 36 = .ok (.iload_n 2, 1) := dk_28 (dk_at dksX3_leavesBench_1 13 rfl rfl)
theorem dX3_leavesBench_37 : decode cX3_leavesBench 37 = .ok (.iadd, 1) := dk_96 (dk_at dksX3_leavesBench_1 14 rfl rfl)
theorem dX3_leavesBench_38 : decode cX3_leavesBench 38 = .ok (.iconst 1, 1) := dk_4 (dk_at dksX3_leavesBench_1 15 rfl rfl)
theorem dX3_leavesBench_39 : decode cX3_leavesBench 39 = .ok (.iadd, 1) := dk_96 (dk_at dksX3_leavesBench_1 16 rfl rfl)
theorem dX3_leavesBench_40 : decode cX3_leavesBench 40 = .ok (.iaload, 1) := dk_46 (dk_at dksX3_leavesBench_1 17 rfl rfl)
theorem dX3_leavesBench_41 : decode cX3_leavesBench 41 = .ok (.iastore, 1) := dk_79 (dk_at dksX3_leavesBench_1 18 rfl rfl)
theorem dX3_leavesBench_42 : decode cX3_leavesBench 42 = .ok (.iinc 2 1, 3) := dk_132 2 1 (dk_at dksX3_leavesBench_1 19 rfl rfl)
theorem dX3_leavesBench_45 : decode cX3_leavesBench 45 = .ok (.goto (-33), 3) := dk_167 255 223 (dk_at dksX3_leavesBench_2 0 rfl rfl)
theorem dX3_leavesBench_48 : decode cX3_leavesBench 48 = .ok (.aload_n 0, 1) := dk_42 (dk_at dksX3_leavesBench_2 3 rfl rfl)
theorem dX3_leavesBench_49 : decode cX3_leavesBench 49 = .ok (.getfield 16, 3) := dk_180 0 16 (dk_at dksX3_leavesBench_2 4 rfl rfl)
theorem dX3_leavesBench_52 : decode cX3_leavesBench 52 = .ok (.bipush 12, 2) := dk_16 12 (dk_at dksX3_leavesBench_2 7 rfl rfl)
theorem dX3_leavesBench_54 : decode cX3_leavesBench 54 = .ok (.aload_n 0, 1) := dk_42 (dk_at dksX3_leavesBench_2 9 rfl rfl)
theorem dX3_leavesBench_55 : decode cX3_leavesBench 55 = .ok (.getfield 16, 3) := dk_180 0 16 (dk_at dksX3_leavesBench_2 10 rfl rfl)
theorem dX3_leavesBench_58 : decode cX3_leavesBench 58 = .ok (.iconst 3, 1) := dk_6 (dk_at dksX3_leavesBench_2 13 rfl rfl)
theorem dX3_leavesBench_59 : decode cX3_leavesBench 59 = .ok (.iaload, 1) := dk_46 (dk_at dksX3_leavesBench_2 14 rfl rfl)
theorem dX3_leavesBench_60 : decode cX3_leavesBench 60 = .ok (.iadd, 1) := dk_96 (dk_at dksX3_leavesBench_2 15 rfl rfl)
theorem dX3_leavesBench_61 : decode cX3_leavesBench 61 = .ok (.iconst 0, 1) := dk_3 (dk_at dksX3_leavesBench_2 16 rfl rfl)
theorem dX3_leavesBench_62 : decode cX3_leavesBench 62 = .ok (.iastore, 1) := dk_79 (dk_at dksX3_leavesBench_2 17 rfl rfl)
theorem dX3_leavesBench_63 : decode cX3_leavesBench 63 = .ok (.return_, 1) := dk_177 (dk_at dksX3_leavesBench_2 18 rfl rfl)
abbrev cX3_exchange : ByteArray := prog_9_method_30_code
def yX3_exchange : MethodName := ⟨RX3, "exchange", "(II)I"⟩
def dkwX3_exchange_3 : List UInt8 := [180, 0, 16, 16, 12, 27, 96, 46, 172]
abbrev dktX3_exchange_3 : List UInt8 := dkwX3_exchange_3 ++ []
def dkwX3_exchange_2 : List UInt8 := [27, 96, 42, 180, 0, 16, 16, 12, 28, 96, 46, 79, 42, 180, 0, 16, 16, 12, 28, 96, 29, 79, 42]
abbrev dktX3_exchange_2 : List UInt8 := dkwX3_exchange_2 ++ dktX3_exchange_3
def dkwX3_exchange_1 : List UInt8 := [182, 0, 92, 172, 42, 182, 0, 96, 42, 180, 0, 16, 16, 12, 27, 96, 46, 62, 42, 180, 0, 16, 16, 12]
abbrev dktX3_exchange_1 : List UInt8 := dkwX3_exchange_1 ++ dktX3_exchange_2
def dkwX3_exchange_0 : List UInt8 := [42, 3, 181, 0, 42, 42, 27, 182, 0, 121, 154, 0, 11, 42, 28, 182, 0, 121, 153, 0, 8, 42]
abbrev dktX3_exchange_0 : List UInt8 := dkwX3_exchange_0 ++ dktX3_exchange_1
theorem dksX3_exchange_0 : cX3_exchange.data.toList.drop 0 = dktX3_exchange_0 := by decide +kernel
theorem dksX3_exchange_1 : cX3_exchange.data.toList.drop 22 = dktX3_exchange_1 := dk_seg dksX3_exchange_0 22 rfl rfl
theorem dksX3_exchange_2 : cX3_exchange.data.toList.drop 46 = dktX3_exchange_2 := dk_seg dksX3_exchange_1 24 rfl rfl
theorem dksX3_exchange_3 : cX3_exchange.data.toList.drop 69 = dktX3_exchange_3 := dk_seg dksX3_exchange_2 23 rfl rfl
theorem dX3_exchange_0 : decode cX3_exchange 0 = .ok (.aload_n 0, 1) := dk_42 (dk_at dksX3_exchange_0 0 rfl rfl)
theorem dX3_exchange_1 : decode cX3_exchange 1 = .ok (.iconst 0, 1) := dk_3 (dk_at dksX3_exchange_0 1 rfl rfl)
theorem dX3_exchange_2 : decode cX3_exchange 2 = .ok (.putfield 42, 3) := dk_181 0 42 (dk_at dksX3_exchange_0 2 rfl rfl)
theorem dX3_exchange_5 : decode cX3_exchange 5 = .ok (.aload_n 0, 1) := dk_42 (dk_at dksX3_exchange_0 5 rfl rfl)
theorem dX3_exchange_6 : decode cX3_exchange 6 = .ok (.iload_n 1, 1) := dk_27 (dk_at dksX3_exchange_0 6 rfl rfl)
theorem dX3_exchange_7 : decode cX3_exchange 7 = .ok (.invokevirtual 121, 3) := dk_182 0 121 (dk_at dksX3_exchange_0 7 rfl rfl)
theorem dX3_exchange_10 : decode cX3_exchange 10 = .ok (.ifCond .ne 11, 3) := dk_154 0 11 (dk_at dksX3_exchange_0 10 rfl rfl)
theorem dX3_exchange_13 : decode cX3_exchange 13 = .ok (.aload_n 0, 1) := dk_42 (dk_at dksX3_exchange_0 13 rfl rfl)
theorem dX3_exchange_14 : decode cX3_exchange 14 = .ok (.iload_n 2, 1) := dk_28 (dk_at dksX3_exchange_0 14 rfl rfl)
theorem dX3_exchange_15 : decode cX3_exchange 15 = .ok (.invokevirtual 121, 3) := dk_182 0 121 (dk_at dksX3_exchange_0 15 rfl rfl)
theorem dX3_exchange_18 : decode cX3_exchange 18 = .ok (.ifCond .eq 8, 3) := dk_153 0 8 (dk_at dksX3_exchange_0 18 rfl rfl)
theorem dX3_exchange_21 : decode cX3_exchange 21 = .ok (.aload_n 0, 1) := dk_42 (dk_at dksX3_exchange_0 21 rfl rfl)
theorem dX3_exchange_22 : decode cX3_exchange 22 = .ok (.invokevirtual 92, 3) := dk_182 0 92 (dk_at dksX3_exchange_1 0 rfl rfl)
theorem dX3_exchange_25 : decode cX3_exchange 25 = .ok (.ireturn, 1) := dk_172 (dk_at dksX3_exchange_1 3 rfl rfl)
theorem dX3_exchange_26 : decode cX3_exchange 26 = .ok (.aload_n 0, 1) := dk_42 (dk_at dksX3_exchange_1 4 rfl rfl)
theorem dX3_exchange_27 : decode cX3_exchange 27 = .ok (.invokevirtual 96, 3) := dk_182 0 96 (dk_at dksX3_exchange_1 5 rfl rfl)
theorem dX3_exchange_30 : decode cX3_exchange 30 = .ok (.aload_n 0, 1) := dk_42 (dk_at dksX3_exchange_1 8 rfl rfl)
theorem dX3_exchange_31 : decode cX3_exchange 31 = .ok (.getfield 16, 3) := dk_180 0 16 (dk_at dksX3_exchange_1 9 rfl rfl)
theorem dX3_exchange_34 : decode cX3_exchange 34 = .ok (.bipush 12, 2) := dk_16 12 (dk_at dksX3_exchange_1 12 rfl rfl)
theorem dX3_exchange_36 : decode cX3_exchange 36 = .ok (.iload_n 1, 1) := dk_27 (dk_at dksX3_exchange_1 14 rfl rfl)
theorem dX3_exchange_37 : decode cX3_exchange 37 = .ok (.iadd, 1) := dk_96 (dk_at dksX3_exchange_1 15 rfl rfl)
theorem dX3_exchange_38 : decode cX3_exchange 38 = .ok (.iaload, 1) := dk_46 (dk_at dksX3_exchange_1 16 rfl rfl)
theorem dX3_exchange_39 : decode cX3_exchange 39 = .ok (.istore_n 3, 1) := dk_62 (dk_at dksX3_exchange_1 17 rfl rfl)
theorem dX3_exchange_40 : decode cX3_exchange 40 = .ok (.aload_n 0, 1) := dk_42 (dk_at dksX3_exchange_1 18 rfl rfl)
theorem dX3_exchange_41 : decode cX3_exchange 41 = .ok (.getfield 16, 3) := dk_180 0 16 (dk_at dksX3_exchange_1 19 rfl rfl)
theorem dX3_exchange_44 : decode cX3_exchange 44 = .ok (.bipush 12, 2) := dk_16 12 (dk_at dksX3_exchange_1 22 rfl rfl)
theorem dX3_exchange_46 : decode cX3_exchange 46 = .ok (.iload_n 1, 1) := dk_27 (dk_at dksX3_exchange_2 0 rfl rfl)
theorem dX3_exchange_47 : decode cX3_exchange 47 = .ok (.iadd, 1) := dk_96 (dk_at dksX3_exchange_2 1 rfl rfl)
theorem dX3_exchange_48 : decode cX3_exchange 48 = .ok (.aload_n 0, 1) := dk_42 (dk_at dksX3_exchange_2 2 rfl rfl)
theorem dX3_exchange_49 : decode cX3_exchange 49 = .ok (.getfield 16, 3) := dk_180 0 16 (dk_at dksX3_exchange_2 3 rfl rfl)
theorem dX3_exchange_52 : decode cX3_exchange 52 = .ok (.bipush 12, 2) := dk_16 12 (dk_at dksX3_exchange_2 6 rfl rfl)
theorem dX3_exchange_54 : decode cX3_exchange 54 = .ok (.iload_n 2, 1) := dk_28 (dk_at dksX3_exchange_2 8 rfl rfl)
theorem dX3_exchange_55 : decode cX3_exchange 55 = .ok (.iadd, 1) := dk_96 (dk_at dksX3_exchange_2 9 rfl rfl)
theorem dX3_exchange_56 : decode cX3_exchange 56 = .ok (.iaload, 1) := dk_46 (dk_at dksX3_exchange_2 10 rfl rfl)
theorem dX3_exchange_57 : decode cX3_exchange 57 = .ok (.iastore, 1) := dk_79 (dk_at dksX3_exchange_2 11 rfl rfl)
theorem dX3_exchange_58 : decode cX3_exchange 58 = .ok (.aload_n 0, 1) := dk_42 (dk_at dksX3_exchange_2 12 rfl rfl)
theorem dX3_exchange_59 : decode cX3_exchange 59 = .ok (.getfield 16, 3) := dk_180 0 16 (dk_at dksX3_exchange_2 13 rfl rfl)
theorem dX3_exchange_62 : decode cX3_exchange 62 = .ok (.bipush 12, 2) := dk_16 12 (dk_at dksX3_exchange_2 16 rfl rfl)
theorem dX3_exchange_64 : decode cX3_exchange 64 = .ok (.iload_n 2, 1) := dk_28 (dk_at dksX3_exchange_2 18 rfl rfl)
theorem dX3_exchange_65 : decode cX3_exchange 65 = .ok (.iadd, 1) := dk_96 (dk_at dksX3_exchange_2 19 rfl rfl)
theorem dX3_exchange_66 : decode cX3_exchange 66 = .ok (.iload_n 3, 1) := dk_29 (dk_at dksX3_exchange_2 20 rfl rfl)
theorem dX3_exchange_67 : decode cX3_exchange 67 = .ok (.iastore, 1) := dk_79 (dk_at dksX3_exchange_2 21 rfl rfl)
theorem dX3_exchange_68 : decode cX3_exchange 68 = .ok (.aload_n 0, 1) := dk_42 (dk_at dksX3_exchange_2 22 rfl rfl)
theorem dX3_exchange_69 : decode cX3_exchange 69 = .ok (.getfield 16, 3) := dk_180 0 16 (dk_at dksX3_exchange_3 0 rfl rfl)
theorem dX3_exchange_72 : decode cX3_exchange 72 = .ok (.bipush 12, 2) := dk_16 12 (dk_at dksX3_exchange_3 3 rfl rfl)
theorem dX3_exchange_74 : decode cX3_exchange 74 = .ok (.iload_n 1, 1) := dk_27 (dk_at dksX3_exchange_3 5 rfl rfl)
theorem dX3_exchange_75 : decode cX3_exchange 75 = .ok (.iadd, 1) := dk_96 (dk_at dksX3_exchange_3 6 rfl rfl)
theorem dX3_exchange_76 : decode cX3_exchange 76 = .ok (.iaload, 1) := dk_46 (dk_at dksX3_exchange_3 7 rfl rfl)
theorem dX3_exchange_77 : decode cX3_exchange 77 = .ok (.ireturn, 1) := dk_172 (dk_at dksX3_exchange_3 8 rfl rfl)
abbrev cX3_notPlace : ByteArray := prog_9_method_29_code
def yX3_notPlace : MethodName := ⟨RX3, "notPlace", "(I)I"⟩
def dkwX3_notPlace_1 : List UInt8 := [182, 0, 85, 172]
abbrev dktX3_notPlace_1 : List UInt8 := dkwX3_notPlace_1 ++ []
def dkwX3_notPlace_0 : List UInt8 := [27, 3, 42, 180, 0, 16, 6, 46, 4, 100, 184, 0, 77, 153, 0, 7, 3, 167, 0, 10, 42, 16, 17, 27]
abbrev dktX3_notPlace_0 : List UInt8 := dkwX3_notPlace_0 ++ dktX3_notPlace_1
theorem dksX3_notPlace_0 : cX3_notPlace.data.toList.drop 0 = dktX3_notPlace_0 := by decide +kernel
theorem dksX3_notPlace_1 : cX3_notPlace.data.toList.drop 24 = dktX3_notPlace_1 := dk_seg dksX3_notPlace_0 24 rfl rfl
theorem dX3_notPlace_0 : decode cX3_notPlace 0 = .ok (.iload_n 1, 1) := dk_27 (dk_at dksX3_notPlace_0 0 rfl rfl)
theorem dX3_notPlace_1 : decode cX3_notPlace 1 = .ok (.iconst 0, 1) := dk_3 (dk_at dksX3_notPlace_0 1 rfl rfl)
theorem dX3_notPlace_2 : decode cX3_notPlace 2 = .ok (.aload_n 0, 1) := dk_42 (dk_at dksX3_notPlace_0 2 rfl rfl)
theorem dX3_notPlace_3 : decode cX3_notPlace 3 = .ok (.getfield 16, 3) := dk_180 0 16 (dk_at dksX3_notPlace_0 3 rfl rfl)
theorem dX3_notPlace_6 : decode cX3_notPlace 6 = .ok (.iconst 3, 1) := dk_6 (dk_at dksX3_notPlace_0 6 rfl rfl)
theorem dX3_notPlace_7 : decode cX3_notPlace 7 = .ok (.iaload, 1) := dk_46 (dk_at dksX3_notPlace_0 7 rfl rfl)
theorem dX3_notPlace_8 : decode cX3_notPlace 8 = .ok (.iconst 1, 1) := dk_4 (dk_at dksX3_notPlace_0 8 rfl rfl)
theorem dX3_notPlace_9 : decode cX3_notPlace 9 = .ok (.isub, 1) := dk_100 (dk_at dksX3_notPlace_0 9 rfl rfl)
theorem dX3_notPlace_10 : decode cX3_notPlace 10 = .ok (.invokestatic 77, 3) := dk_184 0 77 (dk_at dksX3_notPlace_0 10 rfl rfl)
theorem dX3_notPlace_13 : decode cX3_notPlace 13 = .ok (.ifCond .eq 7, 3) := dk_153 0 7 (dk_at dksX3_notPlace_0 13 rfl rfl)
theorem dX3_notPlace_16 : decode cX3_notPlace 16 = .ok (.iconst 0, 1) := dk_3 (dk_at dksX3_notPlace_0 16 rfl rfl)
theorem dX3_notPlace_17 : decode cX3_notPlace 17 = .ok (.goto 10, 3) := dk_167 0 10 (dk_at dksX3_notPlace_0 17 rfl rfl)
theorem dX3_notPlace_20 : decode cX3_notPlace 20 = .ok (.aload_n 0, 1) := dk_42 (dk_at dksX3_notPlace_0 20 rfl rfl)
theorem dX3_notPlace_21 : decode cX3_notPlace 21 = .ok (.bipush 17, 2) := dk_16 17 (dk_at dksX3_notPlace_0 21 rfl rfl)
theorem dX3_notPlace_23 : decode cX3_notPlace 23 = .ok (.iload_n 1, 1) := dk_27 (dk_at dksX3_notPlace_0 23 rfl rfl)
theorem dX3_notPlace_24 : decode cX3_notPlace 24 = .ok (.invokevirtual 85, 3) := dk_182 0 85 (dk_at dksX3_notPlace_1 0 rfl rfl)
theorem dX3_notPlace_27 : decode cX3_notPlace 27 = .ok (.ireturn, 1) := dk_172 (dk_at dksX3_notPlace_1 3 rfl rfl)
abbrev cX3_sort : ByteArray := prog_9_method_31_code
def yX3_sort : MethodName := ⟨RX3, "sort", "()I"⟩
def dkwX3_sort_5 : List UInt8 := [132, 1, 1, 167, 255, 168, 42, 180, 0, 16, 16, 12, 46, 172]
abbrev dktX3_sort_5 : List UInt8 := dkwX3_sort_5 ++ []
def dkwX3_sort_4 : List UInt8 := [16, 12, 29, 96, 4, 100, 46, 79, 132, 3, 255, 167, 255, 206, 42, 180, 0, 16, 16, 12, 29, 96, 28, 79]
abbrev dktX3_sort_4 : List UInt8 := dkwX3_sort_4 ++ dktX3_sort_5
def dkwX3_sort_3 : List UInt8 := [182, 0, 124, 42, 28, 182, 0, 124, 164, 0, 29, 42, 180, 0, 16, 16, 12, 29, 96, 42, 180, 0, 16]
abbrev dktX3_sort_3 : List UInt8 := dkwX3_sort_3 ++ dktX3_sort_4
def dkwX3_sort_2 : List UInt8 := [16, 12, 27, 96, 46, 61, 27, 62, 29, 158, 0, 52, 42, 42, 180, 0, 16, 16, 12, 29, 96, 4, 100, 46]
abbrev dktX3_sort_2 : List UInt8 := dkwX3_sort_2 ++ dktX3_sort_3
def dkwX3_sort_1 : List UInt8 := [182, 0, 92, 172, 42, 182, 0, 96, 4, 60, 27, 42, 180, 0, 16, 6, 46, 162, 0, 84, 42, 180, 0, 16]
abbrev dktX3_sort_1 : List UInt8 := dkwX3_sort_1 ++ dktX3_sort_2
def dkwX3_sort_0 : List UInt8 := [42, 3, 181, 0, 42, 42, 180, 0, 16, 6, 46, 154, 0, 16, 42, 16, 7, 3, 182, 0, 85, 87, 42]
abbrev dktX3_sort_0 : List UInt8 := dkwX3_sort_0 ++ dktX3_sort_1
theorem dksX3_sort_0 : cX3_sort.data.toList.drop 0 = dktX3_sort_0 := by decide +kernel
theorem dksX3_sort_1 : cX3_sort.data.toList.drop 23 = dktX3_sort_1 := dk_seg dksX3_sort_0 23 rfl rfl
theorem dksX3_sort_2 : cX3_sort.data.toList.drop 47 = dktX3_sort_2 := dk_seg dksX3_sort_1 24 rfl rfl
theorem dksX3_sort_3 : cX3_sort.data.toList.drop 71 = dktX3_sort_3 := dk_seg dksX3_sort_2 24 rfl rfl
theorem dksX3_sort_4 : cX3_sort.data.toList.drop 94 = dktX3_sort_4 := dk_seg dksX3_sort_3 23 rfl rfl
theorem dksX3_sort_5 : cX3_sort.data.toList.drop 118 = dktX3_sort_5 := dk_seg dksX3_sort_4 24 rfl rfl
theorem dX3_sort_0 : decode cX3_sort 0 = .ok (.aload_n 0, 1) := dk_42 (dk_at dksX3_sort_0 0 rfl rfl)
theorem dX3_sort_1 : decode cX3_sort 1 = .ok (.iconst 0, 1) := dk_3 (dk_at dksX3_sort_0 1 rfl rfl)
theorem dX3_sort_2 : decode cX3_sort 2 = .ok (.putfield 42, 3) := dk_181 0 42 (dk_at dksX3_sort_0 2 rfl rfl)
theorem dX3_sort_5 : decode cX3_sort 5 = .ok (.aload_n 0, 1) := dk_42 (dk_at dksX3_sort_0 5 rfl rfl)
theorem dX3_sort_6 : decode cX3_sort 6 = .ok (.getfield 16, 3) := dk_180 0 16 (dk_at dksX3_sort_0 6 rfl rfl)
theorem dX3_sort_9 : decode cX3_sort 9 = .ok (.iconst 3, 1) := dk_6 (dk_at dksX3_sort_0 9 rfl rfl)
theorem dX3_sort_10 : decode cX3_sort 10 = .ok (.iaload, 1) := dk_46 (dk_at dksX3_sort_0 10 rfl rfl)
theorem dX3_sort_11 : decode cX3_sort 11 = .ok (.ifCond .ne 16, 3) := dk_154 0 16 (dk_at dksX3_sort_0 11 rfl rfl)
theorem dX3_sort_14 : decode cX3_sort 14 = .ok (.aload_n 0, 1) := dk_42 (dk_at dksX3_sort_0 14 rfl rfl)
theorem dX3_sort_15 : decode cX3_sort 15 = .ok (.bipush 7, 2) := dk_16 7 (dk_at dksX3_sort_0 15 rfl rfl)
theorem dX3_sort_17 : decode cX3_sort 17 = .ok (.iconst 0, 1) := dk_3 (dk_at dksX3_sort_0 17 rfl rfl)
theorem dX3_sort_18 : decode cX3_sort 18 = .ok (.invokevirtual 85, 3) := dk_182 0 85 (dk_at dksX3_sort_0 18 rfl rfl)
theorem dX3_sort_21 : decode cX3_sort 21 = .ok (.pop, 1) := dk_87 (dk_at dksX3_sort_0 21 rfl rfl)
theorem dX3_sort_22 : decode cX3_sort 22 = .ok (.aload_n 0, 1) := dk_42 (dk_at dksX3_sort_0 22 rfl rfl)
theorem dX3_sort_23 : decode cX3_sort 23 = .ok (.invokevirtual 92, 3) := dk_182 0 92 (dk_at dksX3_sort_1 0 rfl rfl)
theorem dX3_sort_26 : decode cX3_sort 26 = .ok (.ireturn, 1) := dk_172 (dk_at dksX3_sort_1 3 rfl rfl)
theorem dX3_sort_27 : decode cX3_sort 27 = .ok (.aload_n 0, 1) := dk_42 (dk_at dksX3_sort_1 4 rfl rfl)
theorem dX3_sort_28 : decode cX3_sort 28 = .ok (.invokevirtual 96, 3) := dk_182 0 96 (dk_at dksX3_sort_1 5 rfl rfl)
theorem dX3_sort_31 : decode cX3_sort 31 = .ok (.iconst 1, 1) := dk_4 (dk_at dksX3_sort_1 8 rfl rfl)
theorem dX3_sort_32 : decode cX3_sort 32 = .ok (.istore_n 1, 1) := dk_60 (dk_at dksX3_sort_1 9 rfl rfl)
theorem dX3_sort_33 : decode cX3_sort 33 = .ok (.iload_n 1, 1) := dk_27 (dk_at dksX3_sort_1 10 rfl rfl)
theorem dX3_sort_34 : decode cX3_sort 34 = .ok (.aload_n 0, 1) := dk_42 (dk_at dksX3_sort_1 11 rfl rfl)
theorem dX3_sort_35 : decode cX3_sort 35 = .ok (.getfield 16, 3) := dk_180 0 16 (dk_at dksX3_sort_1 12 rfl rfl)
theorem dX3_sort_38 : decode cX3_sort 38 = .ok (.iconst 3, 1) := dk_6 (dk_at dksX3_sort_1 15 rfl rfl)
theorem dX3_sort_39 : decode cX3_sort 39 = .ok (.iaload, 1) := dk_46 (dk_at dksX3_sort_1 16 rfl rfl)
theorem dX3_sort_40 : decode cX3_sort 40 = .ok (.if_icmp .ge 84, 3) := dk_162 0 84 (dk_at dksX3_sort_1 17 rfl rfl)
theorem dX3_sort_43 : decode cX3_sort 43 = .ok (.aload_n 0, 1) := dk_42 (dk_at dksX3_sort_1 20 rfl rfl)
theorem dX3_sort_44 : decode cX3_sort 44 = .ok (.getfield 16, 3) := dk_180 0 16 (dk_at dksX3_sort_1 21 rfl rfl)
theorem dX3_sort_47 : decode cX3_sort 47 = .ok (.bipush 12, 2) := dk_16 12 (dk_at dksX3_sort_2 0 rfl rfl)
theorem dX3_sort_49 : decode cX3_sort 49 = .ok (.iload_n 1, 1) := dk_27 (dk_at dksX3_sort_2 2 rfl rfl)
theorem dX3_sort_50 : decode cX3_sort 50 = .ok (.iadd, 1) := dk_96 (dk_at dksX3_sort_2 3 rfl rfl)
theorem dX3_sort_51 : decode cX3_sort 51 = .ok (.iaload, 1) := dk_46 (dk_at dksX3_sort_2 4 rfl rfl)
theorem dX3_sort_52 : decode cX3_sort 52 = .ok (.istore_n 2, 1) := dk_61 (dk_at dksX3_sort_2 5 rfl rfl)
theorem dX3_sort_53 : decode cX3_sort 53 = .ok (.iload_n 1, 1) := dk_27 (dk_at dksX3_sort_2 6 rfl rfl)
theorem dX3_sort_54 : decode cX3_sort 54 = .ok (.istore_n 3, 1) := dk_62 (dk_at dksX3_sort_2 7 rfl rfl)
theorem dX3_sort_55 : decode cX3_sort 55 = .ok (.iload_n 3, 1) := dk_29 (dk_at dksX3_sort_2 8 rfl rfl)
theorem dX3_sort_56 : decode cX3_sort 56 = .ok (.ifCond .le 52, 3) := dk_158 0 52 (dk_at dksX3_sort_2 9 rfl rfl)
theorem dX3_sort_59 : decode cX3_sort 59 = .ok (.aload_n 0, 1) := dk_42 (dk_at dksX3_sort_2 12 rfl rfl)
theorem dX3_sort_60 : decode cX3_sort 60 = .ok (.aload_n 0, 1) := dk_42 (dk_at dksX3_sort_2 13 rfl rfl)
theorem dX3_sort_61 : decode cX3_sort 61 = .ok (.getfield 16, 3) := dk_180 0 16 (dk_at dksX3_sort_2 14 rfl rfl)
theorem dX3_sort_64 : decode cX3_sort 64 = .ok (.bipush 12, 2) := dk_16 12 (dk_at dksX3_sort_2 17 rfl rfl)
theorem dX3_sort_66 : decode cX3_sort 66 = .ok (.iload_n 3, 1) := dk_29 (dk_at dksX3_sort_2 19 rfl rfl)
theorem dX3_sort_67 : decode cX3_sort 67 = .ok (.iadd, 1) := dk_96 (dk_at dksX3_sort_2 20 rfl rfl)
theorem dX3_sort_68 : decode cX3_sort 68 = .ok (.iconst 1, 1) := dk_4 (dk_at dksX3_sort_2 21 rfl rfl)
theorem dX3_sort_69 : decode cX3_sort 69 = .ok (.isub, 1) := dk_100 (dk_at dksX3_sort_2 22 rfl rfl)
theorem dX3_sort_70 : decode cX3_sort 70 = .ok (.iaload, 1) := dk_46 (dk_at dksX3_sort_2 23 rfl rfl)
theorem dX3_sort_71 : decode cX3_sort 71 = .ok (.invokevirtual 124, 3) := dk_182 0 124 (dk_at dksX3_sort_3 0 rfl rfl)
theorem dX3_sort_74 : decode cX3_sort 74 = .ok (.aload_n 0, 1) := dk_42 (dk_at dksX3_sort_3 3 rfl rfl)
theorem dX3_sort_75 : decode cX3_sort 75 = .ok (.iload_n 2, 1) := dk_28 (dk_at dksX3_sort_3 4 rfl rfl)
theorem dX3_sort_76 : decode cX3_sort 76 = .ok (.invokevirtual 124, 3) := dk_182 0 124 (dk_at dksX3_sort_3 5 rfl rfl)
theorem dX3_sort_79 : decode cX3_sort 79 = .ok (.if_icmp .le 29, 3) := dk_164 0 29 (dk_at dksX3_sort_3 8 rfl rfl)
theorem dX3_sort_82 : decode cX3_sort 82 = .ok (.aload_n 0, 1) := dk_42 (dk_at dksX3_sort_3 11 rfl rfl)
theorem dX3_sort_83 : decode cX3_sort 83 = .ok (.getfield 16, 3) := dk_180 0 16 (dk_at dksX3_sort_3 12 rfl rfl)
theorem dX3_sort_86 : decode cX3_sort 86 = .ok (.bipush 12, 2) := dk_16 12 (dk_at dksX3_sort_3 15 rfl rfl)
theorem dX3_sort_88 : decode cX3_sort 88 = .ok (.iload_n 3, 1) := dk_29 (dk_at dksX3_sort_3 17 rfl rfl)
theorem dX3_sort_89 : decode cX3_sort 89 = .ok (.iadd, 1) := dk_96 (dk_at dksX3_sort_3 18 rfl rfl)
theorem dX3_sort_90 : decode cX3_sort 90 = .ok (.aload_n 0, 1) := dk_42 (dk_at dksX3_sort_3 19 rfl rfl)
theorem dX3_sort_91 : decode cX3_sort 91 = .ok (.getfield 16, 3) := dk_180 0 16 (dk_at dksX3_sort_3 20 rfl rfl)
theorem dX3_sort_94 : decode cX3_sort 94 = .ok (.bipush 12, 2) := dk_16 12 (dk_at dksX3_sort_4 0 rfl rfl)
theorem dX3_sort_96 : decode cX3_sort 96 = .ok (.iload_n 3, 1) := dk_29 (dk_at dksX3_sort_4 2 rfl rfl)
theorem dX3_sort_97 : decode cX3_sort 97 = .ok (.iadd, 1) := dk_96 (dk_at dksX3_sort_4 3 rfl rfl)
theorem dX3_sort_98 : decode cX3_sort 98 = .ok (.iconst 1, 1) := dk_4 (dk_at dksX3_sort_4 4 rfl rfl)
theorem dX3_sort_99 : decode cX3_sort 99 = .ok (.isub, 1) := dk_100 (dk_at dksX3_sort_4 5 rfl rfl)
theorem dX3_sort_100 : decode cX3_sort 100 = .ok (.iaload, 1) := dk_46 (dk_at dksX3_sort_4 6 rfl rfl)
theorem dX3_sort_101 : decode cX3_sort 101 = .ok (.iastore, 1) := dk_79 (dk_at dksX3_sort_4 7 rfl rfl)
theorem dX3_sort_102 : decode cX3_sort 102 = .ok (.iinc 3 (-1), 3) := dk_132 3 255 (dk_at dksX3_sort_4 8 rfl rfl)
theorem dX3_sort_105 : decode cX3_sort 105 = .ok (.goto (-50), 3) := dk_167 255 206 (dk_at dksX3_sort_4 11 rfl rfl)
theorem dX3_sort_108 : decode cX3_sort 108 = .ok (.aload_n 0, 1) := dk_42 (dk_at dksX3_sort_4 14 rfl rfl)
theorem dX3_sort_109 : decode cX3_sort 109 = .ok (.getfield 16, 3) := dk_180 0 16 (dk_at dksX3_sort_4 15 rfl rfl)
theorem dX3_sort_112 : decode cX3_sort 112 = .ok (.bipush 12, 2) := dk_16 12 (dk_at dksX3_sort_4 18 rfl rfl)
theorem dX3_sort_114 : decode cX3_sort 114 = .ok (.iload_n 3, 1) := dk_29 (dk_at dksX3_sort_4 20 rfl rfl)
theorem dX3_sort_115 : decode cX3_sort 115 = .ok (.iadd, 1) := dk_96 (dk_at dksX3_sort_4 21 rfl rfl)
theorem dX3_sort_116 : decode cX3_sort 116 = .ok (.iload_n 2, 1) := dk_28 (dk_at dksX3_sort_4 22 rfl rfl)
theorem dX3_sort_117 : decode cX3_sort 117 = .ok (.iastore, 1) := dk_79 (dk_at dksX3_sort_4 23 rfl rfl)
theorem dX3_sort_118 : decode cX3_sort 118 = .ok (.iinc 1 1, 3) := dk_132 1 1 (dk_at dksX3_sort_5 0 rfl rfl)
theorem dX3_sort_121 : decode cX3_sort 121 = .ok (.goto (-88), 3) := dk_167 255 168 (dk_at dksX3_sort_5 3 rfl rfl)
theorem dX3_sort_124 : decode cX3_sort 124 = .ok (.aload_n 0, 1) := dk_42 (dk_at dksX3_sort_5 6 rfl rfl)
theorem dX3_sort_125 : decode cX3_sort 125 = .ok (.getfield 16, 3) := dk_180 0 16 (dk_at dksX3_sort_5 7 rfl rfl)
theorem dX3_sort_128 : decode cX3_sort 128 = .ok (.bipush 12, 2) := dk_16 12 (dk_at dksX3_sort_5 10 rfl rfl)
theorem dX3_sort_130 : decode cX3_sort 130 = .ok (.iaload, 1) := dk_46 (dk_at dksX3_sort_5 12 rfl rfl)
theorem dX3_sort_131 : decode cX3_sort 131 = .ok (.ireturn, 1) := dk_172 (dk_at dksX3_sort_5 13 rfl rfl)
abbrev cX3_lumpsOf : ByteArray := prog_9_method_46_code
def yX3_lumpsOf : MethodName := ⟨RX3, "lumpsOf", "(I)I"⟩
def dkwX3_lumpsOf_1 : List UInt8 := [3, 96, 172]
abbrev dktX3_lumpsOf_1 : List UInt8 := dkwX3_lumpsOf_1 ++ []
def dkwX3_lumpsOf_0 : List UInt8 := [42, 27, 4, 182, 0, 155, 5, 96, 6, 108, 42, 27, 3, 182, 0, 155, 6, 162, 0, 7, 4, 167, 0, 4]
abbrev dktX3_lumpsOf_0 : List UInt8 := dkwX3_lumpsOf_0 ++ dktX3_lumpsOf_1
theorem dksX3_lumpsOf_0 : cX3_lumpsOf.data.toList.drop 0 = dktX3_lumpsOf_0 := by decide +kernel
theorem dksX3_lumpsOf_1 : cX3_lumpsOf.data.toList.drop 24 = dktX3_lumpsOf_1 := dk_seg dksX3_lumpsOf_0 24 rfl rfl
theorem dX3_lumpsOf_0 : decode cX3_lumpsOf 0 = .ok (.aload_n 0, 1) := dk_42 (dk_at dksX3_lumpsOf_0 0 rfl rfl)
theorem dX3_lumpsOf_1 : decode cX3_lumpsOf 1 = .ok (.iload_n 1, 1) := dk_27 (dk_at dksX3_lumpsOf_0 1 rfl rfl)
theorem dX3_lumpsOf_2 : decode cX3_lumpsOf 2 = .ok (.iconst 1, 1) := dk_4 (dk_at dksX3_lumpsOf_0 2 rfl rfl)
theorem dX3_lumpsOf_3 : decode cX3_lumpsOf 3 = .ok (.invokevirtual 155, 3) := dk_182 0 155 (dk_at dksX3_lumpsOf_0 3 rfl rfl)
theorem dX3_lumpsOf_6 : decode cX3_lumpsOf 6 = .ok (.iconst 2, 1) := dk_5 (dk_at dksX3_lumpsOf_0 6 rfl rfl)
theorem dX3_lumpsOf_7 : decode cX3_lumpsOf 7 = .ok (.iadd, 1) := dk_96 (dk_at dksX3_lumpsOf_0 7 rfl rfl)
theorem dX3_lumpsOf_8 : decode cX3_lumpsOf 8 = .ok (.iconst 3, 1) := dk_6 (dk_at dksX3_lumpsOf_0 8 rfl rfl)
theorem dX3_lumpsOf_9 : decode cX3_lumpsOf 9 = .ok (.idiv, 1) := dk_108 (dk_at dksX3_lumpsOf_0 9 rfl rfl)
theorem dX3_lumpsOf_10 : decode cX3_lumpsOf 10 = .ok (.aload_n 0, 1) := dk_42 (dk_at dksX3_lumpsOf_0 10 rfl rfl)
theorem dX3_lumpsOf_11 : decode cX3_lumpsOf 11 = .ok (.iload_n 1, 1) := dk_27 (dk_at dksX3_lumpsOf_0 11 rfl rfl)
theorem dX3_lumpsOf_12 : decode cX3_lumpsOf 12 = .ok (.iconst 0, 1) := dk_3 (dk_at dksX3_lumpsOf_0 12 rfl rfl)
theorem dX3_lumpsOf_13 : decode cX3_lumpsOf 13 = .ok (.invokevirtual 155, 3) := dk_182 0 155 (dk_at dksX3_lumpsOf_0 13 rfl rfl)
theorem dX3_lumpsOf_16 : decode cX3_lumpsOf 16 = .ok (.iconst 3, 1) := dk_6 (dk_at dksX3_lumpsOf_0 16 rfl rfl)
theorem dX3_lumpsOf_17 : decode cX3_lumpsOf 17 = .ok (.if_icmp .ge 7, 3) := dk_162 0 7 (dk_at dksX3_lumpsOf_0 17 rfl rfl)
theorem dX3_lumpsOf_20 : decode cX3_lumpsOf 20 = .ok (.iconst 1, 1) := dk_4 (dk_at dksX3_lumpsOf_0 20 rfl rfl)
theorem dX3_lumpsOf_21 : decode cX3_lumpsOf 21 = .ok (.goto 4, 3) := dk_167 0 4 (dk_at dksX3_lumpsOf_0 21 rfl rfl)
theorem dX3_lumpsOf_24 : decode cX3_lumpsOf 24 = .ok (.iconst 0, 1) := dk_3 (dk_at dksX3_lumpsOf_1 0 rfl rfl)
theorem dX3_lumpsOf_25 : decode cX3_lumpsOf 25 = .ok (.iadd, 1) := dk_96 (dk_at dksX3_lumpsOf_1 1 rfl rfl)
theorem dX3_lumpsOf_26 : decode cX3_lumpsOf 26 = .ok (.ireturn, 1) := dk_172 (dk_at dksX3_lumpsOf_1 2 rfl rfl)
abbrev cX3_of : ByteArray := prog_9_method_12_code
def yX3_of : MethodName := ⟨RX3, "of", "(II)I"⟩
def dkwX3_of_0 : List UInt8 := [42, 180, 0, 16, 16, 49, 8, 27, 104, 96, 28, 96, 46, 172]
abbrev dktX3_of_0 : List UInt8 := dkwX3_of_0 ++ []
theorem dksX3_of_0 : cX3_of.data.toList.drop 0 = dktX3_of_0 := by decide +kernel
theorem dX3_of_0 : decode cX3_of 0 = .ok (.aload_n 0, 1) := dk_42 (dk_at dksX3_of_0 0 rfl rfl)
theorem dX3_of_1 : decode cX3_of 1 = .ok (.getfield 16, 3) := dk_180 0 16 (dk_at dksX3_of_0 1 rfl rfl)
theorem dX3_of_4 : decode cX3_of 4 = .ok (.bipush 49, 2) := dk_16 49 (dk_at dksX3_of_0 4 rfl rfl)
theorem dX3_of_6 : decode cX3_of 6 = .ok (.iconst 5, 1) := dk_8 (dk_at dksX3_of_0 6 rfl rfl)
theorem dX3_of_7 : decode cX3_of 7 = .ok (.iload_n 1, 1) := dk_27 (dk_at dksX3_of_0 7 rfl rfl)
theorem dX3_of_8 : decode cX3_of 8 = .ok (.imul, 1) := dk_104 (dk_at dksX3_of_0 8 rfl rfl)
theorem dX3_of_9 : decode cX3_of 9 = .ok (.iadd, 1) := dk_96 (dk_at dksX3_of_0 9 rfl rfl)
theorem dX3_of_10 : decode cX3_of 10 = .ok (.iload_n 2, 1) := dk_28 (dk_at dksX3_of_0 10 rfl rfl)
theorem dX3_of_11 : decode cX3_of 11 = .ok (.iadd, 1) := dk_96 (dk_at dksX3_of_0 11 rfl rfl)
theorem dX3_of_12 : decode cX3_of 12 = .ok (.iaload, 1) := dk_46 (dk_at dksX3_of_0 12 rfl rfl)
theorem dX3_of_13 : decode cX3_of 13 = .ok (.ireturn, 1) := dk_172 (dk_at dksX3_of_0 13 rfl rfl)
abbrev cX3_lump : ByteArray := prog_9_method_34_code
def yX3_lump : MethodName := ⟨RX3, "lump", "(I)I"⟩
def dkwX3_lump_1 : List UInt8 := [182, 0, 130, 172]
abbrev dktX3_lump_1 : List UInt8 := dkwX3_lump_1 ++ []
def dkwX3_lump_0 : List UInt8 := [42, 3, 181, 0, 42, 42, 27, 182, 0, 127, 153, 0, 8, 42, 182, 0, 92, 172, 42, 182, 0, 96, 42, 27]
abbrev dktX3_lump_0 : List UInt8 := dkwX3_lump_0 ++ dktX3_lump_1
theorem dksX3_lump_0 : cX3_lump.data.toList.drop 0 = dktX3_lump_0 := by decide +kernel
theorem dksX3_lump_1 : cX3_lump.data.toList.drop 24 = dktX3_lump_1 := dk_seg dksX3_lump_0 24 rfl rfl
theorem dX3_lump_0 : decode cX3_lump 0 = .ok (.aload_n 0, 1) := dk_42 (dk_at dksX3_lump_0 0 rfl rfl)
theorem dX3_lump_1 : decode cX3_lump 1 = .ok (.iconst 0, 1) := dk_3 (dk_at dksX3_lump_0 1 rfl rfl)
theorem dX3_lump_2 : decode cX3_lump 2 = .ok (.putfield 42, 3) := dk_181 0 42 (dk_at dksX3_lump_0 2 rfl rfl)
theorem dX3_lump_5 : decode cX3_lump 5 = .ok (.aload_n 0, 1) := dk_42 (dk_at dksX3_lump_0 5 rfl rfl)
theorem dX3_lump_6 : decode cX3_lump 6 = .ok (.iload_n 1, 1) := dk_27 (dk_at dksX3_lump_0 6 rfl rfl)
theorem dX3_lump_7 : decode cX3_lump 7 = .ok (.invokevirtual 127, 3) := dk_182 0 127 (dk_at dksX3_lump_0 7 rfl rfl)
theorem dX3_lump_10 : decode cX3_lump 10 = .ok (.ifCond .eq 8, 3) := dk_153 0 8 (dk_at dksX3_lump_0 10 rfl rfl)
theorem dX3_lump_13 : decode cX3_lump 13 = .ok (.aload_n 0, 1) := dk_42 (dk_at dksX3_lump_0 13 rfl rfl)
theorem dX3_lump_14 : decode cX3_lump 14 = .ok (.invokevirtual 92, 3) := dk_182 0 92 (dk_at dksX3_lump_0 14 rfl rfl)
theorem dX3_lump_17 : decode cX3_lump 17 = .ok (.ireturn, 1) := dk_172 (dk_at dksX3_lump_0 17 rfl rfl)
theorem dX3_lump_18 : decode cX3_lump 18 = .ok (.aload_n 0, 1) := dk_42 (dk_at dksX3_lump_0 18 rfl rfl)
theorem dX3_lump_19 : decode cX3_lump 19 = .ok (.invokevirtual 96, 3) := dk_182 0 96 (dk_at dksX3_lump_0 19 rfl rfl)
theorem dX3_lump_22 : decode cX3_lump 22 = .ok (.aload_n 0, 1) := dk_42 (dk_at dksX3_lump_0 22 rfl rfl)
theorem dX3_lump_23 : decode cX3_lump 23 = .ok (.iload_n 1, 1) := dk_27 (dk_at dksX3_lump_0 23 rfl rfl)
theorem dX3_lump_24 : decode cX3_lump 24 = .ok (.invokevirtual 130, 3) := dk_182 0 130 (dk_at dksX3_lump_1 0 rfl rfl)
theorem dX3_lump_27 : decode cX3_lump 27 = .ok (.ireturn, 1) := dk_172 (dk_at dksX3_lump_1 3 rfl rfl)
abbrev cX3_notLump : ByteArray := prog_9_method_32_code
def yX3_notLump : MethodName := ⟨RX3, "notLump", "(I)I"⟩
def dkwX3_notLump_1 : List UInt8 := [16, 20, 160, 0, 13, 42, 7, 16, 20, 182, 0, 85, 167, 0, 4, 3, 172]
abbrev dktX3_notLump_1 : List UInt8 := dkwX3_notLump_1 ++ []
def dkwX3_notLump_0 : List UInt8 := [27, 4, 16, 20, 184, 0, 77, 154, 0, 10, 42, 6, 27, 182, 0, 85, 172, 42, 180, 0, 16, 7, 46]
abbrev dktX3_notLump_0 : List UInt8 := dkwX3_notLump_0 ++ dktX3_notLump_1
theorem dksX3_notLump_0 : cX3_notLump.data.toList.drop 0 = dktX3_notLump_0 := by decide +kernel
theorem dksX3_notLump_1 : cX3_notLump.data.toList.drop 23 = dktX3_notLump_1 := dk_seg dksX3_notLump_0 23 rfl rfl
theorem dX3_notLump_0 : decode cX3_notLump 0 = .ok (.iload_n 1, 1) := dk_27 (dk_at dksX3_notLump_0 0 rfl rfl)
theorem dX3_notLump_1 : decode cX3_notLump 1 = .ok (.iconst 1, 1) := dk_4 (dk_at dksX3_notLump_0 1 rfl rfl)
theorem dX3_notLump_2 : decode cX3_notLump 2 = .ok (.bipush 20, 2) := dk_16 20 (dk_at dksX3_notLump_0 2 rfl rfl)
theorem dX3_notLump_4 : decode cX3_notLump 4 = .ok (.invokestatic 77, 3) := dk_184 0 77 (dk_at dksX3_notLump_0 4 rfl rfl)
theorem dX3_notLump_7 : decode cX3_notLump 7 = .ok (.ifCond .ne 10, 3) := dk_154 0 10 (dk_at dksX3_notLump_0 7 rfl rfl)
theorem dX3_notLump_10 : decode cX3_notLump 10 = .ok (.aload_n 0, 1) := dk_42 (dk_at dksX3_notLump_0 10 rfl rfl)
theorem dX3_notLump_11 : decode cX3_notLump 11 = .ok (.iconst 3, 1) := dk_6 (dk_at dksX3_notLump_0 11 rfl rfl)
theorem dX3_notLump_12 : decode cX3_notLump 12 = .ok (.iload_n 1, 1) := dk_27 (dk_at dksX3_notLump_0 12 rfl rfl)
theorem dX3_notLump_13 : decode cX3_notLump 13 = .ok (.invokevirtual 85, 3) := dk_182 0 85 (dk_at dksX3_notLump_0 13 rfl rfl)
theorem dX3_notLump_16 : decode cX3_notLump 16 = .ok (.ireturn, 1) := dk_172 (dk_at dksX3_notLump_0 16 rfl rfl)
theorem dX3_notLump_17 : decode cX3_notLump 17 = .ok (.aload_n 0, 1) := dk_42 (dk_at dksX3_notLump_0 17 rfl rfl)
theorem dX3_notLump_18 : decode cX3_notLump 18 = .ok (.getfield 16, 3) := dk_180 0 16 (dk_at dksX3_notLump_0 18 rfl rfl)
theorem dX3_notLump_21 : decode cX3_notLump 21 = .ok (.iconst 4, 1) := dk_7 (dk_at dksX3_notLump_0 21 rfl rfl)
theorem dX3_notLump_22 : decode cX3_notLump 22 = .ok (.iaload, 1) := dk_46 (dk_at dksX3_notLump_0 22 rfl rfl)
theorem dX3_notLump_23 : decode cX3_notLump 23 = .ok (.bipush 20, 2) := dk_16 20 (dk_at dksX3_notLump_1 0 rfl rfl)
theorem dX3_notLump_25 : decode cX3_notLump 25 = .ok (.if_icmp .ne 13, 3) := dk_160 0 13 (dk_at dksX3_notLump_1 2 rfl rfl)
theorem dX3_notLump_28 : decode cX3_notLump 28 = .ok (.aload_n 0, 1) := dk_42 (dk_at dksX3_notLump_1 5 rfl rfl)
theorem dX3_notLump_29 : decode cX3_notLump 29 = .ok (.iconst 4, 1) := dk_7 (dk_at dksX3_notLump_1 6 rfl rfl)
theorem dX3_notLump_30 : decode cX3_notLump 30 = .ok (.bipush 20, 2) := dk_16 20 (dk_at dksX3_notLump_1 7 rfl rfl)
theorem dX3_notLump_32 : decode cX3_notLump 32 = .ok (.invokevirtual 85, 3) := dk_182 0 85 (dk_at dksX3_notLump_1 9 rfl rfl)
theorem dX3_notLump_35 : decode cX3_notLump 35 = .ok (.goto 4, 3) := dk_167 0 4 (dk_at dksX3_notLump_1 12 rfl rfl)
theorem dX3_notLump_38 : decode cX3_notLump 38 = .ok (.iconst 0, 1) := dk_3 (dk_at dksX3_notLump_1 15 rfl rfl)
theorem dX3_notLump_39 : decode cX3_notLump 39 = .ok (.ireturn, 1) := dk_172 (dk_at dksX3_notLump_1 16 rfl rfl)
abbrev cX3_lumpComes : ByteArray := prog_9_method_33_code
def yX3_lumpComes : MethodName := ⟨RX3, "lumpComes", "(I)I"⟩
def dkwX3_lumpComes_1 : List UInt8 := [79, 42, 180, 0, 16, 8, 92, 46, 4, 96, 79, 42, 180, 0, 16, 7, 46, 172]
abbrev dktX3_lumpComes_1 : List UInt8 := dkwX3_lumpComes_1 ++ []
def dkwX3_lumpComes_0 : List UInt8 := [42, 180, 0, 16, 16, 22, 42, 180, 0, 16, 7, 46, 96, 27, 79, 42, 180, 0, 16, 7, 92, 46, 4, 96]
abbrev dktX3_lumpComes_0 : List UInt8 := dkwX3_lumpComes_0 ++ dktX3_lumpComes_1
theorem dksX3_lumpComes_0 : cX3_lumpComes.data.toList.drop 0 = dktX3_lumpComes_0 := by decide +kernel
theorem dksX3_lumpComes_1 : cX3_lumpComes.data.toList.drop 24 = dktX3_lumpComes_1 := dk_seg dksX3_lumpComes_0 24 rfl rfl
theorem dX3_lumpComes_0 : decode cX3_lumpComes 0 = .ok (.aload_n 0, 1) := dk_42 (dk_at dksX3_lumpComes_0 0 rfl rfl)
theorem dX3_lumpComes_1 : decode cX3_lumpComes 1 = .ok (.getfield 16, 3) := dk_180 0 16 (dk_at dksX3_lumpComes_0 1 rfl rfl)
theorem dX3_lumpComes_4 : decode cX3_lumpComes 4 = .ok (.bipush 22, 2) := dk_16 22 (dk_at dksX3_lumpComes_0 4 rfl rfl)
theorem dX3_lumpComes_6 : decode cX3_lumpComes 6 = .ok (.aload_n 0, 1) := dk_42 (dk_at dksX3_lumpComes_0 6 rfl rfl)
theorem dX3_lumpComes_7 : decode cX3_lumpComes 7 = .ok (.getfield 16, 3) := dk_180 0 16 (dk_at dksX3_lumpComes_0 7 rfl rfl)
theorem dX3_lumpComes_10 : decode cX3_lumpComes 10 = .ok (.iconst 4, 1) := dk_7 (dk_at dksX3_lumpComes_0 10 rfl rfl)
theorem dX3_lumpComes_11 : decode cX3_lumpComes 11 = .ok (.iaload, 1) := dk_46 (dk_at dksX3_lumpComes_0 11 rfl rfl)
theorem dX3_lumpComes_12 : decode cX3_lumpComes 12 = .ok (.iadd, 1) := dk_96 (dk_at dksX3_lumpComes_0 12 rfl rfl)
theorem dX3_lumpComes_13 : decode cX3_lumpComes 13 = .ok (.iload_n 1, 1) := dk_27 (dk_at dksX3_lumpComes_0 13 rfl rfl)
theorem dX3_lumpComes_14 : decode cX3_lumpComes 14 = .ok (.iastore, 1) := dk_79 (dk_at dksX3_lumpComes_0 14 rfl rfl)
theorem dX3_lumpComes_15 : decode cX3_lumpComes 15 = .ok (.aload_n 0, 1) := dk_42 (dk_at dksX3_lumpComes_0 15 rfl rfl)
theorem dX3_lumpComes_16 : decode cX3_lumpComes 16 = .ok (.getfield 16, 3) := dk_180 0 16 (dk_at dksX3_lumpComes_0 16 rfl rfl)
theorem dX3_lumpComes_19 : decode cX3_lumpComes 19 = .ok (.iconst 4, 1) := dk_7 (dk_at dksX3_lumpComes_0 19 rfl rfl)
theorem dX3_lumpComes_20 : decode cX3_lumpComes 20 = .ok (.dup2, 1) := dk_92 (dk_at dksX3_lumpComes_0 20 rfl rfl)
theorem dX3_lumpComes_21 : decode cX3_lumpComes 21 = .ok (.iaload, 1) := dk_46 (dk_at dksX3_lumpComes_0 21 rfl rfl)
theorem dX3_lumpComes_22 : decode cX3_lumpComes 22 = .ok (.iconst 1, 1) := dk_4 (dk_at dksX3_lumpComes_0 22 rfl rfl)
theorem dX3_lumpComes_23 : decode cX3_lumpComes 23 = .ok (.iadd, 1) := dk_96 (dk_at dksX3_lumpComes_0 23 rfl rfl)
theorem dX3_lumpComes_24 : decode cX3_lumpComes 24 = .ok (.iastore, 1) := dk_79 (dk_at dksX3_lumpComes_1 0 rfl rfl)
theorem dX3_lumpComes_25 : decode cX3_lumpComes 25 = .ok (.aload_n 0, 1) := dk_42 (dk_at dksX3_lumpComes_1 1 rfl rfl)
theorem dX3_lumpComes_26 : decode cX3_lumpComes 26 = .ok (.getfield 16, 3) := dk_180 0 16 (dk_at dksX3_lumpComes_1 2 rfl rfl)
theorem dX3_lumpComes_29 : decode cX3_lumpComes 29 = .ok (.iconst 5, 1) := dk_8 (dk_at dksX3_lumpComes_1 5 rfl rfl)
theorem dX3_lumpComes_30 : decode cX3_lumpComes 30 = .ok (.dup2, 1) := dk_92 (dk_at dksX3_lumpComes_1 6 rfl rfl)
theorem dX3_lumpComes_31 : decode cX3_lumpComes 31 = .ok (.iaload, 1) := dk_46 (dk_at dksX3_lumpComes_1 7 rfl rfl)
theorem dX3_lumpComes_32 : decode cX3_lumpComes 32 = .ok (.iconst 1, 1) := dk_4 (dk_at dksX3_lumpComes_1 8 rfl rfl)
theorem dX3_lumpComes_33 : decode cX3_lumpComes 33 = .ok (.iadd, 1) := dk_96 (dk_at dksX3_lumpComes_1 9 rfl rfl)
theorem dX3_lumpComes_34 : decode cX3_lumpComes 34 = .ok (.iastore, 1) := dk_79 (dk_at dksX3_lumpComes_1 10 rfl rfl)
theorem dX3_lumpComes_35 : decode cX3_lumpComes 35 = .ok (.aload_n 0, 1) := dk_42 (dk_at dksX3_lumpComes_1 11 rfl rfl)
theorem dX3_lumpComes_36 : decode cX3_lumpComes 36 = .ok (.getfield 16, 3) := dk_180 0 16 (dk_at dksX3_lumpComes_1 12 rfl rfl)
theorem dX3_lumpComes_39 : decode cX3_lumpComes 39 = .ok (.iconst 4, 1) := dk_7 (dk_at dksX3_lumpComes_1 15 rfl rfl)
theorem dX3_lumpComes_40 : decode cX3_lumpComes 40 = .ok (.iaload, 1) := dk_46 (dk_at dksX3_lumpComes_1 16 rfl rfl)
theorem dX3_lumpComes_41 : decode cX3_lumpComes 41 = .ok (.ireturn, 1) := dk_172 (dk_at dksX3_lumpComes_1 17 rfl rfl)
abbrev cX3_piece : ByteArray := prog_9_method_38_code
def yX3_piece : MethodName := ⟨RX3, "piece", "(I)I"⟩
def dkwX3_piece_1 : List UInt8 := [182, 0, 139, 172]
abbrev dktX3_piece_1 : List UInt8 := dkwX3_piece_1 ++ []
def dkwX3_piece_0 : List UInt8 := [42, 3, 181, 0, 42, 42, 27, 182, 0, 136, 153, 0, 8, 42, 182, 0, 92, 172, 42, 182, 0, 96, 42, 27]
abbrev dktX3_piece_0 : List UInt8 := dkwX3_piece_0 ++ dktX3_piece_1
theorem dksX3_piece_0 : cX3_piece.data.toList.drop 0 = dktX3_piece_0 := by decide +kernel
theorem dksX3_piece_1 : cX3_piece.data.toList.drop 24 = dktX3_piece_1 := dk_seg dksX3_piece_0 24 rfl rfl
theorem dX3_piece_0 : decode cX3_piece 0 = .ok (.aload_n 0, 1) := dk_42 (dk_at dksX3_piece_0 0 rfl rfl)
theorem dX3_piece_1 : decode cX3_piece 1 = .ok (.iconst 0, 1) := dk_3 (dk_at dksX3_piece_0 1 rfl rfl)
theorem dX3_piece_2 : decode cX3_piece 2 = .ok (.putfield 42, 3) := dk_181 0 42 (dk_at dksX3_piece_0 2 rfl rfl)
theorem dX3_piece_5 : decode cX3_piece 5 = .ok (.aload_n 0, 1) := dk_42 (dk_at dksX3_piece_0 5 rfl rfl)
theorem dX3_piece_6 : decode cX3_piece 6 = .ok (.iload_n 1, 1) := dk_27 (dk_at dksX3_piece_0 6 rfl rfl)
theorem dX3_piece_7 : decode cX3_piece 7 = .ok (.invokevirtual 136, 3) := dk_182 0 136 (dk_at dksX3_piece_0 7 rfl rfl)
theorem dX3_piece_10 : decode cX3_piece 10 = .ok (.ifCond .eq 8, 3) := dk_153 0 8 (dk_at dksX3_piece_0 10 rfl rfl)
theorem dX3_piece_13 : decode cX3_piece 13 = .ok (.aload_n 0, 1) := dk_42 (dk_at dksX3_piece_0 13 rfl rfl)
theorem dX3_piece_14 : decode cX3_piece 14 = .ok (.invokevirtual 92, 3) := dk_182 0 92 (dk_at dksX3_piece_0 14 rfl rfl)
theorem dX3_piece_17 : decode cX3_piece 17 = .ok (.ireturn, 1) := dk_172 (dk_at dksX3_piece_0 17 rfl rfl)
theorem dX3_piece_18 : decode cX3_piece 18 = .ok (.aload_n 0, 1) := dk_42 (dk_at dksX3_piece_0 18 rfl rfl)
theorem dX3_piece_19 : decode cX3_piece 19 = .ok (.invokevirtual 96, 3) := dk_182 0 96 (dk_at dksX3_piece_0 19 rfl rfl)
theorem dX3_piece_22 : decode cX3_piece 22 = .ok (.aload_n 0, 1) := dk_42 (dk_at dksX3_piece_0 22 rfl rfl)
theorem dX3_piece_23 : decode cX3_piece 23 = .ok (.iload_n 1, 1) := dk_27 (dk_at dksX3_piece_0 23 rfl rfl)
theorem dX3_piece_24 : decode cX3_piece 24 = .ok (.invokevirtual 139, 3) := dk_182 0 139 (dk_at dksX3_piece_1 0 rfl rfl)
theorem dX3_piece_27 : decode cX3_piece 27 = .ok (.ireturn, 1) := dk_172 (dk_at dksX3_piece_1 3 rfl rfl)
abbrev cX3_notPiece : ByteArray := prog_9_method_36_code
def yX3_notPiece : MethodName := ⟨RX3, "notPiece", "(I)I"⟩
def dkwX3_notPiece_1 : List UInt8 := [160, 0, 13, 42, 7, 16, 24, 182, 0, 85, 167, 0, 4, 3, 172]
abbrev dktX3_notPiece_1 : List UInt8 := dkwX3_notPiece_1 ++ []
def dkwX3_notPiece_0 : List UInt8 := [27, 4, 16, 6, 184, 0, 77, 154, 0, 10, 42, 6, 27, 182, 0, 85, 172, 42, 182, 0, 133, 16, 24]
abbrev dktX3_notPiece_0 : List UInt8 := dkwX3_notPiece_0 ++ dktX3_notPiece_1
theorem dksX3_notPiece_0 : cX3_notPiece.data.toList.drop 0 = dktX3_notPiece_0 := by decide +kernel
theorem dksX3_notPiece_1 : cX3_notPiece.data.toList.drop 23 = dktX3_notPiece_1 := dk_seg dksX3_notPiece_0 23 rfl rfl
theorem dX3_notPiece_0 : decode cX3_notPiece 0 = .ok (.iload_n 1, 1) := dk_27 (dk_at dksX3_notPiece_0 0 rfl rfl)
theorem dX3_notPiece_1 : decode cX3_notPiece 1 = .ok (.iconst 1, 1) := dk_4 (dk_at dksX3_notPiece_0 1 rfl rfl)
theorem dX3_notPiece_2 : decode cX3_notPiece 2 = .ok (.bipush 6, 2) := dk_16 6 (dk_at dksX3_notPiece_0 2 rfl rfl)
theorem dX3_notPiece_4 : decode cX3_notPiece 4 = .ok (.invokestatic 77, 3) := dk_184 0 77 (dk_at dksX3_notPiece_0 4 rfl rfl)
theorem dX3_notPiece_7 : decode cX3_notPiece 7 = .ok (.ifCond .ne 10, 3) := dk_154 0 10 (dk_at dksX3_notPiece_0 7 rfl rfl)
theorem dX3_notPiece_10 : decode cX3_notPiece 10 = .ok (.aload_n 0, 1) := dk_42 (dk_at dksX3_notPiece_0 10 rfl rfl)
theorem dX3_notPiece_11 : decode cX3_notPiece 11 = .ok (.iconst 3, 1) := dk_6 (dk_at dksX3_notPiece_0 11 rfl rfl)
theorem dX3_notPiece_12 : decode cX3_notPiece 12 = .ok (.iload_n 1, 1) := dk_27 (dk_at dksX3_notPiece_0 12 rfl rfl)
theorem dX3_notPiece_13 : decode cX3_notPiece 13 = .ok (.invokevirtual 85, 3) := dk_182 0 85 (dk_at dksX3_notPiece_0 13 rfl rfl)
theorem dX3_notPiece_16 : decode cX3_notPiece 16 = .ok (.ireturn, 1) := dk_172 (dk_at dksX3_notPiece_0 16 rfl rfl)
theorem dX3_notPiece_17 : decode cX3_notPiece 17 = .ok (.aload_n 0, 1) := dk_42 (dk_at dksX3_notPiece_0 17 rfl rfl)
theorem dX3_notPiece_18 : decode cX3_notPiece 18 = .ok (.invokevirtual 133, 3) := dk_182 0 133 (dk_at dksX3_notPiece_0 18 rfl rfl)
theorem dX3_notPiece_21 : decode cX3_notPiece 21 = .ok (.bipush 24, 2) := dk_16 24 (dk_at dksX3_notPiece_0 21 rfl rfl)
theorem dX3_notPiece_23 : decode cX3_notPiece 23 = .ok (.if_icmp .ne 13, 3) := dk_160 0 13 (dk_at dksX3_notPiece_1 0 rfl rfl)
theorem dX3_notPiece_26 : decode cX3_notPiece 26 = .ok (.aload_n 0, 1) := dk_42 (dk_at dksX3_notPiece_1 3 rfl rfl)
theorem dX3_notPiece_27 : decode cX3_notPiece 27 = .ok (.iconst 4, 1) := dk_7 (dk_at dksX3_notPiece_1 4 rfl rfl)
theorem dX3_notPiece_28 : decode cX3_notPiece 28 = .ok (.bipush 24, 2) := dk_16 24 (dk_at dksX3_notPiece_1 5 rfl rfl)
theorem dX3_notPiece_30 : decode cX3_notPiece 30 = .ok (.invokevirtual 85, 3) := dk_182 0 85 (dk_at dksX3_notPiece_1 7 rfl rfl)
theorem dX3_notPiece_33 : decode cX3_notPiece 33 = .ok (.goto 4, 3) := dk_167 0 4 (dk_at dksX3_notPiece_1 10 rfl rfl)
theorem dX3_notPiece_36 : decode cX3_notPiece 36 = .ok (.iconst 0, 1) := dk_3 (dk_at dksX3_notPiece_1 13 rfl rfl)
theorem dX3_notPiece_37 : decode cX3_notPiece 37 = .ok (.ireturn, 1) := dk_172 (dk_at dksX3_notPiece_1 14 rfl rfl)
abbrev cX3_piecesNow : ByteArray := prog_9_method_19_code
def yX3_piecesNow : MethodName := ⟨RX3, "piecesNow", "()I"⟩
def dkwX3_piecesNow_1 : List UInt8 := [132, 2, 1, 167, 255, 235, 27, 172]
abbrev dktX3_piecesNow_1 : List UInt8 := dkwX3_piecesNow_1 ++ []
def dkwX3_piecesNow_0 : List UInt8 := [3, 60, 4, 61, 28, 16, 6, 163, 0, 21, 27, 42, 180, 0, 16, 16, 42, 28, 96, 46, 96, 60]
abbrev dktX3_piecesNow_0 : List UInt8 := dkwX3_piecesNow_0 ++ dktX3_piecesNow_1
theorem dksX3_piecesNow_0 : cX3_piecesNow.data.toList.drop 0 = dktX3_piecesNow_0 := by decide +kernel
theorem dksX3_piecesNow_1 : cX3_piecesNow.data.toList.drop 22 = dktX3_piecesNow_1 := dk_seg dksX3_piecesNow_0 22 rfl rfl
theorem dX3_piecesNow_0 : decode cX3_piecesNow 0 = .ok (.iconst 0, 1) := dk_3 (dk_at dksX3_piecesNow_0 0 rfl rfl)
theorem dX3_piecesNow_1 : decode cX3_piecesNow 1 = .ok (.istore_n 1, 1) := dk_60 (dk_at dksX3_piecesNow_0 1 rfl rfl)
theorem dX3_piecesNow_2 : decode cX3_piecesNow 2 = .ok (.iconst 1, 1) := dk_4 (dk_at dksX3_piecesNow_0 2 rfl rfl)
theorem dX3_piecesNow_3 : decode cX3_piecesNow 3 = .ok (.istore_n 2, 1) := dk_61 (dk_at dksX3_piecesNow_0 3 rfl rfl)
theorem dX3_piecesNow_4 : decode cX3_piecesNow 4 = .ok (.iload_n 2, 1) := dk_28 (dk_at dksX3_piecesNow_0 4 rfl rfl)
theorem dX3_piecesNow_5 : decode cX3_piecesNow 5 = .ok (.bipush 6, 2) := dk_16 6 (dk_at dksX3_piecesNow_0 5 rfl rfl)
theorem dX3_piecesNow_7 : decode cX3_piecesNow 7 = .ok (.if_icmp .gt 21, 3) := dk_163 0 21 (dk_at dksX3_piecesNow_0 7 rfl rfl)
theorem dX3_piecesNow_10 : decode cX3_piecesNow 10 = .ok (.iload_n 1, 1) := dk_27 (dk_at dksX3_piecesNow_0 10 rfl rfl)
theorem dX3_piecesNow_11 : decode cX3_piecesNow 11 = .ok (.aload_n 0, 1) := dk_42 (dk_at dksX3_piecesNow_0 11 rfl rfl)
theorem dX3_piecesNow_12 : decode cX3_piecesNow 12 = .ok (.getfield 16, 3) := dk_180 0 16 (dk_at dksX3_piecesNow_0 12 rfl rfl)
theorem dX3_piecesNow_15 : decode cX3_piecesNow 15 = .ok (.bipush 42, 2) := dk_16 42 (dk_at dksX3_piecesNow_0 15 rfl rfl)
theorem dX3_piecesNow_17 : decode cX3_piecesNow 17 = .ok (.iload_n 2, 1) := dk_28 (dk_at dksX3_piecesNow_0 17 rfl rfl)
theorem dX3_piecesNow_18 : decode cX3_piecesNow 18 = .ok (.iadd, 1) := dk_96 (dk_at dksX3_piecesNow_0 18 rfl rfl)
theorem dX3_piecesNow_19 : decode cX3_piecesNow 19 = .ok (.iaload, 1) := dk_46 (dk_at dksX3_piecesNow_0 19 rfl rfl)
theorem dX3_piecesNow_20 : decode cX3_piecesNow 20 = .ok (.iadd, 1) := dk_96 (dk_at dksX3_piecesNow_0 20 rfl rfl)
theorem dX3_piecesNow_21 : decode cX3_piecesNow 21 = .ok (.istore_n 1, 1) := dk_60 (dk_at dksX3_piecesNow_0 21 rfl rfl)
theorem dX3_piecesNow_22 : decode cX3_piecesNow 22 = .ok (.iinc 2 1, 3) := dk_132 2 1 (dk_at dksX3_piecesNow_1 0 rfl rfl)
theorem dX3_piecesNow_25 : decode cX3_piecesNow 25 = .ok (.goto (-21), 3) := dk_167 255 235 (dk_at dksX3_piecesNow_1 3 rfl rfl)
theorem dX3_piecesNow_28 : decode cX3_piecesNow 28 = .ok (.iload_n 1, 1) := dk_27 (dk_at dksX3_piecesNow_1 6 rfl rfl)
theorem dX3_piecesNow_29 : decode cX3_piecesNow 29 = .ok (.ireturn, 1) := dk_172 (dk_at dksX3_piecesNow_1 7 rfl rfl)
abbrev cX3_pieceComes : ByteArray := prog_9_method_37_code
def yX3_pieceComes : MethodName := ⟨RX3, "pieceComes", "(I)I"⟩
def dkwX3_pieceComes_0 : List UInt8 := [42, 180, 0, 16, 16, 42, 27, 96, 92, 46, 4, 96, 79, 42, 182, 0, 133, 172]
abbrev dktX3_pieceComes_0 : List UInt8 := dkwX3_pieceComes_0 ++ []
theorem dksX3_pieceComes_0 : cX3_pieceComes.data.toList.drop 0 = dktX3_pieceComes_0 := by decide +kernel
theorem dX3_pieceComes_0 : decode cX3_pieceComes 0 = .ok (.aload_n 0, 1) := dk_42 (dk_at dksX3_pieceComes_0 0 rfl rfl)
theorem dX3_pieceComes_1 : decode cX3_pieceComes 1 = .ok (.getfield 16, 3) := dk_180 0 16 (dk_at dksX3_pieceComes_0 1 rfl rfl)
theorem dX3_pieceComes_4 : decode cX3_pieceComes 4 = .ok (.bipush 42, 2) := dk_16 42 (dk_at dksX3_pieceComes_0 4 rfl rfl)
theorem dX3_pieceComes_6 : decode cX3_pieceComes 6 = .ok (.iload_n 1, 1) := dk_27 (dk_at dksX3_pieceComes_0 6 rfl rfl)
theorem dX3_pieceComes_7 : decode cX3_pieceComes 7 = .ok (.iadd, 1) := dk_96 (dk_at dksX3_pieceComes_0 7 rfl rfl)
theorem dX3_pieceComes_8 : decode cX3_pieceComes 8 = .ok (.dup2, 1) := dk_92 (dk_at dksX3_pieceComes_0 8 rfl rfl)
theorem dX3_pieceComes_9 : decode cX3_pieceComes 9 = .ok (.iaload, 1) := dk_46 (dk_at dksX3_pieceComes_0 9 rfl rfl)
theorem dX3_pieceComes_10 : decode cX3_pieceComes 10 = .ok (.iconst 1, 1) := dk_4 (dk_at dksX3_pieceComes_0 10 rfl rfl)
theorem dX3_pieceComes_11 : decode cX3_pieceComes 11 = .ok (.iadd, 1) := dk_96 (dk_at dksX3_pieceComes_0 11 rfl rfl)
theorem dX3_pieceComes_12 : decode cX3_pieceComes 12 = .ok (.iastore, 1) := dk_79 (dk_at dksX3_pieceComes_0 12 rfl rfl)
theorem dX3_pieceComes_13 : decode cX3_pieceComes 13 = .ok (.aload_n 0, 1) := dk_42 (dk_at dksX3_pieceComes_0 13 rfl rfl)
theorem dX3_pieceComes_14 : decode cX3_pieceComes 14 = .ok (.invokevirtual 133, 3) := dk_182 0 133 (dk_at dksX3_pieceComes_0 14 rfl rfl)
theorem dX3_pieceComes_17 : decode cX3_pieceComes 17 = .ok (.ireturn, 1) := dk_172 (dk_at dksX3_pieceComes_0 17 rfl rfl)
abbrev cX3_isCurfew : ByteArray := prog_9_method_41_code
def yX3_isCurfew : MethodName := ⟨RX3, "isCurfew", "()Z"⟩
def dkwX3_isCurfew_0 : List UInt8 := [42, 3, 181, 0, 42, 42, 42, 182, 0, 142, 182, 0, 145, 172]
abbrev dktX3_isCurfew_0 : List UInt8 := dkwX3_isCurfew_0 ++ []
theorem dksX3_isCurfew_0 : cX3_isCurfew.data.toList.drop 0 = dktX3_isCurfew_0 := by decide +kernel
theorem dX3_isCurfew_0 : decode cX3_isCurfew 0 = .ok (.aload_n 0, 1) := dk_42 (dk_at dksX3_isCurfew_0 0 rfl rfl)
theorem dX3_isCurfew_1 : decode cX3_isCurfew 1 = .ok (.iconst 0, 1) := dk_3 (dk_at dksX3_isCurfew_0 1 rfl rfl)
theorem dX3_isCurfew_2 : decode cX3_isCurfew 2 = .ok (.putfield 42, 3) := dk_181 0 42 (dk_at dksX3_isCurfew_0 2 rfl rfl)
theorem dX3_isCurfew_5 : decode cX3_isCurfew 5 = .ok (.aload_n 0, 1) := dk_42 (dk_at dksX3_isCurfew_0 5 rfl rfl)
theorem dX3_isCurfew_6 : decode cX3_isCurfew 6 = .ok (.aload_n 0, 1) := dk_42 (dk_at dksX3_isCurfew_0 6 rfl rfl)
theorem dX3_isCurfew_7 : decode cX3_isCurfew 7 = .ok (.invokevirtual 142, 3) := dk_182 0 142 (dk_at dksX3_isCurfew_0 7 rfl rfl)
theorem dX3_isCurfew_10 : decode cX3_isCurfew 10 = .ok (.invokevirtual 145, 3) := dk_182 0 145 (dk_at dksX3_isCurfew_0 10 rfl rfl)
theorem dX3_isCurfew_13 : decode cX3_isCurfew 13 = .ok (.ireturn, 1) := dk_172 (dk_at dksX3_isCurfew_0 13 rfl rfl)
abbrev cX3_hourOfDay : ByteArray := prog_9_method_39_code
def yX3_hourOfDay : MethodName := ⟨RX3, "hourOfDay", "()I"⟩
def dkwX3_hourOfDay_0 : List UInt8 := [42, 180, 0, 16, 3, 46, 16, 24, 112, 172]
abbrev dktX3_hourOfDay_0 : List UInt8 := dkwX3_hourOfDay_0 ++ []
theorem dksX3_hourOfDay_0 : cX3_hourOfDay.data.toList.drop 0 = dktX3_hourOfDay_0 := by decide +kernel
theorem dX3_hourOfDay_0 : decode cX3_hourOfDay 0 = .ok (.aload_n 0, 1) := dk_42 (dk_at dksX3_hourOfDay_0 0 rfl rfl)
theorem dX3_hourOfDay_1 : decode cX3_hourOfDay 1 = .ok (.getfield 16, 3) := dk_180 0 16 (dk_at dksX3_hourOfDay_0 1 rfl rfl)
theorem dX3_hourOfDay_4 : decode cX3_hourOfDay 4 = .ok (.iconst 0, 1) := dk_3 (dk_at dksX3_hourOfDay_0 4 rfl rfl)
theorem dX3_hourOfDay_5 : decode cX3_hourOfDay 5 = .ok (.iaload, 1) := dk_46 (dk_at dksX3_hourOfDay_0 5 rfl rfl)
theorem dX3_hourOfDay_6 : decode cX3_hourOfDay 6 = .ok (.bipush 24, 2) := dk_16 24 (dk_at dksX3_hourOfDay_0 6 rfl rfl)
theorem dX3_hourOfDay_8 : decode cX3_hourOfDay 8 = .ok (.irem, 1) := dk_112 (dk_at dksX3_hourOfDay_0 8 rfl rfl)
theorem dX3_hourOfDay_9 : decode cX3_hourOfDay 9 = .ok (.ireturn, 1) := dk_172 (dk_at dksX3_hourOfDay_0 9 rfl rfl)
abbrev cX3_isDrummed : ByteArray := prog_9_method_40_code
def yX3_isDrummed : MethodName := ⟨RX3, "isDrummed", "(I)Z"⟩
def dkwX3_isDrummed_0 : List UInt8 := [27, 42, 180, 0, 16, 4, 46, 162, 0, 9, 27, 16, 6, 162, 0, 7, 4, 167, 0, 4, 3, 172]
abbrev dktX3_isDrummed_0 : List UInt8 := dkwX3_isDrummed_0 ++ []
theorem dksX3_isDrummed_0 : cX3_isDrummed.data.toList.drop 0 = dktX3_isDrummed_0 := by decide +kernel
theorem dX3_isDrummed_0 : decode cX3_isDrummed 0 = .ok (.iload_n 1, 1) := dk_27 (dk_at dksX3_isDrummed_0 0 rfl rfl)
theorem dX3_isDrummed_1 : decode cX3_isDrummed 1 = .ok (.aload_n 0, 1) := dk_42 (dk_at dksX3_isDrummed_0 1 rfl rfl)
theorem dX3_isDrummed_2 : decode cX3_isDrummed 2 = .ok (.getfield 16, 3) := dk_180 0 16 (dk_at dksX3_isDrummed_0 2 rfl rfl)
theorem dX3_isDrummed_5 : decode cX3_isDrummed 5 = .ok (.iconst 1, 1) := dk_4 (dk_at dksX3_isDrummed_0 5 rfl rfl)
theorem dX3_isDrummed_6 : decode cX3_isDrummed 6 = .ok (.iaload, 1) := dk_46 (dk_at dksX3_isDrummed_0 6 rfl rfl)
theorem dX3_isDrummed_7 : decode cX3_isDrummed 7 = .ok (.if_icmp .ge 9, 3) := dk_162 0 9 (dk_at dksX3_isDrummed_0 7 rfl rfl)
theorem dX3_isDrummed_10 : decode cX3_isDrummed 10 = .ok (.iload_n 1, 1) := dk_27 (dk_at dksX3_isDrummed_0 10 rfl rfl)
theorem dX3_isDrummed_11 : decode cX3_isDrummed 11 = .ok (.bipush 6, 2) := dk_16 6 (dk_at dksX3_isDrummed_0 11 rfl rfl)
theorem dX3_isDrummed_13 : decode cX3_isDrummed 13 = .ok (.if_icmp .ge 7, 3) := dk_162 0 7 (dk_at dksX3_isDrummed_0 13 rfl rfl)
theorem dX3_isDrummed_16 : decode cX3_isDrummed 16 = .ok (.iconst 1, 1) := dk_4 (dk_at dksX3_isDrummed_0 16 rfl rfl)
theorem dX3_isDrummed_17 : decode cX3_isDrummed 17 = .ok (.goto 4, 3) := dk_167 0 4 (dk_at dksX3_isDrummed_0 17 rfl rfl)
theorem dX3_isDrummed_20 : decode cX3_isDrummed 20 = .ok (.iconst 0, 1) := dk_3 (dk_at dksX3_isDrummed_0 20 rfl rfl)
theorem dX3_isDrummed_21 : decode cX3_isDrummed 21 = .ok (.ireturn, 1) := dk_172 (dk_at dksX3_isDrummed_0 21 rfl rfl)
abbrev cX3_curfewIn : ByteArray := prog_9_method_43_code
def yX3_curfewIn : MethodName := ⟨RX3, "curfewIn", "()I"⟩
def dkwX3_curfewIn_0 : List UInt8 := [42, 3, 181, 0, 42, 42, 4, 182, 0, 148, 172]
abbrev dktX3_curfewIn_0 : List UInt8 := dkwX3_curfewIn_0 ++ []
theorem dksX3_curfewIn_0 : cX3_curfewIn.data.toList.drop 0 = dktX3_curfewIn_0 := by decide +kernel
theorem dX3_curfewIn_0 : decode cX3_curfewIn 0 = .ok (.aload_n 0, 1) := dk_42 (dk_at dksX3_curfewIn_0 0 rfl rfl)
theorem dX3_curfewIn_1 : decode cX3_curfewIn 1 = .ok (.iconst 0, 1) := dk_3 (dk_at dksX3_curfewIn_0 1 rfl rfl)
theorem dX3_curfewIn_2 : decode cX3_curfewIn 2 = .ok (.putfield 42, 3) := dk_181 0 42 (dk_at dksX3_curfewIn_0 2 rfl rfl)
theorem dX3_curfewIn_5 : decode cX3_curfewIn 5 = .ok (.aload_n 0, 1) := dk_42 (dk_at dksX3_curfewIn_0 5 rfl rfl)
theorem dX3_curfewIn_6 : decode cX3_curfewIn 6 = .ok (.iconst 1, 1) := dk_4 (dk_at dksX3_curfewIn_0 6 rfl rfl)
theorem dX3_curfewIn_7 : decode cX3_curfewIn 7 = .ok (.invokevirtual 148, 3) := dk_182 0 148 (dk_at dksX3_curfewIn_0 7 rfl rfl)
theorem dX3_curfewIn_10 : decode cX3_curfewIn 10 = .ok (.ireturn, 1) := dk_172 (dk_at dksX3_curfewIn_0 10 rfl rfl)
abbrev cX3_hoursUntil : ByteArray := prog_9_method_42_code
def yX3_hoursUntil : MethodName := ⟨RX3, "hoursUntil", "(Z)I"⟩
def dkwX3_hoursUntil_1 : List UInt8 := [167, 255, 234, 28, 172]
abbrev dktX3_hoursUntil_1 : List UInt8 := dkwX3_hoursUntil_1 ++ []
def dkwX3_hoursUntil_0 : List UInt8 := [3, 61, 42, 42, 180, 0, 16, 3, 46, 28, 96, 16, 24, 112, 182, 0, 145, 27, 159, 0, 9, 132, 2, 1]
abbrev dktX3_hoursUntil_0 : List UInt8 := dkwX3_hoursUntil_0 ++ dktX3_hoursUntil_1
theorem dksX3_hoursUntil_0 : cX3_hoursUntil.data.toList.drop 0 = dktX3_hoursUntil_0 := by decide +kernel
theorem dksX3_hoursUntil_1 : cX3_hoursUntil.data.toList.drop 24 = dktX3_hoursUntil_1 := dk_seg dksX3_hoursUntil_0 24 rfl rfl
theorem dX3_hoursUntil_0 : decode cX3_hoursUntil 0 = .ok (.iconst 0, 1) := dk_3 (dk_at dksX3_hoursUntil_0 0 rfl rfl)
theorem dX3_hoursUntil_1 : decode cX3_hoursUntil 1 = .ok (.istore_n 2, 1) := dk_61 (dk_at dksX3_hoursUntil_0 1 rfl rfl)
theorem dX3_hoursUntil_2 : decode cX3_hoursUntil 2 = .ok (.aload_n 0, 1) := dk_42 (dk_at dksX3_hoursUntil_0 2 rfl rfl)
theorem dX3_hoursUntil_3 : decode cX3_hoursUntil 3 = .ok (.aload_n 0, 1) := dk_42 (dk_at dksX3_hoursUntil_0 3 rfl rfl)
theorem dX3_hoursUntil_4 : decode cX3_hoursUntil 4 = .ok (.getfield 16, 3) := dk_180 0 16 (dk_at dksX3_hoursUntil_0 4 rfl rfl)
theorem dX3_hoursUntil_7 : decode cX3_hoursUntil 7 = .ok (.iconst 0, 1) := dk_3 (dk_at dksX3_hoursUntil_0 7 rfl rfl)
theorem dX3_hoursUntil_8 : decode cX3_hoursUntil 8 = .ok (.iaload, 1) := dk_46 (dk_at dksX3_hoursUntil_0 8 rfl rfl)
theorem dX3_hoursUntil_9 : decode cX3_hoursUntil 9 = .ok (.iload_n 2, 1) := dk_28 (dk_at dksX3_hoursUntil_0 9 rfl rfl)
theorem dX3_hoursUntil_10 : decode cX3_hoursUntil 10 = .ok (.iadd, 1) := dk_96 (dk_at dksX3_hoursUntil_0 10 rfl rfl)
theorem dX3_hoursUntil_11 : decode cX3_hoursUntil 11 = .ok (.bipush 24, 2) := dk_16 24 (dk_at dksX3_hoursUntil_0 11 rfl rfl)
theorem dX3_hoursUntil_13 : decode cX3_hoursUntil 13 = .ok (.irem, 1) := dk_112 (dk_at dksX3_hoursUntil_0 13 rfl rfl)
theorem dX3_hoursUntil_14 : decode cX3_hoursUntil 14 = .ok (.invokevirtual 145, 3) := dk_182 0 145 (dk_at dksX3_hoursUntil_0 14 rfl rfl)
theorem dX3_hoursUntil_17 : decode cX3_hoursUntil 17 = .ok (.iload_n 1, 1) := dk_27 (dk_at dksX3_hoursUntil_0 17 rfl rfl)
theorem dX3_hoursUntil_18 : decode cX3_hoursUntil 18 = .ok (.if_icmp .eq 9, 3) := dk_159 0 9 (dk_at dksX3_hoursUntil_0 18 rfl rfl)
theorem dX3_hoursUntil_21 : decode cX3_hoursUntil 21 = .ok (.iinc 2 1, 3) := dk_132 2 1 (dk_at dksX3_hoursUntil_0 21 rfl rfl)
theorem dX3_hoursUntil_24 : decode cX3_hoursUntil 24 = .ok (.goto (-22), 3) := dk_167 255 234 (dk_at dksX3_hoursUntil_1 0 rfl rfl)
theorem dX3_hoursUntil_27 : decode cX3_hoursUntil 27 = .ok (.iload_n 2, 1) := dk_28 (dk_at dksX3_hoursUntil_1 3 rfl rfl)
theorem dX3_hoursUntil_28 : decode cX3_hoursUntil 28 = .ok (.ireturn, 1) := dk_172 (dk_at dksX3_hoursUntil_1 4 rfl rfl)
abbrev cX3_curfew : ByteArray := prog_9_method_45_code
def yX3_curfew : MethodName := ⟨RX3, "curfew", "(I)I"⟩
def dkwX3_curfew_1 : List UInt8 := [180, 0, 16, 4, 46, 61, 42, 180, 0, 16, 4, 27, 79, 28, 172]
abbrev dktX3_curfew_1 : List UInt8 := dkwX3_curfew_1 ++ []
def dkwX3_curfew_0 : List UInt8 := [42, 3, 181, 0, 42, 42, 27, 182, 0, 152, 153, 0, 8, 42, 182, 0, 92, 172, 42, 182, 0, 96, 42]
abbrev dktX3_curfew_0 : List UInt8 := dkwX3_curfew_0 ++ dktX3_curfew_1
theorem dksX3_curfew_0 : cX3_curfew.data.toList.drop 0 = dktX3_curfew_0 := by decide +kernel
theorem dksX3_curfew_1 : cX3_curfew.data.toList.drop 23 = dktX3_curfew_1 := dk_seg dksX3_curfew_0 23 rfl rfl
theorem dX3_curfew_0 : decode cX3_curfew 0 = .ok (.aload_n 0, 1) := dk_42 (dk_at dksX3_curfew_0 0 rfl rfl)
theorem dX3_curfew_1 : decode cX3_curfew 1 = .ok (.iconst 0, 1) := dk_3 (dk_at dksX3_curfew_0 1 rfl rfl)
theorem dX3_curfew_2 : decode cX3_curfew 2 = .ok (.putfield 42, 3) := dk_181 0 42 (dk_at dksX3_curfew_0 2 rfl rfl)
theorem dX3_curfew_5 : decode cX3_curfew 5 = .ok (.aload_n 0, 1) := dk_42 (dk_at dksX3_curfew_0 5 rfl rfl)
theorem dX3_curfew_6 : decode cX3_curfew 6 = .ok (.iload_n 1, 1) := dk_27 (dk_at dksX3_curfew_0 6 rfl rfl)
theorem dX3_curfew_7 : decode cX3_curfew 7 = .ok (.invokevirtual 152, 3) := dk_182 0 152 (dk_at dksX3_curfew_0 7 rfl rfl)
theorem dX3_curfew_10 : decode cX3_curfew 10 = .ok (.ifCond .eq 8, 3) := dk_153 0 8 (dk_at dksX3_curfew_0 10 rfl rfl)
theorem dX3_curfew_13 : decode cX3_curfew 13 = .ok (.aload_n 0, 1) := dk_42 (dk_at dksX3_curfew_0 13 rfl rfl)
theorem dX3_curfew_14 : decode cX3_curfew 14 = .ok (.invokevirtual 92, 3) := dk_182 0 92 (dk_at dksX3_curfew_0 14 rfl rfl)
theorem dX3_curfew_17 : decode cX3_curfew 17 = .ok (.ireturn, 1) := dk_172 (dk_at dksX3_curfew_0 17 rfl rfl)
theorem dX3_curfew_18 : decode cX3_curfew 18 = .ok (.aload_n 0, 1) := dk_42 (dk_at dksX3_curfew_0 18 rfl rfl)
theorem dX3_curfew_19 : decode cX3_curfew 19 = .ok (.invokevirtual 96, 3) := dk_182 0 96 (dk_at dksX3_curfew_0 19 rfl rfl)
theorem dX3_curfew_22 : decode cX3_curfew 22 = .ok (.aload_n 0, 1) := dk_42 (dk_at dksX3_curfew_0 22 rfl rfl)
theorem dX3_curfew_23 : decode cX3_curfew 23 = .ok (.getfield 16, 3) := dk_180 0 16 (dk_at dksX3_curfew_1 0 rfl rfl)
theorem dX3_curfew_26 : decode cX3_curfew 26 = .ok (.iconst 1, 1) := dk_4 (dk_at dksX3_curfew_1 3 rfl rfl)
theorem dX3_curfew_27 : decode cX3_curfew 27 = .ok (.iaload, 1) := dk_46 (dk_at dksX3_curfew_1 4 rfl rfl)
theorem dX3_curfew_28 : decode cX3_curfew 28 = .ok (.istore_n 2, 1) := dk_61 (dk_at dksX3_curfew_1 5 rfl rfl)
theorem dX3_curfew_29 : decode cX3_curfew 29 = .ok (.aload_n 0, 1) := dk_42 (dk_at dksX3_curfew_1 6 rfl rfl)
theorem dX3_curfew_30 : decode cX3_curfew 30 = .ok (.getfield 16, 3) := dk_180 0 16 (dk_at dksX3_curfew_1 7 rfl rfl)
theorem dX3_curfew_33 : decode cX3_curfew 33 = .ok (.iconst 1, 1) := dk_4 (dk_at dksX3_curfew_1 10 rfl rfl)
theorem dX3_curfew_34 : decode cX3_curfew 34 = .ok (.iload_n 1, 1) := dk_27 (dk_at dksX3_curfew_1 11 rfl rfl)
theorem dX3_curfew_35 : decode cX3_curfew 35 = .ok (.iastore, 1) := dk_79 (dk_at dksX3_curfew_1 12 rfl rfl)
theorem dX3_curfew_36 : decode cX3_curfew 36 = .ok (.iload_n 2, 1) := dk_28 (dk_at dksX3_curfew_1 13 rfl rfl)
theorem dX3_curfew_37 : decode cX3_curfew 37 = .ok (.ireturn, 1) := dk_172 (dk_at dksX3_curfew_1 14 rfl rfl)
abbrev cX3_notCurfew : ByteArray := prog_9_method_44_code
def yX3_notCurfew : MethodName := ⟨RX3, "notCurfew", "(I)I"⟩
def dkwX3_notCurfew_0 : List UInt8 := [27, 16, 18, 16, 23, 184, 0, 77, 153, 0, 7, 3, 167, 0, 9, 42, 6, 27, 182, 0, 85, 172]
abbrev dktX3_notCurfew_0 : List UInt8 := dkwX3_notCurfew_0 ++ []
theorem dksX3_notCurfew_0 : cX3_notCurfew.data.toList.drop 0 = dktX3_notCurfew_0 := by decide +kernel
theorem dX3_notCurfew_0 : decode cX3_notCurfew 0 = .ok (.iload_n 1, 1) := dk_27 (dk_at dksX3_notCurfew_0 0 rfl rfl)
theorem dX3_notCurfew_1 : decode cX3_notCurfew 1 = .ok (.bipush 18, 2) := dk_16 18 (dk_at dksX3_notCurfew_0 1 rfl rfl)
theorem dX3_notCurfew_3 : decode cX3_notCurfew 3 = .ok (.bipush 23, 2) := dk_16 23 (dk_at dksX3_notCurfew_0 3 rfl rfl)
theorem dX3_notCurfew_5 : decode cX3_notCurfew 5 = .ok (.invokestatic 77, 3) := dk_184 0 77 (dk_at dksX3_notCurfew_0 5 rfl rfl)
theorem dX3_notCurfew_8 : decode cX3_notCurfew 8 = .ok (.ifCond .eq 7, 3) := dk_153 0 7 (dk_at dksX3_notCurfew_0 8 rfl rfl)
theorem dX3_notCurfew_11 : decode cX3_notCurfew 11 = .ok (.iconst 0, 1) := dk_3 (dk_at dksX3_notCurfew_0 11 rfl rfl)
theorem dX3_notCurfew_12 : decode cX3_notCurfew 12 = .ok (.goto 9, 3) := dk_167 0 9 (dk_at dksX3_notCurfew_0 12 rfl rfl)
theorem dX3_notCurfew_15 : decode cX3_notCurfew 15 = .ok (.aload_n 0, 1) := dk_42 (dk_at dksX3_notCurfew_0 15 rfl rfl)
theorem dX3_notCurfew_16 : decode cX3_notCurfew 16 = .ok (.iconst 3, 1) := dk_6 (dk_at dksX3_notCurfew_0 16 rfl rfl)
theorem dX3_notCurfew_17 : decode cX3_notCurfew 17 = .ok (.iload_n 1, 1) := dk_27 (dk_at dksX3_notCurfew_0 17 rfl rfl)
theorem dX3_notCurfew_18 : decode cX3_notCurfew 18 = .ok (.invokevirtual 85, 3) := dk_182 0 85 (dk_at dksX3_notCurfew_0 18 rfl rfl)
theorem dX3_notCurfew_21 : decode cX3_notCurfew 21 = .ok (.ireturn, 1) := dk_172 (dk_at dksX3_notCurfew_0 21 rfl rfl)
abbrev cX3_mend : ByteArray := prog_9_method_51_code
def yX3_mend : MethodName := ⟨RX3, "mend", "()I"⟩
def dkwX3_mend_1 : List UInt8 := [182, 0, 173, 172]
abbrev dktX3_mend_1 : List UInt8 := dkwX3_mend_1 ++ []
def dkwX3_mend_0 : List UInt8 := [42, 3, 181, 0, 42, 42, 182, 0, 170, 153, 0, 8, 42, 182, 0, 92, 172, 42, 182, 0, 96, 42]
abbrev dktX3_mend_0 : List UInt8 := dkwX3_mend_0 ++ dktX3_mend_1
theorem dksX3_mend_0 : cX3_mend.data.toList.drop 0 = dktX3_mend_0 := by decide +kernel
theorem dksX3_mend_1 : cX3_mend.data.toList.drop 22 = dktX3_mend_1 := dk_seg dksX3_mend_0 22 rfl rfl
theorem dX3_mend_0 : decode cX3_mend 0 = .ok (.aload_n 0, 1) := dk_42 (dk_at dksX3_mend_0 0 rfl rfl)
theorem dX3_mend_1 : decode cX3_mend 1 = .ok (.iconst 0, 1) := dk_3 (dk_at dksX3_mend_0 1 rfl rfl)
theorem dX3_mend_2 : decode cX3_mend 2 = .ok (.putfield 42, 3) := dk_181 0 42 (dk_at dksX3_mend_0 2 rfl rfl)
theorem dX3_mend_5 : decode cX3_mend 5 = .ok (.aload_n 0, 1) := dk_42 (dk_at dksX3_mend_0 5 rfl rfl)
theorem dX3_mend_6 : decode cX3_mend 6 = .ok (.invokevirtual 170, 3) := dk_182 0 170 (dk_at dksX3_mend_0 6 rfl rfl)
theorem dX3_mend_9 : decode cX3_mend 9 = .ok (.ifCond .eq 8, 3) := dk_153 0 8 (dk_at dksX3_mend_0 9 rfl rfl)
theorem dX3_mend_12 : decode cX3_mend 12 = .ok (.aload_n 0, 1) := dk_42 (dk_at dksX3_mend_0 12 rfl rfl)
theorem dX3_mend_13 : decode cX3_mend 13 = .ok (.invokevirtual 92, 3) := dk_182 0 92 (dk_at dksX3_mend_0 13 rfl rfl)
theorem dX3_mend_16 : decode cX3_mend 16 = .ok (.ireturn, 1) := dk_172 (dk_at dksX3_mend_0 16 rfl rfl)
theorem dX3_mend_17 : decode cX3_mend 17 = .ok (.aload_n 0, 1) := dk_42 (dk_at dksX3_mend_0 17 rfl rfl)
theorem dX3_mend_18 : decode cX3_mend 18 = .ok (.invokevirtual 96, 3) := dk_182 0 96 (dk_at dksX3_mend_0 18 rfl rfl)
theorem dX3_mend_21 : decode cX3_mend 21 = .ok (.aload_n 0, 1) := dk_42 (dk_at dksX3_mend_0 21 rfl rfl)
theorem dX3_mend_22 : decode cX3_mend 22 = .ok (.invokevirtual 173, 3) := dk_182 0 173 (dk_at dksX3_mend_1 0 rfl rfl)
theorem dX3_mend_25 : decode cX3_mend 25 = .ok (.ireturn, 1) := dk_172 (dk_at dksX3_mend_1 3 rfl rfl)
abbrev cX3_notMend : ByteArray := prog_9_method_49_code
def yX3_notMend : MethodName := ⟨RX3, "notMend", "()I"⟩
def dkwX3_notMend_2 : List UInt8 := [16, 12, 46, 182, 0, 164, 172]
abbrev dktX3_notMend_2 : List UInt8 := dkwX3_notMend_2 ++ []
def dkwX3_notMend_1 : List UInt8 := [182, 0, 145, 153, 0, 15, 42, 16, 8, 42, 3, 182, 0, 148, 182, 0, 85, 172, 42, 42, 180, 0, 16]
abbrev dktX3_notMend_1 : List UInt8 := dkwX3_notMend_1 ++ dktX3_notMend_2
def dkwX3_notMend_0 : List UInt8 := [42, 180, 0, 16, 6, 46, 154, 0, 11, 42, 16, 7, 3, 182, 0, 85, 172, 42, 42, 182, 0, 142]
abbrev dktX3_notMend_0 : List UInt8 := dkwX3_notMend_0 ++ dktX3_notMend_1
theorem dksX3_notMend_0 : cX3_notMend.data.toList.drop 0 = dktX3_notMend_0 := by decide +kernel
theorem dksX3_notMend_1 : cX3_notMend.data.toList.drop 22 = dktX3_notMend_1 := dk_seg dksX3_notMend_0 22 rfl rfl
theorem dksX3_notMend_2 : cX3_notMend.data.toList.drop 45 = dktX3_notMend_2 := dk_seg dksX3_notMend_1 23 rfl rfl
theorem dX3_notMend_0 : decode cX3_notMend 0 = .ok (.aload_n 0, 1) := dk_42 (dk_at dksX3_notMend_0 0 rfl rfl)
theorem dX3_notMend_1 : decode cX3_notMend 1 = .ok (.getfield 16, 3) := dk_180 0 16 (dk_at dksX3_notMend_0 1 rfl rfl)
theorem dX3_notMend_4 : decode cX3_notMend 4 = .ok (.iconst 3, 1) := dk_6 (dk_at dksX3_notMend_0 4 rfl rfl)
theorem dX3_notMend_5 : decode cX3_notMend 5 = .ok (.iaload, 1) := dk_46 (dk_at dksX3_notMend_0 5 rfl rfl)
theorem dX3_notMend_6 : decode cX3_notMend 6 = .ok (.ifCond .ne 11, 3) := dk_154 0 11 (dk_at dksX3_notMend_0 6 rfl rfl)
theorem dX3_notMend_9 : decode cX3_notMend 9 = .ok (.aload_n 0, 1) := dk_42 (dk_at dksX3_notMend_0 9 rfl rfl)
theorem dX3_notMend_10 : decode cX3_notMend 10 = .ok (.bipush 7, 2) := dk_16 7 (dk_at dksX3_notMend_0 10 rfl rfl)
theorem dX3_notMend_12 : decode cX3_notMend 12 = .ok (.iconst 0, 1) := dk_3 (dk_at dksX3_notMend_0 12 rfl rfl)
theorem dX3_notMend_13 : decode cX3_notMend 13 = .ok (.invokevirtual 85, 3) := dk_182 0 85 (dk_at dksX3_notMend_0 13 rfl rfl)
theorem dX3_notMend_16 : decode cX3_notMend 16 = .ok (.ireturn, 1) := dk_172 (dk_at dksX3_notMend_0 16 rfl rfl)
theorem dX3_notMend_17 : decode cX3_notMend 17 = .ok (.aload_n 0, 1) := dk_42 (dk_at dksX3_notMend_0 17 rfl rfl)
theorem dX3_notMend_18 : decode cX3_notMend 18 = .ok (.aload_n 0, 1) := dk_42 (dk_at dksX3_notMend_0 18 rfl rfl)
theorem dX3_notMend_19 : decode cX3_notMend 19 = .ok (.invokevirtual 142, 3) := dk_182 0 142 (dk_at dksX3_notMend_0 19 rfl rfl)
theorem dX3_notMend_22 : decode cX3_notMend 22 = .ok (.invokevirtual 145, 3) := dk_182 0 145 (dk_at dksX3_notMend_1 0 rfl rfl)
theorem dX3_notMend_25 : decode cX3_notMend 25 = .ok (.ifCond .eq 15, 3) := dk_153 0 15 (dk_at dksX3_notMend_1 3 rfl rfl)
theorem dX3_notMend_28 : decode cX3_notMend 28 = .ok (.aload_n 0, 1) := dk_42 (dk_at dksX3_notMend_1 6 rfl rfl)
theorem dX3_notMend_29 : decode cX3_notMend 29 = .ok (.bipush 8, 2) := dk_16 8 (dk_at dksX3_notMend_1 7 rfl rfl)
theorem dX3_notMend_31 : decode cX3_notMend 31 = .ok (.aload_n 0, 1) := dk_42 (dk_at dksX3_notMend_1 9 rfl rfl)
theorem dX3_notMend_32 : decode cX3_notMend 32 = .ok (.iconst 0, 1) := dk_3 (dk_at dksX3_notMend_1 10 rfl rfl)
theorem dX3_notMend_33 : decode cX3_notMend 33 = .ok (.invokevirtual 148, 3) := dk_182 0 148 (dk_at dksX3_notMend_1 11 rfl rfl)
theorem dX3_notMend_36 : decode cX3_notMend 36 = .ok (.invokevirtual 85, 3) := dk_182 0 85 (dk_at dksX3_notMend_1 14 rfl rfl)
theorem dX3_notMend_39 : decode cX3_notMend 39 = .ok (.ireturn, 1) := dk_172 (dk_at dksX3_notMend_1 17 rfl rfl)
theorem dX3_notMend_40 : decode cX3_notMend 40 = .ok (.aload_n 0, 1) := dk_42 (dk_at dksX3_notMend_1 18 rfl rfl)
theorem dX3_notMend_41 : decode cX3_notMend 41 = .ok (.aload_n 0, 1) := dk_42 (dk_at dksX3_notMend_1 19 rfl rfl)
theorem dX3_notMend_42 : decode cX3_notMend 42 = .ok (.getfield 16, 3) := dk_180 0 16 (dk_at dksX3_notMend_1 20 rfl rfl)
theorem dX3_notMend_45 : decode cX3_notMend 45 = .ok (.bipush 12, 2) := dk_16 12 (dk_at dksX3_notMend_2 0 rfl rfl)
theorem dX3_notMend_47 : decode cX3_notMend 47 = .ok (.iaload, 1) := dk_46 (dk_at dksX3_notMend_2 2 rfl rfl)
theorem dX3_notMend_48 : decode cX3_notMend 48 = .ok (.invokevirtual 164, 3) := dk_182 0 164 (dk_at dksX3_notMend_2 3 rfl rfl)
theorem dX3_notMend_51 : decode cX3_notMend 51 = .ok (.ireturn, 1) := dk_172 (dk_at dksX3_notMend_2 6 rfl rfl)
abbrev cX3_notMended : ByteArray := prog_9_method_48_code
def yX3_notMended : MethodName := ⟨RX3, "notMended", "(I)I"⟩
def dkwX3_notMended_3 : List UInt8 := [3, 181, 0, 51, 42, 42, 182, 0, 161, 181, 0, 54, 28, 172]
abbrev dktX3_notMended_3 : List UInt8 := dkwX3_notMended_3 ++ []
def dkwX3_notMended_2 : List UInt8 := [42, 27, 3, 182, 0, 155, 100, 182, 0, 85, 61, 42, 42, 182, 0, 133, 158, 0, 8, 16, 11, 167, 0, 4]
abbrev dktX3_notMended_2 : List UInt8 := dkwX3_notMended_2 ++ dktX3_notMended_3
def dkwX3_notMended_1 : List UInt8 := [180, 0, 16, 7, 46, 100, 182, 0, 85, 172, 42, 27, 182, 0, 158, 155, 0, 5, 3, 172, 42, 16, 10, 6]
abbrev dktX3_notMended_1 : List UInt8 := dkwX3_notMended_1 ++ dktX3_notMended_2
def dkwX3_notMended_0 : List UInt8 := [42, 180, 0, 16, 7, 46, 42, 27, 182, 0, 124, 162, 0, 22, 42, 16, 9, 42, 27, 182, 0, 124, 42]
abbrev dktX3_notMended_0 : List UInt8 := dkwX3_notMended_0 ++ dktX3_notMended_1
theorem dksX3_notMended_0 : cX3_notMended.data.toList.drop 0 = dktX3_notMended_0 := by decide +kernel
theorem dksX3_notMended_1 : cX3_notMended.data.toList.drop 23 = dktX3_notMended_1 := dk_seg dksX3_notMended_0 23 rfl rfl
theorem dksX3_notMended_2 : cX3_notMended.data.toList.drop 47 = dktX3_notMended_2 := dk_seg dksX3_notMended_1 24 rfl rfl
theorem dksX3_notMended_3 : cX3_notMended.data.toList.drop 71 = dktX3_notMended_3 := dk_seg dksX3_notMended_2 24 rfl rfl
theorem dX3_notMended_0 : decode cX3_notMended 0 = .ok (.aload_n 0, 1) := dk_42 (dk_at dksX3_notMended_0 0 rfl rfl)
theorem dX3_notMended_1 : decode cX3_notMended 1 = .ok (.getfield 16, 3) := dk_180 0 16 (dk_at dksX3_notMended_0 1 rfl rfl)
theorem dX3_notMended_4 : decode cX3_notMended 4 = .ok (.iconst 4, 1) := dk_7 (dk_at dksX3_notMended_0 4 rfl rfl)
theorem dX3_notMended_5 : decode cX3_notMended 5 = .ok (.iaload, 1) := dk_46 (dk_at dksX3_notMended_0 5 rfl rfl)
theorem dX3_notMended_6 : decode cX3_notMended 6 = .ok (.aload_n 0, 1) := dk_42 (dk_at dksX3_notMended_0 6 rfl rfl)
theorem dX3_notMended_7 : decode cX3_notMended 7 = .ok (.iload_n 1, 1) := dk_27 (dk_at dksX3_notMended_0 7 rfl rfl)
theorem dX3_notMended_8 : decode cX3_notMended 8 = .ok (.invokevirtual 124, 3) := dk_182 0 124 (dk_at dksX3_notMended_0 8 rfl rfl)
theorem dX3_notMended_11 : decode cX3_notMended 11 = .ok (.if_icmp .ge 22, 3) := dk_162 0 22 (dk_at dksX3_notMended_0 11 rfl rfl)
theorem dX3_notMended_14 : decode cX3_notMended 14 = .ok (.aload_n 0, 1) := dk_42 (dk_at dksX3_notMended_0 14 rfl rfl)
theorem dX3_notMended_15 : decode cX3_notMended 15 = .ok (.bipush 9, 2) := dk_16 9 (dk_at dksX3_notMended_0 15 rfl rfl)
theorem dX3_notMended_17 : decode cX3_notMended 17 = .ok (.aload_n 0, 1) := dk_42 (dk_at dksX3_notMended_0 17 rfl rfl)
theorem dX3_notMended_18 : decode cX3_notMended 18 = .ok (.iload_n 1, 1) := dk_27 (dk_at dksX3_notMended_0 18 rfl rfl)
theorem dX3_notMended_19 : decode cX3_notMended 19 = .ok (.invokevirtual 124, 3) := dk_182 0 124 (dk_at dksX3_notMended_0 19 rfl rfl)
theorem dX3_notMended_22 : decode cX3_notMended 22 = .ok (.aload_n 0, 1) := dk_42 (dk_at dksX3_notMended_0 22 rfl rfl)
theorem dX3_notMended_23 : decode cX3_notMended 23 = .ok (.getfield 16, 3) := dk_180 0 16 (dk_at dksX3_notMended_1 0 rfl rfl)
theorem dX3_notMended_26 : decode cX3_notMended 26 = .ok (.iconst 4, 1) := dk_7 (dk_at dksX3_notMended_1 3 rfl rfl)
theorem dX3_notMended_27 : decode cX3_notMended 27 = .ok (.iaload, 1) := dk_46 (dk_at dksX3_notMended_1 4 rfl rfl)
theorem dX3_notMended_28 : decode cX3_notMended 28 = .ok (.isub, 1) := dk_100 (dk_at dksX3_notMended_1 5 rfl rfl)
theorem dX3_notMended_29 : decode cX3_notMended 29 = .ok (.invokevirtual 85, 3) := dk_182 0 85 (dk_at dksX3_notMended_1 6 rfl rfl)
theorem dX3_notMended_32 : decode cX3_notMended 32 = .ok (.ireturn, 1) := dk_172 (dk_at dksX3_notMended_1 9 rfl rfl)
theorem dX3_notMended_33 : decode cX3_notMended 33 = .ok (.aload_n 0, 1) := dk_42 (dk_at dksX3_notMended_1 10 rfl rfl)
theorem dX3_notMended_34 : decode cX3_notMended 34 = .ok (.iload_n 1, 1) := dk_27 (dk_at dksX3_notMended_1 11 rfl rfl)
theorem dX3_notMended_35 : decode cX3_notMended 35 = .ok (.invokevirtual 158, 3) := dk_182 0 158 (dk_at dksX3_notMended_1 12 rfl rfl)
theorem dX3_notMended_38 : decode cX3_notMended 38 = .ok (.ifCond .lt 5, 3) := dk_155 0 5 (dk_at dksX3_notMended_1 15 rfl rfl)
theorem dX3_notMended_41 : decode cX3_notMended 41 = .ok (.iconst 0, 1) := dk_3 (dk_at dksX3_notMended_1 18 rfl rfl)
theorem dX3_notMended_42 : decode cX3_notMended 42 = .ok (.ireturn, 1) := dk_172 (dk_at dksX3_notMended_1 19 rfl rfl)
theorem dX3_notMended_43 : decode cX3_notMended 43 = .ok (.aload_n 0, 1) := dk_42 (dk_at dksX3_notMended_1 20 rfl rfl)
theorem dX3_notMended_44 : decode cX3_notMended 44 = .ok (.bipush 10, 2) := dk_16 10 (dk_at dksX3_notMended_1 21 rfl rfl)
theorem dX3_notMended_46 : decode cX3_notMended 46 = .ok (.iconst 3, 1) := dk_6 (dk_at dksX3_notMended_1 23 rfl rfl)
theorem dX3_notMended_47 : decode cX3_notMended 47 = .ok (.aload_n 0, 1) := dk_42 (dk_at dksX3_notMended_2 0 rfl rfl)
theorem dX3_notMended_48 : decode cX3_notMended 48 = .ok (.iload_n 1, 1) := dk_27 (dk_at dksX3_notMended_2 1 rfl rfl)
theorem dX3_notMended_49 : decode cX3_notMended 49 = .ok (.iconst 0, 1) := dk_3 (dk_at dksX3_notMended_2 2 rfl rfl)
theorem dX3_notMended_50 : decode cX3_notMended 50 = .ok (.invokevirtual 155, 3) := dk_182 0 155 (dk_at dksX3_notMended_2 3 rfl rfl)
theorem dX3_notMended_53 : decode cX3_notMended 53 = .ok (.isub, 1) := dk_100 (dk_at dksX3_notMended_2 6 rfl rfl)
theorem dX3_notMended_54 : decode cX3_notMended 54 = .ok (.invokevirtual 85, 3) := dk_182 0 85 (dk_at dksX3_notMended_2 7 rfl rfl)
theorem dX3_notMended_57 : decode cX3_notMended 57 = .ok (.istore_n 2, 1) := dk_61 (dk_at dksX3_notMended_2 10 rfl rfl)
theorem dX3_notMended_58 : decode cX3_notMended 58 = .ok (.aload_n 0, 1) := dk_42 (dk_at dksX3_notMended_2 11 rfl rfl)
theorem dX3_notMended_59 : decode cX3_notMended 59 = .ok (.aload_n 0, 1) := dk_42 (dk_at dksX3_notMended_2 12 rfl rfl)
theorem dX3_notMended_60 : decode cX3_notMended 60 = .ok (.invokevirtual 133, 3) := dk_182 0 133 (dk_at dksX3_notMended_2 13 rfl rfl)
theorem dX3_notMended_63 : decode cX3_notMended 63 = .ok (.ifCond .le 8, 3) := dk_158 0 8 (dk_at dksX3_notMended_2 16 rfl rfl)
theorem dX3_notMended_66 : decode cX3_notMended 66 = .ok (.bipush 11, 2) := dk_16 11 (dk_at dksX3_notMended_2 19 rfl rfl)
theorem dX3_notMended_68 : decode cX3_notMended 68 = .ok (.goto 4, 3) := dk_167 0 4 (dk_at dksX3_notMended_2 21 rfl rfl)
theorem dX3_notMended_71 : decode cX3_notMended 71 = .ok (.iconst 0, 1) := dk_3 (dk_at dksX3_notMended_3 0 rfl rfl)
theorem dX3_notMended_72 : decode cX3_notMended 72 = .ok (.putfield 51, 3) := dk_181 0 51 (dk_at dksX3_notMended_3 1 rfl rfl)
theorem dX3_notMended_75 : decode cX3_notMended 75 = .ok (.aload_n 0, 1) := dk_42 (dk_at dksX3_notMended_3 4 rfl rfl)
theorem dX3_notMended_76 : decode cX3_notMended 76 = .ok (.aload_n 0, 1) := dk_42 (dk_at dksX3_notMended_3 5 rfl rfl)
theorem dX3_notMended_77 : decode cX3_notMended 77 = .ok (.invokevirtual 161, 3) := dk_182 0 161 (dk_at dksX3_notMended_3 6 rfl rfl)
theorem dX3_notMended_80 : decode cX3_notMended 80 = .ok (.putfield 54, 3) := dk_181 0 54 (dk_at dksX3_notMended_3 9 rfl rfl)
theorem dX3_notMended_83 : decode cX3_notMended 83 = .ok (.iload_n 2, 1) := dk_28 (dk_at dksX3_notMended_3 12 rfl rfl)
theorem dX3_notMended_84 : decode cX3_notMended 84 = .ok (.ireturn, 1) := dk_172 (dk_at dksX3_notMended_3 13 rfl rfl)
abbrev cX3_pieceOf : ByteArray := prog_9_method_47_code
def yX3_pieceOf : MethodName := ⟨RX3, "pieceOf", "(I)I"⟩
def dkwX3_pieceOf_2 : List UInt8 := [172]
abbrev dktX3_pieceOf_2 : List UInt8 := dkwX3_pieceOf_2 ++ []
def dkwX3_pieceOf_1 : List UInt8 := [163, 0, 23, 42, 180, 0, 16, 16, 42, 28, 96, 46, 158, 0, 5, 28, 172, 132, 2, 1, 167, 255, 233, 2]
abbrev dktX3_pieceOf_1 : List UInt8 := dkwX3_pieceOf_1 ++ dktX3_pieceOf_2
def dkwX3_pieceOf_0 : List UInt8 := [42, 27, 3, 182, 0, 155, 6, 161, 0, 5, 3, 172, 6, 42, 27, 3, 182, 0, 155, 100, 61, 28, 16, 6]
abbrev dktX3_pieceOf_0 : List UInt8 := dkwX3_pieceOf_0 ++ dktX3_pieceOf_1
theorem dksX3_pieceOf_0 : cX3_pieceOf.data.toList.drop 0 = dktX3_pieceOf_0 := by decide +kernel
theorem dksX3_pieceOf_1 : cX3_pieceOf.data.toList.drop 24 = dktX3_pieceOf_1 := dk_seg dksX3_pieceOf_0 24 rfl rfl
theorem dksX3_pieceOf_2 : cX3_pieceOf.data.toList.drop 48 = dktX3_pieceOf_2 := dk_seg dksX3_pieceOf_1 24 rfl rfl
theorem dX3_pieceOf_0 : decode cX3_pieceOf 0 = .ok (.aload_n 0, 1) := dk_42 (dk_at dksX3_pieceOf_0 0 rfl rfl)
theorem dX3_pieceOf_1 : decode cX3_pieceOf 1 = .ok (.iload_n 1, 1) := dk_27 (dk_at dksX3_pieceOf_0 1 rfl rfl)
theorem dX3_pieceOf_2 : decode cX3_pieceOf 2 = .ok (.iconst 0, 1) := dk_3 (dk_at dksX3_pieceOf_0 2 rfl rfl)
theorem dX3_pieceOf_3 : decode cX3_pieceOf 3 = .ok (.invokevirtual 155, 3) := dk_182 0 155 (dk_at dksX3_pieceOf_0 3 rfl rfl)
theorem dX3_pieceOf_6 : decode cX3_pieceOf 6 = .ok (.iconst 3, 1) := dk_6 (dk_at dksX3_pieceOf_0 6 rfl rfl)
theorem dX3_pieceOf_7 : decode cX3_pieceOf 7 = .ok (.if_icmp .lt 5, 3) := dk_161 0 5 (dk_at dksX3_pieceOf_0 7 rfl rfl)
theorem dX3_pieceOf_10 : decode cX3_pieceOf 10 = .ok (.iconst 0, 1) := dk_3 (dk_at dksX3_pieceOf_0 10 rfl rfl)
theorem dX3_pieceOf_11 : decode cX3_pieceOf 11 = .ok (.ireturn, 1) := dk_172 (dk_at dksX3_pieceOf_0 11 rfl rfl)
theorem dX3_pieceOf_12 : decode cX3_pieceOf 12 = .ok (.iconst 3, 1) := dk_6 (dk_at dksX3_pieceOf_0 12 rfl rfl)
theorem dX3_pieceOf_13 : decode cX3_pieceOf 13 = .ok (.aload_n 0, 1) := dk_42 (dk_at dksX3_pieceOf_0 13 rfl rfl)
theorem dX3_pieceOf_14 : decode cX3_pieceOf 14 = .ok (.iload_n 1, 1) := dk_27 (dk_at dksX3_pieceOf_0 14 rfl rfl)
theorem dX3_pieceOf_15 : decode cX3_pieceOf 15 = .ok (.iconst 0, 1) := dk_3 (dk_at dksX3_pieceOf_0 15 rfl rfl)
theorem dX3_pieceOf_16 : decode cX3_pieceOf 16 = .ok (.invokevirtual 155, 3) := dk_182 0 155 (dk_at dksX3_pieceOf_0 16 rfl rfl)
theorem dX3_pieceOf_19 : decode cX3_pieceOf 19 = .ok (.isub, 1) := dk_100 (dk_at dksX3_pieceOf_0 19 rfl rfl)
theorem dX3_pieceOf_20 : decode cX3_pieceOf 20 = .ok (.istore_n 2, 1) := dk_61 (dk_at dksX3_pieceOf_0 20 rfl rfl)
theorem dX3_pieceOf_21 : decode cX3_pieceOf 21 = .ok (.iload_n 2, 1) := dk_28 (dk_at dksX3_pieceOf_0 21 rfl rfl)
theorem dX3_pieceOf_22 : decode cX3_pieceOf 22 = .ok (.bipush 6, 2) := dk_16 6 (dk_at dksX3_pieceOf_0 22 rfl rfl)
theorem dX3_pieceOf_24 : decode cX3_pieceOf 24 = .ok (.if_icmp .gt 23, 3) := dk_163 0 23 (dk_at dksX3_pieceOf_1 0 rfl rfl)
theorem dX3_pieceOf_27 : decode cX3_pieceOf 27 = .ok (.aload_n 0, 1) := dk_42 (dk_at dksX3_pieceOf_1 3 rfl rfl)
theorem dX3_pieceOf_28 : decode cX3_pieceOf 28 = .ok (.getfield 16, 3) := dk_180 0 16 (dk_at dksX3_pieceOf_1 4 rfl rfl)
theorem dX3_pieceOf_31 : decode cX3_pieceOf 31 = .ok (.bipush 42, 2) := dk_16 42 (dk_at dksX3_pieceOf_1 7 rfl rfl)
theorem dX3_pieceOf_33 : decode cX3_pieceOf 33 = .ok (.iload_n 2, 1) := dk_28 (dk_at dksX3_pieceOf_1 9 rfl rfl)
theorem dX3_pieceOf_34 : decode cX3_pieceOf 34 = .ok (.iadd, 1) := dk_96 (dk_at dksX3_pieceOf_1 10 rfl rfl)
theorem dX3_pieceOf_35 : decode cX3_pieceOf 35 = .ok (.iaload, 1) := dk_46 (dk_at dksX3_pieceOf_1 11 rfl rfl)
theorem dX3_pieceOf_36 : decode cX3_pieceOf 36 = .ok (.ifCond .le 5, 3) := dk_158 0 5 (dk_at dksX3_pieceOf_1 12 rfl rfl)
theorem dX3_pieceOf_39 : decode cX3_pieceOf 39 = .ok (.iload_n 2, 1) := dk_28 (dk_at dksX3_pieceOf_1 15 rfl rfl)
theorem dX3_pieceOf_40 : decode cX3_pieceOf 40 = .ok (.ireturn, 1) := dk_172 (dk_at dksX3_pieceOf_1 16 rfl rfl)
theorem dX3_pieceOf_41 : decode cX3_pieceOf 41 = .ok (.iinc 2 1, 3) := dk_132 2 1 (dk_at dksX3_pieceOf_1 17 rfl rfl)
theorem dX3_pieceOf_44 : decode cX3_pieceOf 44 = .ok (.goto (-23), 3) := dk_167 255 233 (dk_at dksX3_pieceOf_1 20 rfl rfl)
theorem dX3_pieceOf_47 : decode cX3_pieceOf 47 = .ok (.iconst (-1), 1) := dk_2 (dk_at dksX3_pieceOf_1 23 rfl rfl)
theorem dX3_pieceOf_48 : decode cX3_pieceOf 48 = .ok (.ireturn, 1) := dk_172 (dk_at dksX3_pieceOf_2 0 rfl rfl)
abbrev cX3_longestNow : ByteArray := prog_9_method_20_code
def yX3_longestNow : MethodName := ⟨RX3, "longestNow", "()I"⟩
def dkwX3_longestNow_1 : List UInt8 := [167, 0, 4, 27, 60, 132, 2, 1, 167, 255, 229, 27, 172]
abbrev dktX3_longestNow_1 : List UInt8 := dkwX3_longestNow_1 ++ []
def dkwX3_longestNow_0 : List UInt8 := [3, 60, 4, 61, 28, 16, 6, 163, 0, 27, 42, 180, 0, 16, 16, 42, 28, 96, 46, 158, 0, 7, 28]
abbrev dktX3_longestNow_0 : List UInt8 := dkwX3_longestNow_0 ++ dktX3_longestNow_1
theorem dksX3_longestNow_0 : cX3_longestNow.data.toList.drop 0 = dktX3_longestNow_0 := by decide +kernel
theorem dksX3_longestNow_1 : cX3_longestNow.data.toList.drop 23 = dktX3_longestNow_1 := dk_seg dksX3_longestNow_0 23 rfl rfl
theorem dX3_longestNow_0 : decode cX3_longestNow 0 = .ok (.iconst 0, 1) := dk_3 (dk_at dksX3_longestNow_0 0 rfl rfl)
theorem dX3_longestNow_1 : decode cX3_longestNow 1 = .ok (.istore_n 1, 1) := dk_60 (dk_at dksX3_longestNow_0 1 rfl rfl)
theorem dX3_longestNow_2 : decode cX3_longestNow 2 = .ok (.iconst 1, 1) := dk_4 (dk_at dksX3_longestNow_0 2 rfl rfl)
theorem dX3_longestNow_3 : decode cX3_longestNow 3 = .ok (.istore_n 2, 1) := dk_61 (dk_at dksX3_longestNow_0 3 rfl rfl)
theorem dX3_longestNow_4 : decode cX3_longestNow 4 = .ok (.iload_n 2, 1) := dk_28 (dk_at dksX3_longestNow_0 4 rfl rfl)
theorem dX3_longestNow_5 : decode cX3_longestNow 5 = .ok (.bipush 6, 2) := dk_16 6 (dk_at dksX3_longestNow_0 5 rfl rfl)
theorem dX3_longestNow_7 : decode cX3_longestNow 7 = .ok (.if_icmp .gt 27, 3) := dk_163 0 27 (dk_at dksX3_longestNow_0 7 rfl rfl)
theorem dX3_longestNow_10 : decode cX3_longestNow 10 = .ok (.aload_n 0, 1) := dk_42 (dk_at dksX3_longestNow_0 10 rfl rfl)
theorem dX3_longestNow_11 : decode cX3_longestNow 11 = .ok (.getfield 16, 3) := dk_180 0 16 (dk_at dksX3_longestNow_0 11 rfl rfl)
theorem dX3_longestNow_14 : decode cX3_longestNow 14 = .ok (.bipush 42, 2) := dk_16 42 (dk_at dksX3_longestNow_0 14 rfl rfl)
theorem dX3_longestNow_16 : decode cX3_longestNow 16 = .ok (.iload_n 2, 1) := dk_28 (dk_at dksX3_longestNow_0 16 rfl rfl)
theorem dX3_longestNow_17 : decode cX3_longestNow 17 = .ok (.iadd, 1) := dk_96 (dk_at dksX3_longestNow_0 17 rfl rfl)
theorem dX3_longestNow_18 : decode cX3_longestNow 18 = .ok (.iaload, 1) := dk_46 (dk_at dksX3_longestNow_0 18 rfl rfl)
theorem dX3_longestNow_19 : decode cX3_longestNow 19 = .ok (.ifCond .le 7, 3) := dk_158 0 7 (dk_at dksX3_longestNow_0 19 rfl rfl)
theorem dX3_longestNow_22 : decode cX3_longestNow 22 = .ok (.iload_n 2, 1) := dk_28 (dk_at dksX3_longestNow_0 22 rfl rfl)
theorem dX3_longestNow_23 : decode cX3_longestNow 23 = .ok (.goto 4, 3) := dk_167 0 4 (dk_at dksX3_longestNow_1 0 rfl rfl)
theorem dX3_longestNow_26 : decode cX3_longestNow 26 = .ok (.iload_n 1, 1) := dk_27 (dk_at dksX3_longestNow_1 3 rfl rfl)
theorem dX3_longestNow_27 : decode cX3_longestNow 27 = .ok (.istore_n 1, 1) := dk_60 (dk_at dksX3_longestNow_1 4 rfl rfl)
theorem dX3_longestNow_28 : decode cX3_longestNow 28 = .ok (.iinc 2 1, 3) := dk_132 2 1 (dk_at dksX3_longestNow_1 5 rfl rfl)
theorem dX3_longestNow_31 : decode cX3_longestNow 31 = .ok (.goto (-27), 3) := dk_167 255 229 (dk_at dksX3_longestNow_1 8 rfl rfl)
theorem dX3_longestNow_34 : decode cX3_longestNow 34 = .ok (.iload_n 1, 1) := dk_27 (dk_at dksX3_longestNow_1 11 rfl rfl)
theorem dX3_longestNow_35 : decode cX3_longestNow 35 = .ok (.ireturn, 1) := dk_172 (dk_at dksX3_longestNow_1 12 rfl rfl)
abbrev cX3_mends : ByteArray := prog_9_method_50_code
def yX3_mends : MethodName := ⟨RX3, "mends", "()I"⟩
def dkwX3_mends_5 : List UInt8 := [3, 182, 0, 117, 27, 172]
abbrev dktX3_mends_5 : List UInt8 := dkwX3_mends_5 ++ []
def dkwX3_mends_4 : List UInt8 := [6, 42, 27, 6, 182, 0, 155, 4, 96, 182, 0, 99, 42, 180, 0, 16, 16, 9, 92, 46, 4, 96, 79, 42]
abbrev dktX3_mends_4 : List UInt8 := dkwX3_mends_4 ++ dktX3_mends_5
def dkwX3_mends_3 : List UInt8 := [182, 0, 155, 28, 96, 182, 0, 99, 42, 27, 4, 3, 182, 0, 99, 42, 27, 5, 3, 182, 0, 99, 42, 27]
abbrev dktX3_mends_3 : List UInt8 := dkwX3_mends_3 ++ dktX3_mends_4
def dkwX3_mends_2 : List UInt8 := [158, 0, 16, 42, 180, 0, 16, 16, 42, 28, 96, 92, 46, 4, 100, 79, 42, 27, 3, 42, 27, 3]
abbrev dktX3_mends_2 : List UInt8 := dkwX3_mends_2 ++ dktX3_mends_3
def dkwX3_mends_1 : List UInt8 := [42, 3, 182, 0, 167, 42, 180, 0, 16, 16, 6, 92, 46, 4, 96, 79, 132, 3, 255, 167, 255, 233, 28]
abbrev dktX3_mends_1 : List UInt8 := dkwX3_mends_1 ++ dktX3_mends_2
def dkwX3_mends_0 : List UInt8 := [42, 180, 0, 16, 16, 12, 46, 60, 42, 27, 182, 0, 158, 61, 42, 27, 182, 0, 124, 62, 29, 158, 0, 25]
abbrev dktX3_mends_0 : List UInt8 := dkwX3_mends_0 ++ dktX3_mends_1
theorem dksX3_mends_0 : cX3_mends.data.toList.drop 0 = dktX3_mends_0 := by decide +kernel
theorem dksX3_mends_1 : cX3_mends.data.toList.drop 24 = dktX3_mends_1 := dk_seg dksX3_mends_0 24 rfl rfl
theorem dksX3_mends_2 : cX3_mends.data.toList.drop 47 = dktX3_mends_2 := dk_seg dksX3_mends_1 23 rfl rfl
theorem dksX3_mends_3 : cX3_mends.data.toList.drop 69 = dktX3_mends_3 := dk_seg dksX3_mends_2 22 rfl rfl
theorem dksX3_mends_4 : cX3_mends.data.toList.drop 93 = dktX3_mends_4 := dk_seg dksX3_mends_3 24 rfl rfl
theorem dksX3_mends_5 : cX3_mends.data.toList.drop 117 = dktX3_mends_5 := dk_seg dksX3_mends_4 24 rfl rfl
theorem dX3_mends_0 : decode cX3_mends 0 = .ok (.aload_n 0, 1) := dk_42 (dk_at dksX3_mends_0 0 rfl rfl)
theorem dX3_mends_1 : decode cX3_mends 1 = .ok (.getfield 16, 3) := dk_180 0 16 (dk_at dksX3_mends_0 1 rfl rfl)
theorem dX3_mends_4 : decode cX3_mends 4 = .ok (.bipush 12, 2) := dk_16 12 (dk_at dksX3_mends_0 4 rfl rfl)
theorem dX3_mends_6 : decode cX3_mends 6 = .ok (.iaload, 1) := dk_46 (dk_at dksX3_mends_0 6 rfl rfl)
theorem dX3_mends_7 : decode cX3_mends 7 = .ok (.istore_n 1, 1) := dk_60 (dk_at dksX3_mends_0 7 rfl rfl)
theorem dX3_mends_8 : decode cX3_mends 8 = .ok (.aload_n 0, 1) := dk_42 (dk_at dksX3_mends_0 8 rfl rfl)
theorem dX3_mends_9 : decode cX3_mends 9 = .ok (.iload_n 1, 1) := dk_27 (dk_at dksX3_mends_0 9 rfl rfl)
theorem dX3_mends_10 : decode cX3_mends 10 = .ok (.invokevirtual 158, 3) := dk_182 0 158 (dk_at dksX3_mends_0 10 rfl rfl)
theorem dX3_mends_13 : decode cX3_mends 13 = .ok (.istore_n 2, 1) := dk_61 (dk_at dksX3_mends_0 13 rfl rfl)
theorem dX3_mends_14 : decode cX3_mends 14 = .ok (.aload_n 0, 1) := dk_42 (dk_at dksX3_mends_0 14 rfl rfl)
theorem dX3_mends_15 : decode cX3_mends 15 = .ok (.iload_n 1, 1) := dk_27 (dk_at dksX3_mends_0 15 rfl rfl)
theorem dX3_mends_16 : decode cX3_mends 16 = .ok (.invokevirtual 124, 3) := dk_182 0 124 (dk_at dksX3_mends_0 16 rfl rfl)
theorem dX3_mends_19 : decode cX3_mends 19 = .ok (.istore_n 3, 1) := dk_62 (dk_at dksX3_mends_0 19 rfl rfl)
theorem dX3_mends_20 : decode cX3_mends 20 = .ok (.iload_n 3, 1) := dk_29 (dk_at dksX3_mends_0 20 rfl rfl)
theorem dX3_mends_21 : decode cX3_mends 21 = .ok (.ifCond .le 25, 3) := dk_158 0 25 (dk_at dksX3_mends_0 21 rfl rfl)
theorem dX3_mends_24 : decode cX3_mends 24 = .ok (.aload_n 0, 1) := dk_42 (dk_at dksX3_mends_1 0 rfl rfl)
theorem dX3_mends_25 : decode cX3_mends 25 = .ok (.iconst 0, 1) := dk_3 (dk_at dksX3_mends_1 1 rfl rfl)
theorem dX3_mends_26 : decode cX3_mends 26 = .ok (.invokevirtual 167, 3) := dk_182 0 167 (dk_at dksX3_mends_1 2 rfl rfl)
theorem dX3_mends_29 : decode cX3_mends 29 = .ok (.aload_n 0, 1) := dk_42 (dk_at dksX3_mends_1 5 rfl rfl)
theorem dX3_mends_30 : decode cX3_mends 30 = .ok (.getfield 16, 3) := dk_180 0 16 (dk_at dksX3_mends_1 6 rfl rfl)
theorem dX3_mends_33 : decode cX3_mends 33 = .ok (.bipush 6, 2) := dk_16 6 (dk_at dksX3_mends_1 9 rfl rfl)
theorem dX3_mends_35 : decode cX3_mends 35 = .ok (.dup2, 1) := dk_92 (dk_at dksX3_mends_1 11 rfl rfl)
theorem dX3_mends_36 : decode cX3_mends 36 = .ok (.iaload, 1) := dk_46 (dk_at dksX3_mends_1 12 rfl rfl)
theorem dX3_mends_37 : decode cX3_mends 37 = .ok (.iconst 1, 1) := dk_4 (dk_at dksX3_mends_1 13 rfl rfl)
theorem dX3_mends_38 : decode cX3_mends 38 = .ok (.iadd, 1) := dk_96 (dk_at dksX3_mends_1 14 rfl rfl)
theorem dX3_mends_39 : decode cX3_mends 39 = .ok (.iastore, 1) := dk_79 (dk_at dksX3_mends_1 15 rfl rfl)
theorem dX3_mends_40 : decode cX3_mends 40 = .ok (.iinc 3 (-1), 3) := dk_132 3 255 (dk_at dksX3_mends_1 16 rfl rfl)
theorem dX3_mends_43 : decode cX3_mends 43 = .ok (.goto (-23), 3) := dk_167 255 233 (dk_at dksX3_mends_1 19 rfl rfl)
theorem dX3_mends_46 : decode cX3_mends 46 = .ok (.iload_n 2, 1) := dk_28 (dk_at dksX3_mends_1 22 rfl rfl)
theorem dX3_mends_47 : decode cX3_mends 47 = .ok (.ifCond .le 16, 3) := dk_158 0 16 (dk_at dksX3_mends_2 0 rfl rfl)
theorem dX3_mends_50 : decode cX3_mends 50 = .ok (.aload_n 0, 1) := dk_42 (dk_at dksX3_mends_2 3 rfl rfl)
theorem dX3_mends_51 : decode cX3_mends 51 = .ok (.getfield 16, 3) := dk_180 0 16 (dk_at dksX3_mends_2 4 rfl rfl)
theorem dX3_mends_54 : decode cX3_mends 54 = .ok (.bipush 42, 2) := dk_16 42 (dk_at dksX3_mends_2 7 rfl rfl)
theorem dX3_mends_56 : decode cX3_mends 56 = .ok (.iload_n 2, 1) := dk_28 (dk_at dksX3_mends_2 9 rfl rfl)
theorem dX3_mends_57 : decode cX3_mends 57 = .ok (.iadd, 1) := dk_96 (dk_at dksX3_mends_2 10 rfl rfl)
theorem dX3_mends_58 : decode cX3_mends 58 = .ok (.dup2, 1) := dk_92 (dk_at dksX3_mends_2 11 rfl rfl)
theorem dX3_mends_59 : decode cX3_mends 59 = .ok (.iaload, 1) := dk_46 (dk_at dksX3_mends_2 12 rfl rfl)
theorem dX3_mends_60 : decode cX3_mends 60 = .ok (.iconst 1, 1) := dk_4 (dk_at dksX3_mends_2 13 rfl rfl)
theorem dX3_mends_61 : decode cX3_mends 61 = .ok (.isub, 1) := dk_100 (dk_at dksX3_mends_2 14 rfl rfl)
theorem dX3_mends_62 : decode cX3_mends 62 = .ok (.iastore, 1) := dk_79 (dk_at dksX3_mends_2 15 rfl rfl)
theorem dX3_mends_63 : decode cX3_mends 63 = .ok (.aload_n 0, 1) := dk_42 (dk_at dksX3_mends_2 16 rfl rfl)
theorem dX3_mends_64 : decode cX3_mends 64 = .ok (.iload_n 1, 1) := dk_27 (dk_at dksX3_mends_2 17 rfl rfl)
theorem dX3_mends_65 : decode cX3_mends 65 = .ok (.iconst 0, 1) := dk_3 (dk_at dksX3_mends_2 18 rfl rfl)
theorem dX3_mends_66 : decode cX3_mends 66 = .ok (.aload_n 0, 1) := dk_42 (dk_at dksX3_mends_2 19 rfl rfl)
theorem dX3_mends_67 : decode cX3_mends 67 = .ok (.iload_n 1, 1) := dk_27 (dk_at dksX3_mends_2 20 rfl rfl)
theorem dX3_mends_68 : decode cX3_mends 68 = .ok (.iconst 0, 1) := dk_3 (dk_at dksX3_mends_2 21 rfl rfl)
theorem dX3_mends_69 : decode cX3_mends 69 = .ok (.invokevirtual 155, 3) := dk_182 0 155 (dk_at dksX3_mends_3 0 rfl rfl)
theorem dX3_mends_72 : decode cX3_mends 72 = .ok (.iload_n 2, 1) := dk_28 (dk_at dksX3_mends_3 3 rfl rfl)
theorem dX3_mends_73 : decode cX3_mends 73 = .ok (.iadd, 1) := dk_96 (dk_at dksX3_mends_3 4 rfl rfl)
theorem dX3_mends_74 : decode cX3_mends 74 = .ok (.invokevirtual 99, 3) := dk_182 0 99 (dk_at dksX3_mends_3 5 rfl rfl)
theorem dX3_mends_77 : decode cX3_mends 77 = .ok (.aload_n 0, 1) := dk_42 (dk_at dksX3_mends_3 8 rfl rfl)
theorem dX3_mends_78 : decode cX3_mends 78 = .ok (.iload_n 1, 1) := dk_27 (dk_at dksX3_mends_3 9 rfl rfl)
theorem dX3_mends_79 : decode cX3_mends 79 = .ok (.iconst 1, 1) := dk_4 (dk_at dksX3_mends_3 10 rfl rfl)
theorem dX3_mends_80 : decode cX3_mends 80 = .ok (.iconst 0, 1) := dk_3 (dk_at dksX3_mends_3 11 rfl rfl)
theorem dX3_mends_81 : decode cX3_mends 81 = .ok (.invokevirtual 99, 3) := dk_182 0 99 (dk_at dksX3_mends_3 12 rfl rfl)
theorem dX3_mends_84 : decode cX3_mends 84 = .ok (.aload_n 0, 1) := dk_42 (dk_at dksX3_mends_3 15 rfl rfl)
theorem dX3_mends_85 : decode cX3_mends 85 = .ok (.iload_n 1, 1) := dk_27 (dk_at dksX3_mends_3 16 rfl rfl)
theorem dX3_mends_86 : decode cX3_mends 86 = .ok (.iconst 2, 1) := dk_5 (dk_at dksX3_mends_3 17 rfl rfl)
theorem dX3_mends_87 : decode cX3_mends 87 = .ok (.iconst 0, 1) := dk_3 (dk_at dksX3_mends_3 18 rfl rfl)
theorem dX3_mends_88 : decode cX3_mends 88 = .ok (.invokevirtual 99, 3) := dk_182 0 99 (dk_at dksX3_mends_3 19 rfl rfl)
theorem dX3_mends_91 : decode cX3_mends 91 = .ok (.aload_n 0, 1) := dk_42 (dk_at dksX3_mends_3 22 rfl rfl)
theorem dX3_mends_92 : decode cX3_mends 92 = .ok (.iload_n 1, 1) := dk_27 (dk_at dksX3_mends_3 23 rfl rfl)
theorem dX3_mends_93 : decode cX3_mends 93 = .ok (.iconst 3, 1) := dk_6 (dk_at dksX3_mends_4 0 rfl rfl)
theorem dX3_mends_94 : decode cX3_mends 94 = .ok (.aload_n 0, 1) := dk_42 (dk_at dksX3_mends_4 1 rfl rfl)
theorem dX3_mends_95 : decode cX3_mends 95 = .ok (.iload_n 1, 1) := dk_27 (dk_at dksX3_mends_4 2 rfl rfl)
theorem dX3_mends_96 : decode cX3_mends 96 = .ok (.iconst 3, 1) := dk_6 (dk_at dksX3_mends_4 3 rfl rfl)
theorem dX3_mends_97 : decode cX3_mends 97 = .ok (.invokevirtual 155, 3) := dk_182 0 155 (dk_at dksX3_mends_4 4 rfl rfl)
theorem dX3_mends_100 : decode cX3_mends 100 = .ok (.iconst 1, 1) := dk_4 (dk_at dksX3_mends_4 7 rfl rfl)
theorem dX3_mends_101 : decode cX3_mends 101 = .ok (.iadd, 1) := dk_96 (dk_at dksX3_mends_4 8 rfl rfl)
theorem dX3_mends_102 : decode cX3_mends 102 = .ok (.invokevirtual 99, 3) := dk_182 0 99 (dk_at dksX3_mends_4 9 rfl rfl)
theorem dX3_mends_105 : decode cX3_mends 105 = .ok (.aload_n 0, 1) := dk_42 (dk_at dksX3_mends_4 12 rfl rfl)
theorem dX3_mends_106 : decode cX3_mends 106 = .ok (.getfield 16, 3) := dk_180 0 16 (dk_at dksX3_mends_4 13 rfl rfl)
theorem dX3_mends_109 : decode cX3_mends 109 = .ok (.bipush 9, 2) := dk_16 9 (dk_at dksX3_mends_4 16 rfl rfl)
theorem dX3_mends_111 : decode cX3_mends 111 = .ok (.dup2, 1) := dk_92 (dk_at dksX3_mends_4 18 rfl rfl)
theorem dX3_mends_112 : decode cX3_mends 112 = .ok (.iaload, 1) := dk_46 (dk_at dksX3_mends_4 19 rfl rfl)
theorem dX3_mends_113 : decode cX3_mends 113 = .ok (.iconst 1, 1) := dk_4 (dk_at dksX3_mends_4 20 rfl rfl)
theorem dX3_mends_114 : decode cX3_mends 114 = .ok (.iadd, 1) := dk_96 (dk_at dksX3_mends_4 21 rfl rfl)
theorem dX3_mends_115 : decode cX3_mends 115 = .ok (.iastore, 1) := dk_79 (dk_at dksX3_mends_4 22 rfl rfl)
theorem dX3_mends_116 : decode cX3_mends 116 = .ok (.aload_n 0, 1) := dk_42 (dk_at dksX3_mends_4 23 rfl rfl)
theorem dX3_mends_117 : decode cX3_mends 117 = .ok (.iconst 0, 1) := dk_3 (dk_at dksX3_mends_5 0 rfl rfl)
theorem dX3_mends_118 : decode cX3_mends 118 = .ok (.invokevirtual 117, 3) := dk_182 0 117 (dk_at dksX3_mends_5 1 rfl rfl)
theorem dX3_mends_121 : decode cX3_mends 121 = .ok (.iload_n 1, 1) := dk_27 (dk_at dksX3_mends_5 4 rfl rfl)
theorem dX3_mends_122 : decode cX3_mends 122 = .ok (.ireturn, 1) := dk_172 (dk_at dksX3_mends_5 5 rfl rfl)
abbrev cX3_lumpGoes : ByteArray := prog_9_method_35_code
def yX3_lumpGoes : MethodName := ⟨RX3, "lumpGoes", "(I)V"⟩
def dkwX3_lumpGoes_2 : List UInt8 := [167, 255, 223, 42, 180, 0, 16, 16, 22, 42, 180, 0, 16, 7, 46, 96, 3, 79, 177]
abbrev dktX3_lumpGoes_2 : List UInt8 := dkwX3_lumpGoes_2 ++ []
def dkwX3_lumpGoes_1 : List UInt8 := [180, 0, 16, 16, 22, 28, 96, 42, 180, 0, 16, 16, 22, 28, 96, 4, 96, 46, 79, 132, 2, 1]
abbrev dktX3_lumpGoes_1 : List UInt8 := dkwX3_lumpGoes_1 ++ dktX3_lumpGoes_2
def dkwX3_lumpGoes_0 : List UInt8 := [42, 180, 0, 16, 7, 92, 46, 4, 100, 79, 27, 61, 28, 42, 180, 0, 16, 7, 46, 162, 0, 29, 42]
abbrev dktX3_lumpGoes_0 : List UInt8 := dkwX3_lumpGoes_0 ++ dktX3_lumpGoes_1
theorem dksX3_lumpGoes_0 : cX3_lumpGoes.data.toList.drop 0 = dktX3_lumpGoes_0 := by decide +kernel
theorem dksX3_lumpGoes_1 : cX3_lumpGoes.data.toList.drop 23 = dktX3_lumpGoes_1 := dk_seg dksX3_lumpGoes_0 23 rfl rfl
theorem dksX3_lumpGoes_2 : cX3_lumpGoes.data.toList.drop 45 = dktX3_lumpGoes_2 := dk_seg dksX3_lumpGoes_1 22 rfl rfl
theorem dX3_lumpGoes_0 : decode cX3_lumpGoes 0 = .ok (.aload_n 0, 1) := dk_42 (dk_at dksX3_lumpGoes_0 0 rfl rfl)
theorem dX3_lumpGoes_1 : decode cX3_lumpGoes 1 = .ok (.getfield 16, 3) := dk_180 0 16 (dk_at dksX3_lumpGoes_0 1 rfl rfl)
theorem dX3_lumpGoes_4 : decode cX3_lumpGoes 4 = .ok (.iconst 4, 1) := dk_7 (dk_at dksX3_lumpGoes_0 4 rfl rfl)
theorem dX3_lumpGoes_5 : decode cX3_lumpGoes 5 = .ok (.dup2, 1) := dk_92 (dk_at dksX3_lumpGoes_0 5 rfl rfl)
theorem dX3_lumpGoes_6 : decode cX3_lumpGoes 6 = .ok (.iaload, 1) := dk_46 (dk_at dksX3_lumpGoes_0 6 rfl rfl)
theorem dX3_lumpGoes_7 : decode cX3_lumpGoes 7 = .ok (.iconst 1, 1) := dk_4 (dk_at dksX3_lumpGoes_0 7 rfl rfl)
theorem dX3_lumpGoes_8 : decode cX3_lumpGoes 8 = .ok (.isub, 1) := dk_100 (dk_at dksX3_lumpGoes_0 8 rfl rfl)
theorem dX3_lumpGoes_9 : decode cX3_lumpGoes 9 = .ok (.iastore, 1) := dk_79 (dk_at dksX3_lumpGoes_0 9 rfl rfl)
theorem dX3_lumpGoes_10 : decode cX3_lumpGoes 10 = .ok (.iload_n 1, 1) := dk_27 (dk_at dksX3_lumpGoes_0 10 rfl rfl)
theorem dX3_lumpGoes_11 : decode cX3_lumpGoes 11 = .ok (.istore_n 2, 1) := dk_61 (dk_at dksX3_lumpGoes_0 11 rfl rfl)
theorem dX3_lumpGoes_12 : decode cX3_lumpGoes 12 = .ok (.iload_n 2, 1) := dk_28 (dk_at dksX3_lumpGoes_0 12 rfl rfl)
theorem dX3_lumpGoes_13 : decode cX3_lumpGoes 13 = .ok (.aload_n 0, 1) := dk_42 (dk_at dksX3_lumpGoes_0 13 rfl rfl)
theorem dX3_lumpGoes_14 : decode cX3_lumpGoes 14 = .ok (.getfield 16, 3) := dk_180 0 16 (dk_at dksX3_lumpGoes_0 14 rfl rfl)
theorem dX3_lumpGoes_17 : decode cX3_lumpGoes 17 = .ok (.iconst 4, 1) := dk_7 (dk_at dksX3_lumpGoes_0 17 rfl rfl)
theorem dX3_lumpGoes_18 : decode cX3_lumpGoes 18 = .ok (.iaload, 1) := dk_46 (dk_at dksX3_lumpGoes_0 18 rfl rfl)
theorem dX3_lumpGoes_19 : decode cX3_lumpGoes 19 = .ok (.if_icmp .ge 29, 3) := dk_162 0 29 (dk_at dksX3_lumpGoes_0 19 rfl rfl)
theorem dX3_lumpGoes_22 : decode cX3_lumpGoes 22 = .ok (.aload_n 0, 1) := dk_42 (dk_at dksX3_lumpGoes_0 22 rfl rfl)
theorem dX3_lumpGoes_23 : decode cX3_lumpGoes 23 = .ok (.getfield 16, 3) := dk_180 0 16 (dk_at dksX3_lumpGoes_1 0 rfl rfl)
theorem dX3_lumpGoes_26 : decode cX3_lumpGoes 26 = .ok (.bipush 22, 2) := dk_16 22 (dk_at dksX3_lumpGoes_1 3 rfl rfl)
theorem dX3_lumpGoes_28 : decode cX3_lumpGoes 28 = .ok (.iload_n 2, 1) := dk_28 (dk_at dksX3_lumpGoes_1 5 rfl rfl)
theorem dX3_lumpGoes_29 : decode cX3_lumpGoes 29 = .ok (.iadd, 1) := dk_96 (dk_at dksX3_lumpGoes_1 6 rfl rfl)
theorem dX3_lumpGoes_30 : decode cX3_lumpGoes 30 = .ok (.aload_n 0, 1) := dk_42 (dk_at dksX3_lumpGoes_1 7 rfl rfl)
theorem dX3_lumpGoes_31 : decode cX3_lumpGoes 31 = .ok (.getfield 16, 3) := dk_180 0 16 (dk_at dksX3_lumpGoes_1 8 rfl rfl)
theorem dX3_lumpGoes_34 : decode cX3_lumpGoes 34 = .ok (.bipush 22, 2) := dk_16 22 (dk_at dksX3_lumpGoes_1 11 rfl rfl)
theorem dX3_lumpGoes_36 : decode cX3_lumpGoes 36 = .ok (.iload_n 2, 1) := dk_28 (dk_at dksX3_lumpGoes_1 13 rfl rfl)
theorem dX3_lumpGoes_37 : decode cX3_lumpGoes 37 = .ok (.iadd, 1) := dk_96 (dk_at dksX3_lumpGoes_1 14 rfl rfl)
theorem dX3_lumpGoes_38 : decode cX3_lumpGoes 38 = .ok (.iconst 1, 1) := dk_4 (dk_at dksX3_lumpGoes_1 15 rfl rfl)
theorem dX3_lumpGoes_39 : decode cX3_lumpGoes 39 = .ok (.iadd, 1) := dk_96 (dk_at dksX3_lumpGoes_1 16 rfl rfl)
theorem dX3_lumpGoes_40 : decode cX3_lumpGoes 40 = .ok (.iaload, 1) := dk_46 (dk_at dksX3_lumpGoes_1 17 rfl rfl)
theorem dX3_lumpGoes_41 : decode cX3_lumpGoes 41 = .ok (.iastore, 1) := dk_79 (dk_at dksX3_lumpGoes_1 18 rfl rfl)
theorem dX3_lumpGoes_42 : decode cX3_lumpGoes 42 = .ok (.iinc 2 1, 3) := dk_132 2 1 (dk_at dksX3_lumpGoes_1 19 rfl rfl)
theorem dX3_lumpGoes_45 : decode cX3_lumpGoes 45 = .ok (.goto (-33), 3) := dk_167 255 223 (dk_at dksX3_lumpGoes_2 0 rfl rfl)
theorem dX3_lumpGoes_48 : decode cX3_lumpGoes 48 = .ok (.aload_n 0, 1) := dk_42 (dk_at dksX3_lumpGoes_2 3 rfl rfl)
theorem dX3_lumpGoes_49 : decode cX3_lumpGoes 49 = .ok (.getfield 16, 3) := dk_180 0 16 (dk_at dksX3_lumpGoes_2 4 rfl rfl)
theorem dX3_lumpGoes_52 : decode cX3_lumpGoes 52 = .ok (.bipush 22, 2) := dk_16 22 (dk_at dksX3_lumpGoes_2 7 rfl rfl)
theorem dX3_lumpGoes_54 : decode cX3_lumpGoes 54 = .ok (.aload_n 0, 1) := dk_42 (dk_at dksX3_lumpGoes_2 9 rfl rfl)
theorem dX3_lumpGoes_55 : decode cX3_lumpGoes 55 = .ok (.getfield 16, 3) := dk_180 0 16 (dk_at dksX3_lumpGoes_2 10 rfl rfl)
theorem dX3_lumpGoes_58 : decode cX3_lumpGoes 58 = .ok (.iconst 4, 1) := dk_7 (dk_at dksX3_lumpGoes_2 13 rfl rfl)
theorem dX3_lumpGoes_59 : decode cX3_lumpGoes 59 = .ok (.iaload, 1) := dk_46 (dk_at dksX3_lumpGoes_2 14 rfl rfl)
theorem dX3_lumpGoes_60 : decode cX3_lumpGoes 60 = .ok (.iadd, 1) := dk_96 (dk_at dksX3_lumpGoes_2 15 rfl rfl)
theorem dX3_lumpGoes_61 : decode cX3_lumpGoes 61 = .ok (.iconst 0, 1) := dk_3 (dk_at dksX3_lumpGoes_2 16 rfl rfl)
theorem dX3_lumpGoes_62 : decode cX3_lumpGoes 62 = .ok (.iastore, 1) := dk_79 (dk_at dksX3_lumpGoes_2 17 rfl rfl)
theorem dX3_lumpGoes_63 : decode cX3_lumpGoes 63 = .ok (.return_, 1) := dk_177 (dk_at dksX3_lumpGoes_2 18 rfl rfl)
abbrev cX3_smoke : ByteArray := prog_9_method_56_code
def yX3_smoke : MethodName := ⟨RX3, "smoke", "(I)I"⟩
def dkwX3_smoke_1 : List UInt8 := [182, 0, 185, 172]
abbrev dktX3_smoke_1 : List UInt8 := dkwX3_smoke_1 ++ []
def dkwX3_smoke_0 : List UInt8 := [42, 3, 181, 0, 42, 42, 27, 182, 0, 182, 153, 0, 8, 42, 182, 0, 92, 172, 42, 182, 0, 96, 42, 27]
abbrev dktX3_smoke_0 : List UInt8 := dkwX3_smoke_0 ++ dktX3_smoke_1
theorem dksX3_smoke_0 : cX3_smoke.data.toList.drop 0 = dktX3_smoke_0 := by decide +kernel
theorem dksX3_smoke_1 : cX3_smoke.data.toList.drop 24 = dktX3_smoke_1 := dk_seg dksX3_smoke_0 24 rfl rfl
theorem dX3_smoke_0 : decode cX3_smoke 0 = .ok (.aload_n 0, 1) := dk_42 (dk_at dksX3_smoke_0 0 rfl rfl)
theorem dX3_smoke_1 : decode cX3_smoke 1 = .ok (.iconst 0, 1) := dk_3 (dk_at dksX3_smoke_0 1 rfl rfl)
theorem dX3_smoke_2 : decode cX3_smoke 2 = .ok (.putfield 42, 3) := dk_181 0 42 (dk_at dksX3_smoke_0 2 rfl rfl)
theorem dX3_smoke_5 : decode cX3_smoke 5 = .ok (.aload_n 0, 1) := dk_42 (dk_at dksX3_smoke_0 5 rfl rfl)
theorem dX3_smoke_6 : decode cX3_smoke 6 = .ok (.iload_n 1, 1) := dk_27 (dk_at dksX3_smoke_0 6 rfl rfl)
theorem dX3_smoke_7 : decode cX3_smoke 7 = .ok (.invokevirtual 182, 3) := dk_182 0 182 (dk_at dksX3_smoke_0 7 rfl rfl)
theorem dX3_smoke_10 : decode cX3_smoke 10 = .ok (.ifCond .eq 8, 3) := dk_153 0 8 (dk_at dksX3_smoke_0 10 rfl rfl)
theorem dX3_smoke_13 : decode cX3_smoke 13 = .ok (.aload_n 0, 1) := dk_42 (dk_at dksX3_smoke_0 13 rfl rfl)
theorem dX3_smoke_14 : decode cX3_smoke 14 = .ok (.invokevirtual 92, 3) := dk_182 0 92 (dk_at dksX3_smoke_0 14 rfl rfl)
theorem dX3_smoke_17 : decode cX3_smoke 17 = .ok (.ireturn, 1) := dk_172 (dk_at dksX3_smoke_0 17 rfl rfl)
theorem dX3_smoke_18 : decode cX3_smoke 18 = .ok (.aload_n 0, 1) := dk_42 (dk_at dksX3_smoke_0 18 rfl rfl)
theorem dX3_smoke_19 : decode cX3_smoke 19 = .ok (.invokevirtual 96, 3) := dk_182 0 96 (dk_at dksX3_smoke_0 19 rfl rfl)
theorem dX3_smoke_22 : decode cX3_smoke 22 = .ok (.aload_n 0, 1) := dk_42 (dk_at dksX3_smoke_0 22 rfl rfl)
theorem dX3_smoke_23 : decode cX3_smoke 23 = .ok (.iload_n 1, 1) := dk_27 (dk_at dksX3_smoke_0 23 rfl rfl)
theorem dX3_smoke_24 : decode cX3_smoke 24 = .ok (.invokevirtual 185, 3) := dk_182 0 185 (dk_at dksX3_smoke_1 0 rfl rfl)
theorem dX3_smoke_27 : decode cX3_smoke 27 = .ok (.ireturn, 1) := dk_172 (dk_at dksX3_smoke_1 3 rfl rfl)
abbrev cX3_notSmoke : ByteArray := prog_9_method_53_code
def yX3_notSmoke : MethodName := ⟨RX3, "notSmoke", "(I)I"⟩
def dkwX3_notSmoke_2 : List UInt8 := [182, 0, 176, 182, 0, 85, 167, 0, 4, 3, 172]
abbrev dktX3_notSmoke_2 : List UInt8 := dkwX3_notSmoke_2 ++ []
def dkwX3_notSmoke_1 : List UInt8 := [8, 42, 27, 182, 0, 105, 182, 0, 85, 172, 42, 27, 182, 0, 176, 155, 0, 17, 42, 16, 12, 42, 27]
abbrev dktX3_notSmoke_1 : List UInt8 := dkwX3_notSmoke_1 ++ dktX3_notSmoke_2
def dkwX3_notSmoke_0 : List UInt8 := [42, 27, 182, 0, 102, 154, 0, 10, 42, 4, 27, 182, 0, 85, 172, 42, 27, 182, 0, 105, 155, 0, 14, 42]
abbrev dktX3_notSmoke_0 : List UInt8 := dkwX3_notSmoke_0 ++ dktX3_notSmoke_1
theorem dksX3_notSmoke_0 : cX3_notSmoke.data.toList.drop 0 = dktX3_notSmoke_0 := by decide +kernel
theorem dksX3_notSmoke_1 : cX3_notSmoke.data.toList.drop 24 = dktX3_notSmoke_1 := dk_seg dksX3_notSmoke_0 24 rfl rfl
theorem dksX3_notSmoke_2 : cX3_notSmoke.data.toList.drop 47 = dktX3_notSmoke_2 := dk_seg dksX3_notSmoke_1 23 rfl rfl
theorem dX3_notSmoke_0 : decode cX3_notSmoke 0 = .ok (.aload_n 0, 1) := dk_42 (dk_at dksX3_notSmoke_0 0 rfl rfl)
theorem dX3_notSmoke_1 : decode cX3_notSmoke 1 = .ok (.iload_n 1, 1) := dk_27 (dk_at dksX3_notSmoke_0 1 rfl rfl)
theorem dX3_notSmoke_2 : decode cX3_notSmoke 2 = .ok (.invokevirtual 102, 3) := dk_182 0 102 (dk_at dksX3_notSmoke_0 2 rfl rfl)
theorem dX3_notSmoke_5 : decode cX3_notSmoke 5 = .ok (.ifCond .ne 10, 3) := dk_154 0 10 (dk_at dksX3_notSmoke_0 5 rfl rfl)
theorem dX3_notSmoke_8 : decode cX3_notSmoke 8 = .ok (.aload_n 0, 1) := dk_42 (dk_at dksX3_notSmoke_0 8 rfl rfl)
theorem dX3_notSmoke_9 : decode cX3_notSmoke 9 = .ok (.iconst 1, 1) := dk_4 (dk_at dksX3_notSmoke_0 9 rfl rfl)
theorem dX3_notSmoke_10 : decode cX3_notSmoke 10 = .ok (.iload_n 1, 1) := dk_27 (dk_at dksX3_notSmoke_0 10 rfl rfl)
theorem dX3_notSmoke_11 : decode cX3_notSmoke 11 = .ok (.invokevirtual 85, 3) := dk_182 0 85 (dk_at dksX3_notSmoke_0 11 rfl rfl)
theorem dX3_notSmoke_14 : decode cX3_notSmoke 14 = .ok (.ireturn, 1) := dk_172 (dk_at dksX3_notSmoke_0 14 rfl rfl)
theorem dX3_notSmoke_15 : decode cX3_notSmoke 15 = .ok (.aload_n 0, 1) := dk_42 (dk_at dksX3_notSmoke_0 15 rfl rfl)
theorem dX3_notSmoke_16 : decode cX3_notSmoke 16 = .ok (.iload_n 1, 1) := dk_27 (dk_at dksX3_notSmoke_0 16 rfl rfl)
theorem dX3_notSmoke_17 : decode cX3_notSmoke 17 = .ok (.invokevirtual 105, 3) := dk_182 0 105 (dk_at dksX3_notSmoke_0 17 rfl rfl)
theorem dX3_notSmoke_20 : decode cX3_notSmoke 20 = .ok (.ifCond .lt 14, 3) := dk_155 0 14 (dk_at dksX3_notSmoke_0 20 rfl rfl)
theorem dX3_notSmoke_23 : decode cX3_notSmoke 23 = .ok (.aload_n 0, 1) := dk_42 (dk_at dksX3_notSmoke_0 23 rfl rfl)
theorem dX3_notSmoke_24 : decode cX3_notSmoke 24 = .ok (.iconst 5, 1) := dk_8 (dk_at dksX3_notSmoke_1 0 rfl rfl)
theorem dX3_notSmoke_25 : decode cX3_notSmoke 25 = .ok (.aload_n 0, 1) := dk_42 (dk_at dksX3_notSmoke_1 1 rfl rfl)
theorem dX3_notSmoke_26 : decode cX3_notSmoke 26 = .ok (.iload_n 1, 1) := dk_27 (dk_at dksX3_notSmoke_1 2 rfl rfl)
theorem dX3_notSmoke_27 : decode cX3_notSmoke 27 = .ok (.invokevirtual 105, 3) := dk_182 0 105 (dk_at dksX3_notSmoke_1 3 rfl rfl)
theorem dX3_notSmoke_30 : decode cX3_notSmoke 30 = .ok (.invokevirtual 85, 3) := dk_182 0 85 (dk_at dksX3_notSmoke_1 6 rfl rfl)
theorem dX3_notSmoke_33 : decode cX3_notSmoke 33 = .ok (.ireturn, 1) := dk_172 (dk_at dksX3_notSmoke_1 9 rfl rfl)
theorem dX3_notSmoke_34 : decode cX3_notSmoke 34 = .ok (.aload_n 0, 1) := dk_42 (dk_at dksX3_notSmoke_1 10 rfl rfl)
theorem dX3_notSmoke_35 : decode cX3_notSmoke 35 = .ok (.iload_n 1, 1) := dk_27 (dk_at dksX3_notSmoke_1 11 rfl rfl)
theorem dX3_notSmoke_36 : decode cX3_notSmoke 36 = .ok (.invokevirtual 176, 3) := dk_182 0 176 (dk_at dksX3_notSmoke_1 12 rfl rfl)
theorem dX3_notSmoke_39 : decode cX3_notSmoke 39 = .ok (.ifCond .lt 17, 3) := dk_155 0 17 (dk_at dksX3_notSmoke_1 15 rfl rfl)
theorem dX3_notSmoke_42 : decode cX3_notSmoke 42 = .ok (.aload_n 0, 1) := dk_42 (dk_at dksX3_notSmoke_1 18 rfl rfl)
theorem dX3_notSmoke_43 : decode cX3_notSmoke 43 = .ok (.bipush 12, 2) := dk_16 12 (dk_at dksX3_notSmoke_1 19 rfl rfl)
theorem dX3_notSmoke_45 : decode cX3_notSmoke 45 = .ok (.aload_n 0, 1) := dk_42 (dk_at dksX3_notSmoke_1 21 rfl rfl)
theorem dX3_notSmoke_46 : decode cX3_notSmoke 46 = .ok (.iload_n 1, 1) := dk_27 (dk_at dksX3_notSmoke_1 22 rfl rfl)
theorem dX3_notSmoke_47 : decode cX3_notSmoke 47 = .ok (.invokevirtual 176, 3) := dk_182 0 176 (dk_at dksX3_notSmoke_2 0 rfl rfl)
theorem dX3_notSmoke_50 : decode cX3_notSmoke 50 = .ok (.invokevirtual 85, 3) := dk_182 0 85 (dk_at dksX3_notSmoke_2 3 rfl rfl)
theorem dX3_notSmoke_53 : decode cX3_notSmoke 53 = .ok (.goto 4, 3) := dk_167 0 4 (dk_at dksX3_notSmoke_2 6 rfl rfl)
theorem dX3_notSmoke_56 : decode cX3_notSmoke 56 = .ok (.iconst 0, 1) := dk_3 (dk_at dksX3_notSmoke_2 9 rfl rfl)
theorem dX3_notSmoke_57 : decode cX3_notSmoke 57 = .ok (.ireturn, 1) := dk_172 (dk_at dksX3_notSmoke_2 10 rfl rfl)
abbrev cX3_whyNot : ByteArray := prog_9_method_52_code
def yX3_whyNot : MethodName := ⟨RX3, "whyNot", "(I)I"⟩
def dkwX3_whyNot_1 : List UInt8 := [4, 167, 0, 18, 42, 27, 5, 182, 0, 155, 7, 164, 0, 7, 5, 167, 0, 4, 2, 172]
abbrev dktX3_whyNot_1 : List UInt8 := dkwX3_whyNot_1 ++ []
def dkwX3_whyNot_0 : List UInt8 := [42, 27, 3, 182, 0, 155, 6, 162, 0, 7, 3, 167, 0, 32, 42, 27, 4, 182, 0, 155, 5, 164, 0, 7]
abbrev dktX3_whyNot_0 : List UInt8 := dkwX3_whyNot_0 ++ dktX3_whyNot_1
theorem dksX3_whyNot_0 : cX3_whyNot.data.toList.drop 0 = dktX3_whyNot_0 := by decide +kernel
theorem dksX3_whyNot_1 : cX3_whyNot.data.toList.drop 24 = dktX3_whyNot_1 := dk_seg dksX3_whyNot_0 24 rfl rfl
theorem dX3_whyNot_0 : decode cX3_whyNot 0 = .ok (.aload_n 0, 1) := dk_42 (dk_at dksX3_whyNot_0 0 rfl rfl)
theorem dX3_whyNot_1 : decode cX3_whyNot 1 = .ok (.iload_n 1, 1) := dk_27 (dk_at dksX3_whyNot_0 1 rfl rfl)
theorem dX3_whyNot_2 : decode cX3_whyNot 2 = .ok (.iconst 0, 1) := dk_3 (dk_at dksX3_whyNot_0 2 rfl rfl)
theorem dX3_whyNot_3 : decode cX3_whyNot 3 = .ok (.invokevirtual 155, 3) := dk_182 0 155 (dk_at dksX3_whyNot_0 3 rfl rfl)
theorem dX3_whyNot_6 : decode cX3_whyNot 6 = .ok (.iconst 3, 1) := dk_6 (dk_at dksX3_whyNot_0 6 rfl rfl)
theorem dX3_whyNot_7 : decode cX3_whyNot 7 = .ok (.if_icmp .ge 7, 3) := dk_162 0 7 (dk_at dksX3_whyNot_0 7 rfl rfl)
theorem dX3_whyNot_10 : decode cX3_whyNot 10 = .ok (.iconst 0, 1) := dk_3 (dk_at dksX3_whyNot_0 10 rfl rfl)
theorem dX3_whyNot_11 : decode cX3_whyNot 11 = .ok (.goto 32, 3) := dk_167 0 32 (dk_at dksX3_whyNot_0 11 rfl rfl)
theorem dX3_whyNot_14 : decode cX3_whyNot 14 = .ok (.aload_n 0, 1) := dk_42 (dk_at dksX3_whyNot_0 14 rfl rfl)
theorem dX3_whyNot_15 : decode cX3_whyNot 15 = .ok (.iload_n 1, 1) := dk_27 (dk_at dksX3_whyNot_0 15 rfl rfl)
theorem dX3_whyNot_16 : decode cX3_whyNot 16 = .ok (.iconst 1, 1) := dk_4 (dk_at dksX3_whyNot_0 16 rfl rfl)
theorem dX3_whyNot_17 : decode cX3_whyNot 17 = .ok (.invokevirtual 155, 3) := dk_182 0 155 (dk_at dksX3_whyNot_0 17 rfl rfl)
theorem dX3_whyNot_20 : decode cX3_whyNot 20 = .ok (.iconst 2, 1) := dk_5 (dk_at dksX3_whyNot_0 20 rfl rfl)
theorem dX3_whyNot_21 : decode cX3_whyNot 21 = .ok (.if_icmp .le 7, 3) := dk_164 0 7 (dk_at dksX3_whyNot_0 21 rfl rfl)
theorem dX3_whyNot_24 : decode cX3_whyNot 24 = .ok (.iconst 1, 1) := dk_4 (dk_at dksX3_whyNot_1 0 rfl rfl)
theorem dX3_whyNot_25 : decode cX3_whyNot 25 = .ok (.goto 18, 3) := dk_167 0 18 (dk_at dksX3_whyNot_1 1 rfl rfl)
theorem dX3_whyNot_28 : decode cX3_whyNot 28 = .ok (.aload_n 0, 1) := dk_42 (dk_at dksX3_whyNot_1 4 rfl rfl)
theorem dX3_whyNot_29 : decode cX3_whyNot 29 = .ok (.iload_n 1, 1) := dk_27 (dk_at dksX3_whyNot_1 5 rfl rfl)
theorem dX3_whyNot_30 : decode cX3_whyNot 30 = .ok (.iconst 2, 1) := dk_5 (dk_at dksX3_whyNot_1 6 rfl rfl)
theorem dX3_whyNot_31 : decode cX3_whyNot 31 = .ok (.invokevirtual 155, 3) := dk_182 0 155 (dk_at dksX3_whyNot_1 7 rfl rfl)
theorem dX3_whyNot_34 : decode cX3_whyNot 34 = .ok (.iconst 4, 1) := dk_7 (dk_at dksX3_whyNot_1 10 rfl rfl)
theorem dX3_whyNot_35 : decode cX3_whyNot 35 = .ok (.if_icmp .le 7, 3) := dk_164 0 7 (dk_at dksX3_whyNot_1 11 rfl rfl)
theorem dX3_whyNot_38 : decode cX3_whyNot 38 = .ok (.iconst 2, 1) := dk_5 (dk_at dksX3_whyNot_1 14 rfl rfl)
theorem dX3_whyNot_39 : decode cX3_whyNot 39 = .ok (.goto 4, 3) := dk_167 0 4 (dk_at dksX3_whyNot_1 15 rfl rfl)
theorem dX3_whyNot_42 : decode cX3_whyNot 42 = .ok (.iconst (-1), 1) := dk_2 (dk_at dksX3_whyNot_1 18 rfl rfl)
theorem dX3_whyNot_43 : decode cX3_whyNot 43 = .ok (.ireturn, 1) := dk_172 (dk_at dksX3_whyNot_1 19 rfl rfl)
abbrev cX3_smokesOnce : ByteArray := prog_9_method_55_code
def yX3_smokesOnce : MethodName := ⟨RX3, "smokesOnce", "(I)I"⟩
def dkwX3_smokesOnce_3 : List UInt8 := [182, 0, 155, 172]
abbrev dktX3_smokesOnce_3 : List UInt8 := dkwX3_smokesOnce_3 ++ []
def dkwX3_smokesOnce_2 : List UInt8 := [27, 7, 182, 0, 155, 4, 96, 182, 0, 99, 42, 180, 0, 16, 16, 10, 92, 46, 4, 96, 79, 42, 27, 5]
abbrev dktX3_smokesOnce_2 : List UInt8 := dkwX3_smokesOnce_2 ++ dktX3_smokesOnce_3
def dkwX3_smokesOnce_1 : List UInt8 := [161, 0, 20, 42, 27, 4, 42, 27, 4, 182, 0, 155, 4, 96, 184, 0, 179, 182, 0, 99, 42, 27, 7, 42]
abbrev dktX3_smokesOnce_1 : List UInt8 := dkwX3_smokesOnce_1 ++ dktX3_smokesOnce_2
def dkwX3_smokesOnce_0 : List UInt8 := [42, 27, 5, 42, 27, 5, 182, 0, 155, 4, 96, 184, 0, 179, 182, 0, 99, 42, 27, 5, 182, 0, 155, 7]
abbrev dktX3_smokesOnce_0 : List UInt8 := dkwX3_smokesOnce_0 ++ dktX3_smokesOnce_1
theorem dksX3_smokesOnce_0 : cX3_smokesOnce.data.toList.drop 0 = dktX3_smokesOnce_0 := by decide +kernel
theorem dksX3_smokesOnce_1 : cX3_smokesOnce.data.toList.drop 24 = dktX3_smokesOnce_1 := dk_seg dksX3_smokesOnce_0 24 rfl rfl
theorem dksX3_smokesOnce_2 : cX3_smokesOnce.data.toList.drop 48 = dktX3_smokesOnce_2 := dk_seg dksX3_smokesOnce_1 24 rfl rfl
theorem dksX3_smokesOnce_3 : cX3_smokesOnce.data.toList.drop 72 = dktX3_smokesOnce_3 := dk_seg dksX3_smokesOnce_2 24 rfl rfl
theorem dX3_smokesOnce_0 : decode cX3_smokesOnce 0 = .ok (.aload_n 0, 1) := dk_42 (dk_at dksX3_smokesOnce_0 0 rfl rfl)
theorem dX3_smokesOnce_1 : decode cX3_smokesOnce 1 = .ok (.iload_n 1, 1) := dk_27 (dk_at dksX3_smokesOnce_0 1 rfl rfl)
theorem dX3_smokesOnce_2 : decode cX3_smokesOnce 2 = .ok (.iconst 2, 1) := dk_5 (dk_at dksX3_smokesOnce_0 2 rfl rfl)
theorem dX3_smokesOnce_3 : decode cX3_smokesOnce 3 = .ok (.aload_n 0, 1) := dk_42 (dk_at dksX3_smokesOnce_0 3 rfl rfl)
theorem dX3_smokesOnce_4 : decode cX3_smokesOnce 4 = .ok (.iload_n 1, 1) := dk_27 (dk_at dksX3_smokesOnce_0 4 rfl rfl)
theorem dX3_smokesOnce_5 : decode cX3_smokesOnce 5 = .ok (.iconst 2, 1) := dk_5 (dk_at dksX3_smokesOnce_0 5 rfl rfl)
theorem dX3_smokesOnce_6 : decode cX3_smokesOnce 6 = .ok (.invokevirtual 155, 3) := dk_182 0 155 (dk_at dksX3_smokesOnce_0 6 rfl rfl)
theorem dX3_smokesOnce_9 : decode cX3_smokesOnce 9 = .ok (.iconst 1, 1) := dk_4 (dk_at dksX3_smokesOnce_0 9 rfl rfl)
theorem dX3_smokesOnce_10 : decode cX3_smokesOnce 10 = .ok (.iadd, 1) := dk_96 (dk_at dksX3_smokesOnce_0 10 rfl rfl)
theorem dX3_smokesOnce_11 : decode cX3_smokesOnce 11 = .ok (.invokestatic 179, 3) := dk_184 0 179 (dk_at dksX3_smokesOnce_0 11 rfl rfl)
theorem dX3_smokesOnce_14 : decode cX3_smokesOnce 14 = .ok (.invokevirtual 99, 3) := dk_182 0 99 (dk_at dksX3_smokesOnce_0 14 rfl rfl)
theorem dX3_smokesOnce_17 : decode cX3_smokesOnce 17 = .ok (.aload_n 0, 1) := dk_42 (dk_at dksX3_smokesOnce_0 17 rfl rfl)
theorem dX3_smokesOnce_18 : decode cX3_smokesOnce 18 = .ok (.iload_n 1, 1) := dk_27 (dk_at dksX3_smokesOnce_0 18 rfl rfl)
theorem dX3_smokesOnce_19 : decode cX3_smokesOnce 19 = .ok (.iconst 2, 1) := dk_5 (dk_at dksX3_smokesOnce_0 19 rfl rfl)
theorem dX3_smokesOnce_20 : decode cX3_smokesOnce 20 = .ok (.invokevirtual 155, 3) := dk_182 0 155 (dk_at dksX3_smokesOnce_0 20 rfl rfl)
theorem dX3_smokesOnce_23 : decode cX3_smokesOnce 23 = .ok (.iconst 4, 1) := dk_7 (dk_at dksX3_smokesOnce_0 23 rfl rfl)
theorem dX3_smokesOnce_24 : decode cX3_smokesOnce 24 = .ok (.if_icmp .lt 20, 3) := dk_161 0 20 (dk_at dksX3_smokesOnce_1 0 rfl rfl)
theorem dX3_smokesOnce_27 : decode cX3_smokesOnce 27 = .ok (.aload_n 0, 1) := dk_42 (dk_at dksX3_smokesOnce_1 3 rfl rfl)
theorem dX3_smokesOnce_28 : decode cX3_smokesOnce 28 = .ok (.iload_n 1, 1) := dk_27 (dk_at dksX3_smokesOnce_1 4 rfl rfl)
theorem dX3_smokesOnce_29 : decode cX3_smokesOnce 29 = .ok (.iconst 1, 1) := dk_4 (dk_at dksX3_smokesOnce_1 5 rfl rfl)
theorem dX3_smokesOnce_30 : decode cX3_smokesOnce 30 = .ok (.aload_n 0, 1) := dk_42 (dk_at dksX3_smokesOnce_1 6 rfl rfl)
theorem dX3_smokesOnce_31 : decode cX3_smokesOnce 31 = .ok (.iload_n 1, 1) := dk_27 (dk_at dksX3_smokesOnce_1 7 rfl rfl)
theorem dX3_smokesOnce_32 : decode cX3_smokesOnce 32 = .ok (.iconst 1, 1) := dk_4 (dk_at dksX3_smokesOnce_1 8 rfl rfl)
theorem dX3_smokesOnce_33 : decode cX3_smokesOnce 33 = .ok (.invokevirtual 155, 3) := dk_182 0 155 (dk_at dksX3_smokesOnce_1 9 rfl rfl)
theorem dX3_smokesOnce_36 : decode cX3_smokesOnce 36 = .ok (.iconst 1, 1) := dk_4 (dk_at dksX3_smokesOnce_1 12 rfl rfl)
theorem dX3_smokesOnce_37 : decode cX3_smokesOnce 37 = .ok (.iadd, 1) := dk_96 (dk_at dksX3_smokesOnce_1 13 rfl rfl)
theorem dX3_smokesOnce_38 : decode cX3_smokesOnce 38 = .ok (.invokestatic 179, 3) := dk_184 0 179 (dk_at dksX3_smokesOnce_1 14 rfl rfl)
theorem dX3_smokesOnce_41 : decode cX3_smokesOnce 41 = .ok (.invokevirtual 99, 3) := dk_182 0 99 (dk_at dksX3_smokesOnce_1 17 rfl rfl)
theorem dX3_smokesOnce_44 : decode cX3_smokesOnce 44 = .ok (.aload_n 0, 1) := dk_42 (dk_at dksX3_smokesOnce_1 20 rfl rfl)
theorem dX3_smokesOnce_45 : decode cX3_smokesOnce 45 = .ok (.iload_n 1, 1) := dk_27 (dk_at dksX3_smokesOnce_1 21 rfl rfl)
theorem dX3_smokesOnce_46 : decode cX3_smokesOnce 46 = .ok (.iconst 4, 1) := dk_7 (dk_at dksX3_smokesOnce_1 22 rfl rfl)
theorem dX3_smokesOnce_47 : decode cX3_smokesOnce 47 = .ok (.aload_n 0, 1) := dk_42 (dk_at dksX3_smokesOnce_1 23 rfl rfl)
theorem dX3_smokesOnce_48 : decode cX3_smokesOnce 48 = .ok (.iload_n 1, 1) := dk_27 (dk_at dksX3_smokesOnce_2 0 rfl rfl)
theorem dX3_smokesOnce_49 : decode cX3_smokesOnce 49 = .ok (.iconst 4, 1) := dk_7 (dk_at dksX3_smokesOnce_2 1 rfl rfl)
theorem dX3_smokesOnce_50 : decode cX3_smokesOnce 50 = .ok (.invokevirtual 155, 3) := dk_182 0 155 (dk_at dksX3_smokesOnce_2 2 rfl rfl)
theorem dX3_smokesOnce_53 : decode cX3_smokesOnce 53 = .ok (.iconst 1, 1) := dk_4 (dk_at dksX3_smokesOnce_2 5 rfl rfl)
theorem dX3_smokesOnce_54 : decode cX3_smokesOnce 54 = .ok (.iadd, 1) := dk_96 (dk_at dksX3_smokesOnce_2 6 rfl rfl)
theorem dX3_smokesOnce_55 : decode cX3_smokesOnce 55 = .ok (.invokevirtual 99, 3) := dk_182 0 99 (dk_at dksX3_smokesOnce_2 7 rfl rfl)
theorem dX3_smokesOnce_58 : decode cX3_smokesOnce 58 = .ok (.aload_n 0, 1) := dk_42 (dk_at dksX3_smokesOnce_2 10 rfl rfl)
theorem dX3_smokesOnce_59 : decode cX3_smokesOnce 59 = .ok (.getfield 16, 3) := dk_180 0 16 (dk_at dksX3_smokesOnce_2 11 rfl rfl)
theorem dX3_smokesOnce_62 : decode cX3_smokesOnce 62 = .ok (.bipush 10, 2) := dk_16 10 (dk_at dksX3_smokesOnce_2 14 rfl rfl)
theorem dX3_smokesOnce_64 : decode cX3_smokesOnce 64 = .ok (.dup2, 1) := dk_92 (dk_at dksX3_smokesOnce_2 16 rfl rfl)
theorem dX3_smokesOnce_65 : decode cX3_smokesOnce 65 = .ok (.iaload, 1) := dk_46 (dk_at dksX3_smokesOnce_2 17 rfl rfl)
theorem dX3_smokesOnce_66 : decode cX3_smokesOnce 66 = .ok (.iconst 1, 1) := dk_4 (dk_at dksX3_smokesOnce_2 18 rfl rfl)
theorem dX3_smokesOnce_67 : decode cX3_smokesOnce 67 = .ok (.iadd, 1) := dk_96 (dk_at dksX3_smokesOnce_2 19 rfl rfl)
theorem dX3_smokesOnce_68 : decode cX3_smokesOnce 68 = .ok (.iastore, 1) := dk_79 (dk_at dksX3_smokesOnce_2 20 rfl rfl)
theorem dX3_smokesOnce_69 : decode cX3_smokesOnce 69 = .ok (.aload_n 0, 1) := dk_42 (dk_at dksX3_smokesOnce_2 21 rfl rfl)
theorem dX3_smokesOnce_70 : decode cX3_smokesOnce 70 = .ok (.iload_n 1, 1) := dk_27 (dk_at dksX3_smokesOnce_2 22 rfl rfl)
theorem dX3_smokesOnce_71 : decode cX3_smokesOnce 71 = .ok (.iconst 2, 1) := dk_5 (dk_at dksX3_smokesOnce_2 23 rfl rfl)
theorem dX3_smokesOnce_72 : decode cX3_smokesOnce 72 = .ok (.invokevirtual 155, 3) := dk_182 0 155 (dk_at dksX3_smokesOnce_3 0 rfl rfl)
theorem dX3_smokesOnce_75 : decode cX3_smokesOnce 75 = .ok (.ireturn, 1) := dk_172 (dk_at dksX3_smokesOnce_3 3 rfl rfl)
abbrev cX3_held : ByteArray := prog_9_method_54_code
def yX3_held : MethodName := ⟨RX3, "held", "(I)I"⟩
def dkwX3_held_0 : List UInt8 := [26, 16, 9, 164, 0, 8, 16, 9, 167, 0, 4, 26, 172]
abbrev dktX3_held_0 : List UInt8 := dkwX3_held_0 ++ []
theorem dksX3_held_0 : cX3_held.data.toList.drop 0 = dktX3_held_0 := by decide +kernel
theorem dX3_held_0 : decode cX3_held 0 = .ok (.iload_n 0, 1) := dk_26 (dk_at dksX3_held_0 0 rfl rfl)
theorem dX3_held_1 : decode cX3_held 1 = .ok (.bipush 9, 2) := dk_16 9 (dk_at dksX3_held_0 1 rfl rfl)
theorem dX3_held_3 : decode cX3_held 3 = .ok (.if_icmp .le 8, 3) := dk_164 0 8 (dk_at dksX3_held_0 3 rfl rfl)
theorem dX3_held_6 : decode cX3_held 6 = .ok (.bipush 9, 2) := dk_16 9 (dk_at dksX3_held_0 6 rfl rfl)
theorem dX3_held_8 : decode cX3_held 8 = .ok (.goto 4, 3) := dk_167 0 4 (dk_at dksX3_held_0 8 rfl rfl)
theorem dX3_held_11 : decode cX3_held 11 = .ok (.iload_n 0, 1) := dk_26 (dk_at dksX3_held_0 11 rfl rfl)
theorem dX3_held_12 : decode cX3_held 12 = .ok (.ireturn, 1) := dk_172 (dk_at dksX3_held_0 12 rfl rfl)
abbrev cX3_drop : ByteArray := prog_9_method_59_code
def yX3_drop : MethodName := ⟨RX3, "drop", "(II)I"⟩
def dkwX3_drop_1 : List UInt8 := [27, 28, 182, 0, 191, 172]
abbrev dktX3_drop_1 : List UInt8 := dkwX3_drop_1 ++ []
def dkwX3_drop_0 : List UInt8 := [42, 3, 181, 0, 42, 42, 27, 28, 182, 0, 188, 153, 0, 8, 42, 182, 0, 92, 172, 42, 182, 0, 96, 42]
abbrev dktX3_drop_0 : List UInt8 := dkwX3_drop_0 ++ dktX3_drop_1
theorem dksX3_drop_0 : cX3_drop.data.toList.drop 0 = dktX3_drop_0 := by decide +kernel
theorem dksX3_drop_1 : cX3_drop.data.toList.drop 24 = dktX3_drop_1 := dk_seg dksX3_drop_0 24 rfl rfl
theorem dX3_drop_0 : decode cX3_drop 0 = .ok (.aload_n 0, 1) := dk_42 (dk_at dksX3_drop_0 0 rfl rfl)
theorem dX3_drop_1 : decode cX3_drop 1 = .ok (.iconst 0, 1) := dk_3 (dk_at dksX3_drop_0 1 rfl rfl)
theorem dX3_drop_2 : decode cX3_drop 2 = .ok (.putfield 42, 3) := dk_181 0 42 (dk_at dksX3_drop_0 2 rfl rfl)
theorem dX3_drop_5 : decode cX3_drop 5 = .ok (.aload_n 0, 1) := dk_42 (dk_at dksX3_drop_0 5 rfl rfl)
theorem dX3_drop_6 : decode cX3_drop 6 = .ok (.iload_n 1, 1) := dk_27 (dk_at dksX3_drop_0 6 rfl rfl)
theorem dX3_drop_7 : decode cX3_drop 7 = .ok (.iload_n 2, 1) := dk_28 (dk_at dksX3_drop_0 7 rfl rfl)
theorem dX3_drop_8 : decode cX3_drop 8 = .ok (.invokevirtual 188, 3) := dk_182 0 188 (dk_at dksX3_drop_0 8 rfl rfl)
theorem dX3_drop_11 : decode cX3_drop 11 = .ok (.ifCond .eq 8, 3) := dk_153 0 8 (dk_at dksX3_drop_0 11 rfl rfl)
theorem dX3_drop_14 : decode cX3_drop 14 = .ok (.aload_n 0, 1) := dk_42 (dk_at dksX3_drop_0 14 rfl rfl)
theorem dX3_drop_15 : decode cX3_drop 15 = .ok (.invokevirtual 92, 3) := dk_182 0 92 (dk_at dksX3_drop_0 15 rfl rfl)
theorem dX3_drop_18 : decode cX3_drop 18 = .ok (.ireturn, 1) := dk_172 (dk_at dksX3_drop_0 18 rfl rfl)
theorem dX3_drop_19 : decode cX3_drop 19 = .ok (.aload_n 0, 1) := dk_42 (dk_at dksX3_drop_0 19 rfl rfl)
theorem dX3_drop_20 : decode cX3_drop 20 = .ok (.invokevirtual 96, 3) := dk_182 0 96 (dk_at dksX3_drop_0 20 rfl rfl)
theorem dX3_drop_23 : decode cX3_drop 23 = .ok (.aload_n 0, 1) := dk_42 (dk_at dksX3_drop_0 23 rfl rfl)
theorem dX3_drop_24 : decode cX3_drop 24 = .ok (.iload_n 1, 1) := dk_27 (dk_at dksX3_drop_1 0 rfl rfl)
theorem dX3_drop_25 : decode cX3_drop 25 = .ok (.iload_n 2, 1) := dk_28 (dk_at dksX3_drop_1 1 rfl rfl)
theorem dX3_drop_26 : decode cX3_drop 26 = .ok (.invokevirtual 191, 3) := dk_182 0 191 (dk_at dksX3_drop_1 2 rfl rfl)
theorem dX3_drop_29 : decode cX3_drop 29 = .ok (.ireturn, 1) := dk_172 (dk_at dksX3_drop_1 5 rfl rfl)
abbrev cX3_notDrop : ByteArray := prog_9_method_57_code
def yX3_notDrop : MethodName := ⟨RX3, "notDrop", "(II)I"⟩
def dkwX3_notDrop_1 : List UInt8 := [153, 0, 7, 3, 167, 0, 9, 42, 6, 28, 182, 0, 85, 172]
abbrev dktX3_notDrop_1 : List UInt8 := dkwX3_notDrop_1 ++ []
def dkwX3_notDrop_0 : List UInt8 := [42, 27, 182, 0, 102, 154, 0, 10, 42, 4, 27, 182, 0, 85, 172, 28, 4, 16, 9, 184, 0, 77]
abbrev dktX3_notDrop_0 : List UInt8 := dkwX3_notDrop_0 ++ dktX3_notDrop_1
theorem dksX3_notDrop_0 : cX3_notDrop.data.toList.drop 0 = dktX3_notDrop_0 := by decide +kernel
theorem dksX3_notDrop_1 : cX3_notDrop.data.toList.drop 22 = dktX3_notDrop_1 := dk_seg dksX3_notDrop_0 22 rfl rfl
theorem dX3_notDrop_0 : decode cX3_notDrop 0 = .ok (.aload_n 0, 1) := dk_42 (dk_at dksX3_notDrop_0 0 rfl rfl)
theorem dX3_notDrop_1 : decode cX3_notDrop 1 = .ok (.iload_n 1, 1) := dk_27 (dk_at dksX3_notDrop_0 1 rfl rfl)
theorem dX3_notDrop_2 : decode cX3_notDrop 2 = .ok (.invokevirtual 102, 3) := dk_182 0 102 (dk_at dksX3_notDrop_0 2 rfl rfl)
theorem dX3_notDrop_5 : decode cX3_notDrop 5 = .ok (.ifCond .ne 10, 3) := dk_154 0 10 (dk_at dksX3_notDrop_0 5 rfl rfl)
theorem dX3_notDrop_8 : decode cX3_notDrop 8 = .ok (.aload_n 0, 1) := dk_42 (dk_at dksX3_notDrop_0 8 rfl rfl)
theorem dX3_notDrop_9 : decode cX3_notDrop 9 = .ok (.iconst 1, 1) := dk_4 (dk_at dksX3_notDrop_0 9 rfl rfl)
theorem dX3_notDrop_10 : decode cX3_notDrop 10 = .ok (.iload_n 1, 1) := dk_27 (dk_at dksX3_notDrop_0 10 rfl rfl)
theorem dX3_notDrop_11 : decode cX3_notDrop 11 = .ok (.invokevirtual 85, 3) := dk_182 0 85 (dk_at dksX3_notDrop_0 11 rfl rfl)
theorem dX3_notDrop_14 : decode cX3_notDrop 14 = .ok (.ireturn, 1) := dk_172 (dk_at dksX3_notDrop_0 14 rfl rfl)
theorem dX3_notDrop_15 : decode cX3_notDrop 15 = .ok (.iload_n 2, 1) := dk_28 (dk_at dksX3_notDrop_0 15 rfl rfl)
theorem dX3_notDrop_16 : decode cX3_notDrop 16 = .ok (.iconst 1, 1) := dk_4 (dk_at dksX3_notDrop_0 16 rfl rfl)
theorem dX3_notDrop_17 : decode cX3_notDrop 17 = .ok (.bipush 9, 2) := dk_16 9 (dk_at dksX3_notDrop_0 17 rfl rfl)
theorem dX3_notDrop_19 : decode cX3_notDrop 19 = .ok (.invokestatic 77, 3) := dk_184 0 77 (dk_at dksX3_notDrop_0 19 rfl rfl)
theorem dX3_notDrop_22 : decode cX3_notDrop 22 = .ok (.ifCond .eq 7, 3) := dk_153 0 7 (dk_at dksX3_notDrop_1 0 rfl rfl)
theorem dX3_notDrop_25 : decode cX3_notDrop 25 = .ok (.iconst 0, 1) := dk_3 (dk_at dksX3_notDrop_1 3 rfl rfl)
theorem dX3_notDrop_26 : decode cX3_notDrop 26 = .ok (.goto 9, 3) := dk_167 0 9 (dk_at dksX3_notDrop_1 4 rfl rfl)
theorem dX3_notDrop_29 : decode cX3_notDrop 29 = .ok (.aload_n 0, 1) := dk_42 (dk_at dksX3_notDrop_1 7 rfl rfl)
theorem dX3_notDrop_30 : decode cX3_notDrop 30 = .ok (.iconst 3, 1) := dk_6 (dk_at dksX3_notDrop_1 8 rfl rfl)
theorem dX3_notDrop_31 : decode cX3_notDrop 31 = .ok (.iload_n 2, 1) := dk_28 (dk_at dksX3_notDrop_1 9 rfl rfl)
theorem dX3_notDrop_32 : decode cX3_notDrop 32 = .ok (.invokevirtual 85, 3) := dk_182 0 85 (dk_at dksX3_notDrop_1 10 rfl rfl)
theorem dX3_notDrop_35 : decode cX3_notDrop 35 = .ok (.ireturn, 1) := dk_172 (dk_at dksX3_notDrop_1 13 rfl rfl)
abbrev cX3_drops : ByteArray := prog_9_method_58_code
def yX3_drops : MethodName := ⟨RX3, "drops", "(II)I"⟩
def dkwX3_drops_2 : List UInt8 := [4, 182, 0, 155, 172]
abbrev dktX3_drops_2 : List UInt8 := dkwX3_drops_2 ++ []
def dkwX3_drops_1 : List UInt8 := [182, 0, 99, 42, 27, 4, 42, 27, 4, 182, 0, 155, 28, 6, 108, 96, 184, 0, 179, 182, 0, 99, 42, 27]
abbrev dktX3_drops_1 : List UInt8 := dkwX3_drops_1 ++ dktX3_drops_2
def dkwX3_drops_0 : List UInt8 := [42, 27, 3, 182, 0, 155, 28, 5, 108, 100, 62, 42, 27, 3, 29, 156, 0, 7, 3, 167, 0, 4, 29]
abbrev dktX3_drops_0 : List UInt8 := dkwX3_drops_0 ++ dktX3_drops_1
theorem dksX3_drops_0 : cX3_drops.data.toList.drop 0 = dktX3_drops_0 := by decide +kernel
theorem dksX3_drops_1 : cX3_drops.data.toList.drop 23 = dktX3_drops_1 := dk_seg dksX3_drops_0 23 rfl rfl
theorem dksX3_drops_2 : cX3_drops.data.toList.drop 47 = dktX3_drops_2 := dk_seg dksX3_drops_1 24 rfl rfl
theorem dX3_drops_0 : decode cX3_drops 0 = .ok (.aload_n 0, 1) := dk_42 (dk_at dksX3_drops_0 0 rfl rfl)
theorem dX3_drops_1 : decode cX3_drops 1 = .ok (.iload_n 1, 1) := dk_27 (dk_at dksX3_drops_0 1 rfl rfl)
theorem dX3_drops_2 : decode cX3_drops 2 = .ok (.iconst 0, 1) := dk_3 (dk_at dksX3_drops_0 2 rfl rfl)
theorem dX3_drops_3 : decode cX3_drops 3 = .ok (.invokevirtual 155, 3) := dk_182 0 155 (dk_at dksX3_drops_0 3 rfl rfl)
theorem dX3_drops_6 : decode cX3_drops 6 = .ok (.iload_n 2, 1) := dk_28 (dk_at dksX3_drops_0 6 rfl rfl)
theorem dX3_drops_7 : decode cX3_drops 7 = .ok (.iconst 2, 1) := dk_5 (dk_at dksX3_drops_0 7 rfl rfl)
theorem dX3_drops_8 : decode cX3_drops 8 = .ok (.idiv, 1) := dk_108 (dk_at dksX3_drops_0 8 rfl rfl)
theorem dX3_drops_9 : decode cX3_drops 9 = .ok (.isub, 1) := dk_100 (dk_at dksX3_drops_0 9 rfl rfl)
theorem dX3_drops_10 : decode cX3_drops 10 = .ok (.istore_n 3, 1) := dk_62 (dk_at dksX3_drops_0 10 rfl rfl)
theorem dX3_drops_11 : decode cX3_drops 11 = .ok (.aload_n 0, 1) := dk_42 (dk_at dksX3_drops_0 11 rfl rfl)
theorem dX3_drops_12 : decode cX3_drops 12 = .ok (.iload_n 1, 1) := dk_27 (dk_at dksX3_drops_0 12 rfl rfl)
theorem dX3_drops_13 : decode cX3_drops 13 = .ok (.iconst 0, 1) := dk_3 (dk_at dksX3_drops_0 13 rfl rfl)
theorem dX3_drops_14 : decode cX3_drops 14 = .ok (.iload_n 3, 1) := dk_29 (dk_at dksX3_drops_0 14 rfl rfl)
theorem dX3_drops_15 : decode cX3_drops 15 = .ok (.ifCond .ge 7, 3) := dk_156 0 7 (dk_at dksX3_drops_0 15 rfl rfl)
theorem dX3_drops_18 : decode cX3_drops 18 = .ok (.iconst 0, 1) := dk_3 (dk_at dksX3_drops_0 18 rfl rfl)
theorem dX3_drops_19 : decode cX3_drops 19 = .ok (.goto 4, 3) := dk_167 0 4 (dk_at dksX3_drops_0 19 rfl rfl)
theorem dX3_drops_22 : decode cX3_drops 22 = .ok (.iload_n 3, 1) := dk_29 (dk_at dksX3_drops_0 22 rfl rfl)
theorem dX3_drops_23 : decode cX3_drops 23 = .ok (.invokevirtual 99, 3) := dk_182 0 99 (dk_at dksX3_drops_1 0 rfl rfl)
theorem dX3_drops_26 : decode cX3_drops 26 = .ok (.aload_n 0, 1) := dk_42 (dk_at dksX3_drops_1 3 rfl rfl)
theorem dX3_drops_27 : decode cX3_drops 27 = .ok (.iload_n 1, 1) := dk_27 (dk_at dksX3_drops_1 4 rfl rfl)
theorem dX3_drops_28 : decode cX3_drops 28 = .ok (.iconst 1, 1) := dk_4 (dk_at dksX3_drops_1 5 rfl rfl)
theorem dX3_drops_29 : decode cX3_drops 29 = .ok (.aload_n 0, 1) := dk_42 (dk_at dksX3_drops_1 6 rfl rfl)
theorem dX3_drops_30 : decode cX3_drops 30 = .ok (.iload_n 1, 1) := dk_27 (dk_at dksX3_drops_1 7 rfl rfl)
theorem dX3_drops_31 : decode cX3_drops 31 = .ok (.iconst 1, 1) := dk_4 (dk_at dksX3_drops_1 8 rfl rfl)
theorem dX3_drops_32 : decode cX3_drops 32 = .ok (.invokevirtual 155, 3) := dk_182 0 155 (dk_at dksX3_drops_1 9 rfl rfl)
theorem dX3_drops_35 : decode cX3_drops 35 = .ok (.iload_n 2, 1) := dk_28 (dk_at dksX3_drops_1 12 rfl rfl)
theorem dX3_drops_36 : decode cX3_drops 36 = .ok (.iconst 3, 1) := dk_6 (dk_at dksX3_drops_1 13 rfl rfl)
theorem dX3_drops_37 : decode cX3_drops 37 = .ok (.idiv, 1) := dk_108 (dk_at dksX3_drops_1 14 rfl rfl)
theorem dX3_drops_38 : decode cX3_drops 38 = .ok (.iadd, 1) := dk_96 (dk_at dksX3_drops_1 15 rfl rfl)
theorem dX3_drops_39 : decode cX3_drops 39 = .ok (.invokestatic 179, 3) := dk_184 0 179 (dk_at dksX3_drops_1 16 rfl rfl)
theorem dX3_drops_42 : decode cX3_drops 42 = .ok (.invokevirtual 99, 3) := dk_182 0 99 (dk_at dksX3_drops_1 19 rfl rfl)
theorem dX3_drops_45 : decode cX3_drops 45 = .ok (.aload_n 0, 1) := dk_42 (dk_at dksX3_drops_1 22 rfl rfl)
theorem dX3_drops_46 : decode cX3_drops 46 = .ok (.iload_n 1, 1) := dk_27 (dk_at dksX3_drops_1 23 rfl rfl)
theorem dX3_drops_47 : decode cX3_drops 47 = .ok (.iconst 1, 1) := dk_4 (dk_at dksX3_drops_2 0 rfl rfl)
theorem dX3_drops_48 : decode cX3_drops 48 = .ok (.invokevirtual 155, 3) := dk_182 0 155 (dk_at dksX3_drops_2 1 rfl rfl)
theorem dX3_drops_51 : decode cX3_drops 51 = .ok (.ireturn, 1) := dk_172 (dk_at dksX3_drops_2 4 rfl rfl)
abbrev cX3_cut : ByteArray := prog_9_method_61_code
def yX3_cut : MethodName := ⟨RX3, "cut", "(II)I"⟩
def dkwX3_cut_2 : List UInt8 := [182, 0, 155, 172]
abbrev dktX3_cut_2 : List UInt8 := dkwX3_cut_2 ++ []
def dkwX3_cut_1 : List UInt8 := [27, 3, 42, 27, 3, 182, 0, 155, 28, 100, 182, 0, 99, 42, 28, 182, 0, 139, 87, 42, 27, 3]
abbrev dktX3_cut_1 : List UInt8 := dkwX3_cut_1 ++ dktX3_cut_2
def dkwX3_cut_0 : List UInt8 := [42, 3, 181, 0, 42, 42, 27, 28, 182, 0, 194, 153, 0, 8, 42, 182, 0, 92, 172, 42, 182, 0, 96, 42]
abbrev dktX3_cut_0 : List UInt8 := dkwX3_cut_0 ++ dktX3_cut_1
theorem dksX3_cut_0 : cX3_cut.data.toList.drop 0 = dktX3_cut_0 := by decide +kernel
theorem dksX3_cut_1 : cX3_cut.data.toList.drop 24 = dktX3_cut_1 := dk_seg dksX3_cut_0 24 rfl rfl
theorem dksX3_cut_2 : cX3_cut.data.toList.drop 46 = dktX3_cut_2 := dk_seg dksX3_cut_1 22 rfl rfl
theorem dX3_cut_0 : decode cX3_cut 0 = .ok (.aload_n 0, 1) := dk_42 (dk_at dksX3_cut_0 0 rfl rfl)
theorem dX3_cut_1 : decode cX3_cut 1 = .ok (.iconst 0, 1) := dk_3 (dk_at dksX3_cut_0 1 rfl rfl)
theorem dX3_cut_2 : decode cX3_cut 2 = .ok (.putfield 42, 3) := dk_181 0 42 (dk_at dksX3_cut_0 2 rfl rfl)
theorem dX3_cut_5 : decode cX3_cut 5 = .ok (.aload_n 0, 1) := dk_42 (dk_at dksX3_cut_0 5 rfl rfl)
theorem dX3_cut_6 : decode cX3_cut 6 = .ok (.iload_n 1, 1) := dk_27 (dk_at dksX3_cut_0 6 rfl rfl)
theorem dX3_cut_7 : decode cX3_cut 7 = .ok (.iload_n 2, 1) := dk_28 (dk_at dksX3_cut_0 7 rfl rfl)
theorem dX3_cut_8 : decode cX3_cut 8 = .ok (.invokevirtual 194, 3) := dk_182 0 194 (dk_at dksX3_cut_0 8 rfl rfl)
theorem dX3_cut_11 : decode cX3_cut 11 = .ok (.ifCond .eq 8, 3) := dk_153 0 8 (dk_at dksX3_cut_0 11 rfl rfl)
theorem dX3_cut_14 : decode cX3_cut 14 = .ok (.aload_n 0, 1) := dk_42 (dk_at dksX3_cut_0 14 rfl rfl)
theorem dX3_cut_15 : decode cX3_cut 15 = .ok (.invokevirtual 92, 3) := dk_182 0 92 (dk_at dksX3_cut_0 15 rfl rfl)
theorem dX3_cut_18 : decode cX3_cut 18 = .ok (.ireturn, 1) := dk_172 (dk_at dksX3_cut_0 18 rfl rfl)
theorem dX3_cut_19 : decode cX3_cut 19 = .ok (.aload_n 0, 1) := dk_42 (dk_at dksX3_cut_0 19 rfl rfl)
theorem dX3_cut_20 : decode cX3_cut 20 = .ok (.invokevirtual 96, 3) := dk_182 0 96 (dk_at dksX3_cut_0 20 rfl rfl)
theorem dX3_cut_23 : decode cX3_cut 23 = .ok (.aload_n 0, 1) := dk_42 (dk_at dksX3_cut_0 23 rfl rfl)
theorem dX3_cut_24 : decode cX3_cut 24 = .ok (.iload_n 1, 1) := dk_27 (dk_at dksX3_cut_1 0 rfl rfl)
theorem dX3_cut_25 : decode cX3_cut 25 = .ok (.iconst 0, 1) := dk_3 (dk_at dksX3_cut_1 1 rfl rfl)
theorem dX3_cut_26 : decode cX3_cut 26 = .ok (.aload_n 0, 1) := dk_42 (dk_at dksX3_cut_1 2 rfl rfl)
theorem dX3_cut_27 : decode cX3_cut 27 = .ok (.iload_n 1, 1) := dk_27 (dk_at dksX3_cut_1 3 rfl rfl)
theorem dX3_cut_28 : decode cX3_cut 28 = .ok (.iconst 0, 1) := dk_3 (dk_at dksX3_cut_1 4 rfl rfl)
theorem dX3_cut_29 : decode cX3_cut 29 = .ok (.invokevirtual 155, 3) := dk_182 0 155 (dk_at dksX3_cut_1 5 rfl rfl)
theorem dX3_cut_32 : decode cX3_cut 32 = .ok (.iload_n 2, 1) := dk_28 (dk_at dksX3_cut_1 8 rfl rfl)
theorem dX3_cut_33 : decode cX3_cut 33 = .ok (.isub, 1) := dk_100 (dk_at dksX3_cut_1 9 rfl rfl)
theorem dX3_cut_34 : decode cX3_cut 34 = .ok (.invokevirtual 99, 3) := dk_182 0 99 (dk_at dksX3_cut_1 10 rfl rfl)
theorem dX3_cut_37 : decode cX3_cut 37 = .ok (.aload_n 0, 1) := dk_42 (dk_at dksX3_cut_1 13 rfl rfl)
theorem dX3_cut_38 : decode cX3_cut 38 = .ok (.iload_n 2, 1) := dk_28 (dk_at dksX3_cut_1 14 rfl rfl)
theorem dX3_cut_39 : decode cX3_cut 39 = .ok (.invokevirtual 139, 3) := dk_182 0 139 (dk_at dksX3_cut_1 15 rfl rfl)
theorem dX3_cut_42 : decode cX3_cut 42 = .ok (.pop, 1) := dk_87 (dk_at dksX3_cut_1 18 rfl rfl)
theorem dX3_cut_43 : decode cX3_cut 43 = .ok (.aload_n 0, 1) := dk_42 (dk_at dksX3_cut_1 19 rfl rfl)
theorem dX3_cut_44 : decode cX3_cut 44 = .ok (.iload_n 1, 1) := dk_27 (dk_at dksX3_cut_1 20 rfl rfl)
theorem dX3_cut_45 : decode cX3_cut 45 = .ok (.iconst 0, 1) := dk_3 (dk_at dksX3_cut_1 21 rfl rfl)
theorem dX3_cut_46 : decode cX3_cut 46 = .ok (.invokevirtual 155, 3) := dk_182 0 155 (dk_at dksX3_cut_2 0 rfl rfl)
theorem dX3_cut_49 : decode cX3_cut 49 = .ok (.ireturn, 1) := dk_172 (dk_at dksX3_cut_2 3 rfl rfl)
abbrev cX3_notCut : ByteArray := prog_9_method_60_code
def yX3_notCut : MethodName := ⟨RX3, "notCut", "(II)I"⟩
def dkwX3_notCut_3 : List UInt8 := [182, 0, 85, 167, 0, 4, 3, 172]
abbrev dktX3_notCut_3 : List UInt8 := dkwX3_notCut_3 ++ []
def dkwX3_notCut_2 : List UInt8 := [27, 3, 182, 0, 155, 182, 0, 85, 172, 42, 182, 0, 133, 16, 24, 160, 0, 13, 42, 7, 16, 24]
abbrev dktX3_notCut_2 : List UInt8 := dkwX3_notCut_2 ++ dktX3_notCut_3
def dkwX3_notCut_1 : List UInt8 := [154, 0, 10, 42, 6, 28, 182, 0, 85, 172, 42, 27, 3, 182, 0, 155, 28, 162, 0, 16, 42, 16, 18, 42]
abbrev dktX3_notCut_1 : List UInt8 := dkwX3_notCut_1 ++ dktX3_notCut_2
def dkwX3_notCut_0 : List UInt8 := [42, 27, 182, 0, 102, 154, 0, 10, 42, 4, 27, 182, 0, 85, 172, 28, 4, 16, 6, 184, 0, 77]
abbrev dktX3_notCut_0 : List UInt8 := dkwX3_notCut_0 ++ dktX3_notCut_1
theorem dksX3_notCut_0 : cX3_notCut.data.toList.drop 0 = dktX3_notCut_0 := by decide +kernel
theorem dksX3_notCut_1 : cX3_notCut.data.toList.drop 22 = dktX3_notCut_1 := dk_seg dksX3_notCut_0 22 rfl rfl
theorem dksX3_notCut_2 : cX3_notCut.data.toList.drop 46 = dktX3_notCut_2 := dk_seg dksX3_notCut_1 24 rfl rfl
theorem dksX3_notCut_3 : cX3_notCut.data.toList.drop 68 = dktX3_notCut_3 := dk_seg dksX3_notCut_2 22 rfl rfl
theorem dX3_notCut_0 : decode cX3_notCut 0 = .ok (.aload_n 0, 1) := dk_42 (dk_at dksX3_notCut_0 0 rfl rfl)
theorem dX3_notCut_1 : decode cX3_notCut 1 = .ok (.iload_n 1, 1) := dk_27 (dk_at dksX3_notCut_0 1 rfl rfl)
theorem dX3_notCut_2 : decode cX3_notCut 2 = .ok (.invokevirtual 102, 3) := dk_182 0 102 (dk_at dksX3_notCut_0 2 rfl rfl)
theorem dX3_notCut_5 : decode cX3_notCut 5 = .ok (.ifCond .ne 10, 3) := dk_154 0 10 (dk_at dksX3_notCut_0 5 rfl rfl)
theorem dX3_notCut_8 : decode cX3_notCut 8 = .ok (.aload_n 0, 1) := dk_42 (dk_at dksX3_notCut_0 8 rfl rfl)
theorem dX3_notCut_9 : decode cX3_notCut 9 = .ok (.iconst 1, 1) := dk_4 (dk_at dksX3_notCut_0 9 rfl rfl)
theorem dX3_notCut_10 : decode cX3_notCut 10 = .ok (.iload_n 1, 1) := dk_27 (dk_at dksX3_notCut_0 10 rfl rfl)
theorem dX3_notCut_11 : decode cX3_notCut 11 = .ok (.invokevirtual 85, 3) := dk_182 0 85 (dk_at dksX3_notCut_0 11 rfl rfl)
theorem dX3_notCut_14 : decode cX3_notCut 14 = .ok (.ireturn, 1) := dk_172 (dk_at dksX3_notCut_0 14 rfl rfl)
theorem dX3_notCut_15 : decode cX3_notCut 15 = .ok (.iload_n 2, 1) := dk_28 (dk_at dksX3_notCut_0 15 rfl rfl)
theorem dX3_notCut_16 : decode cX3_notCut 16 = .ok (.iconst 1, 1) := dk_4 (dk_at dksX3_notCut_0 16 rfl rfl)
theorem dX3_notCut_17 : decode cX3_notCut 17 = .ok (.bipush 6, 2) := dk_16 6 (dk_at dksX3_notCut_0 17 rfl rfl)
theorem dX3_notCut_19 : decode cX3_notCut 19 = .ok (.invokestatic 77, 3) := dk_184 0 77 (dk_at dksX3_notCut_0 19 rfl rfl)
theorem dX3_notCut_22 : decode cX3_notCut 22 = .ok (.ifCond .ne 10, 3) := dk_154 0 10 (dk_at dksX3_notCut_1 0 rfl rfl)
theorem dX3_notCut_25 : decode cX3_notCut 25 = .ok (.aload_n 0, 1) := dk_42 (dk_at dksX3_notCut_1 3 rfl rfl)
theorem dX3_notCut_26 : decode cX3_notCut 26 = .ok (.iconst 3, 1) := dk_6 (dk_at dksX3_notCut_1 4 rfl rfl)
theorem dX3_notCut_27 : decode cX3_notCut 27 = .ok (.iload_n 2, 1) := dk_28 (dk_at dksX3_notCut_1 5 rfl rfl)
theorem dX3_notCut_28 : decode cX3_notCut 28 = .ok (.invokevirtual 85, 3) := dk_182 0 85 (dk_at dksX3_notCut_1 6 rfl rfl)
theorem dX3_notCut_31 : decode cX3_notCut 31 = .ok (.ireturn, 1) := dk_172 (dk_at dksX3_notCut_1 9 rfl rfl)
theorem dX3_notCut_32 : decode cX3_notCut 32 = .ok (.aload_n 0, 1) := dk_42 (dk_at dksX3_notCut_1 10 rfl rfl)
theorem dX3_notCut_33 : decode cX3_notCut 33 = .ok (.iload_n 1, 1) := dk_27 (dk_at dksX3_notCut_1 11 rfl rfl)
theorem dX3_notCut_34 : decode cX3_notCut 34 = .ok (.iconst 0, 1) := dk_3 (dk_at dksX3_notCut_1 12 rfl rfl)
theorem dX3_notCut_35 : decode cX3_notCut 35 = .ok (.invokevirtual 155, 3) := dk_182 0 155 (dk_at dksX3_notCut_1 13 rfl rfl)
theorem dX3_notCut_38 : decode cX3_notCut 38 = .ok (.iload_n 2, 1) := dk_28 (dk_at dksX3_notCut_1 16 rfl rfl)
theorem dX3_notCut_39 : decode cX3_notCut 39 = .ok (.if_icmp .ge 16, 3) := dk_162 0 16 (dk_at dksX3_notCut_1 17 rfl rfl)
theorem dX3_notCut_42 : decode cX3_notCut 42 = .ok (.aload_n 0, 1) := dk_42 (dk_at dksX3_notCut_1 20 rfl rfl)
theorem dX3_notCut_43 : decode cX3_notCut 43 = .ok (.bipush 18, 2) := dk_16 18 (dk_at dksX3_notCut_1 21 rfl rfl)
theorem dX3_notCut_45 : decode cX3_notCut 45 = .ok (.aload_n 0, 1) := dk_42 (dk_at dksX3_notCut_1 23 rfl rfl)
theorem dX3_notCut_46 : decode cX3_notCut 46 = .ok (.iload_n 1, 1) := dk_27 (dk_at dksX3_notCut_2 0 rfl rfl)
theorem dX3_notCut_47 : decode cX3_notCut 47 = .ok (.iconst 0, 1) := dk_3 (dk_at dksX3_notCut_2 1 rfl rfl)
theorem dX3_notCut_48 : decode cX3_notCut 48 = .ok (.invokevirtual 155, 3) := dk_182 0 155 (dk_at dksX3_notCut_2 2 rfl rfl)
theorem dX3_notCut_51 : decode cX3_notCut 51 = .ok (.invokevirtual 85, 3) := dk_182 0 85 (dk_at dksX3_notCut_2 5 rfl rfl)
theorem dX3_notCut_54 : decode cX3_notCut 54 = .ok (.ireturn, 1) := dk_172 (dk_at dksX3_notCut_2 8 rfl rfl)
theorem dX3_notCut_55 : decode cX3_notCut 55 = .ok (.aload_n 0, 1) := dk_42 (dk_at dksX3_notCut_2 9 rfl rfl)
theorem dX3_notCut_56 : decode cX3_notCut 56 = .ok (.invokevirtual 133, 3) := dk_182 0 133 (dk_at dksX3_notCut_2 10 rfl rfl)
theorem dX3_notCut_59 : decode cX3_notCut 59 = .ok (.bipush 24, 2) := dk_16 24 (dk_at dksX3_notCut_2 13 rfl rfl)
theorem dX3_notCut_61 : decode cX3_notCut 61 = .ok (.if_icmp .ne 13, 3) := dk_160 0 13 (dk_at dksX3_notCut_2 15 rfl rfl)
theorem dX3_notCut_64 : decode cX3_notCut 64 = .ok (.aload_n 0, 1) := dk_42 (dk_at dksX3_notCut_2 18 rfl rfl)
theorem dX3_notCut_65 : decode cX3_notCut 65 = .ok (.iconst 4, 1) := dk_7 (dk_at dksX3_notCut_2 19 rfl rfl)
theorem dX3_notCut_66 : decode cX3_notCut 66 = .ok (.bipush 24, 2) := dk_16 24 (dk_at dksX3_notCut_2 20 rfl rfl)
theorem dX3_notCut_68 : decode cX3_notCut 68 = .ok (.invokevirtual 85, 3) := dk_182 0 85 (dk_at dksX3_notCut_3 0 rfl rfl)
theorem dX3_notCut_71 : decode cX3_notCut 71 = .ok (.goto 4, 3) := dk_167 0 4 (dk_at dksX3_notCut_3 3 rfl rfl)
theorem dX3_notCut_74 : decode cX3_notCut 74 = .ok (.iconst 0, 1) := dk_3 (dk_at dksX3_notCut_3 6 rfl rfl)
theorem dX3_notCut_75 : decode cX3_notCut 75 = .ok (.ireturn, 1) := dk_172 (dk_at dksX3_notCut_3 7 rfl rfl)
abbrev cX3_wouldDraw : ByteArray := prog_9_method_62_code
def yX3_wouldDraw : MethodName := ⟨RX3, "wouldDraw", "(II)Z"⟩
def dkwX3_wouldDraw_3 : List UInt8 := [4, 167, 0, 4, 3, 62, 42, 182, 0, 197, 29, 172]
abbrev dktX3_wouldDraw_3 : List UInt8 := dkwX3_wouldDraw_3 ++ []
def dkwX3_wouldDraw_2 : List UInt8 := [167, 0, 4, 3, 172, 42, 182, 0, 71, 42, 27, 28, 182, 0, 191, 87, 42, 27, 182, 0, 176, 156, 0, 7]
abbrev dktX3_wouldDraw_2 : List UInt8 := dkwX3_wouldDraw_2 ++ dktX3_wouldDraw_3
def dkwX3_wouldDraw_1 : List UInt8 := [167, 0, 4, 3, 172, 28, 4, 16, 9, 184, 0, 77, 154, 0, 17, 42, 5, 182, 0, 61, 158, 0, 7, 4]
abbrev dktX3_wouldDraw_1 : List UInt8 := dkwX3_wouldDraw_1 ++ dktX3_wouldDraw_2
def dkwX3_wouldDraw_0 : List UInt8 := [42, 3, 181, 0, 42, 42, 27, 182, 0, 102, 154, 0, 17, 42, 4, 182, 0, 61, 158, 0, 7, 4]
abbrev dktX3_wouldDraw_0 : List UInt8 := dkwX3_wouldDraw_0 ++ dktX3_wouldDraw_1
theorem dksX3_wouldDraw_0 : cX3_wouldDraw.data.toList.drop 0 = dktX3_wouldDraw_0 := by decide +kernel
theorem dksX3_wouldDraw_1 : cX3_wouldDraw.data.toList.drop 22 = dktX3_wouldDraw_1 := dk_seg dksX3_wouldDraw_0 22 rfl rfl
theorem dksX3_wouldDraw_2 : cX3_wouldDraw.data.toList.drop 46 = dktX3_wouldDraw_2 := dk_seg dksX3_wouldDraw_1 24 rfl rfl
theorem dksX3_wouldDraw_3 : cX3_wouldDraw.data.toList.drop 70 = dktX3_wouldDraw_3 := dk_seg dksX3_wouldDraw_2 24 rfl rfl
theorem dX3_wouldDraw_0 : decode cX3_wouldDraw 0 = .ok (.aload_n 0, 1) := dk_42 (dk_at dksX3_wouldDraw_0 0 rfl rfl)
theorem dX3_wouldDraw_1 : decode cX3_wouldDraw 1 = .ok (.iconst 0, 1) := dk_3 (dk_at dksX3_wouldDraw_0 1 rfl rfl)
theorem dX3_wouldDraw_2 : decode cX3_wouldDraw 2 = .ok (.putfield 42, 3) := dk_181 0 42 (dk_at dksX3_wouldDraw_0 2 rfl rfl)
theorem dX3_wouldDraw_5 : decode cX3_wouldDraw 5 = .ok (.aload_n 0, 1) := dk_42 (dk_at dksX3_wouldDraw_0 5 rfl rfl)
theorem dX3_wouldDraw_6 : decode cX3_wouldDraw 6 = .ok (.iload_n 1, 1) := dk_27 (dk_at dksX3_wouldDraw_0 6 rfl rfl)
theorem dX3_wouldDraw_7 : decode cX3_wouldDraw 7 = .ok (.invokevirtual 102, 3) := dk_182 0 102 (dk_at dksX3_wouldDraw_0 7 rfl rfl)
theorem dX3_wouldDraw_10 : decode cX3_wouldDraw 10 = .ok (.ifCond .ne 17, 3) := dk_154 0 17 (dk_at dksX3_wouldDraw_0 10 rfl rfl)
theorem dX3_wouldDraw_13 : decode cX3_wouldDraw 13 = .ok (.aload_n 0, 1) := dk_42 (dk_at dksX3_wouldDraw_0 13 rfl rfl)
theorem dX3_wouldDraw_14 : decode cX3_wouldDraw 14 = .ok (.iconst 1, 1) := dk_4 (dk_at dksX3_wouldDraw_0 14 rfl rfl)
theorem dX3_wouldDraw_15 : decode cX3_wouldDraw 15 = .ok (.invokevirtual 61, 3) := dk_182 0 61 (dk_at dksX3_wouldDraw_0 15 rfl rfl)
theorem dX3_wouldDraw_18 : decode cX3_wouldDraw 18 = .ok (.ifCond .le 7, 3) := dk_158 0 7 (dk_at dksX3_wouldDraw_0 18 rfl rfl)
theorem dX3_wouldDraw_21 : decode cX3_wouldDraw 21 = .ok (.iconst 1, 1) := dk_4 (dk_at dksX3_wouldDraw_0 21 rfl rfl)
theorem dX3_wouldDraw_22 : decode cX3_wouldDraw 22 = .ok (.goto 4, 3) := dk_167 0 4 (dk_at dksX3_wouldDraw_1 0 rfl rfl)
theorem dX3_wouldDraw_25 : decode cX3_wouldDraw 25 = .ok (.iconst 0, 1) := dk_3 (dk_at dksX3_wouldDraw_1 3 rfl rfl)
theorem dX3_wouldDraw_26 : decode cX3_wouldDraw 26 = .ok (.ireturn, 1) := dk_172 (dk_at dksX3_wouldDraw_1 4 rfl rfl)
theorem dX3_wouldDraw_27 : decode cX3_wouldDraw 27 = .ok (.iload_n 2, 1) := dk_28 (dk_at dksX3_wouldDraw_1 5 rfl rfl)
theorem dX3_wouldDraw_28 : decode cX3_wouldDraw 28 = .ok (.iconst 1, 1) := dk_4 (dk_at dksX3_wouldDraw_1 6 rfl rfl)
theorem dX3_wouldDraw_29 : decode cX3_wouldDraw 29 = .ok (.bipush 9, 2) := dk_16 9 (dk_at dksX3_wouldDraw_1 7 rfl rfl)
theorem dX3_wouldDraw_31 : decode cX3_wouldDraw 31 = .ok (.invokestatic 77, 3) := dk_184 0 77 (dk_at dksX3_wouldDraw_1 9 rfl rfl)
theorem dX3_wouldDraw_34 : decode cX3_wouldDraw 34 = .ok (.ifCond .ne 17, 3) := dk_154 0 17 (dk_at dksX3_wouldDraw_1 12 rfl rfl)
theorem dX3_wouldDraw_37 : decode cX3_wouldDraw 37 = .ok (.aload_n 0, 1) := dk_42 (dk_at dksX3_wouldDraw_1 15 rfl rfl)
theorem dX3_wouldDraw_38 : decode cX3_wouldDraw 38 = .ok (.iconst 2, 1) := dk_5 (dk_at dksX3_wouldDraw_1 16 rfl rfl)
theorem dX3_wouldDraw_39 : decode cX3_wouldDraw 39 = .ok (.invokevirtual 61, 3) := dk_182 0 61 (dk_at dksX3_wouldDraw_1 17 rfl rfl)
theorem dX3_wouldDraw_42 : decode cX3_wouldDraw 42 = .ok (.ifCond .le 7, 3) := dk_158 0 7 (dk_at dksX3_wouldDraw_1 20 rfl rfl)
theorem dX3_wouldDraw_45 : decode cX3_wouldDraw 45 = .ok (.iconst 1, 1) := dk_4 (dk_at dksX3_wouldDraw_1 23 rfl rfl)
theorem dX3_wouldDraw_46 : decode cX3_wouldDraw 46 = .ok (.goto 4, 3) := dk_167 0 4 (dk_at dksX3_wouldDraw_2 0 rfl rfl)
theorem dX3_wouldDraw_49 : decode cX3_wouldDraw 49 = .ok (.iconst 0, 1) := dk_3 (dk_at dksX3_wouldDraw_2 3 rfl rfl)
theorem dX3_wouldDraw_50 : decode cX3_wouldDraw 50 = .ok (.ireturn, 1) := dk_172 (dk_at dksX3_wouldDraw_2 4 rfl rfl)
theorem dX3_wouldDraw_51 : decode cX3_wouldDraw 51 = .ok (.aload_n 0, 1) := dk_42 (dk_at dksX3_wouldDraw_2 5 rfl rfl)
theorem dX3_wouldDraw_52 : decode cX3_wouldDraw 52 = .ok (.invokevirtual 71, 3) := dk_182 0 71 (dk_at dksX3_wouldDraw_2 6 rfl rfl)
theorem dX3_wouldDraw_55 : decode cX3_wouldDraw 55 = .ok (.aload_n 0, 1) := dk_42 (dk_at dksX3_wouldDraw_2 9 rfl rfl)
theorem dX3_wouldDraw_56 : decode cX3_wouldDraw 56 = .ok (.iload_n 1, 1) := dk_27 (dk_at dksX3_wouldDraw_2 10 rfl rfl)
theorem dX3_wouldDraw_57 : decode cX3_wouldDraw 57 = .ok (.iload_n 2, 1) := dk_28 (dk_at dksX3_wouldDraw_2 11 rfl rfl)
theorem dX3_wouldDraw_58 : decode cX3_wouldDraw 58 = .ok (.invokevirtual 191, 3) := dk_182 0 191 (dk_at dksX3_wouldDraw_2 12 rfl rfl)
theorem dX3_wouldDraw_61 : decode cX3_wouldDraw 61 = .ok (.pop, 1) := dk_87 (dk_at dksX3_wouldDraw_2 15 rfl rfl)
theorem dX3_wouldDraw_62 : decode cX3_wouldDraw 62 = .ok (.aload_n 0, 1) := dk_42 (dk_at dksX3_wouldDraw_2 16 rfl rfl)
theorem dX3_wouldDraw_63 : decode cX3_wouldDraw 63 = .ok (.iload_n 1, 1) := dk_27 (dk_at dksX3_wouldDraw_2 17 rfl rfl)
theorem dX3_wouldDraw_64 : decode cX3_wouldDraw 64 = .ok (.invokevirtual 176, 3) := dk_182 0 176 (dk_at dksX3_wouldDraw_2 18 rfl rfl)
theorem dX3_wouldDraw_67 : decode cX3_wouldDraw 67 = .ok (.ifCond .ge 7, 3) := dk_156 0 7 (dk_at dksX3_wouldDraw_2 21 rfl rfl)
theorem dX3_wouldDraw_70 : decode cX3_wouldDraw 70 = .ok (.iconst 1, 1) := dk_4 (dk_at dksX3_wouldDraw_3 0 rfl rfl)
theorem dX3_wouldDraw_71 : decode cX3_wouldDraw 71 = .ok (.goto 4, 3) := dk_167 0 4 (dk_at dksX3_wouldDraw_3 1 rfl rfl)
theorem dX3_wouldDraw_74 : decode cX3_wouldDraw 74 = .ok (.iconst 0, 1) := dk_3 (dk_at dksX3_wouldDraw_3 4 rfl rfl)
theorem dX3_wouldDraw_75 : decode cX3_wouldDraw 75 = .ok (.istore_n 3, 1) := dk_62 (dk_at dksX3_wouldDraw_3 5 rfl rfl)
theorem dX3_wouldDraw_76 : decode cX3_wouldDraw 76 = .ok (.aload_n 0, 1) := dk_42 (dk_at dksX3_wouldDraw_3 6 rfl rfl)
theorem dX3_wouldDraw_77 : decode cX3_wouldDraw 77 = .ok (.invokevirtual 197, 3) := dk_182 0 197 (dk_at dksX3_wouldDraw_3 7 rfl rfl)
theorem dX3_wouldDraw_80 : decode cX3_wouldDraw 80 = .ok (.iload_n 3, 1) := dk_29 (dk_at dksX3_wouldDraw_3 10 rfl rfl)
theorem dX3_wouldDraw_81 : decode cX3_wouldDraw 81 = .ok (.ireturn, 1) := dk_172 (dk_at dksX3_wouldDraw_3 11 rfl rfl)
abbrev cX3_forgets : ByteArray := prog_9_method_9_code
def yX3_forgets : MethodName := ⟨RX3, "forgets", "()V"⟩
def dkwX3_forgets_1 : List UInt8 := [167, 255, 235, 177]
abbrev dktX3_forgets_1 : List UInt8 := dkwX3_forgets_1 ++ []
def dkwX3_forgets_0 : List UInt8 := [3, 60, 27, 16, 99, 162, 0, 21, 42, 180, 0, 16, 27, 42, 180, 0, 25, 27, 46, 79, 132, 1, 1]
abbrev dktX3_forgets_0 : List UInt8 := dkwX3_forgets_0 ++ dktX3_forgets_1
theorem dksX3_forgets_0 : cX3_forgets.data.toList.drop 0 = dktX3_forgets_0 := by decide +kernel
theorem dksX3_forgets_1 : cX3_forgets.data.toList.drop 23 = dktX3_forgets_1 := dk_seg dksX3_forgets_0 23 rfl rfl
theorem dX3_forgets_0 : decode cX3_forgets 0 = .ok (.iconst 0, 1) := dk_3 (dk_at dksX3_forgets_0 0 rfl rfl)
theorem dX3_forgets_1 : decode cX3_forgets 1 = .ok (.istore_n 1, 1) := dk_60 (dk_at dksX3_forgets_0 1 rfl rfl)
theorem dX3_forgets_2 : decode cX3_forgets 2 = .ok (.iload_n 1, 1) := dk_27 (dk_at dksX3_forgets_0 2 rfl rfl)
theorem dX3_forgets_3 : decode cX3_forgets 3 = .ok (.bipush 99, 2) := dk_16 99 (dk_at dksX3_forgets_0 3 rfl rfl)
theorem dX3_forgets_5 : decode cX3_forgets 5 = .ok (.if_icmp .ge 21, 3) := dk_162 0 21 (dk_at dksX3_forgets_0 5 rfl rfl)
theorem dX3_forgets_8 : decode cX3_forgets 8 = .ok (.aload_n 0, 1) := dk_42 (dk_at dksX3_forgets_0 8 rfl rfl)
theorem dX3_forgets_9 : decode cX3_forgets 9 = .ok (.getfield 16, 3) := dk_180 0 16 (dk_at dksX3_forgets_0 9 rfl rfl)
theorem dX3_forgets_12 : decode cX3_forgets 12 = .ok (.iload_n 1, 1) := dk_27 (dk_at dksX3_forgets_0 12 rfl rfl)
theorem dX3_forgets_13 : decode cX3_forgets 13 = .ok (.aload_n 0, 1) := dk_42 (dk_at dksX3_forgets_0 13 rfl rfl)
theorem dX3_forgets_14 : decode cX3_forgets 14 = .ok (.getfield 25, 3) := dk_180 0 25 (dk_at dksX3_forgets_0 14 rfl rfl)
theorem dX3_forgets_17 : decode cX3_forgets 17 = .ok (.iload_n 1, 1) := dk_27 (dk_at dksX3_forgets_0 17 rfl rfl)
theorem dX3_forgets_18 : decode cX3_forgets 18 = .ok (.iaload, 1) := dk_46 (dk_at dksX3_forgets_0 18 rfl rfl)
theorem dX3_forgets_19 : decode cX3_forgets 19 = .ok (.iastore, 1) := dk_79 (dk_at dksX3_forgets_0 19 rfl rfl)
theorem dX3_forgets_20 : decode cX3_forgets 20 = .ok (.iinc 1 1, 3) := dk_132 1 1 (dk_at dksX3_forgets_0 20 rfl rfl)
theorem dX3_forgets_23 : decode cX3_forgets 23 = .ok (.goto (-21), 3) := dk_167 255 235 (dk_at dksX3_forgets_1 0 rfl rfl)
theorem dX3_forgets_26 : decode cX3_forgets 26 = .ok (.return_, 1) := dk_177 (dk_at dksX3_forgets_1 3 rfl rfl)
abbrev cX3_mostSmoked : ByteArray := prog_9_method_63_code
def yX3_mostSmoked : MethodName := ⟨RX3, "mostSmoked", "()I"⟩
def dkwX3_mostSmoked_2 : List UInt8 := [164, 0, 7, 28, 167, 0, 4, 27, 60, 132, 2, 1, 167, 255, 222, 27, 172]
abbrev dktX3_mostSmoked_2 : List UInt8 := dkwX3_mostSmoked_2 ++ []
def dkwX3_mostSmoked_1 : List UInt8 := [28, 42, 180, 0, 16, 5, 46, 162, 0, 30, 42, 28, 7, 182, 0, 155, 42, 27, 7, 182, 0, 155]
abbrev dktX3_mostSmoked_1 : List UInt8 := dkwX3_mostSmoked_1 ++ dktX3_mostSmoked_2
def dkwX3_mostSmoked_0 : List UInt8 := [42, 3, 181, 0, 42, 42, 180, 0, 16, 5, 46, 154, 0, 9, 42, 4, 182, 0, 61, 172, 3, 60, 4, 61]
abbrev dktX3_mostSmoked_0 : List UInt8 := dkwX3_mostSmoked_0 ++ dktX3_mostSmoked_1
theorem dksX3_mostSmoked_0 : cX3_mostSmoked.data.toList.drop 0 = dktX3_mostSmoked_0 := by decide +kernel
theorem dksX3_mostSmoked_1 : cX3_mostSmoked.data.toList.drop 24 = dktX3_mostSmoked_1 := dk_seg dksX3_mostSmoked_0 24 rfl rfl
theorem dksX3_mostSmoked_2 : cX3_mostSmoked.data.toList.drop 46 = dktX3_mostSmoked_2 := dk_seg dksX3_mostSmoked_1 22 rfl rfl
theorem dX3_mostSmoked_0 : decode cX3_mostSmoked 0 = .ok (.aload_n 0, 1) := dk_42 (dk_at dksX3_mostSmoked_0 0 rfl rfl)
theorem dX3_mostSmoked_1 : decode cX3_mostSmoked 1 = .ok (.iconst 0, 1) := dk_3 (dk_at dksX3_mostSmoked_0 1 rfl rfl)
theorem dX3_mostSmoked_2 : decode cX3_mostSmoked 2 = .ok (.putfield 42, 3) := dk_181 0 42 (dk_at dksX3_mostSmoked_0 2 rfl rfl)
theorem dX3_mostSmoked_5 : decode cX3_mostSmoked 5 = .ok (.aload_n 0, 1) := dk_42 (dk_at dksX3_mostSmoked_0 5 rfl rfl)
theorem dX3_mostSmoked_6 : decode cX3_mostSmoked 6 = .ok (.getfield 16, 3) := dk_180 0 16 (dk_at dksX3_mostSmoked_0 6 rfl rfl)
theorem dX3_mostSmoked_9 : decode cX3_mostSmoked 9 = .ok (.iconst 2, 1) := dk_5 (dk_at dksX3_mostSmoked_0 9 rfl rfl)
theorem dX3_mostSmoked_10 : decode cX3_mostSmoked 10 = .ok (.iaload, 1) := dk_46 (dk_at dksX3_mostSmoked_0 10 rfl rfl)
theorem dX3_mostSmoked_11 : decode cX3_mostSmoked 11 = .ok (.ifCond .ne 9, 3) := dk_154 0 9 (dk_at dksX3_mostSmoked_0 11 rfl rfl)
theorem dX3_mostSmoked_14 : decode cX3_mostSmoked 14 = .ok (.aload_n 0, 1) := dk_42 (dk_at dksX3_mostSmoked_0 14 rfl rfl)
theorem dX3_mostSmoked_15 : decode cX3_mostSmoked 15 = .ok (.iconst 1, 1) := dk_4 (dk_at dksX3_mostSmoked_0 15 rfl rfl)
theorem dX3_mostSmoked_16 : decode cX3_mostSmoked 16 = .ok (.invokevirtual 61, 3) := dk_182 0 61 (dk_at dksX3_mostSmoked_0 16 rfl rfl)
theorem dX3_mostSmoked_19 : decode cX3_mostSmoked 19 = .ok (.ireturn, 1) := dk_172 (dk_at dksX3_mostSmoked_0 19 rfl rfl)
theorem dX3_mostSmoked_20 : decode cX3_mostSmoked 20 = .ok (.iconst 0, 1) := dk_3 (dk_at dksX3_mostSmoked_0 20 rfl rfl)
theorem dX3_mostSmoked_21 : decode cX3_mostSmoked 21 = .ok (.istore_n 1, 1) := dk_60 (dk_at dksX3_mostSmoked_0 21 rfl rfl)
theorem dX3_mostSmoked_22 : decode cX3_mostSmoked 22 = .ok (.iconst 1, 1) := dk_4 (dk_at dksX3_mostSmoked_0 22 rfl rfl)
theorem dX3_mostSmoked_23 : decode cX3_mostSmoked 23 = .ok (.istore_n 2, 1) := dk_61 (dk_at dksX3_mostSmoked_0 23 rfl rfl)
theorem dX3_mostSmoked_24 : decode cX3_mostSmoked 24 = .ok (.iload_n 2, 1) := dk_28 (dk_at dksX3_mostSmoked_1 0 rfl rfl)
theorem dX3_mostSmoked_25 : decode cX3_mostSmoked 25 = .ok (.aload_n 0, 1) := dk_42 (dk_at dksX3_mostSmoked_1 1 rfl rfl)
theorem dX3_mostSmoked_26 : decode cX3_mostSmoked 26 = .ok (.getfield 16, 3) := dk_180 0 16 (dk_at dksX3_mostSmoked_1 2 rfl rfl)
theorem dX3_mostSmoked_29 : decode cX3_mostSmoked 29 = .ok (.iconst 2, 1) := dk_5 (dk_at dksX3_mostSmoked_1 5 rfl rfl)
theorem dX3_mostSmoked_30 : decode cX3_mostSmoked 30 = .ok (.iaload, 1) := dk_46 (dk_at dksX3_mostSmoked_1 6 rfl rfl)
theorem dX3_mostSmoked_31 : decode cX3_mostSmoked 31 = .ok (.if_icmp .ge 30, 3) := dk_162 0 30 (dk_at dksX3_mostSmoked_1 7 rfl rfl)
theorem dX3_mostSmoked_34 : decode cX3_mostSmoked 34 = .ok (.aload_n 0, 1) := dk_42 (dk_at dksX3_mostSmoked_1 10 rfl rfl)
theorem dX3_mostSmoked_35 : decode cX3_mostSmoked 35 = .ok (.iload_n 2, 1) := dk_28 (dk_at dksX3_mostSmoked_1 11 rfl rfl)
theorem dX3_mostSmoked_36 : decode cX3_mostSmoked 36 = .ok (.iconst 4, 1) := dk_7 (dk_at dksX3_mostSmoked_1 12 rfl rfl)
theorem dX3_mostSmoked_37 : decode cX3_mostSmoked 37 = .ok (.invokevirtual 155, 3) := dk_182 0 155 (dk_at dksX3_mostSmoked_1 13 rfl rfl)
theorem dX3_mostSmoked_40 : decode cX3_mostSmoked 40 = .ok (.aload_n 0, 1) := dk_42 (dk_at dksX3_mostSmoked_1 16 rfl rfl)
theorem dX3_mostSmoked_41 : decode cX3_mostSmoked 41 = .ok (.iload_n 1, 1) := dk_27 (dk_at dksX3_mostSmoked_1 17 rfl rfl)
theorem dX3_mostSmoked_42 : decode cX3_mostSmoked 42 = .ok (.iconst 4, 1) := dk_7 (dk_at dksX3_mostSmoked_1 18 rfl rfl)
theorem dX3_mostSmoked_43 : decode cX3_mostSmoked 43 = .ok (.invokevirtual 155, 3) := dk_182 0 155 (dk_at dksX3_mostSmoked_1 19 rfl rfl)
theorem dX3_mostSmoked_46 : decode cX3_mostSmoked 46 = .ok (.if_icmp .le 7, 3) := dk_164 0 7 (dk_at dksX3_mostSmoked_2 0 rfl rfl)
theorem dX3_mostSmoked_49 : decode cX3_mostSmoked 49 = .ok (.iload_n 2, 1) := dk_28 (dk_at dksX3_mostSmoked_2 3 rfl rfl)
theorem dX3_mostSmoked_50 : decode cX3_mostSmoked 50 = .ok (.goto 4, 3) := dk_167 0 4 (dk_at dksX3_mostSmoked_2 4 rfl rfl)
theorem dX3_mostSmoked_53 : decode cX3_mostSmoked 53 = .ok (.iload_n 1, 1) := dk_27 (dk_at dksX3_mostSmoked_2 7 rfl rfl)
theorem dX3_mostSmoked_54 : decode cX3_mostSmoked 54 = .ok (.istore_n 1, 1) := dk_60 (dk_at dksX3_mostSmoked_2 8 rfl rfl)
theorem dX3_mostSmoked_55 : decode cX3_mostSmoked 55 = .ok (.iinc 2 1, 3) := dk_132 2 1 (dk_at dksX3_mostSmoked_2 9 rfl rfl)
theorem dX3_mostSmoked_58 : decode cX3_mostSmoked 58 = .ok (.goto (-34), 3) := dk_167 255 222 (dk_at dksX3_mostSmoked_2 12 rfl rfl)
theorem dX3_mostSmoked_61 : decode cX3_mostSmoked 61 = .ok (.iload_n 1, 1) := dk_27 (dk_at dksX3_mostSmoked_2 15 rfl rfl)
theorem dX3_mostSmoked_62 : decode cX3_mostSmoked 62 = .ok (.ireturn, 1) := dk_172 (dk_at dksX3_mostSmoked_2 16 rfl rfl)
abbrev cX3_parrot : ByteArray := prog_9_method_65_code
def yX3_parrot : MethodName := ⟨RX3, "parrot", "(I)I"⟩
def dkwX3_parrot_1 : List UInt8 := [180, 0, 16, 16, 11, 92, 46, 4, 27, 120, 128, 79, 42, 182, 0, 206, 172]
abbrev dktX3_parrot_1 : List UInt8 := dkwX3_parrot_1 ++ []
def dkwX3_parrot_0 : List UInt8 := [42, 3, 181, 0, 42, 42, 27, 182, 0, 203, 153, 0, 8, 42, 182, 0, 92, 172, 42, 182, 0, 96, 42]
abbrev dktX3_parrot_0 : List UInt8 := dkwX3_parrot_0 ++ dktX3_parrot_1
theorem dksX3_parrot_0 : cX3_parrot.data.toList.drop 0 = dktX3_parrot_0 := by decide +kernel
theorem dksX3_parrot_1 : cX3_parrot.data.toList.drop 23 = dktX3_parrot_1 := dk_seg dksX3_parrot_0 23 rfl rfl
theorem dX3_parrot_0 : decode cX3_parrot 0 = .ok (.aload_n 0, 1) := dk_42 (dk_at dksX3_parrot_0 0 rfl rfl)
theorem dX3_parrot_1 : decode cX3_parrot 1 = .ok (.iconst 0, 1) := dk_3 (dk_at dksX3_parrot_0 1 rfl rfl)
theorem dX3_parrot_2 : decode cX3_parrot 2 = .ok (.putfield 42, 3) := dk_181 0 42 (dk_at dksX3_parrot_0 2 rfl rfl)
theorem dX3_parrot_5 : decode cX3_parrot 5 = .ok (.aload_n 0, 1) := dk_42 (dk_at dksX3_parrot_0 5 rfl rfl)
theorem dX3_parrot_6 : decode cX3_parrot 6 = .ok (.iload_n 1, 1) := dk_27 (dk_at dksX3_parrot_0 6 rfl rfl)
theorem dX3_parrot_7 : decode cX3_parrot 7 = .ok (.invokevirtual 203, 3) := dk_182 0 203 (dk_at dksX3_parrot_0 7 rfl rfl)
theorem dX3_parrot_10 : decode cX3_parrot 10 = .ok (.ifCond .eq 8, 3) := dk_153 0 8 (dk_at dksX3_parrot_0 10 rfl rfl)
theorem dX3_parrot_13 : decode cX3_parrot 13 = .ok (.aload_n 0, 1) := dk_42 (dk_at dksX3_parrot_0 13 rfl rfl)
theorem dX3_parrot_14 : decode cX3_parrot 14 = .ok (.invokevirtual 92, 3) := dk_182 0 92 (dk_at dksX3_parrot_0 14 rfl rfl)
theorem dX3_parrot_17 : decode cX3_parrot 17 = .ok (.ireturn, 1) := dk_172 (dk_at dksX3_parrot_0 17 rfl rfl)
theorem dX3_parrot_18 : decode cX3_parrot 18 = .ok (.aload_n 0, 1) := dk_42 (dk_at dksX3_parrot_0 18 rfl rfl)
theorem dX3_parrot_19 : decode cX3_parrot 19 = .ok (.invokevirtual 96, 3) := dk_182 0 96 (dk_at dksX3_parrot_0 19 rfl rfl)
theorem dX3_parrot_22 : decode cX3_parrot 22 = .ok (.aload_n 0, 1) := dk_42 (dk_at dksX3_parrot_0 22 rfl rfl)
theorem dX3_parrot_23 : decode cX3_parrot 23 = .ok (.getfield 16, 3) := dk_180 0 16 (dk_at dksX3_parrot_1 0 rfl rfl)
theorem dX3_parrot_26 : decode cX3_parrot 26 = .ok (.bipush 11, 2) := dk_16 11 (dk_at dksX3_parrot_1 3 rfl rfl)
theorem dX3_parrot_28 : decode cX3_parrot 28 = .ok (.dup2, 1) := dk_92 (dk_at dksX3_parrot_1 5 rfl rfl)
theorem dX3_parrot_29 : decode cX3_parrot 29 = .ok (.iaload, 1) := dk_46 (dk_at dksX3_parrot_1 6 rfl rfl)
theorem dX3_parrot_30 : decode cX3_parrot 30 = .ok (.iconst 1, 1) := dk_4 (dk_at dksX3_parrot_1 7 rfl rfl)
theorem dX3_parrot_31 : decode cX3_parrot 31 = .ok (.iload_n 1, 1) := dk_27 (dk_at dksX3_parrot_1 8 rfl rfl)
theorem dX3_parrot_32 : decode cX3_parrot 32 = .ok (.ishl, 1) := dk_120 (dk_at dksX3_parrot_1 9 rfl rfl)
theorem dX3_parrot_33 : decode cX3_parrot 33 = .ok (.ior, 1) := dk_128 (dk_at dksX3_parrot_1 10 rfl rfl)
theorem dX3_parrot_34 : decode cX3_parrot 34 = .ok (.iastore, 1) := dk_79 (dk_at dksX3_parrot_1 11 rfl rfl)
theorem dX3_parrot_35 : decode cX3_parrot 35 = .ok (.aload_n 0, 1) := dk_42 (dk_at dksX3_parrot_1 12 rfl rfl)
theorem dX3_parrot_36 : decode cX3_parrot 36 = .ok (.invokevirtual 206, 3) := dk_182 0 206 (dk_at dksX3_parrot_1 13 rfl rfl)
theorem dX3_parrot_39 : decode cX3_parrot 39 = .ok (.ireturn, 1) := dk_172 (dk_at dksX3_parrot_1 16 rfl rfl)
abbrev cX3_notParrot : ByteArray := prog_9_method_64_code
def yX3_notParrot : MethodName := ⟨RX3, "notParrot", "(I)I"⟩
def dkwX3_notParrot_1 : List UInt8 := [16, 13, 27, 182, 0, 85, 167, 0, 4, 3, 172]
abbrev dktX3_notParrot_1 : List UInt8 := dkwX3_notParrot_1 ++ []
def dkwX3_notParrot_0 : List UInt8 := [27, 184, 0, 200, 154, 0, 10, 42, 5, 27, 182, 0, 85, 172, 42, 27, 182, 0, 81, 153, 0, 13, 42]
abbrev dktX3_notParrot_0 : List UInt8 := dkwX3_notParrot_0 ++ dktX3_notParrot_1
theorem dksX3_notParrot_0 : cX3_notParrot.data.toList.drop 0 = dktX3_notParrot_0 := by decide +kernel
theorem dksX3_notParrot_1 : cX3_notParrot.data.toList.drop 23 = dktX3_notParrot_1 := dk_seg dksX3_notParrot_0 23 rfl rfl
theorem dX3_notParrot_0 : decode cX3_notParrot 0 = .ok (.iload_n 1, 1) := dk_27 (dk_at dksX3_notParrot_0 0 rfl rfl)
theorem dX3_notParrot_1 : decode cX3_notParrot 1 = .ok (.invokestatic 200, 3) := dk_184 0 200 (dk_at dksX3_notParrot_0 1 rfl rfl)
theorem dX3_notParrot_4 : decode cX3_notParrot 4 = .ok (.ifCond .ne 10, 3) := dk_154 0 10 (dk_at dksX3_notParrot_0 4 rfl rfl)
theorem dX3_notParrot_7 : decode cX3_notParrot 7 = .ok (.aload_n 0, 1) := dk_42 (dk_at dksX3_notParrot_0 7 rfl rfl)
theorem dX3_notParrot_8 : decode cX3_notParrot 8 = .ok (.iconst 2, 1) := dk_5 (dk_at dksX3_notParrot_0 8 rfl rfl)
theorem dX3_notParrot_9 : decode cX3_notParrot 9 = .ok (.iload_n 1, 1) := dk_27 (dk_at dksX3_notParrot_0 9 rfl rfl)
theorem dX3_notParrot_10 : decode cX3_notParrot 10 = .ok (.invokevirtual 85, 3) := dk_182 0 85 (dk_at dksX3_notParrot_0 10 rfl rfl)
theorem dX3_notParrot_13 : decode cX3_notParrot 13 = .ok (.ireturn, 1) := dk_172 (dk_at dksX3_notParrot_0 13 rfl rfl)
theorem dX3_notParrot_14 : decode cX3_notParrot 14 = .ok (.aload_n 0, 1) := dk_42 (dk_at dksX3_notParrot_0 14 rfl rfl)
theorem dX3_notParrot_15 : decode cX3_notParrot 15 = .ok (.iload_n 1, 1) := dk_27 (dk_at dksX3_notParrot_0 15 rfl rfl)
theorem dX3_notParrot_16 : decode cX3_notParrot 16 = .ok (.invokevirtual 81, 3) := dk_182 0 81 (dk_at dksX3_notParrot_0 16 rfl rfl)
theorem dX3_notParrot_19 : decode cX3_notParrot 19 = .ok (.ifCond .eq 13, 3) := dk_153 0 13 (dk_at dksX3_notParrot_0 19 rfl rfl)
theorem dX3_notParrot_22 : decode cX3_notParrot 22 = .ok (.aload_n 0, 1) := dk_42 (dk_at dksX3_notParrot_0 22 rfl rfl)
theorem dX3_notParrot_23 : decode cX3_notParrot 23 = .ok (.bipush 13, 2) := dk_16 13 (dk_at dksX3_notParrot_1 0 rfl rfl)
theorem dX3_notParrot_25 : decode cX3_notParrot 25 = .ok (.iload_n 1, 1) := dk_27 (dk_at dksX3_notParrot_1 2 rfl rfl)
theorem dX3_notParrot_26 : decode cX3_notParrot 26 = .ok (.invokevirtual 85, 3) := dk_182 0 85 (dk_at dksX3_notParrot_1 3 rfl rfl)
theorem dX3_notParrot_29 : decode cX3_notParrot 29 = .ok (.goto 4, 3) := dk_167 0 4 (dk_at dksX3_notParrot_1 6 rfl rfl)
theorem dX3_notParrot_32 : decode cX3_notParrot 32 = .ok (.iconst 0, 1) := dk_3 (dk_at dksX3_notParrot_1 9 rfl rfl)
theorem dX3_notParrot_33 : decode cX3_notParrot 33 = .ok (.ireturn, 1) := dk_172 (dk_at dksX3_notParrot_1 10 rfl rfl)
abbrev cX3_isPerch : ByteArray := prog_9_method_15_code
def yX3_isPerch : MethodName := ⟨RX3, "isPerch", "(I)Z"⟩
def dkwX3_isPerch_0 : List UInt8 := [26, 3, 16, 7, 184, 0, 77, 172]
abbrev dktX3_isPerch_0 : List UInt8 := dkwX3_isPerch_0 ++ []
theorem dksX3_isPerch_0 : cX3_isPerch.data.toList.drop 0 = dktX3_isPerch_0 := by decide +kernel
theorem dX3_isPerch_0 : decode cX3_isPerch 0 = .ok (.iload_n 0, 1) := dk_26 (dk_at dksX3_isPerch_0 0 rfl rfl)
theorem dX3_isPerch_1 : decode cX3_isPerch 1 = .ok (.iconst 0, 1) := dk_3 (dk_at dksX3_isPerch_0 1 rfl rfl)
theorem dX3_isPerch_2 : decode cX3_isPerch 2 = .ok (.bipush 7, 2) := dk_16 7 (dk_at dksX3_isPerch_0 2 rfl rfl)
theorem dX3_isPerch_4 : decode cX3_isPerch 4 = .ok (.invokestatic 77, 3) := dk_184 0 77 (dk_at dksX3_isPerch_0 4 rfl rfl)
theorem dX3_isPerch_7 : decode cX3_isPerch 7 = .ok (.ireturn, 1) := dk_172 (dk_at dksX3_isPerch_0 7 rfl rfl)
abbrev cX3_isTaken : ByteArray := prog_9_method_16_code
def yX3_isTaken : MethodName := ⟨RX3, "isTaken", "(I)Z"⟩
def dkwX3_isTaken_0 : List UInt8 := [42, 180, 0, 16, 16, 11, 46, 27, 122, 4, 126, 4, 160, 0, 7, 4, 167, 0, 4, 3, 172]
abbrev dktX3_isTaken_0 : List UInt8 := dkwX3_isTaken_0 ++ []
theorem dksX3_isTaken_0 : cX3_isTaken.data.toList.drop 0 = dktX3_isTaken_0 := by decide +kernel
theorem dX3_isTaken_0 : decode cX3_isTaken 0 = .ok (.aload_n 0, 1) := dk_42 (dk_at dksX3_isTaken_0 0 rfl rfl)
theorem dX3_isTaken_1 : decode cX3_isTaken 1 = .ok (.getfield 16, 3) := dk_180 0 16 (dk_at dksX3_isTaken_0 1 rfl rfl)
theorem dX3_isTaken_4 : decode cX3_isTaken 4 = .ok (.bipush 11, 2) := dk_16 11 (dk_at dksX3_isTaken_0 4 rfl rfl)
theorem dX3_isTaken_6 : decode cX3_isTaken 6 = .ok (.iaload, 1) := dk_46 (dk_at dksX3_isTaken_0 6 rfl rfl)
theorem dX3_isTaken_7 : decode cX3_isTaken 7 = .ok (.iload_n 1, 1) := dk_27 (dk_at dksX3_isTaken_0 7 rfl rfl)
theorem dX3_isTaken_8 : decode cX3_isTaken 8 = .ok (.ishr, 1) := dk_122 (dk_at dksX3_isTaken_0 8 rfl rfl)
theorem dX3_isTaken_9 : decode cX3_isTaken 9 = .ok (.iconst 1, 1) := dk_4 (dk_at dksX3_isTaken_0 9 rfl rfl)
theorem dX3_isTaken_10 : decode cX3_isTaken 10 = .ok (.iand, 1) := dk_126 (dk_at dksX3_isTaken_0 10 rfl rfl)
theorem dX3_isTaken_11 : decode cX3_isTaken 11 = .ok (.iconst 1, 1) := dk_4 (dk_at dksX3_isTaken_0 11 rfl rfl)
theorem dX3_isTaken_12 : decode cX3_isTaken 12 = .ok (.if_icmp .ne 7, 3) := dk_160 0 7 (dk_at dksX3_isTaken_0 12 rfl rfl)
theorem dX3_isTaken_15 : decode cX3_isTaken 15 = .ok (.iconst 1, 1) := dk_4 (dk_at dksX3_isTaken_0 15 rfl rfl)
theorem dX3_isTaken_16 : decode cX3_isTaken 16 = .ok (.goto 4, 3) := dk_167 0 4 (dk_at dksX3_isTaken_0 16 rfl rfl)
theorem dX3_isTaken_19 : decode cX3_isTaken 19 = .ok (.iconst 0, 1) := dk_3 (dk_at dksX3_isTaken_0 19 rfl rfl)
theorem dX3_isTaken_20 : decode cX3_isTaken 20 = .ok (.ireturn, 1) := dk_172 (dk_at dksX3_isTaken_0 20 rfl rfl)
abbrev cX3_parrots : ByteArray := prog_9_method_17_code
def yX3_parrots : MethodName := ⟨RX3, "parrots", "()I"⟩
def dkwX3_parrots_1 : List UInt8 := [96, 60, 132, 2, 1, 167, 255, 231, 27, 172]
abbrev dktX3_parrots_1 : List UInt8 := dkwX3_parrots_1 ++ []
def dkwX3_parrots_0 : List UInt8 := [3, 60, 3, 61, 28, 16, 8, 162, 0, 25, 27, 42, 28, 182, 0, 81, 153, 0, 7, 4, 167, 0, 4, 3]
abbrev dktX3_parrots_0 : List UInt8 := dkwX3_parrots_0 ++ dktX3_parrots_1
theorem dksX3_parrots_0 : cX3_parrots.data.toList.drop 0 = dktX3_parrots_0 := by decide +kernel
theorem dksX3_parrots_1 : cX3_parrots.data.toList.drop 24 = dktX3_parrots_1 := dk_seg dksX3_parrots_0 24 rfl rfl
theorem dX3_parrots_0 : decode cX3_parrots 0 = .ok (.iconst 0, 1) := dk_3 (dk_at dksX3_parrots_0 0 rfl rfl)
theorem dX3_parrots_1 : decode cX3_parrots 1 = .ok (.istore_n 1, 1) := dk_60 (dk_at dksX3_parrots_0 1 rfl rfl)
theorem dX3_parrots_2 : decode cX3_parrots 2 = .ok (.iconst 0, 1) := dk_3 (dk_at dksX3_parrots_0 2 rfl rfl)
theorem dX3_parrots_3 : decode cX3_parrots 3 = .ok (.istore_n 2, 1) := dk_61 (dk_at dksX3_parrots_0 3 rfl rfl)
theorem dX3_parrots_4 : decode cX3_parrots 4 = .ok (.iload_n 2, 1) := dk_28 (dk_at dksX3_parrots_0 4 rfl rfl)
theorem dX3_parrots_5 : decode cX3_parrots 5 = .ok (.bipush 8, 2) := dk_16 8 (dk_at dksX3_parrots_0 5 rfl rfl)
theorem dX3_parrots_7 : decode cX3_parrots 7 = .ok (.if_icmp .ge 25, 3) := dk_162 0 25 (dk_at dksX3_parrots_0 7 rfl rfl)
theorem dX3_parrots_10 : decode cX3_parrots 10 = .ok (.iload_n 1, 1) := dk_27 (dk_at dksX3_parrots_0 10 rfl rfl)
theorem dX3_parrots_11 : decode cX3_parrots 11 = .ok (.aload_n 0, 1) := dk_42 (dk_at dksX3_parrots_0 11 rfl rfl)
theorem dX3_parrots_12 : decode cX3_parrots 12 = .ok (.iload_n 2, 1) := dk_28 (dk_at dksX3_parrots_0 12 rfl rfl)
theorem dX3_parrots_13 : decode cX3_parrots 13 = .ok (.invokevirtual 81, 3) := dk_182 0 81 (dk_at dksX3_parrots_0 13 rfl rfl)
theorem dX3_parrots_16 : decode cX3_parrots 16 = .ok (.ifCond .eq 7, 3) := dk_153 0 7 (dk_at dksX3_parrots_0 16 rfl rfl)
theorem dX3_parrots_19 : decode cX3_parrots 19 = .ok (.iconst 1, 1) := dk_4 (dk_at dksX3_parrots_0 19 rfl rfl)
theorem dX3_parrots_20 : decode cX3_parrots 20 = .ok (.goto 4, 3) := dk_167 0 4 (dk_at dksX3_parrots_0 20 rfl rfl)
theorem dX3_parrots_23 : decode cX3_parrots 23 = .ok (.iconst 0, 1) := dk_3 (dk_at dksX3_parrots_0 23 rfl rfl)
theorem dX3_parrots_24 : decode cX3_parrots 24 = .ok (.iadd, 1) := dk_96 (dk_at dksX3_parrots_1 0 rfl rfl)
theorem dX3_parrots_25 : decode cX3_parrots 25 = .ok (.istore_n 1, 1) := dk_60 (dk_at dksX3_parrots_1 1 rfl rfl)
theorem dX3_parrots_26 : decode cX3_parrots 26 = .ok (.iinc 2 1, 3) := dk_132 2 1 (dk_at dksX3_parrots_1 2 rfl rfl)
theorem dX3_parrots_29 : decode cX3_parrots 29 = .ok (.goto (-25), 3) := dk_167 255 231 (dk_at dksX3_parrots_1 5 rfl rfl)
theorem dX3_parrots_32 : decode cX3_parrots 32 = .ok (.iload_n 1, 1) := dk_27 (dk_at dksX3_parrots_1 8 rfl rfl)
theorem dX3_parrots_33 : decode cX3_parrots 33 = .ok (.ireturn, 1) := dk_172 (dk_at dksX3_parrots_1 9 rfl rfl)
abbrev cX3_scare : ByteArray := prog_9_method_69_code
def yX3_scare : MethodName := ⟨RX3, "scare", "(I)I"⟩
def dkwX3_scare_1 : List UInt8 := [182, 0, 215, 172]
abbrev dktX3_scare_1 : List UInt8 := dkwX3_scare_1 ++ []
def dkwX3_scare_0 : List UInt8 := [42, 3, 181, 0, 42, 42, 27, 182, 0, 212, 153, 0, 8, 42, 182, 0, 92, 172, 42, 182, 0, 96, 42, 27]
abbrev dktX3_scare_0 : List UInt8 := dkwX3_scare_0 ++ dktX3_scare_1
theorem dksX3_scare_0 : cX3_scare.data.toList.drop 0 = dktX3_scare_0 := by decide +kernel
theorem dksX3_scare_1 : cX3_scare.data.toList.drop 24 = dktX3_scare_1 := dk_seg dksX3_scare_0 24 rfl rfl
theorem dX3_scare_0 : decode cX3_scare 0 = .ok (.aload_n 0, 1) := dk_42 (dk_at dksX3_scare_0 0 rfl rfl)
theorem dX3_scare_1 : decode cX3_scare 1 = .ok (.iconst 0, 1) := dk_3 (dk_at dksX3_scare_0 1 rfl rfl)
theorem dX3_scare_2 : decode cX3_scare 2 = .ok (.putfield 42, 3) := dk_181 0 42 (dk_at dksX3_scare_0 2 rfl rfl)
theorem dX3_scare_5 : decode cX3_scare 5 = .ok (.aload_n 0, 1) := dk_42 (dk_at dksX3_scare_0 5 rfl rfl)
theorem dX3_scare_6 : decode cX3_scare 6 = .ok (.iload_n 1, 1) := dk_27 (dk_at dksX3_scare_0 6 rfl rfl)
theorem dX3_scare_7 : decode cX3_scare 7 = .ok (.invokevirtual 212, 3) := dk_182 0 212 (dk_at dksX3_scare_0 7 rfl rfl)
theorem dX3_scare_10 : decode cX3_scare 10 = .ok (.ifCond .eq 8, 3) := dk_153 0 8 (dk_at dksX3_scare_0 10 rfl rfl)
theorem dX3_scare_13 : decode cX3_scare 13 = .ok (.aload_n 0, 1) := dk_42 (dk_at dksX3_scare_0 13 rfl rfl)
theorem dX3_scare_14 : decode cX3_scare 14 = .ok (.invokevirtual 92, 3) := dk_182 0 92 (dk_at dksX3_scare_0 14 rfl rfl)
theorem dX3_scare_17 : decode cX3_scare 17 = .ok (.ireturn, 1) := dk_172 (dk_at dksX3_scare_0 17 rfl rfl)
theorem dX3_scare_18 : decode cX3_scare 18 = .ok (.aload_n 0, 1) := dk_42 (dk_at dksX3_scare_0 18 rfl rfl)
theorem dX3_scare_19 : decode cX3_scare 19 = .ok (.invokevirtual 96, 3) := dk_182 0 96 (dk_at dksX3_scare_0 19 rfl rfl)
theorem dX3_scare_22 : decode cX3_scare 22 = .ok (.aload_n 0, 1) := dk_42 (dk_at dksX3_scare_0 22 rfl rfl)
theorem dX3_scare_23 : decode cX3_scare 23 = .ok (.iload_n 1, 1) := dk_27 (dk_at dksX3_scare_0 23 rfl rfl)
theorem dX3_scare_24 : decode cX3_scare 24 = .ok (.invokevirtual 215, 3) := dk_182 0 215 (dk_at dksX3_scare_1 0 rfl rfl)
theorem dX3_scare_27 : decode cX3_scare 27 = .ok (.ireturn, 1) := dk_172 (dk_at dksX3_scare_1 3 rfl rfl)
abbrev cX3_notScare : ByteArray := prog_9_method_67_code
def yX3_notScare : MethodName := ⟨RX3, "notScare", "(I)I"⟩
def dkwX3_notScare_2 : List UInt8 := [167, 0, 4, 3, 172]
abbrev dktX3_notScare_2 : List UInt8 := dkwX3_notScare_2 ++ []
def dkwX3_notScare_1 : List UInt8 := [16, 14, 27, 182, 0, 85, 172, 42, 182, 0, 206, 16, 8, 160, 0, 14, 42, 16, 15, 16, 8, 182, 0, 85]
abbrev dktX3_notScare_1 : List UInt8 := dkwX3_notScare_1 ++ dktX3_notScare_2
def dkwX3_notScare_0 : List UInt8 := [27, 184, 0, 200, 154, 0, 10, 42, 5, 27, 182, 0, 85, 172, 42, 27, 182, 0, 81, 154, 0, 11, 42]
abbrev dktX3_notScare_0 : List UInt8 := dkwX3_notScare_0 ++ dktX3_notScare_1
theorem dksX3_notScare_0 : cX3_notScare.data.toList.drop 0 = dktX3_notScare_0 := by decide +kernel
theorem dksX3_notScare_1 : cX3_notScare.data.toList.drop 23 = dktX3_notScare_1 := dk_seg dksX3_notScare_0 23 rfl rfl
theorem dksX3_notScare_2 : cX3_notScare.data.toList.drop 47 = dktX3_notScare_2 := dk_seg dksX3_notScare_1 24 rfl rfl
theorem dX3_notScare_0 : decode cX3_notScare 0 = .ok (.iload_n 1, 1) := dk_27 (dk_at dksX3_notScare_0 0 rfl rfl)
theorem dX3_notScare_1 : decode cX3_notScare 1 = .ok (.invokestatic 200, 3) := dk_184 0 200 (dk_at dksX3_notScare_0 1 rfl rfl)
theorem dX3_notScare_4 : decode cX3_notScare 4 = .ok (.ifCond .ne 10, 3) := dk_154 0 10 (dk_at dksX3_notScare_0 4 rfl rfl)
theorem dX3_notScare_7 : decode cX3_notScare 7 = .ok (.aload_n 0, 1) := dk_42 (dk_at dksX3_notScare_0 7 rfl rfl)
theorem dX3_notScare_8 : decode cX3_notScare 8 = .ok (.iconst 2, 1) := dk_5 (dk_at dksX3_notScare_0 8 rfl rfl)
theorem dX3_notScare_9 : decode cX3_notScare 9 = .ok (.iload_n 1, 1) := dk_27 (dk_at dksX3_notScare_0 9 rfl rfl)
theorem dX3_notScare_10 : decode cX3_notScare 10 = .ok (.invokevirtual 85, 3) := dk_182 0 85 (dk_at dksX3_notScare_0 10 rfl rfl)
theorem dX3_notScare_13 : decode cX3_notScare 13 = .ok (.ireturn, 1) := dk_172 (dk_at dksX3_notScare_0 13 rfl rfl)
theorem dX3_notScare_14 : decode cX3_notScare 14 = .ok (.aload_n 0, 1) := dk_42 (dk_at dksX3_notScare_0 14 rfl rfl)
theorem dX3_notScare_15 : decode cX3_notScare 15 = .ok (.iload_n 1, 1) := dk_27 (dk_at dksX3_notScare_0 15 rfl rfl)
theorem dX3_notScare_16 : decode cX3_notScare 16 = .ok (.invokevirtual 81, 3) := dk_182 0 81 (dk_at dksX3_notScare_0 16 rfl rfl)
theorem dX3_notScare_19 : decode cX3_notScare 19 = .ok (.ifCond .ne 11, 3) := dk_154 0 11 (dk_at dksX3_notScare_0 19 rfl rfl)
theorem dX3_notScare_22 : decode cX3_notScare 22 = .ok (.aload_n 0, 1) := dk_42 (dk_at dksX3_notScare_0 22 rfl rfl)
theorem dX3_notScare_23 : decode cX3_notScare 23 = .ok (.bipush 14, 2) := dk_16 14 (dk_at dksX3_notScare_1 0 rfl rfl)
theorem dX3_notScare_25 : decode cX3_notScare 25 = .ok (.iload_n 1, 1) := dk_27 (dk_at dksX3_notScare_1 2 rfl rfl)
theorem dX3_notScare_26 : decode cX3_notScare 26 = .ok (.invokevirtual 85, 3) := dk_182 0 85 (dk_at dksX3_notScare_1 3 rfl rfl)
theorem dX3_notScare_29 : decode cX3_notScare 29 = .ok (.ireturn, 1) := dk_172 (dk_at dksX3_notScare_1 6 rfl rfl)
theorem dX3_notScare_30 : decode cX3_notScare 30 = .ok (.aload_n 0, 1) := dk_42 (dk_at dksX3_notScare_1 7 rfl rfl)
theorem dX3_notScare_31 : decode cX3_notScare 31 = .ok (.invokevirtual 206, 3) := dk_182 0 206 (dk_at dksX3_notScare_1 8 rfl rfl)
theorem dX3_notScare_34 : decode cX3_notScare 34 = .ok (.bipush 8, 2) := dk_16 8 (dk_at dksX3_notScare_1 11 rfl rfl)
theorem dX3_notScare_36 : decode cX3_notScare 36 = .ok (.if_icmp .ne 14, 3) := dk_160 0 14 (dk_at dksX3_notScare_1 13 rfl rfl)
theorem dX3_notScare_39 : decode cX3_notScare 39 = .ok (.aload_n 0, 1) := dk_42 (dk_at dksX3_notScare_1 16 rfl rfl)
theorem dX3_notScare_40 : decode cX3_notScare 40 = .ok (.bipush 15, 2) := dk_16 15 (dk_at dksX3_notScare_1 17 rfl rfl)
theorem dX3_notScare_42 : decode cX3_notScare 42 = .ok (.bipush 8, 2) := dk_16 8 (dk_at dksX3_notScare_1 19 rfl rfl)
theorem dX3_notScare_44 : decode cX3_notScare 44 = .ok (.invokevirtual 85, 3) := dk_182 0 85 (dk_at dksX3_notScare_1 21 rfl rfl)
theorem dX3_notScare_47 : decode cX3_notScare 47 = .ok (.goto 4, 3) := dk_167 0 4 (dk_at dksX3_notScare_2 0 rfl rfl)
theorem dX3_notScare_50 : decode cX3_notScare 50 = .ok (.iconst 0, 1) := dk_3 (dk_at dksX3_notScare_2 3 rfl rfl)
theorem dX3_notScare_51 : decode cX3_notScare 51 = .ok (.ireturn, 1) := dk_172 (dk_at dksX3_notScare_2 4 rfl rfl)
abbrev cX3_scares : ByteArray := prog_9_method_68_code
def yX3_scares : MethodName := ⟨RX3, "scares", "(I)I"⟩
def dkwX3_scares_1 : List UInt8 := [126, 4, 28, 120, 128, 79, 28, 172]
abbrev dktX3_scares_1 : List UInt8 := dkwX3_scares_1 ++ []
def dkwX3_scares_0 : List UInt8 := [42, 27, 182, 0, 209, 61, 42, 180, 0, 16, 16, 11, 42, 180, 0, 16, 16, 11, 46, 4, 27, 120, 2, 130]
abbrev dktX3_scares_0 : List UInt8 := dkwX3_scares_0 ++ dktX3_scares_1
theorem dksX3_scares_0 : cX3_scares.data.toList.drop 0 = dktX3_scares_0 := by decide +kernel
theorem dksX3_scares_1 : cX3_scares.data.toList.drop 24 = dktX3_scares_1 := dk_seg dksX3_scares_0 24 rfl rfl
theorem dX3_scares_0 : decode cX3_scares 0 = .ok (.aload_n 0, 1) := dk_42 (dk_at dksX3_scares_0 0 rfl rfl)
theorem dX3_scares_1 : decode cX3_scares 1 = .ok (.iload_n 1, 1) := dk_27 (dk_at dksX3_scares_0 1 rfl rfl)
theorem dX3_scares_2 : decode cX3_scares 2 = .ok (.invokevirtual 209, 3) := dk_182 0 209 (dk_at dksX3_scares_0 2 rfl rfl)
theorem dX3_scares_5 : decode cX3_scares 5 = .ok (.istore_n 2, 1) := dk_61 (dk_at dksX3_scares_0 5 rfl rfl)
theorem dX3_scares_6 : decode cX3_scares 6 = .ok (.aload_n 0, 1) := dk_42 (dk_at dksX3_scares_0 6 rfl rfl)
theorem dX3_scares_7 : decode cX3_scares 7 = .ok (.getfield 16, 3) := dk_180 0 16 (dk_at dksX3_scares_0 7 rfl rfl)
theorem dX3_scares_10 : decode cX3_scares 10 = .ok (.bipush 11, 2) := dk_16 11 (dk_at dksX3_scares_0 10 rfl rfl)
theorem dX3_scares_12 : decode cX3_scares 12 = .ok (.aload_n 0, 1) := dk_42 (dk_at dksX3_scares_0 12 rfl rfl)
theorem dX3_scares_13 : decode cX3_scares 13 = .ok (.getfield 16, 3) := dk_180 0 16 (dk_at dksX3_scares_0 13 rfl rfl)
theorem dX3_scares_16 : decode cX3_scares 16 = .ok (.bipush 11, 2) := dk_16 11 (dk_at dksX3_scares_0 16 rfl rfl)
theorem dX3_scares_18 : decode cX3_scares 18 = .ok (.iaload, 1) := dk_46 (dk_at dksX3_scares_0 18 rfl rfl)
theorem dX3_scares_19 : decode cX3_scares 19 = .ok (.iconst 1, 1) := dk_4 (dk_at dksX3_scares_0 19 rfl rfl)
theorem dX3_scares_20 : decode cX3_scares 20 = .ok (.iload_n 1, 1) := dk_27 (dk_at dksX3_scares_0 20 rfl rfl)
theorem dX3_scares_21 : decode cX3_scares 21 = .ok (.ishl, 1) := dk_120 (dk_at dksX3_scares_0 21 rfl rfl)
theorem dX3_scares_22 : decode cX3_scares 22 = .ok (.iconst (-1), 1) := dk_2 (dk_at dksX3_scares_0 22 rfl rfl)
theorem dX3_scares_23 : decode cX3_scares 23 = .ok (.ixor, 1) := dk_130 (dk_at dksX3_scares_0 23 rfl rfl)
theorem dX3_scares_24 : decode cX3_scares 24 = .ok (.iand, 1) := dk_126 (dk_at dksX3_scares_1 0 rfl rfl)
theorem dX3_scares_25 : decode cX3_scares 25 = .ok (.iconst 1, 1) := dk_4 (dk_at dksX3_scares_1 1 rfl rfl)
theorem dX3_scares_26 : decode cX3_scares 26 = .ok (.iload_n 2, 1) := dk_28 (dk_at dksX3_scares_1 2 rfl rfl)
theorem dX3_scares_27 : decode cX3_scares 27 = .ok (.ishl, 1) := dk_120 (dk_at dksX3_scares_1 3 rfl rfl)
theorem dX3_scares_28 : decode cX3_scares 28 = .ok (.ior, 1) := dk_128 (dk_at dksX3_scares_1 4 rfl rfl)
theorem dX3_scares_29 : decode cX3_scares 29 = .ok (.iastore, 1) := dk_79 (dk_at dksX3_scares_1 5 rfl rfl)
theorem dX3_scares_30 : decode cX3_scares 30 = .ok (.iload_n 2, 1) := dk_28 (dk_at dksX3_scares_1 6 rfl rfl)
theorem dX3_scares_31 : decode cX3_scares 31 = .ok (.ireturn, 1) := dk_172 (dk_at dksX3_scares_1 7 rfl rfl)
abbrev cX3_nextFree : ByteArray := prog_9_method_66_code
def yX3_nextFree : MethodName := ⟨RX3, "nextFree", "(I)I"⟩
def dkwX3_nextFree_1 : List UInt8 := [167, 255, 241, 28, 172]
abbrev dktX3_nextFree_1 : List UInt8 := dkwX3_nextFree_1 ++ []
def dkwX3_nextFree_0 : List UInt8 := [27, 4, 96, 16, 8, 112, 61, 42, 28, 182, 0, 81, 153, 0, 13, 28, 4, 96, 16, 8, 112, 61]
abbrev dktX3_nextFree_0 : List UInt8 := dkwX3_nextFree_0 ++ dktX3_nextFree_1
theorem dksX3_nextFree_0 : cX3_nextFree.data.toList.drop 0 = dktX3_nextFree_0 := by decide +kernel
theorem dksX3_nextFree_1 : cX3_nextFree.data.toList.drop 22 = dktX3_nextFree_1 := dk_seg dksX3_nextFree_0 22 rfl rfl
theorem dX3_nextFree_0 : decode cX3_nextFree 0 = .ok (.iload_n 1, 1) := dk_27 (dk_at dksX3_nextFree_0 0 rfl rfl)
theorem dX3_nextFree_1 : decode cX3_nextFree 1 = .ok (.iconst 1, 1) := dk_4 (dk_at dksX3_nextFree_0 1 rfl rfl)
theorem dX3_nextFree_2 : decode cX3_nextFree 2 = .ok (.iadd, 1) := dk_96 (dk_at dksX3_nextFree_0 2 rfl rfl)
theorem dX3_nextFree_3 : decode cX3_nextFree 3 = .ok (.bipush 8, 2) := dk_16 8 (dk_at dksX3_nextFree_0 3 rfl rfl)
theorem dX3_nextFree_5 : decode cX3_nextFree 5 = .ok (.irem, 1) := dk_112 (dk_at dksX3_nextFree_0 5 rfl rfl)
theorem dX3_nextFree_6 : decode cX3_nextFree 6 = .ok (.istore_n 2, 1) := dk_61 (dk_at dksX3_nextFree_0 6 rfl rfl)
theorem dX3_nextFree_7 : decode cX3_nextFree 7 = .ok (.aload_n 0, 1) := dk_42 (dk_at dksX3_nextFree_0 7 rfl rfl)
theorem dX3_nextFree_8 : decode cX3_nextFree 8 = .ok (.iload_n 2, 1) := dk_28 (dk_at dksX3_nextFree_0 8 rfl rfl)
theorem dX3_nextFree_9 : decode cX3_nextFree 9 = .ok (.invokevirtual 81, 3) := dk_182 0 81 (dk_at dksX3_nextFree_0 9 rfl rfl)
theorem dX3_nextFree_12 : decode cX3_nextFree 12 = .ok (.ifCond .eq 13, 3) := dk_153 0 13 (dk_at dksX3_nextFree_0 12 rfl rfl)
theorem dX3_nextFree_15 : decode cX3_nextFree 15 = .ok (.iload_n 2, 1) := dk_28 (dk_at dksX3_nextFree_0 15 rfl rfl)
theorem dX3_nextFree_16 : decode cX3_nextFree 16 = .ok (.iconst 1, 1) := dk_4 (dk_at dksX3_nextFree_0 16 rfl rfl)
theorem dX3_nextFree_17 : decode cX3_nextFree 17 = .ok (.iadd, 1) := dk_96 (dk_at dksX3_nextFree_0 17 rfl rfl)
theorem dX3_nextFree_18 : decode cX3_nextFree 18 = .ok (.bipush 8, 2) := dk_16 8 (dk_at dksX3_nextFree_0 18 rfl rfl)
theorem dX3_nextFree_20 : decode cX3_nextFree 20 = .ok (.irem, 1) := dk_112 (dk_at dksX3_nextFree_0 20 rfl rfl)
theorem dX3_nextFree_21 : decode cX3_nextFree 21 = .ok (.istore_n 2, 1) := dk_61 (dk_at dksX3_nextFree_0 21 rfl rfl)
theorem dX3_nextFree_22 : decode cX3_nextFree 22 = .ok (.goto (-15), 3) := dk_167 255 241 (dk_at dksX3_nextFree_1 0 rfl rfl)
theorem dX3_nextFree_25 : decode cX3_nextFree 25 = .ok (.iload_n 2, 1) := dk_28 (dk_at dksX3_nextFree_1 3 rfl rfl)
theorem dX3_nextFree_26 : decode cX3_nextFree 26 = .ok (.ireturn, 1) := dk_172 (dk_at dksX3_nextFree_1 4 rfl rfl)
abbrev cX3_hour : ByteArray := prog_9_method_76_code
def yX3_hour : MethodName := ⟨RX3, "hour", "(I)I"⟩
def dkwX3_hour_1 : List UInt8 := [182, 0, 233, 172]
abbrev dktX3_hour_1 : List UInt8 := dkwX3_hour_1 ++ []
def dkwX3_hour_0 : List UInt8 := [42, 3, 181, 0, 42, 42, 27, 182, 0, 230, 153, 0, 8, 42, 182, 0, 92, 172, 42, 182, 0, 96, 42, 27]
abbrev dktX3_hour_0 : List UInt8 := dkwX3_hour_0 ++ dktX3_hour_1
theorem dksX3_hour_0 : cX3_hour.data.toList.drop 0 = dktX3_hour_0 := by decide +kernel
theorem dksX3_hour_1 : cX3_hour.data.toList.drop 24 = dktX3_hour_1 := dk_seg dksX3_hour_0 24 rfl rfl
theorem dX3_hour_0 : decode cX3_hour 0 = .ok (.aload_n 0, 1) := dk_42 (dk_at dksX3_hour_0 0 rfl rfl)
theorem dX3_hour_1 : decode cX3_hour 1 = .ok (.iconst 0, 1) := dk_3 (dk_at dksX3_hour_0 1 rfl rfl)
theorem dX3_hour_2 : decode cX3_hour 2 = .ok (.putfield 42, 3) := dk_181 0 42 (dk_at dksX3_hour_0 2 rfl rfl)
theorem dX3_hour_5 : decode cX3_hour 5 = .ok (.aload_n 0, 1) := dk_42 (dk_at dksX3_hour_0 5 rfl rfl)
theorem dX3_hour_6 : decode cX3_hour 6 = .ok (.iload_n 1, 1) := dk_27 (dk_at dksX3_hour_0 6 rfl rfl)
theorem dX3_hour_7 : decode cX3_hour 7 = .ok (.invokevirtual 230, 3) := dk_182 0 230 (dk_at dksX3_hour_0 7 rfl rfl)
theorem dX3_hour_10 : decode cX3_hour 10 = .ok (.ifCond .eq 8, 3) := dk_153 0 8 (dk_at dksX3_hour_0 10 rfl rfl)
theorem dX3_hour_13 : decode cX3_hour 13 = .ok (.aload_n 0, 1) := dk_42 (dk_at dksX3_hour_0 13 rfl rfl)
theorem dX3_hour_14 : decode cX3_hour 14 = .ok (.invokevirtual 92, 3) := dk_182 0 92 (dk_at dksX3_hour_0 14 rfl rfl)
theorem dX3_hour_17 : decode cX3_hour 17 = .ok (.ireturn, 1) := dk_172 (dk_at dksX3_hour_0 17 rfl rfl)
theorem dX3_hour_18 : decode cX3_hour 18 = .ok (.aload_n 0, 1) := dk_42 (dk_at dksX3_hour_0 18 rfl rfl)
theorem dX3_hour_19 : decode cX3_hour 19 = .ok (.invokevirtual 96, 3) := dk_182 0 96 (dk_at dksX3_hour_0 19 rfl rfl)
theorem dX3_hour_22 : decode cX3_hour 22 = .ok (.aload_n 0, 1) := dk_42 (dk_at dksX3_hour_0 22 rfl rfl)
theorem dX3_hour_23 : decode cX3_hour 23 = .ok (.iload_n 1, 1) := dk_27 (dk_at dksX3_hour_0 23 rfl rfl)
theorem dX3_hour_24 : decode cX3_hour 24 = .ok (.invokevirtual 233, 3) := dk_182 0 233 (dk_at dksX3_hour_1 0 rfl rfl)
theorem dX3_hour_27 : decode cX3_hour 27 = .ok (.ireturn, 1) := dk_172 (dk_at dksX3_hour_1 3 rfl rfl)
abbrev cX3_notHour : ByteArray := prog_9_method_74_code
def yX3_notHour : MethodName := ⟨RX3, "notHour", "(I)I"⟩
def dkwX3_notHour_0 : List UInt8 := [27, 4, 16, 48, 184, 0, 77, 153, 0, 7, 3, 167, 0, 9, 42, 6, 27, 182, 0, 85, 172]
abbrev dktX3_notHour_0 : List UInt8 := dkwX3_notHour_0 ++ []
theorem dksX3_notHour_0 : cX3_notHour.data.toList.drop 0 = dktX3_notHour_0 := by decide +kernel
theorem dX3_notHour_0 : decode cX3_notHour 0 = .ok (.iload_n 1, 1) := dk_27 (dk_at dksX3_notHour_0 0 rfl rfl)
theorem dX3_notHour_1 : decode cX3_notHour 1 = .ok (.iconst 1, 1) := dk_4 (dk_at dksX3_notHour_0 1 rfl rfl)
theorem dX3_notHour_2 : decode cX3_notHour 2 = .ok (.bipush 48, 2) := dk_16 48 (dk_at dksX3_notHour_0 2 rfl rfl)
theorem dX3_notHour_4 : decode cX3_notHour 4 = .ok (.invokestatic 77, 3) := dk_184 0 77 (dk_at dksX3_notHour_0 4 rfl rfl)
theorem dX3_notHour_7 : decode cX3_notHour 7 = .ok (.ifCond .eq 7, 3) := dk_153 0 7 (dk_at dksX3_notHour_0 7 rfl rfl)
theorem dX3_notHour_10 : decode cX3_notHour 10 = .ok (.iconst 0, 1) := dk_3 (dk_at dksX3_notHour_0 10 rfl rfl)
theorem dX3_notHour_11 : decode cX3_notHour 11 = .ok (.goto 9, 3) := dk_167 0 9 (dk_at dksX3_notHour_0 11 rfl rfl)
theorem dX3_notHour_14 : decode cX3_notHour 14 = .ok (.aload_n 0, 1) := dk_42 (dk_at dksX3_notHour_0 14 rfl rfl)
theorem dX3_notHour_15 : decode cX3_notHour 15 = .ok (.iconst 3, 1) := dk_6 (dk_at dksX3_notHour_0 15 rfl rfl)
theorem dX3_notHour_16 : decode cX3_notHour 16 = .ok (.iload_n 1, 1) := dk_27 (dk_at dksX3_notHour_0 16 rfl rfl)
theorem dX3_notHour_17 : decode cX3_notHour 17 = .ok (.invokevirtual 85, 3) := dk_182 0 85 (dk_at dksX3_notHour_0 17 rfl rfl)
theorem dX3_notHour_20 : decode cX3_notHour 20 = .ok (.ireturn, 1) := dk_172 (dk_at dksX3_notHour_0 20 rfl rfl)
abbrev cX3_passes : ByteArray := prog_9_method_75_code
def yX3_passes : MethodName := ⟨RX3, "passes", "(I)I"⟩
def dkwX3_passes_0 : List UInt8 := [3, 61, 3, 62, 29, 27, 162, 0, 16, 28, 42, 182, 0, 227, 96, 61, 132, 3, 1, 167, 255, 241, 28, 172]
abbrev dktX3_passes_0 : List UInt8 := dkwX3_passes_0 ++ []
theorem dksX3_passes_0 : cX3_passes.data.toList.drop 0 = dktX3_passes_0 := by decide +kernel
theorem dX3_passes_0 : decode cX3_passes 0 = .ok (.iconst 0, 1) := dk_3 (dk_at dksX3_passes_0 0 rfl rfl)
theorem dX3_passes_1 : decode cX3_passes 1 = .ok (.istore_n 2, 1) := dk_61 (dk_at dksX3_passes_0 1 rfl rfl)
theorem dX3_passes_2 : decode cX3_passes 2 = .ok (.iconst 0, 1) := dk_3 (dk_at dksX3_passes_0 2 rfl rfl)
theorem dX3_passes_3 : decode cX3_passes 3 = .ok (.istore_n 3, 1) := dk_62 (dk_at dksX3_passes_0 3 rfl rfl)
theorem dX3_passes_4 : decode cX3_passes 4 = .ok (.iload_n 3, 1) := dk_29 (dk_at dksX3_passes_0 4 rfl rfl)
theorem dX3_passes_5 : decode cX3_passes 5 = .ok (.iload_n 1, 1) := dk_27 (dk_at dksX3_passes_0 5 rfl rfl)
theorem dX3_passes_6 : decode cX3_passes 6 = .ok (.if_icmp .ge 16, 3) := dk_162 0 16 (dk_at dksX3_passes_0 6 rfl rfl)
theorem dX3_passes_9 : decode cX3_passes 9 = .ok (.iload_n 2, 1) := dk_28 (dk_at dksX3_passes_0 9 rfl rfl)
theorem dX3_passes_10 : decode cX3_passes 10 = .ok (.aload_n 0, 1) := dk_42 (dk_at dksX3_passes_0 10 rfl rfl)
theorem dX3_passes_11 : decode cX3_passes 11 = .ok (.invokevirtual 227, 3) := dk_182 0 227 (dk_at dksX3_passes_0 11 rfl rfl)
theorem dX3_passes_14 : decode cX3_passes 14 = .ok (.iadd, 1) := dk_96 (dk_at dksX3_passes_0 14 rfl rfl)
theorem dX3_passes_15 : decode cX3_passes 15 = .ok (.istore_n 2, 1) := dk_61 (dk_at dksX3_passes_0 15 rfl rfl)
theorem dX3_passes_16 : decode cX3_passes 16 = .ok (.iinc 3 1, 3) := dk_132 3 1 (dk_at dksX3_passes_0 16 rfl rfl)
theorem dX3_passes_19 : decode cX3_passes 19 = .ok (.goto (-15), 3) := dk_167 255 241 (dk_at dksX3_passes_0 19 rfl rfl)
theorem dX3_passes_22 : decode cX3_passes 22 = .ok (.iload_n 2, 1) := dk_28 (dk_at dksX3_passes_0 22 rfl rfl)
theorem dX3_passes_23 : decode cX3_passes 23 = .ok (.ireturn, 1) := dk_172 (dk_at dksX3_passes_0 23 rfl rfl)
abbrev cX3_hourPasses : ByteArray := prog_9_method_73_code
def yX3_hourPasses : MethodName := ⟨RX3, "hourPasses", "()I"⟩
def dkwX3_hourPasses_1 : List UInt8 := [3, 92, 46, 4, 96, 79, 27, 172]
abbrev dktX3_hourPasses_1 : List UInt8 := dkwX3_hourPasses_1 ++ []
def dkwX3_hourPasses_0 : List UInt8 := [42, 42, 182, 0, 142, 182, 0, 145, 154, 0, 7, 42, 182, 0, 221, 42, 182, 0, 224, 60, 42, 180, 0, 16]
abbrev dktX3_hourPasses_0 : List UInt8 := dkwX3_hourPasses_0 ++ dktX3_hourPasses_1
theorem dksX3_hourPasses_0 : cX3_hourPasses.data.toList.drop 0 = dktX3_hourPasses_0 := by decide +kernel
theorem dksX3_hourPasses_1 : cX3_hourPasses.data.toList.drop 24 = dktX3_hourPasses_1 := dk_seg dksX3_hourPasses_0 24 rfl rfl
theorem dX3_hourPasses_0 : decode cX3_hourPasses 0 = .ok (.aload_n 0, 1) := dk_42 (dk_at dksX3_hourPasses_0 0 rfl rfl)
theorem dX3_hourPasses_1 : decode cX3_hourPasses 1 = .ok (.aload_n 0, 1) := dk_42 (dk_at dksX3_hourPasses_0 1 rfl rfl)
theorem dX3_hourPasses_2 : decode cX3_hourPasses 2 = .ok (.invokevirtual 142, 3) := dk_182 0 142 (dk_at dksX3_hourPasses_0 2 rfl rfl)
theorem dX3_hourPasses_5 : decode cX3_hourPasses 5 = .ok (.invokevirtual 145, 3) := dk_182 0 145 (dk_at dksX3_hourPasses_0 5 rfl rfl)
theorem dX3_hourPasses_8 : decode cX3_hourPasses 8 = .ok (.ifCond .ne 7, 3) := dk_154 0 7 (dk_at dksX3_hourPasses_0 8 rfl rfl)
theorem dX3_hourPasses_11 : decode cX3_hourPasses 11 = .ok (.aload_n 0, 1) := dk_42 (dk_at dksX3_hourPasses_0 11 rfl rfl)
theorem dX3_hourPasses_12 : decode cX3_hourPasses 12 = .ok (.invokevirtual 221, 3) := dk_182 0 221 (dk_at dksX3_hourPasses_0 12 rfl rfl)
theorem dX3_hourPasses_15 : decode cX3_hourPasses 15 = .ok (.aload_n 0, 1) := dk_42 (dk_at dksX3_hourPasses_0 15 rfl rfl)
theorem dX3_hourPasses_16 : decode cX3_hourPasses 16 = .ok (.invokevirtual 224, 3) := dk_182 0 224 (dk_at dksX3_hourPasses_0 16 rfl rfl)
theorem dX3_hourPasses_19 : decode cX3_hourPasses 19 = .ok (.istore_n 1, 1) := dk_60 (dk_at dksX3_hourPasses_0 19 rfl rfl)
theorem dX3_hourPasses_20 : decode cX3_hourPasses 20 = .ok (.aload_n 0, 1) := dk_42 (dk_at dksX3_hourPasses_0 20 rfl rfl)
theorem dX3_hourPasses_21 : decode cX3_hourPasses 21 = .ok (.getfield 16, 3) := dk_180 0 16 (dk_at dksX3_hourPasses_0 21 rfl rfl)
theorem dX3_hourPasses_24 : decode cX3_hourPasses 24 = .ok (.iconst 0, 1) := dk_3 (dk_at dksX3_hourPasses_1 0 rfl rfl)
theorem dX3_hourPasses_25 : decode cX3_hourPasses 25 = .ok (.dup2, 1) := dk_92 (dk_at dksX3_hourPasses_1 1 rfl rfl)
theorem dX3_hourPasses_26 : decode cX3_hourPasses 26 = .ok (.iaload, 1) := dk_46 (dk_at dksX3_hourPasses_1 2 rfl rfl)
theorem dX3_hourPasses_27 : decode cX3_hourPasses 27 = .ok (.iconst 1, 1) := dk_4 (dk_at dksX3_hourPasses_1 3 rfl rfl)
theorem dX3_hourPasses_28 : decode cX3_hourPasses 28 = .ok (.iadd, 1) := dk_96 (dk_at dksX3_hourPasses_1 4 rfl rfl)
theorem dX3_hourPasses_29 : decode cX3_hourPasses 29 = .ok (.iastore, 1) := dk_79 (dk_at dksX3_hourPasses_1 5 rfl rfl)
theorem dX3_hourPasses_30 : decode cX3_hourPasses 30 = .ok (.iload_n 1, 1) := dk_27 (dk_at dksX3_hourPasses_1 6 rfl rfl)
theorem dX3_hourPasses_31 : decode cX3_hourPasses 31 = .ok (.ireturn, 1) := dk_172 (dk_at dksX3_hourPasses_1 7 rfl rfl)
abbrev cX3_piecesBreak : ByteArray := prog_9_method_71_code
def yX3_piecesBreak : MethodName := ⟨RX3, "piecesBreak", "()V"⟩
def dkwX3_piecesBreak_3 : List UInt8 := [167, 255, 193, 177]
abbrev dktX3_piecesBreak_3 : List UInt8 := dkwX3_piecesBreak_3 ++ []
def dkwX3_piecesBreak_2 : List UInt8 := [96, 4, 100, 92, 46, 4, 96, 79, 42, 180, 0, 16, 16, 8, 92, 46, 4, 96, 79, 132, 1, 255]
abbrev dktX3_piecesBreak_2 : List UInt8 := dkwX3_piecesBreak_2 ++ dktX3_piecesBreak_3
def dkwX3_piecesBreak_1 : List UInt8 := [180, 0, 16, 16, 42, 28, 96, 92, 46, 4, 100, 79, 28, 4, 164, 0, 18, 42, 180, 0, 16, 16, 42, 28]
abbrev dktX3_piecesBreak_1 : List UInt8 := dkwX3_piecesBreak_1 ++ dktX3_piecesBreak_2
def dkwX3_piecesBreak_0 : List UInt8 := [42, 182, 0, 218, 60, 27, 158, 0, 65, 42, 182, 0, 161, 158, 0, 58, 42, 182, 0, 161, 61, 42]
abbrev dktX3_piecesBreak_0 : List UInt8 := dkwX3_piecesBreak_0 ++ dktX3_piecesBreak_1
theorem dksX3_piecesBreak_0 : cX3_piecesBreak.data.toList.drop 0 = dktX3_piecesBreak_0 := by decide +kernel
theorem dksX3_piecesBreak_1 : cX3_piecesBreak.data.toList.drop 22 = dktX3_piecesBreak_1 := dk_seg dksX3_piecesBreak_0 22 rfl rfl
theorem dksX3_piecesBreak_2 : cX3_piecesBreak.data.toList.drop 46 = dktX3_piecesBreak_2 := dk_seg dksX3_piecesBreak_1 24 rfl rfl
theorem dksX3_piecesBreak_3 : cX3_piecesBreak.data.toList.drop 68 = dktX3_piecesBreak_3 := dk_seg dksX3_piecesBreak_2 22 rfl rfl
theorem dX3_piecesBreak_0 : decode cX3_piecesBreak 0 = .ok (.aload_n 0, 1) := dk_42 (dk_at dksX3_piecesBreak_0 0 rfl rfl)
theorem dX3_piecesBreak_1 : decode cX3_piecesBreak 1 = .ok (.invokevirtual 218, 3) := dk_182 0 218 (dk_at dksX3_piecesBreak_0 1 rfl rfl)
theorem dX3_piecesBreak_4 : decode cX3_piecesBreak 4 = .ok (.istore_n 1, 1) := dk_60 (dk_at dksX3_piecesBreak_0 4 rfl rfl)
theorem dX3_piecesBreak_5 : decode cX3_piecesBreak 5 = .ok (.iload_n 1, 1) := dk_27 (dk_at dksX3_piecesBreak_0 5 rfl rfl)
theorem dX3_piecesBreak_6 : decode cX3_piecesBreak 6 = .ok (.ifCond .le 65, 3) := dk_158 0 65 (dk_at dksX3_piecesBreak_0 6 rfl rfl)
theorem dX3_piecesBreak_9 : decode cX3_piecesBreak 9 = .ok (.aload_n 0, 1) := dk_42 (dk_at dksX3_piecesBreak_0 9 rfl rfl)
theorem dX3_piecesBreak_10 : decode cX3_piecesBreak 10 = .ok (.invokevirtual 161, 3) := dk_182 0 161 (dk_at dksX3_piecesBreak_0 10 rfl rfl)
theorem dX3_piecesBreak_13 : decode cX3_piecesBreak 13 = .ok (.ifCond .le 58, 3) := dk_158 0 58 (dk_at dksX3_piecesBreak_0 13 rfl rfl)
theorem dX3_piecesBreak_16 : decode cX3_piecesBreak 16 = .ok (.aload_n 0, 1) := dk_42 (dk_at dksX3_piecesBreak_0 16 rfl rfl)
theorem dX3_piecesBreak_17 : decode cX3_piecesBreak 17 = .ok (.invokevirtual 161, 3) := dk_182 0 161 (dk_at dksX3_piecesBreak_0 17 rfl rfl)
theorem dX3_piecesBreak_20 : decode cX3_piecesBreak 20 = .ok (.istore_n 2, 1) := dk_61 (dk_at dksX3_piecesBreak_0 20 rfl rfl)
theorem dX3_piecesBreak_21 : decode cX3_piecesBreak 21 = .ok (.aload_n 0, 1) := dk_42 (dk_at dksX3_piecesBreak_0 21 rfl rfl)
theorem dX3_piecesBreak_22 : decode cX3_piecesBreak 22 = .ok (.getfield 16, 3) := dk_180 0 16 (dk_at dksX3_piecesBreak_1 0 rfl rfl)
theorem dX3_piecesBreak_25 : decode cX3_piecesBreak 25 = .ok (.bipush 42, 2) := dk_16 42 (dk_at dksX3_piecesBreak_1 3 rfl rfl)
theorem dX3_piecesBreak_27 : decode cX3_piecesBreak 27 = .ok (.iload_n 2, 1) := dk_28 (dk_at dksX3_piecesBreak_1 5 rfl rfl)
theorem dX3_piecesBreak_28 : decode cX3_piecesBreak 28 = .ok (.iadd, 1) := dk_96 (dk_at dksX3_piecesBreak_1 6 rfl rfl)
theorem dX3_piecesBreak_29 : decode cX3_piecesBreak 29 = .ok (.dup2, 1) := dk_92 (dk_at dksX3_piecesBreak_1 7 rfl rfl)
theorem dX3_piecesBreak_30 : decode cX3_piecesBreak 30 = .ok (.iaload, 1) := dk_46 (dk_at dksX3_piecesBreak_1 8 rfl rfl)
theorem dX3_piecesBreak_31 : decode cX3_piecesBreak 31 = .ok (.iconst 1, 1) := dk_4 (dk_at dksX3_piecesBreak_1 9 rfl rfl)
theorem dX3_piecesBreak_32 : decode cX3_piecesBreak 32 = .ok (.isub, 1) := dk_100 (dk_at dksX3_piecesBreak_1 10 rfl rfl)
theorem dX3_piecesBreak_33 : decode cX3_piecesBreak 33 = .ok (.iastore, 1) := dk_79 (dk_at dksX3_piecesBreak_1 11 rfl rfl)
theorem dX3_piecesBreak_34 : decode cX3_piecesBreak 34 = .ok (.iload_n 2, 1) := dk_28 (dk_at dksX3_piecesBreak_1 12 rfl rfl)
theorem dX3_piecesBreak_35 : decode cX3_piecesBreak 35 = .ok (.iconst 1, 1) := dk_4 (dk_at dksX3_piecesBreak_1 13 rfl rfl)
theorem dX3_piecesBreak_36 : decode cX3_piecesBreak 36 = .ok (.if_icmp .le 18, 3) := dk_164 0 18 (dk_at dksX3_piecesBreak_1 14 rfl rfl)
theorem dX3_piecesBreak_39 : decode cX3_piecesBreak 39 = .ok (.aload_n 0, 1) := dk_42 (dk_at dksX3_piecesBreak_1 17 rfl rfl)
theorem dX3_piecesBreak_40 : decode cX3_piecesBreak 40 = .ok (.getfield 16, 3) := dk_180 0 16 (dk_at dksX3_piecesBreak_1 18 rfl rfl)
theorem dX3_piecesBreak_43 : decode cX3_piecesBreak 43 = .ok (.bipush 42, 2) := dk_16 42 (dk_at dksX3_piecesBreak_1 21 rfl rfl)
theorem dX3_piecesBreak_45 : decode cX3_piecesBreak 45 = .ok (.iload_n 2, 1) := dk_28 (dk_at dksX3_piecesBreak_1 23 rfl rfl)
theorem dX3_piecesBreak_46 : decode cX3_piecesBreak 46 = .ok (.iadd, 1) := dk_96 (dk_at dksX3_piecesBreak_2 0 rfl rfl)
theorem dX3_piecesBreak_47 : decode cX3_piecesBreak 47 = .ok (.iconst 1, 1) := dk_4 (dk_at dksX3_piecesBreak_2 1 rfl rfl)
theorem dX3_piecesBreak_48 : decode cX3_piecesBreak 48 = .ok (.isub, 1) := dk_100 (dk_at dksX3_piecesBreak_2 2 rfl rfl)
theorem dX3_piecesBreak_49 : decode cX3_piecesBreak 49 = .ok (.dup2, 1) := dk_92 (dk_at dksX3_piecesBreak_2 3 rfl rfl)
theorem dX3_piecesBreak_50 : decode cX3_piecesBreak 50 = .ok (.iaload, 1) := dk_46 (dk_at dksX3_piecesBreak_2 4 rfl rfl)
theorem dX3_piecesBreak_51 : decode cX3_piecesBreak 51 = .ok (.iconst 1, 1) := dk_4 (dk_at dksX3_piecesBreak_2 5 rfl rfl)
theorem dX3_piecesBreak_52 : decode cX3_piecesBreak 52 = .ok (.iadd, 1) := dk_96 (dk_at dksX3_piecesBreak_2 6 rfl rfl)
theorem dX3_piecesBreak_53 : decode cX3_piecesBreak 53 = .ok (.iastore, 1) := dk_79 (dk_at dksX3_piecesBreak_2 7 rfl rfl)
theorem dX3_piecesBreak_54 : decode cX3_piecesBreak 54 = .ok (.aload_n 0, 1) := dk_42 (dk_at dksX3_piecesBreak_2 8 rfl rfl)
theorem dX3_piecesBreak_55 : decode cX3_piecesBreak 55 = .ok (.getfield 16, 3) := dk_180 0 16 (dk_at dksX3_piecesBreak_2 9 rfl rfl)
theorem dX3_piecesBreak_58 : decode cX3_piecesBreak 58 = .ok (.bipush 8, 2) := dk_16 8 (dk_at dksX3_piecesBreak_2 12 rfl rfl)
theorem dX3_piecesBreak_60 : decode cX3_piecesBreak 60 = .ok (.dup2, 1) := dk_92 (dk_at dksX3_piecesBreak_2 14 rfl rfl)
theorem dX3_piecesBreak_61 : decode cX3_piecesBreak 61 = .ok (.iaload, 1) := dk_46 (dk_at dksX3_piecesBreak_2 15 rfl rfl)
theorem dX3_piecesBreak_62 : decode cX3_piecesBreak 62 = .ok (.iconst 1, 1) := dk_4 (dk_at dksX3_piecesBreak_2 16 rfl rfl)
theorem dX3_piecesBreak_63 : decode cX3_piecesBreak 63 = .ok (.iadd, 1) := dk_96 (dk_at dksX3_piecesBreak_2 17 rfl rfl)
theorem dX3_piecesBreak_64 : decode cX3_piecesBreak 64 = .ok (.iastore, 1) := dk_79 (dk_at dksX3_piecesBreak_2 18 rfl rfl)
theorem dX3_piecesBreak_65 : decode cX3_piecesBreak 65 = .ok (.iinc 1 (-1), 3) := dk_132 1 255 (dk_at dksX3_piecesBreak_2 19 rfl rfl)
theorem dX3_piecesBreak_68 : decode cX3_piecesBreak 68 = .ok (.goto (-63), 3) := dk_167 255 193 (dk_at dksX3_piecesBreak_3 0 rfl rfl)
theorem dX3_piecesBreak_71 : decode cX3_piecesBreak 71 = .ok (.return_, 1) := dk_177 (dk_at dksX3_piecesBreak_3 3 rfl rfl)
abbrev cX3_pairs : ByteArray := prog_9_method_70_code
def yX3_pairs : MethodName := ⟨RX3, "pairs", "()I"⟩
def dkwX3_pairs_1 : List UInt8 := [96, 182, 0, 81, 153, 0, 7, 4, 167, 0, 4, 3, 96, 60, 132, 2, 1, 167, 255, 219, 27, 172]
abbrev dktX3_pairs_1 : List UInt8 := dkwX3_pairs_1 ++ []
def dkwX3_pairs_0 : List UInt8 := [3, 60, 3, 61, 28, 4, 96, 16, 8, 162, 0, 35, 27, 42, 28, 182, 0, 81, 153, 0, 17, 42, 28, 4]
abbrev dktX3_pairs_0 : List UInt8 := dkwX3_pairs_0 ++ dktX3_pairs_1
theorem dksX3_pairs_0 : cX3_pairs.data.toList.drop 0 = dktX3_pairs_0 := by decide +kernel
theorem dksX3_pairs_1 : cX3_pairs.data.toList.drop 24 = dktX3_pairs_1 := dk_seg dksX3_pairs_0 24 rfl rfl
theorem dX3_pairs_0 : decode cX3_pairs 0 = .ok (.iconst 0, 1) := dk_3 (dk_at dksX3_pairs_0 0 rfl rfl)
theorem dX3_pairs_1 : decode cX3_pairs 1 = .ok (.istore_n 1, 1) := dk_60 (dk_at dksX3_pairs_0 1 rfl rfl)
theorem dX3_pairs_2 : decode cX3_pairs 2 = .ok (.iconst 0, 1) := dk_3 (dk_at dksX3_pairs_0 2 rfl rfl)
theorem dX3_pairs_3 : decode cX3_pairs 3 = .ok (.istore_n 2, 1) := dk_61 (dk_at dksX3_pairs_0 3 rfl rfl)
theorem dX3_pairs_4 : decode cX3_pairs 4 = .ok (.iload_n 2, 1) := dk_28 (dk_at dksX3_pairs_0 4 rfl rfl)
theorem dX3_pairs_5 : decode cX3_pairs 5 = .ok (.iconst 1, 1) := dk_4 (dk_at dksX3_pairs_0 5 rfl rfl)
theorem dX3_pairs_6 : decode cX3_pairs 6 = .ok (.iadd, 1) := dk_96 (dk_at dksX3_pairs_0 6 rfl rfl)
theorem dX3_pairs_7 : decode cX3_pairs 7 = .ok (.bipush 8, 2) := dk_16 8 (dk_at dksX3_pairs_0 7 rfl rfl)
theorem dX3_pairs_9 : decode cX3_pairs 9 = .ok (.if_icmp .ge 35, 3) := dk_162 0 35 (dk_at dksX3_pairs_0 9 rfl rfl)
theorem dX3_pairs_12 : decode cX3_pairs 12 = .ok (.iload_n 1, 1) := dk_27 (dk_at dksX3_pairs_0 12 rfl rfl)
theorem dX3_pairs_13 : decode cX3_pairs 13 = .ok (.aload_n 0, 1) := dk_42 (dk_at dksX3_pairs_0 13 rfl rfl)
theorem dX3_pairs_14 : decode cX3_pairs 14 = .ok (.iload_n 2, 1) := dk_28 (dk_at dksX3_pairs_0 14 rfl rfl)
theorem dX3_pairs_15 : decode cX3_pairs 15 = .ok (.invokevirtual 81, 3) := dk_182 0 81 (dk_at dksX3_pairs_0 15 rfl rfl)
theorem dX3_pairs_18 : decode cX3_pairs 18 = .ok (.ifCond .eq 17, 3) := dk_153 0 17 (dk_at dksX3_pairs_0 18 rfl rfl)
theorem dX3_pairs_21 : decode cX3_pairs 21 = .ok (.aload_n 0, 1) := dk_42 (dk_at dksX3_pairs_0 21 rfl rfl)
theorem dX3_pairs_22 : decode cX3_pairs 22 = .ok (.iload_n 2, 1) := dk_28 (dk_at dksX3_pairs_0 22 rfl rfl)
theorem dX3_pairs_23 : decode cX3_pairs 23 = .ok (.iconst 1, 1) := dk_4 (dk_at dksX3_pairs_0 23 rfl rfl)
theorem dX3_pairs_24 : decode cX3_pairs 24 = .ok (.iadd, 1) := dk_96 (dk_at dksX3_pairs_1 0 rfl rfl)
theorem dX3_pairs_25 : decode cX3_pairs 25 = .ok (.invokevirtual 81, 3) := dk_182 0 81 (dk_at dksX3_pairs_1 1 rfl rfl)
theorem dX3_pairs_28 : decode cX3_pairs 28 = .ok (.ifCond .eq 7, 3) := dk_153 0 7 (dk_at dksX3_pairs_1 4 rfl rfl)
theorem dX3_pairs_31 : decode cX3_pairs 31 = .ok (.iconst 1, 1) := dk_4 (dk_at dksX3_pairs_1 7 rfl rfl)
theorem dX3_pairs_32 : decode cX3_pairs 32 = .ok (.goto 4, 3) := dk_167 0 4 (dk_at dksX3_pairs_1 8 rfl rfl)
theorem dX3_pairs_35 : decode cX3_pairs 35 = .ok (.iconst 0, 1) := dk_3 (dk_at dksX3_pairs_1 11 rfl rfl)
theorem dX3_pairs_36 : decode cX3_pairs 36 = .ok (.iadd, 1) := dk_96 (dk_at dksX3_pairs_1 12 rfl rfl)
theorem dX3_pairs_37 : decode cX3_pairs 37 = .ok (.istore_n 1, 1) := dk_60 (dk_at dksX3_pairs_1 13 rfl rfl)
theorem dX3_pairs_38 : decode cX3_pairs 38 = .ok (.iinc 2 1, 3) := dk_132 2 1 (dk_at dksX3_pairs_1 14 rfl rfl)
theorem dX3_pairs_41 : decode cX3_pairs 41 = .ok (.goto (-37), 3) := dk_167 255 219 (dk_at dksX3_pairs_1 17 rfl rfl)
theorem dX3_pairs_44 : decode cX3_pairs 44 = .ok (.iload_n 1, 1) := dk_27 (dk_at dksX3_pairs_1 20 rfl rfl)
theorem dX3_pairs_45 : decode cX3_pairs 45 = .ok (.ireturn, 1) := dk_172 (dk_at dksX3_pairs_1 21 rfl rfl)
abbrev cX3_lumpsDry : ByteArray := prog_9_method_72_code
def yX3_lumpsDry : MethodName := ⟨RX3, "lumpsDry", "()I"⟩
def dkwX3_lumpsDry_2 : List UInt8 := [132, 1, 1, 132, 2, 255, 167, 255, 213, 42, 180, 0, 16, 16, 7, 92, 46, 27, 96, 79, 27, 172]
abbrev dktX3_lumpsDry_2 : List UInt8 := dkwX3_lumpsDry_2 ++ []
def dkwX3_lumpsDry_1 : List UInt8 := [46, 4, 100, 79, 42, 180, 0, 16, 16, 22, 28, 96, 46, 158, 0, 6, 167, 0, 11, 42, 28, 182, 0, 167]
abbrev dktX3_lumpsDry_1 : List UInt8 := dkwX3_lumpsDry_1 ++ dktX3_lumpsDry_2
def dkwX3_lumpsDry_0 : List UInt8 := [3, 60, 42, 180, 0, 16, 7, 46, 4, 100, 61, 28, 155, 0, 45, 42, 180, 0, 16, 16, 22, 28, 96, 92]
abbrev dktX3_lumpsDry_0 : List UInt8 := dkwX3_lumpsDry_0 ++ dktX3_lumpsDry_1
theorem dksX3_lumpsDry_0 : cX3_lumpsDry.data.toList.drop 0 = dktX3_lumpsDry_0 := by decide +kernel
theorem dksX3_lumpsDry_1 : cX3_lumpsDry.data.toList.drop 24 = dktX3_lumpsDry_1 := dk_seg dksX3_lumpsDry_0 24 rfl rfl
theorem dksX3_lumpsDry_2 : cX3_lumpsDry.data.toList.drop 48 = dktX3_lumpsDry_2 := dk_seg dksX3_lumpsDry_1 24 rfl rfl
theorem dX3_lumpsDry_0 : decode cX3_lumpsDry 0 = .ok (.iconst 0, 1) := dk_3 (dk_at dksX3_lumpsDry_0 0 rfl rfl)
theorem dX3_lumpsDry_1 : decode cX3_lumpsDry 1 = .ok (.istore_n 1, 1) := dk_60 (dk_at dksX3_lumpsDry_0 1 rfl rfl)
theorem dX3_lumpsDry_2 : decode cX3_lumpsDry 2 = .ok (.aload_n 0, 1) := dk_42 (dk_at dksX3_lumpsDry_0 2 rfl rfl)
theorem dX3_lumpsDry_3 : decode cX3_lumpsDry 3 = .ok (.getfield 16, 3) := dk_180 0 16 (dk_at dksX3_lumpsDry_0 3 rfl rfl)
theorem dX3_lumpsDry_6 : decode cX3_lumpsDry 6 = .ok (.iconst 4, 1) := dk_7 (dk_at dksX3_lumpsDry_0 6 rfl rfl)
theorem dX3_lumpsDry_7 : decode cX3_lumpsDry 7 = .ok (.iaload, 1) := dk_46 (dk_at dksX3_lumpsDry_0 7 rfl rfl)
theorem dX3_lumpsDry_8 : decode cX3_lumpsDry 8 = .ok (.iconst 1, 1) := dk_4 (dk_at dksX3_lumpsDry_0 8 rfl rfl)
theorem dX3_lumpsDry_9 : decode cX3_lumpsDry 9 = .ok (.isub, 1) := dk_100 (dk_at dksX3_lumpsDry_0 9 rfl rfl)
theorem dX3_lumpsDry_10 : decode cX3_lumpsDry 10 = .ok (.istore_n 2, 1) := dk_61 (dk_at dksX3_lumpsDry_0 10 rfl rfl)
theorem dX3_lumpsDry_11 : decode cX3_lumpsDry 11 = .ok (.iload_n 2, 1) := dk_28 (dk_at dksX3_lumpsDry_0 11 rfl rfl)
theorem dX3_lumpsDry_12 : decode cX3_lumpsDry 12 = .ok (.ifCond .lt 45, 3) := dk_155 0 45 (dk_at dksX3_lumpsDry_0 12 rfl rfl)
theorem dX3_lumpsDry_15 : decode cX3_lumpsDry 15 = .ok (.aload_n 0, 1) := dk_42 (dk_at dksX3_lumpsDry_0 15 rfl rfl)
theorem dX3_lumpsDry_16 : decode cX3_lumpsDry 16 = .ok (.getfield 16, 3) := dk_180 0 16 (dk_at dksX3_lumpsDry_0 16 rfl rfl)
theorem dX3_lumpsDry_19 : decode cX3_lumpsDry 19 = .ok (.bipush 22, 2) := dk_16 22 (dk_at dksX3_lumpsDry_0 19 rfl rfl)
theorem dX3_lumpsDry_21 : decode cX3_lumpsDry 21 = .ok (.iload_n 2, 1) := dk_28 (dk_at dksX3_lumpsDry_0 21 rfl rfl)
theorem dX3_lumpsDry_22 : decode cX3_lumpsDry 22 = .ok (.iadd, 1) := dk_96 (dk_at dksX3_lumpsDry_0 22 rfl rfl)
theorem dX3_lumpsDry_23 : decode cX3_lumpsDry 23 = .ok (.dup2, 1) := dk_92 (dk_at dksX3_lumpsDry_0 23 rfl rfl)
theorem dX3_lumpsDry_24 : decode cX3_lumpsDry 24 = .ok (.iaload, 1) := dk_46 (dk_at dksX3_lumpsDry_1 0 rfl rfl)
theorem dX3_lumpsDry_25 : decode cX3_lumpsDry 25 = .ok (.iconst 1, 1) := dk_4 (dk_at dksX3_lumpsDry_1 1 rfl rfl)
theorem dX3_lumpsDry_26 : decode cX3_lumpsDry 26 = .ok (.isub, 1) := dk_100 (dk_at dksX3_lumpsDry_1 2 rfl rfl)
theorem dX3_lumpsDry_27 : decode cX3_lumpsDry 27 = .ok (.iastore, 1) := dk_79 (dk_at dksX3_lumpsDry_1 3 rfl rfl)
theorem dX3_lumpsDry_28 : decode cX3_lumpsDry 28 = .ok (.aload_n 0, 1) := dk_42 (dk_at dksX3_lumpsDry_1 4 rfl rfl)
theorem dX3_lumpsDry_29 : decode cX3_lumpsDry 29 = .ok (.getfield 16, 3) := dk_180 0 16 (dk_at dksX3_lumpsDry_1 5 rfl rfl)
theorem dX3_lumpsDry_32 : decode cX3_lumpsDry 32 = .ok (.bipush 22, 2) := dk_16 22 (dk_at dksX3_lumpsDry_1 8 rfl rfl)
theorem dX3_lumpsDry_34 : decode cX3_lumpsDry 34 = .ok (.iload_n 2, 1) := dk_28 (dk_at dksX3_lumpsDry_1 10 rfl rfl)
theorem dX3_lumpsDry_35 : decode cX3_lumpsDry 35 = .ok (.iadd, 1) := dk_96 (dk_at dksX3_lumpsDry_1 11 rfl rfl)
theorem dX3_lumpsDry_36 : decode cX3_lumpsDry 36 = .ok (.iaload, 1) := dk_46 (dk_at dksX3_lumpsDry_1 12 rfl rfl)
theorem dX3_lumpsDry_37 : decode cX3_lumpsDry 37 = .ok (.ifCond .le 6, 3) := dk_158 0 6 (dk_at dksX3_lumpsDry_1 13 rfl rfl)
theorem dX3_lumpsDry_40 : decode cX3_lumpsDry 40 = .ok (.goto 11, 3) := dk_167 0 11 (dk_at dksX3_lumpsDry_1 16 rfl rfl)
theorem dX3_lumpsDry_43 : decode cX3_lumpsDry 43 = .ok (.aload_n 0, 1) := dk_42 (dk_at dksX3_lumpsDry_1 19 rfl rfl)
theorem dX3_lumpsDry_44 : decode cX3_lumpsDry 44 = .ok (.iload_n 2, 1) := dk_28 (dk_at dksX3_lumpsDry_1 20 rfl rfl)
theorem dX3_lumpsDry_45 : decode cX3_lumpsDry 45 = .ok (.invokevirtual 167, 3) := dk_182 0 167 (dk_at dksX3_lumpsDry_1 21 rfl rfl)
theorem dX3_lumpsDry_48 : decode cX3_lumpsDry 48 = .ok (.iinc 1 1, 3) := dk_132 1 1 (dk_at dksX3_lumpsDry_2 0 rfl rfl)
theorem dX3_lumpsDry_51 : decode cX3_lumpsDry 51 = .ok (.iinc 2 (-1), 3) := dk_132 2 255 (dk_at dksX3_lumpsDry_2 3 rfl rfl)
theorem dX3_lumpsDry_54 : decode cX3_lumpsDry 54 = .ok (.goto (-43), 3) := dk_167 255 213 (dk_at dksX3_lumpsDry_2 6 rfl rfl)
theorem dX3_lumpsDry_57 : decode cX3_lumpsDry 57 = .ok (.aload_n 0, 1) := dk_42 (dk_at dksX3_lumpsDry_2 9 rfl rfl)
theorem dX3_lumpsDry_58 : decode cX3_lumpsDry 58 = .ok (.getfield 16, 3) := dk_180 0 16 (dk_at dksX3_lumpsDry_2 10 rfl rfl)
theorem dX3_lumpsDry_61 : decode cX3_lumpsDry 61 = .ok (.bipush 7, 2) := dk_16 7 (dk_at dksX3_lumpsDry_2 13 rfl rfl)
theorem dX3_lumpsDry_63 : decode cX3_lumpsDry 63 = .ok (.dup2, 1) := dk_92 (dk_at dksX3_lumpsDry_2 15 rfl rfl)
theorem dX3_lumpsDry_64 : decode cX3_lumpsDry 64 = .ok (.iaload, 1) := dk_46 (dk_at dksX3_lumpsDry_2 16 rfl rfl)
theorem dX3_lumpsDry_65 : decode cX3_lumpsDry 65 = .ok (.iload_n 1, 1) := dk_27 (dk_at dksX3_lumpsDry_2 17 rfl rfl)
theorem dX3_lumpsDry_66 : decode cX3_lumpsDry 66 = .ok (.iadd, 1) := dk_96 (dk_at dksX3_lumpsDry_2 18 rfl rfl)
theorem dX3_lumpsDry_67 : decode cX3_lumpsDry 67 = .ok (.iastore, 1) := dk_79 (dk_at dksX3_lumpsDry_2 19 rfl rfl)
theorem dX3_lumpsDry_68 : decode cX3_lumpsDry 68 = .ok (.iload_n 1, 1) := dk_27 (dk_at dksX3_lumpsDry_2 20 rfl rfl)
theorem dX3_lumpsDry_69 : decode cX3_lumpsDry 69 = .ok (.ireturn, 1) := dk_172 (dk_at dksX3_lumpsDry_2 21 rfl rfl)
abbrev cX3_pipeOf : ByteArray := prog_9_method_77_code
def yX3_pipeOf : MethodName := ⟨RX3, "pipeOf", "(II)I"⟩
def dkwX3_pipeOf_3 : List UInt8 := [182, 0, 61, 172]
abbrev dktX3_pipeOf_3 : List UInt8 := dkwX3_pipeOf_3 ++ []
def dkwX3_pipeOf_2 : List UInt8 := [42, 27, 28, 182, 0, 155, 172, 42, 27, 182, 0, 105, 172, 42, 27, 28, 4, 100, 182, 0, 155, 172, 42, 5]
abbrev dktX3_pipeOf_2 : List UInt8 := dkwX3_pipeOf_2 ++ dktX3_pipeOf_3
def dkwX3_pipeOf_1 : List UInt8 := [170, 0, 0, 0, 0, 0, 0, 62, 0, 0, 0, 0, 0, 0, 0, 5, 0, 0, 0, 40, 0, 0, 0, 40, 0, 0, 0, 40, 0, 0, 0, 47, 0, 0, 0, 53, 0, 0, 0, 53]
abbrev dktX3_pipeOf_1 : List UInt8 := dkwX3_pipeOf_1 ++ dktX3_pipeOf_2
def dkwX3_pipeOf_0 : List UInt8 := [42, 3, 181, 0, 42, 42, 27, 182, 0, 102, 154, 0, 9, 42, 4, 182, 0, 61, 172, 28]
abbrev dktX3_pipeOf_0 : List UInt8 := dkwX3_pipeOf_0 ++ dktX3_pipeOf_1
theorem dksX3_pipeOf_0 : cX3_pipeOf.data.toList.drop 0 = dktX3_pipeOf_0 := by decide +kernel
theorem dksX3_pipeOf_1 : cX3_pipeOf.data.toList.drop 20 = dktX3_pipeOf_1 := dk_seg dksX3_pipeOf_0 20 rfl rfl
theorem dksX3_pipeOf_2 : cX3_pipeOf.data.toList.drop 60 = dktX3_pipeOf_2 := dk_seg dksX3_pipeOf_1 40 rfl rfl
theorem dksX3_pipeOf_3 : cX3_pipeOf.data.toList.drop 84 = dktX3_pipeOf_3 := dk_seg dksX3_pipeOf_2 24 rfl rfl
theorem dX3_pipeOf_0 : decode cX3_pipeOf 0 = .ok (.aload_n 0, 1) := dk_42 (dk_at dksX3_pipeOf_0 0 rfl rfl)
theorem dX3_pipeOf_1 : decode cX3_pipeOf 1 = .ok (.iconst 0, 1) := dk_3 (dk_at dksX3_pipeOf_0 1 rfl rfl)
theorem dX3_pipeOf_2 : decode cX3_pipeOf 2 = .ok (.putfield 42, 3) := dk_181 0 42 (dk_at dksX3_pipeOf_0 2 rfl rfl)
theorem dX3_pipeOf_5 : decode cX3_pipeOf 5 = .ok (.aload_n 0, 1) := dk_42 (dk_at dksX3_pipeOf_0 5 rfl rfl)
theorem dX3_pipeOf_6 : decode cX3_pipeOf 6 = .ok (.iload_n 1, 1) := dk_27 (dk_at dksX3_pipeOf_0 6 rfl rfl)
theorem dX3_pipeOf_7 : decode cX3_pipeOf 7 = .ok (.invokevirtual 102, 3) := dk_182 0 102 (dk_at dksX3_pipeOf_0 7 rfl rfl)
theorem dX3_pipeOf_10 : decode cX3_pipeOf 10 = .ok (.ifCond .ne 9, 3) := dk_154 0 9 (dk_at dksX3_pipeOf_0 10 rfl rfl)
theorem dX3_pipeOf_13 : decode cX3_pipeOf 13 = .ok (.aload_n 0, 1) := dk_42 (dk_at dksX3_pipeOf_0 13 rfl rfl)
theorem dX3_pipeOf_14 : decode cX3_pipeOf 14 = .ok (.iconst 1, 1) := dk_4 (dk_at dksX3_pipeOf_0 14 rfl rfl)
theorem dX3_pipeOf_15 : decode cX3_pipeOf 15 = .ok (.invokevirtual 61, 3) := dk_182 0 61 (dk_at dksX3_pipeOf_0 15 rfl rfl)
theorem dX3_pipeOf_18 : decode cX3_pipeOf 18 = .ok (.ireturn, 1) := dk_172 (dk_at dksX3_pipeOf_0 18 rfl rfl)
theorem dX3_pipeOf_19 : decode cX3_pipeOf 19 = .ok (.iload_n 2, 1) := dk_28 (dk_at dksX3_pipeOf_0 19 rfl rfl)
theorem dX3_pipeOf_20 : decode cX3_pipeOf 20 = .ok (.tableswitch 62 0 5 #[40, 40, 40, 47, 53, 53], 40) := by decide +kernel
theorem dX3_pipeOf_60 : decode cX3_pipeOf 60 = .ok (.aload_n 0, 1) := dk_42 (dk_at dksX3_pipeOf_2 0 rfl rfl)
theorem dX3_pipeOf_61 : decode cX3_pipeOf 61 = .ok (.iload_n 1, 1) := dk_27 (dk_at dksX3_pipeOf_2 1 rfl rfl)
theorem dX3_pipeOf_62 : decode cX3_pipeOf 62 = .ok (.iload_n 2, 1) := dk_28 (dk_at dksX3_pipeOf_2 2 rfl rfl)
theorem dX3_pipeOf_63 : decode cX3_pipeOf 63 = .ok (.invokevirtual 155, 3) := dk_182 0 155 (dk_at dksX3_pipeOf_2 3 rfl rfl)
theorem dX3_pipeOf_66 : decode cX3_pipeOf 66 = .ok (.ireturn, 1) := dk_172 (dk_at dksX3_pipeOf_2 6 rfl rfl)
theorem dX3_pipeOf_67 : decode cX3_pipeOf 67 = .ok (.aload_n 0, 1) := dk_42 (dk_at dksX3_pipeOf_2 7 rfl rfl)
theorem dX3_pipeOf_68 : decode cX3_pipeOf 68 = .ok (.iload_n 1, 1) := dk_27 (dk_at dksX3_pipeOf_2 8 rfl rfl)
theorem dX3_pipeOf_69 : decode cX3_pipeOf 69 = .ok (.invokevirtual 105, 3) := dk_182 0 105 (dk_at dksX3_pipeOf_2 9 rfl rfl)
theorem dX3_pipeOf_72 : decode cX3_pipeOf 72 = .ok (.ireturn, 1) := dk_172 (dk_at dksX3_pipeOf_2 12 rfl rfl)
theorem dX3_pipeOf_73 : decode cX3_pipeOf 73 = .ok (.aload_n 0, 1) := dk_42 (dk_at dksX3_pipeOf_2 13 rfl rfl)
theorem dX3_pipeOf_74 : decode cX3_pipeOf 74 = .ok (.iload_n 1, 1) := dk_27 (dk_at dksX3_pipeOf_2 14 rfl rfl)
theorem dX3_pipeOf_75 : decode cX3_pipeOf 75 = .ok (.iload_n 2, 1) := dk_28 (dk_at dksX3_pipeOf_2 15 rfl rfl)
theorem dX3_pipeOf_76 : decode cX3_pipeOf 76 = .ok (.iconst 1, 1) := dk_4 (dk_at dksX3_pipeOf_2 16 rfl rfl)
theorem dX3_pipeOf_77 : decode cX3_pipeOf 77 = .ok (.isub, 1) := dk_100 (dk_at dksX3_pipeOf_2 17 rfl rfl)
theorem dX3_pipeOf_78 : decode cX3_pipeOf 78 = .ok (.invokevirtual 155, 3) := dk_182 0 155 (dk_at dksX3_pipeOf_2 18 rfl rfl)
theorem dX3_pipeOf_81 : decode cX3_pipeOf 81 = .ok (.ireturn, 1) := dk_172 (dk_at dksX3_pipeOf_2 21 rfl rfl)
theorem dX3_pipeOf_82 : decode cX3_pipeOf 82 = .ok (.aload_n 0, 1) := dk_42 (dk_at dksX3_pipeOf_2 22 rfl rfl)
theorem dX3_pipeOf_83 : decode cX3_pipeOf 83 = .ok (.iconst 2, 1) := dk_5 (dk_at dksX3_pipeOf_2 23 rfl rfl)
theorem dX3_pipeOf_84 : decode cX3_pipeOf 84 = .ok (.invokevirtual 61, 3) := dk_182 0 61 (dk_at dksX3_pipeOf_3 0 rfl rfl)
theorem dX3_pipeOf_87 : decode cX3_pipeOf 87 = .ok (.ireturn, 1) := dk_172 (dk_at dksX3_pipeOf_3 3 rfl rfl)
abbrev cX3_draws : ByteArray := prog_9_method_78_code
def yX3_draws : MethodName := ⟨RX3, "draws", "(I)Z"⟩
def dkwX3_draws_1 : List UInt8 := [167, 0, 20, 3, 167, 0, 16, 42, 4, 182, 0, 61, 158, 0, 7, 4, 167, 0, 4, 3, 172]
abbrev dktX3_draws_1 : List UInt8 := dkwX3_draws_1 ++ []
def dkwX3_draws_0 : List UInt8 := [42, 3, 181, 0, 42, 42, 27, 182, 0, 102, 153, 0, 19, 42, 27, 182, 0, 176, 156, 0, 7, 4]
abbrev dktX3_draws_0 : List UInt8 := dkwX3_draws_0 ++ dktX3_draws_1
theorem dksX3_draws_0 : cX3_draws.data.toList.drop 0 = dktX3_draws_0 := by decide +kernel
theorem dksX3_draws_1 : cX3_draws.data.toList.drop 22 = dktX3_draws_1 := dk_seg dksX3_draws_0 22 rfl rfl
theorem dX3_draws_0 : decode cX3_draws 0 = .ok (.aload_n 0, 1) := dk_42 (dk_at dksX3_draws_0 0 rfl rfl)
theorem dX3_draws_1 : decode cX3_draws 1 = .ok (.iconst 0, 1) := dk_3 (dk_at dksX3_draws_0 1 rfl rfl)
theorem dX3_draws_2 : decode cX3_draws 2 = .ok (.putfield 42, 3) := dk_181 0 42 (dk_at dksX3_draws_0 2 rfl rfl)
theorem dX3_draws_5 : decode cX3_draws 5 = .ok (.aload_n 0, 1) := dk_42 (dk_at dksX3_draws_0 5 rfl rfl)
theorem dX3_draws_6 : decode cX3_draws 6 = .ok (.iload_n 1, 1) := dk_27 (dk_at dksX3_draws_0 6 rfl rfl)
theorem dX3_draws_7 : decode cX3_draws 7 = .ok (.invokevirtual 102, 3) := dk_182 0 102 (dk_at dksX3_draws_0 7 rfl rfl)
theorem dX3_draws_10 : decode cX3_draws 10 = .ok (.ifCond .eq 19, 3) := dk_153 0 19 (dk_at dksX3_draws_0 10 rfl rfl)
theorem dX3_draws_13 : decode cX3_draws 13 = .ok (.aload_n 0, 1) := dk_42 (dk_at dksX3_draws_0 13 rfl rfl)
theorem dX3_draws_14 : decode cX3_draws 14 = .ok (.iload_n 1, 1) := dk_27 (dk_at dksX3_draws_0 14 rfl rfl)
theorem dX3_draws_15 : decode cX3_draws 15 = .ok (.invokevirtual 176, 3) := dk_182 0 176 (dk_at dksX3_draws_0 15 rfl rfl)
theorem dX3_draws_18 : decode cX3_draws 18 = .ok (.ifCond .ge 7, 3) := dk_156 0 7 (dk_at dksX3_draws_0 18 rfl rfl)
theorem dX3_draws_21 : decode cX3_draws 21 = .ok (.iconst 1, 1) := dk_4 (dk_at dksX3_draws_0 21 rfl rfl)
theorem dX3_draws_22 : decode cX3_draws 22 = .ok (.goto 20, 3) := dk_167 0 20 (dk_at dksX3_draws_1 0 rfl rfl)
theorem dX3_draws_25 : decode cX3_draws 25 = .ok (.iconst 0, 1) := dk_3 (dk_at dksX3_draws_1 3 rfl rfl)
theorem dX3_draws_26 : decode cX3_draws 26 = .ok (.goto 16, 3) := dk_167 0 16 (dk_at dksX3_draws_1 4 rfl rfl)
theorem dX3_draws_29 : decode cX3_draws 29 = .ok (.aload_n 0, 1) := dk_42 (dk_at dksX3_draws_1 7 rfl rfl)
theorem dX3_draws_30 : decode cX3_draws 30 = .ok (.iconst 1, 1) := dk_4 (dk_at dksX3_draws_1 8 rfl rfl)
theorem dX3_draws_31 : decode cX3_draws 31 = .ok (.invokevirtual 61, 3) := dk_182 0 61 (dk_at dksX3_draws_1 9 rfl rfl)
theorem dX3_draws_34 : decode cX3_draws 34 = .ok (.ifCond .le 7, 3) := dk_158 0 7 (dk_at dksX3_draws_1 12 rfl rfl)
theorem dX3_draws_37 : decode cX3_draws 37 = .ok (.iconst 1, 1) := dk_4 (dk_at dksX3_draws_1 15 rfl rfl)
theorem dX3_draws_38 : decode cX3_draws 38 = .ok (.goto 4, 3) := dk_167 0 4 (dk_at dksX3_draws_1 16 rfl rfl)
theorem dX3_draws_41 : decode cX3_draws 41 = .ok (.iconst 0, 1) := dk_3 (dk_at dksX3_draws_1 19 rfl rfl)
theorem dX3_draws_42 : decode cX3_draws 42 = .ok (.ireturn, 1) := dk_172 (dk_at dksX3_draws_1 20 rfl rfl)
abbrev cX3_onBench : ByteArray := prog_9_method_79_code
def yX3_onBench : MethodName := ⟨RX3, "onBench", "(I)I"⟩
def dkwX3_onBench_1 : List UInt8 := [180, 0, 16, 16, 12, 27, 96, 46, 167, 0, 8, 42, 4, 182, 0, 61, 172]
abbrev dktX3_onBench_1 : List UInt8 := dkwX3_onBench_1 ++ []
def dkwX3_onBench_0 : List UInt8 := [42, 3, 181, 0, 42, 27, 3, 42, 180, 0, 16, 6, 46, 4, 100, 184, 0, 77, 153, 0, 15, 42]
abbrev dktX3_onBench_0 : List UInt8 := dkwX3_onBench_0 ++ dktX3_onBench_1
theorem dksX3_onBench_0 : cX3_onBench.data.toList.drop 0 = dktX3_onBench_0 := by decide +kernel
theorem dksX3_onBench_1 : cX3_onBench.data.toList.drop 22 = dktX3_onBench_1 := dk_seg dksX3_onBench_0 22 rfl rfl
theorem dX3_onBench_0 : decode cX3_onBench 0 = .ok (.aload_n 0, 1) := dk_42 (dk_at dksX3_onBench_0 0 rfl rfl)
theorem dX3_onBench_1 : decode cX3_onBench 1 = .ok (.iconst 0, 1) := dk_3 (dk_at dksX3_onBench_0 1 rfl rfl)
theorem dX3_onBench_2 : decode cX3_onBench 2 = .ok (.putfield 42, 3) := dk_181 0 42 (dk_at dksX3_onBench_0 2 rfl rfl)
theorem dX3_onBench_5 : decode cX3_onBench 5 = .ok (.iload_n 1, 1) := dk_27 (dk_at dksX3_onBench_0 5 rfl rfl)
theorem dX3_onBench_6 : decode cX3_onBench 6 = .ok (.iconst 0, 1) := dk_3 (dk_at dksX3_onBench_0 6 rfl rfl)
theorem dX3_onBench_7 : decode cX3_onBench 7 = .ok (.aload_n 0, 1) := dk_42 (dk_at dksX3_onBench_0 7 rfl rfl)
theorem dX3_onBench_8 : decode cX3_onBench 8 = .ok (.getfield 16, 3) := dk_180 0 16 (dk_at dksX3_onBench_0 8 rfl rfl)
theorem dX3_onBench_11 : decode cX3_onBench 11 = .ok (.iconst 3, 1) := dk_6 (dk_at dksX3_onBench_0 11 rfl rfl)
theorem dX3_onBench_12 : decode cX3_onBench 12 = .ok (.iaload, 1) := dk_46 (dk_at dksX3_onBench_0 12 rfl rfl)
theorem dX3_onBench_13 : decode cX3_onBench 13 = .ok (.iconst 1, 1) := dk_4 (dk_at dksX3_onBench_0 13 rfl rfl)
theorem dX3_onBench_14 : decode cX3_onBench 14 = .ok (.isub, 1) := dk_100 (dk_at dksX3_onBench_0 14 rfl rfl)
theorem dX3_onBench_15 : decode cX3_onBench 15 = .ok (.invokestatic 77, 3) := dk_184 0 77 (dk_at dksX3_onBench_0 15 rfl rfl)
theorem dX3_onBench_18 : decode cX3_onBench 18 = .ok (.ifCond .eq 15, 3) := dk_153 0 15 (dk_at dksX3_onBench_0 18 rfl rfl)
theorem dX3_onBench_21 : decode cX3_onBench 21 = .ok (.aload_n 0, 1) := dk_42 (dk_at dksX3_onBench_0 21 rfl rfl)
theorem dX3_onBench_22 : decode cX3_onBench 22 = .ok (.getfield 16, 3) := dk_180 0 16 (dk_at dksX3_onBench_1 0 rfl rfl)
theorem dX3_onBench_25 : decode cX3_onBench 25 = .ok (.bipush 12, 2) := dk_16 12 (dk_at dksX3_onBench_1 3 rfl rfl)
theorem dX3_onBench_27 : decode cX3_onBench 27 = .ok (.iload_n 1, 1) := dk_27 (dk_at dksX3_onBench_1 5 rfl rfl)
theorem dX3_onBench_28 : decode cX3_onBench 28 = .ok (.iadd, 1) := dk_96 (dk_at dksX3_onBench_1 6 rfl rfl)
theorem dX3_onBench_29 : decode cX3_onBench 29 = .ok (.iaload, 1) := dk_46 (dk_at dksX3_onBench_1 7 rfl rfl)
theorem dX3_onBench_30 : decode cX3_onBench 30 = .ok (.goto 8, 3) := dk_167 0 8 (dk_at dksX3_onBench_1 8 rfl rfl)
theorem dX3_onBench_33 : decode cX3_onBench 33 = .ok (.aload_n 0, 1) := dk_42 (dk_at dksX3_onBench_1 11 rfl rfl)
theorem dX3_onBench_34 : decode cX3_onBench 34 = .ok (.iconst 1, 1) := dk_4 (dk_at dksX3_onBench_1 12 rfl rfl)
theorem dX3_onBench_35 : decode cX3_onBench 35 = .ok (.invokevirtual 61, 3) := dk_182 0 61 (dk_at dksX3_onBench_1 13 rfl rfl)
theorem dX3_onBench_38 : decode cX3_onBench 38 = .ok (.ireturn, 1) := dk_172 (dk_at dksX3_onBench_1 16 rfl rfl)
abbrev cX3_lumpOf : ByteArray := prog_9_method_80_code
def yX3_lumpOf : MethodName := ⟨RX3, "lumpOf", "(I)I"⟩
def dkwX3_lumpOf_1 : List UInt8 := [180, 0, 16, 16, 22, 27, 96, 46, 167, 0, 8, 42, 4, 182, 0, 61, 172]
abbrev dktX3_lumpOf_1 : List UInt8 := dkwX3_lumpOf_1 ++ []
def dkwX3_lumpOf_0 : List UInt8 := [42, 3, 181, 0, 42, 27, 3, 42, 180, 0, 16, 7, 46, 4, 100, 184, 0, 77, 153, 0, 15, 42]
abbrev dktX3_lumpOf_0 : List UInt8 := dkwX3_lumpOf_0 ++ dktX3_lumpOf_1
theorem dksX3_lumpOf_0 : cX3_lumpOf.data.toList.drop 0 = dktX3_lumpOf_0 := by decide +kernel
theorem dksX3_lumpOf_1 : cX3_lumpOf.data.toList.drop 22 = dktX3_lumpOf_1 := dk_seg dksX3_lumpOf_0 22 rfl rfl
theorem dX3_lumpOf_0 : decode cX3_lumpOf 0 = .ok (.aload_n 0, 1) := dk_42 (dk_at dksX3_lumpOf_0 0 rfl rfl)
theorem dX3_lumpOf_1 : decode cX3_lumpOf 1 = .ok (.iconst 0, 1) := dk_3 (dk_at dksX3_lumpOf_0 1 rfl rfl)
theorem dX3_lumpOf_2 : decode cX3_lumpOf 2 = .ok (.putfield 42, 3) := dk_181 0 42 (dk_at dksX3_lumpOf_0 2 rfl rfl)
theorem dX3_lumpOf_5 : decode cX3_lumpOf 5 = .ok (.iload_n 1, 1) := dk_27 (dk_at dksX3_lumpOf_0 5 rfl rfl)
theorem dX3_lumpOf_6 : decode cX3_lumpOf 6 = .ok (.iconst 0, 1) := dk_3 (dk_at dksX3_lumpOf_0 6 rfl rfl)
theorem dX3_lumpOf_7 : decode cX3_lumpOf 7 = .ok (.aload_n 0, 1) := dk_42 (dk_at dksX3_lumpOf_0 7 rfl rfl)
theorem dX3_lumpOf_8 : decode cX3_lumpOf 8 = .ok (.getfield 16, 3) := dk_180 0 16 (dk_at dksX3_lumpOf_0 8 rfl rfl)
theorem dX3_lumpOf_11 : decode cX3_lumpOf 11 = .ok (.iconst 4, 1) := dk_7 (dk_at dksX3_lumpOf_0 11 rfl rfl)
theorem dX3_lumpOf_12 : decode cX3_lumpOf 12 = .ok (.iaload, 1) := dk_46 (dk_at dksX3_lumpOf_0 12 rfl rfl)
theorem dX3_lumpOf_13 : decode cX3_lumpOf 13 = .ok (.iconst 1, 1) := dk_4 (dk_at dksX3_lumpOf_0 13 rfl rfl)
theorem dX3_lumpOf_14 : decode cX3_lumpOf 14 = .ok (.isub, 1) := dk_100 (dk_at dksX3_lumpOf_0 14 rfl rfl)
theorem dX3_lumpOf_15 : decode cX3_lumpOf 15 = .ok (.invokestatic 77, 3) := dk_184 0 77 (dk_at dksX3_lumpOf_0 15 rfl rfl)
theorem dX3_lumpOf_18 : decode cX3_lumpOf 18 = .ok (.ifCond .eq 15, 3) := dk_153 0 15 (dk_at dksX3_lumpOf_0 18 rfl rfl)
theorem dX3_lumpOf_21 : decode cX3_lumpOf 21 = .ok (.aload_n 0, 1) := dk_42 (dk_at dksX3_lumpOf_0 21 rfl rfl)
theorem dX3_lumpOf_22 : decode cX3_lumpOf 22 = .ok (.getfield 16, 3) := dk_180 0 16 (dk_at dksX3_lumpOf_1 0 rfl rfl)
theorem dX3_lumpOf_25 : decode cX3_lumpOf 25 = .ok (.bipush 22, 2) := dk_16 22 (dk_at dksX3_lumpOf_1 3 rfl rfl)
theorem dX3_lumpOf_27 : decode cX3_lumpOf 27 = .ok (.iload_n 1, 1) := dk_27 (dk_at dksX3_lumpOf_1 5 rfl rfl)
theorem dX3_lumpOf_28 : decode cX3_lumpOf 28 = .ok (.iadd, 1) := dk_96 (dk_at dksX3_lumpOf_1 6 rfl rfl)
theorem dX3_lumpOf_29 : decode cX3_lumpOf 29 = .ok (.iaload, 1) := dk_46 (dk_at dksX3_lumpOf_1 7 rfl rfl)
theorem dX3_lumpOf_30 : decode cX3_lumpOf 30 = .ok (.goto 8, 3) := dk_167 0 8 (dk_at dksX3_lumpOf_1 8 rfl rfl)
theorem dX3_lumpOf_33 : decode cX3_lumpOf 33 = .ok (.aload_n 0, 1) := dk_42 (dk_at dksX3_lumpOf_1 11 rfl rfl)
theorem dX3_lumpOf_34 : decode cX3_lumpOf 34 = .ok (.iconst 1, 1) := dk_4 (dk_at dksX3_lumpOf_1 12 rfl rfl)
theorem dX3_lumpOf_35 : decode cX3_lumpOf 35 = .ok (.invokevirtual 61, 3) := dk_182 0 61 (dk_at dksX3_lumpOf_1 13 rfl rfl)
theorem dX3_lumpOf_38 : decode cX3_lumpOf 38 = .ok (.ireturn, 1) := dk_172 (dk_at dksX3_lumpOf_1 16 rfl rfl)
abbrev cX3_pieces : ByteArray := prog_9_method_81_code
def yX3_pieces : MethodName := ⟨RX3, "pieces", "(I)I"⟩
def dkwX3_pieces_1 : List UInt8 := [167, 0, 8, 42, 4, 182, 0, 61, 172]
abbrev dktX3_pieces_1 : List UInt8 := dkwX3_pieces_1 ++ []
def dkwX3_pieces_0 : List UInt8 := [42, 3, 181, 0, 42, 27, 4, 16, 6, 184, 0, 77, 153, 0, 15, 42, 180, 0, 16, 16, 42, 27, 96, 46]
abbrev dktX3_pieces_0 : List UInt8 := dkwX3_pieces_0 ++ dktX3_pieces_1
theorem dksX3_pieces_0 : cX3_pieces.data.toList.drop 0 = dktX3_pieces_0 := by decide +kernel
theorem dksX3_pieces_1 : cX3_pieces.data.toList.drop 24 = dktX3_pieces_1 := dk_seg dksX3_pieces_0 24 rfl rfl
theorem dX3_pieces_0 : decode cX3_pieces 0 = .ok (.aload_n 0, 1) := dk_42 (dk_at dksX3_pieces_0 0 rfl rfl)
theorem dX3_pieces_1 : decode cX3_pieces 1 = .ok (.iconst 0, 1) := dk_3 (dk_at dksX3_pieces_0 1 rfl rfl)
theorem dX3_pieces_2 : decode cX3_pieces 2 = .ok (.putfield 42, 3) := dk_181 0 42 (dk_at dksX3_pieces_0 2 rfl rfl)
theorem dX3_pieces_5 : decode cX3_pieces 5 = .ok (.iload_n 1, 1) := dk_27 (dk_at dksX3_pieces_0 5 rfl rfl)
theorem dX3_pieces_6 : decode cX3_pieces 6 = .ok (.iconst 1, 1) := dk_4 (dk_at dksX3_pieces_0 6 rfl rfl)
theorem dX3_pieces_7 : decode cX3_pieces 7 = .ok (.bipush 6, 2) := dk_16 6 (dk_at dksX3_pieces_0 7 rfl rfl)
theorem dX3_pieces_9 : decode cX3_pieces 9 = .ok (.invokestatic 77, 3) := dk_184 0 77 (dk_at dksX3_pieces_0 9 rfl rfl)
theorem dX3_pieces_12 : decode cX3_pieces 12 = .ok (.ifCond .eq 15, 3) := dk_153 0 15 (dk_at dksX3_pieces_0 12 rfl rfl)
theorem dX3_pieces_15 : decode cX3_pieces 15 = .ok (.aload_n 0, 1) := dk_42 (dk_at dksX3_pieces_0 15 rfl rfl)
theorem dX3_pieces_16 : decode cX3_pieces 16 = .ok (.getfield 16, 3) := dk_180 0 16 (dk_at dksX3_pieces_0 16 rfl rfl)
theorem dX3_pieces_19 : decode cX3_pieces 19 = .ok (.bipush 42, 2) := dk_16 42 (dk_at dksX3_pieces_0 19 rfl rfl)
theorem dX3_pieces_21 : decode cX3_pieces 21 = .ok (.iload_n 1, 1) := dk_27 (dk_at dksX3_pieces_0 21 rfl rfl)
theorem dX3_pieces_22 : decode cX3_pieces 22 = .ok (.iadd, 1) := dk_96 (dk_at dksX3_pieces_0 22 rfl rfl)
theorem dX3_pieces_23 : decode cX3_pieces 23 = .ok (.iaload, 1) := dk_46 (dk_at dksX3_pieces_0 23 rfl rfl)
theorem dX3_pieces_24 : decode cX3_pieces 24 = .ok (.goto 8, 3) := dk_167 0 8 (dk_at dksX3_pieces_1 0 rfl rfl)
theorem dX3_pieces_27 : decode cX3_pieces 27 = .ok (.aload_n 0, 1) := dk_42 (dk_at dksX3_pieces_1 3 rfl rfl)
theorem dX3_pieces_28 : decode cX3_pieces 28 = .ok (.iconst 1, 1) := dk_4 (dk_at dksX3_pieces_1 4 rfl rfl)
theorem dX3_pieces_29 : decode cX3_pieces 29 = .ok (.invokevirtual 61, 3) := dk_182 0 61 (dk_at dksX3_pieces_1 5 rfl rfl)
theorem dX3_pieces_32 : decode cX3_pieces 32 = .ok (.ireturn, 1) := dk_172 (dk_at dksX3_pieces_1 8 rfl rfl)
abbrev cX3_atLeast : ByteArray := prog_9_method_82_code
def yX3_atLeast : MethodName := ⟨RX3, "atLeast", "(I)I"⟩
def dkwX3_atLeast_2 : List UInt8 := [167, 255, 235, 28, 172]
abbrev dktX3_atLeast_2 : List UInt8 := dkwX3_atLeast_2 ++ []
def dkwX3_atLeast_1 : List UInt8 := [62, 29, 16, 6, 163, 0, 21, 28, 42, 180, 0, 16, 16, 42, 29, 96, 46, 96, 61, 132, 3, 1]
abbrev dktX3_atLeast_1 : List UInt8 := dkwX3_atLeast_1 ++ dktX3_atLeast_2
def dkwX3_atLeast_0 : List UInt8 := [42, 3, 181, 0, 42, 27, 4, 16, 6, 184, 0, 77, 154, 0, 9, 42, 4, 182, 0, 61, 172, 3, 61, 27]
abbrev dktX3_atLeast_0 : List UInt8 := dkwX3_atLeast_0 ++ dktX3_atLeast_1
theorem dksX3_atLeast_0 : cX3_atLeast.data.toList.drop 0 = dktX3_atLeast_0 := by decide +kernel
theorem dksX3_atLeast_1 : cX3_atLeast.data.toList.drop 24 = dktX3_atLeast_1 := dk_seg dksX3_atLeast_0 24 rfl rfl
theorem dksX3_atLeast_2 : cX3_atLeast.data.toList.drop 46 = dktX3_atLeast_2 := dk_seg dksX3_atLeast_1 22 rfl rfl
theorem dX3_atLeast_0 : decode cX3_atLeast 0 = .ok (.aload_n 0, 1) := dk_42 (dk_at dksX3_atLeast_0 0 rfl rfl)
theorem dX3_atLeast_1 : decode cX3_atLeast 1 = .ok (.iconst 0, 1) := dk_3 (dk_at dksX3_atLeast_0 1 rfl rfl)
theorem dX3_atLeast_2 : decode cX3_atLeast 2 = .ok (.putfield 42, 3) := dk_181 0 42 (dk_at dksX3_atLeast_0 2 rfl rfl)
theorem dX3_atLeast_5 : decode cX3_atLeast 5 = .ok (.iload_n 1, 1) := dk_27 (dk_at dksX3_atLeast_0 5 rfl rfl)
theorem dX3_atLeast_6 : decode cX3_atLeast 6 = .ok (.iconst 1, 1) := dk_4 (dk_at dksX3_atLeast_0 6 rfl rfl)
theorem dX3_atLeast_7 : decode cX3_atLeast 7 = .ok (.bipush 6, 2) := dk_16 6 (dk_at dksX3_atLeast_0 7 rfl rfl)
theorem dX3_atLeast_9 : decode cX3_atLeast 9 = .ok (.invokestatic 77, 3) := dk_184 0 77 (dk_at dksX3_atLeast_0 9 rfl rfl)
theorem dX3_atLeast_12 : decode cX3_atLeast 12 = .ok (.ifCond .ne 9, 3) := dk_154 0 9 (dk_at dksX3_atLeast_0 12 rfl rfl)
theorem dX3_atLeast_15 : decode cX3_atLeast 15 = .ok (.aload_n 0, 1) := dk_42 (dk_at dksX3_atLeast_0 15 rfl rfl)
theorem dX3_atLeast_16 : decode cX3_atLeast 16 = .ok (.iconst 1, 1) := dk_4 (dk_at dksX3_atLeast_0 16 rfl rfl)
theorem dX3_atLeast_17 : decode cX3_atLeast 17 = .ok (.invokevirtual 61, 3) := dk_182 0 61 (dk_at dksX3_atLeast_0 17 rfl rfl)
theorem dX3_atLeast_20 : decode cX3_atLeast 20 = .ok (.ireturn, 1) := dk_172 (dk_at dksX3_atLeast_0 20 rfl rfl)
theorem dX3_atLeast_21 : decode cX3_atLeast 21 = .ok (.iconst 0, 1) := dk_3 (dk_at dksX3_atLeast_0 21 rfl rfl)
theorem dX3_atLeast_22 : decode cX3_atLeast 22 = .ok (.istore_n 2, 1) := dk_61 (dk_at dksX3_atLeast_0 22 rfl rfl)
theorem dX3_atLeast_23 : decode cX3_atLeast 23 = .ok (.iload_n 1, 1) := dk_27 (dk_at dksX3_atLeast_0 23 rfl rfl)
theorem dX3_atLeast_24 : decode cX3_atLeast 24 = .ok (.istore_n 3, 1) := dk_62 (dk_at dksX3_atLeast_1 0 rfl rfl)
theorem dX3_atLeast_25 : decode cX3_atLeast 25 = .ok (.iload_n 3, 1) := dk_29 (dk_at dksX3_atLeast_1 1 rfl rfl)
theorem dX3_atLeast_26 : decode cX3_atLeast 26 = .ok (.bipush 6, 2) := dk_16 6 (dk_at dksX3_atLeast_1 2 rfl rfl)
theorem dX3_atLeast_28 : decode cX3_atLeast 28 = .ok (.if_icmp .gt 21, 3) := dk_163 0 21 (dk_at dksX3_atLeast_1 4 rfl rfl)
theorem dX3_atLeast_31 : decode cX3_atLeast 31 = .ok (.iload_n 2, 1) := dk_28 (dk_at dksX3_atLeast_1 7 rfl rfl)
theorem dX3_atLeast_32 : decode cX3_atLeast 32 = .ok (.aload_n 0, 1) := dk_42 (dk_at dksX3_atLeast_1 8 rfl rfl)
theorem dX3_atLeast_33 : decode cX3_atLeast 33 = .ok (.getfield 16, 3) := dk_180 0 16 (dk_at dksX3_atLeast_1 9 rfl rfl)
theorem dX3_atLeast_36 : decode cX3_atLeast 36 = .ok (.bipush 42, 2) := dk_16 42 (dk_at dksX3_atLeast_1 12 rfl rfl)
theorem dX3_atLeast_38 : decode cX3_atLeast 38 = .ok (.iload_n 3, 1) := dk_29 (dk_at dksX3_atLeast_1 14 rfl rfl)
theorem dX3_atLeast_39 : decode cX3_atLeast 39 = .ok (.iadd, 1) := dk_96 (dk_at dksX3_atLeast_1 15 rfl rfl)
theorem dX3_atLeast_40 : decode cX3_atLeast 40 = .ok (.iaload, 1) := dk_46 (dk_at dksX3_atLeast_1 16 rfl rfl)
theorem dX3_atLeast_41 : decode cX3_atLeast 41 = .ok (.iadd, 1) := dk_96 (dk_at dksX3_atLeast_1 17 rfl rfl)
theorem dX3_atLeast_42 : decode cX3_atLeast 42 = .ok (.istore_n 2, 1) := dk_61 (dk_at dksX3_atLeast_1 18 rfl rfl)
theorem dX3_atLeast_43 : decode cX3_atLeast 43 = .ok (.iinc 3 1, 3) := dk_132 3 1 (dk_at dksX3_atLeast_1 19 rfl rfl)
theorem dX3_atLeast_46 : decode cX3_atLeast 46 = .ok (.goto (-21), 3) := dk_167 255 235 (dk_at dksX3_atLeast_2 0 rfl rfl)
theorem dX3_atLeast_49 : decode cX3_atLeast 49 = .ok (.iload_n 2, 1) := dk_28 (dk_at dksX3_atLeast_2 3 rfl rfl)
theorem dX3_atLeast_50 : decode cX3_atLeast 50 = .ok (.ireturn, 1) := dk_172 (dk_at dksX3_atLeast_2 4 rfl rfl)
abbrev cX3_driest : ByteArray := prog_9_method_83_code
def yX3_driest : MethodName := ⟨RX3, "driest", "()I"⟩
def dkwX3_driest_2 : List UInt8 := [16, 22, 27, 96, 46, 162, 0, 7, 28, 167, 0, 4, 27, 60, 132, 2, 1, 167, 255, 216, 27, 172]
abbrev dktX3_driest_2 : List UInt8 := dkwX3_driest_2 ++ []
def dkwX3_driest_1 : List UInt8 := [28, 42, 180, 0, 16, 7, 46, 162, 0, 36, 42, 180, 0, 16, 16, 22, 28, 96, 46, 42, 180, 0, 16]
abbrev dktX3_driest_1 : List UInt8 := dkwX3_driest_1 ++ dktX3_driest_2
def dkwX3_driest_0 : List UInt8 := [42, 3, 181, 0, 42, 42, 180, 0, 16, 7, 46, 154, 0, 9, 42, 4, 182, 0, 61, 172, 3, 60, 4, 61]
abbrev dktX3_driest_0 : List UInt8 := dkwX3_driest_0 ++ dktX3_driest_1
theorem dksX3_driest_0 : cX3_driest.data.toList.drop 0 = dktX3_driest_0 := by decide +kernel
theorem dksX3_driest_1 : cX3_driest.data.toList.drop 24 = dktX3_driest_1 := dk_seg dksX3_driest_0 24 rfl rfl
theorem dksX3_driest_2 : cX3_driest.data.toList.drop 47 = dktX3_driest_2 := dk_seg dksX3_driest_1 23 rfl rfl
theorem dX3_driest_0 : decode cX3_driest 0 = .ok (.aload_n 0, 1) := dk_42 (dk_at dksX3_driest_0 0 rfl rfl)
theorem dX3_driest_1 : decode cX3_driest 1 = .ok (.iconst 0, 1) := dk_3 (dk_at dksX3_driest_0 1 rfl rfl)
theorem dX3_driest_2 : decode cX3_driest 2 = .ok (.putfield 42, 3) := dk_181 0 42 (dk_at dksX3_driest_0 2 rfl rfl)
theorem dX3_driest_5 : decode cX3_driest 5 = .ok (.aload_n 0, 1) := dk_42 (dk_at dksX3_driest_0 5 rfl rfl)
theorem dX3_driest_6 : decode cX3_driest 6 = .ok (.getfield 16, 3) := dk_180 0 16 (dk_at dksX3_driest_0 6 rfl rfl)
theorem dX3_driest_9 : decode cX3_driest 9 = .ok (.iconst 4, 1) := dk_7 (dk_at dksX3_driest_0 9 rfl rfl)
theorem dX3_driest_10 : decode cX3_driest 10 = .ok (.iaload, 1) := dk_46 (dk_at dksX3_driest_0 10 rfl rfl)
theorem dX3_driest_11 : decode cX3_driest 11 = .ok (.ifCond .ne 9, 3) := dk_154 0 9 (dk_at dksX3_driest_0 11 rfl rfl)
theorem dX3_driest_14 : decode cX3_driest 14 = .ok (.aload_n 0, 1) := dk_42 (dk_at dksX3_driest_0 14 rfl rfl)
theorem dX3_driest_15 : decode cX3_driest 15 = .ok (.iconst 1, 1) := dk_4 (dk_at dksX3_driest_0 15 rfl rfl)
theorem dX3_driest_16 : decode cX3_driest 16 = .ok (.invokevirtual 61, 3) := dk_182 0 61 (dk_at dksX3_driest_0 16 rfl rfl)
theorem dX3_driest_19 : decode cX3_driest 19 = .ok (.ireturn, 1) := dk_172 (dk_at dksX3_driest_0 19 rfl rfl)
theorem dX3_driest_20 : decode cX3_driest 20 = .ok (.iconst 0, 1) := dk_3 (dk_at dksX3_driest_0 20 rfl rfl)
theorem dX3_driest_21 : decode cX3_driest 21 = .ok (.istore_n 1, 1) := dk_60 (dk_at dksX3_driest_0 21 rfl rfl)
theorem dX3_driest_22 : decode cX3_driest 22 = .ok (.iconst 1, 1) := dk_4 (dk_at dksX3_driest_0 22 rfl rfl)
theorem dX3_driest_23 : decode cX3_driest 23 = .ok (.istore_n 2, 1) := dk_61 (dk_at dksX3_driest_0 23 rfl rfl)
theorem dX3_driest_24 : decode cX3_driest 24 = .ok (.iload_n 2, 1) := dk_28 (dk_at dksX3_driest_1 0 rfl rfl)
theorem dX3_driest_25 : decode cX3_driest 25 = .ok (.aload_n 0, 1) := dk_42 (dk_at dksX3_driest_1 1 rfl rfl)
theorem dX3_driest_26 : decode cX3_driest 26 = .ok (.getfield 16, 3) := dk_180 0 16 (dk_at dksX3_driest_1 2 rfl rfl)
theorem dX3_driest_29 : decode cX3_driest 29 = .ok (.iconst 4, 1) := dk_7 (dk_at dksX3_driest_1 5 rfl rfl)
theorem dX3_driest_30 : decode cX3_driest 30 = .ok (.iaload, 1) := dk_46 (dk_at dksX3_driest_1 6 rfl rfl)
theorem dX3_driest_31 : decode cX3_driest 31 = .ok (.if_icmp .ge 36, 3) := dk_162 0 36 (dk_at dksX3_driest_1 7 rfl rfl)
theorem dX3_driest_34 : decode cX3_driest 34 = .ok (.aload_n 0, 1) := dk_42 (dk_at dksX3_driest_1 10 rfl rfl)
theorem dX3_driest_35 : decode cX3_driest 35 = .ok (.getfield 16, 3) := dk_180 0 16 (dk_at dksX3_driest_1 11 rfl rfl)
theorem dX3_driest_38 : decode cX3_driest 38 = .ok (.bipush 22, 2) := dk_16 22 (dk_at dksX3_driest_1 14 rfl rfl)
theorem dX3_driest_40 : decode cX3_driest 40 = .ok (.iload_n 2, 1) := dk_28 (dk_at dksX3_driest_1 16 rfl rfl)
theorem dX3_driest_41 : decode cX3_driest 41 = .ok (.iadd, 1) := dk_96 (dk_at dksX3_driest_1 17 rfl rfl)
theorem dX3_driest_42 : decode cX3_driest 42 = .ok (.iaload, 1) := dk_46 (dk_at dksX3_driest_1 18 rfl rfl)
theorem dX3_driest_43 : decode cX3_driest 43 = .ok (.aload_n 0, 1) := dk_42 (dk_at dksX3_driest_1 19 rfl rfl)
theorem dX3_driest_44 : decode cX3_driest 44 = .ok (.getfield 16, 3) := dk_180 0 16 (dk_at dksX3_driest_1 20 rfl rfl)
theorem dX3_driest_47 : decode cX3_driest 47 = .ok (.bipush 22, 2) := dk_16 22 (dk_at dksX3_driest_2 0 rfl rfl)
theorem dX3_driest_49 : decode cX3_driest 49 = .ok (.iload_n 1, 1) := dk_27 (dk_at dksX3_driest_2 2 rfl rfl)
theorem dX3_driest_50 : decode cX3_driest 50 = .ok (.iadd, 1) := dk_96 (dk_at dksX3_driest_2 3 rfl rfl)
theorem dX3_driest_51 : decode cX3_driest 51 = .ok (.iaload, 1) := dk_46 (dk_at dksX3_driest_2 4 rfl rfl)
theorem dX3_driest_52 : decode cX3_driest 52 = .ok (.if_icmp .ge 7, 3) := dk_162 0 7 (dk_at dksX3_driest_2 5 rfl rfl)
theorem dX3_driest_55 : decode cX3_driest 55 = .ok (.iload_n 2, 1) := dk_28 (dk_at dksX3_driest_2 8 rfl rfl)
theorem dX3_driest_56 : decode cX3_driest 56 = .ok (.goto 4, 3) := dk_167 0 4 (dk_at dksX3_driest_2 9 rfl rfl)
theorem dX3_driest_59 : decode cX3_driest 59 = .ok (.iload_n 1, 1) := dk_27 (dk_at dksX3_driest_2 12 rfl rfl)
theorem dX3_driest_60 : decode cX3_driest 60 = .ok (.istore_n 1, 1) := dk_60 (dk_at dksX3_driest_2 13 rfl rfl)
theorem dX3_driest_61 : decode cX3_driest 61 = .ok (.iinc 2 1, 3) := dk_132 2 1 (dk_at dksX3_driest_2 14 rfl rfl)
theorem dX3_driest_64 : decode cX3_driest 64 = .ok (.goto (-40), 3) := dk_167 255 216 (dk_at dksX3_driest_2 17 rfl rfl)
theorem dX3_driest_67 : decode cX3_driest 67 = .ok (.iload_n 1, 1) := dk_27 (dk_at dksX3_driest_2 20 rfl rfl)
theorem dX3_driest_68 : decode cX3_driest 68 = .ok (.ireturn, 1) := dk_172 (dk_at dksX3_driest_2 21 rfl rfl)
abbrev cX3_alone : ByteArray := prog_9_method_85_code
def yX3_alone : MethodName := ⟨RX3, "alone", "()I"⟩
def dkwX3_alone_2 : List UInt8 := [172]
abbrev dktX3_alone_2 : List UInt8 := dkwX3_alone_2 ++ []
def dkwX3_alone_1 : List UInt8 := [42, 28, 182, 0, 236, 154, 0, 9, 4, 28, 120, 167, 0, 4, 3, 128, 60, 132, 2, 1, 167, 255, 221, 27]
abbrev dktX3_alone_1 : List UInt8 := dkwX3_alone_1 ++ dktX3_alone_2
def dkwX3_alone_0 : List UInt8 := [42, 3, 181, 0, 42, 3, 60, 3, 61, 28, 16, 8, 162, 0, 35, 27, 42, 28, 182, 0, 81, 153, 0, 17]
abbrev dktX3_alone_0 : List UInt8 := dkwX3_alone_0 ++ dktX3_alone_1
theorem dksX3_alone_0 : cX3_alone.data.toList.drop 0 = dktX3_alone_0 := by decide +kernel
theorem dksX3_alone_1 : cX3_alone.data.toList.drop 24 = dktX3_alone_1 := dk_seg dksX3_alone_0 24 rfl rfl
theorem dksX3_alone_2 : cX3_alone.data.toList.drop 48 = dktX3_alone_2 := dk_seg dksX3_alone_1 24 rfl rfl
theorem dX3_alone_0 : decode cX3_alone 0 = .ok (.aload_n 0, 1) := dk_42 (dk_at dksX3_alone_0 0 rfl rfl)
theorem dX3_alone_1 : decode cX3_alone 1 = .ok (.iconst 0, 1) := dk_3 (dk_at dksX3_alone_0 1 rfl rfl)
theorem dX3_alone_2 : decode cX3_alone 2 = .ok (.putfield 42, 3) := dk_181 0 42 (dk_at dksX3_alone_0 2 rfl rfl)
theorem dX3_alone_5 : decode cX3_alone 5 = .ok (.iconst 0, 1) := dk_3 (dk_at dksX3_alone_0 5 rfl rfl)
theorem dX3_alone_6 : decode cX3_alone 6 = .ok (.istore_n 1, 1) := dk_60 (dk_at dksX3_alone_0 6 rfl rfl)
theorem dX3_alone_7 : decode cX3_alone 7 = .ok (.iconst 0, 1) := dk_3 (dk_at dksX3_alone_0 7 rfl rfl)
theorem dX3_alone_8 : decode cX3_alone 8 = .ok (.istore_n 2, 1) := dk_61 (dk_at dksX3_alone_0 8 rfl rfl)
theorem dX3_alone_9 : decode cX3_alone 9 = .ok (.iload_n 2, 1) := dk_28 (dk_at dksX3_alone_0 9 rfl rfl)
theorem dX3_alone_10 : decode cX3_alone 10 = .ok (.bipush 8, 2) := dk_16 8 (dk_at dksX3_alone_0 10 rfl rfl)
theorem dX3_alone_12 : decode cX3_alone 12 = .ok (.if_icmp .ge 35, 3) := dk_162 0 35 (dk_at dksX3_alone_0 12 rfl rfl)
theorem dX3_alone_15 : decode cX3_alone 15 = .ok (.iload_n 1, 1) := dk_27 (dk_at dksX3_alone_0 15 rfl rfl)
theorem dX3_alone_16 : decode cX3_alone 16 = .ok (.aload_n 0, 1) := dk_42 (dk_at dksX3_alone_0 16 rfl rfl)
theorem dX3_alone_17 : decode cX3_alone 17 = .ok (.iload_n 2, 1) := dk_28 (dk_at dksX3_alone_0 17 rfl rfl)
theorem dX3_alone_18 : decode cX3_alone 18 = .ok (.invokevirtual 81, 3) := dk_182 0 81 (dk_at dksX3_alone_0 18 rfl rfl)
theorem dX3_alone_21 : decode cX3_alone 21 = .ok (.ifCond .eq 17, 3) := dk_153 0 17 (dk_at dksX3_alone_0 21 rfl rfl)
theorem dX3_alone_24 : decode cX3_alone 24 = .ok (.aload_n 0, 1) := dk_42 (dk_at dksX3_alone_1 0 rfl rfl)
theorem dX3_alone_25 : decode cX3_alone 25 = .ok (.iload_n 2, 1) := dk_28 (dk_at dksX3_alone_1 1 rfl rfl)
theorem dX3_alone_26 : decode cX3_alone 26 = .ok (.invokevirtual 236, 3) := dk_182 0 236 (dk_at dksX3_alone_1 2 rfl rfl)
theorem dX3_alone_29 : decode cX3_alone 29 = .ok (.ifCond .ne 9, 3) := dk_154 0 9 (dk_at dksX3_alone_1 5 rfl rfl)
theorem dX3_alone_32 : decode cX3_alone 32 = .ok (.iconst 1, 1) := dk_4 (dk_at dksX3_alone_1 8 rfl rfl)
theorem dX3_alone_33 : decode cX3_alone 33 = .ok (.iload_n 2, 1) := dk_28 (dk_at dksX3_alone_1 9 rfl rfl)
theorem dX3_alone_34 : decode cX3_alone 34 = .ok (.ishl, 1) := dk_120 (dk_at dksX3_alone_1 10 rfl rfl)
theorem dX3_alone_35 : decode cX3_alone 35 = .ok (.goto 4, 3) := dk_167 0 4 (dk_at dksX3_alone_1 11 rfl rfl)
theorem dX3_alone_38 : decode cX3_alone 38 = .ok (.iconst 0, 1) := dk_3 (dk_at dksX3_alone_1 14 rfl rfl)
theorem dX3_alone_39 : decode cX3_alone 39 = .ok (.ior, 1) := dk_128 (dk_at dksX3_alone_1 15 rfl rfl)
theorem dX3_alone_40 : decode cX3_alone 40 = .ok (.istore_n 1, 1) := dk_60 (dk_at dksX3_alone_1 16 rfl rfl)
theorem dX3_alone_41 : decode cX3_alone 41 = .ok (.iinc 2 1, 3) := dk_132 2 1 (dk_at dksX3_alone_1 17 rfl rfl)
theorem dX3_alone_44 : decode cX3_alone 44 = .ok (.goto (-35), 3) := dk_167 255 221 (dk_at dksX3_alone_1 20 rfl rfl)
theorem dX3_alone_47 : decode cX3_alone 47 = .ok (.iload_n 1, 1) := dk_27 (dk_at dksX3_alone_1 23 rfl rfl)
theorem dX3_alone_48 : decode cX3_alone 48 = .ok (.ireturn, 1) := dk_172 (dk_at dksX3_alone_2 0 rfl rfl)
abbrev cX3_hasBeside : ByteArray := prog_9_method_84_code
def yX3_hasBeside : MethodName := ⟨RX3, "hasBeside", "(I)Z"⟩
def dkwX3_hasBeside_1 : List UInt8 := [4, 96, 182, 0, 81, 153, 0, 7, 4, 167, 0, 4, 3, 172]
abbrev dktX3_hasBeside_1 : List UInt8 := dkwX3_hasBeside_1 ++ []
def dkwX3_hasBeside_0 : List UInt8 := [27, 158, 0, 13, 42, 27, 4, 100, 182, 0, 81, 154, 0, 21, 27, 4, 96, 16, 8, 162, 0, 17, 42, 27]
abbrev dktX3_hasBeside_0 : List UInt8 := dkwX3_hasBeside_0 ++ dktX3_hasBeside_1
theorem dksX3_hasBeside_0 : cX3_hasBeside.data.toList.drop 0 = dktX3_hasBeside_0 := by decide +kernel
theorem dksX3_hasBeside_1 : cX3_hasBeside.data.toList.drop 24 = dktX3_hasBeside_1 := dk_seg dksX3_hasBeside_0 24 rfl rfl
theorem dX3_hasBeside_0 : decode cX3_hasBeside 0 = .ok (.iload_n 1, 1) := dk_27 (dk_at dksX3_hasBeside_0 0 rfl rfl)
theorem dX3_hasBeside_1 : decode cX3_hasBeside 1 = .ok (.ifCond .le 13, 3) := dk_158 0 13 (dk_at dksX3_hasBeside_0 1 rfl rfl)
theorem dX3_hasBeside_4 : decode cX3_hasBeside 4 = .ok (.aload_n 0, 1) := dk_42 (dk_at dksX3_hasBeside_0 4 rfl rfl)
theorem dX3_hasBeside_5 : decode cX3_hasBeside 5 = .ok (.iload_n 1, 1) := dk_27 (dk_at dksX3_hasBeside_0 5 rfl rfl)
theorem dX3_hasBeside_6 : decode cX3_hasBeside 6 = .ok (.iconst 1, 1) := dk_4 (dk_at dksX3_hasBeside_0 6 rfl rfl)
theorem dX3_hasBeside_7 : decode cX3_hasBeside 7 = .ok (.isub, 1) := dk_100 (dk_at dksX3_hasBeside_0 7 rfl rfl)
theorem dX3_hasBeside_8 : decode cX3_hasBeside 8 = .ok (.invokevirtual 81, 3) := dk_182 0 81 (dk_at dksX3_hasBeside_0 8 rfl rfl)
theorem dX3_hasBeside_11 : decode cX3_hasBeside 11 = .ok (.ifCond .ne 21, 3) := dk_154 0 21 (dk_at dksX3_hasBeside_0 11 rfl rfl)
theorem dX3_hasBeside_14 : decode cX3_hasBeside 14 = .ok (.iload_n 1, 1) := dk_27 (dk_at dksX3_hasBeside_0 14 rfl rfl)
theorem dX3_hasBeside_15 : decode cX3_hasBeside 15 = .ok (.iconst 1, 1) := dk_4 (dk_at dksX3_hasBeside_0 15 rfl rfl)
theorem dX3_hasBeside_16 : decode cX3_hasBeside 16 = .ok (.iadd, 1) := dk_96 (dk_at dksX3_hasBeside_0 16 rfl rfl)
theorem dX3_hasBeside_17 : decode cX3_hasBeside 17 = .ok (.bipush 8, 2) := dk_16 8 (dk_at dksX3_hasBeside_0 17 rfl rfl)
theorem dX3_hasBeside_19 : decode cX3_hasBeside 19 = .ok (.if_icmp .ge 17, 3) := dk_162 0 17 (dk_at dksX3_hasBeside_0 19 rfl rfl)
theorem dX3_hasBeside_22 : decode cX3_hasBeside 22 = .ok (.aload_n 0, 1) := dk_42 (dk_at dksX3_hasBeside_0 22 rfl rfl)
theorem dX3_hasBeside_23 : decode cX3_hasBeside 23 = .ok (.iload_n 1, 1) := dk_27 (dk_at dksX3_hasBeside_0 23 rfl rfl)
theorem dX3_hasBeside_24 : decode cX3_hasBeside 24 = .ok (.iconst 1, 1) := dk_4 (dk_at dksX3_hasBeside_1 0 rfl rfl)
theorem dX3_hasBeside_25 : decode cX3_hasBeside 25 = .ok (.iadd, 1) := dk_96 (dk_at dksX3_hasBeside_1 1 rfl rfl)
theorem dX3_hasBeside_26 : decode cX3_hasBeside 26 = .ok (.invokevirtual 81, 3) := dk_182 0 81 (dk_at dksX3_hasBeside_1 2 rfl rfl)
theorem dX3_hasBeside_29 : decode cX3_hasBeside 29 = .ok (.ifCond .eq 7, 3) := dk_153 0 7 (dk_at dksX3_hasBeside_1 5 rfl rfl)
theorem dX3_hasBeside_32 : decode cX3_hasBeside 32 = .ok (.iconst 1, 1) := dk_4 (dk_at dksX3_hasBeside_1 8 rfl rfl)
theorem dX3_hasBeside_33 : decode cX3_hasBeside 33 = .ok (.goto 4, 3) := dk_167 0 4 (dk_at dksX3_hasBeside_1 9 rfl rfl)
theorem dX3_hasBeside_36 : decode cX3_hasBeside 36 = .ok (.iconst 0, 1) := dk_3 (dk_at dksX3_hasBeside_1 12 rfl rfl)
theorem dX3_hasBeside_37 : decode cX3_hasBeside 37 = .ok (.ireturn, 1) := dk_172 (dk_at dksX3_hasBeside_1 13 rfl rfl)
abbrev cX3_needed : ByteArray := prog_9_method_86_code
def yX3_needed : MethodName := ⟨RX3, "needed", "()I"⟩
def dkwX3_needed_1 : List UInt8 := [180, 0, 16, 16, 12, 28, 96, 46, 182, 0, 124, 96, 60, 132, 2, 1, 167, 255, 227, 27, 172]
abbrev dktX3_needed_1 : List UInt8 := dkwX3_needed_1 ++ []
def dkwX3_needed_0 : List UInt8 := [42, 3, 181, 0, 42, 3, 60, 3, 61, 28, 42, 180, 0, 16, 6, 46, 162, 0, 25, 27, 42, 42]
abbrev dktX3_needed_0 : List UInt8 := dkwX3_needed_0 ++ dktX3_needed_1
theorem dksX3_needed_0 : cX3_needed.data.toList.drop 0 = dktX3_needed_0 := by decide +kernel
theorem dksX3_needed_1 : cX3_needed.data.toList.drop 22 = dktX3_needed_1 := dk_seg dksX3_needed_0 22 rfl rfl
theorem dX3_needed_0 : decode cX3_needed 0 = .ok (.aload_n 0, 1) := dk_42 (dk_at dksX3_needed_0 0 rfl rfl)
theorem dX3_needed_1 : decode cX3_needed 1 = .ok (.iconst 0, 1) := dk_3 (dk_at dksX3_needed_0 1 rfl rfl)
theorem dX3_needed_2 : decode cX3_needed 2 = .ok (.putfield 42, 3) := dk_181 0 42 (dk_at dksX3_needed_0 2 rfl rfl)
theorem dX3_needed_5 : decode cX3_needed 5 = .ok (.iconst 0, 1) := dk_3 (dk_at dksX3_needed_0 5 rfl rfl)
theorem dX3_needed_6 : decode cX3_needed 6 = .ok (.istore_n 1, 1) := dk_60 (dk_at dksX3_needed_0 6 rfl rfl)
theorem dX3_needed_7 : decode cX3_needed 7 = .ok (.iconst 0, 1) := dk_3 (dk_at dksX3_needed_0 7 rfl rfl)
theorem dX3_needed_8 : decode cX3_needed 8 = .ok (.istore_n 2, 1) := dk_61 (dk_at dksX3_needed_0 8 rfl rfl)
theorem dX3_needed_9 : decode cX3_needed 9 = .ok (.iload_n 2, 1) := dk_28 (dk_at dksX3_needed_0 9 rfl rfl)
theorem dX3_needed_10 : decode cX3_needed 10 = .ok (.aload_n 0, 1) := dk_42 (dk_at dksX3_needed_0 10 rfl rfl)
theorem dX3_needed_11 : decode cX3_needed 11 = .ok (.getfield 16, 3) := dk_180 0 16 (dk_at dksX3_needed_0 11 rfl rfl)
theorem dX3_needed_14 : decode cX3_needed 14 = .ok (.iconst 3, 1) := dk_6 (dk_at dksX3_needed_0 14 rfl rfl)
theorem dX3_needed_15 : decode cX3_needed 15 = .ok (.iaload, 1) := dk_46 (dk_at dksX3_needed_0 15 rfl rfl)
theorem dX3_needed_16 : decode cX3_needed 16 = .ok (.if_icmp .ge 25, 3) := dk_162 0 25 (dk_at dksX3_needed_0 16 rfl rfl)
theorem dX3_needed_19 : decode cX3_needed 19 = .ok (.iload_n 1, 1) := dk_27 (dk_at dksX3_needed_0 19 rfl rfl)
theorem dX3_needed_20 : decode cX3_needed 20 = .ok (.aload_n 0, 1) := dk_42 (dk_at dksX3_needed_0 20 rfl rfl)
theorem dX3_needed_21 : decode cX3_needed 21 = .ok (.aload_n 0, 1) := dk_42 (dk_at dksX3_needed_0 21 rfl rfl)
theorem dX3_needed_22 : decode cX3_needed 22 = .ok (.getfield 16, 3) := dk_180 0 16 (dk_at dksX3_needed_1 0 rfl rfl)
theorem dX3_needed_25 : decode cX3_needed 25 = .ok (.bipush 12, 2) := dk_16 12 (dk_at dksX3_needed_1 3 rfl rfl)
theorem dX3_needed_27 : decode cX3_needed 27 = .ok (.iload_n 2, 1) := dk_28 (dk_at dksX3_needed_1 5 rfl rfl)
theorem dX3_needed_28 : decode cX3_needed 28 = .ok (.iadd, 1) := dk_96 (dk_at dksX3_needed_1 6 rfl rfl)
theorem dX3_needed_29 : decode cX3_needed 29 = .ok (.iaload, 1) := dk_46 (dk_at dksX3_needed_1 7 rfl rfl)
theorem dX3_needed_30 : decode cX3_needed 30 = .ok (.invokevirtual 124, 3) := dk_182 0 124 (dk_at dksX3_needed_1 8 rfl rfl)
theorem dX3_needed_33 : decode cX3_needed 33 = .ok (.iadd, 1) := dk_96 (dk_at dksX3_needed_1 11 rfl rfl)
theorem dX3_needed_34 : decode cX3_needed 34 = .ok (.istore_n 1, 1) := dk_60 (dk_at dksX3_needed_1 12 rfl rfl)
theorem dX3_needed_35 : decode cX3_needed 35 = .ok (.iinc 2 1, 3) := dk_132 2 1 (dk_at dksX3_needed_1 13 rfl rfl)
theorem dX3_needed_38 : decode cX3_needed 38 = .ok (.goto (-29), 3) := dk_167 255 227 (dk_at dksX3_needed_1 16 rfl rfl)
theorem dX3_needed_41 : decode cX3_needed 41 = .ok (.iload_n 1, 1) := dk_27 (dk_at dksX3_needed_1 19 rfl rfl)
theorem dX3_needed_42 : decode cX3_needed 42 = .ok (.ireturn, 1) := dk_172 (dk_at dksX3_needed_1 20 rfl rfl)
abbrev cX3_mendable : ByteArray := prog_9_method_87_code
def yX3_mendable : MethodName := ⟨RX3, "mendable", "()I"⟩
def dkwX3_mendable_1 : List UInt8 := [182, 0, 164, 154, 0, 9, 4, 28, 120, 167, 0, 4, 3, 128, 60, 132, 2, 1, 167, 255, 225, 27, 172]
abbrev dktX3_mendable_1 : List UInt8 := dkwX3_mendable_1 ++ []
def dkwX3_mendable_0 : List UInt8 := [42, 3, 181, 0, 42, 3, 60, 3, 61, 28, 42, 180, 0, 16, 5, 46, 162, 0, 27, 27, 42, 28]
abbrev dktX3_mendable_0 : List UInt8 := dkwX3_mendable_0 ++ dktX3_mendable_1
theorem dksX3_mendable_0 : cX3_mendable.data.toList.drop 0 = dktX3_mendable_0 := by decide +kernel
theorem dksX3_mendable_1 : cX3_mendable.data.toList.drop 22 = dktX3_mendable_1 := dk_seg dksX3_mendable_0 22 rfl rfl
theorem dX3_mendable_0 : decode cX3_mendable 0 = .ok (.aload_n 0, 1) := dk_42 (dk_at dksX3_mendable_0 0 rfl rfl)
theorem dX3_mendable_1 : decode cX3_mendable 1 = .ok (.iconst 0, 1) := dk_3 (dk_at dksX3_mendable_0 1 rfl rfl)
theorem dX3_mendable_2 : decode cX3_mendable 2 = .ok (.putfield 42, 3) := dk_181 0 42 (dk_at dksX3_mendable_0 2 rfl rfl)
theorem dX3_mendable_5 : decode cX3_mendable 5 = .ok (.iconst 0, 1) := dk_3 (dk_at dksX3_mendable_0 5 rfl rfl)
theorem dX3_mendable_6 : decode cX3_mendable 6 = .ok (.istore_n 1, 1) := dk_60 (dk_at dksX3_mendable_0 6 rfl rfl)
theorem dX3_mendable_7 : decode cX3_mendable 7 = .ok (.iconst 0, 1) := dk_3 (dk_at dksX3_mendable_0 7 rfl rfl)
theorem dX3_mendable_8 : decode cX3_mendable 8 = .ok (.istore_n 2, 1) := dk_61 (dk_at dksX3_mendable_0 8 rfl rfl)
theorem dX3_mendable_9 : decode cX3_mendable 9 = .ok (.iload_n 2, 1) := dk_28 (dk_at dksX3_mendable_0 9 rfl rfl)
theorem dX3_mendable_10 : decode cX3_mendable 10 = .ok (.aload_n 0, 1) := dk_42 (dk_at dksX3_mendable_0 10 rfl rfl)
theorem dX3_mendable_11 : decode cX3_mendable 11 = .ok (.getfield 16, 3) := dk_180 0 16 (dk_at dksX3_mendable_0 11 rfl rfl)
theorem dX3_mendable_14 : decode cX3_mendable 14 = .ok (.iconst 2, 1) := dk_5 (dk_at dksX3_mendable_0 14 rfl rfl)
theorem dX3_mendable_15 : decode cX3_mendable 15 = .ok (.iaload, 1) := dk_46 (dk_at dksX3_mendable_0 15 rfl rfl)
theorem dX3_mendable_16 : decode cX3_mendable 16 = .ok (.if_icmp .ge 27, 3) := dk_162 0 27 (dk_at dksX3_mendable_0 16 rfl rfl)
theorem dX3_mendable_19 : decode cX3_mendable 19 = .ok (.iload_n 1, 1) := dk_27 (dk_at dksX3_mendable_0 19 rfl rfl)
theorem dX3_mendable_20 : decode cX3_mendable 20 = .ok (.aload_n 0, 1) := dk_42 (dk_at dksX3_mendable_0 20 rfl rfl)
theorem dX3_mendable_21 : decode cX3_mendable 21 = .ok (.iload_n 2, 1) := dk_28 (dk_at dksX3_mendable_0 21 rfl rfl)
theorem dX3_mendable_22 : decode cX3_mendable 22 = .ok (.invokevirtual 164, 3) := dk_182 0 164 (dk_at dksX3_mendable_1 0 rfl rfl)
theorem dX3_mendable_25 : decode cX3_mendable 25 = .ok (.ifCond .ne 9, 3) := dk_154 0 9 (dk_at dksX3_mendable_1 3 rfl rfl)
theorem dX3_mendable_28 : decode cX3_mendable 28 = .ok (.iconst 1, 1) := dk_4 (dk_at dksX3_mendable_1 6 rfl rfl)
theorem dX3_mendable_29 : decode cX3_mendable 29 = .ok (.iload_n 2, 1) := dk_28 (dk_at dksX3_mendable_1 7 rfl rfl)
theorem dX3_mendable_30 : decode cX3_mendable 30 = .ok (.ishl, 1) := dk_120 (dk_at dksX3_mendable_1 8 rfl rfl)
theorem dX3_mendable_31 : decode cX3_mendable 31 = .ok (.goto 4, 3) := dk_167 0 4 (dk_at dksX3_mendable_1 9 rfl rfl)
theorem dX3_mendable_34 : decode cX3_mendable 34 = .ok (.iconst 0, 1) := dk_3 (dk_at dksX3_mendable_1 12 rfl rfl)
theorem dX3_mendable_35 : decode cX3_mendable 35 = .ok (.ior, 1) := dk_128 (dk_at dksX3_mendable_1 13 rfl rfl)
theorem dX3_mendable_36 : decode cX3_mendable 36 = .ok (.istore_n 1, 1) := dk_60 (dk_at dksX3_mendable_1 14 rfl rfl)
theorem dX3_mendable_37 : decode cX3_mendable 37 = .ok (.iinc 2 1, 3) := dk_132 2 1 (dk_at dksX3_mendable_1 15 rfl rfl)
theorem dX3_mendable_40 : decode cX3_mendable 40 = .ok (.goto (-31), 3) := dk_167 255 225 (dk_at dksX3_mendable_1 18 rfl rfl)
theorem dX3_mendable_43 : decode cX3_mendable 43 = .ok (.iload_n 1, 1) := dk_27 (dk_at dksX3_mendable_1 21 rfl rfl)
theorem dX3_mendable_44 : decode cX3_mendable 44 = .ok (.ireturn, 1) := dk_172 (dk_at dksX3_mendable_1 22 rfl rfl)
abbrev cX3_longest : ByteArray := prog_9_method_88_code
def yX3_longest : MethodName := ⟨RX3, "longest", "()I"⟩
def dkwX3_longest_1 : List UInt8 := [172]
abbrev dktX3_longest_1 : List UInt8 := dkwX3_longest_1 ++ []
def dkwX3_longest_0 : List UInt8 := [42, 3, 181, 0, 42, 42, 182, 0, 161, 154, 0, 11, 42, 4, 182, 0, 61, 167, 0, 7, 42, 182, 0, 161]
abbrev dktX3_longest_0 : List UInt8 := dkwX3_longest_0 ++ dktX3_longest_1
theorem dksX3_longest_0 : cX3_longest.data.toList.drop 0 = dktX3_longest_0 := by decide +kernel
theorem dksX3_longest_1 : cX3_longest.data.toList.drop 24 = dktX3_longest_1 := dk_seg dksX3_longest_0 24 rfl rfl
theorem dX3_longest_0 : decode cX3_longest 0 = .ok (.aload_n 0, 1) := dk_42 (dk_at dksX3_longest_0 0 rfl rfl)
theorem dX3_longest_1 : decode cX3_longest 1 = .ok (.iconst 0, 1) := dk_3 (dk_at dksX3_longest_0 1 rfl rfl)
theorem dX3_longest_2 : decode cX3_longest 2 = .ok (.putfield 42, 3) := dk_181 0 42 (dk_at dksX3_longest_0 2 rfl rfl)
theorem dX3_longest_5 : decode cX3_longest 5 = .ok (.aload_n 0, 1) := dk_42 (dk_at dksX3_longest_0 5 rfl rfl)
theorem dX3_longest_6 : decode cX3_longest 6 = .ok (.invokevirtual 161, 3) := dk_182 0 161 (dk_at dksX3_longest_0 6 rfl rfl)
theorem dX3_longest_9 : decode cX3_longest 9 = .ok (.ifCond .ne 11, 3) := dk_154 0 11 (dk_at dksX3_longest_0 9 rfl rfl)
theorem dX3_longest_12 : decode cX3_longest 12 = .ok (.aload_n 0, 1) := dk_42 (dk_at dksX3_longest_0 12 rfl rfl)
theorem dX3_longest_13 : decode cX3_longest 13 = .ok (.iconst 1, 1) := dk_4 (dk_at dksX3_longest_0 13 rfl rfl)
theorem dX3_longest_14 : decode cX3_longest 14 = .ok (.invokevirtual 61, 3) := dk_182 0 61 (dk_at dksX3_longest_0 14 rfl rfl)
theorem dX3_longest_17 : decode cX3_longest 17 = .ok (.goto 7, 3) := dk_167 0 7 (dk_at dksX3_longest_0 17 rfl rfl)
theorem dX3_longest_20 : decode cX3_longest 20 = .ok (.aload_n 0, 1) := dk_42 (dk_at dksX3_longest_0 20 rfl rfl)
theorem dX3_longest_21 : decode cX3_longest 21 = .ok (.invokevirtual 161, 3) := dk_182 0 161 (dk_at dksX3_longest_0 21 rfl rfl)
theorem dX3_longest_24 : decode cX3_longest 24 = .ok (.ireturn, 1) := dk_172 (dk_at dksX3_longest_1 0 rfl rfl)
abbrev cX3_sits : ByteArray := prog_9_method_89_code
def yX3_sits : MethodName := ⟨RX3, "sits", "(I)Z"⟩
def dkwX3_sits_1 : List UInt8 := [182, 0, 61, 158, 0, 7, 4, 167, 0, 4, 3, 172]
abbrev dktX3_sits_1 : List UInt8 := dkwX3_sits_1 ++ []
def dkwX3_sits_0 : List UInt8 := [42, 3, 181, 0, 42, 27, 184, 0, 200, 153, 0, 11, 42, 27, 182, 0, 81, 167, 0, 16, 42, 4]
abbrev dktX3_sits_0 : List UInt8 := dkwX3_sits_0 ++ dktX3_sits_1
theorem dksX3_sits_0 : cX3_sits.data.toList.drop 0 = dktX3_sits_0 := by decide +kernel
theorem dksX3_sits_1 : cX3_sits.data.toList.drop 22 = dktX3_sits_1 := dk_seg dksX3_sits_0 22 rfl rfl
theorem dX3_sits_0 : decode cX3_sits 0 = .ok (.aload_n 0, 1) := dk_42 (dk_at dksX3_sits_0 0 rfl rfl)
theorem dX3_sits_1 : decode cX3_sits 1 = .ok (.iconst 0, 1) := dk_3 (dk_at dksX3_sits_0 1 rfl rfl)
theorem dX3_sits_2 : decode cX3_sits 2 = .ok (.putfield 42, 3) := dk_181 0 42 (dk_at dksX3_sits_0 2 rfl rfl)
theorem dX3_sits_5 : decode cX3_sits 5 = .ok (.iload_n 1, 1) := dk_27 (dk_at dksX3_sits_0 5 rfl rfl)
theorem dX3_sits_6 : decode cX3_sits 6 = .ok (.invokestatic 200, 3) := dk_184 0 200 (dk_at dksX3_sits_0 6 rfl rfl)
theorem dX3_sits_9 : decode cX3_sits 9 = .ok (.ifCond .eq 11, 3) := dk_153 0 11 (dk_at dksX3_sits_0 9 rfl rfl)
theorem dX3_sits_12 : decode cX3_sits 12 = .ok (.aload_n 0, 1) := dk_42 (dk_at dksX3_sits_0 12 rfl rfl)
theorem dX3_sits_13 : decode cX3_sits 13 = .ok (.iload_n 1, 1) := dk_27 (dk_at dksX3_sits_0 13 rfl rfl)
theorem dX3_sits_14 : decode cX3_sits 14 = .ok (.invokevirtual 81, 3) := dk_182 0 81 (dk_at dksX3_sits_0 14 rfl rfl)
theorem dX3_sits_17 : decode cX3_sits 17 = .ok (.goto 16, 3) := dk_167 0 16 (dk_at dksX3_sits_0 17 rfl rfl)
theorem dX3_sits_20 : decode cX3_sits 20 = .ok (.aload_n 0, 1) := dk_42 (dk_at dksX3_sits_0 20 rfl rfl)
theorem dX3_sits_21 : decode cX3_sits 21 = .ok (.iconst 1, 1) := dk_4 (dk_at dksX3_sits_0 21 rfl rfl)
theorem dX3_sits_22 : decode cX3_sits 22 = .ok (.invokevirtual 61, 3) := dk_182 0 61 (dk_at dksX3_sits_1 0 rfl rfl)
theorem dX3_sits_25 : decode cX3_sits 25 = .ok (.ifCond .le 7, 3) := dk_158 0 7 (dk_at dksX3_sits_1 3 rfl rfl)
theorem dX3_sits_28 : decode cX3_sits 28 = .ok (.iconst 1, 1) := dk_4 (dk_at dksX3_sits_1 6 rfl rfl)
theorem dX3_sits_29 : decode cX3_sits 29 = .ok (.goto 4, 3) := dk_167 0 4 (dk_at dksX3_sits_1 7 rfl rfl)
theorem dX3_sits_32 : decode cX3_sits 32 = .ok (.iconst 0, 1) := dk_3 (dk_at dksX3_sits_1 10 rfl rfl)
theorem dX3_sits_33 : decode cX3_sits 33 = .ok (.ireturn, 1) := dk_172 (dk_at dksX3_sits_1 11 rfl rfl)
abbrev cX3_perches : ByteArray := prog_9_method_90_code
def yX3_perches : MethodName := ⟨RX3, "perches", "()I"⟩
def dkwX3_perches_0 : List UInt8 := [42, 3, 181, 0, 42, 42, 180, 0, 16, 16, 11, 46, 172]
abbrev dktX3_perches_0 : List UInt8 := dkwX3_perches_0 ++ []
theorem dksX3_perches_0 : cX3_perches.data.toList.drop 0 = dktX3_perches_0 := by decide +kernel
theorem dX3_perches_0 : decode cX3_perches 0 = .ok (.aload_n 0, 1) := dk_42 (dk_at dksX3_perches_0 0 rfl rfl)
theorem dX3_perches_1 : decode cX3_perches 1 = .ok (.iconst 0, 1) := dk_3 (dk_at dksX3_perches_0 1 rfl rfl)
theorem dX3_perches_2 : decode cX3_perches 2 = .ok (.putfield 42, 3) := dk_181 0 42 (dk_at dksX3_perches_0 2 rfl rfl)
theorem dX3_perches_5 : decode cX3_perches 5 = .ok (.aload_n 0, 1) := dk_42 (dk_at dksX3_perches_0 5 rfl rfl)
theorem dX3_perches_6 : decode cX3_perches 6 = .ok (.getfield 16, 3) := dk_180 0 16 (dk_at dksX3_perches_0 6 rfl rfl)
theorem dX3_perches_9 : decode cX3_perches 9 = .ok (.bipush 11, 2) := dk_16 11 (dk_at dksX3_perches_0 9 rfl rfl)
theorem dX3_perches_11 : decode cX3_perches 11 = .ok (.iaload, 1) := dk_46 (dk_at dksX3_perches_0 11 rfl rfl)
theorem dX3_perches_12 : decode cX3_perches 12 = .ok (.ireturn, 1) := dk_172 (dk_at dksX3_perches_0 12 rfl rfl)
abbrev cX3_nextPerch : ByteArray := prog_9_method_91_code
def yX3_nextPerch : MethodName := ⟨RX3, "nextPerch", "(I)I"⟩
def dkwX3_nextPerch_1 : List UInt8 := [160, 0, 11, 42, 5, 182, 0, 61, 167, 0, 8, 42, 27, 182, 0, 209, 172]
abbrev dktX3_nextPerch_1 : List UInt8 := dkwX3_nextPerch_1 ++ []
def dkwX3_nextPerch_0 : List UInt8 := [42, 3, 181, 0, 42, 27, 184, 0, 200, 154, 0, 9, 42, 4, 182, 0, 61, 172, 42, 182, 0, 206, 16, 8]
abbrev dktX3_nextPerch_0 : List UInt8 := dkwX3_nextPerch_0 ++ dktX3_nextPerch_1
theorem dksX3_nextPerch_0 : cX3_nextPerch.data.toList.drop 0 = dktX3_nextPerch_0 := by decide +kernel
theorem dksX3_nextPerch_1 : cX3_nextPerch.data.toList.drop 24 = dktX3_nextPerch_1 := dk_seg dksX3_nextPerch_0 24 rfl rfl
theorem dX3_nextPerch_0 : decode cX3_nextPerch 0 = .ok (.aload_n 0, 1) := dk_42 (dk_at dksX3_nextPerch_0 0 rfl rfl)
theorem dX3_nextPerch_1 : decode cX3_nextPerch 1 = .ok (.iconst 0, 1) := dk_3 (dk_at dksX3_nextPerch_0 1 rfl rfl)
theorem dX3_nextPerch_2 : decode cX3_nextPerch 2 = .ok (.putfield 42, 3) := dk_181 0 42 (dk_at dksX3_nextPerch_0 2 rfl rfl)
theorem dX3_nextPerch_5 : decode cX3_nextPerch 5 = .ok (.iload_n 1, 1) := dk_27 (dk_at dksX3_nextPerch_0 5 rfl rfl)
theorem dX3_nextPerch_6 : decode cX3_nextPerch 6 = .ok (.invokestatic 200, 3) := dk_184 0 200 (dk_at dksX3_nextPerch_0 6 rfl rfl)
theorem dX3_nextPerch_9 : decode cX3_nextPerch 9 = .ok (.ifCond .ne 9, 3) := dk_154 0 9 (dk_at dksX3_nextPerch_0 9 rfl rfl)
theorem dX3_nextPerch_12 : decode cX3_nextPerch 12 = .ok (.aload_n 0, 1) := dk_42 (dk_at dksX3_nextPerch_0 12 rfl rfl)
theorem dX3_nextPerch_13 : decode cX3_nextPerch 13 = .ok (.iconst 1, 1) := dk_4 (dk_at dksX3_nextPerch_0 13 rfl rfl)
theorem dX3_nextPerch_14 : decode cX3_nextPerch 14 = .ok (.invokevirtual 61, 3) := dk_182 0 61 (dk_at dksX3_nextPerch_0 14 rfl rfl)
theorem dX3_nextPerch_17 : decode cX3_nextPerch 17 = .ok (.ireturn, 1) := dk_172 (dk_at dksX3_nextPerch_0 17 rfl rfl)
theorem dX3_nextPerch_18 : decode cX3_nextPerch 18 = .ok (.aload_n 0, 1) := dk_42 (dk_at dksX3_nextPerch_0 18 rfl rfl)
theorem dX3_nextPerch_19 : decode cX3_nextPerch 19 = .ok (.invokevirtual 206, 3) := dk_182 0 206 (dk_at dksX3_nextPerch_0 19 rfl rfl)
theorem dX3_nextPerch_22 : decode cX3_nextPerch 22 = .ok (.bipush 8, 2) := dk_16 8 (dk_at dksX3_nextPerch_0 22 rfl rfl)
theorem dX3_nextPerch_24 : decode cX3_nextPerch 24 = .ok (.if_icmp .ne 11, 3) := dk_160 0 11 (dk_at dksX3_nextPerch_1 0 rfl rfl)
theorem dX3_nextPerch_27 : decode cX3_nextPerch 27 = .ok (.aload_n 0, 1) := dk_42 (dk_at dksX3_nextPerch_1 3 rfl rfl)
theorem dX3_nextPerch_28 : decode cX3_nextPerch 28 = .ok (.iconst 2, 1) := dk_5 (dk_at dksX3_nextPerch_1 4 rfl rfl)
theorem dX3_nextPerch_29 : decode cX3_nextPerch 29 = .ok (.invokevirtual 61, 3) := dk_182 0 61 (dk_at dksX3_nextPerch_1 5 rfl rfl)
theorem dX3_nextPerch_32 : decode cX3_nextPerch 32 = .ok (.goto 8, 3) := dk_167 0 8 (dk_at dksX3_nextPerch_1 8 rfl rfl)
theorem dX3_nextPerch_35 : decode cX3_nextPerch 35 = .ok (.aload_n 0, 1) := dk_42 (dk_at dksX3_nextPerch_1 11 rfl rfl)
theorem dX3_nextPerch_36 : decode cX3_nextPerch 36 = .ok (.iload_n 1, 1) := dk_27 (dk_at dksX3_nextPerch_1 12 rfl rfl)
theorem dX3_nextPerch_37 : decode cX3_nextPerch 37 = .ok (.invokevirtual 209, 3) := dk_182 0 209 (dk_at dksX3_nextPerch_1 13 rfl rfl)
theorem dX3_nextPerch_40 : decode cX3_nextPerch 40 = .ok (.ireturn, 1) := dk_172 (dk_at dksX3_nextPerch_1 16 rfl rfl)
abbrev cX3_quarrels : ByteArray := prog_9_method_92_code
def yX3_quarrels : MethodName := ⟨RX3, "quarrels", "()I"⟩
def dkwX3_quarrels_0 : List UInt8 := [42, 3, 181, 0, 42, 42, 182, 0, 218, 172]
abbrev dktX3_quarrels_0 : List UInt8 := dkwX3_quarrels_0 ++ []
theorem dksX3_quarrels_0 : cX3_quarrels.data.toList.drop 0 = dktX3_quarrels_0 := by decide +kernel
theorem dX3_quarrels_0 : decode cX3_quarrels 0 = .ok (.aload_n 0, 1) := dk_42 (dk_at dksX3_quarrels_0 0 rfl rfl)
theorem dX3_quarrels_1 : decode cX3_quarrels 1 = .ok (.iconst 0, 1) := dk_3 (dk_at dksX3_quarrels_0 1 rfl rfl)
theorem dX3_quarrels_2 : decode cX3_quarrels 2 = .ok (.putfield 42, 3) := dk_181 0 42 (dk_at dksX3_quarrels_0 2 rfl rfl)
theorem dX3_quarrels_5 : decode cX3_quarrels 5 = .ok (.aload_n 0, 1) := dk_42 (dk_at dksX3_quarrels_0 5 rfl rfl)
theorem dX3_quarrels_6 : decode cX3_quarrels 6 = .ok (.invokevirtual 218, 3) := dk_182 0 218 (dk_at dksX3_quarrels_0 6 rfl rfl)
theorem dX3_quarrels_9 : decode cX3_quarrels 9 = .ok (.ireturn, 1) := dk_172 (dk_at dksX3_quarrels_0 9 rfl rfl)
abbrev cX3_lumpsFor : ByteArray := prog_9_method_93_code
def yX3_lumpsFor : MethodName := ⟨RX3, "lumpsFor", "(I)I"⟩
def dkwX3_lumpsFor_1 : List UInt8 := [182, 0, 61, 172]
abbrev dktX3_lumpsFor_1 : List UInt8 := dkwX3_lumpsFor_1 ++ []
def dkwX3_lumpsFor_0 : List UInt8 := [42, 3, 181, 0, 42, 42, 27, 182, 0, 102, 153, 0, 11, 42, 27, 182, 0, 124, 167, 0, 8, 42, 4]
abbrev dktX3_lumpsFor_0 : List UInt8 := dkwX3_lumpsFor_0 ++ dktX3_lumpsFor_1
theorem dksX3_lumpsFor_0 : cX3_lumpsFor.data.toList.drop 0 = dktX3_lumpsFor_0 := by decide +kernel
theorem dksX3_lumpsFor_1 : cX3_lumpsFor.data.toList.drop 23 = dktX3_lumpsFor_1 := dk_seg dksX3_lumpsFor_0 23 rfl rfl
theorem dX3_lumpsFor_0 : decode cX3_lumpsFor 0 = .ok (.aload_n 0, 1) := dk_42 (dk_at dksX3_lumpsFor_0 0 rfl rfl)
theorem dX3_lumpsFor_1 : decode cX3_lumpsFor 1 = .ok (.iconst 0, 1) := dk_3 (dk_at dksX3_lumpsFor_0 1 rfl rfl)
theorem dX3_lumpsFor_2 : decode cX3_lumpsFor 2 = .ok (.putfield 42, 3) := dk_181 0 42 (dk_at dksX3_lumpsFor_0 2 rfl rfl)
theorem dX3_lumpsFor_5 : decode cX3_lumpsFor 5 = .ok (.aload_n 0, 1) := dk_42 (dk_at dksX3_lumpsFor_0 5 rfl rfl)
theorem dX3_lumpsFor_6 : decode cX3_lumpsFor 6 = .ok (.iload_n 1, 1) := dk_27 (dk_at dksX3_lumpsFor_0 6 rfl rfl)
theorem dX3_lumpsFor_7 : decode cX3_lumpsFor 7 = .ok (.invokevirtual 102, 3) := dk_182 0 102 (dk_at dksX3_lumpsFor_0 7 rfl rfl)
theorem dX3_lumpsFor_10 : decode cX3_lumpsFor 10 = .ok (.ifCond .eq 11, 3) := dk_153 0 11 (dk_at dksX3_lumpsFor_0 10 rfl rfl)
theorem dX3_lumpsFor_13 : decode cX3_lumpsFor 13 = .ok (.aload_n 0, 1) := dk_42 (dk_at dksX3_lumpsFor_0 13 rfl rfl)
theorem dX3_lumpsFor_14 : decode cX3_lumpsFor 14 = .ok (.iload_n 1, 1) := dk_27 (dk_at dksX3_lumpsFor_0 14 rfl rfl)
theorem dX3_lumpsFor_15 : decode cX3_lumpsFor 15 = .ok (.invokevirtual 124, 3) := dk_182 0 124 (dk_at dksX3_lumpsFor_0 15 rfl rfl)
theorem dX3_lumpsFor_18 : decode cX3_lumpsFor 18 = .ok (.goto 8, 3) := dk_167 0 8 (dk_at dksX3_lumpsFor_0 18 rfl rfl)
theorem dX3_lumpsFor_21 : decode cX3_lumpsFor 21 = .ok (.aload_n 0, 1) := dk_42 (dk_at dksX3_lumpsFor_0 21 rfl rfl)
theorem dX3_lumpsFor_22 : decode cX3_lumpsFor 22 = .ok (.iconst 1, 1) := dk_4 (dk_at dksX3_lumpsFor_0 22 rfl rfl)
theorem dX3_lumpsFor_23 : decode cX3_lumpsFor 23 = .ok (.invokevirtual 61, 3) := dk_182 0 61 (dk_at dksX3_lumpsFor_1 0 rfl rfl)
theorem dX3_lumpsFor_26 : decode cX3_lumpsFor 26 = .ok (.ireturn, 1) := dk_172 (dk_at dksX3_lumpsFor_1 3 rfl rfl)
abbrev cX3_pieceFor : ByteArray := prog_9_method_94_code
def yX3_pieceFor : MethodName := ⟨RX3, "pieceFor", "(I)I"⟩
def dkwX3_pieceFor_1 : List UInt8 := [156, 0, 11, 42, 5, 182, 0, 61, 167, 0, 8, 42, 27, 182, 0, 158, 172]
abbrev dktX3_pieceFor_1 : List UInt8 := dkwX3_pieceFor_1 ++ []
def dkwX3_pieceFor_0 : List UInt8 := [42, 3, 181, 0, 42, 42, 27, 182, 0, 102, 154, 0, 9, 42, 4, 182, 0, 61, 172, 42, 27, 182, 0, 158]
abbrev dktX3_pieceFor_0 : List UInt8 := dkwX3_pieceFor_0 ++ dktX3_pieceFor_1
theorem dksX3_pieceFor_0 : cX3_pieceFor.data.toList.drop 0 = dktX3_pieceFor_0 := by decide +kernel
theorem dksX3_pieceFor_1 : cX3_pieceFor.data.toList.drop 24 = dktX3_pieceFor_1 := dk_seg dksX3_pieceFor_0 24 rfl rfl
theorem dX3_pieceFor_0 : decode cX3_pieceFor 0 = .ok (.aload_n 0, 1) := dk_42 (dk_at dksX3_pieceFor_0 0 rfl rfl)
theorem dX3_pieceFor_1 : decode cX3_pieceFor 1 = .ok (.iconst 0, 1) := dk_3 (dk_at dksX3_pieceFor_0 1 rfl rfl)
theorem dX3_pieceFor_2 : decode cX3_pieceFor 2 = .ok (.putfield 42, 3) := dk_181 0 42 (dk_at dksX3_pieceFor_0 2 rfl rfl)
theorem dX3_pieceFor_5 : decode cX3_pieceFor 5 = .ok (.aload_n 0, 1) := dk_42 (dk_at dksX3_pieceFor_0 5 rfl rfl)
theorem dX3_pieceFor_6 : decode cX3_pieceFor 6 = .ok (.iload_n 1, 1) := dk_27 (dk_at dksX3_pieceFor_0 6 rfl rfl)
theorem dX3_pieceFor_7 : decode cX3_pieceFor 7 = .ok (.invokevirtual 102, 3) := dk_182 0 102 (dk_at dksX3_pieceFor_0 7 rfl rfl)
theorem dX3_pieceFor_10 : decode cX3_pieceFor 10 = .ok (.ifCond .ne 9, 3) := dk_154 0 9 (dk_at dksX3_pieceFor_0 10 rfl rfl)
theorem dX3_pieceFor_13 : decode cX3_pieceFor 13 = .ok (.aload_n 0, 1) := dk_42 (dk_at dksX3_pieceFor_0 13 rfl rfl)
theorem dX3_pieceFor_14 : decode cX3_pieceFor 14 = .ok (.iconst 1, 1) := dk_4 (dk_at dksX3_pieceFor_0 14 rfl rfl)
theorem dX3_pieceFor_15 : decode cX3_pieceFor 15 = .ok (.invokevirtual 61, 3) := dk_182 0 61 (dk_at dksX3_pieceFor_0 15 rfl rfl)
theorem dX3_pieceFor_18 : decode cX3_pieceFor 18 = .ok (.ireturn, 1) := dk_172 (dk_at dksX3_pieceFor_0 18 rfl rfl)
theorem dX3_pieceFor_19 : decode cX3_pieceFor 19 = .ok (.aload_n 0, 1) := dk_42 (dk_at dksX3_pieceFor_0 19 rfl rfl)
theorem dX3_pieceFor_20 : decode cX3_pieceFor 20 = .ok (.iload_n 1, 1) := dk_27 (dk_at dksX3_pieceFor_0 20 rfl rfl)
theorem dX3_pieceFor_21 : decode cX3_pieceFor 21 = .ok (.invokevirtual 158, 3) := dk_182 0 158 (dk_at dksX3_pieceFor_0 21 rfl rfl)
theorem dX3_pieceFor_24 : decode cX3_pieceFor 24 = .ok (.ifCond .ge 11, 3) := dk_156 0 11 (dk_at dksX3_pieceFor_1 0 rfl rfl)
theorem dX3_pieceFor_27 : decode cX3_pieceFor 27 = .ok (.aload_n 0, 1) := dk_42 (dk_at dksX3_pieceFor_1 3 rfl rfl)
theorem dX3_pieceFor_28 : decode cX3_pieceFor 28 = .ok (.iconst 2, 1) := dk_5 (dk_at dksX3_pieceFor_1 4 rfl rfl)
theorem dX3_pieceFor_29 : decode cX3_pieceFor 29 = .ok (.invokevirtual 61, 3) := dk_182 0 61 (dk_at dksX3_pieceFor_1 5 rfl rfl)
theorem dX3_pieceFor_32 : decode cX3_pieceFor 32 = .ok (.goto 8, 3) := dk_167 0 8 (dk_at dksX3_pieceFor_1 8 rfl rfl)
theorem dX3_pieceFor_35 : decode cX3_pieceFor 35 = .ok (.aload_n 0, 1) := dk_42 (dk_at dksX3_pieceFor_1 11 rfl rfl)
theorem dX3_pieceFor_36 : decode cX3_pieceFor 36 = .ok (.iload_n 1, 1) := dk_27 (dk_at dksX3_pieceFor_1 12 rfl rfl)
theorem dX3_pieceFor_37 : decode cX3_pieceFor 37 = .ok (.invokevirtual 158, 3) := dk_182 0 158 (dk_at dksX3_pieceFor_1 13 rfl rfl)
theorem dX3_pieceFor_40 : decode cX3_pieceFor 40 = .ok (.ireturn, 1) := dk_172 (dk_at dksX3_pieceFor_1 16 rfl rfl)
abbrev cX3_couldMend : ByteArray := prog_9_method_95_code
def yX3_couldMend : MethodName := ⟨RX3, "couldMend", "()I"⟩
def dkwX3_couldMend_2 : List UInt8 := [182, 0, 197, 27, 172]
abbrev dktX3_couldMend_2 : List UInt8 := dkwX3_couldMend_2 ++ []
def dkwX3_couldMend_1 : List UInt8 := [180, 0, 16, 16, 12, 46, 182, 0, 164, 154, 0, 14, 42, 182, 0, 173, 87, 132, 1, 1, 167, 255, 225, 42]
abbrev dktX3_couldMend_1 : List UInt8 := dkwX3_couldMend_1 ++ dktX3_couldMend_2
def dkwX3_couldMend_0 : List UInt8 := [42, 3, 181, 0, 42, 42, 182, 0, 71, 3, 60, 42, 180, 0, 16, 6, 46, 158, 0, 28, 42, 42]
abbrev dktX3_couldMend_0 : List UInt8 := dkwX3_couldMend_0 ++ dktX3_couldMend_1
theorem dksX3_couldMend_0 : cX3_couldMend.data.toList.drop 0 = dktX3_couldMend_0 := by decide +kernel
theorem dksX3_couldMend_1 : cX3_couldMend.data.toList.drop 22 = dktX3_couldMend_1 := dk_seg dksX3_couldMend_0 22 rfl rfl
theorem dksX3_couldMend_2 : cX3_couldMend.data.toList.drop 46 = dktX3_couldMend_2 := dk_seg dksX3_couldMend_1 24 rfl rfl
theorem dX3_couldMend_0 : decode cX3_couldMend 0 = .ok (.aload_n 0, 1) := dk_42 (dk_at dksX3_couldMend_0 0 rfl rfl)
theorem dX3_couldMend_1 : decode cX3_couldMend 1 = .ok (.iconst 0, 1) := dk_3 (dk_at dksX3_couldMend_0 1 rfl rfl)
theorem dX3_couldMend_2 : decode cX3_couldMend 2 = .ok (.putfield 42, 3) := dk_181 0 42 (dk_at dksX3_couldMend_0 2 rfl rfl)
theorem dX3_couldMend_5 : decode cX3_couldMend 5 = .ok (.aload_n 0, 1) := dk_42 (dk_at dksX3_couldMend_0 5 rfl rfl)
theorem dX3_couldMend_6 : decode cX3_couldMend 6 = .ok (.invokevirtual 71, 3) := dk_182 0 71 (dk_at dksX3_couldMend_0 6 rfl rfl)
theorem dX3_couldMend_9 : decode cX3_couldMend 9 = .ok (.iconst 0, 1) := dk_3 (dk_at dksX3_couldMend_0 9 rfl rfl)
theorem dX3_couldMend_10 : decode cX3_couldMend 10 = .ok (.istore_n 1, 1) := dk_60 (dk_at dksX3_couldMend_0 10 rfl rfl)
theorem dX3_couldMend_11 : decode cX3_couldMend 11 = .ok (.aload_n 0, 1) := dk_42 (dk_at dksX3_couldMend_0 11 rfl rfl)
theorem dX3_couldMend_12 : decode cX3_couldMend 12 = .ok (.getfield 16, 3) := dk_180 0 16 (dk_at dksX3_couldMend_0 12 rfl rfl)
theorem dX3_couldMend_15 : decode cX3_couldMend 15 = .ok (.iconst 3, 1) := dk_6 (dk_at dksX3_couldMend_0 15 rfl rfl)
theorem dX3_couldMend_16 : decode cX3_couldMend 16 = .ok (.iaload, 1) := dk_46 (dk_at dksX3_couldMend_0 16 rfl rfl)
theorem dX3_couldMend_17 : decode cX3_couldMend 17 = .ok (.ifCond .le 28, 3) := dk_158 0 28 (dk_at dksX3_couldMend_0 17 rfl rfl)
theorem dX3_couldMend_20 : decode cX3_couldMend 20 = .ok (.aload_n 0, 1) := dk_42 (dk_at dksX3_couldMend_0 20 rfl rfl)
theorem dX3_couldMend_21 : decode cX3_couldMend 21 = .ok (.aload_n 0, 1) := dk_42 (dk_at dksX3_couldMend_0 21 rfl rfl)
theorem dX3_couldMend_22 : decode cX3_couldMend 22 = .ok (.getfield 16, 3) := dk_180 0 16 (dk_at dksX3_couldMend_1 0 rfl rfl)
theorem dX3_couldMend_25 : decode cX3_couldMend 25 = .ok (.bipush 12, 2) := dk_16 12 (dk_at dksX3_couldMend_1 3 rfl rfl)
theorem dX3_couldMend_27 : decode cX3_couldMend 27 = .ok (.iaload, 1) := dk_46 (dk_at dksX3_couldMend_1 5 rfl rfl)
theorem dX3_couldMend_28 : decode cX3_couldMend 28 = .ok (.invokevirtual 164, 3) := dk_182 0 164 (dk_at dksX3_couldMend_1 6 rfl rfl)
theorem dX3_couldMend_31 : decode cX3_couldMend 31 = .ok (.ifCond .ne 14, 3) := dk_154 0 14 (dk_at dksX3_couldMend_1 9 rfl rfl)
theorem dX3_couldMend_34 : decode cX3_couldMend 34 = .ok (.aload_n 0, 1) := dk_42 (dk_at dksX3_couldMend_1 12 rfl rfl)
theorem dX3_couldMend_35 : decode cX3_couldMend 35 = .ok (.invokevirtual 173, 3) := dk_182 0 173 (dk_at dksX3_couldMend_1 13 rfl rfl)
theorem dX3_couldMend_38 : decode cX3_couldMend 38 = .ok (.pop, 1) := dk_87 (dk_at dksX3_couldMend_1 16 rfl rfl)
theorem dX3_couldMend_39 : decode cX3_couldMend 39 = .ok (.iinc 1 1, 3) := dk_132 1 1 (dk_at dksX3_couldMend_1 17 rfl rfl)
theorem dX3_couldMend_42 : decode cX3_couldMend 42 = .ok (.goto (-31), 3) := dk_167 255 225 (dk_at dksX3_couldMend_1 20 rfl rfl)
theorem dX3_couldMend_45 : decode cX3_couldMend 45 = .ok (.aload_n 0, 1) := dk_42 (dk_at dksX3_couldMend_1 23 rfl rfl)
theorem dX3_couldMend_46 : decode cX3_couldMend 46 = .ok (.invokevirtual 197, 3) := dk_182 0 197 (dk_at dksX3_couldMend_2 0 rfl rfl)
theorem dX3_couldMend_49 : decode cX3_couldMend 49 = .ok (.iload_n 1, 1) := dk_27 (dk_at dksX3_couldMend_2 3 rfl rfl)
theorem dX3_couldMend_50 : decode cX3_couldMend 50 = .ok (.ireturn, 1) := dk_172 (dk_at dksX3_couldMend_2 4 rfl rfl)
abbrev cX3_freshIn : ByteArray := prog_9_method_96_code
def yX3_freshIn : MethodName := ⟨RX3, "freshIn", "(I)I"⟩
def dkwX3_freshIn_1 : List UInt8 := [182, 0, 71, 42, 27, 182, 0, 233, 87, 42, 180, 0, 16, 7, 46, 61, 42, 182, 0, 197, 28, 172]
abbrev dktX3_freshIn_1 : List UInt8 := dkwX3_freshIn_1 ++ []
def dkwX3_freshIn_0 : List UInt8 := [42, 3, 181, 0, 42, 27, 3, 16, 48, 184, 0, 77, 154, 0, 9, 42, 4, 182, 0, 61, 172, 42]
abbrev dktX3_freshIn_0 : List UInt8 := dkwX3_freshIn_0 ++ dktX3_freshIn_1
theorem dksX3_freshIn_0 : cX3_freshIn.data.toList.drop 0 = dktX3_freshIn_0 := by decide +kernel
theorem dksX3_freshIn_1 : cX3_freshIn.data.toList.drop 22 = dktX3_freshIn_1 := dk_seg dksX3_freshIn_0 22 rfl rfl
theorem dX3_freshIn_0 : decode cX3_freshIn 0 = .ok (.aload_n 0, 1) := dk_42 (dk_at dksX3_freshIn_0 0 rfl rfl)
theorem dX3_freshIn_1 : decode cX3_freshIn 1 = .ok (.iconst 0, 1) := dk_3 (dk_at dksX3_freshIn_0 1 rfl rfl)
theorem dX3_freshIn_2 : decode cX3_freshIn 2 = .ok (.putfield 42, 3) := dk_181 0 42 (dk_at dksX3_freshIn_0 2 rfl rfl)
theorem dX3_freshIn_5 : decode cX3_freshIn 5 = .ok (.iload_n 1, 1) := dk_27 (dk_at dksX3_freshIn_0 5 rfl rfl)
theorem dX3_freshIn_6 : decode cX3_freshIn 6 = .ok (.iconst 0, 1) := dk_3 (dk_at dksX3_freshIn_0 6 rfl rfl)
theorem dX3_freshIn_7 : decode cX3_freshIn 7 = .ok (.bipush 48, 2) := dk_16 48 (dk_at dksX3_freshIn_0 7 rfl rfl)
theorem dX3_freshIn_9 : decode cX3_freshIn 9 = .ok (.invokestatic 77, 3) := dk_184 0 77 (dk_at dksX3_freshIn_0 9 rfl rfl)
theorem dX3_freshIn_12 : decode cX3_freshIn 12 = .ok (.ifCond .ne 9, 3) := dk_154 0 9 (dk_at dksX3_freshIn_0 12 rfl rfl)
theorem dX3_freshIn_15 : decode cX3_freshIn 15 = .ok (.aload_n 0, 1) := dk_42 (dk_at dksX3_freshIn_0 15 rfl rfl)
theorem dX3_freshIn_16 : decode cX3_freshIn 16 = .ok (.iconst 1, 1) := dk_4 (dk_at dksX3_freshIn_0 16 rfl rfl)
theorem dX3_freshIn_17 : decode cX3_freshIn 17 = .ok (.invokevirtual 61, 3) := dk_182 0 61 (dk_at dksX3_freshIn_0 17 rfl rfl)
theorem dX3_freshIn_20 : decode cX3_freshIn 20 = .ok (.ireturn, 1) := dk_172 (dk_at dksX3_freshIn_0 20 rfl rfl)
theorem dX3_freshIn_21 : decode cX3_freshIn 21 = .ok (.aload_n 0, 1) := dk_42 (dk_at dksX3_freshIn_0 21 rfl rfl)
theorem dX3_freshIn_22 : decode cX3_freshIn 22 = .ok (.invokevirtual 71, 3) := dk_182 0 71 (dk_at dksX3_freshIn_1 0 rfl rfl)
theorem dX3_freshIn_25 : decode cX3_freshIn 25 = .ok (.aload_n 0, 1) := dk_42 (dk_at dksX3_freshIn_1 3 rfl rfl)
theorem dX3_freshIn_26 : decode cX3_freshIn 26 = .ok (.iload_n 1, 1) := dk_27 (dk_at dksX3_freshIn_1 4 rfl rfl)
theorem dX3_freshIn_27 : decode cX3_freshIn 27 = .ok (.invokevirtual 233, 3) := dk_182 0 233 (dk_at dksX3_freshIn_1 5 rfl rfl)
theorem dX3_freshIn_30 : decode cX3_freshIn 30 = .ok (.pop, 1) := dk_87 (dk_at dksX3_freshIn_1 8 rfl rfl)
theorem dX3_freshIn_31 : decode cX3_freshIn 31 = .ok (.aload_n 0, 1) := dk_42 (dk_at dksX3_freshIn_1 9 rfl rfl)
theorem dX3_freshIn_32 : decode cX3_freshIn 32 = .ok (.getfield 16, 3) := dk_180 0 16 (dk_at dksX3_freshIn_1 10 rfl rfl)
theorem dX3_freshIn_35 : decode cX3_freshIn 35 = .ok (.iconst 4, 1) := dk_7 (dk_at dksX3_freshIn_1 13 rfl rfl)
theorem dX3_freshIn_36 : decode cX3_freshIn 36 = .ok (.iaload, 1) := dk_46 (dk_at dksX3_freshIn_1 14 rfl rfl)
theorem dX3_freshIn_37 : decode cX3_freshIn 37 = .ok (.istore_n 2, 1) := dk_61 (dk_at dksX3_freshIn_1 15 rfl rfl)
theorem dX3_freshIn_38 : decode cX3_freshIn 38 = .ok (.aload_n 0, 1) := dk_42 (dk_at dksX3_freshIn_1 16 rfl rfl)
theorem dX3_freshIn_39 : decode cX3_freshIn 39 = .ok (.invokevirtual 197, 3) := dk_182 0 197 (dk_at dksX3_freshIn_1 17 rfl rfl)
theorem dX3_freshIn_42 : decode cX3_freshIn 42 = .ok (.iload_n 2, 1) := dk_28 (dk_at dksX3_freshIn_1 20 rfl rfl)
theorem dX3_freshIn_43 : decode cX3_freshIn 43 = .ok (.ireturn, 1) := dk_172 (dk_at dksX3_freshIn_1 21 rfl rfl)
abbrev cX3_piecesIn : ByteArray := prog_9_method_97_code
def yX3_piecesIn : MethodName := ⟨RX3, "piecesIn", "(I)I"⟩
def dkwX3_piecesIn_1 : List UInt8 := [182, 0, 71, 42, 27, 182, 0, 233, 87, 42, 182, 0, 133, 61, 42, 182, 0, 197, 28, 172]
abbrev dktX3_piecesIn_1 : List UInt8 := dkwX3_piecesIn_1 ++ []
def dkwX3_piecesIn_0 : List UInt8 := [42, 3, 181, 0, 42, 27, 3, 16, 48, 184, 0, 77, 154, 0, 9, 42, 4, 182, 0, 61, 172, 42]
abbrev dktX3_piecesIn_0 : List UInt8 := dkwX3_piecesIn_0 ++ dktX3_piecesIn_1
theorem dksX3_piecesIn_0 : cX3_piecesIn.data.toList.drop 0 = dktX3_piecesIn_0 := by decide +kernel
theorem dksX3_piecesIn_1 : cX3_piecesIn.data.toList.drop 22 = dktX3_piecesIn_1 := dk_seg dksX3_piecesIn_0 22 rfl rfl
theorem dX3_piecesIn_0 : decode cX3_piecesIn 0 = .ok (.aload_n 0, 1) := dk_42 (dk_at dksX3_piecesIn_0 0 rfl rfl)
theorem dX3_piecesIn_1 : decode cX3_piecesIn 1 = .ok (.iconst 0, 1) := dk_3 (dk_at dksX3_piecesIn_0 1 rfl rfl)
theorem dX3_piecesIn_2 : decode cX3_piecesIn 2 = .ok (.putfield 42, 3) := dk_181 0 42 (dk_at dksX3_piecesIn_0 2 rfl rfl)
theorem dX3_piecesIn_5 : decode cX3_piecesIn 5 = .ok (.iload_n 1, 1) := dk_27 (dk_at dksX3_piecesIn_0 5 rfl rfl)
theorem dX3_piecesIn_6 : decode cX3_piecesIn 6 = .ok (.iconst 0, 1) := dk_3 (dk_at dksX3_piecesIn_0 6 rfl rfl)
theorem dX3_piecesIn_7 : decode cX3_piecesIn 7 = .ok (.bipush 48, 2) := dk_16 48 (dk_at dksX3_piecesIn_0 7 rfl rfl)
theorem dX3_piecesIn_9 : decode cX3_piecesIn 9 = .ok (.invokestatic 77, 3) := dk_184 0 77 (dk_at dksX3_piecesIn_0 9 rfl rfl)
theorem dX3_piecesIn_12 : decode cX3_piecesIn 12 = .ok (.ifCond .ne 9, 3) := dk_154 0 9 (dk_at dksX3_piecesIn_0 12 rfl rfl)
theorem dX3_piecesIn_15 : decode cX3_piecesIn 15 = .ok (.aload_n 0, 1) := dk_42 (dk_at dksX3_piecesIn_0 15 rfl rfl)
theorem dX3_piecesIn_16 : decode cX3_piecesIn 16 = .ok (.iconst 1, 1) := dk_4 (dk_at dksX3_piecesIn_0 16 rfl rfl)
theorem dX3_piecesIn_17 : decode cX3_piecesIn 17 = .ok (.invokevirtual 61, 3) := dk_182 0 61 (dk_at dksX3_piecesIn_0 17 rfl rfl)
theorem dX3_piecesIn_20 : decode cX3_piecesIn 20 = .ok (.ireturn, 1) := dk_172 (dk_at dksX3_piecesIn_0 20 rfl rfl)
theorem dX3_piecesIn_21 : decode cX3_piecesIn 21 = .ok (.aload_n 0, 1) := dk_42 (dk_at dksX3_piecesIn_0 21 rfl rfl)
theorem dX3_piecesIn_22 : decode cX3_piecesIn 22 = .ok (.invokevirtual 71, 3) := dk_182 0 71 (dk_at dksX3_piecesIn_1 0 rfl rfl)
theorem dX3_piecesIn_25 : decode cX3_piecesIn 25 = .ok (.aload_n 0, 1) := dk_42 (dk_at dksX3_piecesIn_1 3 rfl rfl)
theorem dX3_piecesIn_26 : decode cX3_piecesIn 26 = .ok (.iload_n 1, 1) := dk_27 (dk_at dksX3_piecesIn_1 4 rfl rfl)
theorem dX3_piecesIn_27 : decode cX3_piecesIn 27 = .ok (.invokevirtual 233, 3) := dk_182 0 233 (dk_at dksX3_piecesIn_1 5 rfl rfl)
theorem dX3_piecesIn_30 : decode cX3_piecesIn 30 = .ok (.pop, 1) := dk_87 (dk_at dksX3_piecesIn_1 8 rfl rfl)
theorem dX3_piecesIn_31 : decode cX3_piecesIn 31 = .ok (.aload_n 0, 1) := dk_42 (dk_at dksX3_piecesIn_1 9 rfl rfl)
theorem dX3_piecesIn_32 : decode cX3_piecesIn 32 = .ok (.invokevirtual 133, 3) := dk_182 0 133 (dk_at dksX3_piecesIn_1 10 rfl rfl)
theorem dX3_piecesIn_35 : decode cX3_piecesIn 35 = .ok (.istore_n 2, 1) := dk_61 (dk_at dksX3_piecesIn_1 13 rfl rfl)
theorem dX3_piecesIn_36 : decode cX3_piecesIn 36 = .ok (.aload_n 0, 1) := dk_42 (dk_at dksX3_piecesIn_1 14 rfl rfl)
theorem dX3_piecesIn_37 : decode cX3_piecesIn 37 = .ok (.invokevirtual 197, 3) := dk_182 0 197 (dk_at dksX3_piecesIn_1 15 rfl rfl)
theorem dX3_piecesIn_40 : decode cX3_piecesIn 40 = .ok (.iload_n 2, 1) := dk_28 (dk_at dksX3_piecesIn_1 18 rfl rfl)
theorem dX3_piecesIn_41 : decode cX3_piecesIn 41 = .ok (.ireturn, 1) := dk_172 (dk_at dksX3_piecesIn_1 19 rfl rfl)
abbrev cX3_ranked : ByteArray := prog_9_method_99_code
def yX3_ranked : MethodName := ⟨RX3, "ranked", "(I)I"⟩
def dkwX3_ranked_3 : List UInt8 := [182, 0, 61, 172]
abbrev dktX3_ranked_3 : List UInt8 := dkwX3_ranked_3 ++ []
def dkwX3_ranked_2 : List UInt8 := [3, 96, 62, 132, 4, 1, 167, 255, 224, 29, 27, 160, 0, 5, 28, 172, 132, 2, 1, 167, 255, 196, 42, 4]
abbrev dktX3_ranked_2 : List UInt8 := dkwX3_ranked_2 ++ dktX3_ranked_3
def dkwX3_ranked_1 : List UInt8 := [42, 180, 0, 16, 5, 46, 162, 0, 27, 29, 42, 21, 4, 28, 182, 0, 239, 153, 0, 7, 4, 167, 0, 4]
abbrev dktX3_ranked_1 : List UInt8 := dkwX3_ranked_1 ++ dktX3_ranked_2
def dkwX3_ranked_0 : List UInt8 := [42, 3, 181, 0, 42, 3, 61, 28, 42, 180, 0, 16, 5, 46, 162, 0, 56, 3, 62, 3, 54, 4, 21, 4]
abbrev dktX3_ranked_0 : List UInt8 := dkwX3_ranked_0 ++ dktX3_ranked_1
theorem dksX3_ranked_0 : cX3_ranked.data.toList.drop 0 = dktX3_ranked_0 := by decide +kernel
theorem dksX3_ranked_1 : cX3_ranked.data.toList.drop 24 = dktX3_ranked_1 := dk_seg dksX3_ranked_0 24 rfl rfl
theorem dksX3_ranked_2 : cX3_ranked.data.toList.drop 48 = dktX3_ranked_2 := dk_seg dksX3_ranked_1 24 rfl rfl
theorem dksX3_ranked_3 : cX3_ranked.data.toList.drop 72 = dktX3_ranked_3 := dk_seg dksX3_ranked_2 24 rfl rfl
theorem dX3_ranked_0 : decode cX3_ranked 0 = .ok (.aload_n 0, 1) := dk_42 (dk_at dksX3_ranked_0 0 rfl rfl)
theorem dX3_ranked_1 : decode cX3_ranked 1 = .ok (.iconst 0, 1) := dk_3 (dk_at dksX3_ranked_0 1 rfl rfl)
theorem dX3_ranked_2 : decode cX3_ranked 2 = .ok (.putfield 42, 3) := dk_181 0 42 (dk_at dksX3_ranked_0 2 rfl rfl)
theorem dX3_ranked_5 : decode cX3_ranked 5 = .ok (.iconst 0, 1) := dk_3 (dk_at dksX3_ranked_0 5 rfl rfl)
theorem dX3_ranked_6 : decode cX3_ranked 6 = .ok (.istore_n 2, 1) := dk_61 (dk_at dksX3_ranked_0 6 rfl rfl)
theorem dX3_ranked_7 : decode cX3_ranked 7 = .ok (.iload_n 2, 1) := dk_28 (dk_at dksX3_ranked_0 7 rfl rfl)
theorem dX3_ranked_8 : decode cX3_ranked 8 = .ok (.aload_n 0, 1) := dk_42 (dk_at dksX3_ranked_0 8 rfl rfl)
theorem dX3_ranked_9 : decode cX3_ranked 9 = .ok (.getfield 16, 3) := dk_180 0 16 (dk_at dksX3_ranked_0 9 rfl rfl)
theorem dX3_ranked_12 : decode cX3_ranked 12 = .ok (.iconst 2, 1) := dk_5 (dk_at dksX3_ranked_0 12 rfl rfl)
theorem dX3_ranked_13 : decode cX3_ranked 13 = .ok (.iaload, 1) := dk_46 (dk_at dksX3_ranked_0 13 rfl rfl)
theorem dX3_ranked_14 : decode cX3_ranked 14 = .ok (.if_icmp .ge 56, 3) := dk_162 0 56 (dk_at dksX3_ranked_0 14 rfl rfl)
theorem dX3_ranked_17 : decode cX3_ranked 17 = .ok (.iconst 0, 1) := dk_3 (dk_at dksX3_ranked_0 17 rfl rfl)
theorem dX3_ranked_18 : decode cX3_ranked 18 = .ok (.istore_n 3, 1) := dk_62 (dk_at dksX3_ranked_0 18 rfl rfl)
theorem dX3_ranked_19 : decode cX3_ranked 19 = .ok (.iconst 0, 1) := dk_3 (dk_at dksX3_ranked_0 19 rfl rfl)
theorem dX3_ranked_20 : decode cX3_ranked 20 = .ok (.istore 4, 2) := dk_54 4 (dk_at dksX3_ranked_0 20 rfl rfl)
theorem dX3_ranked_22 : decode cX3_ranked 22 = .ok (.iload 4, 2) := dk_21 4 (dk_at dksX3_ranked_0 22 rfl rfl)
theorem dX3_ranked_24 : decode cX3_ranked 24 = .ok (.aload_n 0, 1) := dk_42 (dk_at dksX3_ranked_1 0 rfl rfl)
theorem dX3_ranked_25 : decode cX3_ranked 25 = .ok (.getfield 16, 3) := dk_180 0 16 (dk_at dksX3_ranked_1 1 rfl rfl)
theorem dX3_ranked_28 : decode cX3_ranked 28 = .ok (.iconst 2, 1) := dk_5 (dk_at dksX3_ranked_1 4 rfl rfl)
theorem dX3_ranked_29 : decode cX3_ranked 29 = .ok (.iaload, 1) := dk_46 (dk_at dksX3_ranked_1 5 rfl rfl)
theorem dX3_ranked_30 : decode cX3_ranked 30 = .ok (.if_icmp .ge 27, 3) := dk_162 0 27 (dk_at dksX3_ranked_1 6 rfl rfl)
theorem dX3_ranked_33 : decode cX3_ranked 33 = .ok (.iload_n 3, 1) := dk_29 (dk_at dksX3_ranked_1 9 rfl rfl)
theorem dX3_ranked_34 : decode cX3_ranked 34 = .ok (.aload_n 0, 1) := dk_42 (dk_at dksX3_ranked_1 10 rfl rfl)
theorem dX3_ranked_35 : decode cX3_ranked 35 = .ok (.iload 4, 2) := dk_21 4 (dk_at dksX3_ranked_1 11 rfl rfl)
theorem dX3_ranked_37 : decode cX3_ranked 37 = .ok (.iload_n 2, 1) := dk_28 (dk_at dksX3_ranked_1 13 rfl rfl)
theorem dX3_ranked_38 : decode cX3_ranked 38 = .ok (.invokevirtual 239, 3) := dk_182 0 239 (dk_at dksX3_ranked_1 14 rfl rfl)
theorem dX3_ranked_41 : decode cX3_ranked 41 = .ok (.ifCond .eq 7, 3) := dk_153 0 7 (dk_at dksX3_ranked_1 17 rfl rfl)
theorem dX3_ranked_44 : decode cX3_ranked 44 = .ok (.iconst 1, 1) := dk_4 (dk_at dksX3_ranked_1 20 rfl rfl)
theorem dX3_ranked_45 : decode cX3_ranked 45 = .ok (.goto 4, 3) := dk_167 0 4 (dk_at dksX3_ranked_1 21 rfl rfl)
theorem dX3_ranked_48 : decode cX3_ranked 48 = .ok (.iconst 0, 1) := dk_3 (dk_at dksX3_ranked_2 0 rfl rfl)
theorem dX3_ranked_49 : decode cX3_ranked 49 = .ok (.iadd, 1) := dk_96 (dk_at dksX3_ranked_2 1 rfl rfl)
theorem dX3_ranked_50 : decode cX3_ranked 50 = .ok (.istore_n 3, 1) := dk_62 (dk_at dksX3_ranked_2 2 rfl rfl)
theorem dX3_ranked_51 : decode cX3_ranked 51 = .ok (.iinc 4 1, 3) := dk_132 4 1 (dk_at dksX3_ranked_2 3 rfl rfl)
theorem dX3_ranked_54 : decode cX3_ranked 54 = .ok (.goto (-32), 3) := dk_167 255 224 (dk_at dksX3_ranked_2 6 rfl rfl)
theorem dX3_ranked_57 : decode cX3_ranked 57 = .ok (.iload_n 3, 1) := dk_29 (dk_at dksX3_ranked_2 9 rfl rfl)
theorem dX3_ranked_58 : decode cX3_ranked 58 = .ok (.iload_n 1, 1) := dk_27 (dk_at dksX3_ranked_2 10 rfl rfl)
theorem dX3_ranked_59 : decode cX3_ranked 59 = .ok (.if_icmp .ne 5, 3) := dk_160 0 5 (dk_at dksX3_ranked_2 11 rfl rfl)
theorem dX3_ranked_62 : decode cX3_ranked 62 = .ok (.iload_n 2, 1) := dk_28 (dk_at dksX3_ranked_2 14 rfl rfl)
theorem dX3_ranked_63 : decode cX3_ranked 63 = .ok (.ireturn, 1) := dk_172 (dk_at dksX3_ranked_2 15 rfl rfl)
theorem dX3_ranked_64 : decode cX3_ranked 64 = .ok (.iinc 2 1, 3) := dk_132 2 1 (dk_at dksX3_ranked_2 16 rfl rfl)
theorem dX3_ranked_67 : decode cX3_ranked 67 = .ok (.goto (-60), 3) := dk_167 255 196 (dk_at dksX3_ranked_2 19 rfl rfl)
theorem dX3_ranked_70 : decode cX3_ranked 70 = .ok (.aload_n 0, 1) := dk_42 (dk_at dksX3_ranked_2 22 rfl rfl)
theorem dX3_ranked_71 : decode cX3_ranked 71 = .ok (.iconst 1, 1) := dk_4 (dk_at dksX3_ranked_2 23 rfl rfl)
theorem dX3_ranked_72 : decode cX3_ranked 72 = .ok (.invokevirtual 61, 3) := dk_182 0 61 (dk_at dksX3_ranked_3 0 rfl rfl)
theorem dX3_ranked_75 : decode cX3_ranked 75 = .ok (.ireturn, 1) := dk_172 (dk_at dksX3_ranked_3 3 rfl rfl)
abbrev cX3_isAhead : ByteArray := prog_9_method_98_code
def yX3_isAhead : MethodName := ⟨RX3, "isAhead", "(II)Z"⟩
def dkwX3_isAhead_3 : List UInt8 := [167, 0, 13, 27, 28, 162, 0, 7, 4, 167, 0, 4, 3, 172]
abbrev dktX3_isAhead_3 : List UInt8 := dkwX3_isAhead_3 ++ []
def dkwX3_isAhead_2 : List UInt8 := [159, 0, 26, 42, 27, 4, 182, 0, 155, 42, 28, 4, 182, 0, 155, 162, 0, 7, 4, 167, 0, 17, 3]
abbrev dktX3_isAhead_2 : List UInt8 := dkwX3_isAhead_2 ++ dktX3_isAhead_3
def dkwX3_isAhead_1 : List UInt8 := [182, 0, 155, 164, 0, 7, 4, 167, 0, 4, 3, 172, 42, 27, 4, 182, 0, 155, 42, 28, 4, 182, 0, 155]
abbrev dktX3_isAhead_1 : List UInt8 := dkwX3_isAhead_1 ++ dktX3_isAhead_2
def dkwX3_isAhead_0 : List UInt8 := [42, 27, 3, 182, 0, 155, 42, 28, 3, 182, 0, 155, 159, 0, 24, 42, 27, 3, 182, 0, 155, 42, 28, 3]
abbrev dktX3_isAhead_0 : List UInt8 := dkwX3_isAhead_0 ++ dktX3_isAhead_1
theorem dksX3_isAhead_0 : cX3_isAhead.data.toList.drop 0 = dktX3_isAhead_0 := by decide +kernel
theorem dksX3_isAhead_1 : cX3_isAhead.data.toList.drop 24 = dktX3_isAhead_1 := dk_seg dksX3_isAhead_0 24 rfl rfl
theorem dksX3_isAhead_2 : cX3_isAhead.data.toList.drop 48 = dktX3_isAhead_2 := dk_seg dksX3_isAhead_1 24 rfl rfl
theorem dksX3_isAhead_3 : cX3_isAhead.data.toList.drop 71 = dktX3_isAhead_3 := dk_seg dksX3_isAhead_2 23 rfl rfl
theorem dX3_isAhead_0 : decode cX3_isAhead 0 = .ok (.aload_n 0, 1) := dk_42 (dk_at dksX3_isAhead_0 0 rfl rfl)
theorem dX3_isAhead_1 : decode cX3_isAhead 1 = .ok (.iload_n 1, 1) := dk_27 (dk_at dksX3_isAhead_0 1 rfl rfl)
theorem dX3_isAhead_2 : decode cX3_isAhead 2 = .ok (.iconst 0, 1) := dk_3 (dk_at dksX3_isAhead_0 2 rfl rfl)
theorem dX3_isAhead_3 : decode cX3_isAhead 3 = .ok (.invokevirtual 155, 3) := dk_182 0 155 (dk_at dksX3_isAhead_0 3 rfl rfl)
theorem dX3_isAhead_6 : decode cX3_isAhead 6 = .ok (.aload_n 0, 1) := dk_42 (dk_at dksX3_isAhead_0 6 rfl rfl)
theorem dX3_isAhead_7 : decode cX3_isAhead 7 = .ok (.iload_n 2, 1) := dk_28 (dk_at dksX3_isAhead_0 7 rfl rfl)
theorem dX3_isAhead_8 : decode cX3_isAhead 8 = .ok (.iconst 0, 1) := dk_3 (dk_at dksX3_isAhead_0 8 rfl rfl)
theorem dX3_isAhead_9 : decode cX3_isAhead 9 = .ok (.invokevirtual 155, 3) := dk_182 0 155 (dk_at dksX3_isAhead_0 9 rfl rfl)
theorem dX3_isAhead_12 : decode cX3_isAhead 12 = .ok (.if_icmp .eq 24, 3) := dk_159 0 24 (dk_at dksX3_isAhead_0 12 rfl rfl)
theorem dX3_isAhead_15 : decode cX3_isAhead 15 = .ok (.aload_n 0, 1) := dk_42 (dk_at dksX3_isAhead_0 15 rfl rfl)
theorem dX3_isAhead_16 : decode cX3_isAhead 16 = .ok (.iload_n 1, 1) := dk_27 (dk_at dksX3_isAhead_0 16 rfl rfl)
theorem dX3_isAhead_17 : decode cX3_isAhead 17 = .ok (.iconst 0, 1) := dk_3 (dk_at dksX3_isAhead_0 17 rfl rfl)
theorem dX3_isAhead_18 : decode cX3_isAhead 18 = .ok (.invokevirtual 155, 3) := dk_182 0 155 (dk_at dksX3_isAhead_0 18 rfl rfl)
theorem dX3_isAhead_21 : decode cX3_isAhead 21 = .ok (.aload_n 0, 1) := dk_42 (dk_at dksX3_isAhead_0 21 rfl rfl)
theorem dX3_isAhead_22 : decode cX3_isAhead 22 = .ok (.iload_n 2, 1) := dk_28 (dk_at dksX3_isAhead_0 22 rfl rfl)
theorem dX3_isAhead_23 : decode cX3_isAhead 23 = .ok (.iconst 0, 1) := dk_3 (dk_at dksX3_isAhead_0 23 rfl rfl)
theorem dX3_isAhead_24 : decode cX3_isAhead 24 = .ok (.invokevirtual 155, 3) := dk_182 0 155 (dk_at dksX3_isAhead_1 0 rfl rfl)
theorem dX3_isAhead_27 : decode cX3_isAhead 27 = .ok (.if_icmp .le 7, 3) := dk_164 0 7 (dk_at dksX3_isAhead_1 3 rfl rfl)
theorem dX3_isAhead_30 : decode cX3_isAhead 30 = .ok (.iconst 1, 1) := dk_4 (dk_at dksX3_isAhead_1 6 rfl rfl)
theorem dX3_isAhead_31 : decode cX3_isAhead 31 = .ok (.goto 4, 3) := dk_167 0 4 (dk_at dksX3_isAhead_1 7 rfl rfl)
theorem dX3_isAhead_34 : decode cX3_isAhead 34 = .ok (.iconst 0, 1) := dk_3 (dk_at dksX3_isAhead_1 10 rfl rfl)
theorem dX3_isAhead_35 : decode cX3_isAhead 35 = .ok (.ireturn, 1) := dk_172 (dk_at dksX3_isAhead_1 11 rfl rfl)
theorem dX3_isAhead_36 : decode cX3_isAhead 36 = .ok (.aload_n 0, 1) := dk_42 (dk_at dksX3_isAhead_1 12 rfl rfl)
theorem dX3_isAhead_37 : decode cX3_isAhead 37 = .ok (.iload_n 1, 1) := dk_27 (dk_at dksX3_isAhead_1 13 rfl rfl)
theorem dX3_isAhead_38 : decode cX3_isAhead 38 = .ok (.iconst 1, 1) := dk_4 (dk_at dksX3_isAhead_1 14 rfl rfl)
theorem dX3_isAhead_39 : decode cX3_isAhead 39 = .ok (.invokevirtual 155, 3) := dk_182 0 155 (dk_at dksX3_isAhead_1 15 rfl rfl)
theorem dX3_isAhead_42 : decode cX3_isAhead 42 = .ok (.aload_n 0, 1) := dk_42 (dk_at dksX3_isAhead_1 18 rfl rfl)
theorem dX3_isAhead_43 : decode cX3_isAhead 43 = .ok (.iload_n 2, 1) := dk_28 (dk_at dksX3_isAhead_1 19 rfl rfl)
theorem dX3_isAhead_44 : decode cX3_isAhead 44 = .ok (.iconst 1, 1) := dk_4 (dk_at dksX3_isAhead_1 20 rfl rfl)
theorem dX3_isAhead_45 : decode cX3_isAhead 45 = .ok (.invokevirtual 155, 3) := dk_182 0 155 (dk_at dksX3_isAhead_1 21 rfl rfl)
theorem dX3_isAhead_48 : decode cX3_isAhead 48 = .ok (.if_icmp .eq 26, 3) := dk_159 0 26 (dk_at dksX3_isAhead_2 0 rfl rfl)
theorem dX3_isAhead_51 : decode cX3_isAhead 51 = .ok (.aload_n 0, 1) := dk_42 (dk_at dksX3_isAhead_2 3 rfl rfl)
theorem dX3_isAhead_52 : decode cX3_isAhead 52 = .ok (.iload_n 1, 1) := dk_27 (dk_at dksX3_isAhead_2 4 rfl rfl)
theorem dX3_isAhead_53 : decode cX3_isAhead 53 = .ok (.iconst 1, 1) := dk_4 (dk_at dksX3_isAhead_2 5 rfl rfl)
theorem dX3_isAhead_54 : decode cX3_isAhead 54 = .ok (.invokevirtual 155, 3) := dk_182 0 155 (dk_at dksX3_isAhead_2 6 rfl rfl)
theorem dX3_isAhead_57 : decode cX3_isAhead 57 = .ok (.aload_n 0, 1) := dk_42 (dk_at dksX3_isAhead_2 9 rfl rfl)
theorem dX3_isAhead_58 : decode cX3_isAhead 58 = .ok (.iload_n 2, 1) := dk_28 (dk_at dksX3_isAhead_2 10 rfl rfl)
theorem dX3_isAhead_59 : decode cX3_isAhead 59 = .ok (.iconst 1, 1) := dk_4 (dk_at dksX3_isAhead_2 11 rfl rfl)
theorem dX3_isAhead_60 : decode cX3_isAhead 60 = .ok (.invokevirtual 155, 3) := dk_182 0 155 (dk_at dksX3_isAhead_2 12 rfl rfl)
theorem dX3_isAhead_63 : decode cX3_isAhead 63 = .ok (.if_icmp .ge 7, 3) := dk_162 0 7 (dk_at dksX3_isAhead_2 15 rfl rfl)
theorem dX3_isAhead_66 : decode cX3_isAhead 66 = .ok (.iconst 1, 1) := dk_4 (dk_at dksX3_isAhead_2 18 rfl rfl)
theorem dX3_isAhead_67 : decode cX3_isAhead 67 = .ok (.goto 17, 3) := dk_167 0 17 (dk_at dksX3_isAhead_2 19 rfl rfl)
theorem dX3_isAhead_70 : decode cX3_isAhead 70 = .ok (.iconst 0, 1) := dk_3 (dk_at dksX3_isAhead_2 22 rfl rfl)
theorem dX3_isAhead_71 : decode cX3_isAhead 71 = .ok (.goto 13, 3) := dk_167 0 13 (dk_at dksX3_isAhead_3 0 rfl rfl)
theorem dX3_isAhead_74 : decode cX3_isAhead 74 = .ok (.iload_n 1, 1) := dk_27 (dk_at dksX3_isAhead_3 3 rfl rfl)
theorem dX3_isAhead_75 : decode cX3_isAhead 75 = .ok (.iload_n 2, 1) := dk_28 (dk_at dksX3_isAhead_3 4 rfl rfl)
theorem dX3_isAhead_76 : decode cX3_isAhead 76 = .ok (.if_icmp .ge 7, 3) := dk_162 0 7 (dk_at dksX3_isAhead_3 5 rfl rfl)
theorem dX3_isAhead_79 : decode cX3_isAhead 79 = .ok (.iconst 1, 1) := dk_4 (dk_at dksX3_isAhead_3 8 rfl rfl)
theorem dX3_isAhead_80 : decode cX3_isAhead 80 = .ok (.goto 4, 3) := dk_167 0 4 (dk_at dksX3_isAhead_3 9 rfl rfl)
theorem dX3_isAhead_83 : decode cX3_isAhead 83 = .ok (.iconst 0, 1) := dk_3 (dk_at dksX3_isAhead_3 12 rfl rfl)
theorem dX3_isAhead_84 : decode cX3_isAhead 84 = .ok (.ireturn, 1) := dk_172 (dk_at dksX3_isAhead_3 13 rfl rfl)
abbrev cX3_smokes : ByteArray := prog_9_method_100_code
def yX3_smokes : MethodName := ⟨RX3, "smokes", "(I)I"⟩
def dkwX3_smokes_2 : List UInt8 := [182, 0, 197, 28, 172]
abbrev dktX3_smokes_2 : List UInt8 := dkwX3_smokes_2 ++ []
def dkwX3_smokes_1 : List UInt8 := [61, 42, 27, 182, 0, 182, 154, 0, 15, 42, 27, 182, 0, 185, 87, 132, 2, 1, 167, 255, 239, 42]
abbrev dktX3_smokes_1 : List UInt8 := dkwX3_smokes_1 ++ dktX3_smokes_2
def dkwX3_smokes_0 : List UInt8 := [42, 3, 181, 0, 42, 42, 27, 182, 0, 102, 154, 0, 9, 42, 4, 182, 0, 61, 172, 42, 182, 0, 71, 3]
abbrev dktX3_smokes_0 : List UInt8 := dkwX3_smokes_0 ++ dktX3_smokes_1
theorem dksX3_smokes_0 : cX3_smokes.data.toList.drop 0 = dktX3_smokes_0 := by decide +kernel
theorem dksX3_smokes_1 : cX3_smokes.data.toList.drop 24 = dktX3_smokes_1 := dk_seg dksX3_smokes_0 24 rfl rfl
theorem dksX3_smokes_2 : cX3_smokes.data.toList.drop 46 = dktX3_smokes_2 := dk_seg dksX3_smokes_1 22 rfl rfl
theorem dX3_smokes_0 : decode cX3_smokes 0 = .ok (.aload_n 0, 1) := dk_42 (dk_at dksX3_smokes_0 0 rfl rfl)
theorem dX3_smokes_1 : decode cX3_smokes 1 = .ok (.iconst 0, 1) := dk_3 (dk_at dksX3_smokes_0 1 rfl rfl)
theorem dX3_smokes_2 : decode cX3_smokes 2 = .ok (.putfield 42, 3) := dk_181 0 42 (dk_at dksX3_smokes_0 2 rfl rfl)
theorem dX3_smokes_5 : decode cX3_smokes 5 = .ok (.aload_n 0, 1) := dk_42 (dk_at dksX3_smokes_0 5 rfl rfl)
theorem dX3_smokes_6 : decode cX3_smokes 6 = .ok (.iload_n 1, 1) := dk_27 (dk_at dksX3_smokes_0 6 rfl rfl)
theorem dX3_smokes_7 : decode cX3_smokes 7 = .ok (.invokevirtual 102, 3) := dk_182 0 102 (dk_at dksX3_smokes_0 7 rfl rfl)
theorem dX3_smokes_10 : decode cX3_smokes 10 = .ok (.ifCond .ne 9, 3) := dk_154 0 9 (dk_at dksX3_smokes_0 10 rfl rfl)
theorem dX3_smokes_13 : decode cX3_smokes 13 = .ok (.aload_n 0, 1) := dk_42 (dk_at dksX3_smokes_0 13 rfl rfl)
theorem dX3_smokes_14 : decode cX3_smokes 14 = .ok (.iconst 1, 1) := dk_4 (dk_at dksX3_smokes_0 14 rfl rfl)
theorem dX3_smokes_15 : decode cX3_smokes 15 = .ok (.invokevirtual 61, 3) := dk_182 0 61 (dk_at dksX3_smokes_0 15 rfl rfl)
theorem dX3_smokes_18 : decode cX3_smokes 18 = .ok (.ireturn, 1) := dk_172 (dk_at dksX3_smokes_0 18 rfl rfl)
theorem dX3_smokes_19 : decode cX3_smokes 19 = .ok (.aload_n 0, 1) := dk_42 (dk_at dksX3_smokes_0 19 rfl rfl)
theorem dX3_smokes_20 : decode cX3_smokes 20 = .ok (.invokevirtual 71, 3) := dk_182 0 71 (dk_at dksX3_smokes_0 20 rfl rfl)
theorem dX3_smokes_23 : decode cX3_smokes 23 = .ok (.iconst 0, 1) := dk_3 (dk_at dksX3_smokes_0 23 rfl rfl)
theorem dX3_smokes_24 : decode cX3_smokes 24 = .ok (.istore_n 2, 1) := dk_61 (dk_at dksX3_smokes_1 0 rfl rfl)
theorem dX3_smokes_25 : decode cX3_smokes 25 = .ok (.aload_n 0, 1) := dk_42 (dk_at dksX3_smokes_1 1 rfl rfl)
theorem dX3_smokes_26 : decode cX3_smokes 26 = .ok (.iload_n 1, 1) := dk_27 (dk_at dksX3_smokes_1 2 rfl rfl)
theorem dX3_smokes_27 : decode cX3_smokes 27 = .ok (.invokevirtual 182, 3) := dk_182 0 182 (dk_at dksX3_smokes_1 3 rfl rfl)
theorem dX3_smokes_30 : decode cX3_smokes 30 = .ok (.ifCond .ne 15, 3) := dk_154 0 15 (dk_at dksX3_smokes_1 6 rfl rfl)
theorem dX3_smokes_33 : decode cX3_smokes 33 = .ok (.aload_n 0, 1) := dk_42 (dk_at dksX3_smokes_1 9 rfl rfl)
theorem dX3_smokes_34 : decode cX3_smokes 34 = .ok (.iload_n 1, 1) := dk_27 (dk_at dksX3_smokes_1 10 rfl rfl)
theorem dX3_smokes_35 : decode cX3_smokes 35 = .ok (.invokevirtual 185, 3) := dk_182 0 185 (dk_at dksX3_smokes_1 11 rfl rfl)
theorem dX3_smokes_38 : decode cX3_smokes 38 = .ok (.pop, 1) := dk_87 (dk_at dksX3_smokes_1 14 rfl rfl)
theorem dX3_smokes_39 : decode cX3_smokes 39 = .ok (.iinc 2 1, 3) := dk_132 2 1 (dk_at dksX3_smokes_1 15 rfl rfl)
theorem dX3_smokes_42 : decode cX3_smokes 42 = .ok (.goto (-17), 3) := dk_167 255 239 (dk_at dksX3_smokes_1 18 rfl rfl)
theorem dX3_smokes_45 : decode cX3_smokes 45 = .ok (.aload_n 0, 1) := dk_42 (dk_at dksX3_smokes_1 21 rfl rfl)
theorem dX3_smokes_46 : decode cX3_smokes 46 = .ok (.invokevirtual 197, 3) := dk_182 0 197 (dk_at dksX3_smokes_2 0 rfl rfl)
theorem dX3_smokes_49 : decode cX3_smokes 49 = .ok (.iload_n 2, 1) := dk_28 (dk_at dksX3_smokes_2 3 rfl rfl)
theorem dX3_smokes_50 : decode cX3_smokes 50 = .ok (.ireturn, 1) := dk_172 (dk_at dksX3_smokes_2 4 rfl rfl)
abbrev cX3_lumps : ByteArray := prog_9_method_101_code
def yX3_lumps : MethodName := ⟨RX3, "lumps", "()I"⟩
def dkwX3_lumps_0 : List UInt8 := [42, 3, 181, 0, 42, 42, 180, 0, 16, 7, 46, 172]
abbrev dktX3_lumps_0 : List UInt8 := dkwX3_lumps_0 ++ []
theorem dksX3_lumps_0 : cX3_lumps.data.toList.drop 0 = dktX3_lumps_0 := by decide +kernel
theorem dX3_lumps_0 : decode cX3_lumps 0 = .ok (.aload_n 0, 1) := dk_42 (dk_at dksX3_lumps_0 0 rfl rfl)
theorem dX3_lumps_1 : decode cX3_lumps 1 = .ok (.iconst 0, 1) := dk_3 (dk_at dksX3_lumps_0 1 rfl rfl)
theorem dX3_lumps_2 : decode cX3_lumps 2 = .ok (.putfield 42, 3) := dk_181 0 42 (dk_at dksX3_lumps_0 2 rfl rfl)
theorem dX3_lumps_5 : decode cX3_lumps 5 = .ok (.aload_n 0, 1) := dk_42 (dk_at dksX3_lumps_0 5 rfl rfl)
theorem dX3_lumps_6 : decode cX3_lumps 6 = .ok (.getfield 16, 3) := dk_180 0 16 (dk_at dksX3_lumps_0 6 rfl rfl)
theorem dX3_lumps_9 : decode cX3_lumps 9 = .ok (.iconst 4, 1) := dk_7 (dk_at dksX3_lumps_0 9 rfl rfl)
theorem dX3_lumps_10 : decode cX3_lumps 10 = .ok (.iaload, 1) := dk_46 (dk_at dksX3_lumps_0 10 rfl rfl)
theorem dX3_lumps_11 : decode cX3_lumps 11 = .ok (.ireturn, 1) := dk_172 (dk_at dksX3_lumps_0 11 rfl rfl)
abbrev cX3_lumpsAgain : ByteArray := prog_9_method_102_code
def yX3_lumpsAgain : MethodName := ⟨RX3, "lumpsAgain", "()I"⟩
def dkwX3_lumpsAgain_1 : List UInt8 := [16, 7, 46, 100, 172]
abbrev dktX3_lumpsAgain_1 : List UInt8 := dkwX3_lumpsAgain_1 ++ []
def dkwX3_lumpsAgain_0 : List UInt8 := [42, 3, 181, 0, 42, 42, 180, 0, 16, 8, 46, 42, 180, 0, 16, 16, 6, 46, 100, 42, 180, 0, 16]
abbrev dktX3_lumpsAgain_0 : List UInt8 := dkwX3_lumpsAgain_0 ++ dktX3_lumpsAgain_1
theorem dksX3_lumpsAgain_0 : cX3_lumpsAgain.data.toList.drop 0 = dktX3_lumpsAgain_0 := by decide +kernel
theorem dksX3_lumpsAgain_1 : cX3_lumpsAgain.data.toList.drop 23 = dktX3_lumpsAgain_1 := dk_seg dksX3_lumpsAgain_0 23 rfl rfl
theorem dX3_lumpsAgain_0 : decode cX3_lumpsAgain 0 = .ok (.aload_n 0, 1) := dk_42 (dk_at dksX3_lumpsAgain_0 0 rfl rfl)
theorem dX3_lumpsAgain_1 : decode cX3_lumpsAgain 1 = .ok (.iconst 0, 1) := dk_3 (dk_at dksX3_lumpsAgain_0 1 rfl rfl)
theorem dX3_lumpsAgain_2 : decode cX3_lumpsAgain 2 = .ok (.putfield 42, 3) := dk_181 0 42 (dk_at dksX3_lumpsAgain_0 2 rfl rfl)
theorem dX3_lumpsAgain_5 : decode cX3_lumpsAgain 5 = .ok (.aload_n 0, 1) := dk_42 (dk_at dksX3_lumpsAgain_0 5 rfl rfl)
theorem dX3_lumpsAgain_6 : decode cX3_lumpsAgain 6 = .ok (.getfield 16, 3) := dk_180 0 16 (dk_at dksX3_lumpsAgain_0 6 rfl rfl)
theorem dX3_lumpsAgain_9 : decode cX3_lumpsAgain 9 = .ok (.iconst 5, 1) := dk_8 (dk_at dksX3_lumpsAgain_0 9 rfl rfl)
theorem dX3_lumpsAgain_10 : decode cX3_lumpsAgain 10 = .ok (.iaload, 1) := dk_46 (dk_at dksX3_lumpsAgain_0 10 rfl rfl)
theorem dX3_lumpsAgain_11 : decode cX3_lumpsAgain 11 = .ok (.aload_n 0, 1) := dk_42 (dk_at dksX3_lumpsAgain_0 11 rfl rfl)
theorem dX3_lumpsAgain_12 : decode cX3_lumpsAgain 12 = .ok (.getfield 16, 3) := dk_180 0 16 (dk_at dksX3_lumpsAgain_0 12 rfl rfl)
theorem dX3_lumpsAgain_15 : decode cX3_lumpsAgain 15 = .ok (.bipush 6, 2) := dk_16 6 (dk_at dksX3_lumpsAgain_0 15 rfl rfl)
theorem dX3_lumpsAgain_17 : decode cX3_lumpsAgain 17 = .ok (.iaload, 1) := dk_46 (dk_at dksX3_lumpsAgain_0 17 rfl rfl)
theorem dX3_lumpsAgain_18 : decode cX3_lumpsAgain 18 = .ok (.isub, 1) := dk_100 (dk_at dksX3_lumpsAgain_0 18 rfl rfl)
theorem dX3_lumpsAgain_19 : decode cX3_lumpsAgain 19 = .ok (.aload_n 0, 1) := dk_42 (dk_at dksX3_lumpsAgain_0 19 rfl rfl)
theorem dX3_lumpsAgain_20 : decode cX3_lumpsAgain 20 = .ok (.getfield 16, 3) := dk_180 0 16 (dk_at dksX3_lumpsAgain_0 20 rfl rfl)
theorem dX3_lumpsAgain_23 : decode cX3_lumpsAgain 23 = .ok (.bipush 7, 2) := dk_16 7 (dk_at dksX3_lumpsAgain_1 0 rfl rfl)
theorem dX3_lumpsAgain_25 : decode cX3_lumpsAgain 25 = .ok (.iaload, 1) := dk_46 (dk_at dksX3_lumpsAgain_1 2 rfl rfl)
theorem dX3_lumpsAgain_26 : decode cX3_lumpsAgain 26 = .ok (.isub, 1) := dk_100 (dk_at dksX3_lumpsAgain_1 3 rfl rfl)
theorem dX3_lumpsAgain_27 : decode cX3_lumpsAgain 27 = .ok (.ireturn, 1) := dk_172 (dk_at dksX3_lumpsAgain_1 4 rfl rfl)
abbrev cX3_append : ByteArray := prog_9_method_103_code
def yX3_append : MethodName := ⟨RX3, "append", "(C)I"⟩
def dkwX3_append_2 : List UInt8 := [42, 89, 180, 0, 243, 4, 96, 181, 0, 243, 42, 180, 0, 243, 172]
abbrev dktX3_append_2 : List UInt8 := dkwX3_append_2 ++ []
def dkwX3_append_1 : List UInt8 := [180, 0, 243, 16, 60, 160, 0, 9, 42, 5, 182, 0, 61, 172, 42, 180, 0, 28, 42, 180, 0, 243, 27, 85]
abbrev dktX3_append_1 : List UInt8 := dkwX3_append_1 ++ dktX3_append_2
def dkwX3_append_0 : List UInt8 := [42, 3, 181, 0, 42, 27, 16, 33, 16, 126, 184, 0, 77, 154, 0, 9, 42, 4, 182, 0, 61, 172, 42]
abbrev dktX3_append_0 : List UInt8 := dkwX3_append_0 ++ dktX3_append_1
theorem dksX3_append_0 : cX3_append.data.toList.drop 0 = dktX3_append_0 := by decide +kernel
theorem dksX3_append_1 : cX3_append.data.toList.drop 23 = dktX3_append_1 := dk_seg dksX3_append_0 23 rfl rfl
theorem dksX3_append_2 : cX3_append.data.toList.drop 47 = dktX3_append_2 := dk_seg dksX3_append_1 24 rfl rfl
theorem dX3_append_0 : decode cX3_append 0 = .ok (.aload_n 0, 1) := dk_42 (dk_at dksX3_append_0 0 rfl rfl)
theorem dX3_append_1 : decode cX3_append 1 = .ok (.iconst 0, 1) := dk_3 (dk_at dksX3_append_0 1 rfl rfl)
theorem dX3_append_2 : decode cX3_append 2 = .ok (.putfield 42, 3) := dk_181 0 42 (dk_at dksX3_append_0 2 rfl rfl)
theorem dX3_append_5 : decode cX3_append 5 = .ok (.iload_n 1, 1) := dk_27 (dk_at dksX3_append_0 5 rfl rfl)
theorem dX3_append_6 : decode cX3_append 6 = .ok (.bipush 33, 2) := dk_16 33 (dk_at dksX3_append_0 6 rfl rfl)
theorem dX3_append_8 : decode cX3_append 8 = .ok (.bipush 126, 2) := dk_16 126 (dk_at dksX3_append_0 8 rfl rfl)
theorem dX3_append_10 : decode cX3_append 10 = .ok (.invokestatic 77, 3) := dk_184 0 77 (dk_at dksX3_append_0 10 rfl rfl)
theorem dX3_append_13 : decode cX3_append 13 = .ok (.ifCond .ne 9, 3) := dk_154 0 9 (dk_at dksX3_append_0 13 rfl rfl)
theorem dX3_append_16 : decode cX3_append 16 = .ok (.aload_n 0, 1) := dk_42 (dk_at dksX3_append_0 16 rfl rfl)
theorem dX3_append_17 : decode cX3_append 17 = .ok (.iconst 1, 1) := dk_4 (dk_at dksX3_append_0 17 rfl rfl)
theorem dX3_append_18 : decode cX3_append 18 = .ok (.invokevirtual 61, 3) := dk_182 0 61 (dk_at dksX3_append_0 18 rfl rfl)
theorem dX3_append_21 : decode cX3_append 21 = .ok (.ireturn, 1) := dk_172 (dk_at dksX3_append_0 21 rfl rfl)
theorem dX3_append_22 : decode cX3_append 22 = .ok (.aload_n 0, 1) := dk_42 (dk_at dksX3_append_0 22 rfl rfl)
theorem dX3_append_23 : decode cX3_append 23 = .ok (.getfield 243, 3) := dk_180 0 243 (dk_at dksX3_append_1 0 rfl rfl)
theorem dX3_append_26 : decode cX3_append 26 = .ok (.bipush 60, 2) := dk_16 60 (dk_at dksX3_append_1 3 rfl rfl)
theorem dX3_append_28 : decode cX3_append 28 = .ok (.if_icmp .ne 9, 3) := dk_160 0 9 (dk_at dksX3_append_1 5 rfl rfl)
theorem dX3_append_31 : decode cX3_append 31 = .ok (.aload_n 0, 1) := dk_42 (dk_at dksX3_append_1 8 rfl rfl)
theorem dX3_append_32 : decode cX3_append 32 = .ok (.iconst 2, 1) := dk_5 (dk_at dksX3_append_1 9 rfl rfl)
theorem dX3_append_33 : decode cX3_append 33 = .ok (.invokevirtual 61, 3) := dk_182 0 61 (dk_at dksX3_append_1 10 rfl rfl)
theorem dX3_append_36 : decode cX3_append 36 = .ok (.ireturn, 1) := dk_172 (dk_at dksX3_append_1 13 rfl rfl)
theorem dX3_append_37 : decode cX3_append 37 = .ok (.aload_n 0, 1) := dk_42 (dk_at dksX3_append_1 14 rfl rfl)
theorem dX3_append_38 : decode cX3_append 38 = .ok (.getfield 28, 3) := dk_180 0 28 (dk_at dksX3_append_1 15 rfl rfl)
theorem dX3_append_41 : decode cX3_append 41 = .ok (.aload_n 0, 1) := dk_42 (dk_at dksX3_append_1 18 rfl rfl)
theorem dX3_append_42 : decode cX3_append 42 = .ok (.getfield 243, 3) := dk_180 0 243 (dk_at dksX3_append_1 19 rfl rfl)
theorem dX3_append_45 : decode cX3_append 45 = .ok (.iload_n 1, 1) := dk_27 (dk_at dksX3_append_1 22 rfl rfl)
theorem dX3_append_46 : decode cX3_append 46 = .ok (.castore, 1) := dk_85 (dk_at dksX3_append_1 23 rfl rfl)
theorem dX3_append_47 : decode cX3_append 47 = .ok (.aload_n 0, 1) := dk_42 (dk_at dksX3_append_2 0 rfl rfl)
theorem dX3_append_48 : decode cX3_append 48 = .ok (.dup, 1) := dk_89 (dk_at dksX3_append_2 1 rfl rfl)
theorem dX3_append_49 : decode cX3_append 49 = .ok (.getfield 243, 3) := dk_180 0 243 (dk_at dksX3_append_2 2 rfl rfl)
theorem dX3_append_52 : decode cX3_append 52 = .ok (.iconst 1, 1) := dk_4 (dk_at dksX3_append_2 5 rfl rfl)
theorem dX3_append_53 : decode cX3_append 53 = .ok (.iadd, 1) := dk_96 (dk_at dksX3_append_2 6 rfl rfl)
theorem dX3_append_54 : decode cX3_append 54 = .ok (.putfield 243, 3) := dk_181 0 243 (dk_at dksX3_append_2 7 rfl rfl)
theorem dX3_append_57 : decode cX3_append 57 = .ok (.aload_n 0, 1) := dk_42 (dk_at dksX3_append_2 10 rfl rfl)
theorem dX3_append_58 : decode cX3_append 58 = .ok (.getfield 243, 3) := dk_180 0 243 (dk_at dksX3_append_2 11 rfl rfl)
theorem dX3_append_61 : decode cX3_append 61 = .ok (.ireturn, 1) := dk_172 (dk_at dksX3_append_2 14 rfl rfl)
abbrev cX3_run : ByteArray := prog_9_method_116_code
def yX3_run : MethodName := ⟨RX3, "run", "()I"⟩
def dkwX3_run_4 : List UInt8 := [182, 0, 57, 42, 5, 42, 180, 0, 51, 42, 180, 0, 54, 182, 0, 57, 42, 5, 182, 0, 61, 172]
abbrev dktX3_run_4 : List UInt8 := dkwX3_run_4 ++ []
def dkwX3_run_3 : List UInt8 := [182, 0, 197, 42, 3, 16, 16, 42, 180, 1, 21, 182, 0, 57, 42, 4, 42, 180, 0, 45, 42, 180, 0, 48]
abbrev dktX3_run_3 : List UInt8 := dkwX3_run_3 ++ dktX3_run_4
def dkwX3_run_2 : List UInt8 := [182, 1, 33, 61, 42, 3, 181, 0, 243, 28, 153, 0, 12, 42, 182, 0, 74, 42, 180, 1, 21, 172, 42]
abbrev dktX3_run_2 : List UInt8 := dkwX3_run_2 ++ dktX3_run_3
def dkwX3_run_1 : List UInt8 := [181, 0, 32, 27, 154, 0, 14, 42, 3, 181, 0, 243, 42, 4, 182, 0, 61, 172, 42, 182, 0, 71, 42]
abbrev dktX3_run_1 : List UInt8 := dkwX3_run_1 ++ dktX3_run_2
def dkwX3_run_0 : List UInt8 := [42, 3, 181, 0, 42, 42, 182, 1, 30, 60, 42, 27, 153, 0, 7, 2, 167, 0, 7, 42, 180, 0, 246]
abbrev dktX3_run_0 : List UInt8 := dkwX3_run_0 ++ dktX3_run_1
theorem dksX3_run_0 : cX3_run.data.toList.drop 0 = dktX3_run_0 := by decide +kernel
theorem dksX3_run_1 : cX3_run.data.toList.drop 23 = dktX3_run_1 := dk_seg dksX3_run_0 23 rfl rfl
theorem dksX3_run_2 : cX3_run.data.toList.drop 46 = dktX3_run_2 := dk_seg dksX3_run_1 23 rfl rfl
theorem dksX3_run_3 : cX3_run.data.toList.drop 69 = dktX3_run_3 := dk_seg dksX3_run_2 23 rfl rfl
theorem dksX3_run_4 : cX3_run.data.toList.drop 93 = dktX3_run_4 := dk_seg dksX3_run_3 24 rfl rfl
theorem dX3_run_0 : decode cX3_run 0 = .ok (.aload_n 0, 1) := dk_42 (dk_at dksX3_run_0 0 rfl rfl)
theorem dX3_run_1 : decode cX3_run 1 = .ok (.iconst 0, 1) := dk_3 (dk_at dksX3_run_0 1 rfl rfl)
theorem dX3_run_2 : decode cX3_run 2 = .ok (.putfield 42, 3) := dk_181 0 42 (dk_at dksX3_run_0 2 rfl rfl)
theorem dX3_run_5 : decode cX3_run 5 = .ok (.aload_n 0, 1) := dk_42 (dk_at dksX3_run_0 5 rfl rfl)
theorem dX3_run_6 : decode cX3_run 6 = .ok (.invokevirtual 286, 3) := dk_182 1 30 (dk_at dksX3_run_0 6 rfl rfl)
theorem dX3_run_9 : decode cX3_run 9 = .ok (.istore_n 1, 1) := dk_60 (dk_at dksX3_run_0 9 rfl rfl)
theorem dX3_run_10 : decode cX3_run 10 = .ok (.aload_n 0, 1) := dk_42 (dk_at dksX3_run_0 10 rfl rfl)
theorem dX3_run_11 : decode cX3_run 11 = .ok (.iload_n 1, 1) := dk_27 (dk_at dksX3_run_0 11 rfl rfl)
theorem dX3_run_12 : decode cX3_run 12 = .ok (.ifCond .eq 7, 3) := dk_153 0 7 (dk_at dksX3_run_0 12 rfl rfl)
theorem dX3_run_15 : decode cX3_run 15 = .ok (.iconst (-1), 1) := dk_2 (dk_at dksX3_run_0 15 rfl rfl)
theorem dX3_run_16 : decode cX3_run 16 = .ok (.goto 7, 3) := dk_167 0 7 (dk_at dksX3_run_0 16 rfl rfl)
theorem dX3_run_19 : decode cX3_run 19 = .ok (.aload_n 0, 1) := dk_42 (dk_at dksX3_run_0 19 rfl rfl)
theorem dX3_run_20 : decode cX3_run 20 = .ok (.getfield 246, 3) := dk_180 0 246 (dk_at dksX3_run_0 20 rfl rfl)
theorem dX3_run_23 : decode cX3_run 23 = .ok (.putfield 32, 3) := dk_181 0 32 (dk_at dksX3_run_1 0 rfl rfl)
theorem dX3_run_26 : decode cX3_run 26 = .ok (.iload_n 1, 1) := dk_27 (dk_at dksX3_run_1 3 rfl rfl)
theorem dX3_run_27 : decode cX3_run 27 = .ok (.ifCond .ne 14, 3) := dk_154 0 14 (dk_at dksX3_run_1 4 rfl rfl)
theorem dX3_run_30 : decode cX3_run 30 = .ok (.aload_n 0, 1) := dk_42 (dk_at dksX3_run_1 7 rfl rfl)
theorem dX3_run_31 : decode cX3_run 31 = .ok (.iconst 0, 1) := dk_3 (dk_at dksX3_run_1 8 rfl rfl)
theorem dX3_run_32 : decode cX3_run 32 = .ok (.putfield 243, 3) := dk_181 0 243 (dk_at dksX3_run_1 9 rfl rfl)
theorem dX3_run_35 : decode cX3_run 35 = .ok (.aload_n 0, 1) := dk_42 (dk_at dksX3_run_1 12 rfl rfl)
theorem dX3_run_36 : decode cX3_run 36 = .ok (.iconst 1, 1) := dk_4 (dk_at dksX3_run_1 13 rfl rfl)
theorem dX3_run_37 : decode cX3_run 37 = .ok (.invokevirtual 61, 3) := dk_182 0 61 (dk_at dksX3_run_1 14 rfl rfl)
theorem dX3_run_40 : decode cX3_run 40 = .ok (.ireturn, 1) := dk_172 (dk_at dksX3_run_1 17 rfl rfl)
theorem dX3_run_41 : decode cX3_run 41 = .ok (.aload_n 0, 1) := dk_42 (dk_at dksX3_run_1 18 rfl rfl)
theorem dX3_run_42 : decode cX3_run 42 = .ok (.invokevirtual 71, 3) := dk_182 0 71 (dk_at dksX3_run_1 19 rfl rfl)
theorem dX3_run_45 : decode cX3_run 45 = .ok (.aload_n 0, 1) := dk_42 (dk_at dksX3_run_1 22 rfl rfl)
theorem dX3_run_46 : decode cX3_run 46 = .ok (.invokevirtual 289, 3) := dk_182 1 33 (dk_at dksX3_run_2 0 rfl rfl)
theorem dX3_run_49 : decode cX3_run 49 = .ok (.istore_n 2, 1) := dk_61 (dk_at dksX3_run_2 3 rfl rfl)
theorem dX3_run_50 : decode cX3_run 50 = .ok (.aload_n 0, 1) := dk_42 (dk_at dksX3_run_2 4 rfl rfl)
theorem dX3_run_51 : decode cX3_run 51 = .ok (.iconst 0, 1) := dk_3 (dk_at dksX3_run_2 5 rfl rfl)
theorem dX3_run_52 : decode cX3_run 52 = .ok (.putfield 243, 3) := dk_181 0 243 (dk_at dksX3_run_2 6 rfl rfl)
theorem dX3_run_55 : decode cX3_run 55 = .ok (.iload_n 2, 1) := dk_28 (dk_at dksX3_run_2 9 rfl rfl)
theorem dX3_run_56 : decode cX3_run 56 = .ok (.ifCond .eq 12, 3) := dk_153 0 12 (dk_at dksX3_run_2 10 rfl rfl)
theorem dX3_run_59 : decode cX3_run 59 = .ok (.aload_n 0, 1) := dk_42 (dk_at dksX3_run_2 13 rfl rfl)
theorem dX3_run_60 : decode cX3_run 60 = .ok (.invokevirtual 74, 3) := dk_182 0 74 (dk_at dksX3_run_2 14 rfl rfl)
theorem dX3_run_63 : decode cX3_run 63 = .ok (.aload_n 0, 1) := dk_42 (dk_at dksX3_run_2 17 rfl rfl)
theorem dX3_run_64 : decode cX3_run 64 = .ok (.getfield 277, 3) := dk_180 1 21 (dk_at dksX3_run_2 18 rfl rfl)
theorem dX3_run_67 : decode cX3_run 67 = .ok (.ireturn, 1) := dk_172 (dk_at dksX3_run_2 21 rfl rfl)
theorem dX3_run_68 : decode cX3_run 68 = .ok (.aload_n 0, 1) := dk_42 (dk_at dksX3_run_2 22 rfl rfl)
theorem dX3_run_69 : decode cX3_run 69 = .ok (.invokevirtual 197, 3) := dk_182 0 197 (dk_at dksX3_run_3 0 rfl rfl)
theorem dX3_run_72 : decode cX3_run 72 = .ok (.aload_n 0, 1) := dk_42 (dk_at dksX3_run_3 3 rfl rfl)
theorem dX3_run_73 : decode cX3_run 73 = .ok (.iconst 0, 1) := dk_3 (dk_at dksX3_run_3 4 rfl rfl)
theorem dX3_run_74 : decode cX3_run 74 = .ok (.bipush 16, 2) := dk_16 16 (dk_at dksX3_run_3 5 rfl rfl)
theorem dX3_run_76 : decode cX3_run 76 = .ok (.aload_n 0, 1) := dk_42 (dk_at dksX3_run_3 7 rfl rfl)
theorem dX3_run_77 : decode cX3_run 77 = .ok (.getfield 277, 3) := dk_180 1 21 (dk_at dksX3_run_3 8 rfl rfl)
theorem dX3_run_80 : decode cX3_run 80 = .ok (.invokevirtual 57, 3) := dk_182 0 57 (dk_at dksX3_run_3 11 rfl rfl)
theorem dX3_run_83 : decode cX3_run 83 = .ok (.aload_n 0, 1) := dk_42 (dk_at dksX3_run_3 14 rfl rfl)
theorem dX3_run_84 : decode cX3_run 84 = .ok (.iconst 1, 1) := dk_4 (dk_at dksX3_run_3 15 rfl rfl)
theorem dX3_run_85 : decode cX3_run 85 = .ok (.aload_n 0, 1) := dk_42 (dk_at dksX3_run_3 16 rfl rfl)
theorem dX3_run_86 : decode cX3_run 86 = .ok (.getfield 45, 3) := dk_180 0 45 (dk_at dksX3_run_3 17 rfl rfl)
theorem dX3_run_89 : decode cX3_run 89 = .ok (.aload_n 0, 1) := dk_42 (dk_at dksX3_run_3 20 rfl rfl)
theorem dX3_run_90 : decode cX3_run 90 = .ok (.getfield 48, 3) := dk_180 0 48 (dk_at dksX3_run_3 21 rfl rfl)
theorem dX3_run_93 : decode cX3_run 93 = .ok (.invokevirtual 57, 3) := dk_182 0 57 (dk_at dksX3_run_4 0 rfl rfl)
theorem dX3_run_96 : decode cX3_run 96 = .ok (.aload_n 0, 1) := dk_42 (dk_at dksX3_run_4 3 rfl rfl)
theorem dX3_run_97 : decode cX3_run 97 = .ok (.iconst 2, 1) := dk_5 (dk_at dksX3_run_4 4 rfl rfl)
theorem dX3_run_98 : decode cX3_run 98 = .ok (.aload_n 0, 1) := dk_42 (dk_at dksX3_run_4 5 rfl rfl)
theorem dX3_run_99 : decode cX3_run 99 = .ok (.getfield 51, 3) := dk_180 0 51 (dk_at dksX3_run_4 6 rfl rfl)
theorem dX3_run_102 : decode cX3_run 102 = .ok (.aload_n 0, 1) := dk_42 (dk_at dksX3_run_4 9 rfl rfl)
theorem dX3_run_103 : decode cX3_run 103 = .ok (.getfield 54, 3) := dk_180 0 54 (dk_at dksX3_run_4 10 rfl rfl)
theorem dX3_run_106 : decode cX3_run 106 = .ok (.invokevirtual 57, 3) := dk_182 0 57 (dk_at dksX3_run_4 13 rfl rfl)
theorem dX3_run_109 : decode cX3_run 109 = .ok (.aload_n 0, 1) := dk_42 (dk_at dksX3_run_4 16 rfl rfl)
theorem dX3_run_110 : decode cX3_run 110 = .ok (.iconst 2, 1) := dk_5 (dk_at dksX3_run_4 17 rfl rfl)
theorem dX3_run_111 : decode cX3_run 111 = .ok (.invokevirtual 61, 3) := dk_182 0 61 (dk_at dksX3_run_4 18 rfl rfl)
theorem dX3_run_114 : decode cX3_run 114 = .ok (.ireturn, 1) := dk_172 (dk_at dksX3_run_4 21 rfl rfl)
abbrev cX3_readsAll : ByteArray := prog_9_method_112_code
def yX3_readsAll : MethodName := ⟨RX3, "readsAll", "()Z"⟩
def dkwX3_readsAll_1 : List UInt8 := [182, 1, 3, 60, 167, 255, 236, 42, 180, 0, 246, 42, 180, 0, 243, 160, 0, 7, 4, 167, 0, 4, 3, 172]
abbrev dktX3_readsAll_1 : List UInt8 := dkwX3_readsAll_1 ++ []
def dkwX3_readsAll_0 : List UInt8 := [42, 3, 181, 0, 246, 4, 60, 27, 153, 0, 22, 42, 182, 1, 18, 154, 0, 5, 3, 172, 42, 16, 59]
abbrev dktX3_readsAll_0 : List UInt8 := dkwX3_readsAll_0 ++ dktX3_readsAll_1
theorem dksX3_readsAll_0 : cX3_readsAll.data.toList.drop 0 = dktX3_readsAll_0 := by decide +kernel
theorem dksX3_readsAll_1 : cX3_readsAll.data.toList.drop 23 = dktX3_readsAll_1 := dk_seg dksX3_readsAll_0 23 rfl rfl
theorem dX3_readsAll_0 : decode cX3_readsAll 0 = .ok (.aload_n 0, 1) := dk_42 (dk_at dksX3_readsAll_0 0 rfl rfl)
theorem dX3_readsAll_1 : decode cX3_readsAll 1 = .ok (.iconst 0, 1) := dk_3 (dk_at dksX3_readsAll_0 1 rfl rfl)
theorem dX3_readsAll_2 : decode cX3_readsAll 2 = .ok (.putfield 246, 3) := dk_181 0 246 (dk_at dksX3_readsAll_0 2 rfl rfl)
theorem dX3_readsAll_5 : decode cX3_readsAll 5 = .ok (.iconst 1, 1) := dk_4 (dk_at dksX3_readsAll_0 5 rfl rfl)
theorem dX3_readsAll_6 : decode cX3_readsAll 6 = .ok (.istore_n 1, 1) := dk_60 (dk_at dksX3_readsAll_0 6 rfl rfl)
theorem dX3_readsAll_7 : decode cX3_readsAll 7 = .ok (.iload_n 1, 1) := dk_27 (dk_at dksX3_readsAll_0 7 rfl rfl)
theorem dX3_readsAll_8 : decode cX3_readsAll 8 = .ok (.ifCond .eq 22, 3) := dk_153 0 22 (dk_at dksX3_readsAll_0 8 rfl rfl)
theorem dX3_readsAll_11 : decode cX3_readsAll 11 = .ok (.aload_n 0, 1) := dk_42 (dk_at dksX3_readsAll_0 11 rfl rfl)
theorem dX3_readsAll_12 : decode cX3_readsAll 12 = .ok (.invokevirtual 274, 3) := dk_182 1 18 (dk_at dksX3_readsAll_0 12 rfl rfl)
theorem dX3_readsAll_15 : decode cX3_readsAll 15 = .ok (.ifCond .ne 5, 3) := dk_154 0 5 (dk_at dksX3_readsAll_0 15 rfl rfl)
theorem dX3_readsAll_18 : decode cX3_readsAll 18 = .ok (.iconst 0, 1) := dk_3 (dk_at dksX3_readsAll_0 18 rfl rfl)
theorem dX3_readsAll_19 : decode cX3_readsAll 19 = .ok (.ireturn, 1) := dk_172 (dk_at dksX3_readsAll_0 19 rfl rfl)
theorem dX3_readsAll_20 : decode cX3_readsAll 20 = .ok (.aload_n 0, 1) := dk_42 (dk_at dksX3_readsAll_0 20 rfl rfl)
theorem dX3_readsAll_21 : decode cX3_readsAll 21 = .ok (.bipush 59, 2) := dk_16 59 (dk_at dksX3_readsAll_0 21 rfl rfl)
theorem dX3_readsAll_23 : decode cX3_readsAll 23 = .ok (.invokevirtual 259, 3) := dk_182 1 3 (dk_at dksX3_readsAll_1 0 rfl rfl)
theorem dX3_readsAll_26 : decode cX3_readsAll 26 = .ok (.istore_n 1, 1) := dk_60 (dk_at dksX3_readsAll_1 3 rfl rfl)
theorem dX3_readsAll_27 : decode cX3_readsAll 27 = .ok (.goto (-20), 3) := dk_167 255 236 (dk_at dksX3_readsAll_1 4 rfl rfl)
theorem dX3_readsAll_30 : decode cX3_readsAll 30 = .ok (.aload_n 0, 1) := dk_42 (dk_at dksX3_readsAll_1 7 rfl rfl)
theorem dX3_readsAll_31 : decode cX3_readsAll 31 = .ok (.getfield 246, 3) := dk_180 0 246 (dk_at dksX3_readsAll_1 8 rfl rfl)
theorem dX3_readsAll_34 : decode cX3_readsAll 34 = .ok (.aload_n 0, 1) := dk_42 (dk_at dksX3_readsAll_1 11 rfl rfl)
theorem dX3_readsAll_35 : decode cX3_readsAll 35 = .ok (.getfield 243, 3) := dk_180 0 243 (dk_at dksX3_readsAll_1 12 rfl rfl)
theorem dX3_readsAll_38 : decode cX3_readsAll 38 = .ok (.if_icmp .ne 7, 3) := dk_160 0 7 (dk_at dksX3_readsAll_1 15 rfl rfl)
theorem dX3_readsAll_41 : decode cX3_readsAll 41 = .ok (.iconst 1, 1) := dk_4 (dk_at dksX3_readsAll_1 18 rfl rfl)
theorem dX3_readsAll_42 : decode cX3_readsAll 42 = .ok (.goto 4, 3) := dk_167 0 4 (dk_at dksX3_readsAll_1 19 rfl rfl)
theorem dX3_readsAll_45 : decode cX3_readsAll 45 = .ok (.iconst 0, 1) := dk_3 (dk_at dksX3_readsAll_1 22 rfl rfl)
theorem dX3_readsAll_46 : decode cX3_readsAll 46 = .ok (.ireturn, 1) := dk_172 (dk_at dksX3_readsAll_1 23 rfl rfl)
abbrev cX3_readsOrder : ByteArray := prog_9_method_111_code
def yX3_readsOrder : MethodName := ⟨RX3, "readsOrder", "()Z"⟩
def dkwX3_readsOrder_5 : List UInt8 := [16, 104, 16, 7, 182, 1, 12, 153, 0, 14, 42, 182, 1, 15, 153, 0, 7, 4, 167, 0, 4, 3, 172]
abbrev dktX3_readsOrder_5 : List UInt8 := dkwX3_readsOrder_5 ++ []
def dkwX3_readsOrder_4 : List UInt8 := [16, 42, 182, 1, 3, 153, 0, 15, 42, 4, 182, 1, 0, 153, 0, 7, 4, 167, 0, 4, 3, 172, 42]
abbrev dktX3_readsOrder_4 : List UInt8 := dkwX3_readsOrder_4 ++ dktX3_readsOrder_5
def dkwX3_readsOrder_3 : List UInt8 := [182, 1, 9, 172, 42, 16, 100, 16, 6, 182, 1, 12, 153, 0, 34, 42, 3, 182, 1, 0, 153, 0, 24, 42]
abbrev dktX3_readsOrder_3 : List UInt8 := dkwX3_readsOrder_3 ++ dktX3_readsOrder_4
def dkwX3_readsOrder_2 : List UInt8 := [182, 1, 12, 153, 0, 9, 42, 3, 182, 1, 0, 172, 42, 16, 99, 6, 182, 1, 12, 153, 0, 8, 42]
abbrev dktX3_readsOrder_2 : List UInt8 := dkwX3_readsOrder_2 ++ dktX3_readsOrder_3
def dkwX3_readsOrder_1 : List UInt8 := [16, 115, 5, 182, 1, 12, 154, 0, 23, 42, 16, 112, 7, 182, 1, 12, 154, 0, 13, 42, 16, 120, 8]
abbrev dktX3_readsOrder_1 : List UInt8 := dkwX3_readsOrder_1 ++ dktX3_readsOrder_2
def dkwX3_readsOrder_0 : List UInt8 := [42, 16, 109, 4, 182, 1, 12, 153, 0, 5, 4, 172, 42, 16, 98, 3, 182, 1, 12, 154, 0, 33, 42]
abbrev dktX3_readsOrder_0 : List UInt8 := dkwX3_readsOrder_0 ++ dktX3_readsOrder_1
theorem dksX3_readsOrder_0 : cX3_readsOrder.data.toList.drop 0 = dktX3_readsOrder_0 := by decide +kernel
theorem dksX3_readsOrder_1 : cX3_readsOrder.data.toList.drop 23 = dktX3_readsOrder_1 := dk_seg dksX3_readsOrder_0 23 rfl rfl
theorem dksX3_readsOrder_2 : cX3_readsOrder.data.toList.drop 46 = dktX3_readsOrder_2 := dk_seg dksX3_readsOrder_1 23 rfl rfl
theorem dksX3_readsOrder_3 : cX3_readsOrder.data.toList.drop 69 = dktX3_readsOrder_3 := dk_seg dksX3_readsOrder_2 23 rfl rfl
theorem dksX3_readsOrder_4 : cX3_readsOrder.data.toList.drop 93 = dktX3_readsOrder_4 := dk_seg dksX3_readsOrder_3 24 rfl rfl
theorem dksX3_readsOrder_5 : cX3_readsOrder.data.toList.drop 116 = dktX3_readsOrder_5 := dk_seg dksX3_readsOrder_4 23 rfl rfl
theorem dX3_readsOrder_0 : decode cX3_readsOrder 0 = .ok (.aload_n 0, 1) := dk_42 (dk_at dksX3_readsOrder_0 0 rfl rfl)
theorem dX3_readsOrder_1 : decode cX3_readsOrder 1 = .ok (.bipush 109, 2) := dk_16 109 (dk_at dksX3_readsOrder_0 1 rfl rfl)
theorem dX3_readsOrder_3 : decode cX3_readsOrder 3 = .ok (.iconst 1, 1) := dk_4 (dk_at dksX3_readsOrder_0 3 rfl rfl)
theorem dX3_readsOrder_4 : decode cX3_readsOrder 4 = .ok (.invokevirtual 268, 3) := dk_182 1 12 (dk_at dksX3_readsOrder_0 4 rfl rfl)
theorem dX3_readsOrder_7 : decode cX3_readsOrder 7 = .ok (.ifCond .eq 5, 3) := dk_153 0 5 (dk_at dksX3_readsOrder_0 7 rfl rfl)
theorem dX3_readsOrder_10 : decode cX3_readsOrder 10 = .ok (.iconst 1, 1) := dk_4 (dk_at dksX3_readsOrder_0 10 rfl rfl)
theorem dX3_readsOrder_11 : decode cX3_readsOrder 11 = .ok (.ireturn, 1) := dk_172 (dk_at dksX3_readsOrder_0 11 rfl rfl)
theorem dX3_readsOrder_12 : decode cX3_readsOrder 12 = .ok (.aload_n 0, 1) := dk_42 (dk_at dksX3_readsOrder_0 12 rfl rfl)
theorem dX3_readsOrder_13 : decode cX3_readsOrder 13 = .ok (.bipush 98, 2) := dk_16 98 (dk_at dksX3_readsOrder_0 13 rfl rfl)
theorem dX3_readsOrder_15 : decode cX3_readsOrder 15 = .ok (.iconst 0, 1) := dk_3 (dk_at dksX3_readsOrder_0 15 rfl rfl)
theorem dX3_readsOrder_16 : decode cX3_readsOrder 16 = .ok (.invokevirtual 268, 3) := dk_182 1 12 (dk_at dksX3_readsOrder_0 16 rfl rfl)
theorem dX3_readsOrder_19 : decode cX3_readsOrder 19 = .ok (.ifCond .ne 33, 3) := dk_154 0 33 (dk_at dksX3_readsOrder_0 19 rfl rfl)
theorem dX3_readsOrder_22 : decode cX3_readsOrder 22 = .ok (.aload_n 0, 1) := dk_42 (dk_at dksX3_readsOrder_0 22 rfl rfl)
theorem dX3_readsOrder_23 : decode cX3_readsOrder 23 = .ok (.bipush 115, 2) := dk_16 115 (dk_at dksX3_readsOrder_1 0 rfl rfl)
theorem dX3_readsOrder_25 : decode cX3_readsOrder 25 = .ok (.iconst 2, 1) := dk_5 (dk_at dksX3_readsOrder_1 2 rfl rfl)
theorem dX3_readsOrder_26 : decode cX3_readsOrder 26 = .ok (.invokevirtual 268, 3) := dk_182 1 12 (dk_at dksX3_readsOrder_1 3 rfl rfl)
theorem dX3_readsOrder_29 : decode cX3_readsOrder 29 = .ok (.ifCond .ne 23, 3) := dk_154 0 23 (dk_at dksX3_readsOrder_1 6 rfl rfl)
theorem dX3_readsOrder_32 : decode cX3_readsOrder 32 = .ok (.aload_n 0, 1) := dk_42 (dk_at dksX3_readsOrder_1 9 rfl rfl)
theorem dX3_readsOrder_33 : decode cX3_readsOrder 33 = .ok (.bipush 112, 2) := dk_16 112 (dk_at dksX3_readsOrder_1 10 rfl rfl)
theorem dX3_readsOrder_35 : decode cX3_readsOrder 35 = .ok (.iconst 4, 1) := dk_7 (dk_at dksX3_readsOrder_1 12 rfl rfl)
theorem dX3_readsOrder_36 : decode cX3_readsOrder 36 = .ok (.invokevirtual 268, 3) := dk_182 1 12 (dk_at dksX3_readsOrder_1 13 rfl rfl)
theorem dX3_readsOrder_39 : decode cX3_readsOrder 39 = .ok (.ifCond .ne 13, 3) := dk_154 0 13 (dk_at dksX3_readsOrder_1 16 rfl rfl)
theorem dX3_readsOrder_42 : decode cX3_readsOrder 42 = .ok (.aload_n 0, 1) := dk_42 (dk_at dksX3_readsOrder_1 19 rfl rfl)
theorem dX3_readsOrder_43 : decode cX3_readsOrder 43 = .ok (.bipush 120, 2) := dk_16 120 (dk_at dksX3_readsOrder_1 20 rfl rfl)
theorem dX3_readsOrder_45 : decode cX3_readsOrder 45 = .ok (.iconst 5, 1) := dk_8 (dk_at dksX3_readsOrder_1 22 rfl rfl)
theorem dX3_readsOrder_46 : decode cX3_readsOrder 46 = .ok (.invokevirtual 268, 3) := dk_182 1 12 (dk_at dksX3_readsOrder_2 0 rfl rfl)
theorem dX3_readsOrder_49 : decode cX3_readsOrder 49 = .ok (.ifCond .eq 9, 3) := dk_153 0 9 (dk_at dksX3_readsOrder_2 3 rfl rfl)
theorem dX3_readsOrder_52 : decode cX3_readsOrder 52 = .ok (.aload_n 0, 1) := dk_42 (dk_at dksX3_readsOrder_2 6 rfl rfl)
theorem dX3_readsOrder_53 : decode cX3_readsOrder 53 = .ok (.iconst 0, 1) := dk_3 (dk_at dksX3_readsOrder_2 7 rfl rfl)
theorem dX3_readsOrder_54 : decode cX3_readsOrder 54 = .ok (.invokevirtual 256, 3) := dk_182 1 0 (dk_at dksX3_readsOrder_2 8 rfl rfl)
theorem dX3_readsOrder_57 : decode cX3_readsOrder 57 = .ok (.ireturn, 1) := dk_172 (dk_at dksX3_readsOrder_2 11 rfl rfl)
theorem dX3_readsOrder_58 : decode cX3_readsOrder 58 = .ok (.aload_n 0, 1) := dk_42 (dk_at dksX3_readsOrder_2 12 rfl rfl)
theorem dX3_readsOrder_59 : decode cX3_readsOrder 59 = .ok (.bipush 99, 2) := dk_16 99 (dk_at dksX3_readsOrder_2 13 rfl rfl)
theorem dX3_readsOrder_61 : decode cX3_readsOrder 61 = .ok (.iconst 3, 1) := dk_6 (dk_at dksX3_readsOrder_2 15 rfl rfl)
theorem dX3_readsOrder_62 : decode cX3_readsOrder 62 = .ok (.invokevirtual 268, 3) := dk_182 1 12 (dk_at dksX3_readsOrder_2 16 rfl rfl)
theorem dX3_readsOrder_65 : decode cX3_readsOrder 65 = .ok (.ifCond .eq 8, 3) := dk_153 0 8 (dk_at dksX3_readsOrder_2 19 rfl rfl)
theorem dX3_readsOrder_68 : decode cX3_readsOrder 68 = .ok (.aload_n 0, 1) := dk_42 (dk_at dksX3_readsOrder_2 22 rfl rfl)
theorem dX3_readsOrder_69 : decode cX3_readsOrder 69 = .ok (.invokevirtual 265, 3) := dk_182 1 9 (dk_at dksX3_readsOrder_3 0 rfl rfl)
theorem dX3_readsOrder_72 : decode cX3_readsOrder 72 = .ok (.ireturn, 1) := dk_172 (dk_at dksX3_readsOrder_3 3 rfl rfl)
theorem dX3_readsOrder_73 : decode cX3_readsOrder 73 = .ok (.aload_n 0, 1) := dk_42 (dk_at dksX3_readsOrder_3 4 rfl rfl)
theorem dX3_readsOrder_74 : decode cX3_readsOrder 74 = .ok (.bipush 100, 2) := dk_16 100 (dk_at dksX3_readsOrder_3 5 rfl rfl)
theorem dX3_readsOrder_76 : decode cX3_readsOrder 76 = .ok (.bipush 6, 2) := dk_16 6 (dk_at dksX3_readsOrder_3 7 rfl rfl)
theorem dX3_readsOrder_78 : decode cX3_readsOrder 78 = .ok (.invokevirtual 268, 3) := dk_182 1 12 (dk_at dksX3_readsOrder_3 9 rfl rfl)
theorem dX3_readsOrder_81 : decode cX3_readsOrder 81 = .ok (.ifCond .eq 34, 3) := dk_153 0 34 (dk_at dksX3_readsOrder_3 12 rfl rfl)
theorem dX3_readsOrder_84 : decode cX3_readsOrder 84 = .ok (.aload_n 0, 1) := dk_42 (dk_at dksX3_readsOrder_3 15 rfl rfl)
theorem dX3_readsOrder_85 : decode cX3_readsOrder 85 = .ok (.iconst 0, 1) := dk_3 (dk_at dksX3_readsOrder_3 16 rfl rfl)
theorem dX3_readsOrder_86 : decode cX3_readsOrder 86 = .ok (.invokevirtual 256, 3) := dk_182 1 0 (dk_at dksX3_readsOrder_3 17 rfl rfl)
theorem dX3_readsOrder_89 : decode cX3_readsOrder 89 = .ok (.ifCond .eq 24, 3) := dk_153 0 24 (dk_at dksX3_readsOrder_3 20 rfl rfl)
theorem dX3_readsOrder_92 : decode cX3_readsOrder 92 = .ok (.aload_n 0, 1) := dk_42 (dk_at dksX3_readsOrder_3 23 rfl rfl)
theorem dX3_readsOrder_93 : decode cX3_readsOrder 93 = .ok (.bipush 42, 2) := dk_16 42 (dk_at dksX3_readsOrder_4 0 rfl rfl)
theorem dX3_readsOrder_95 : decode cX3_readsOrder 95 = .ok (.invokevirtual 259, 3) := dk_182 1 3 (dk_at dksX3_readsOrder_4 2 rfl rfl)
theorem dX3_readsOrder_98 : decode cX3_readsOrder 98 = .ok (.ifCond .eq 15, 3) := dk_153 0 15 (dk_at dksX3_readsOrder_4 5 rfl rfl)
theorem dX3_readsOrder_101 : decode cX3_readsOrder 101 = .ok (.aload_n 0, 1) := dk_42 (dk_at dksX3_readsOrder_4 8 rfl rfl)
theorem dX3_readsOrder_102 : decode cX3_readsOrder 102 = .ok (.iconst 1, 1) := dk_4 (dk_at dksX3_readsOrder_4 9 rfl rfl)
theorem dX3_readsOrder_103 : decode cX3_readsOrder 103 = .ok (.invokevirtual 256, 3) := dk_182 1 0 (dk_at dksX3_readsOrder_4 10 rfl rfl)
theorem dX3_readsOrder_106 : decode cX3_readsOrder 106 = .ok (.ifCond .eq 7, 3) := dk_153 0 7 (dk_at dksX3_readsOrder_4 13 rfl rfl)
theorem dX3_readsOrder_109 : decode cX3_readsOrder 109 = .ok (.iconst 1, 1) := dk_4 (dk_at dksX3_readsOrder_4 16 rfl rfl)
theorem dX3_readsOrder_110 : decode cX3_readsOrder 110 = .ok (.goto 4, 3) := dk_167 0 4 (dk_at dksX3_readsOrder_4 17 rfl rfl)
theorem dX3_readsOrder_113 : decode cX3_readsOrder 113 = .ok (.iconst 0, 1) := dk_3 (dk_at dksX3_readsOrder_4 20 rfl rfl)
theorem dX3_readsOrder_114 : decode cX3_readsOrder 114 = .ok (.ireturn, 1) := dk_172 (dk_at dksX3_readsOrder_4 21 rfl rfl)
theorem dX3_readsOrder_115 : decode cX3_readsOrder 115 = .ok (.aload_n 0, 1) := dk_42 (dk_at dksX3_readsOrder_4 22 rfl rfl)
theorem dX3_readsOrder_116 : decode cX3_readsOrder 116 = .ok (.bipush 104, 2) := dk_16 104 (dk_at dksX3_readsOrder_5 0 rfl rfl)
theorem dX3_readsOrder_118 : decode cX3_readsOrder 118 = .ok (.bipush 7, 2) := dk_16 7 (dk_at dksX3_readsOrder_5 2 rfl rfl)
theorem dX3_readsOrder_120 : decode cX3_readsOrder 120 = .ok (.invokevirtual 268, 3) := dk_182 1 12 (dk_at dksX3_readsOrder_5 4 rfl rfl)
theorem dX3_readsOrder_123 : decode cX3_readsOrder 123 = .ok (.ifCond .eq 14, 3) := dk_153 0 14 (dk_at dksX3_readsOrder_5 7 rfl rfl)
theorem dX3_readsOrder_126 : decode cX3_readsOrder 126 = .ok (.aload_n 0, 1) := dk_42 (dk_at dksX3_readsOrder_5 10 rfl rfl)
theorem dX3_readsOrder_127 : decode cX3_readsOrder 127 = .ok (.invokevirtual 271, 3) := dk_182 1 15 (dk_at dksX3_readsOrder_5 11 rfl rfl)
theorem dX3_readsOrder_130 : decode cX3_readsOrder 130 = .ok (.ifCond .eq 7, 3) := dk_153 0 7 (dk_at dksX3_readsOrder_5 14 rfl rfl)
theorem dX3_readsOrder_133 : decode cX3_readsOrder 133 = .ok (.iconst 1, 1) := dk_4 (dk_at dksX3_readsOrder_5 17 rfl rfl)
theorem dX3_readsOrder_134 : decode cX3_readsOrder 134 = .ok (.goto 4, 3) := dk_167 0 4 (dk_at dksX3_readsOrder_5 18 rfl rfl)
theorem dX3_readsOrder_137 : decode cX3_readsOrder 137 = .ok (.iconst 0, 1) := dk_3 (dk_at dksX3_readsOrder_5 21 rfl rfl)
theorem dX3_readsOrder_138 : decode cX3_readsOrder 138 = .ok (.ireturn, 1) := dk_172 (dk_at dksX3_readsOrder_5 22 rfl rfl)
abbrev cX3_isSort : ByteArray := prog_9_method_109_code
def yX3_isSort : MethodName := ⟨RX3, "isSort", "(II)Z"⟩
def dkwX3_isSort_0 : List UInt8 := [42, 27, 182, 1, 3, 154, 0, 5, 3, 172, 42, 28, 181, 1, 6, 4, 172]
abbrev dktX3_isSort_0 : List UInt8 := dkwX3_isSort_0 ++ []
theorem dksX3_isSort_0 : cX3_isSort.data.toList.drop 0 = dktX3_isSort_0 := by decide +kernel
theorem dX3_isSort_0 : decode cX3_isSort 0 = .ok (.aload_n 0, 1) := dk_42 (dk_at dksX3_isSort_0 0 rfl rfl)
theorem dX3_isSort_1 : decode cX3_isSort 1 = .ok (.iload_n 1, 1) := dk_27 (dk_at dksX3_isSort_0 1 rfl rfl)
theorem dX3_isSort_2 : decode cX3_isSort 2 = .ok (.invokevirtual 259, 3) := dk_182 1 3 (dk_at dksX3_isSort_0 2 rfl rfl)
theorem dX3_isSort_5 : decode cX3_isSort 5 = .ok (.ifCond .ne 5, 3) := dk_154 0 5 (dk_at dksX3_isSort_0 5 rfl rfl)
theorem dX3_isSort_8 : decode cX3_isSort 8 = .ok (.iconst 0, 1) := dk_3 (dk_at dksX3_isSort_0 8 rfl rfl)
theorem dX3_isSort_9 : decode cX3_isSort 9 = .ok (.ireturn, 1) := dk_172 (dk_at dksX3_isSort_0 9 rfl rfl)
theorem dX3_isSort_10 : decode cX3_isSort 10 = .ok (.aload_n 0, 1) := dk_42 (dk_at dksX3_isSort_0 10 rfl rfl)
theorem dX3_isSort_11 : decode cX3_isSort 11 = .ok (.iload_n 2, 1) := dk_28 (dk_at dksX3_isSort_0 11 rfl rfl)
theorem dX3_isSort_12 : decode cX3_isSort 12 = .ok (.putfield 262, 3) := dk_181 1 6 (dk_at dksX3_isSort_0 12 rfl rfl)
theorem dX3_isSort_15 : decode cX3_isSort 15 = .ok (.iconst 1, 1) := dk_4 (dk_at dksX3_isSort_0 15 rfl rfl)
theorem dX3_isSort_16 : decode cX3_isSort 16 = .ok (.ireturn, 1) := dk_172 (dk_at dksX3_isSort_0 16 rfl rfl)
abbrev cX3_reads : ByteArray := prog_9_method_105_code
def yX3_reads : MethodName := ⟨RX3, "reads", "(I)Z"⟩
def dkwX3_reads_0 : List UInt8 := [42, 182, 0, 249, 27, 159, 0, 5, 3, 172, 42, 89, 180, 0, 246, 4, 96, 181, 0, 246, 4, 172]
abbrev dktX3_reads_0 : List UInt8 := dkwX3_reads_0 ++ []
theorem dksX3_reads_0 : cX3_reads.data.toList.drop 0 = dktX3_reads_0 := by decide +kernel
theorem dX3_reads_0 : decode cX3_reads 0 = .ok (.aload_n 0, 1) := dk_42 (dk_at dksX3_reads_0 0 rfl rfl)
theorem dX3_reads_1 : decode cX3_reads 1 = .ok (.invokevirtual 249, 3) := dk_182 0 249 (dk_at dksX3_reads_0 1 rfl rfl)
theorem dX3_reads_4 : decode cX3_reads 4 = .ok (.iload_n 1, 1) := dk_27 (dk_at dksX3_reads_0 4 rfl rfl)
theorem dX3_reads_5 : decode cX3_reads 5 = .ok (.if_icmp .eq 5, 3) := dk_159 0 5 (dk_at dksX3_reads_0 5 rfl rfl)
theorem dX3_reads_8 : decode cX3_reads 8 = .ok (.iconst 0, 1) := dk_3 (dk_at dksX3_reads_0 8 rfl rfl)
theorem dX3_reads_9 : decode cX3_reads 9 = .ok (.ireturn, 1) := dk_172 (dk_at dksX3_reads_0 9 rfl rfl)
theorem dX3_reads_10 : decode cX3_reads 10 = .ok (.aload_n 0, 1) := dk_42 (dk_at dksX3_reads_0 10 rfl rfl)
theorem dX3_reads_11 : decode cX3_reads 11 = .ok (.dup, 1) := dk_89 (dk_at dksX3_reads_0 11 rfl rfl)
theorem dX3_reads_12 : decode cX3_reads 12 = .ok (.getfield 246, 3) := dk_180 0 246 (dk_at dksX3_reads_0 12 rfl rfl)
theorem dX3_reads_15 : decode cX3_reads 15 = .ok (.iconst 1, 1) := dk_4 (dk_at dksX3_reads_0 15 rfl rfl)
theorem dX3_reads_16 : decode cX3_reads 16 = .ok (.iadd, 1) := dk_96 (dk_at dksX3_reads_0 16 rfl rfl)
theorem dX3_reads_17 : decode cX3_reads 17 = .ok (.putfield 246, 3) := dk_181 0 246 (dk_at dksX3_reads_0 17 rfl rfl)
theorem dX3_reads_20 : decode cX3_reads 20 = .ok (.iconst 1, 1) := dk_4 (dk_at dksX3_reads_0 20 rfl rfl)
theorem dX3_reads_21 : decode cX3_reads 21 = .ok (.ireturn, 1) := dk_172 (dk_at dksX3_reads_0 21 rfl rfl)
abbrev cX3_sign : ByteArray := prog_9_method_104_code
def yX3_sign : MethodName := ⟨RX3, "sign", "()I"⟩
def dkwX3_sign_1 : List UInt8 := [172]
abbrev dktX3_sign_1 : List UInt8 := dkwX3_sign_1 ++ []
def dkwX3_sign_0 : List UInt8 := [42, 180, 0, 246, 42, 180, 0, 243, 162, 0, 15, 42, 180, 0, 28, 42, 180, 0, 246, 52, 167, 0, 4, 2]
abbrev dktX3_sign_0 : List UInt8 := dkwX3_sign_0 ++ dktX3_sign_1
theorem dksX3_sign_0 : cX3_sign.data.toList.drop 0 = dktX3_sign_0 := by decide +kernel
theorem dksX3_sign_1 : cX3_sign.data.toList.drop 24 = dktX3_sign_1 := dk_seg dksX3_sign_0 24 rfl rfl
theorem dX3_sign_0 : decode cX3_sign 0 = .ok (.aload_n 0, 1) := dk_42 (dk_at dksX3_sign_0 0 rfl rfl)
theorem dX3_sign_1 : decode cX3_sign 1 = .ok (.getfield 246, 3) := dk_180 0 246 (dk_at dksX3_sign_0 1 rfl rfl)
theorem dX3_sign_4 : decode cX3_sign 4 = .ok (.aload_n 0, 1) := dk_42 (dk_at dksX3_sign_0 4 rfl rfl)
theorem dX3_sign_5 : decode cX3_sign 5 = .ok (.getfield 243, 3) := dk_180 0 243 (dk_at dksX3_sign_0 5 rfl rfl)
theorem dX3_sign_8 : decode cX3_sign 8 = .ok (.if_icmp .ge 15, 3) := dk_162 0 15 (dk_at dksX3_sign_0 8 rfl rfl)
theorem dX3_sign_11 : decode cX3_sign 11 = .ok (.aload_n 0, 1) := dk_42 (dk_at dksX3_sign_0 11 rfl rfl)
theorem dX3_sign_12 : decode cX3_sign 12 = .ok (.getfield 28, 3) := dk_180 0 28 (dk_at dksX3_sign_0 12 rfl rfl)
theorem dX3_sign_15 : decode cX3_sign 15 = .ok (.aload_n 0, 1) := dk_42 (dk_at dksX3_sign_0 15 rfl rfl)
theorem dX3_sign_16 : decode cX3_sign 16 = .ok (.getfield 246, 3) := dk_180 0 246 (dk_at dksX3_sign_0 16 rfl rfl)
theorem dX3_sign_19 : decode cX3_sign 19 = .ok (.caload, 1) := dk_52 (dk_at dksX3_sign_0 19 rfl rfl)
theorem dX3_sign_20 : decode cX3_sign 20 = .ok (.goto 4, 3) := dk_167 0 4 (dk_at dksX3_sign_0 20 rfl rfl)
theorem dX3_sign_23 : decode cX3_sign 23 = .ok (.iconst (-1), 1) := dk_2 (dk_at dksX3_sign_0 23 rfl rfl)
theorem dX3_sign_24 : decode cX3_sign 24 = .ok (.ireturn, 1) := dk_172 (dk_at dksX3_sign_1 0 rfl rfl)
abbrev cX3_readsDigit : ByteArray := prog_9_method_107_code
def yX3_readsDigit : MethodName := ⟨RX3, "readsDigit", "(I)Z"⟩
def dkwX3_readsDigit_1 : List UInt8 := [16, 48, 100, 79, 42, 89, 180, 0, 246, 4, 96, 181, 0, 246, 4, 172]
abbrev dktX3_readsDigit_1 : List UInt8 := dkwX3_readsDigit_1 ++ []
def dkwX3_readsDigit_0 : List UInt8 := [42, 182, 0, 252, 154, 0, 5, 3, 172, 42, 180, 0, 36, 27, 42, 180, 0, 28, 42, 180, 0, 246, 52]
abbrev dktX3_readsDigit_0 : List UInt8 := dkwX3_readsDigit_0 ++ dktX3_readsDigit_1
theorem dksX3_readsDigit_0 : cX3_readsDigit.data.toList.drop 0 = dktX3_readsDigit_0 := by decide +kernel
theorem dksX3_readsDigit_1 : cX3_readsDigit.data.toList.drop 23 = dktX3_readsDigit_1 := dk_seg dksX3_readsDigit_0 23 rfl rfl
theorem dX3_readsDigit_0 : decode cX3_readsDigit 0 = .ok (.aload_n 0, 1) := dk_42 (dk_at dksX3_readsDigit_0 0 rfl rfl)
theorem dX3_readsDigit_1 : decode cX3_readsDigit 1 = .ok (.invokevirtual 252, 3) := dk_182 0 252 (dk_at dksX3_readsDigit_0 1 rfl rfl)
theorem dX3_readsDigit_4 : decode cX3_readsDigit 4 = .ok (.ifCond .ne 5, 3) := dk_154 0 5 (dk_at dksX3_readsDigit_0 4 rfl rfl)
theorem dX3_readsDigit_7 : decode cX3_readsDigit 7 = .ok (.iconst 0, 1) := dk_3 (dk_at dksX3_readsDigit_0 7 rfl rfl)
theorem dX3_readsDigit_8 : decode cX3_readsDigit 8 = .ok (.ireturn, 1) := dk_172 (dk_at dksX3_readsDigit_0 8 rfl rfl)
theorem dX3_readsDigit_9 : decode cX3_readsDigit 9 = .ok (.aload_n 0, 1) := dk_42 (dk_at dksX3_readsDigit_0 9 rfl rfl)
theorem dX3_readsDigit_10 : decode cX3_readsDigit 10 = .ok (.getfield 36, 3) := dk_180 0 36 (dk_at dksX3_readsDigit_0 10 rfl rfl)
theorem dX3_readsDigit_13 : decode cX3_readsDigit 13 = .ok (.iload_n 1, 1) := dk_27 (dk_at dksX3_readsDigit_0 13 rfl rfl)
theorem dX3_readsDigit_14 : decode cX3_readsDigit 14 = .ok (.aload_n 0, 1) := dk_42 (dk_at dksX3_readsDigit_0 14 rfl rfl)
theorem dX3_readsDigit_15 : decode cX3_readsDigit 15 = .ok (.getfield 28, 3) := dk_180 0 28 (dk_at dksX3_readsDigit_0 15 rfl rfl)
theorem dX3_readsDigit_18 : decode cX3_readsDigit 18 = .ok (.aload_n 0, 1) := dk_42 (dk_at dksX3_readsDigit_0 18 rfl rfl)
theorem dX3_readsDigit_19 : decode cX3_readsDigit 19 = .ok (.getfield 246, 3) := dk_180 0 246 (dk_at dksX3_readsDigit_0 19 rfl rfl)
theorem dX3_readsDigit_22 : decode cX3_readsDigit 22 = .ok (.caload, 1) := dk_52 (dk_at dksX3_readsDigit_0 22 rfl rfl)
theorem dX3_readsDigit_23 : decode cX3_readsDigit 23 = .ok (.bipush 48, 2) := dk_16 48 (dk_at dksX3_readsDigit_1 0 rfl rfl)
theorem dX3_readsDigit_25 : decode cX3_readsDigit 25 = .ok (.isub, 1) := dk_100 (dk_at dksX3_readsDigit_1 2 rfl rfl)
theorem dX3_readsDigit_26 : decode cX3_readsDigit 26 = .ok (.iastore, 1) := dk_79 (dk_at dksX3_readsDigit_1 3 rfl rfl)
theorem dX3_readsDigit_27 : decode cX3_readsDigit 27 = .ok (.aload_n 0, 1) := dk_42 (dk_at dksX3_readsDigit_1 4 rfl rfl)
theorem dX3_readsDigit_28 : decode cX3_readsDigit 28 = .ok (.dup, 1) := dk_89 (dk_at dksX3_readsDigit_1 5 rfl rfl)
theorem dX3_readsDigit_29 : decode cX3_readsDigit 29 = .ok (.getfield 246, 3) := dk_180 0 246 (dk_at dksX3_readsDigit_1 6 rfl rfl)
theorem dX3_readsDigit_32 : decode cX3_readsDigit 32 = .ok (.iconst 1, 1) := dk_4 (dk_at dksX3_readsDigit_1 9 rfl rfl)
theorem dX3_readsDigit_33 : decode cX3_readsDigit 33 = .ok (.iadd, 1) := dk_96 (dk_at dksX3_readsDigit_1 10 rfl rfl)
theorem dX3_readsDigit_34 : decode cX3_readsDigit 34 = .ok (.putfield 246, 3) := dk_181 0 246 (dk_at dksX3_readsDigit_1 11 rfl rfl)
theorem dX3_readsDigit_37 : decode cX3_readsDigit 37 = .ok (.iconst 1, 1) := dk_4 (dk_at dksX3_readsDigit_1 14 rfl rfl)
theorem dX3_readsDigit_38 : decode cX3_readsDigit 38 = .ok (.ireturn, 1) := dk_172 (dk_at dksX3_readsDigit_1 15 rfl rfl)
abbrev cX3_isDigit : ByteArray := prog_9_method_106_code
def yX3_isDigit : MethodName := ⟨RX3, "isDigit", "()Z"⟩
def dkwX3_isDigit_0 : List UInt8 := [42, 182, 0, 249, 16, 48, 16, 57, 184, 0, 77, 172]
abbrev dktX3_isDigit_0 : List UInt8 := dkwX3_isDigit_0 ++ []
theorem dksX3_isDigit_0 : cX3_isDigit.data.toList.drop 0 = dktX3_isDigit_0 := by decide +kernel
theorem dX3_isDigit_0 : decode cX3_isDigit 0 = .ok (.aload_n 0, 1) := dk_42 (dk_at dksX3_isDigit_0 0 rfl rfl)
theorem dX3_isDigit_1 : decode cX3_isDigit 1 = .ok (.invokevirtual 249, 3) := dk_182 0 249 (dk_at dksX3_isDigit_0 1 rfl rfl)
theorem dX3_isDigit_4 : decode cX3_isDigit 4 = .ok (.bipush 48, 2) := dk_16 48 (dk_at dksX3_isDigit_0 4 rfl rfl)
theorem dX3_isDigit_6 : decode cX3_isDigit 6 = .ok (.bipush 57, 2) := dk_16 57 (dk_at dksX3_isDigit_0 6 rfl rfl)
theorem dX3_isDigit_8 : decode cX3_isDigit 8 = .ok (.invokestatic 77, 3) := dk_184 0 77 (dk_at dksX3_isDigit_0 8 rfl rfl)
theorem dX3_isDigit_11 : decode cX3_isDigit 11 = .ok (.ireturn, 1) := dk_172 (dk_at dksX3_isDigit_0 11 rfl rfl)
abbrev cX3_readsNumber : ByteArray := prog_9_method_108_code
def yX3_readsNumber : MethodName := ⟨RX3, "readsNumber", "()Z"⟩
def dkwX3_readsNumber_1 : List UInt8 := [153, 0, 16, 42, 180, 0, 36, 3, 92, 46, 16, 10, 27, 104, 96, 79, 4, 172]
abbrev dktX3_readsNumber_1 : List UInt8 := dkwX3_readsNumber_1 ++ []
def dkwX3_readsNumber_0 : List UInt8 := [42, 3, 182, 1, 0, 154, 0, 5, 3, 172, 42, 180, 0, 36, 3, 46, 60, 42, 3, 182, 1, 0]
abbrev dktX3_readsNumber_0 : List UInt8 := dkwX3_readsNumber_0 ++ dktX3_readsNumber_1
theorem dksX3_readsNumber_0 : cX3_readsNumber.data.toList.drop 0 = dktX3_readsNumber_0 := by decide +kernel
theorem dksX3_readsNumber_1 : cX3_readsNumber.data.toList.drop 22 = dktX3_readsNumber_1 := dk_seg dksX3_readsNumber_0 22 rfl rfl
theorem dX3_readsNumber_0 : decode cX3_readsNumber 0 = .ok (.aload_n 0, 1) := dk_42 (dk_at dksX3_readsNumber_0 0 rfl rfl)
theorem dX3_readsNumber_1 : decode cX3_readsNumber 1 = .ok (.iconst 0, 1) := dk_3 (dk_at dksX3_readsNumber_0 1 rfl rfl)
theorem dX3_readsNumber_2 : decode cX3_readsNumber 2 = .ok (.invokevirtual 256, 3) := dk_182 1 0 (dk_at dksX3_readsNumber_0 2 rfl rfl)
theorem dX3_readsNumber_5 : decode cX3_readsNumber 5 = .ok (.ifCond .ne 5, 3) := dk_154 0 5 (dk_at dksX3_readsNumber_0 5 rfl rfl)
theorem dX3_readsNumber_8 : decode cX3_readsNumber 8 = .ok (.iconst 0, 1) := dk_3 (dk_at dksX3_readsNumber_0 8 rfl rfl)
theorem dX3_readsNumber_9 : decode cX3_readsNumber 9 = .ok (.ireturn, 1) := dk_172 (dk_at dksX3_readsNumber_0 9 rfl rfl)
theorem dX3_readsNumber_10 : decode cX3_readsNumber 10 = .ok (.aload_n 0, 1) := dk_42 (dk_at dksX3_readsNumber_0 10 rfl rfl)
theorem dX3_readsNumber_11 : decode cX3_readsNumber 11 = .ok (.getfield 36, 3) := dk_180 0 36 (dk_at dksX3_readsNumber_0 11 rfl rfl)
theorem dX3_readsNumber_14 : decode cX3_readsNumber 14 = .ok (.iconst 0, 1) := dk_3 (dk_at dksX3_readsNumber_0 14 rfl rfl)
theorem dX3_readsNumber_15 : decode cX3_readsNumber 15 = .ok (.iaload, 1) := dk_46 (dk_at dksX3_readsNumber_0 15 rfl rfl)
theorem dX3_readsNumber_16 : decode cX3_readsNumber 16 = .ok (.istore_n 1, 1) := dk_60 (dk_at dksX3_readsNumber_0 16 rfl rfl)
theorem dX3_readsNumber_17 : decode cX3_readsNumber 17 = .ok (.aload_n 0, 1) := dk_42 (dk_at dksX3_readsNumber_0 17 rfl rfl)
theorem dX3_readsNumber_18 : decode cX3_readsNumber 18 = .ok (.iconst 0, 1) := dk_3 (dk_at dksX3_readsNumber_0 18 rfl rfl)
theorem dX3_readsNumber_19 : decode cX3_readsNumber 19 = .ok (.invokevirtual 256, 3) := dk_182 1 0 (dk_at dksX3_readsNumber_0 19 rfl rfl)
theorem dX3_readsNumber_22 : decode cX3_readsNumber 22 = .ok (.ifCond .eq 16, 3) := dk_153 0 16 (dk_at dksX3_readsNumber_1 0 rfl rfl)
theorem dX3_readsNumber_25 : decode cX3_readsNumber 25 = .ok (.aload_n 0, 1) := dk_42 (dk_at dksX3_readsNumber_1 3 rfl rfl)
theorem dX3_readsNumber_26 : decode cX3_readsNumber 26 = .ok (.getfield 36, 3) := dk_180 0 36 (dk_at dksX3_readsNumber_1 4 rfl rfl)
theorem dX3_readsNumber_29 : decode cX3_readsNumber 29 = .ok (.iconst 0, 1) := dk_3 (dk_at dksX3_readsNumber_1 7 rfl rfl)
theorem dX3_readsNumber_30 : decode cX3_readsNumber 30 = .ok (.dup2, 1) := dk_92 (dk_at dksX3_readsNumber_1 8 rfl rfl)
theorem dX3_readsNumber_31 : decode cX3_readsNumber 31 = .ok (.iaload, 1) := dk_46 (dk_at dksX3_readsNumber_1 9 rfl rfl)
theorem dX3_readsNumber_32 : decode cX3_readsNumber 32 = .ok (.bipush 10, 2) := dk_16 10 (dk_at dksX3_readsNumber_1 10 rfl rfl)
theorem dX3_readsNumber_34 : decode cX3_readsNumber 34 = .ok (.iload_n 1, 1) := dk_27 (dk_at dksX3_readsNumber_1 12 rfl rfl)
theorem dX3_readsNumber_35 : decode cX3_readsNumber 35 = .ok (.imul, 1) := dk_104 (dk_at dksX3_readsNumber_1 13 rfl rfl)
theorem dX3_readsNumber_36 : decode cX3_readsNumber 36 = .ok (.iadd, 1) := dk_96 (dk_at dksX3_readsNumber_1 14 rfl rfl)
theorem dX3_readsNumber_37 : decode cX3_readsNumber 37 = .ok (.iastore, 1) := dk_79 (dk_at dksX3_readsNumber_1 15 rfl rfl)
theorem dX3_readsNumber_38 : decode cX3_readsNumber 38 = .ok (.iconst 1, 1) := dk_4 (dk_at dksX3_readsNumber_1 16 rfl rfl)
theorem dX3_readsNumber_39 : decode cX3_readsNumber 39 = .ok (.ireturn, 1) := dk_172 (dk_at dksX3_readsNumber_1 17 rfl rfl)
abbrev cX3_readsHours : ByteArray := prog_9_method_110_code
def yX3_readsHours : MethodName := ⟨RX3, "readsHours", "()Z"⟩
def dkwX3_readsHours_1 : List UInt8 := [167, 0, 4, 3, 172]
abbrev dktX3_readsHours_1 : List UInt8 := dkwX3_readsHours_1 ++ []
def dkwX3_readsHours_0 : List UInt8 := [42, 180, 0, 36, 3, 4, 79, 42, 182, 0, 252, 153, 0, 10, 42, 182, 1, 9, 153, 0, 7, 4]
abbrev dktX3_readsHours_0 : List UInt8 := dkwX3_readsHours_0 ++ dktX3_readsHours_1
theorem dksX3_readsHours_0 : cX3_readsHours.data.toList.drop 0 = dktX3_readsHours_0 := by decide +kernel
theorem dksX3_readsHours_1 : cX3_readsHours.data.toList.drop 22 = dktX3_readsHours_1 := dk_seg dksX3_readsHours_0 22 rfl rfl
theorem dX3_readsHours_0 : decode cX3_readsHours 0 = .ok (.aload_n 0, 1) := dk_42 (dk_at dksX3_readsHours_0 0 rfl rfl)
theorem dX3_readsHours_1 : decode cX3_readsHours 1 = .ok (.getfield 36, 3) := dk_180 0 36 (dk_at dksX3_readsHours_0 1 rfl rfl)
theorem dX3_readsHours_4 : decode cX3_readsHours 4 = .ok (.iconst 0, 1) := dk_3 (dk_at dksX3_readsHours_0 4 rfl rfl)
theorem dX3_readsHours_5 : decode cX3_readsHours 5 = .ok (.iconst 1, 1) := dk_4 (dk_at dksX3_readsHours_0 5 rfl rfl)
theorem dX3_readsHours_6 : decode cX3_readsHours 6 = .ok (.iastore, 1) := dk_79 (dk_at dksX3_readsHours_0 6 rfl rfl)
theorem dX3_readsHours_7 : decode cX3_readsHours 7 = .ok (.aload_n 0, 1) := dk_42 (dk_at dksX3_readsHours_0 7 rfl rfl)
theorem dX3_readsHours_8 : decode cX3_readsHours 8 = .ok (.invokevirtual 252, 3) := dk_182 0 252 (dk_at dksX3_readsHours_0 8 rfl rfl)
theorem dX3_readsHours_11 : decode cX3_readsHours 11 = .ok (.ifCond .eq 10, 3) := dk_153 0 10 (dk_at dksX3_readsHours_0 11 rfl rfl)
theorem dX3_readsHours_14 : decode cX3_readsHours 14 = .ok (.aload_n 0, 1) := dk_42 (dk_at dksX3_readsHours_0 14 rfl rfl)
theorem dX3_readsHours_15 : decode cX3_readsHours 15 = .ok (.invokevirtual 265, 3) := dk_182 1 9 (dk_at dksX3_readsHours_0 15 rfl rfl)
theorem dX3_readsHours_18 : decode cX3_readsHours 18 = .ok (.ifCond .eq 7, 3) := dk_153 0 7 (dk_at dksX3_readsHours_0 18 rfl rfl)
theorem dX3_readsHours_21 : decode cX3_readsHours 21 = .ok (.iconst 1, 1) := dk_4 (dk_at dksX3_readsHours_0 21 rfl rfl)
theorem dX3_readsHours_22 : decode cX3_readsHours 22 = .ok (.goto 4, 3) := dk_167 0 4 (dk_at dksX3_readsHours_1 0 rfl rfl)
theorem dX3_readsHours_25 : decode cX3_readsHours 25 = .ok (.iconst 0, 1) := dk_3 (dk_at dksX3_readsHours_1 3 rfl rfl)
theorem dX3_readsHours_26 : decode cX3_readsHours 26 = .ok (.ireturn, 1) := dk_172 (dk_at dksX3_readsHours_1 4 rfl rfl)
abbrev cX3_doesAll : ByteArray := prog_9_method_115_code
def yX3_doesAll : MethodName := ⟨RX3, "doesAll", "()Z"⟩
def dkwX3_doesAll_2 : List UInt8 := [16, 59, 182, 1, 3, 60, 167, 255, 214, 4, 172]
abbrev dktX3_doesAll_2 : List UInt8 := dkwX3_doesAll_2 ++ []
def dkwX3_doesAll_1 : List UInt8 := [182, 1, 24, 153, 0, 5, 3, 172, 42, 182, 1, 27, 87, 42, 89, 180, 1, 21, 4, 96, 181, 1, 21, 42]
abbrev dktX3_doesAll_1 : List UInt8 := dkwX3_doesAll_1 ++ dktX3_doesAll_2
def dkwX3_doesAll_0 : List UInt8 := [42, 3, 181, 1, 21, 42, 3, 181, 0, 246, 4, 60, 27, 153, 0, 44, 42, 182, 1, 18, 153, 0, 10, 42]
abbrev dktX3_doesAll_0 : List UInt8 := dkwX3_doesAll_0 ++ dktX3_doesAll_1
theorem dksX3_doesAll_0 : cX3_doesAll.data.toList.drop 0 = dktX3_doesAll_0 := by decide +kernel
theorem dksX3_doesAll_1 : cX3_doesAll.data.toList.drop 24 = dktX3_doesAll_1 := dk_seg dksX3_doesAll_0 24 rfl rfl
theorem dksX3_doesAll_2 : cX3_doesAll.data.toList.drop 48 = dktX3_doesAll_2 := dk_seg dksX3_doesAll_1 24 rfl rfl
theorem dX3_doesAll_0 : decode cX3_doesAll 0 = .ok (.aload_n 0, 1) := dk_42 (dk_at dksX3_doesAll_0 0 rfl rfl)
theorem dX3_doesAll_1 : decode cX3_doesAll 1 = .ok (.iconst 0, 1) := dk_3 (dk_at dksX3_doesAll_0 1 rfl rfl)
theorem dX3_doesAll_2 : decode cX3_doesAll 2 = .ok (.putfield 277, 3) := dk_181 1 21 (dk_at dksX3_doesAll_0 2 rfl rfl)
theorem dX3_doesAll_5 : decode cX3_doesAll 5 = .ok (.aload_n 0, 1) := dk_42 (dk_at dksX3_doesAll_0 5 rfl rfl)
theorem dX3_doesAll_6 : decode cX3_doesAll 6 = .ok (.iconst 0, 1) := dk_3 (dk_at dksX3_doesAll_0 6 rfl rfl)
theorem dX3_doesAll_7 : decode cX3_doesAll 7 = .ok (.putfield 246, 3) := dk_181 0 246 (dk_at dksX3_doesAll_0 7 rfl rfl)
theorem dX3_doesAll_10 : decode cX3_doesAll 10 = .ok (.iconst 1, 1) := dk_4 (dk_at dksX3_doesAll_0 10 rfl rfl)
theorem dX3_doesAll_11 : decode cX3_doesAll 11 = .ok (.istore_n 1, 1) := dk_60 (dk_at dksX3_doesAll_0 11 rfl rfl)
theorem dX3_doesAll_12 : decode cX3_doesAll 12 = .ok (.iload_n 1, 1) := dk_27 (dk_at dksX3_doesAll_0 12 rfl rfl)
theorem dX3_doesAll_13 : decode cX3_doesAll 13 = .ok (.ifCond .eq 44, 3) := dk_153 0 44 (dk_at dksX3_doesAll_0 13 rfl rfl)
theorem dX3_doesAll_16 : decode cX3_doesAll 16 = .ok (.aload_n 0, 1) := dk_42 (dk_at dksX3_doesAll_0 16 rfl rfl)
theorem dX3_doesAll_17 : decode cX3_doesAll 17 = .ok (.invokevirtual 274, 3) := dk_182 1 18 (dk_at dksX3_doesAll_0 17 rfl rfl)
theorem dX3_doesAll_20 : decode cX3_doesAll 20 = .ok (.ifCond .eq 10, 3) := dk_153 0 10 (dk_at dksX3_doesAll_0 20 rfl rfl)
theorem dX3_doesAll_23 : decode cX3_doesAll 23 = .ok (.aload_n 0, 1) := dk_42 (dk_at dksX3_doesAll_0 23 rfl rfl)
theorem dX3_doesAll_24 : decode cX3_doesAll 24 = .ok (.invokevirtual 280, 3) := dk_182 1 24 (dk_at dksX3_doesAll_1 0 rfl rfl)
theorem dX3_doesAll_27 : decode cX3_doesAll 27 = .ok (.ifCond .eq 5, 3) := dk_153 0 5 (dk_at dksX3_doesAll_1 3 rfl rfl)
theorem dX3_doesAll_30 : decode cX3_doesAll 30 = .ok (.iconst 0, 1) := dk_3 (dk_at dksX3_doesAll_1 6 rfl rfl)
theorem dX3_doesAll_31 : decode cX3_doesAll 31 = .ok (.ireturn, 1) := dk_172 (dk_at dksX3_doesAll_1 7 rfl rfl)
theorem dX3_doesAll_32 : decode cX3_doesAll 32 = .ok (.aload_n 0, 1) := dk_42 (dk_at dksX3_doesAll_1 8 rfl rfl)
theorem dX3_doesAll_33 : decode cX3_doesAll 33 = .ok (.invokevirtual 283, 3) := dk_182 1 27 (dk_at dksX3_doesAll_1 9 rfl rfl)
theorem dX3_doesAll_36 : decode cX3_doesAll 36 = .ok (.pop, 1) := dk_87 (dk_at dksX3_doesAll_1 12 rfl rfl)
theorem dX3_doesAll_37 : decode cX3_doesAll 37 = .ok (.aload_n 0, 1) := dk_42 (dk_at dksX3_doesAll_1 13 rfl rfl)
theorem dX3_doesAll_38 : decode cX3_doesAll 38 = .ok (.dup, 1) := dk_89 (dk_at dksX3_doesAll_1 14 rfl rfl)
theorem dX3_doesAll_39 : decode cX3_doesAll 39 = .ok (.getfield 277, 3) := dk_180 1 21 (dk_at dksX3_doesAll_1 15 rfl rfl)
theorem dX3_doesAll_42 : decode cX3_doesAll 42 = .ok (.iconst 1, 1) := dk_4 (dk_at dksX3_doesAll_1 18 rfl rfl)
theorem dX3_doesAll_43 : decode cX3_doesAll 43 = .ok (.iadd, 1) := dk_96 (dk_at dksX3_doesAll_1 19 rfl rfl)
theorem dX3_doesAll_44 : decode cX3_doesAll 44 = .ok (.putfield 277, 3) := dk_181 1 21 (dk_at dksX3_doesAll_1 20 rfl rfl)
theorem dX3_doesAll_47 : decode cX3_doesAll 47 = .ok (.aload_n 0, 1) := dk_42 (dk_at dksX3_doesAll_1 23 rfl rfl)
theorem dX3_doesAll_48 : decode cX3_doesAll 48 = .ok (.bipush 59, 2) := dk_16 59 (dk_at dksX3_doesAll_2 0 rfl rfl)
theorem dX3_doesAll_50 : decode cX3_doesAll 50 = .ok (.invokevirtual 259, 3) := dk_182 1 3 (dk_at dksX3_doesAll_2 2 rfl rfl)
theorem dX3_doesAll_53 : decode cX3_doesAll 53 = .ok (.istore_n 1, 1) := dk_60 (dk_at dksX3_doesAll_2 5 rfl rfl)
theorem dX3_doesAll_54 : decode cX3_doesAll 54 = .ok (.goto (-42), 3) := dk_167 255 214 (dk_at dksX3_doesAll_2 6 rfl rfl)
theorem dX3_doesAll_57 : decode cX3_doesAll 57 = .ok (.iconst 1, 1) := dk_4 (dk_at dksX3_doesAll_2 9 rfl rfl)
theorem dX3_doesAll_58 : decode cX3_doesAll 58 = .ok (.ireturn, 1) := dk_172 (dk_at dksX3_doesAll_2 10 rfl rfl)
abbrev cX3_notNow : ByteArray := prog_9_method_113_code
def yX3_notNow : MethodName := ⟨RX3, "notNow", "()I"⟩
def dkwX3_notNow_5 : List UInt8 := [180, 0, 36, 4, 46, 182, 0, 188, 172, 42, 42, 180, 0, 36, 3, 46, 182, 0, 230, 172]
abbrev dktX3_notNow_5 : List UInt8 := dkwX3_notNow_5 ++ []
def dkwX3_notNow_4 : List UInt8 := [182, 0, 136, 172, 42, 42, 180, 0, 36, 3, 46, 182, 0, 212, 172, 42, 42, 180, 0, 36, 3, 46, 42]
abbrev dktX3_notNow_4 : List UInt8 := dkwX3_notNow_4 ++ dktX3_notNow_5
def dkwX3_notNow_3 : List UInt8 := [182, 0, 182, 172, 42, 42, 180, 0, 36, 3, 46, 182, 0, 127, 172, 42, 42, 180, 0, 36, 3, 46]
abbrev dktX3_notNow_3 : List UInt8 := dkwX3_notNow_3 ++ dktX3_notNow_4
def dkwX3_notNow_2 : List UInt8 := [42, 42, 180, 0, 36, 3, 46, 182, 0, 108, 172, 42, 182, 0, 170, 172, 42, 42, 180, 0, 36, 3, 46]
abbrev dktX3_notNow_2 : List UInt8 := dkwX3_notNow_2 ++ dktX3_notNow_3
def dkwX3_notNow_1 : List UInt8 := [170, 0, 0, 0, 0, 0, 0, 121, 0, 0, 0, 0, 0, 0, 0, 6, 0, 0, 0, 44, 0, 0, 0, 55, 0, 0, 0, 60, 0, 0, 0, 71, 0, 0, 0, 82, 0, 0, 0, 93, 0, 0, 0, 104]
abbrev dktX3_notNow_1 : List UInt8 := dkwX3_notNow_1 ++ dktX3_notNow_2
def dkwX3_notNow_0 : List UInt8 := [42, 180, 1, 6]
abbrev dktX3_notNow_0 : List UInt8 := dkwX3_notNow_0 ++ dktX3_notNow_1
theorem dksX3_notNow_0 : cX3_notNow.data.toList.drop 0 = dktX3_notNow_0 := by decide +kernel
theorem dksX3_notNow_1 : cX3_notNow.data.toList.drop 4 = dktX3_notNow_1 := dk_seg dksX3_notNow_0 4 rfl rfl
theorem dksX3_notNow_2 : cX3_notNow.data.toList.drop 48 = dktX3_notNow_2 := dk_seg dksX3_notNow_1 44 rfl rfl
theorem dksX3_notNow_3 : cX3_notNow.data.toList.drop 71 = dktX3_notNow_3 := dk_seg dksX3_notNow_2 23 rfl rfl
theorem dksX3_notNow_4 : cX3_notNow.data.toList.drop 93 = dktX3_notNow_4 := dk_seg dksX3_notNow_3 22 rfl rfl
theorem dksX3_notNow_5 : cX3_notNow.data.toList.drop 116 = dktX3_notNow_5 := dk_seg dksX3_notNow_4 23 rfl rfl
theorem dX3_notNow_0 : decode cX3_notNow 0 = .ok (.aload_n 0, 1) := dk_42 (dk_at dksX3_notNow_0 0 rfl rfl)
theorem dX3_notNow_1 : decode cX3_notNow 1 = .ok (.getfield 262, 3) := dk_180 1 6 (dk_at dksX3_notNow_0 1 rfl rfl)
theorem dX3_notNow_4 : decode cX3_notNow 4 = .ok (.tableswitch 121 0 6 #[44, 55, 60, 71, 82, 93, 104], 44) := by decide +kernel
theorem dX3_notNow_48 : decode cX3_notNow 48 = .ok (.aload_n 0, 1) := dk_42 (dk_at dksX3_notNow_2 0 rfl rfl)
theorem dX3_notNow_49 : decode cX3_notNow 49 = .ok (.aload_n 0, 1) := dk_42 (dk_at dksX3_notNow_2 1 rfl rfl)
theorem dX3_notNow_50 : decode cX3_notNow 50 = .ok (.getfield 36, 3) := dk_180 0 36 (dk_at dksX3_notNow_2 2 rfl rfl)
theorem dX3_notNow_53 : decode cX3_notNow 53 = .ok (.iconst 0, 1) := dk_3 (dk_at dksX3_notNow_2 5 rfl rfl)
theorem dX3_notNow_54 : decode cX3_notNow 54 = .ok (.iaload, 1) := dk_46 (dk_at dksX3_notNow_2 6 rfl rfl)
theorem dX3_notNow_55 : decode cX3_notNow 55 = .ok (.invokevirtual 108, 3) := dk_182 0 108 (dk_at dksX3_notNow_2 7 rfl rfl)
theorem dX3_notNow_58 : decode cX3_notNow 58 = .ok (.ireturn, 1) := dk_172 (dk_at dksX3_notNow_2 10 rfl rfl)
theorem dX3_notNow_59 : decode cX3_notNow 59 = .ok (.aload_n 0, 1) := dk_42 (dk_at dksX3_notNow_2 11 rfl rfl)
theorem dX3_notNow_60 : decode cX3_notNow 60 = .ok (.invokevirtual 170, 3) := dk_182 0 170 (dk_at dksX3_notNow_2 12 rfl rfl)
theorem dX3_notNow_63 : decode cX3_notNow 63 = .ok (.ireturn, 1) := dk_172 (dk_at dksX3_notNow_2 15 rfl rfl)
theorem dX3_notNow_64 : decode cX3_notNow 64 = .ok (.aload_n 0, 1) := dk_42 (dk_at dksX3_notNow_2 16 rfl rfl)
theorem dX3_notNow_65 : decode cX3_notNow 65 = .ok (.aload_n 0, 1) := dk_42 (dk_at dksX3_notNow_2 17 rfl rfl)
theorem dX3_notNow_66 : decode cX3_notNow 66 = .ok (.getfield 36, 3) := dk_180 0 36 (dk_at dksX3_notNow_2 18 rfl rfl)
theorem dX3_notNow_69 : decode cX3_notNow 69 = .ok (.iconst 0, 1) := dk_3 (dk_at dksX3_notNow_2 21 rfl rfl)
theorem dX3_notNow_70 : decode cX3_notNow 70 = .ok (.iaload, 1) := dk_46 (dk_at dksX3_notNow_2 22 rfl rfl)
theorem dX3_notNow_71 : decode cX3_notNow 71 = .ok (.invokevirtual 182, 3) := dk_182 0 182 (dk_at dksX3_notNow_3 0 rfl rfl)
theorem dX3_notNow_74 : decode cX3_notNow 74 = .ok (.ireturn, 1) := dk_172 (dk_at dksX3_notNow_3 3 rfl rfl)
theorem dX3_notNow_75 : decode cX3_notNow 75 = .ok (.aload_n 0, 1) := dk_42 (dk_at dksX3_notNow_3 4 rfl rfl)
theorem dX3_notNow_76 : decode cX3_notNow 76 = .ok (.aload_n 0, 1) := dk_42 (dk_at dksX3_notNow_3 5 rfl rfl)
theorem dX3_notNow_77 : decode cX3_notNow 77 = .ok (.getfield 36, 3) := dk_180 0 36 (dk_at dksX3_notNow_3 6 rfl rfl)
theorem dX3_notNow_80 : decode cX3_notNow 80 = .ok (.iconst 0, 1) := dk_3 (dk_at dksX3_notNow_3 9 rfl rfl)
theorem dX3_notNow_81 : decode cX3_notNow 81 = .ok (.iaload, 1) := dk_46 (dk_at dksX3_notNow_3 10 rfl rfl)
theorem dX3_notNow_82 : decode cX3_notNow 82 = .ok (.invokevirtual 127, 3) := dk_182 0 127 (dk_at dksX3_notNow_3 11 rfl rfl)
theorem dX3_notNow_85 : decode cX3_notNow 85 = .ok (.ireturn, 1) := dk_172 (dk_at dksX3_notNow_3 14 rfl rfl)
theorem dX3_notNow_86 : decode cX3_notNow 86 = .ok (.aload_n 0, 1) := dk_42 (dk_at dksX3_notNow_3 15 rfl rfl)
theorem dX3_notNow_87 : decode cX3_notNow 87 = .ok (.aload_n 0, 1) := dk_42 (dk_at dksX3_notNow_3 16 rfl rfl)
theorem dX3_notNow_88 : decode cX3_notNow 88 = .ok (.getfield 36, 3) := dk_180 0 36 (dk_at dksX3_notNow_3 17 rfl rfl)
theorem dX3_notNow_91 : decode cX3_notNow 91 = .ok (.iconst 0, 1) := dk_3 (dk_at dksX3_notNow_3 20 rfl rfl)
theorem dX3_notNow_92 : decode cX3_notNow 92 = .ok (.iaload, 1) := dk_46 (dk_at dksX3_notNow_3 21 rfl rfl)
theorem dX3_notNow_93 : decode cX3_notNow 93 = .ok (.invokevirtual 136, 3) := dk_182 0 136 (dk_at dksX3_notNow_4 0 rfl rfl)
theorem dX3_notNow_96 : decode cX3_notNow 96 = .ok (.ireturn, 1) := dk_172 (dk_at dksX3_notNow_4 3 rfl rfl)
theorem dX3_notNow_97 : decode cX3_notNow 97 = .ok (.aload_n 0, 1) := dk_42 (dk_at dksX3_notNow_4 4 rfl rfl)
theorem dX3_notNow_98 : decode cX3_notNow 98 = .ok (.aload_n 0, 1) := dk_42 (dk_at dksX3_notNow_4 5 rfl rfl)
theorem dX3_notNow_99 : decode cX3_notNow 99 = .ok (.getfield 36, 3) := dk_180 0 36 (dk_at dksX3_notNow_4 6 rfl rfl)
theorem dX3_notNow_102 : decode cX3_notNow 102 = .ok (.iconst 0, 1) := dk_3 (dk_at dksX3_notNow_4 9 rfl rfl)
theorem dX3_notNow_103 : decode cX3_notNow 103 = .ok (.iaload, 1) := dk_46 (dk_at dksX3_notNow_4 10 rfl rfl)
theorem dX3_notNow_104 : decode cX3_notNow 104 = .ok (.invokevirtual 212, 3) := dk_182 0 212 (dk_at dksX3_notNow_4 11 rfl rfl)
theorem dX3_notNow_107 : decode cX3_notNow 107 = .ok (.ireturn, 1) := dk_172 (dk_at dksX3_notNow_4 14 rfl rfl)
theorem dX3_notNow_108 : decode cX3_notNow 108 = .ok (.aload_n 0, 1) := dk_42 (dk_at dksX3_notNow_4 15 rfl rfl)
theorem dX3_notNow_109 : decode cX3_notNow 109 = .ok (.aload_n 0, 1) := dk_42 (dk_at dksX3_notNow_4 16 rfl rfl)
theorem dX3_notNow_110 : decode cX3_notNow 110 = .ok (.getfield 36, 3) := dk_180 0 36 (dk_at dksX3_notNow_4 17 rfl rfl)
theorem dX3_notNow_113 : decode cX3_notNow 113 = .ok (.iconst 0, 1) := dk_3 (dk_at dksX3_notNow_4 20 rfl rfl)
theorem dX3_notNow_114 : decode cX3_notNow 114 = .ok (.iaload, 1) := dk_46 (dk_at dksX3_notNow_4 21 rfl rfl)
theorem dX3_notNow_115 : decode cX3_notNow 115 = .ok (.aload_n 0, 1) := dk_42 (dk_at dksX3_notNow_4 22 rfl rfl)
theorem dX3_notNow_116 : decode cX3_notNow 116 = .ok (.getfield 36, 3) := dk_180 0 36 (dk_at dksX3_notNow_5 0 rfl rfl)
theorem dX3_notNow_119 : decode cX3_notNow 119 = .ok (.iconst 1, 1) := dk_4 (dk_at dksX3_notNow_5 3 rfl rfl)
theorem dX3_notNow_120 : decode cX3_notNow 120 = .ok (.iaload, 1) := dk_46 (dk_at dksX3_notNow_5 4 rfl rfl)
theorem dX3_notNow_121 : decode cX3_notNow 121 = .ok (.invokevirtual 188, 3) := dk_182 0 188 (dk_at dksX3_notNow_5 5 rfl rfl)
theorem dX3_notNow_124 : decode cX3_notNow 124 = .ok (.ireturn, 1) := dk_172 (dk_at dksX3_notNow_5 8 rfl rfl)
theorem dX3_notNow_125 : decode cX3_notNow 125 = .ok (.aload_n 0, 1) := dk_42 (dk_at dksX3_notNow_5 9 rfl rfl)
theorem dX3_notNow_126 : decode cX3_notNow 126 = .ok (.aload_n 0, 1) := dk_42 (dk_at dksX3_notNow_5 10 rfl rfl)
theorem dX3_notNow_127 : decode cX3_notNow 127 = .ok (.getfield 36, 3) := dk_180 0 36 (dk_at dksX3_notNow_5 11 rfl rfl)
theorem dX3_notNow_130 : decode cX3_notNow 130 = .ok (.iconst 0, 1) := dk_3 (dk_at dksX3_notNow_5 14 rfl rfl)
theorem dX3_notNow_131 : decode cX3_notNow 131 = .ok (.iaload, 1) := dk_46 (dk_at dksX3_notNow_5 15 rfl rfl)
theorem dX3_notNow_132 : decode cX3_notNow 132 = .ok (.invokevirtual 230, 3) := dk_182 0 230 (dk_at dksX3_notNow_5 16 rfl rfl)
theorem dX3_notNow_135 : decode cX3_notNow 135 = .ok (.ireturn, 1) := dk_172 (dk_at dksX3_notNow_5 19 rfl rfl)
abbrev cX3_doesNow : ByteArray := prog_9_method_114_code
def yX3_doesNow : MethodName := ⟨RX3, "doesNow", "()I"⟩
def dkwX3_doesNow_5 : List UInt8 := [180, 0, 36, 4, 46, 182, 0, 191, 172, 42, 42, 180, 0, 36, 3, 46, 182, 0, 233, 172]
abbrev dktX3_doesNow_5 : List UInt8 := dkwX3_doesNow_5 ++ []
def dkwX3_doesNow_4 : List UInt8 := [182, 0, 139, 172, 42, 42, 180, 0, 36, 3, 46, 182, 0, 215, 172, 42, 42, 180, 0, 36, 3, 46, 42]
abbrev dktX3_doesNow_4 : List UInt8 := dkwX3_doesNow_4 ++ dktX3_doesNow_5
def dkwX3_doesNow_3 : List UInt8 := [182, 0, 185, 172, 42, 42, 180, 0, 36, 3, 46, 182, 0, 130, 172, 42, 42, 180, 0, 36, 3, 46]
abbrev dktX3_doesNow_3 : List UInt8 := dkwX3_doesNow_3 ++ dktX3_doesNow_4
def dkwX3_doesNow_2 : List UInt8 := [42, 42, 180, 0, 36, 3, 46, 182, 0, 111, 172, 42, 182, 0, 173, 172, 42, 42, 180, 0, 36, 3, 46]
abbrev dktX3_doesNow_2 : List UInt8 := dkwX3_doesNow_2 ++ dktX3_doesNow_3
def dkwX3_doesNow_1 : List UInt8 := [170, 0, 0, 0, 0, 0, 0, 121, 0, 0, 0, 0, 0, 0, 0, 6, 0, 0, 0, 44, 0, 0, 0, 55, 0, 0, 0, 60, 0, 0, 0, 71, 0, 0, 0, 82, 0, 0, 0, 93, 0, 0, 0, 104]
abbrev dktX3_doesNow_1 : List UInt8 := dkwX3_doesNow_1 ++ dktX3_doesNow_2
def dkwX3_doesNow_0 : List UInt8 := [42, 180, 1, 6]
abbrev dktX3_doesNow_0 : List UInt8 := dkwX3_doesNow_0 ++ dktX3_doesNow_1
theorem dksX3_doesNow_0 : cX3_doesNow.data.toList.drop 0 = dktX3_doesNow_0 := by decide +kernel
theorem dksX3_doesNow_1 : cX3_doesNow.data.toList.drop 4 = dktX3_doesNow_1 := dk_seg dksX3_doesNow_0 4 rfl rfl
theorem dksX3_doesNow_2 : cX3_doesNow.data.toList.drop 48 = dktX3_doesNow_2 := dk_seg dksX3_doesNow_1 44 rfl rfl
theorem dksX3_doesNow_3 : cX3_doesNow.data.toList.drop 71 = dktX3_doesNow_3 := dk_seg dksX3_doesNow_2 23 rfl rfl
theorem dksX3_doesNow_4 : cX3_doesNow.data.toList.drop 93 = dktX3_doesNow_4 := dk_seg dksX3_doesNow_3 22 rfl rfl
theorem dksX3_doesNow_5 : cX3_doesNow.data.toList.drop 116 = dktX3_doesNow_5 := dk_seg dksX3_doesNow_4 23 rfl rfl
theorem dX3_doesNow_0 : decode cX3_doesNow 0 = .ok (.aload_n 0, 1) := dk_42 (dk_at dksX3_doesNow_0 0 rfl rfl)
theorem dX3_doesNow_1 : decode cX3_doesNow 1 = .ok (.getfield 262, 3) := dk_180 1 6 (dk_at dksX3_doesNow_0 1 rfl rfl)
theorem dX3_doesNow_4 : decode cX3_doesNow 4 = .ok (.tableswitch 121 0 6 #[44, 55, 60, 71, 82, 93, 104], 44) := by decide +kernel
theorem dX3_doesNow_48 : decode cX3_doesNow 48 = .ok (.aload_n 0, 1) := dk_42 (dk_at dksX3_doesNow_2 0 rfl rfl)
theorem dX3_doesNow_49 : decode cX3_doesNow 49 = .ok (.aload_n 0, 1) := dk_42 (dk_at dksX3_doesNow_2 1 rfl rfl)
theorem dX3_doesNow_50 : decode cX3_doesNow 50 = .ok (.getfield 36, 3) := dk_180 0 36 (dk_at dksX3_doesNow_2 2 rfl rfl)
theorem dX3_doesNow_53 : decode cX3_doesNow 53 = .ok (.iconst 0, 1) := dk_3 (dk_at dksX3_doesNow_2 5 rfl rfl)
theorem dX3_doesNow_54 : decode cX3_doesNow 54 = .ok (.iaload, 1) := dk_46 (dk_at dksX3_doesNow_2 6 rfl rfl)
theorem dX3_doesNow_55 : decode cX3_doesNow 55 = .ok (.invokevirtual 111, 3) := dk_182 0 111 (dk_at dksX3_doesNow_2 7 rfl rfl)
theorem dX3_doesNow_58 : decode cX3_doesNow 58 = .ok (.ireturn, 1) := dk_172 (dk_at dksX3_doesNow_2 10 rfl rfl)
theorem dX3_doesNow_59 : decode cX3_doesNow 59 = .ok (.aload_n 0, 1) := dk_42 (dk_at dksX3_doesNow_2 11 rfl rfl)
theorem dX3_doesNow_60 : decode cX3_doesNow 60 = .ok (.invokevirtual 173, 3) := dk_182 0 173 (dk_at dksX3_doesNow_2 12 rfl rfl)
theorem dX3_doesNow_63 : decode cX3_doesNow 63 = .ok (.ireturn, 1) := dk_172 (dk_at dksX3_doesNow_2 15 rfl rfl)
theorem dX3_doesNow_64 : decode cX3_doesNow 64 = .ok (.aload_n 0, 1) := dk_42 (dk_at dksX3_doesNow_2 16 rfl rfl)
theorem dX3_doesNow_65 : decode cX3_doesNow 65 = .ok (.aload_n 0, 1) := dk_42 (dk_at dksX3_doesNow_2 17 rfl rfl)
theorem dX3_doesNow_66 : decode cX3_doesNow 66 = .ok (.getfield 36, 3) := dk_180 0 36 (dk_at dksX3_doesNow_2 18 rfl rfl)
theorem dX3_doesNow_69 : decode cX3_doesNow 69 = .ok (.iconst 0, 1) := dk_3 (dk_at dksX3_doesNow_2 21 rfl rfl)
theorem dX3_doesNow_70 : decode cX3_doesNow 70 = .ok (.iaload, 1) := dk_46 (dk_at dksX3_doesNow_2 22 rfl rfl)
theorem dX3_doesNow_71 : decode cX3_doesNow 71 = .ok (.invokevirtual 185, 3) := dk_182 0 185 (dk_at dksX3_doesNow_3 0 rfl rfl)
theorem dX3_doesNow_74 : decode cX3_doesNow 74 = .ok (.ireturn, 1) := dk_172 (dk_at dksX3_doesNow_3 3 rfl rfl)
theorem dX3_doesNow_75 : decode cX3_doesNow 75 = .ok (.aload_n 0, 1) := dk_42 (dk_at dksX3_doesNow_3 4 rfl rfl)
theorem dX3_doesNow_76 : decode cX3_doesNow 76 = .ok (.aload_n 0, 1) := dk_42 (dk_at dksX3_doesNow_3 5 rfl rfl)
theorem dX3_doesNow_77 : decode cX3_doesNow 77 = .ok (.getfield 36, 3) := dk_180 0 36 (dk_at dksX3_doesNow_3 6 rfl rfl)
theorem dX3_doesNow_80 : decode cX3_doesNow 80 = .ok (.iconst 0, 1) := dk_3 (dk_at dksX3_doesNow_3 9 rfl rfl)
theorem dX3_doesNow_81 : decode cX3_doesNow 81 = .ok (.iaload, 1) := dk_46 (dk_at dksX3_doesNow_3 10 rfl rfl)
theorem dX3_doesNow_82 : decode cX3_doesNow 82 = .ok (.invokevirtual 130, 3) := dk_182 0 130 (dk_at dksX3_doesNow_3 11 rfl rfl)
theorem dX3_doesNow_85 : decode cX3_doesNow 85 = .ok (.ireturn, 1) := dk_172 (dk_at dksX3_doesNow_3 14 rfl rfl)
theorem dX3_doesNow_86 : decode cX3_doesNow 86 = .ok (.aload_n 0, 1) := dk_42 (dk_at dksX3_doesNow_3 15 rfl rfl)
theorem dX3_doesNow_87 : decode cX3_doesNow 87 = .ok (.aload_n 0, 1) := dk_42 (dk_at dksX3_doesNow_3 16 rfl rfl)
theorem dX3_doesNow_88 : decode cX3_doesNow 88 = .ok (.getfield 36, 3) := dk_180 0 36 (dk_at dksX3_doesNow_3 17 rfl rfl)
theorem dX3_doesNow_91 : decode cX3_doesNow 91 = .ok (.iconst 0, 1) := dk_3 (dk_at dksX3_doesNow_3 20 rfl rfl)
theorem dX3_doesNow_92 : decode cX3_doesNow 92 = .ok (.iaload, 1) := dk_46 (dk_at dksX3_doesNow_3 21 rfl rfl)
theorem dX3_doesNow_93 : decode cX3_doesNow 93 = .ok (.invokevirtual 139, 3) := dk_182 0 139 (dk_at dksX3_doesNow_4 0 rfl rfl)
theorem dX3_doesNow_96 : decode cX3_doesNow 96 = .ok (.ireturn, 1) := dk_172 (dk_at dksX3_doesNow_4 3 rfl rfl)
theorem dX3_doesNow_97 : decode cX3_doesNow 97 = .ok (.aload_n 0, 1) := dk_42 (dk_at dksX3_doesNow_4 4 rfl rfl)
theorem dX3_doesNow_98 : decode cX3_doesNow 98 = .ok (.aload_n 0, 1) := dk_42 (dk_at dksX3_doesNow_4 5 rfl rfl)
theorem dX3_doesNow_99 : decode cX3_doesNow 99 = .ok (.getfield 36, 3) := dk_180 0 36 (dk_at dksX3_doesNow_4 6 rfl rfl)
theorem dX3_doesNow_102 : decode cX3_doesNow 102 = .ok (.iconst 0, 1) := dk_3 (dk_at dksX3_doesNow_4 9 rfl rfl)
theorem dX3_doesNow_103 : decode cX3_doesNow 103 = .ok (.iaload, 1) := dk_46 (dk_at dksX3_doesNow_4 10 rfl rfl)
theorem dX3_doesNow_104 : decode cX3_doesNow 104 = .ok (.invokevirtual 215, 3) := dk_182 0 215 (dk_at dksX3_doesNow_4 11 rfl rfl)
theorem dX3_doesNow_107 : decode cX3_doesNow 107 = .ok (.ireturn, 1) := dk_172 (dk_at dksX3_doesNow_4 14 rfl rfl)
theorem dX3_doesNow_108 : decode cX3_doesNow 108 = .ok (.aload_n 0, 1) := dk_42 (dk_at dksX3_doesNow_4 15 rfl rfl)
theorem dX3_doesNow_109 : decode cX3_doesNow 109 = .ok (.aload_n 0, 1) := dk_42 (dk_at dksX3_doesNow_4 16 rfl rfl)
theorem dX3_doesNow_110 : decode cX3_doesNow 110 = .ok (.getfield 36, 3) := dk_180 0 36 (dk_at dksX3_doesNow_4 17 rfl rfl)
theorem dX3_doesNow_113 : decode cX3_doesNow 113 = .ok (.iconst 0, 1) := dk_3 (dk_at dksX3_doesNow_4 20 rfl rfl)
theorem dX3_doesNow_114 : decode cX3_doesNow 114 = .ok (.iaload, 1) := dk_46 (dk_at dksX3_doesNow_4 21 rfl rfl)
theorem dX3_doesNow_115 : decode cX3_doesNow 115 = .ok (.aload_n 0, 1) := dk_42 (dk_at dksX3_doesNow_4 22 rfl rfl)
theorem dX3_doesNow_116 : decode cX3_doesNow 116 = .ok (.getfield 36, 3) := dk_180 0 36 (dk_at dksX3_doesNow_5 0 rfl rfl)
theorem dX3_doesNow_119 : decode cX3_doesNow 119 = .ok (.iconst 1, 1) := dk_4 (dk_at dksX3_doesNow_5 3 rfl rfl)
theorem dX3_doesNow_120 : decode cX3_doesNow 120 = .ok (.iaload, 1) := dk_46 (dk_at dksX3_doesNow_5 4 rfl rfl)
theorem dX3_doesNow_121 : decode cX3_doesNow 121 = .ok (.invokevirtual 191, 3) := dk_182 0 191 (dk_at dksX3_doesNow_5 5 rfl rfl)
theorem dX3_doesNow_124 : decode cX3_doesNow 124 = .ok (.ireturn, 1) := dk_172 (dk_at dksX3_doesNow_5 8 rfl rfl)
theorem dX3_doesNow_125 : decode cX3_doesNow 125 = .ok (.aload_n 0, 1) := dk_42 (dk_at dksX3_doesNow_5 9 rfl rfl)
theorem dX3_doesNow_126 : decode cX3_doesNow 126 = .ok (.aload_n 0, 1) := dk_42 (dk_at dksX3_doesNow_5 10 rfl rfl)
theorem dX3_doesNow_127 : decode cX3_doesNow 127 = .ok (.getfield 36, 3) := dk_180 0 36 (dk_at dksX3_doesNow_5 11 rfl rfl)
theorem dX3_doesNow_130 : decode cX3_doesNow 130 = .ok (.iconst 0, 1) := dk_3 (dk_at dksX3_doesNow_5 14 rfl rfl)
theorem dX3_doesNow_131 : decode cX3_doesNow 131 = .ok (.iaload, 1) := dk_46 (dk_at dksX3_doesNow_5 15 rfl rfl)
theorem dX3_doesNow_132 : decode cX3_doesNow 132 = .ok (.invokevirtual 233, 3) := dk_182 0 233 (dk_at dksX3_doesNow_5 16 rfl rfl)
theorem dX3_doesNow_135 : decode cX3_doesNow 135 = .ok (.ireturn, 1) := dk_172 (dk_at dksX3_doesNow_5 19 rfl rfl)
abbrev cX3_faultPosition : ByteArray := prog_9_method_117_code
def yX3_faultPosition : MethodName := ⟨RX3, "faultPosition", "()I"⟩
def dkwX3_faultPosition_0 : List UInt8 := [42, 3, 181, 0, 42, 42, 180, 0, 32, 172]
abbrev dktX3_faultPosition_0 : List UInt8 := dkwX3_faultPosition_0 ++ []
theorem dksX3_faultPosition_0 : cX3_faultPosition.data.toList.drop 0 = dktX3_faultPosition_0 := by decide +kernel
theorem dX3_faultPosition_0 : decode cX3_faultPosition 0 = .ok (.aload_n 0, 1) := dk_42 (dk_at dksX3_faultPosition_0 0 rfl rfl)
theorem dX3_faultPosition_1 : decode cX3_faultPosition 1 = .ok (.iconst 0, 1) := dk_3 (dk_at dksX3_faultPosition_0 1 rfl rfl)
theorem dX3_faultPosition_2 : decode cX3_faultPosition 2 = .ok (.putfield 42, 3) := dk_181 0 42 (dk_at dksX3_faultPosition_0 2 rfl rfl)
theorem dX3_faultPosition_5 : decode cX3_faultPosition 5 = .ok (.aload_n 0, 1) := dk_42 (dk_at dksX3_faultPosition_0 5 rfl rfl)
theorem dX3_faultPosition_6 : decode cX3_faultPosition 6 = .ok (.getfield 32, 3) := dk_180 0 32 (dk_at dksX3_faultPosition_0 6 rfl rfl)
theorem dX3_faultPosition_9 : decode cX3_faultPosition 9 = .ok (.ireturn, 1) := dk_172 (dk_at dksX3_faultPosition_0 9 rfl rfl)
abbrev cX3_reason : ByteArray := prog_9_method_118_code
def yX3_reason : MethodName := ⟨RX3, "reason", "(IZ)I"⟩
def dkwX3_reason_2 : List UInt8 := [42, 180, 0, 7, 27, 46, 172]
abbrev dktX3_reason_2 : List UInt8 := dkwX3_reason_2 ++ []
def dkwX3_reason_1 : List UInt8 := [27, 46, 154, 0, 9, 42, 5, 182, 0, 61, 172, 28, 153, 0, 12, 42, 180, 0, 13, 27, 46, 167, 0, 9]
abbrev dktX3_reason_1 : List UInt8 := dkwX3_reason_1 ++ dktX3_reason_2
def dkwX3_reason_0 : List UInt8 := [42, 3, 181, 0, 42, 27, 156, 0, 9, 42, 4, 182, 0, 61, 172, 27, 5, 163, 0, 12, 42, 180, 0, 7]
abbrev dktX3_reason_0 : List UInt8 := dkwX3_reason_0 ++ dktX3_reason_1
theorem dksX3_reason_0 : cX3_reason.data.toList.drop 0 = dktX3_reason_0 := by decide +kernel
theorem dksX3_reason_1 : cX3_reason.data.toList.drop 24 = dktX3_reason_1 := dk_seg dksX3_reason_0 24 rfl rfl
theorem dksX3_reason_2 : cX3_reason.data.toList.drop 48 = dktX3_reason_2 := dk_seg dksX3_reason_1 24 rfl rfl
theorem dX3_reason_0 : decode cX3_reason 0 = .ok (.aload_n 0, 1) := dk_42 (dk_at dksX3_reason_0 0 rfl rfl)
theorem dX3_reason_1 : decode cX3_reason 1 = .ok (.iconst 0, 1) := dk_3 (dk_at dksX3_reason_0 1 rfl rfl)
theorem dX3_reason_2 : decode cX3_reason 2 = .ok (.putfield 42, 3) := dk_181 0 42 (dk_at dksX3_reason_0 2 rfl rfl)
theorem dX3_reason_5 : decode cX3_reason 5 = .ok (.iload_n 1, 1) := dk_27 (dk_at dksX3_reason_0 5 rfl rfl)
theorem dX3_reason_6 : decode cX3_reason 6 = .ok (.ifCond .ge 9, 3) := dk_156 0 9 (dk_at dksX3_reason_0 6 rfl rfl)
theorem dX3_reason_9 : decode cX3_reason 9 = .ok (.aload_n 0, 1) := dk_42 (dk_at dksX3_reason_0 9 rfl rfl)
theorem dX3_reason_10 : decode cX3_reason 10 = .ok (.iconst 1, 1) := dk_4 (dk_at dksX3_reason_0 10 rfl rfl)
theorem dX3_reason_11 : decode cX3_reason 11 = .ok (.invokevirtual 61, 3) := dk_182 0 61 (dk_at dksX3_reason_0 11 rfl rfl)
theorem dX3_reason_14 : decode cX3_reason 14 = .ok (.ireturn, 1) := dk_172 (dk_at dksX3_reason_0 14 rfl rfl)
theorem dX3_reason_15 : decode cX3_reason 15 = .ok (.iload_n 1, 1) := dk_27 (dk_at dksX3_reason_0 15 rfl rfl)
theorem dX3_reason_16 : decode cX3_reason 16 = .ok (.iconst 2, 1) := dk_5 (dk_at dksX3_reason_0 16 rfl rfl)
theorem dX3_reason_17 : decode cX3_reason 17 = .ok (.if_icmp .gt 12, 3) := dk_163 0 12 (dk_at dksX3_reason_0 17 rfl rfl)
theorem dX3_reason_20 : decode cX3_reason 20 = .ok (.aload_n 0, 1) := dk_42 (dk_at dksX3_reason_0 20 rfl rfl)
theorem dX3_reason_21 : decode cX3_reason 21 = .ok (.getfield 7, 3) := dk_180 0 7 (dk_at dksX3_reason_0 21 rfl rfl)
theorem dX3_reason_24 : decode cX3_reason 24 = .ok (.iload_n 1, 1) := dk_27 (dk_at dksX3_reason_1 0 rfl rfl)
theorem dX3_reason_25 : decode cX3_reason 25 = .ok (.iaload, 1) := dk_46 (dk_at dksX3_reason_1 1 rfl rfl)
theorem dX3_reason_26 : decode cX3_reason 26 = .ok (.ifCond .ne 9, 3) := dk_154 0 9 (dk_at dksX3_reason_1 2 rfl rfl)
theorem dX3_reason_29 : decode cX3_reason 29 = .ok (.aload_n 0, 1) := dk_42 (dk_at dksX3_reason_1 5 rfl rfl)
theorem dX3_reason_30 : decode cX3_reason 30 = .ok (.iconst 2, 1) := dk_5 (dk_at dksX3_reason_1 6 rfl rfl)
theorem dX3_reason_31 : decode cX3_reason 31 = .ok (.invokevirtual 61, 3) := dk_182 0 61 (dk_at dksX3_reason_1 7 rfl rfl)
theorem dX3_reason_34 : decode cX3_reason 34 = .ok (.ireturn, 1) := dk_172 (dk_at dksX3_reason_1 10 rfl rfl)
theorem dX3_reason_35 : decode cX3_reason 35 = .ok (.iload_n 2, 1) := dk_28 (dk_at dksX3_reason_1 11 rfl rfl)
theorem dX3_reason_36 : decode cX3_reason 36 = .ok (.ifCond .eq 12, 3) := dk_153 0 12 (dk_at dksX3_reason_1 12 rfl rfl)
theorem dX3_reason_39 : decode cX3_reason 39 = .ok (.aload_n 0, 1) := dk_42 (dk_at dksX3_reason_1 15 rfl rfl)
theorem dX3_reason_40 : decode cX3_reason 40 = .ok (.getfield 13, 3) := dk_180 0 13 (dk_at dksX3_reason_1 16 rfl rfl)
theorem dX3_reason_43 : decode cX3_reason 43 = .ok (.iload_n 1, 1) := dk_27 (dk_at dksX3_reason_1 19 rfl rfl)
theorem dX3_reason_44 : decode cX3_reason 44 = .ok (.iaload, 1) := dk_46 (dk_at dksX3_reason_1 20 rfl rfl)
theorem dX3_reason_45 : decode cX3_reason 45 = .ok (.goto 9, 3) := dk_167 0 9 (dk_at dksX3_reason_1 21 rfl rfl)
theorem dX3_reason_48 : decode cX3_reason 48 = .ok (.aload_n 0, 1) := dk_42 (dk_at dksX3_reason_2 0 rfl rfl)
theorem dX3_reason_49 : decode cX3_reason 49 = .ok (.getfield 7, 3) := dk_180 0 7 (dk_at dksX3_reason_2 1 rfl rfl)
theorem dX3_reason_52 : decode cX3_reason 52 = .ok (.iload_n 1, 1) := dk_27 (dk_at dksX3_reason_2 4 rfl rfl)
theorem dX3_reason_53 : decode cX3_reason 53 = .ok (.iaload, 1) := dk_46 (dk_at dksX3_reason_2 5 rfl rfl)
theorem dX3_reason_54 : decode cX3_reason 54 = .ok (.ireturn, 1) := dk_172 (dk_at dksX3_reason_2 6 rfl rfl)
abbrev cX3_tellBench : ByteArray := prog_9_method_122_code
def yX3_tellBench : MethodName := ⟨RX3, "tellBench", "()I"⟩
def dkwX3_tellBench_4 : List UInt8 := [180, 1, 36, 172]
abbrev dktX3_tellBench_4 : List UInt8 := dkwX3_tellBench_4 ++ []
def dkwX3_tellBench_3 : List UInt8 := [182, 1, 39, 42, 42, 180, 0, 16, 16, 12, 27, 96, 46, 182, 1, 45, 132, 1, 1, 167, 255, 220, 42]
abbrev dktX3_tellBench_3 : List UInt8 := dkwX3_tellBench_3 ++ dktX3_tellBench_4
def dkwX3_tellBench_2 : List UInt8 := [182, 1, 39, 3, 60, 27, 42, 180, 0, 16, 6, 46, 162, 0, 32, 27, 158, 0, 9, 42, 16, 32]
abbrev dktX3_tellBench_2 : List UInt8 := dkwX3_tellBench_2 ++ dktX3_tellBench_3
def dkwX3_tellBench_1 : List UInt8 := [182, 1, 39, 42, 16, 109, 182, 1, 39, 42, 16, 112, 182, 1, 39, 42, 16, 116, 182, 1, 39, 42, 16, 121]
abbrev dktX3_tellBench_1 : List UInt8 := dkwX3_tellBench_1 ++ dktX3_tellBench_2
def dkwX3_tellBench_0 : List UInt8 := [42, 3, 181, 0, 42, 42, 3, 181, 1, 36, 42, 180, 0, 16, 6, 46, 154, 0, 33, 42, 16, 101]
abbrev dktX3_tellBench_0 : List UInt8 := dkwX3_tellBench_0 ++ dktX3_tellBench_1
theorem dksX3_tellBench_0 : cX3_tellBench.data.toList.drop 0 = dktX3_tellBench_0 := by decide +kernel
theorem dksX3_tellBench_1 : cX3_tellBench.data.toList.drop 22 = dktX3_tellBench_1 := dk_seg dksX3_tellBench_0 22 rfl rfl
theorem dksX3_tellBench_2 : cX3_tellBench.data.toList.drop 46 = dktX3_tellBench_2 := dk_seg dksX3_tellBench_1 24 rfl rfl
theorem dksX3_tellBench_3 : cX3_tellBench.data.toList.drop 68 = dktX3_tellBench_3 := dk_seg dksX3_tellBench_2 22 rfl rfl
theorem dksX3_tellBench_4 : cX3_tellBench.data.toList.drop 91 = dktX3_tellBench_4 := dk_seg dksX3_tellBench_3 23 rfl rfl
theorem dX3_tellBench_0 : decode cX3_tellBench 0 = .ok (.aload_n 0, 1) := dk_42 (dk_at dksX3_tellBench_0 0 rfl rfl)
theorem dX3_tellBench_1 : decode cX3_tellBench 1 = .ok (.iconst 0, 1) := dk_3 (dk_at dksX3_tellBench_0 1 rfl rfl)
theorem dX3_tellBench_2 : decode cX3_tellBench 2 = .ok (.putfield 42, 3) := dk_181 0 42 (dk_at dksX3_tellBench_0 2 rfl rfl)
theorem dX3_tellBench_5 : decode cX3_tellBench 5 = .ok (.aload_n 0, 1) := dk_42 (dk_at dksX3_tellBench_0 5 rfl rfl)
theorem dX3_tellBench_6 : decode cX3_tellBench 6 = .ok (.iconst 0, 1) := dk_3 (dk_at dksX3_tellBench_0 6 rfl rfl)
theorem dX3_tellBench_7 : decode cX3_tellBench 7 = .ok (.putfield 292, 3) := dk_181 1 36 (dk_at dksX3_tellBench_0 7 rfl rfl)
theorem dX3_tellBench_10 : decode cX3_tellBench 10 = .ok (.aload_n 0, 1) := dk_42 (dk_at dksX3_tellBench_0 10 rfl rfl)
theorem dX3_tellBench_11 : decode cX3_tellBench 11 = .ok (.getfield 16, 3) := dk_180 0 16 (dk_at dksX3_tellBench_0 11 rfl rfl)
theorem dX3_tellBench_14 : decode cX3_tellBench 14 = .ok (.iconst 3, 1) := dk_6 (dk_at dksX3_tellBench_0 14 rfl rfl)
theorem dX3_tellBench_15 : decode cX3_tellBench 15 = .ok (.iaload, 1) := dk_46 (dk_at dksX3_tellBench_0 15 rfl rfl)
theorem dX3_tellBench_16 : decode cX3_tellBench 16 = .ok (.ifCond .ne 33, 3) := dk_154 0 33 (dk_at dksX3_tellBench_0 16 rfl rfl)
theorem dX3_tellBench_19 : decode cX3_tellBench 19 = .ok (.aload_n 0, 1) := dk_42 (dk_at dksX3_tellBench_0 19 rfl rfl)
theorem dX3_tellBench_20 : decode cX3_tellBench 20 = .ok (.bipush 101, 2) := dk_16 101 (dk_at dksX3_tellBench_0 20 rfl rfl)
theorem dX3_tellBench_22 : decode cX3_tellBench 22 = .ok (.invokevirtual 295, 3) := dk_182 1 39 (dk_at dksX3_tellBench_1 0 rfl rfl)
theorem dX3_tellBench_25 : decode cX3_tellBench 25 = .ok (.aload_n 0, 1) := dk_42 (dk_at dksX3_tellBench_1 3 rfl rfl)
theorem dX3_tellBench_26 : decode cX3_tellBench 26 = .ok (.bipush 109, 2) := dk_16 109 (dk_at dksX3_tellBench_1 4 rfl rfl)
theorem dX3_tellBench_28 : decode cX3_tellBench 28 = .ok (.invokevirtual 295, 3) := dk_182 1 39 (dk_at dksX3_tellBench_1 6 rfl rfl)
theorem dX3_tellBench_31 : decode cX3_tellBench 31 = .ok (.aload_n 0, 1) := dk_42 (dk_at dksX3_tellBench_1 9 rfl rfl)
theorem dX3_tellBench_32 : decode cX3_tellBench 32 = .ok (.bipush 112, 2) := dk_16 112 (dk_at dksX3_tellBench_1 10 rfl rfl)
theorem dX3_tellBench_34 : decode cX3_tellBench 34 = .ok (.invokevirtual 295, 3) := dk_182 1 39 (dk_at dksX3_tellBench_1 12 rfl rfl)
theorem dX3_tellBench_37 : decode cX3_tellBench 37 = .ok (.aload_n 0, 1) := dk_42 (dk_at dksX3_tellBench_1 15 rfl rfl)
theorem dX3_tellBench_38 : decode cX3_tellBench 38 = .ok (.bipush 116, 2) := dk_16 116 (dk_at dksX3_tellBench_1 16 rfl rfl)
theorem dX3_tellBench_40 : decode cX3_tellBench 40 = .ok (.invokevirtual 295, 3) := dk_182 1 39 (dk_at dksX3_tellBench_1 18 rfl rfl)
theorem dX3_tellBench_43 : decode cX3_tellBench 43 = .ok (.aload_n 0, 1) := dk_42 (dk_at dksX3_tellBench_1 21 rfl rfl)
theorem dX3_tellBench_44 : decode cX3_tellBench 44 = .ok (.bipush 121, 2) := dk_16 121 (dk_at dksX3_tellBench_1 22 rfl rfl)
theorem dX3_tellBench_46 : decode cX3_tellBench 46 = .ok (.invokevirtual 295, 3) := dk_182 1 39 (dk_at dksX3_tellBench_2 0 rfl rfl)
theorem dX3_tellBench_49 : decode cX3_tellBench 49 = .ok (.iconst 0, 1) := dk_3 (dk_at dksX3_tellBench_2 3 rfl rfl)
theorem dX3_tellBench_50 : decode cX3_tellBench 50 = .ok (.istore_n 1, 1) := dk_60 (dk_at dksX3_tellBench_2 4 rfl rfl)
theorem dX3_tellBench_51 : decode cX3_tellBench 51 = .ok (.iload_n 1, 1) := dk_27 (dk_at dksX3_tellBench_2 5 rfl rfl)
theorem dX3_tellBench_52 : decode cX3_tellBench 52 = .ok (.aload_n 0, 1) := dk_42 (dk_at dksX3_tellBench_2 6 rfl rfl)
theorem dX3_tellBench_53 : decode cX3_tellBench 53 = .ok (.getfield 16, 3) := dk_180 0 16 (dk_at dksX3_tellBench_2 7 rfl rfl)
theorem dX3_tellBench_56 : decode cX3_tellBench 56 = .ok (.iconst 3, 1) := dk_6 (dk_at dksX3_tellBench_2 10 rfl rfl)
theorem dX3_tellBench_57 : decode cX3_tellBench 57 = .ok (.iaload, 1) := dk_46 (dk_at dksX3_tellBench_2 11 rfl rfl)
theorem dX3_tellBench_58 : decode cX3_tellBench 58 = .ok (.if_icmp .ge 32, 3) := dk_162 0 32 (dk_at dksX3_tellBench_2 12 rfl rfl)
theorem dX3_tellBench_61 : decode cX3_tellBench 61 = .ok (.iload_n 1, 1) := dk_27 (dk_at dksX3_tellBench_2 15 rfl rfl)
theorem dX3_tellBench_62 : decode cX3_tellBench 62 = .ok (.ifCond .le 9, 3) := dk_158 0 9 (dk_at dksX3_tellBench_2 16 rfl rfl)
theorem dX3_tellBench_65 : decode cX3_tellBench 65 = .ok (.aload_n 0, 1) := dk_42 (dk_at dksX3_tellBench_2 19 rfl rfl)
theorem dX3_tellBench_66 : decode cX3_tellBench 66 = .ok (.bipush 32, 2) := dk_16 32 (dk_at dksX3_tellBench_2 20 rfl rfl)
theorem dX3_tellBench_68 : decode cX3_tellBench 68 = .ok (.invokevirtual 295, 3) := dk_182 1 39 (dk_at dksX3_tellBench_3 0 rfl rfl)
theorem dX3_tellBench_71 : decode cX3_tellBench 71 = .ok (.aload_n 0, 1) := dk_42 (dk_at dksX3_tellBench_3 3 rfl rfl)
theorem dX3_tellBench_72 : decode cX3_tellBench 72 = .ok (.aload_n 0, 1) := dk_42 (dk_at dksX3_tellBench_3 4 rfl rfl)
theorem dX3_tellBench_73 : decode cX3_tellBench 73 = .ok (.getfield 16, 3) := dk_180 0 16 (dk_at dksX3_tellBench_3 5 rfl rfl)
theorem dX3_tellBench_76 : decode cX3_tellBench 76 = .ok (.bipush 12, 2) := dk_16 12 (dk_at dksX3_tellBench_3 8 rfl rfl)
theorem dX3_tellBench_78 : decode cX3_tellBench 78 = .ok (.iload_n 1, 1) := dk_27 (dk_at dksX3_tellBench_3 10 rfl rfl)
theorem dX3_tellBench_79 : decode cX3_tellBench 79 = .ok (.iadd, 1) := dk_96 (dk_at dksX3_tellBench_3 11 rfl rfl)
theorem dX3_tellBench_80 : decode cX3_tellBench 80 = .ok (.iaload, 1) := dk_46 (dk_at dksX3_tellBench_3 12 rfl rfl)
theorem dX3_tellBench_81 : decode cX3_tellBench 81 = .ok (.invokevirtual 301, 3) := dk_182 1 45 (dk_at dksX3_tellBench_3 13 rfl rfl)
theorem dX3_tellBench_84 : decode cX3_tellBench 84 = .ok (.iinc 1 1, 3) := dk_132 1 1 (dk_at dksX3_tellBench_3 16 rfl rfl)
theorem dX3_tellBench_87 : decode cX3_tellBench 87 = .ok (.goto (-36), 3) := dk_167 255 220 (dk_at dksX3_tellBench_3 19 rfl rfl)
theorem dX3_tellBench_90 : decode cX3_tellBench 90 = .ok (.aload_n 0, 1) := dk_42 (dk_at dksX3_tellBench_3 22 rfl rfl)
theorem dX3_tellBench_91 : decode cX3_tellBench 91 = .ok (.getfield 292, 3) := dk_180 1 36 (dk_at dksX3_tellBench_4 0 rfl rfl)
theorem dX3_tellBench_94 : decode cX3_tellBench 94 = .ok (.ireturn, 1) := dk_172 (dk_at dksX3_tellBench_4 3 rfl rfl)
abbrev cX3_puts : ByteArray := prog_9_method_119_code
def yX3_puts : MethodName := ⟨RX3, "puts", "(I)V"⟩
def dkwX3_puts_0 : List UInt8 := [42, 180, 0, 39, 42, 180, 1, 36, 27, 146, 85, 42, 89, 180, 1, 36, 4, 96, 181, 1, 36, 177]
abbrev dktX3_puts_0 : List UInt8 := dkwX3_puts_0 ++ []
theorem dksX3_puts_0 : cX3_puts.data.toList.drop 0 = dktX3_puts_0 := by decide +kernel
theorem dX3_puts_0 : decode cX3_puts 0 = .ok (.aload_n 0, 1) := dk_42 (dk_at dksX3_puts_0 0 rfl rfl)
theorem dX3_puts_1 : decode cX3_puts 1 = .ok (.getfield 39, 3) := dk_180 0 39 (dk_at dksX3_puts_0 1 rfl rfl)
theorem dX3_puts_4 : decode cX3_puts 4 = .ok (.aload_n 0, 1) := dk_42 (dk_at dksX3_puts_0 4 rfl rfl)
theorem dX3_puts_5 : decode cX3_puts 5 = .ok (.getfield 292, 3) := dk_180 1 36 (dk_at dksX3_puts_0 5 rfl rfl)
theorem dX3_puts_8 : decode cX3_puts 8 = .ok (.iload_n 1, 1) := dk_27 (dk_at dksX3_puts_0 8 rfl rfl)
theorem dX3_puts_9 : decode cX3_puts 9 = .ok (.i2c, 1) := dk_146 (dk_at dksX3_puts_0 9 rfl rfl)
theorem dX3_puts_10 : decode cX3_puts 10 = .ok (.castore, 1) := dk_85 (dk_at dksX3_puts_0 10 rfl rfl)
theorem dX3_puts_11 : decode cX3_puts 11 = .ok (.aload_n 0, 1) := dk_42 (dk_at dksX3_puts_0 11 rfl rfl)
theorem dX3_puts_12 : decode cX3_puts 12 = .ok (.dup, 1) := dk_89 (dk_at dksX3_puts_0 12 rfl rfl)
theorem dX3_puts_13 : decode cX3_puts 13 = .ok (.getfield 292, 3) := dk_180 1 36 (dk_at dksX3_puts_0 13 rfl rfl)
theorem dX3_puts_16 : decode cX3_puts 16 = .ok (.iconst 1, 1) := dk_4 (dk_at dksX3_puts_0 16 rfl rfl)
theorem dX3_puts_17 : decode cX3_puts 17 = .ok (.iadd, 1) := dk_96 (dk_at dksX3_puts_0 17 rfl rfl)
theorem dX3_puts_18 : decode cX3_puts 18 = .ok (.putfield 292, 3) := dk_181 1 36 (dk_at dksX3_puts_0 18 rfl rfl)
theorem dX3_puts_21 : decode cX3_puts 21 = .ok (.return_, 1) := dk_177 (dk_at dksX3_puts_0 21 rfl rfl)
abbrev cX3_putsPipe : ByteArray := prog_9_method_121_code
def yX3_putsPipe : MethodName := ⟨RX3, "putsPipe", "(I)V"⟩
def dkwX3_putsPipe_2 : List UInt8 := [16, 126, 182, 1, 39, 177]
abbrev dktX3_putsPipe_2 : List UInt8 := dkwX3_putsPipe_2 ++ []
def dkwX3_putsPipe_1 : List UInt8 := [182, 1, 39, 42, 42, 27, 4, 182, 0, 155, 182, 1, 42, 42, 27, 5, 182, 0, 155, 8, 161, 0, 9, 42]
abbrev dktX3_putsPipe_1 : List UInt8 := dkwX3_putsPipe_1 ++ dktX3_putsPipe_2
def dkwX3_putsPipe_0 : List UInt8 := [42, 27, 182, 1, 42, 42, 16, 58, 182, 1, 39, 42, 42, 27, 3, 182, 0, 155, 182, 1, 42, 42, 16, 47]
abbrev dktX3_putsPipe_0 : List UInt8 := dkwX3_putsPipe_0 ++ dktX3_putsPipe_1
theorem dksX3_putsPipe_0 : cX3_putsPipe.data.toList.drop 0 = dktX3_putsPipe_0 := by decide +kernel
theorem dksX3_putsPipe_1 : cX3_putsPipe.data.toList.drop 24 = dktX3_putsPipe_1 := dk_seg dksX3_putsPipe_0 24 rfl rfl
theorem dksX3_putsPipe_2 : cX3_putsPipe.data.toList.drop 48 = dktX3_putsPipe_2 := dk_seg dksX3_putsPipe_1 24 rfl rfl
theorem dX3_putsPipe_0 : decode cX3_putsPipe 0 = .ok (.aload_n 0, 1) := dk_42 (dk_at dksX3_putsPipe_0 0 rfl rfl)
theorem dX3_putsPipe_1 : decode cX3_putsPipe 1 = .ok (.iload_n 1, 1) := dk_27 (dk_at dksX3_putsPipe_0 1 rfl rfl)
theorem dX3_putsPipe_2 : decode cX3_putsPipe 2 = .ok (.invokevirtual 298, 3) := dk_182 1 42 (dk_at dksX3_putsPipe_0 2 rfl rfl)
theorem dX3_putsPipe_5 : decode cX3_putsPipe 5 = .ok (.aload_n 0, 1) := dk_42 (dk_at dksX3_putsPipe_0 5 rfl rfl)
theorem dX3_putsPipe_6 : decode cX3_putsPipe 6 = .ok (.bipush 58, 2) := dk_16 58 (dk_at dksX3_putsPipe_0 6 rfl rfl)
theorem dX3_putsPipe_8 : decode cX3_putsPipe 8 = .ok (.invokevirtual 295, 3) := dk_182 1 39 (dk_at dksX3_putsPipe_0 8 rfl rfl)
theorem dX3_putsPipe_11 : decode cX3_putsPipe 11 = .ok (.aload_n 0, 1) := dk_42 (dk_at dksX3_putsPipe_0 11 rfl rfl)
theorem dX3_putsPipe_12 : decode cX3_putsPipe 12 = .ok (.aload_n 0, 1) := dk_42 (dk_at dksX3_putsPipe_0 12 rfl rfl)
theorem dX3_putsPipe_13 : decode cX3_putsPipe 13 = .ok (.iload_n 1, 1) := dk_27 (dk_at dksX3_putsPipe_0 13 rfl rfl)
theorem dX3_putsPipe_14 : decode cX3_putsPipe 14 = .ok (.iconst 0, 1) := dk_3 (dk_at dksX3_putsPipe_0 14 rfl rfl)
theorem dX3_putsPipe_15 : decode cX3_putsPipe 15 = .ok (.invokevirtual 155, 3) := dk_182 0 155 (dk_at dksX3_putsPipe_0 15 rfl rfl)
theorem dX3_putsPipe_18 : decode cX3_putsPipe 18 = .ok (.invokevirtual 298, 3) := dk_182 1 42 (dk_at dksX3_putsPipe_0 18 rfl rfl)
theorem dX3_putsPipe_21 : decode cX3_putsPipe 21 = .ok (.aload_n 0, 1) := dk_42 (dk_at dksX3_putsPipe_0 21 rfl rfl)
theorem dX3_putsPipe_22 : decode cX3_putsPipe 22 = .ok (.bipush 47, 2) := dk_16 47 (dk_at dksX3_putsPipe_0 22 rfl rfl)
theorem dX3_putsPipe_24 : decode cX3_putsPipe 24 = .ok (.invokevirtual 295, 3) := dk_182 1 39 (dk_at dksX3_putsPipe_1 0 rfl rfl)
theorem dX3_putsPipe_27 : decode cX3_putsPipe 27 = .ok (.aload_n 0, 1) := dk_42 (dk_at dksX3_putsPipe_1 3 rfl rfl)
theorem dX3_putsPipe_28 : decode cX3_putsPipe 28 = .ok (.aload_n 0, 1) := dk_42 (dk_at dksX3_putsPipe_1 4 rfl rfl)
theorem dX3_putsPipe_29 : decode cX3_putsPipe 29 = .ok (.iload_n 1, 1) := dk_27 (dk_at dksX3_putsPipe_1 5 rfl rfl)
theorem dX3_putsPipe_30 : decode cX3_putsPipe 30 = .ok (.iconst 1, 1) := dk_4 (dk_at dksX3_putsPipe_1 6 rfl rfl)
theorem dX3_putsPipe_31 : decode cX3_putsPipe 31 = .ok (.invokevirtual 155, 3) := dk_182 0 155 (dk_at dksX3_putsPipe_1 7 rfl rfl)
theorem dX3_putsPipe_34 : decode cX3_putsPipe 34 = .ok (.invokevirtual 298, 3) := dk_182 1 42 (dk_at dksX3_putsPipe_1 10 rfl rfl)
theorem dX3_putsPipe_37 : decode cX3_putsPipe 37 = .ok (.aload_n 0, 1) := dk_42 (dk_at dksX3_putsPipe_1 13 rfl rfl)
theorem dX3_putsPipe_38 : decode cX3_putsPipe 38 = .ok (.iload_n 1, 1) := dk_27 (dk_at dksX3_putsPipe_1 14 rfl rfl)
theorem dX3_putsPipe_39 : decode cX3_putsPipe 39 = .ok (.iconst 2, 1) := dk_5 (dk_at dksX3_putsPipe_1 15 rfl rfl)
theorem dX3_putsPipe_40 : decode cX3_putsPipe 40 = .ok (.invokevirtual 155, 3) := dk_182 0 155 (dk_at dksX3_putsPipe_1 16 rfl rfl)
theorem dX3_putsPipe_43 : decode cX3_putsPipe 43 = .ok (.iconst 5, 1) := dk_8 (dk_at dksX3_putsPipe_1 19 rfl rfl)
theorem dX3_putsPipe_44 : decode cX3_putsPipe 44 = .ok (.if_icmp .lt 9, 3) := dk_161 0 9 (dk_at dksX3_putsPipe_1 20 rfl rfl)
theorem dX3_putsPipe_47 : decode cX3_putsPipe 47 = .ok (.aload_n 0, 1) := dk_42 (dk_at dksX3_putsPipe_1 23 rfl rfl)
theorem dX3_putsPipe_48 : decode cX3_putsPipe 48 = .ok (.bipush 126, 2) := dk_16 126 (dk_at dksX3_putsPipe_2 0 rfl rfl)
theorem dX3_putsPipe_50 : decode cX3_putsPipe 50 = .ok (.invokevirtual 295, 3) := dk_182 1 39 (dk_at dksX3_putsPipe_2 2 rfl rfl)
theorem dX3_putsPipe_53 : decode cX3_putsPipe 53 = .ok (.return_, 1) := dk_177 (dk_at dksX3_putsPipe_2 5 rfl rfl)
abbrev cX3_putsNumber : ByteArray := prog_9_method_120_code
def yX3_putsNumber : MethodName := ⟨RX3, "putsNumber", "(I)V"⟩
def dkwX3_putsNumber_1 : List UInt8 := [96, 182, 1, 39, 177]
abbrev dktX3_putsNumber_1 : List UInt8 := dkwX3_putsNumber_1 ++ []
def dkwX3_putsNumber_0 : List UInt8 := [27, 16, 9, 164, 0, 14, 42, 16, 48, 27, 16, 10, 108, 96, 182, 1, 39, 42, 16, 48, 27, 16, 10, 112]
abbrev dktX3_putsNumber_0 : List UInt8 := dkwX3_putsNumber_0 ++ dktX3_putsNumber_1
theorem dksX3_putsNumber_0 : cX3_putsNumber.data.toList.drop 0 = dktX3_putsNumber_0 := by decide +kernel
theorem dksX3_putsNumber_1 : cX3_putsNumber.data.toList.drop 24 = dktX3_putsNumber_1 := dk_seg dksX3_putsNumber_0 24 rfl rfl
theorem dX3_putsNumber_0 : decode cX3_putsNumber 0 = .ok (.iload_n 1, 1) := dk_27 (dk_at dksX3_putsNumber_0 0 rfl rfl)
theorem dX3_putsNumber_1 : decode cX3_putsNumber 1 = .ok (.bipush 9, 2) := dk_16 9 (dk_at dksX3_putsNumber_0 1 rfl rfl)
theorem dX3_putsNumber_3 : decode cX3_putsNumber 3 = .ok (.if_icmp .le 14, 3) := dk_164 0 14 (dk_at dksX3_putsNumber_0 3 rfl rfl)
theorem dX3_putsNumber_6 : decode cX3_putsNumber 6 = .ok (.aload_n 0, 1) := dk_42 (dk_at dksX3_putsNumber_0 6 rfl rfl)
theorem dX3_putsNumber_7 : decode cX3_putsNumber 7 = .ok (.bipush 48, 2) := dk_16 48 (dk_at dksX3_putsNumber_0 7 rfl rfl)
theorem dX3_putsNumber_9 : decode cX3_putsNumber 9 = .ok (.iload_n 1, 1) := dk_27 (dk_at dksX3_putsNumber_0 9 rfl rfl)
theorem dX3_putsNumber_10 : decode cX3_putsNumber 10 = .ok (.bipush 10, 2) := dk_16 10 (dk_at dksX3_putsNumber_0 10 rfl rfl)
theorem dX3_putsNumber_12 : decode cX3_putsNumber 12 = .ok (.idiv, 1) := dk_108 (dk_at dksX3_putsNumber_0 12 rfl rfl)
theorem dX3_putsNumber_13 : decode cX3_putsNumber 13 = .ok (.iadd, 1) := dk_96 (dk_at dksX3_putsNumber_0 13 rfl rfl)
theorem dX3_putsNumber_14 : decode cX3_putsNumber 14 = .ok (.invokevirtual 295, 3) := dk_182 1 39 (dk_at dksX3_putsNumber_0 14 rfl rfl)
theorem dX3_putsNumber_17 : decode cX3_putsNumber 17 = .ok (.aload_n 0, 1) := dk_42 (dk_at dksX3_putsNumber_0 17 rfl rfl)
theorem dX3_putsNumber_18 : decode cX3_putsNumber 18 = .ok (.bipush 48, 2) := dk_16 48 (dk_at dksX3_putsNumber_0 18 rfl rfl)
theorem dX3_putsNumber_20 : decode cX3_putsNumber 20 = .ok (.iload_n 1, 1) := dk_27 (dk_at dksX3_putsNumber_0 20 rfl rfl)
theorem dX3_putsNumber_21 : decode cX3_putsNumber 21 = .ok (.bipush 10, 2) := dk_16 10 (dk_at dksX3_putsNumber_0 21 rfl rfl)
theorem dX3_putsNumber_23 : decode cX3_putsNumber 23 = .ok (.irem, 1) := dk_112 (dk_at dksX3_putsNumber_0 23 rfl rfl)
theorem dX3_putsNumber_24 : decode cX3_putsNumber 24 = .ok (.iadd, 1) := dk_96 (dk_at dksX3_putsNumber_1 0 rfl rfl)
theorem dX3_putsNumber_25 : decode cX3_putsNumber 25 = .ok (.invokevirtual 295, 3) := dk_182 1 39 (dk_at dksX3_putsNumber_1 1 rfl rfl)
theorem dX3_putsNumber_28 : decode cX3_putsNumber 28 = .ok (.return_, 1) := dk_177 (dk_at dksX3_putsNumber_1 4 rfl rfl)
abbrev cX3_tellPerches : ByteArray := prog_9_method_123_code
def yX3_tellPerches : MethodName := ⟨RX3, "tellPerches", "()I"⟩
def dkwX3_tellPerches_1 : List UInt8 := [153, 0, 8, 16, 112, 167, 0, 5, 16, 46, 182, 1, 39, 132, 1, 1, 167, 255, 228, 42, 180, 1, 36, 172]
abbrev dktX3_tellPerches_1 : List UInt8 := dkwX3_tellPerches_1 ++ []
def dkwX3_tellPerches_0 : List UInt8 := [42, 3, 181, 0, 42, 42, 3, 181, 1, 36, 3, 60, 27, 16, 8, 162, 0, 28, 42, 42, 27, 182, 0, 81]
abbrev dktX3_tellPerches_0 : List UInt8 := dkwX3_tellPerches_0 ++ dktX3_tellPerches_1
theorem dksX3_tellPerches_0 : cX3_tellPerches.data.toList.drop 0 = dktX3_tellPerches_0 := by decide +kernel
theorem dksX3_tellPerches_1 : cX3_tellPerches.data.toList.drop 24 = dktX3_tellPerches_1 := dk_seg dksX3_tellPerches_0 24 rfl rfl
theorem dX3_tellPerches_0 : decode cX3_tellPerches 0 = .ok (.aload_n 0, 1) := dk_42 (dk_at dksX3_tellPerches_0 0 rfl rfl)
theorem dX3_tellPerches_1 : decode cX3_tellPerches 1 = .ok (.iconst 0, 1) := dk_3 (dk_at dksX3_tellPerches_0 1 rfl rfl)
theorem dX3_tellPerches_2 : decode cX3_tellPerches 2 = .ok (.putfield 42, 3) := dk_181 0 42 (dk_at dksX3_tellPerches_0 2 rfl rfl)
theorem dX3_tellPerches_5 : decode cX3_tellPerches 5 = .ok (.aload_n 0, 1) := dk_42 (dk_at dksX3_tellPerches_0 5 rfl rfl)
theorem dX3_tellPerches_6 : decode cX3_tellPerches 6 = .ok (.iconst 0, 1) := dk_3 (dk_at dksX3_tellPerches_0 6 rfl rfl)
theorem dX3_tellPerches_7 : decode cX3_tellPerches 7 = .ok (.putfield 292, 3) := dk_181 1 36 (dk_at dksX3_tellPerches_0 7 rfl rfl)
theorem dX3_tellPerches_10 : decode cX3_tellPerches 10 = .ok (.iconst 0, 1) := dk_3 (dk_at dksX3_tellPerches_0 10 rfl rfl)
theorem dX3_tellPerches_11 : decode cX3_tellPerches 11 = .ok (.istore_n 1, 1) := dk_60 (dk_at dksX3_tellPerches_0 11 rfl rfl)
theorem dX3_tellPerches_12 : decode cX3_tellPerches 12 = .ok (.iload_n 1, 1) := dk_27 (dk_at dksX3_tellPerches_0 12 rfl rfl)
theorem dX3_tellPerches_13 : decode cX3_tellPerches 13 = .ok (.bipush 8, 2) := dk_16 8 (dk_at dksX3_tellPerches_0 13 rfl rfl)
theorem dX3_tellPerches_15 : decode cX3_tellPerches 15 = .ok (.if_icmp .ge 28, 3) := dk_162 0 28 (dk_at dksX3_tellPerches_0 15 rfl rfl)
theorem dX3_tellPerches_18 : decode cX3_tellPerches 18 = .ok (.aload_n 0, 1) := dk_42 (dk_at dksX3_tellPerches_0 18 rfl rfl)
theorem dX3_tellPerches_19 : decode cX3_tellPerches 19 = .ok (.aload_n 0, 1) := dk_42 (dk_at dksX3_tellPerches_0 19 rfl rfl)
theorem dX3_tellPerches_20 : decode cX3_tellPerches 20 = .ok (.iload_n 1, 1) := dk_27 (dk_at dksX3_tellPerches_0 20 rfl rfl)
theorem dX3_tellPerches_21 : decode cX3_tellPerches 21 = .ok (.invokevirtual 81, 3) := dk_182 0 81 (dk_at dksX3_tellPerches_0 21 rfl rfl)
theorem dX3_tellPerches_24 : decode cX3_tellPerches 24 = .ok (.ifCond .eq 8, 3) := dk_153 0 8 (dk_at dksX3_tellPerches_1 0 rfl rfl)
theorem dX3_tellPerches_27 : decode cX3_tellPerches 27 = .ok (.bipush 112, 2) := dk_16 112 (dk_at dksX3_tellPerches_1 3 rfl rfl)
theorem dX3_tellPerches_29 : decode cX3_tellPerches 29 = .ok (.goto 5, 3) := dk_167 0 5 (dk_at dksX3_tellPerches_1 5 rfl rfl)
theorem dX3_tellPerches_32 : decode cX3_tellPerches 32 = .ok (.bipush 46, 2) := dk_16 46 (dk_at dksX3_tellPerches_1 8 rfl rfl)
theorem dX3_tellPerches_34 : decode cX3_tellPerches 34 = .ok (.invokevirtual 295, 3) := dk_182 1 39 (dk_at dksX3_tellPerches_1 10 rfl rfl)
theorem dX3_tellPerches_37 : decode cX3_tellPerches 37 = .ok (.iinc 1 1, 3) := dk_132 1 1 (dk_at dksX3_tellPerches_1 13 rfl rfl)
theorem dX3_tellPerches_40 : decode cX3_tellPerches 40 = .ok (.goto (-28), 3) := dk_167 255 228 (dk_at dksX3_tellPerches_1 16 rfl rfl)
theorem dX3_tellPerches_43 : decode cX3_tellPerches 43 = .ok (.aload_n 0, 1) := dk_42 (dk_at dksX3_tellPerches_1 19 rfl rfl)
theorem dX3_tellPerches_44 : decode cX3_tellPerches 44 = .ok (.getfield 292, 3) := dk_180 1 36 (dk_at dksX3_tellPerches_1 20 rfl rfl)
theorem dX3_tellPerches_47 : decode cX3_tellPerches 47 = .ok (.ireturn, 1) := dk_172 (dk_at dksX3_tellPerches_1 23 rfl rfl)
abbrev cX3_character : ByteArray := prog_9_method_124_code
def yX3_character : MethodName := ⟨RX3, "character", "(I)C"⟩
def dkwX3_character_1 : List UInt8 := [52, 167, 0, 9, 42, 4, 182, 0, 61, 146, 172]
abbrev dktX3_character_1 : List UInt8 := dkwX3_character_1 ++ []
def dkwX3_character_0 : List UInt8 := [42, 3, 181, 0, 42, 27, 3, 42, 180, 1, 36, 4, 100, 184, 0, 77, 153, 0, 12, 42, 180, 0, 39, 27]
abbrev dktX3_character_0 : List UInt8 := dkwX3_character_0 ++ dktX3_character_1
theorem dksX3_character_0 : cX3_character.data.toList.drop 0 = dktX3_character_0 := by decide +kernel
theorem dksX3_character_1 : cX3_character.data.toList.drop 24 = dktX3_character_1 := dk_seg dksX3_character_0 24 rfl rfl
theorem dX3_character_0 : decode cX3_character 0 = .ok (.aload_n 0, 1) := dk_42 (dk_at dksX3_character_0 0 rfl rfl)
theorem dX3_character_1 : decode cX3_character 1 = .ok (.iconst 0, 1) := dk_3 (dk_at dksX3_character_0 1 rfl rfl)
theorem dX3_character_2 : decode cX3_character 2 = .ok (.putfield 42, 3) := dk_181 0 42 (dk_at dksX3_character_0 2 rfl rfl)
theorem dX3_character_5 : decode cX3_character 5 = .ok (.iload_n 1, 1) := dk_27 (dk_at dksX3_character_0 5 rfl rfl)
theorem dX3_character_6 : decode cX3_character 6 = .ok (.iconst 0, 1) := dk_3 (dk_at dksX3_character_0 6 rfl rfl)
theorem dX3_character_7 : decode cX3_character 7 = .ok (.aload_n 0, 1) := dk_42 (dk_at dksX3_character_0 7 rfl rfl)
theorem dX3_character_8 : decode cX3_character 8 = .ok (.getfield 292, 3) := dk_180 1 36 (dk_at dksX3_character_0 8 rfl rfl)
theorem dX3_character_11 : decode cX3_character 11 = .ok (.iconst 1, 1) := dk_4 (dk_at dksX3_character_0 11 rfl rfl)
theorem dX3_character_12 : decode cX3_character 12 = .ok (.isub, 1) := dk_100 (dk_at dksX3_character_0 12 rfl rfl)
theorem dX3_character_13 : decode cX3_character 13 = .ok (.invokestatic 77, 3) := dk_184 0 77 (dk_at dksX3_character_0 13 rfl rfl)
theorem dX3_character_16 : decode cX3_character 16 = .ok (.ifCond .eq 12, 3) := dk_153 0 12 (dk_at dksX3_character_0 16 rfl rfl)
theorem dX3_character_19 : decode cX3_character 19 = .ok (.aload_n 0, 1) := dk_42 (dk_at dksX3_character_0 19 rfl rfl)
theorem dX3_character_20 : decode cX3_character 20 = .ok (.getfield 39, 3) := dk_180 0 39 (dk_at dksX3_character_0 20 rfl rfl)
theorem dX3_character_23 : decode cX3_character 23 = .ok (.iload_n 1, 1) := dk_27 (dk_at dksX3_character_0 23 rfl rfl)
theorem dX3_character_24 : decode cX3_character 24 = .ok (.caload, 1) := dk_52 (dk_at dksX3_character_1 0 rfl rfl)
theorem dX3_character_25 : decode cX3_character 25 = .ok (.goto 9, 3) := dk_167 0 9 (dk_at dksX3_character_1 1 rfl rfl)
theorem dX3_character_28 : decode cX3_character 28 = .ok (.aload_n 0, 1) := dk_42 (dk_at dksX3_character_1 4 rfl rfl)
theorem dX3_character_29 : decode cX3_character 29 = .ok (.iconst 1, 1) := dk_4 (dk_at dksX3_character_1 5 rfl rfl)
theorem dX3_character_30 : decode cX3_character 30 = .ok (.invokevirtual 61, 3) := dk_182 0 61 (dk_at dksX3_character_1 6 rfl rfl)
theorem dX3_character_33 : decode cX3_character 33 = .ok (.i2c, 1) := dk_146 (dk_at dksX3_character_1 9 rfl rfl)
theorem dX3_character_34 : decode cX3_character 34 = .ok (.ireturn, 1) := dk_172 (dk_at dksX3_character_1 10 rfl rfl)
abbrev cX3_account : ByteArray := prog_9_method_127_code
def yX3_account : MethodName := ⟨RX3, "account", "(I)I"⟩
def dkwX3_account_5 : List UInt8 := [180, 0, 16, 27, 7, 100, 46, 172, 42, 180, 0, 243, 172, 42, 180, 0, 65, 172, 42, 4, 182, 0, 61, 172]
abbrev dktX3_account_5 : List UInt8 := dkwX3_account_5 ++ []
def dkwX3_account_4 : List UInt8 := [182, 0, 133, 172, 42, 182, 1, 51, 172, 42, 180, 0, 16, 16, 8, 46, 172, 42, 182, 0, 206, 172, 42]
abbrev dktX3_account_4 : List UInt8 := dkwX3_account_4 ++ dktX3_account_5
def dkwX3_account_3 : List UInt8 := [46, 172, 42, 182, 1, 48, 172, 42, 180, 0, 16, 6, 46, 172, 42, 180, 0, 16, 27, 4, 100, 46, 172, 42]
abbrev dktX3_account_3 : List UInt8 := dkwX3_account_3 ++ dktX3_account_4
def dkwX3_account_2 : List UInt8 := [42, 180, 0, 16, 3, 46, 172, 42, 182, 0, 142, 172, 42, 180, 0, 16, 4, 46, 172, 42, 180, 0, 16, 5]
abbrev dktX3_account_2 : List UInt8 := dkwX3_account_2 ++ dktX3_account_3
def dkwX3_account_1 : List UInt8 := [170, 0, 0, 0, 0, 171, 0, 0, 0, 0, 0, 0, 0, 16, 0, 0, 0, 82, 0, 0, 0, 89, 0, 0, 0, 94, 0, 0, 0, 101, 0, 0, 0, 108, 0, 0, 0, 113, 0, 0, 0, 120, 0, 0, 0, 120, 0, 0, 0, 120, 0, 0, 0, 129, 0, 0, 0, 134, 0, 0, 0, 139, 0, 0, 0, 147, 0, 0, 0, 152, 0, 0, 0, 152, 0, 0, 0, 161, 0, 0, 0, 166]
abbrev dktX3_account_1 : List UInt8 := dkwX3_account_1 ++ dktX3_account_2
def dkwX3_account_0 : List UInt8 := [42, 3, 181, 0, 42, 27]
abbrev dktX3_account_0 : List UInt8 := dkwX3_account_0 ++ dktX3_account_1
theorem dksX3_account_0 : cX3_account.data.toList.drop 0 = dktX3_account_0 := by decide +kernel
theorem dksX3_account_1 : cX3_account.data.toList.drop 6 = dktX3_account_1 := dk_seg dksX3_account_0 6 rfl rfl
theorem dksX3_account_2 : cX3_account.data.toList.drop 88 = dktX3_account_2 := dk_seg dksX3_account_1 82 rfl rfl
theorem dksX3_account_3 : cX3_account.data.toList.drop 112 = dktX3_account_3 := dk_seg dksX3_account_2 24 rfl rfl
theorem dksX3_account_4 : cX3_account.data.toList.drop 136 = dktX3_account_4 := dk_seg dksX3_account_3 24 rfl rfl
theorem dksX3_account_5 : cX3_account.data.toList.drop 159 = dktX3_account_5 := dk_seg dksX3_account_4 23 rfl rfl
theorem dX3_account_0 : decode cX3_account 0 = .ok (.aload_n 0, 1) := dk_42 (dk_at dksX3_account_0 0 rfl rfl)
theorem dX3_account_1 : decode cX3_account 1 = .ok (.iconst 0, 1) := dk_3 (dk_at dksX3_account_0 1 rfl rfl)
theorem dX3_account_2 : decode cX3_account 2 = .ok (.putfield 42, 3) := dk_181 0 42 (dk_at dksX3_account_0 2 rfl rfl)
theorem dX3_account_5 : decode cX3_account 5 = .ok (.iload_n 1, 1) := dk_27 (dk_at dksX3_account_0 5 rfl rfl)
theorem dX3_account_6 : decode cX3_account 6 = .ok (.tableswitch 171 0 16 #[82, 89, 94, 101, 108, 113, 120, 120, 120, 129, 134, 139, 147, 152, 152, 161, 166], 82) := by decide +kernel
theorem dX3_account_88 : decode cX3_account 88 = .ok (.aload_n 0, 1) := dk_42 (dk_at dksX3_account_2 0 rfl rfl)
theorem dX3_account_89 : decode cX3_account 89 = .ok (.getfield 16, 3) := dk_180 0 16 (dk_at dksX3_account_2 1 rfl rfl)
theorem dX3_account_92 : decode cX3_account 92 = .ok (.iconst 0, 1) := dk_3 (dk_at dksX3_account_2 4 rfl rfl)
theorem dX3_account_93 : decode cX3_account 93 = .ok (.iaload, 1) := dk_46 (dk_at dksX3_account_2 5 rfl rfl)
theorem dX3_account_94 : decode cX3_account 94 = .ok (.ireturn, 1) := dk_172 (dk_at dksX3_account_2 6 rfl rfl)
theorem dX3_account_95 : decode cX3_account 95 = .ok (.aload_n 0, 1) := dk_42 (dk_at dksX3_account_2 7 rfl rfl)
theorem dX3_account_96 : decode cX3_account 96 = .ok (.invokevirtual 142, 3) := dk_182 0 142 (dk_at dksX3_account_2 8 rfl rfl)
theorem dX3_account_99 : decode cX3_account 99 = .ok (.ireturn, 1) := dk_172 (dk_at dksX3_account_2 11 rfl rfl)
theorem dX3_account_100 : decode cX3_account 100 = .ok (.aload_n 0, 1) := dk_42 (dk_at dksX3_account_2 12 rfl rfl)
theorem dX3_account_101 : decode cX3_account 101 = .ok (.getfield 16, 3) := dk_180 0 16 (dk_at dksX3_account_2 13 rfl rfl)
theorem dX3_account_104 : decode cX3_account 104 = .ok (.iconst 1, 1) := dk_4 (dk_at dksX3_account_2 16 rfl rfl)
theorem dX3_account_105 : decode cX3_account 105 = .ok (.iaload, 1) := dk_46 (dk_at dksX3_account_2 17 rfl rfl)
theorem dX3_account_106 : decode cX3_account 106 = .ok (.ireturn, 1) := dk_172 (dk_at dksX3_account_2 18 rfl rfl)
theorem dX3_account_107 : decode cX3_account 107 = .ok (.aload_n 0, 1) := dk_42 (dk_at dksX3_account_2 19 rfl rfl)
theorem dX3_account_108 : decode cX3_account 108 = .ok (.getfield 16, 3) := dk_180 0 16 (dk_at dksX3_account_2 20 rfl rfl)
theorem dX3_account_111 : decode cX3_account 111 = .ok (.iconst 2, 1) := dk_5 (dk_at dksX3_account_2 23 rfl rfl)
theorem dX3_account_112 : decode cX3_account 112 = .ok (.iaload, 1) := dk_46 (dk_at dksX3_account_3 0 rfl rfl)
theorem dX3_account_113 : decode cX3_account 113 = .ok (.ireturn, 1) := dk_172 (dk_at dksX3_account_3 1 rfl rfl)
theorem dX3_account_114 : decode cX3_account 114 = .ok (.aload_n 0, 1) := dk_42 (dk_at dksX3_account_3 2 rfl rfl)
theorem dX3_account_115 : decode cX3_account 115 = .ok (.invokevirtual 304, 3) := dk_182 1 48 (dk_at dksX3_account_3 3 rfl rfl)
theorem dX3_account_118 : decode cX3_account 118 = .ok (.ireturn, 1) := dk_172 (dk_at dksX3_account_3 6 rfl rfl)
theorem dX3_account_119 : decode cX3_account 119 = .ok (.aload_n 0, 1) := dk_42 (dk_at dksX3_account_3 7 rfl rfl)
theorem dX3_account_120 : decode cX3_account 120 = .ok (.getfield 16, 3) := dk_180 0 16 (dk_at dksX3_account_3 8 rfl rfl)
theorem dX3_account_123 : decode cX3_account 123 = .ok (.iconst 3, 1) := dk_6 (dk_at dksX3_account_3 11 rfl rfl)
theorem dX3_account_124 : decode cX3_account 124 = .ok (.iaload, 1) := dk_46 (dk_at dksX3_account_3 12 rfl rfl)
theorem dX3_account_125 : decode cX3_account 125 = .ok (.ireturn, 1) := dk_172 (dk_at dksX3_account_3 13 rfl rfl)
theorem dX3_account_126 : decode cX3_account 126 = .ok (.aload_n 0, 1) := dk_42 (dk_at dksX3_account_3 14 rfl rfl)
theorem dX3_account_127 : decode cX3_account 127 = .ok (.getfield 16, 3) := dk_180 0 16 (dk_at dksX3_account_3 15 rfl rfl)
theorem dX3_account_130 : decode cX3_account 130 = .ok (.iload_n 1, 1) := dk_27 (dk_at dksX3_account_3 18 rfl rfl)
theorem dX3_account_131 : decode cX3_account 131 = .ok (.iconst 1, 1) := dk_4 (dk_at dksX3_account_3 19 rfl rfl)
theorem dX3_account_132 : decode cX3_account 132 = .ok (.isub, 1) := dk_100 (dk_at dksX3_account_3 20 rfl rfl)
theorem dX3_account_133 : decode cX3_account 133 = .ok (.iaload, 1) := dk_46 (dk_at dksX3_account_3 21 rfl rfl)
theorem dX3_account_134 : decode cX3_account 134 = .ok (.ireturn, 1) := dk_172 (dk_at dksX3_account_3 22 rfl rfl)
theorem dX3_account_135 : decode cX3_account 135 = .ok (.aload_n 0, 1) := dk_42 (dk_at dksX3_account_3 23 rfl rfl)
theorem dX3_account_136 : decode cX3_account 136 = .ok (.invokevirtual 133, 3) := dk_182 0 133 (dk_at dksX3_account_4 0 rfl rfl)
theorem dX3_account_139 : decode cX3_account 139 = .ok (.ireturn, 1) := dk_172 (dk_at dksX3_account_4 3 rfl rfl)
theorem dX3_account_140 : decode cX3_account 140 = .ok (.aload_n 0, 1) := dk_42 (dk_at dksX3_account_4 4 rfl rfl)
theorem dX3_account_141 : decode cX3_account 141 = .ok (.invokevirtual 307, 3) := dk_182 1 51 (dk_at dksX3_account_4 5 rfl rfl)
theorem dX3_account_144 : decode cX3_account 144 = .ok (.ireturn, 1) := dk_172 (dk_at dksX3_account_4 8 rfl rfl)
theorem dX3_account_145 : decode cX3_account 145 = .ok (.aload_n 0, 1) := dk_42 (dk_at dksX3_account_4 9 rfl rfl)
theorem dX3_account_146 : decode cX3_account 146 = .ok (.getfield 16, 3) := dk_180 0 16 (dk_at dksX3_account_4 10 rfl rfl)
theorem dX3_account_149 : decode cX3_account 149 = .ok (.bipush 8, 2) := dk_16 8 (dk_at dksX3_account_4 13 rfl rfl)
theorem dX3_account_151 : decode cX3_account 151 = .ok (.iaload, 1) := dk_46 (dk_at dksX3_account_4 15 rfl rfl)
theorem dX3_account_152 : decode cX3_account 152 = .ok (.ireturn, 1) := dk_172 (dk_at dksX3_account_4 16 rfl rfl)
theorem dX3_account_153 : decode cX3_account 153 = .ok (.aload_n 0, 1) := dk_42 (dk_at dksX3_account_4 17 rfl rfl)
theorem dX3_account_154 : decode cX3_account 154 = .ok (.invokevirtual 206, 3) := dk_182 0 206 (dk_at dksX3_account_4 18 rfl rfl)
theorem dX3_account_157 : decode cX3_account 157 = .ok (.ireturn, 1) := dk_172 (dk_at dksX3_account_4 21 rfl rfl)
theorem dX3_account_158 : decode cX3_account 158 = .ok (.aload_n 0, 1) := dk_42 (dk_at dksX3_account_4 22 rfl rfl)
theorem dX3_account_159 : decode cX3_account 159 = .ok (.getfield 16, 3) := dk_180 0 16 (dk_at dksX3_account_5 0 rfl rfl)
theorem dX3_account_162 : decode cX3_account 162 = .ok (.iload_n 1, 1) := dk_27 (dk_at dksX3_account_5 3 rfl rfl)
theorem dX3_account_163 : decode cX3_account 163 = .ok (.iconst 4, 1) := dk_7 (dk_at dksX3_account_5 4 rfl rfl)
theorem dX3_account_164 : decode cX3_account 164 = .ok (.isub, 1) := dk_100 (dk_at dksX3_account_5 5 rfl rfl)
theorem dX3_account_165 : decode cX3_account 165 = .ok (.iaload, 1) := dk_46 (dk_at dksX3_account_5 6 rfl rfl)
theorem dX3_account_166 : decode cX3_account 166 = .ok (.ireturn, 1) := dk_172 (dk_at dksX3_account_5 7 rfl rfl)
theorem dX3_account_167 : decode cX3_account 167 = .ok (.aload_n 0, 1) := dk_42 (dk_at dksX3_account_5 8 rfl rfl)
theorem dX3_account_168 : decode cX3_account 168 = .ok (.getfield 243, 3) := dk_180 0 243 (dk_at dksX3_account_5 9 rfl rfl)
theorem dX3_account_171 : decode cX3_account 171 = .ok (.ireturn, 1) := dk_172 (dk_at dksX3_account_5 12 rfl rfl)
theorem dX3_account_172 : decode cX3_account 172 = .ok (.aload_n 0, 1) := dk_42 (dk_at dksX3_account_5 13 rfl rfl)
theorem dX3_account_173 : decode cX3_account 173 = .ok (.getfield 65, 3) := dk_180 0 65 (dk_at dksX3_account_5 14 rfl rfl)
theorem dX3_account_176 : decode cX3_account 176 = .ok (.ireturn, 1) := dk_172 (dk_at dksX3_account_5 17 rfl rfl)
theorem dX3_account_177 : decode cX3_account 177 = .ok (.aload_n 0, 1) := dk_42 (dk_at dksX3_account_5 18 rfl rfl)
theorem dX3_account_178 : decode cX3_account 178 = .ok (.iconst 1, 1) := dk_4 (dk_at dksX3_account_5 19 rfl rfl)
theorem dX3_account_179 : decode cX3_account 179 = .ok (.invokevirtual 61, 3) := dk_182 0 61 (dk_at dksX3_account_5 20 rfl rfl)
theorem dX3_account_182 : decode cX3_account 182 = .ok (.ireturn, 1) := dk_172 (dk_at dksX3_account_5 23 rfl rfl)
abbrev cX3_drawing : ByteArray := prog_9_method_125_code
def yX3_drawing : MethodName := ⟨RX3, "drawing", "()I"⟩
def dkwX3_drawing_1 : List UInt8 := [167, 0, 4, 3, 96, 60, 132, 2, 1, 167, 255, 227, 27, 172]
abbrev dktX3_drawing_1 : List UInt8 := dkwX3_drawing_1 ++ []
def dkwX3_drawing_0 : List UInt8 := [3, 60, 3, 61, 28, 42, 180, 0, 16, 5, 46, 162, 0, 25, 27, 42, 28, 182, 0, 176, 156, 0, 7, 4]
abbrev dktX3_drawing_0 : List UInt8 := dkwX3_drawing_0 ++ dktX3_drawing_1
theorem dksX3_drawing_0 : cX3_drawing.data.toList.drop 0 = dktX3_drawing_0 := by decide +kernel
theorem dksX3_drawing_1 : cX3_drawing.data.toList.drop 24 = dktX3_drawing_1 := dk_seg dksX3_drawing_0 24 rfl rfl
theorem dX3_drawing_0 : decode cX3_drawing 0 = .ok (.iconst 0, 1) := dk_3 (dk_at dksX3_drawing_0 0 rfl rfl)
theorem dX3_drawing_1 : decode cX3_drawing 1 = .ok (.istore_n 1, 1) := dk_60 (dk_at dksX3_drawing_0 1 rfl rfl)
theorem dX3_drawing_2 : decode cX3_drawing 2 = .ok (.iconst 0, 1) := dk_3 (dk_at dksX3_drawing_0 2 rfl rfl)
theorem dX3_drawing_3 : decode cX3_drawing 3 = .ok (.istore_n 2, 1) := dk_61 (dk_at dksX3_drawing_0 3 rfl rfl)
theorem dX3_drawing_4 : decode cX3_drawing 4 = .ok (.iload_n 2, 1) := dk_28 (dk_at dksX3_drawing_0 4 rfl rfl)
theorem dX3_drawing_5 : decode cX3_drawing 5 = .ok (.aload_n 0, 1) := dk_42 (dk_at dksX3_drawing_0 5 rfl rfl)
theorem dX3_drawing_6 : decode cX3_drawing 6 = .ok (.getfield 16, 3) := dk_180 0 16 (dk_at dksX3_drawing_0 6 rfl rfl)
theorem dX3_drawing_9 : decode cX3_drawing 9 = .ok (.iconst 2, 1) := dk_5 (dk_at dksX3_drawing_0 9 rfl rfl)
theorem dX3_drawing_10 : decode cX3_drawing 10 = .ok (.iaload, 1) := dk_46 (dk_at dksX3_drawing_0 10 rfl rfl)
theorem dX3_drawing_11 : decode cX3_drawing 11 = .ok (.if_icmp .ge 25, 3) := dk_162 0 25 (dk_at dksX3_drawing_0 11 rfl rfl)
theorem dX3_drawing_14 : decode cX3_drawing 14 = .ok (.iload_n 1, 1) := dk_27 (dk_at dksX3_drawing_0 14 rfl rfl)
theorem dX3_drawing_15 : decode cX3_drawing 15 = .ok (.aload_n 0, 1) := dk_42 (dk_at dksX3_drawing_0 15 rfl rfl)
theorem dX3_drawing_16 : decode cX3_drawing 16 = .ok (.iload_n 2, 1) := dk_28 (dk_at dksX3_drawing_0 16 rfl rfl)
theorem dX3_drawing_17 : decode cX3_drawing 17 = .ok (.invokevirtual 176, 3) := dk_182 0 176 (dk_at dksX3_drawing_0 17 rfl rfl)
theorem dX3_drawing_20 : decode cX3_drawing 20 = .ok (.ifCond .ge 7, 3) := dk_156 0 7 (dk_at dksX3_drawing_0 20 rfl rfl)
theorem dX3_drawing_23 : decode cX3_drawing 23 = .ok (.iconst 1, 1) := dk_4 (dk_at dksX3_drawing_0 23 rfl rfl)
theorem dX3_drawing_24 : decode cX3_drawing 24 = .ok (.goto 4, 3) := dk_167 0 4 (dk_at dksX3_drawing_1 0 rfl rfl)
theorem dX3_drawing_27 : decode cX3_drawing 27 = .ok (.iconst 0, 1) := dk_3 (dk_at dksX3_drawing_1 3 rfl rfl)
theorem dX3_drawing_28 : decode cX3_drawing 28 = .ok (.iadd, 1) := dk_96 (dk_at dksX3_drawing_1 4 rfl rfl)
theorem dX3_drawing_29 : decode cX3_drawing 29 = .ok (.istore_n 1, 1) := dk_60 (dk_at dksX3_drawing_1 5 rfl rfl)
theorem dX3_drawing_30 : decode cX3_drawing 30 = .ok (.iinc 2 1, 3) := dk_132 2 1 (dk_at dksX3_drawing_1 6 rfl rfl)
theorem dX3_drawing_33 : decode cX3_drawing 33 = .ok (.goto (-29), 3) := dk_167 255 227 (dk_at dksX3_drawing_1 9 rfl rfl)
theorem dX3_drawing_36 : decode cX3_drawing 36 = .ok (.iload_n 1, 1) := dk_27 (dk_at dksX3_drawing_1 12 rfl rfl)
theorem dX3_drawing_37 : decode cX3_drawing 37 = .ok (.ireturn, 1) := dk_172 (dk_at dksX3_drawing_1 13 rfl rfl)
abbrev cX3_inchesNow : ByteArray := prog_9_method_126_code
def yX3_inchesNow : MethodName := ⟨RX3, "inchesNow", "()I"⟩
def dkwX3_inchesNow_1 : List UInt8 := [132, 2, 1, 167, 255, 233, 27, 172]
abbrev dktX3_inchesNow_1 : List UInt8 := dkwX3_inchesNow_1 ++ []
def dkwX3_inchesNow_0 : List UInt8 := [3, 60, 4, 61, 28, 16, 6, 163, 0, 23, 27, 28, 42, 180, 0, 16, 16, 42, 28, 96, 46, 104, 96, 60]
abbrev dktX3_inchesNow_0 : List UInt8 := dkwX3_inchesNow_0 ++ dktX3_inchesNow_1
theorem dksX3_inchesNow_0 : cX3_inchesNow.data.toList.drop 0 = dktX3_inchesNow_0 := by decide +kernel
theorem dksX3_inchesNow_1 : cX3_inchesNow.data.toList.drop 24 = dktX3_inchesNow_1 := dk_seg dksX3_inchesNow_0 24 rfl rfl
theorem dX3_inchesNow_0 : decode cX3_inchesNow 0 = .ok (.iconst 0, 1) := dk_3 (dk_at dksX3_inchesNow_0 0 rfl rfl)
theorem dX3_inchesNow_1 : decode cX3_inchesNow 1 = .ok (.istore_n 1, 1) := dk_60 (dk_at dksX3_inchesNow_0 1 rfl rfl)
theorem dX3_inchesNow_2 : decode cX3_inchesNow 2 = .ok (.iconst 1, 1) := dk_4 (dk_at dksX3_inchesNow_0 2 rfl rfl)
theorem dX3_inchesNow_3 : decode cX3_inchesNow 3 = .ok (.istore_n 2, 1) := dk_61 (dk_at dksX3_inchesNow_0 3 rfl rfl)
theorem dX3_inchesNow_4 : decode cX3_inchesNow 4 = .ok (.iload_n 2, 1) := dk_28 (dk_at dksX3_inchesNow_0 4 rfl rfl)
theorem dX3_inchesNow_5 : decode cX3_inchesNow 5 = .ok (.bipush 6, 2) := dk_16 6 (dk_at dksX3_inchesNow_0 5 rfl rfl)
theorem dX3_inchesNow_7 : decode cX3_inchesNow 7 = .ok (.if_icmp .gt 23, 3) := dk_163 0 23 (dk_at dksX3_inchesNow_0 7 rfl rfl)
theorem dX3_inchesNow_10 : decode cX3_inchesNow 10 = .ok (.iload_n 1, 1) := dk_27 (dk_at dksX3_inchesNow_0 10 rfl rfl)
theorem dX3_inchesNow_11 : decode cX3_inchesNow 11 = .ok (.iload_n 2, 1) := dk_28 (dk_at dksX3_inchesNow_0 11 rfl rfl)
theorem dX3_inchesNow_12 : decode cX3_inchesNow 12 = .ok (.aload_n 0, 1) := dk_42 (dk_at dksX3_inchesNow_0 12 rfl rfl)
theorem dX3_inchesNow_13 : decode cX3_inchesNow 13 = .ok (.getfield 16, 3) := dk_180 0 16 (dk_at dksX3_inchesNow_0 13 rfl rfl)
theorem dX3_inchesNow_16 : decode cX3_inchesNow 16 = .ok (.bipush 42, 2) := dk_16 42 (dk_at dksX3_inchesNow_0 16 rfl rfl)
theorem dX3_inchesNow_18 : decode cX3_inchesNow 18 = .ok (.iload_n 2, 1) := dk_28 (dk_at dksX3_inchesNow_0 18 rfl rfl)
theorem dX3_inchesNow_19 : decode cX3_inchesNow 19 = .ok (.iadd, 1) := dk_96 (dk_at dksX3_inchesNow_0 19 rfl rfl)
theorem dX3_inchesNow_20 : decode cX3_inchesNow 20 = .ok (.iaload, 1) := dk_46 (dk_at dksX3_inchesNow_0 20 rfl rfl)
theorem dX3_inchesNow_21 : decode cX3_inchesNow 21 = .ok (.imul, 1) := dk_104 (dk_at dksX3_inchesNow_0 21 rfl rfl)
theorem dX3_inchesNow_22 : decode cX3_inchesNow 22 = .ok (.iadd, 1) := dk_96 (dk_at dksX3_inchesNow_0 22 rfl rfl)
theorem dX3_inchesNow_23 : decode cX3_inchesNow 23 = .ok (.istore_n 1, 1) := dk_60 (dk_at dksX3_inchesNow_0 23 rfl rfl)
theorem dX3_inchesNow_24 : decode cX3_inchesNow 24 = .ok (.iinc 2 1, 3) := dk_132 2 1 (dk_at dksX3_inchesNow_1 0 rfl rfl)
theorem dX3_inchesNow_27 : decode cX3_inchesNow 27 = .ok (.goto (-23), 3) := dk_167 255 233 (dk_at dksX3_inchesNow_1 3 rfl rfl)
theorem dX3_inchesNow_30 : decode cX3_inchesNow 30 = .ok (.iload_n 1, 1) := dk_27 (dk_at dksX3_inchesNow_1 6 rfl rfl)
theorem dX3_inchesNow_31 : decode cX3_inchesNow 31 = .ok (.ireturn, 1) := dk_172 (dk_at dksX3_inchesNow_1 7 rfl rfl)
abbrev cX3_meanStem : ByteArray := prog_9_method_128_code
def yX3_meanStem : MethodName := ⟨RX3, "meanStem", "()D"⟩
def dkwX3_meanStem_2 : List UInt8 := [167, 255, 234, 27, 135, 42, 180, 0, 16, 5, 46, 135, 111, 175]
abbrev dktX3_meanStem_2 : List UInt8 := dkwX3_meanStem_2 ++ []
def dkwX3_meanStem_1 : List UInt8 := [61, 28, 42, 180, 0, 16, 5, 46, 162, 0, 18, 27, 42, 28, 3, 182, 0, 155, 96, 60, 132, 2, 1]
abbrev dktX3_meanStem_1 : List UInt8 := dkwX3_meanStem_1 ++ dktX3_meanStem_2
def dkwX3_meanStem_0 : List UInt8 := [42, 3, 181, 0, 42, 42, 180, 0, 16, 5, 46, 154, 0, 10, 42, 4, 182, 0, 61, 135, 175, 3, 60, 3]
abbrev dktX3_meanStem_0 : List UInt8 := dkwX3_meanStem_0 ++ dktX3_meanStem_1
theorem dksX3_meanStem_0 : cX3_meanStem.data.toList.drop 0 = dktX3_meanStem_0 := by decide +kernel
theorem dksX3_meanStem_1 : cX3_meanStem.data.toList.drop 24 = dktX3_meanStem_1 := dk_seg dksX3_meanStem_0 24 rfl rfl
theorem dksX3_meanStem_2 : cX3_meanStem.data.toList.drop 47 = dktX3_meanStem_2 := dk_seg dksX3_meanStem_1 23 rfl rfl
theorem dX3_meanStem_0 : decode cX3_meanStem 0 = .ok (.aload_n 0, 1) := dk_42 (dk_at dksX3_meanStem_0 0 rfl rfl)
theorem dX3_meanStem_1 : decode cX3_meanStem 1 = .ok (.iconst 0, 1) := dk_3 (dk_at dksX3_meanStem_0 1 rfl rfl)
theorem dX3_meanStem_2 : decode cX3_meanStem 2 = .ok (.putfield 42, 3) := dk_181 0 42 (dk_at dksX3_meanStem_0 2 rfl rfl)
theorem dX3_meanStem_5 : decode cX3_meanStem 5 = .ok (.aload_n 0, 1) := dk_42 (dk_at dksX3_meanStem_0 5 rfl rfl)
theorem dX3_meanStem_6 : decode cX3_meanStem 6 = .ok (.getfield 16, 3) := dk_180 0 16 (dk_at dksX3_meanStem_0 6 rfl rfl)
theorem dX3_meanStem_9 : decode cX3_meanStem 9 = .ok (.iconst 2, 1) := dk_5 (dk_at dksX3_meanStem_0 9 rfl rfl)
theorem dX3_meanStem_10 : decode cX3_meanStem 10 = .ok (.iaload, 1) := dk_46 (dk_at dksX3_meanStem_0 10 rfl rfl)
theorem dX3_meanStem_11 : decode cX3_meanStem 11 = .ok (.ifCond .ne 10, 3) := dk_154 0 10 (dk_at dksX3_meanStem_0 11 rfl rfl)
theorem dX3_meanStem_14 : decode cX3_meanStem 14 = .ok (.aload_n 0, 1) := dk_42 (dk_at dksX3_meanStem_0 14 rfl rfl)
theorem dX3_meanStem_15 : decode cX3_meanStem 15 = .ok (.iconst 1, 1) := dk_4 (dk_at dksX3_meanStem_0 15 rfl rfl)
theorem dX3_meanStem_16 : decode cX3_meanStem 16 = .ok (.invokevirtual 61, 3) := dk_182 0 61 (dk_at dksX3_meanStem_0 16 rfl rfl)
theorem dX3_meanStem_19 : decode cX3_meanStem 19 = .ok (.i2d, 1) := dk_135 (dk_at dksX3_meanStem_0 19 rfl rfl)
theorem dX3_meanStem_20 : decode cX3_meanStem 20 = .ok (.dreturn, 1) := dk_175 (dk_at dksX3_meanStem_0 20 rfl rfl)
theorem dX3_meanStem_21 : decode cX3_meanStem 21 = .ok (.iconst 0, 1) := dk_3 (dk_at dksX3_meanStem_0 21 rfl rfl)
theorem dX3_meanStem_22 : decode cX3_meanStem 22 = .ok (.istore_n 1, 1) := dk_60 (dk_at dksX3_meanStem_0 22 rfl rfl)
theorem dX3_meanStem_23 : decode cX3_meanStem 23 = .ok (.iconst 0, 1) := dk_3 (dk_at dksX3_meanStem_0 23 rfl rfl)
theorem dX3_meanStem_24 : decode cX3_meanStem 24 = .ok (.istore_n 2, 1) := dk_61 (dk_at dksX3_meanStem_1 0 rfl rfl)
theorem dX3_meanStem_25 : decode cX3_meanStem 25 = .ok (.iload_n 2, 1) := dk_28 (dk_at dksX3_meanStem_1 1 rfl rfl)
theorem dX3_meanStem_26 : decode cX3_meanStem 26 = .ok (.aload_n 0, 1) := dk_42 (dk_at dksX3_meanStem_1 2 rfl rfl)
theorem dX3_meanStem_27 : decode cX3_meanStem 27 = .ok (.getfield 16, 3) := dk_180 0 16 (dk_at dksX3_meanStem_1 3 rfl rfl)
theorem dX3_meanStem_30 : decode cX3_meanStem 30 = .ok (.iconst 2, 1) := dk_5 (dk_at dksX3_meanStem_1 6 rfl rfl)
theorem dX3_meanStem_31 : decode cX3_meanStem 31 = .ok (.iaload, 1) := dk_46 (dk_at dksX3_meanStem_1 7 rfl rfl)
theorem dX3_meanStem_32 : decode cX3_meanStem 32 = .ok (.if_icmp .ge 18, 3) := dk_162 0 18 (dk_at dksX3_meanStem_1 8 rfl rfl)
theorem dX3_meanStem_35 : decode cX3_meanStem 35 = .ok (.iload_n 1, 1) := dk_27 (dk_at dksX3_meanStem_1 11 rfl rfl)
theorem dX3_meanStem_36 : decode cX3_meanStem 36 = .ok (.aload_n 0, 1) := dk_42 (dk_at dksX3_meanStem_1 12 rfl rfl)
theorem dX3_meanStem_37 : decode cX3_meanStem 37 = .ok (.iload_n 2, 1) := dk_28 (dk_at dksX3_meanStem_1 13 rfl rfl)
theorem dX3_meanStem_38 : decode cX3_meanStem 38 = .ok (.iconst 0, 1) := dk_3 (dk_at dksX3_meanStem_1 14 rfl rfl)
theorem dX3_meanStem_39 : decode cX3_meanStem 39 = .ok (.invokevirtual 155, 3) := dk_182 0 155 (dk_at dksX3_meanStem_1 15 rfl rfl)
theorem dX3_meanStem_42 : decode cX3_meanStem 42 = .ok (.iadd, 1) := dk_96 (dk_at dksX3_meanStem_1 18 rfl rfl)
theorem dX3_meanStem_43 : decode cX3_meanStem 43 = .ok (.istore_n 1, 1) := dk_60 (dk_at dksX3_meanStem_1 19 rfl rfl)
theorem dX3_meanStem_44 : decode cX3_meanStem 44 = .ok (.iinc 2 1, 3) := dk_132 2 1 (dk_at dksX3_meanStem_1 20 rfl rfl)
theorem dX3_meanStem_47 : decode cX3_meanStem 47 = .ok (.goto (-22), 3) := dk_167 255 234 (dk_at dksX3_meanStem_2 0 rfl rfl)
theorem dX3_meanStem_50 : decode cX3_meanStem 50 = .ok (.iload_n 1, 1) := dk_27 (dk_at dksX3_meanStem_2 3 rfl rfl)
theorem dX3_meanStem_51 : decode cX3_meanStem 51 = .ok (.i2d, 1) := dk_135 (dk_at dksX3_meanStem_2 4 rfl rfl)
theorem dX3_meanStem_52 : decode cX3_meanStem 52 = .ok (.aload_n 0, 1) := dk_42 (dk_at dksX3_meanStem_2 5 rfl rfl)
theorem dX3_meanStem_53 : decode cX3_meanStem 53 = .ok (.getfield 16, 3) := dk_180 0 16 (dk_at dksX3_meanStem_2 6 rfl rfl)
theorem dX3_meanStem_56 : decode cX3_meanStem 56 = .ok (.iconst 2, 1) := dk_5 (dk_at dksX3_meanStem_2 9 rfl rfl)
theorem dX3_meanStem_57 : decode cX3_meanStem 57 = .ok (.iaload, 1) := dk_46 (dk_at dksX3_meanStem_2 10 rfl rfl)
theorem dX3_meanStem_58 : decode cX3_meanStem 58 = .ok (.i2d, 1) := dk_135 (dk_at dksX3_meanStem_2 11 rfl rfl)
theorem dX3_meanStem_59 : decode cX3_meanStem 59 = .ok (.ddiv, 1) := dk_111 (dk_at dksX3_meanStem_2 12 rfl rfl)
theorem dX3_meanStem_60 : decode cX3_meanStem 60 = .ok (.dreturn, 1) := dk_175 (dk_at dksX3_meanStem_2 13 rfl rfl)
abbrev cX3_drawShare : ByteArray := prog_9_method_129_code
def yX3_drawShare : MethodName := ⟨RX3, "drawShare", "()F"⟩
def dkwX3_drawShare_1 : List UInt8 := [182, 1, 48, 134, 42, 180, 0, 16, 5, 46, 134, 110, 174]
abbrev dktX3_drawShare_1 : List UInt8 := dkwX3_drawShare_1 ++ []
def dkwX3_drawShare_0 : List UInt8 := [42, 3, 181, 0, 42, 42, 180, 0, 16, 5, 46, 154, 0, 12, 42, 4, 182, 0, 61, 134, 167, 0, 16, 42]
abbrev dktX3_drawShare_0 : List UInt8 := dkwX3_drawShare_0 ++ dktX3_drawShare_1
theorem dksX3_drawShare_0 : cX3_drawShare.data.toList.drop 0 = dktX3_drawShare_0 := by decide +kernel
theorem dksX3_drawShare_1 : cX3_drawShare.data.toList.drop 24 = dktX3_drawShare_1 := dk_seg dksX3_drawShare_0 24 rfl rfl
theorem dX3_drawShare_0 : decode cX3_drawShare 0 = .ok (.aload_n 0, 1) := dk_42 (dk_at dksX3_drawShare_0 0 rfl rfl)
theorem dX3_drawShare_1 : decode cX3_drawShare 1 = .ok (.iconst 0, 1) := dk_3 (dk_at dksX3_drawShare_0 1 rfl rfl)
theorem dX3_drawShare_2 : decode cX3_drawShare 2 = .ok (.putfield 42, 3) := dk_181 0 42 (dk_at dksX3_drawShare_0 2 rfl rfl)
theorem dX3_drawShare_5 : decode cX3_drawShare 5 = .ok (.aload_n 0, 1) := dk_42 (dk_at dksX3_drawShare_0 5 rfl rfl)
theorem dX3_drawShare_6 : decode cX3_drawShare 6 = .ok (.getfield 16, 3) := dk_180 0 16 (dk_at dksX3_drawShare_0 6 rfl rfl)
theorem dX3_drawShare_9 : decode cX3_drawShare 9 = .ok (.iconst 2, 1) := dk_5 (dk_at dksX3_drawShare_0 9 rfl rfl)
theorem dX3_drawShare_10 : decode cX3_drawShare 10 = .ok (.iaload, 1) := dk_46 (dk_at dksX3_drawShare_0 10 rfl rfl)
theorem dX3_drawShare_11 : decode cX3_drawShare 11 = .ok (.ifCond .ne 12, 3) := dk_154 0 12 (dk_at dksX3_drawShare_0 11 rfl rfl)
theorem dX3_drawShare_14 : decode cX3_drawShare 14 = .ok (.aload_n 0, 1) := dk_42 (dk_at dksX3_drawShare_0 14 rfl rfl)
theorem dX3_drawShare_15 : decode cX3_drawShare 15 = .ok (.iconst 1, 1) := dk_4 (dk_at dksX3_drawShare_0 15 rfl rfl)
theorem dX3_drawShare_16 : decode cX3_drawShare 16 = .ok (.invokevirtual 61, 3) := dk_182 0 61 (dk_at dksX3_drawShare_0 16 rfl rfl)
theorem dX3_drawShare_19 : decode cX3_drawShare 19 = .ok (.i2f, 1) := dk_134 (dk_at dksX3_drawShare_0 19 rfl rfl)
theorem dX3_drawShare_20 : decode cX3_drawShare 20 = .ok (.goto 16, 3) := dk_167 0 16 (dk_at dksX3_drawShare_0 20 rfl rfl)
theorem dX3_drawShare_23 : decode cX3_drawShare 23 = .ok (.aload_n 0, 1) := dk_42 (dk_at dksX3_drawShare_0 23 rfl rfl)
theorem dX3_drawShare_24 : decode cX3_drawShare 24 = .ok (.invokevirtual 304, 3) := dk_182 1 48 (dk_at dksX3_drawShare_1 0 rfl rfl)
theorem dX3_drawShare_27 : decode cX3_drawShare 27 = .ok (.i2f, 1) := dk_134 (dk_at dksX3_drawShare_1 3 rfl rfl)
theorem dX3_drawShare_28 : decode cX3_drawShare 28 = .ok (.aload_n 0, 1) := dk_42 (dk_at dksX3_drawShare_1 4 rfl rfl)
theorem dX3_drawShare_29 : decode cX3_drawShare 29 = .ok (.getfield 16, 3) := dk_180 0 16 (dk_at dksX3_drawShare_1 5 rfl rfl)
theorem dX3_drawShare_32 : decode cX3_drawShare 32 = .ok (.iconst 2, 1) := dk_5 (dk_at dksX3_drawShare_1 8 rfl rfl)
theorem dX3_drawShare_33 : decode cX3_drawShare 33 = .ok (.iaload, 1) := dk_46 (dk_at dksX3_drawShare_1 9 rfl rfl)
theorem dX3_drawShare_34 : decode cX3_drawShare 34 = .ok (.i2f, 1) := dk_134 (dk_at dksX3_drawShare_1 10 rfl rfl)
theorem dX3_drawShare_35 : decode cX3_drawShare 35 = .ok (.fdiv, 1) := dk_110 (dk_at dksX3_drawShare_1 11 rfl rfl)
theorem dX3_drawShare_36 : decode cX3_drawShare 36 = .ok (.freturn, 1) := dk_174 (dk_at dksX3_drawShare_1 12 rfl rfl)
abbrev cX3_undo : ByteArray := prog_9_method_130_code
def yX3_undo : MethodName := ⟨RX3, "undo", "()I"⟩
def dkwX3_undo_3 : List UInt8 := [167, 255, 230, 42, 180, 0, 65, 172]
abbrev dktX3_undo_3 : List UInt8 := dkwX3_undo_3 ++ []
def dkwX3_undo_2 : List UInt8 := [162, 0, 26, 42, 180, 0, 16, 28, 42, 180, 0, 19, 16, 99, 27, 104, 28, 96, 46, 79, 132, 2, 1]
abbrev dktX3_undo_2 : List UInt8 := dkwX3_undo_2 ++ dktX3_undo_3
def dkwX3_undo_1 : List UInt8 := [100, 181, 0, 65, 42, 180, 0, 68, 42, 180, 0, 65, 96, 16, 8, 112, 60, 3, 61, 28, 16, 99]
abbrev dktX3_undo_1 : List UInt8 := dkwX3_undo_1 ++ dktX3_undo_2
def dkwX3_undo_0 : List UInt8 := [42, 3, 181, 0, 42, 42, 180, 0, 65, 154, 0, 9, 42, 4, 182, 0, 61, 172, 42, 89, 180, 0, 65, 4]
abbrev dktX3_undo_0 : List UInt8 := dkwX3_undo_0 ++ dktX3_undo_1
theorem dksX3_undo_0 : cX3_undo.data.toList.drop 0 = dktX3_undo_0 := by decide +kernel
theorem dksX3_undo_1 : cX3_undo.data.toList.drop 24 = dktX3_undo_1 := dk_seg dksX3_undo_0 24 rfl rfl
theorem dksX3_undo_2 : cX3_undo.data.toList.drop 46 = dktX3_undo_2 := dk_seg dksX3_undo_1 22 rfl rfl
theorem dksX3_undo_3 : cX3_undo.data.toList.drop 69 = dktX3_undo_3 := dk_seg dksX3_undo_2 23 rfl rfl
theorem dX3_undo_0 : decode cX3_undo 0 = .ok (.aload_n 0, 1) := dk_42 (dk_at dksX3_undo_0 0 rfl rfl)
theorem dX3_undo_1 : decode cX3_undo 1 = .ok (.iconst 0, 1) := dk_3 (dk_at dksX3_undo_0 1 rfl rfl)
theorem dX3_undo_2 : decode cX3_undo 2 = .ok (.putfield 42, 3) := dk_181 0 42 (dk_at dksX3_undo_0 2 rfl rfl)
theorem dX3_undo_5 : decode cX3_undo 5 = .ok (.aload_n 0, 1) := dk_42 (dk_at dksX3_undo_0 5 rfl rfl)
theorem dX3_undo_6 : decode cX3_undo 6 = .ok (.getfield 65, 3) := dk_180 0 65 (dk_at dksX3_undo_0 6 rfl rfl)
theorem dX3_undo_9 : decode cX3_undo 9 = .ok (.ifCond .ne 9, 3) := dk_154 0 9 (dk_at dksX3_undo_0 9 rfl rfl)
theorem dX3_undo_12 : decode cX3_undo 12 = .ok (.aload_n 0, 1) := dk_42 (dk_at dksX3_undo_0 12 rfl rfl)
theorem dX3_undo_13 : decode cX3_undo 13 = .ok (.iconst 1, 1) := dk_4 (dk_at dksX3_undo_0 13 rfl rfl)
theorem dX3_undo_14 : decode cX3_undo 14 = .ok (.invokevirtual 61, 3) := dk_182 0 61 (dk_at dksX3_undo_0 14 rfl rfl)
theorem dX3_undo_17 : decode cX3_undo 17 = .ok (.ireturn, 1) := dk_172 (dk_at dksX3_undo_0 17 rfl rfl)
theorem dX3_undo_18 : decode cX3_undo 18 = .ok (.aload_n 0, 1) := dk_42 (dk_at dksX3_undo_0 18 rfl rfl)
theorem dX3_undo_19 : decode cX3_undo 19 = .ok (.dup, 1) := dk_89 (dk_at dksX3_undo_0 19 rfl rfl)
theorem dX3_undo_20 : decode cX3_undo 20 = .ok (.getfield 65, 3) := dk_180 0 65 (dk_at dksX3_undo_0 20 rfl rfl)
theorem dX3_undo_23 : decode cX3_undo 23 = .ok (.iconst 1, 1) := dk_4 (dk_at dksX3_undo_0 23 rfl rfl)
theorem dX3_undo_24 : decode cX3_undo 24 = .ok (.isub, 1) := dk_100 (dk_at dksX3_undo_1 0 rfl rfl)
theorem dX3_undo_25 : decode cX3_undo 25 = .ok (.putfield 65, 3) := dk_181 0 65 (dk_at dksX3_undo_1 1 rfl rfl)
theorem dX3_undo_28 : decode cX3_undo 28 = .ok (.aload_n 0, 1) := dk_42 (dk_at dksX3_undo_1 4 rfl rfl)
theorem dX3_undo_29 : decode cX3_undo 29 = .ok (.getfield 68, 3) := dk_180 0 68 (dk_at dksX3_undo_1 5 rfl rfl)
theorem dX3_undo_32 : decode cX3_undo 32 = .ok (.aload_n 0, 1) := dk_42 (dk_at dksX3_undo_1 8 rfl rfl)
theorem dX3_undo_33 : decode cX3_undo 33 = .ok (.getfield 65, 3) := dk_180 0 65 (dk_at dksX3_undo_1 9 rfl rfl)
theorem dX3_undo_36 : decode cX3_undo 36 = .ok (.iadd, 1) := dk_96 (dk_at dksX3_undo_1 12 rfl rfl)
theorem dX3_undo_37 : decode cX3_undo 37 = .ok (.bipush 8, 2) := dk_16 8 (dk_at dksX3_undo_1 13 rfl rfl)
theorem dX3_undo_39 : decode cX3_undo 39 = .ok (.irem, 1) := dk_112 (dk_at dksX3_undo_1 15 rfl rfl)
theorem dX3_undo_40 : decode cX3_undo 40 = .ok (.istore_n 1, 1) := dk_60 (dk_at dksX3_undo_1 16 rfl rfl)
theorem dX3_undo_41 : decode cX3_undo 41 = .ok (.iconst 0, 1) := dk_3 (dk_at dksX3_undo_1 17 rfl rfl)
theorem dX3_undo_42 : decode cX3_undo 42 = .ok (.istore_n 2, 1) := dk_61 (dk_at dksX3_undo_1 18 rfl rfl)
theorem dX3_undo_43 : decode cX3_undo 43 = .ok (.iload_n 2, 1) := dk_28 (dk_at dksX3_undo_1 19 rfl rfl)
theorem dX3_undo_44 : decode cX3_undo 44 = .ok (.bipush 99, 2) := dk_16 99 (dk_at dksX3_undo_1 20 rfl rfl)
theorem dX3_undo_46 : decode cX3_undo 46 = .ok (.if_icmp .ge 26, 3) := dk_162 0 26 (dk_at dksX3_undo_2 0 rfl rfl)
theorem dX3_undo_49 : decode cX3_undo 49 = .ok (.aload_n 0, 1) := dk_42 (dk_at dksX3_undo_2 3 rfl rfl)
theorem dX3_undo_50 : decode cX3_undo 50 = .ok (.getfield 16, 3) := dk_180 0 16 (dk_at dksX3_undo_2 4 rfl rfl)
theorem dX3_undo_53 : decode cX3_undo 53 = .ok (.iload_n 2, 1) := dk_28 (dk_at dksX3_undo_2 7 rfl rfl)
theorem dX3_undo_54 : decode cX3_undo 54 = .ok (.aload_n 0, 1) := dk_42 (dk_at dksX3_undo_2 8 rfl rfl)
theorem dX3_undo_55 : decode cX3_undo 55 = .ok (.getfield 19, 3) := dk_180 0 19 (dk_at dksX3_undo_2 9 rfl rfl)
theorem dX3_undo_58 : decode cX3_undo 58 = .ok (.bipush 99, 2) := dk_16 99 (dk_at dksX3_undo_2 12 rfl rfl)
theorem dX3_undo_60 : decode cX3_undo 60 = .ok (.iload_n 1, 1) := dk_27 (dk_at dksX3_undo_2 14 rfl rfl)
theorem dX3_undo_61 : decode cX3_undo 61 = .ok (.imul, 1) := dk_104 (dk_at dksX3_undo_2 15 rfl rfl)
theorem dX3_undo_62 : decode cX3_undo 62 = .ok (.iload_n 2, 1) := dk_28 (dk_at dksX3_undo_2 16 rfl rfl)
theorem dX3_undo_63 : decode cX3_undo 63 = .ok (.iadd, 1) := dk_96 (dk_at dksX3_undo_2 17 rfl rfl)
theorem dX3_undo_64 : decode cX3_undo 64 = .ok (.iaload, 1) := dk_46 (dk_at dksX3_undo_2 18 rfl rfl)
theorem dX3_undo_65 : decode cX3_undo 65 = .ok (.iastore, 1) := dk_79 (dk_at dksX3_undo_2 19 rfl rfl)
theorem dX3_undo_66 : decode cX3_undo 66 = .ok (.iinc 2 1, 3) := dk_132 2 1 (dk_at dksX3_undo_2 20 rfl rfl)
theorem dX3_undo_69 : decode cX3_undo 69 = .ok (.goto (-26), 3) := dk_167 255 230 (dk_at dksX3_undo_3 0 rfl rfl)
theorem dX3_undo_72 : decode cX3_undo 72 = .ok (.aload_n 0, 1) := dk_42 (dk_at dksX3_undo_3 3 rfl rfl)
theorem dX3_undo_73 : decode cX3_undo 73 = .ok (.getfield 65, 3) := dk_180 0 65 (dk_at dksX3_undo_3 4 rfl rfl)
theorem dX3_undo_76 : decode cX3_undo 76 = .ok (.ireturn, 1) := dk_172 (dk_at dksX3_undo_3 7 rfl rfl)
abbrev cX3_save : ByteArray := prog_9_method_131_code
def yX3_save : MethodName := ⟨RX3, "save", "()I"⟩
def dkwX3_save_1 : List UInt8 := [79, 132, 1, 1, 167, 255, 235, 42, 4, 181, 1, 54, 42, 180, 0, 16, 3, 46, 172]
abbrev dktX3_save_1 : List UInt8 := dkwX3_save_1 ++ []
def dkwX3_save_0 : List UInt8 := [42, 3, 181, 0, 42, 3, 60, 27, 16, 99, 162, 0, 21, 42, 180, 0, 22, 27, 42, 180, 0, 16, 27, 46]
abbrev dktX3_save_0 : List UInt8 := dkwX3_save_0 ++ dktX3_save_1
theorem dksX3_save_0 : cX3_save.data.toList.drop 0 = dktX3_save_0 := by decide +kernel
theorem dksX3_save_1 : cX3_save.data.toList.drop 24 = dktX3_save_1 := dk_seg dksX3_save_0 24 rfl rfl
theorem dX3_save_0 : decode cX3_save 0 = .ok (.aload_n 0, 1) := dk_42 (dk_at dksX3_save_0 0 rfl rfl)
theorem dX3_save_1 : decode cX3_save 1 = .ok (.iconst 0, 1) := dk_3 (dk_at dksX3_save_0 1 rfl rfl)
theorem dX3_save_2 : decode cX3_save 2 = .ok (.putfield 42, 3) := dk_181 0 42 (dk_at dksX3_save_0 2 rfl rfl)
theorem dX3_save_5 : decode cX3_save 5 = .ok (.iconst 0, 1) := dk_3 (dk_at dksX3_save_0 5 rfl rfl)
theorem dX3_save_6 : decode cX3_save 6 = .ok (.istore_n 1, 1) := dk_60 (dk_at dksX3_save_0 6 rfl rfl)
theorem dX3_save_7 : decode cX3_save 7 = .ok (.iload_n 1, 1) := dk_27 (dk_at dksX3_save_0 7 rfl rfl)
theorem dX3_save_8 : decode cX3_save 8 = .ok (.bipush 99, 2) := dk_16 99 (dk_at dksX3_save_0 8 rfl rfl)
theorem dX3_save_10 : decode cX3_save 10 = .ok (.if_icmp .ge 21, 3) := dk_162 0 21 (dk_at dksX3_save_0 10 rfl rfl)
theorem dX3_save_13 : decode cX3_save 13 = .ok (.aload_n 0, 1) := dk_42 (dk_at dksX3_save_0 13 rfl rfl)
theorem dX3_save_14 : decode cX3_save 14 = .ok (.getfield 22, 3) := dk_180 0 22 (dk_at dksX3_save_0 14 rfl rfl)
theorem dX3_save_17 : decode cX3_save 17 = .ok (.iload_n 1, 1) := dk_27 (dk_at dksX3_save_0 17 rfl rfl)
theorem dX3_save_18 : decode cX3_save 18 = .ok (.aload_n 0, 1) := dk_42 (dk_at dksX3_save_0 18 rfl rfl)
theorem dX3_save_19 : decode cX3_save 19 = .ok (.getfield 16, 3) := dk_180 0 16 (dk_at dksX3_save_0 19 rfl rfl)
theorem dX3_save_22 : decode cX3_save 22 = .ok (.iload_n 1, 1) := dk_27 (dk_at dksX3_save_0 22 rfl rfl)
theorem dX3_save_23 : decode cX3_save 23 = .ok (.iaload, 1) := dk_46 (dk_at dksX3_save_0 23 rfl rfl)
theorem dX3_save_24 : decode cX3_save 24 = .ok (.iastore, 1) := dk_79 (dk_at dksX3_save_1 0 rfl rfl)
theorem dX3_save_25 : decode cX3_save 25 = .ok (.iinc 1 1, 3) := dk_132 1 1 (dk_at dksX3_save_1 1 rfl rfl)
theorem dX3_save_28 : decode cX3_save 28 = .ok (.goto (-21), 3) := dk_167 255 235 (dk_at dksX3_save_1 4 rfl rfl)
theorem dX3_save_31 : decode cX3_save 31 = .ok (.aload_n 0, 1) := dk_42 (dk_at dksX3_save_1 7 rfl rfl)
theorem dX3_save_32 : decode cX3_save 32 = .ok (.iconst 1, 1) := dk_4 (dk_at dksX3_save_1 8 rfl rfl)
theorem dX3_save_33 : decode cX3_save 33 = .ok (.putfield 310, 3) := dk_181 1 54 (dk_at dksX3_save_1 9 rfl rfl)
theorem dX3_save_36 : decode cX3_save 36 = .ok (.aload_n 0, 1) := dk_42 (dk_at dksX3_save_1 12 rfl rfl)
theorem dX3_save_37 : decode cX3_save 37 = .ok (.getfield 16, 3) := dk_180 0 16 (dk_at dksX3_save_1 13 rfl rfl)
theorem dX3_save_40 : decode cX3_save 40 = .ok (.iconst 0, 1) := dk_3 (dk_at dksX3_save_1 16 rfl rfl)
theorem dX3_save_41 : decode cX3_save 41 = .ok (.iaload, 1) := dk_46 (dk_at dksX3_save_1 17 rfl rfl)
theorem dX3_save_42 : decode cX3_save 42 = .ok (.ireturn, 1) := dk_172 (dk_at dksX3_save_1 18 rfl rfl)
abbrev cX3_restore : ByteArray := prog_9_method_132_code
def yX3_restore : MethodName := ⟨RX3, "restore", "()I"⟩
def dkwX3_restore_2 : List UInt8 := [181, 0, 65, 42, 3, 181, 0, 68, 42, 180, 0, 16, 3, 46, 172]
abbrev dktX3_restore_2 : List UInt8 := dkwX3_restore_2 ++ []
def dkwX3_restore_1 : List UInt8 := [162, 0, 21, 42, 180, 0, 16, 27, 42, 180, 0, 22, 27, 46, 79, 132, 1, 1, 167, 255, 235, 42, 3]
abbrev dktX3_restore_1 : List UInt8 := dkwX3_restore_1 ++ dktX3_restore_2
def dkwX3_restore_0 : List UInt8 := [42, 3, 181, 0, 42, 42, 180, 1, 54, 154, 0, 9, 42, 4, 182, 0, 61, 172, 3, 60, 27, 16, 99]
abbrev dktX3_restore_0 : List UInt8 := dkwX3_restore_0 ++ dktX3_restore_1
theorem dksX3_restore_0 : cX3_restore.data.toList.drop 0 = dktX3_restore_0 := by decide +kernel
theorem dksX3_restore_1 : cX3_restore.data.toList.drop 23 = dktX3_restore_1 := dk_seg dksX3_restore_0 23 rfl rfl
theorem dksX3_restore_2 : cX3_restore.data.toList.drop 46 = dktX3_restore_2 := dk_seg dksX3_restore_1 23 rfl rfl
theorem dX3_restore_0 : decode cX3_restore 0 = .ok (.aload_n 0, 1) := dk_42 (dk_at dksX3_restore_0 0 rfl rfl)
theorem dX3_restore_1 : decode cX3_restore 1 = .ok (.iconst 0, 1) := dk_3 (dk_at dksX3_restore_0 1 rfl rfl)
theorem dX3_restore_2 : decode cX3_restore 2 = .ok (.putfield 42, 3) := dk_181 0 42 (dk_at dksX3_restore_0 2 rfl rfl)
theorem dX3_restore_5 : decode cX3_restore 5 = .ok (.aload_n 0, 1) := dk_42 (dk_at dksX3_restore_0 5 rfl rfl)
theorem dX3_restore_6 : decode cX3_restore 6 = .ok (.getfield 310, 3) := dk_180 1 54 (dk_at dksX3_restore_0 6 rfl rfl)
theorem dX3_restore_9 : decode cX3_restore 9 = .ok (.ifCond .ne 9, 3) := dk_154 0 9 (dk_at dksX3_restore_0 9 rfl rfl)
theorem dX3_restore_12 : decode cX3_restore 12 = .ok (.aload_n 0, 1) := dk_42 (dk_at dksX3_restore_0 12 rfl rfl)
theorem dX3_restore_13 : decode cX3_restore 13 = .ok (.iconst 1, 1) := dk_4 (dk_at dksX3_restore_0 13 rfl rfl)
theorem dX3_restore_14 : decode cX3_restore 14 = .ok (.invokevirtual 61, 3) := dk_182 0 61 (dk_at dksX3_restore_0 14 rfl rfl)
theorem dX3_restore_17 : decode cX3_restore 17 = .ok (.ireturn, 1) := dk_172 (dk_at dksX3_restore_0 17 rfl rfl)
theorem dX3_restore_18 : decode cX3_restore 18 = .ok (.iconst 0, 1) := dk_3 (dk_at dksX3_restore_0 18 rfl rfl)
theorem dX3_restore_19 : decode cX3_restore 19 = .ok (.istore_n 1, 1) := dk_60 (dk_at dksX3_restore_0 19 rfl rfl)
theorem dX3_restore_20 : decode cX3_restore 20 = .ok (.iload_n 1, 1) := dk_27 (dk_at dksX3_restore_0 20 rfl rfl)
theorem dX3_restore_21 : decode cX3_restore 21 = .ok (.bipush 99, 2) := dk_16 99 (dk_at dksX3_restore_0 21 rfl rfl)
theorem dX3_restore_23 : decode cX3_restore 23 = .ok (.if_icmp .ge 21, 3) := dk_162 0 21 (dk_at dksX3_restore_1 0 rfl rfl)
theorem dX3_restore_26 : decode cX3_restore 26 = .ok (.aload_n 0, 1) := dk_42 (dk_at dksX3_restore_1 3 rfl rfl)
theorem dX3_restore_27 : decode cX3_restore 27 = .ok (.getfield 16, 3) := dk_180 0 16 (dk_at dksX3_restore_1 4 rfl rfl)
theorem dX3_restore_30 : decode cX3_restore 30 = .ok (.iload_n 1, 1) := dk_27 (dk_at dksX3_restore_1 7 rfl rfl)
theorem dX3_restore_31 : decode cX3_restore 31 = .ok (.aload_n 0, 1) := dk_42 (dk_at dksX3_restore_1 8 rfl rfl)
theorem dX3_restore_32 : decode cX3_restore 32 = .ok (.getfield 22, 3) := dk_180 0 22 (dk_at dksX3_restore_1 9 rfl rfl)
theorem dX3_restore_35 : decode cX3_restore 35 = .ok (.iload_n 1, 1) := dk_27 (dk_at dksX3_restore_1 12 rfl rfl)
theorem dX3_restore_36 : decode cX3_restore 36 = .ok (.iaload, 1) := dk_46 (dk_at dksX3_restore_1 13 rfl rfl)
theorem dX3_restore_37 : decode cX3_restore 37 = .ok (.iastore, 1) := dk_79 (dk_at dksX3_restore_1 14 rfl rfl)
theorem dX3_restore_38 : decode cX3_restore 38 = .ok (.iinc 1 1, 3) := dk_132 1 1 (dk_at dksX3_restore_1 15 rfl rfl)
theorem dX3_restore_41 : decode cX3_restore 41 = .ok (.goto (-21), 3) := dk_167 255 235 (dk_at dksX3_restore_1 18 rfl rfl)
theorem dX3_restore_44 : decode cX3_restore 44 = .ok (.aload_n 0, 1) := dk_42 (dk_at dksX3_restore_1 21 rfl rfl)
theorem dX3_restore_45 : decode cX3_restore 45 = .ok (.iconst 0, 1) := dk_3 (dk_at dksX3_restore_1 22 rfl rfl)
theorem dX3_restore_46 : decode cX3_restore 46 = .ok (.putfield 65, 3) := dk_181 0 65 (dk_at dksX3_restore_2 0 rfl rfl)
theorem dX3_restore_49 : decode cX3_restore 49 = .ok (.aload_n 0, 1) := dk_42 (dk_at dksX3_restore_2 3 rfl rfl)
theorem dX3_restore_50 : decode cX3_restore 50 = .ok (.iconst 0, 1) := dk_3 (dk_at dksX3_restore_2 4 rfl rfl)
theorem dX3_restore_51 : decode cX3_restore 51 = .ok (.putfield 68, 3) := dk_181 0 68 (dk_at dksX3_restore_2 5 rfl rfl)
theorem dX3_restore_54 : decode cX3_restore 54 = .ok (.aload_n 0, 1) := dk_42 (dk_at dksX3_restore_2 8 rfl rfl)
theorem dX3_restore_55 : decode cX3_restore 55 = .ok (.getfield 16, 3) := dk_180 0 16 (dk_at dksX3_restore_2 9 rfl rfl)
theorem dX3_restore_58 : decode cX3_restore 58 = .ok (.iconst 0, 1) := dk_3 (dk_at dksX3_restore_2 12 rfl rfl)
theorem dX3_restore_59 : decode cX3_restore 59 = .ok (.iaload, 1) := dk_46 (dk_at dksX3_restore_2 13 rfl rfl)
theorem dX3_restore_60 : decode cX3_restore 60 = .ok (.ireturn, 1) := dk_172 (dk_at dksX3_restore_2 14 rfl rfl)
