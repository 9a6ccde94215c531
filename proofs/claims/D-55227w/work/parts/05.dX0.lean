/-! decode rows -/
set_option maxRecDepth 100000
abbrev cX0_pipe : ByteArray := method_3_code
def yX0_pipe : MethodName := ⟨RX0, "pipe", "(LClayPipes;II[J)I"⟩
def dkwX0_pipe_0 : List UInt8 := [45, 3, 42, 27, 28, 182, 0, 7, 133, 80, 167, 0, 7, 58, 4, 4, 172, 3, 172]
abbrev dktX0_pipe_0 : List UInt8 := dkwX0_pipe_0 ++ []
theorem dksX0_pipe_0 : cX0_pipe.data.toList.drop 0 = dktX0_pipe_0 := by decide +kernel
theorem dX0_pipe_0 : decode cX0_pipe 0 = .ok (.aload_n 3, 1) := dk_45 (dk_at dksX0_pipe_0 0 rfl rfl)
theorem dX0_pipe_1 : decode cX0_pipe 1 = .ok (.iconst 0, 1) := dk_3 (dk_at dksX0_pipe_0 1 rfl rfl)
theorem dX0_pipe_2 : decode cX0_pipe 2 = .ok (.aload_n 0, 1) := dk_42 (dk_at dksX0_pipe_0 2 rfl rfl)
theorem dX0_pipe_3 : decode cX0_pipe 3 = .ok (.iload_n 1, 1) := dk_27 (dk_at dksX0_pipe_0 3 rfl rfl)
theorem dX0_pipe_4 : decode cX0_pipe 4 = .ok (.iload_n 2, 1) := dk_28 (dk_at dksX0_pipe_0 4 rfl rfl)
theorem dX0_pipe_5 : decode cX0_pipe 5 = .ok (.invokevirtual 7, 3) := dk_182 0 7 (dk_at dksX0_pipe_0 5 rfl rfl)
theorem dX0_pipe_8 : decode cX0_pipe 8 = .ok (.i2l, 1) := dk_133 (dk_at dksX0_pipe_0 8 rfl rfl)
theorem dX0_pipe_9 : decode cX0_pipe 9 = .ok (.lastore, 1) := dk_80 (dk_at dksX0_pipe_0 9 rfl rfl)
theorem dX0_pipe_10 : decode cX0_pipe 10 = .ok (.goto 7, 3) := dk_167 0 7 (dk_at dksX0_pipe_0 10 rfl rfl)
theorem dX0_pipe_13 : decode cX0_pipe 13 = .ok (.astore 4, 2) := dk_58 4 (dk_at dksX0_pipe_0 13 rfl rfl)
theorem dX0_pipe_15 : decode cX0_pipe 15 = .ok (.iconst 1, 1) := dk_4 (dk_at dksX0_pipe_0 15 rfl rfl)
theorem dX0_pipe_16 : decode cX0_pipe 16 = .ok (.ireturn, 1) := dk_172 (dk_at dksX0_pipe_0 16 rfl rfl)
theorem dX0_pipe_17 : decode cX0_pipe 17 = .ok (.iconst 0, 1) := dk_3 (dk_at dksX0_pipe_0 17 rfl rfl)
theorem dX0_pipe_18 : decode cX0_pipe 18 = .ok (.ireturn, 1) := dk_172 (dk_at dksX0_pipe_0 18 rfl rfl)
abbrev cX0_bring : ByteArray := method_4_code
def yX0_bring : MethodName := ⟨RX0, "bring", "(LClayPipes;I[J)I"⟩
def dkwX0_bring_0 : List UInt8 := [44, 3, 42, 27, 182, 0, 15, 133, 80, 167, 0, 6, 78, 4, 172, 3, 172]
abbrev dktX0_bring_0 : List UInt8 := dkwX0_bring_0 ++ []
theorem dksX0_bring_0 : cX0_bring.data.toList.drop 0 = dktX0_bring_0 := by decide +kernel
theorem dX0_bring_0 : decode cX0_bring 0 = .ok (.aload_n 2, 1) := dk_44 (dk_at dksX0_bring_0 0 rfl rfl)
theorem dX0_bring_1 : decode cX0_bring 1 = .ok (.iconst 0, 1) := dk_3 (dk_at dksX0_bring_0 1 rfl rfl)
theorem dX0_bring_2 : decode cX0_bring 2 = .ok (.aload_n 0, 1) := dk_42 (dk_at dksX0_bring_0 2 rfl rfl)
theorem dX0_bring_3 : decode cX0_bring 3 = .ok (.iload_n 1, 1) := dk_27 (dk_at dksX0_bring_0 3 rfl rfl)
theorem dX0_bring_4 : decode cX0_bring 4 = .ok (.invokevirtual 15, 3) := dk_182 0 15 (dk_at dksX0_bring_0 4 rfl rfl)
theorem dX0_bring_7 : decode cX0_bring 7 = .ok (.i2l, 1) := dk_133 (dk_at dksX0_bring_0 7 rfl rfl)
theorem dX0_bring_8 : decode cX0_bring 8 = .ok (.lastore, 1) := dk_80 (dk_at dksX0_bring_0 8 rfl rfl)
theorem dX0_bring_9 : decode cX0_bring 9 = .ok (.goto 6, 3) := dk_167 0 6 (dk_at dksX0_bring_0 9 rfl rfl)
theorem dX0_bring_12 : decode cX0_bring 12 = .ok (.astore_n 3, 1) := dk_78 (dk_at dksX0_bring_0 12 rfl rfl)
theorem dX0_bring_13 : decode cX0_bring 13 = .ok (.iconst 1, 1) := dk_4 (dk_at dksX0_bring_0 13 rfl rfl)
theorem dX0_bring_14 : decode cX0_bring 14 = .ok (.ireturn, 1) := dk_172 (dk_at dksX0_bring_0 14 rfl rfl)
theorem dX0_bring_15 : decode cX0_bring 15 = .ok (.iconst 0, 1) := dk_3 (dk_at dksX0_bring_0 15 rfl rfl)
theorem dX0_bring_16 : decode cX0_bring 16 = .ok (.ireturn, 1) := dk_172 (dk_at dksX0_bring_0 16 rfl rfl)
abbrev cX0_takeBack : ByteArray := method_5_code
def yX0_takeBack : MethodName := ⟨RX0, "takeBack", "(LClayPipes;I[J)I"⟩
def dkwX0_takeBack_0 : List UInt8 := [44, 3, 42, 27, 182, 0, 19, 133, 80, 167, 0, 6, 78, 4, 172, 3, 172]
abbrev dktX0_takeBack_0 : List UInt8 := dkwX0_takeBack_0 ++ []
theorem dksX0_takeBack_0 : cX0_takeBack.data.toList.drop 0 = dktX0_takeBack_0 := by decide +kernel
theorem dX0_takeBack_0 : decode cX0_takeBack 0 = .ok (.aload_n 2, 1) := dk_44 (dk_at dksX0_takeBack_0 0 rfl rfl)
theorem dX0_takeBack_1 : decode cX0_takeBack 1 = .ok (.iconst 0, 1) := dk_3 (dk_at dksX0_takeBack_0 1 rfl rfl)
theorem dX0_takeBack_2 : decode cX0_takeBack 2 = .ok (.aload_n 0, 1) := dk_42 (dk_at dksX0_takeBack_0 2 rfl rfl)
theorem dX0_takeBack_3 : decode cX0_takeBack 3 = .ok (.iload_n 1, 1) := dk_27 (dk_at dksX0_takeBack_0 3 rfl rfl)
theorem dX0_takeBack_4 : decode cX0_takeBack 4 = .ok (.invokevirtual 19, 3) := dk_182 0 19 (dk_at dksX0_takeBack_0 4 rfl rfl)
theorem dX0_takeBack_7 : decode cX0_takeBack 7 = .ok (.i2l, 1) := dk_133 (dk_at dksX0_takeBack_0 7 rfl rfl)
theorem dX0_takeBack_8 : decode cX0_takeBack 8 = .ok (.lastore, 1) := dk_80 (dk_at dksX0_takeBack_0 8 rfl rfl)
theorem dX0_takeBack_9 : decode cX0_takeBack 9 = .ok (.goto 6, 3) := dk_167 0 6 (dk_at dksX0_takeBack_0 9 rfl rfl)
theorem dX0_takeBack_12 : decode cX0_takeBack 12 = .ok (.astore_n 3, 1) := dk_78 (dk_at dksX0_takeBack_0 12 rfl rfl)
theorem dX0_takeBack_13 : decode cX0_takeBack 13 = .ok (.iconst 1, 1) := dk_4 (dk_at dksX0_takeBack_0 13 rfl rfl)
theorem dX0_takeBack_14 : decode cX0_takeBack 14 = .ok (.ireturn, 1) := dk_172 (dk_at dksX0_takeBack_0 14 rfl rfl)
theorem dX0_takeBack_15 : decode cX0_takeBack 15 = .ok (.iconst 0, 1) := dk_3 (dk_at dksX0_takeBack_0 15 rfl rfl)
theorem dX0_takeBack_16 : decode cX0_takeBack 16 = .ok (.ireturn, 1) := dk_172 (dk_at dksX0_takeBack_0 16 rfl rfl)
abbrev cX0_exchange : ByteArray := method_6_code
def yX0_exchange : MethodName := ⟨RX0, "exchange", "(LClayPipes;II[J)I"⟩
def dkwX0_exchange_0 : List UInt8 := [45, 3, 42, 27, 28, 182, 0, 22, 133, 80, 167, 0, 7, 58, 4, 4, 172, 3, 172]
abbrev dktX0_exchange_0 : List UInt8 := dkwX0_exchange_0 ++ []
theorem dksX0_exchange_0 : cX0_exchange.data.toList.drop 0 = dktX0_exchange_0 := by decide +kernel
theorem dX0_exchange_0 : decode cX0_exchange 0 = .ok (.aload_n 3, 1) := dk_45 (dk_at dksX0_exchange_0 0 rfl rfl)
theorem dX0_exchange_1 : decode cX0_exchange 1 = .ok (.iconst 0, 1) := dk_3 (dk_at dksX0_exchange_0 1 rfl rfl)
theorem dX0_exchange_2 : decode cX0_exchange 2 = .ok (.aload_n 0, 1) := dk_42 (dk_at dksX0_exchange_0 2 rfl rfl)
theorem dX0_exchange_3 : decode cX0_exchange 3 = .ok (.iload_n 1, 1) := dk_27 (dk_at dksX0_exchange_0 3 rfl rfl)
theorem dX0_exchange_4 : decode cX0_exchange 4 = .ok (.iload_n 2, 1) := dk_28 (dk_at dksX0_exchange_0 4 rfl rfl)
theorem dX0_exchange_5 : decode cX0_exchange 5 = .ok (.invokevirtual 22, 3) := dk_182 0 22 (dk_at dksX0_exchange_0 5 rfl rfl)
theorem dX0_exchange_8 : decode cX0_exchange 8 = .ok (.i2l, 1) := dk_133 (dk_at dksX0_exchange_0 8 rfl rfl)
theorem dX0_exchange_9 : decode cX0_exchange 9 = .ok (.lastore, 1) := dk_80 (dk_at dksX0_exchange_0 9 rfl rfl)
theorem dX0_exchange_10 : decode cX0_exchange 10 = .ok (.goto 7, 3) := dk_167 0 7 (dk_at dksX0_exchange_0 10 rfl rfl)
theorem dX0_exchange_13 : decode cX0_exchange 13 = .ok (.astore 4, 2) := dk_58 4 (dk_at dksX0_exchange_0 13 rfl rfl)
theorem dX0_exchange_15 : decode cX0_exchange 15 = .ok (.iconst 1, 1) := dk_4 (dk_at dksX0_exchange_0 15 rfl rfl)
theorem dX0_exchange_16 : decode cX0_exchange 16 = .ok (.ireturn, 1) := dk_172 (dk_at dksX0_exchange_0 16 rfl rfl)
theorem dX0_exchange_17 : decode cX0_exchange 17 = .ok (.iconst 0, 1) := dk_3 (dk_at dksX0_exchange_0 17 rfl rfl)
theorem dX0_exchange_18 : decode cX0_exchange 18 = .ok (.ireturn, 1) := dk_172 (dk_at dksX0_exchange_0 18 rfl rfl)
abbrev cX0_sort : ByteArray := method_7_code
def yX0_sort : MethodName := ⟨RX0, "sort", "(LClayPipes;[J)I"⟩
def dkwX0_sort_0 : List UInt8 := [43, 3, 42, 182, 0, 25, 133, 80, 167, 0, 6, 77, 4, 172, 3, 172]
abbrev dktX0_sort_0 : List UInt8 := dkwX0_sort_0 ++ []
theorem dksX0_sort_0 : cX0_sort.data.toList.drop 0 = dktX0_sort_0 := by decide +kernel
theorem dX0_sort_0 : decode cX0_sort 0 = .ok (.aload_n 1, 1) := dk_43 (dk_at dksX0_sort_0 0 rfl rfl)
theorem dX0_sort_1 : decode cX0_sort 1 = .ok (.iconst 0, 1) := dk_3 (dk_at dksX0_sort_0 1 rfl rfl)
theorem dX0_sort_2 : decode cX0_sort 2 = .ok (.aload_n 0, 1) := dk_42 (dk_at dksX0_sort_0 2 rfl rfl)
theorem dX0_sort_3 : decode cX0_sort 3 = .ok (.invokevirtual 25, 3) := dk_182 0 25 (dk_at dksX0_sort_0 3 rfl rfl)
theorem dX0_sort_6 : decode cX0_sort 6 = .ok (.i2l, 1) := dk_133 (dk_at dksX0_sort_0 6 rfl rfl)
theorem dX0_sort_7 : decode cX0_sort 7 = .ok (.lastore, 1) := dk_80 (dk_at dksX0_sort_0 7 rfl rfl)
theorem dX0_sort_8 : decode cX0_sort 8 = .ok (.goto 6, 3) := dk_167 0 6 (dk_at dksX0_sort_0 8 rfl rfl)
theorem dX0_sort_11 : decode cX0_sort 11 = .ok (.astore_n 2, 1) := dk_77 (dk_at dksX0_sort_0 11 rfl rfl)
theorem dX0_sort_12 : decode cX0_sort 12 = .ok (.iconst 1, 1) := dk_4 (dk_at dksX0_sort_0 12 rfl rfl)
theorem dX0_sort_13 : decode cX0_sort 13 = .ok (.ireturn, 1) := dk_172 (dk_at dksX0_sort_0 13 rfl rfl)
theorem dX0_sort_14 : decode cX0_sort 14 = .ok (.iconst 0, 1) := dk_3 (dk_at dksX0_sort_0 14 rfl rfl)
theorem dX0_sort_15 : decode cX0_sort 15 = .ok (.ireturn, 1) := dk_172 (dk_at dksX0_sort_0 15 rfl rfl)
abbrev cX0_lump : ByteArray := method_8_code
def yX0_lump : MethodName := ⟨RX0, "lump", "(LClayPipes;I[J)I"⟩
def dkwX0_lump_0 : List UInt8 := [44, 3, 42, 27, 182, 0, 29, 133, 80, 167, 0, 6, 78, 4, 172, 3, 172]
abbrev dktX0_lump_0 : List UInt8 := dkwX0_lump_0 ++ []
theorem dksX0_lump_0 : cX0_lump.data.toList.drop 0 = dktX0_lump_0 := by decide +kernel
theorem dX0_lump_0 : decode cX0_lump 0 = .ok (.aload_n 2, 1) := dk_44 (dk_at dksX0_lump_0 0 rfl rfl)
theorem dX0_lump_1 : decode cX0_lump 1 = .ok (.iconst 0, 1) := dk_3 (dk_at dksX0_lump_0 1 rfl rfl)
theorem dX0_lump_2 : decode cX0_lump 2 = .ok (.aload_n 0, 1) := dk_42 (dk_at dksX0_lump_0 2 rfl rfl)
theorem dX0_lump_3 : decode cX0_lump 3 = .ok (.iload_n 1, 1) := dk_27 (dk_at dksX0_lump_0 3 rfl rfl)
theorem dX0_lump_4 : decode cX0_lump 4 = .ok (.invokevirtual 29, 3) := dk_182 0 29 (dk_at dksX0_lump_0 4 rfl rfl)
theorem dX0_lump_7 : decode cX0_lump 7 = .ok (.i2l, 1) := dk_133 (dk_at dksX0_lump_0 7 rfl rfl)
theorem dX0_lump_8 : decode cX0_lump 8 = .ok (.lastore, 1) := dk_80 (dk_at dksX0_lump_0 8 rfl rfl)
theorem dX0_lump_9 : decode cX0_lump 9 = .ok (.goto 6, 3) := dk_167 0 6 (dk_at dksX0_lump_0 9 rfl rfl)
theorem dX0_lump_12 : decode cX0_lump 12 = .ok (.astore_n 3, 1) := dk_78 (dk_at dksX0_lump_0 12 rfl rfl)
theorem dX0_lump_13 : decode cX0_lump 13 = .ok (.iconst 1, 1) := dk_4 (dk_at dksX0_lump_0 13 rfl rfl)
theorem dX0_lump_14 : decode cX0_lump 14 = .ok (.ireturn, 1) := dk_172 (dk_at dksX0_lump_0 14 rfl rfl)
theorem dX0_lump_15 : decode cX0_lump 15 = .ok (.iconst 0, 1) := dk_3 (dk_at dksX0_lump_0 15 rfl rfl)
theorem dX0_lump_16 : decode cX0_lump 16 = .ok (.ireturn, 1) := dk_172 (dk_at dksX0_lump_0 16 rfl rfl)
abbrev cX0_piece : ByteArray := method_9_code
def yX0_piece : MethodName := ⟨RX0, "piece", "(LClayPipes;I[J)I"⟩
def dkwX0_piece_0 : List UInt8 := [44, 3, 42, 27, 182, 0, 32, 133, 80, 167, 0, 6, 78, 4, 172, 3, 172]
abbrev dktX0_piece_0 : List UInt8 := dkwX0_piece_0 ++ []
theorem dksX0_piece_0 : cX0_piece.data.toList.drop 0 = dktX0_piece_0 := by decide +kernel
theorem dX0_piece_0 : decode cX0_piece 0 = .ok (.aload_n 2, 1) := dk_44 (dk_at dksX0_piece_0 0 rfl rfl)
theorem dX0_piece_1 : decode cX0_piece 1 = .ok (.iconst 0, 1) := dk_3 (dk_at dksX0_piece_0 1 rfl rfl)
theorem dX0_piece_2 : decode cX0_piece 2 = .ok (.aload_n 0, 1) := dk_42 (dk_at dksX0_piece_0 2 rfl rfl)
theorem dX0_piece_3 : decode cX0_piece 3 = .ok (.iload_n 1, 1) := dk_27 (dk_at dksX0_piece_0 3 rfl rfl)
theorem dX0_piece_4 : decode cX0_piece 4 = .ok (.invokevirtual 32, 3) := dk_182 0 32 (dk_at dksX0_piece_0 4 rfl rfl)
theorem dX0_piece_7 : decode cX0_piece 7 = .ok (.i2l, 1) := dk_133 (dk_at dksX0_piece_0 7 rfl rfl)
theorem dX0_piece_8 : decode cX0_piece 8 = .ok (.lastore, 1) := dk_80 (dk_at dksX0_piece_0 8 rfl rfl)
theorem dX0_piece_9 : decode cX0_piece 9 = .ok (.goto 6, 3) := dk_167 0 6 (dk_at dksX0_piece_0 9 rfl rfl)
theorem dX0_piece_12 : decode cX0_piece 12 = .ok (.astore_n 3, 1) := dk_78 (dk_at dksX0_piece_0 12 rfl rfl)
theorem dX0_piece_13 : decode cX0_piece 13 = .ok (.iconst 1, 1) := dk_4 (dk_at dksX0_piece_0 13 rfl rfl)
theorem dX0_piece_14 : decode cX0_piece 14 = .ok (.ireturn, 1) := dk_172 (dk_at dksX0_piece_0 14 rfl rfl)
theorem dX0_piece_15 : decode cX0_piece 15 = .ok (.iconst 0, 1) := dk_3 (dk_at dksX0_piece_0 15 rfl rfl)
theorem dX0_piece_16 : decode cX0_piece 16 = .ok (.ireturn, 1) := dk_172 (dk_at dksX0_piece_0 16 rfl rfl)
abbrev cX0_mend : ByteArray := method_10_code
def yX0_mend : MethodName := ⟨RX0, "mend", "(LClayPipes;[J)I"⟩
def dkwX0_mend_0 : List UInt8 := [43, 3, 42, 182, 0, 35, 133, 80, 167, 0, 6, 77, 4, 172, 3, 172]
abbrev dktX0_mend_0 : List UInt8 := dkwX0_mend_0 ++ []
theorem dksX0_mend_0 : cX0_mend.data.toList.drop 0 = dktX0_mend_0 := by decide +kernel
theorem dX0_mend_0 : decode cX0_mend 0 = .ok (.aload_n 1, 1) := dk_43 (dk_at dksX0_mend_0 0 rfl rfl)
theorem dX0_mend_1 : decode cX0_mend 1 = .ok (.iconst 0, 1) := dk_3 (dk_at dksX0_mend_0 1 rfl rfl)
theorem dX0_mend_2 : decode cX0_mend 2 = .ok (.aload_n 0, 1) := dk_42 (dk_at dksX0_mend_0 2 rfl rfl)
theorem dX0_mend_3 : decode cX0_mend 3 = .ok (.invokevirtual 35, 3) := dk_182 0 35 (dk_at dksX0_mend_0 3 rfl rfl)
theorem dX0_mend_6 : decode cX0_mend 6 = .ok (.i2l, 1) := dk_133 (dk_at dksX0_mend_0 6 rfl rfl)
theorem dX0_mend_7 : decode cX0_mend 7 = .ok (.lastore, 1) := dk_80 (dk_at dksX0_mend_0 7 rfl rfl)
theorem dX0_mend_8 : decode cX0_mend 8 = .ok (.goto 6, 3) := dk_167 0 6 (dk_at dksX0_mend_0 8 rfl rfl)
theorem dX0_mend_11 : decode cX0_mend 11 = .ok (.astore_n 2, 1) := dk_77 (dk_at dksX0_mend_0 11 rfl rfl)
theorem dX0_mend_12 : decode cX0_mend 12 = .ok (.iconst 1, 1) := dk_4 (dk_at dksX0_mend_0 12 rfl rfl)
theorem dX0_mend_13 : decode cX0_mend 13 = .ok (.ireturn, 1) := dk_172 (dk_at dksX0_mend_0 13 rfl rfl)
theorem dX0_mend_14 : decode cX0_mend 14 = .ok (.iconst 0, 1) := dk_3 (dk_at dksX0_mend_0 14 rfl rfl)
theorem dX0_mend_15 : decode cX0_mend 15 = .ok (.ireturn, 1) := dk_172 (dk_at dksX0_mend_0 15 rfl rfl)
abbrev cX0_cut : ByteArray := method_11_code
def yX0_cut : MethodName := ⟨RX0, "cut", "(LClayPipes;II[J)I"⟩
def dkwX0_cut_0 : List UInt8 := [45, 3, 42, 27, 28, 182, 0, 38, 133, 80, 167, 0, 7, 58, 4, 4, 172, 3, 172]
abbrev dktX0_cut_0 : List UInt8 := dkwX0_cut_0 ++ []
theorem dksX0_cut_0 : cX0_cut.data.toList.drop 0 = dktX0_cut_0 := by decide +kernel
theorem dX0_cut_0 : decode cX0_cut 0 = .ok (.aload_n 3, 1) := dk_45 (dk_at dksX0_cut_0 0 rfl rfl)
theorem dX0_cut_1 : decode cX0_cut 1 = .ok (.iconst 0, 1) := dk_3 (dk_at dksX0_cut_0 1 rfl rfl)
theorem dX0_cut_2 : decode cX0_cut 2 = .ok (.aload_n 0, 1) := dk_42 (dk_at dksX0_cut_0 2 rfl rfl)
theorem dX0_cut_3 : decode cX0_cut 3 = .ok (.iload_n 1, 1) := dk_27 (dk_at dksX0_cut_0 3 rfl rfl)
theorem dX0_cut_4 : decode cX0_cut 4 = .ok (.iload_n 2, 1) := dk_28 (dk_at dksX0_cut_0 4 rfl rfl)
theorem dX0_cut_5 : decode cX0_cut 5 = .ok (.invokevirtual 38, 3) := dk_182 0 38 (dk_at dksX0_cut_0 5 rfl rfl)
theorem dX0_cut_8 : decode cX0_cut 8 = .ok (.i2l, 1) := dk_133 (dk_at dksX0_cut_0 8 rfl rfl)
theorem dX0_cut_9 : decode cX0_cut 9 = .ok (.lastore, 1) := dk_80 (dk_at dksX0_cut_0 9 rfl rfl)
theorem dX0_cut_10 : decode cX0_cut 10 = .ok (.goto 7, 3) := dk_167 0 7 (dk_at dksX0_cut_0 10 rfl rfl)
theorem dX0_cut_13 : decode cX0_cut 13 = .ok (.astore 4, 2) := dk_58 4 (dk_at dksX0_cut_0 13 rfl rfl)
theorem dX0_cut_15 : decode cX0_cut 15 = .ok (.iconst 1, 1) := dk_4 (dk_at dksX0_cut_0 15 rfl rfl)
theorem dX0_cut_16 : decode cX0_cut 16 = .ok (.ireturn, 1) := dk_172 (dk_at dksX0_cut_0 16 rfl rfl)
theorem dX0_cut_17 : decode cX0_cut 17 = .ok (.iconst 0, 1) := dk_3 (dk_at dksX0_cut_0 17 rfl rfl)
theorem dX0_cut_18 : decode cX0_cut 18 = .ok (.ireturn, 1) := dk_172 (dk_at dksX0_cut_0 18 rfl rfl)
abbrev cX0_smoke : ByteArray := method_12_code
def yX0_smoke : MethodName := ⟨RX0, "smoke", "(LClayPipes;I[J)I"⟩
def dkwX0_smoke_0 : List UInt8 := [44, 3, 42, 27, 182, 0, 41, 133, 80, 167, 0, 6, 78, 4, 172, 3, 172]
abbrev dktX0_smoke_0 : List UInt8 := dkwX0_smoke_0 ++ []
theorem dksX0_smoke_0 : cX0_smoke.data.toList.drop 0 = dktX0_smoke_0 := by decide +kernel
theorem dX0_smoke_0 : decode cX0_smoke 0 = .ok (.aload_n 2, 1) := dk_44 (dk_at dksX0_smoke_0 0 rfl rfl)
theorem dX0_smoke_1 : decode cX0_smoke 1 = .ok (.iconst 0, 1) := dk_3 (dk_at dksX0_smoke_0 1 rfl rfl)
theorem dX0_smoke_2 : decode cX0_smoke 2 = .ok (.aload_n 0, 1) := dk_42 (dk_at dksX0_smoke_0 2 rfl rfl)
theorem dX0_smoke_3 : decode cX0_smoke 3 = .ok (.iload_n 1, 1) := dk_27 (dk_at dksX0_smoke_0 3 rfl rfl)
theorem dX0_smoke_4 : decode cX0_smoke 4 = .ok (.invokevirtual 41, 3) := dk_182 0 41 (dk_at dksX0_smoke_0 4 rfl rfl)
theorem dX0_smoke_7 : decode cX0_smoke 7 = .ok (.i2l, 1) := dk_133 (dk_at dksX0_smoke_0 7 rfl rfl)
theorem dX0_smoke_8 : decode cX0_smoke 8 = .ok (.lastore, 1) := dk_80 (dk_at dksX0_smoke_0 8 rfl rfl)
theorem dX0_smoke_9 : decode cX0_smoke 9 = .ok (.goto 6, 3) := dk_167 0 6 (dk_at dksX0_smoke_0 9 rfl rfl)
theorem dX0_smoke_12 : decode cX0_smoke 12 = .ok (.astore_n 3, 1) := dk_78 (dk_at dksX0_smoke_0 12 rfl rfl)
theorem dX0_smoke_13 : decode cX0_smoke 13 = .ok (.iconst 1, 1) := dk_4 (dk_at dksX0_smoke_0 13 rfl rfl)
theorem dX0_smoke_14 : decode cX0_smoke 14 = .ok (.ireturn, 1) := dk_172 (dk_at dksX0_smoke_0 14 rfl rfl)
theorem dX0_smoke_15 : decode cX0_smoke 15 = .ok (.iconst 0, 1) := dk_3 (dk_at dksX0_smoke_0 15 rfl rfl)
theorem dX0_smoke_16 : decode cX0_smoke 16 = .ok (.ireturn, 1) := dk_172 (dk_at dksX0_smoke_0 16 rfl rfl)
abbrev cX0_drop : ByteArray := method_13_code
def yX0_drop : MethodName := ⟨RX0, "drop", "(LClayPipes;II[J)I"⟩
def dkwX0_drop_0 : List UInt8 := [45, 3, 42, 27, 28, 182, 0, 44, 133, 80, 167, 0, 7, 58, 4, 4, 172, 3, 172]
abbrev dktX0_drop_0 : List UInt8 := dkwX0_drop_0 ++ []
theorem dksX0_drop_0 : cX0_drop.data.toList.drop 0 = dktX0_drop_0 := by decide +kernel
theorem dX0_drop_0 : decode cX0_drop 0 = .ok (.aload_n 3, 1) := dk_45 (dk_at dksX0_drop_0 0 rfl rfl)
theorem dX0_drop_1 : decode cX0_drop 1 = .ok (.iconst 0, 1) := dk_3 (dk_at dksX0_drop_0 1 rfl rfl)
theorem dX0_drop_2 : decode cX0_drop 2 = .ok (.aload_n 0, 1) := dk_42 (dk_at dksX0_drop_0 2 rfl rfl)
theorem dX0_drop_3 : decode cX0_drop 3 = .ok (.iload_n 1, 1) := dk_27 (dk_at dksX0_drop_0 3 rfl rfl)
theorem dX0_drop_4 : decode cX0_drop 4 = .ok (.iload_n 2, 1) := dk_28 (dk_at dksX0_drop_0 4 rfl rfl)
theorem dX0_drop_5 : decode cX0_drop 5 = .ok (.invokevirtual 44, 3) := dk_182 0 44 (dk_at dksX0_drop_0 5 rfl rfl)
theorem dX0_drop_8 : decode cX0_drop 8 = .ok (.i2l, 1) := dk_133 (dk_at dksX0_drop_0 8 rfl rfl)
theorem dX0_drop_9 : decode cX0_drop 9 = .ok (.lastore, 1) := dk_80 (dk_at dksX0_drop_0 9 rfl rfl)
theorem dX0_drop_10 : decode cX0_drop 10 = .ok (.goto 7, 3) := dk_167 0 7 (dk_at dksX0_drop_0 10 rfl rfl)
theorem dX0_drop_13 : decode cX0_drop 13 = .ok (.astore 4, 2) := dk_58 4 (dk_at dksX0_drop_0 13 rfl rfl)
theorem dX0_drop_15 : decode cX0_drop 15 = .ok (.iconst 1, 1) := dk_4 (dk_at dksX0_drop_0 15 rfl rfl)
theorem dX0_drop_16 : decode cX0_drop 16 = .ok (.ireturn, 1) := dk_172 (dk_at dksX0_drop_0 16 rfl rfl)
theorem dX0_drop_17 : decode cX0_drop 17 = .ok (.iconst 0, 1) := dk_3 (dk_at dksX0_drop_0 17 rfl rfl)
theorem dX0_drop_18 : decode cX0_drop 18 = .ok (.ireturn, 1) := dk_172 (dk_at dksX0_drop_0 18 rfl rfl)
abbrev cX0_parrot : ByteArray := method_14_code
def yX0_parrot : MethodName := ⟨RX0, "parrot", "(LClayPipes;I[J)I"⟩
def dkwX0_parrot_0 : List UInt8 := [44, 3, 42, 27, 182, 0, 47, 133, 80, 167, 0, 6, 78, 4, 172, 3, 172]
abbrev dktX0_parrot_0 : List UInt8 := dkwX0_parrot_0 ++ []
theorem dksX0_parrot_0 : cX0_parrot.data.toList.drop 0 = dktX0_parrot_0 := by decide +kernel
theorem dX0_parrot_0 : decode cX0_parrot 0 = .ok (.aload_n 2, 1) := dk_44 (dk_at dksX0_parrot_0 0 rfl rfl)
theorem dX0_parrot_1 : decode cX0_parrot 1 = .ok (.iconst 0, 1) := dk_3 (dk_at dksX0_parrot_0 1 rfl rfl)
theorem dX0_parrot_2 : decode cX0_parrot 2 = .ok (.aload_n 0, 1) := dk_42 (dk_at dksX0_parrot_0 2 rfl rfl)
theorem dX0_parrot_3 : decode cX0_parrot 3 = .ok (.iload_n 1, 1) := dk_27 (dk_at dksX0_parrot_0 3 rfl rfl)
theorem dX0_parrot_4 : decode cX0_parrot 4 = .ok (.invokevirtual 47, 3) := dk_182 0 47 (dk_at dksX0_parrot_0 4 rfl rfl)
theorem dX0_parrot_7 : decode cX0_parrot 7 = .ok (.i2l, 1) := dk_133 (dk_at dksX0_parrot_0 7 rfl rfl)
theorem dX0_parrot_8 : decode cX0_parrot 8 = .ok (.lastore, 1) := dk_80 (dk_at dksX0_parrot_0 8 rfl rfl)
theorem dX0_parrot_9 : decode cX0_parrot 9 = .ok (.goto 6, 3) := dk_167 0 6 (dk_at dksX0_parrot_0 9 rfl rfl)
theorem dX0_parrot_12 : decode cX0_parrot 12 = .ok (.astore_n 3, 1) := dk_78 (dk_at dksX0_parrot_0 12 rfl rfl)
theorem dX0_parrot_13 : decode cX0_parrot 13 = .ok (.iconst 1, 1) := dk_4 (dk_at dksX0_parrot_0 13 rfl rfl)
theorem dX0_parrot_14 : decode cX0_parrot 14 = .ok (.ireturn, 1) := dk_172 (dk_at dksX0_parrot_0 14 rfl rfl)
theorem dX0_parrot_15 : decode cX0_parrot 15 = .ok (.iconst 0, 1) := dk_3 (dk_at dksX0_parrot_0 15 rfl rfl)
theorem dX0_parrot_16 : decode cX0_parrot 16 = .ok (.ireturn, 1) := dk_172 (dk_at dksX0_parrot_0 16 rfl rfl)
abbrev cX0_scare : ByteArray := method_15_code
def yX0_scare : MethodName := ⟨RX0, "scare", "(LClayPipes;I[J)I"⟩
def dkwX0_scare_0 : List UInt8 := [44, 3, 42, 27, 182, 0, 50, 133, 80, 167, 0, 6, 78, 4, 172, 3, 172]
abbrev dktX0_scare_0 : List UInt8 := dkwX0_scare_0 ++ []
theorem dksX0_scare_0 : cX0_scare.data.toList.drop 0 = dktX0_scare_0 := by decide +kernel
theorem dX0_scare_0 : decode cX0_scare 0 = .ok (.aload_n 2, 1) := dk_44 (dk_at dksX0_scare_0 0 rfl rfl)
theorem dX0_scare_1 : decode cX0_scare 1 = .ok (.iconst 0, 1) := dk_3 (dk_at dksX0_scare_0 1 rfl rfl)
theorem dX0_scare_2 : decode cX0_scare 2 = .ok (.aload_n 0, 1) := dk_42 (dk_at dksX0_scare_0 2 rfl rfl)
theorem dX0_scare_3 : decode cX0_scare 3 = .ok (.iload_n 1, 1) := dk_27 (dk_at dksX0_scare_0 3 rfl rfl)
theorem dX0_scare_4 : decode cX0_scare 4 = .ok (.invokevirtual 50, 3) := dk_182 0 50 (dk_at dksX0_scare_0 4 rfl rfl)
theorem dX0_scare_7 : decode cX0_scare 7 = .ok (.i2l, 1) := dk_133 (dk_at dksX0_scare_0 7 rfl rfl)
theorem dX0_scare_8 : decode cX0_scare 8 = .ok (.lastore, 1) := dk_80 (dk_at dksX0_scare_0 8 rfl rfl)
theorem dX0_scare_9 : decode cX0_scare 9 = .ok (.goto 6, 3) := dk_167 0 6 (dk_at dksX0_scare_0 9 rfl rfl)
theorem dX0_scare_12 : decode cX0_scare 12 = .ok (.astore_n 3, 1) := dk_78 (dk_at dksX0_scare_0 12 rfl rfl)
theorem dX0_scare_13 : decode cX0_scare 13 = .ok (.iconst 1, 1) := dk_4 (dk_at dksX0_scare_0 13 rfl rfl)
theorem dX0_scare_14 : decode cX0_scare 14 = .ok (.ireturn, 1) := dk_172 (dk_at dksX0_scare_0 14 rfl rfl)
theorem dX0_scare_15 : decode cX0_scare 15 = .ok (.iconst 0, 1) := dk_3 (dk_at dksX0_scare_0 15 rfl rfl)
theorem dX0_scare_16 : decode cX0_scare 16 = .ok (.ireturn, 1) := dk_172 (dk_at dksX0_scare_0 16 rfl rfl)
abbrev cX0_curfew : ByteArray := method_16_code
def yX0_curfew : MethodName := ⟨RX0, "curfew", "(LClayPipes;I[J)I"⟩
def dkwX0_curfew_0 : List UInt8 := [44, 3, 42, 27, 182, 0, 53, 133, 80, 167, 0, 6, 78, 4, 172, 3, 172]
abbrev dktX0_curfew_0 : List UInt8 := dkwX0_curfew_0 ++ []
theorem dksX0_curfew_0 : cX0_curfew.data.toList.drop 0 = dktX0_curfew_0 := by decide +kernel
theorem dX0_curfew_0 : decode cX0_curfew 0 = .ok (.aload_n 2, 1) := dk_44 (dk_at dksX0_curfew_0 0 rfl rfl)
theorem dX0_curfew_1 : decode cX0_curfew 1 = .ok (.iconst 0, 1) := dk_3 (dk_at dksX0_curfew_0 1 rfl rfl)
theorem dX0_curfew_2 : decode cX0_curfew 2 = .ok (.aload_n 0, 1) := dk_42 (dk_at dksX0_curfew_0 2 rfl rfl)
theorem dX0_curfew_3 : decode cX0_curfew 3 = .ok (.iload_n 1, 1) := dk_27 (dk_at dksX0_curfew_0 3 rfl rfl)
theorem dX0_curfew_4 : decode cX0_curfew 4 = .ok (.invokevirtual 53, 3) := dk_182 0 53 (dk_at dksX0_curfew_0 4 rfl rfl)
theorem dX0_curfew_7 : decode cX0_curfew 7 = .ok (.i2l, 1) := dk_133 (dk_at dksX0_curfew_0 7 rfl rfl)
theorem dX0_curfew_8 : decode cX0_curfew 8 = .ok (.lastore, 1) := dk_80 (dk_at dksX0_curfew_0 8 rfl rfl)
theorem dX0_curfew_9 : decode cX0_curfew 9 = .ok (.goto 6, 3) := dk_167 0 6 (dk_at dksX0_curfew_0 9 rfl rfl)
theorem dX0_curfew_12 : decode cX0_curfew 12 = .ok (.astore_n 3, 1) := dk_78 (dk_at dksX0_curfew_0 12 rfl rfl)
theorem dX0_curfew_13 : decode cX0_curfew 13 = .ok (.iconst 1, 1) := dk_4 (dk_at dksX0_curfew_0 13 rfl rfl)
theorem dX0_curfew_14 : decode cX0_curfew 14 = .ok (.ireturn, 1) := dk_172 (dk_at dksX0_curfew_0 14 rfl rfl)
theorem dX0_curfew_15 : decode cX0_curfew 15 = .ok (.iconst 0, 1) := dk_3 (dk_at dksX0_curfew_0 15 rfl rfl)
theorem dX0_curfew_16 : decode cX0_curfew 16 = .ok (.ireturn, 1) := dk_172 (dk_at dksX0_curfew_0 16 rfl rfl)
abbrev cX0_hour : ByteArray := method_17_code
def yX0_hour : MethodName := ⟨RX0, "hour", "(LClayPipes;I[J)I"⟩
def dkwX0_hour_0 : List UInt8 := [44, 3, 42, 27, 182, 0, 56, 133, 80, 167, 0, 6, 78, 4, 172, 3, 172]
abbrev dktX0_hour_0 : List UInt8 := dkwX0_hour_0 ++ []
theorem dksX0_hour_0 : cX0_hour.data.toList.drop 0 = dktX0_hour_0 := by decide +kernel
theorem dX0_hour_0 : decode cX0_hour 0 = .ok (.aload_n 2, 1) := dk_44 (dk_at dksX0_hour_0 0 rfl rfl)
theorem dX0_hour_1 : decode cX0_hour 1 = .ok (.iconst 0, 1) := dk_3 (dk_at dksX0_hour_0 1 rfl rfl)
theorem dX0_hour_2 : decode cX0_hour 2 = .ok (.aload_n 0, 1) := dk_42 (dk_at dksX0_hour_0 2 rfl rfl)
theorem dX0_hour_3 : decode cX0_hour 3 = .ok (.iload_n 1, 1) := dk_27 (dk_at dksX0_hour_0 3 rfl rfl)
theorem dX0_hour_4 : decode cX0_hour 4 = .ok (.invokevirtual 56, 3) := dk_182 0 56 (dk_at dksX0_hour_0 4 rfl rfl)
theorem dX0_hour_7 : decode cX0_hour 7 = .ok (.i2l, 1) := dk_133 (dk_at dksX0_hour_0 7 rfl rfl)
theorem dX0_hour_8 : decode cX0_hour 8 = .ok (.lastore, 1) := dk_80 (dk_at dksX0_hour_0 8 rfl rfl)
theorem dX0_hour_9 : decode cX0_hour 9 = .ok (.goto 6, 3) := dk_167 0 6 (dk_at dksX0_hour_0 9 rfl rfl)
theorem dX0_hour_12 : decode cX0_hour 12 = .ok (.astore_n 3, 1) := dk_78 (dk_at dksX0_hour_0 12 rfl rfl)
theorem dX0_hour_13 : decode cX0_hour 13 = .ok (.iconst 1, 1) := dk_4 (dk_at dksX0_hour_0 13 rfl rfl)
theorem dX0_hour_14 : decode cX0_hour 14 = .ok (.ireturn, 1) := dk_172 (dk_at dksX0_hour_0 14 rfl rfl)
theorem dX0_hour_15 : decode cX0_hour 15 = .ok (.iconst 0, 1) := dk_3 (dk_at dksX0_hour_0 15 rfl rfl)
theorem dX0_hour_16 : decode cX0_hour 16 = .ok (.ireturn, 1) := dk_172 (dk_at dksX0_hour_0 16 rfl rfl)
abbrev cX0_pipeOf : ByteArray := method_18_code
def yX0_pipeOf : MethodName := ⟨RX0, "pipeOf", "(LClayPipes;II[J)I"⟩
def dkwX0_pipeOf_0 : List UInt8 := [45, 3, 42, 27, 28, 182, 0, 59, 133, 80, 167, 0, 11, 58, 4, 4, 172, 58, 4, 5, 172, 3, 172]
abbrev dktX0_pipeOf_0 : List UInt8 := dkwX0_pipeOf_0 ++ []
theorem dksX0_pipeOf_0 : cX0_pipeOf.data.toList.drop 0 = dktX0_pipeOf_0 := by decide +kernel
theorem dX0_pipeOf_0 : decode cX0_pipeOf 0 = .ok (.aload_n 3, 1) := dk_45 (dk_at dksX0_pipeOf_0 0 rfl rfl)
theorem dX0_pipeOf_1 : decode cX0_pipeOf 1 = .ok (.iconst 0, 1) := dk_3 (dk_at dksX0_pipeOf_0 1 rfl rfl)
theorem dX0_pipeOf_2 : decode cX0_pipeOf 2 = .ok (.aload_n 0, 1) := dk_42 (dk_at dksX0_pipeOf_0 2 rfl rfl)
theorem dX0_pipeOf_3 : decode cX0_pipeOf 3 = .ok (.iload_n 1, 1) := dk_27 (dk_at dksX0_pipeOf_0 3 rfl rfl)
theorem dX0_pipeOf_4 : decode cX0_pipeOf 4 = .ok (.iload_n 2, 1) := dk_28 (dk_at dksX0_pipeOf_0 4 rfl rfl)
theorem dX0_pipeOf_5 : decode cX0_pipeOf 5 = .ok (.invokevirtual 59, 3) := dk_182 0 59 (dk_at dksX0_pipeOf_0 5 rfl rfl)
theorem dX0_pipeOf_8 : decode cX0_pipeOf 8 = .ok (.i2l, 1) := dk_133 (dk_at dksX0_pipeOf_0 8 rfl rfl)
theorem dX0_pipeOf_9 : decode cX0_pipeOf 9 = .ok (.lastore, 1) := dk_80 (dk_at dksX0_pipeOf_0 9 rfl rfl)
theorem dX0_pipeOf_10 : decode cX0_pipeOf 10 = .ok (.goto 11, 3) := dk_167 0 11 (dk_at dksX0_pipeOf_0 10 rfl rfl)
theorem dX0_pipeOf_13 : decode cX0_pipeOf 13 = .ok (.astore 4, 2) := dk_58 4 (dk_at dksX0_pipeOf_0 13 rfl rfl)
theorem dX0_pipeOf_15 : decode cX0_pipeOf 15 = .ok (.iconst 1, 1) := dk_4 (dk_at dksX0_pipeOf_0 15 rfl rfl)
theorem dX0_pipeOf_16 : decode cX0_pipeOf 16 = .ok (.ireturn, 1) := dk_172 (dk_at dksX0_pipeOf_0 16 rfl rfl)
theorem dX0_pipeOf_17 : decode cX0_pipeOf 17 = .ok (.astore 4, 2) := dk_58 4 (dk_at dksX0_pipeOf_0 17 rfl rfl)
theorem dX0_pipeOf_19 : decode cX0_pipeOf 19 = .ok (.iconst 2, 1) := dk_5 (dk_at dksX0_pipeOf_0 19 rfl rfl)
theorem dX0_pipeOf_20 : decode cX0_pipeOf 20 = .ok (.ireturn, 1) := dk_172 (dk_at dksX0_pipeOf_0 20 rfl rfl)
theorem dX0_pipeOf_21 : decode cX0_pipeOf 21 = .ok (.iconst 0, 1) := dk_3 (dk_at dksX0_pipeOf_0 21 rfl rfl)
theorem dX0_pipeOf_22 : decode cX0_pipeOf 22 = .ok (.ireturn, 1) := dk_172 (dk_at dksX0_pipeOf_0 22 rfl rfl)
abbrev cX0_draws : ByteArray := method_19_code
def yX0_draws : MethodName := ⟨RX0, "draws", "(LClayPipes;I[J)I"⟩
def dkwX0_draws_0 : List UInt8 := [44, 3, 42, 27, 182, 0, 66, 153, 0, 7, 10, 167, 0, 4, 9, 80, 167, 0, 6, 78, 4, 172, 3, 172]
abbrev dktX0_draws_0 : List UInt8 := dkwX0_draws_0 ++ []
theorem dksX0_draws_0 : cX0_draws.data.toList.drop 0 = dktX0_draws_0 := by decide +kernel
theorem dX0_draws_0 : decode cX0_draws 0 = .ok (.aload_n 2, 1) := dk_44 (dk_at dksX0_draws_0 0 rfl rfl)
theorem dX0_draws_1 : decode cX0_draws 1 = .ok (.iconst 0, 1) := dk_3 (dk_at dksX0_draws_0 1 rfl rfl)
theorem dX0_draws_2 : decode cX0_draws 2 = .ok (.aload_n 0, 1) := dk_42 (dk_at dksX0_draws_0 2 rfl rfl)
theorem dX0_draws_3 : decode cX0_draws 3 = .ok (.iload_n 1, 1) := dk_27 (dk_at dksX0_draws_0 3 rfl rfl)
theorem dX0_draws_4 : decode cX0_draws 4 = .ok (.invokevirtual 66, 3) := dk_182 0 66 (dk_at dksX0_draws_0 4 rfl rfl)
theorem dX0_draws_7 : decode cX0_draws 7 = .ok (.ifCond .eq 7, 3) := dk_153 0 7 (dk_at dksX0_draws_0 7 rfl rfl)
theorem dX0_draws_10 : decode cX0_draws 10 = .ok (.lconst 1, 1) := dk_10 (dk_at dksX0_draws_0 10 rfl rfl)
theorem dX0_draws_11 : decode cX0_draws 11 = .ok (.goto 4, 3) := dk_167 0 4 (dk_at dksX0_draws_0 11 rfl rfl)
theorem dX0_draws_14 : decode cX0_draws 14 = .ok (.lconst 0, 1) := dk_9 (dk_at dksX0_draws_0 14 rfl rfl)
theorem dX0_draws_15 : decode cX0_draws 15 = .ok (.lastore, 1) := dk_80 (dk_at dksX0_draws_0 15 rfl rfl)
theorem dX0_draws_16 : decode cX0_draws 16 = .ok (.goto 6, 3) := dk_167 0 6 (dk_at dksX0_draws_0 16 rfl rfl)
theorem dX0_draws_19 : decode cX0_draws 19 = .ok (.astore_n 3, 1) := dk_78 (dk_at dksX0_draws_0 19 rfl rfl)
theorem dX0_draws_20 : decode cX0_draws 20 = .ok (.iconst 1, 1) := dk_4 (dk_at dksX0_draws_0 20 rfl rfl)
theorem dX0_draws_21 : decode cX0_draws 21 = .ok (.ireturn, 1) := dk_172 (dk_at dksX0_draws_0 21 rfl rfl)
theorem dX0_draws_22 : decode cX0_draws 22 = .ok (.iconst 0, 1) := dk_3 (dk_at dksX0_draws_0 22 rfl rfl)
theorem dX0_draws_23 : decode cX0_draws 23 = .ok (.ireturn, 1) := dk_172 (dk_at dksX0_draws_0 23 rfl rfl)
abbrev cX0_onBench : ByteArray := method_20_code
def yX0_onBench : MethodName := ⟨RX0, "onBench", "(LClayPipes;I[J)I"⟩
def dkwX0_onBench_0 : List UInt8 := [44, 3, 42, 27, 182, 0, 70, 133, 80, 167, 0, 6, 78, 4, 172, 3, 172]
abbrev dktX0_onBench_0 : List UInt8 := dkwX0_onBench_0 ++ []
theorem dksX0_onBench_0 : cX0_onBench.data.toList.drop 0 = dktX0_onBench_0 := by decide +kernel
theorem dX0_onBench_0 : decode cX0_onBench 0 = .ok (.aload_n 2, 1) := dk_44 (dk_at dksX0_onBench_0 0 rfl rfl)
theorem dX0_onBench_1 : decode cX0_onBench 1 = .ok (.iconst 0, 1) := dk_3 (dk_at dksX0_onBench_0 1 rfl rfl)
theorem dX0_onBench_2 : decode cX0_onBench 2 = .ok (.aload_n 0, 1) := dk_42 (dk_at dksX0_onBench_0 2 rfl rfl)
theorem dX0_onBench_3 : decode cX0_onBench 3 = .ok (.iload_n 1, 1) := dk_27 (dk_at dksX0_onBench_0 3 rfl rfl)
theorem dX0_onBench_4 : decode cX0_onBench 4 = .ok (.invokevirtual 70, 3) := dk_182 0 70 (dk_at dksX0_onBench_0 4 rfl rfl)
theorem dX0_onBench_7 : decode cX0_onBench 7 = .ok (.i2l, 1) := dk_133 (dk_at dksX0_onBench_0 7 rfl rfl)
theorem dX0_onBench_8 : decode cX0_onBench 8 = .ok (.lastore, 1) := dk_80 (dk_at dksX0_onBench_0 8 rfl rfl)
theorem dX0_onBench_9 : decode cX0_onBench 9 = .ok (.goto 6, 3) := dk_167 0 6 (dk_at dksX0_onBench_0 9 rfl rfl)
theorem dX0_onBench_12 : decode cX0_onBench 12 = .ok (.astore_n 3, 1) := dk_78 (dk_at dksX0_onBench_0 12 rfl rfl)
theorem dX0_onBench_13 : decode cX0_onBench 13 = .ok (.iconst 1, 1) := dk_4 (dk_at dksX0_onBench_0 13 rfl rfl)
theorem dX0_onBench_14 : decode cX0_onBench 14 = .ok (.ireturn, 1) := dk_172 (dk_at dksX0_onBench_0 14 rfl rfl)
theorem dX0_onBench_15 : decode cX0_onBench 15 = .ok (.iconst 0, 1) := dk_3 (dk_at dksX0_onBench_0 15 rfl rfl)
theorem dX0_onBench_16 : decode cX0_onBench 16 = .ok (.ireturn, 1) := dk_172 (dk_at dksX0_onBench_0 16 rfl rfl)
abbrev cX0_lumpOf : ByteArray := method_21_code
def yX0_lumpOf : MethodName := ⟨RX0, "lumpOf", "(LClayPipes;I[J)I"⟩
def dkwX0_lumpOf_0 : List UInt8 := [44, 3, 42, 27, 182, 0, 75, 133, 80, 167, 0, 6, 78, 4, 172, 3, 172]
abbrev dktX0_lumpOf_0 : List UInt8 := dkwX0_lumpOf_0 ++ []
theorem dksX0_lumpOf_0 : cX0_lumpOf.data.toList.drop 0 = dktX0_lumpOf_0 := by decide +kernel
theorem dX0_lumpOf_0 : decode cX0_lumpOf 0 = .ok (.aload_n 2, 1) := dk_44 (dk_at dksX0_lumpOf_0 0 rfl rfl)
theorem dX0_lumpOf_1 : decode cX0_lumpOf 1 = .ok (.iconst 0, 1) := dk_3 (dk_at dksX0_lumpOf_0 1 rfl rfl)
theorem dX0_lumpOf_2 : decode cX0_lumpOf 2 = .ok (.aload_n 0, 1) := dk_42 (dk_at dksX0_lumpOf_0 2 rfl rfl)
theorem dX0_lumpOf_3 : decode cX0_lumpOf 3 = .ok (.iload_n 1, 1) := dk_27 (dk_at dksX0_lumpOf_0 3 rfl rfl)
theorem dX0_lumpOf_4 : decode cX0_lumpOf 4 = .ok (.invokevirtual 75, 3) := dk_182 0 75 (dk_at dksX0_lumpOf_0 4 rfl rfl)
theorem dX0_lumpOf_7 : decode cX0_lumpOf 7 = .ok (.i2l, 1) := dk_133 (dk_at dksX0_lumpOf_0 7 rfl rfl)
theorem dX0_lumpOf_8 : decode cX0_lumpOf 8 = .ok (.lastore, 1) := dk_80 (dk_at dksX0_lumpOf_0 8 rfl rfl)
theorem dX0_lumpOf_9 : decode cX0_lumpOf 9 = .ok (.goto 6, 3) := dk_167 0 6 (dk_at dksX0_lumpOf_0 9 rfl rfl)
theorem dX0_lumpOf_12 : decode cX0_lumpOf 12 = .ok (.astore_n 3, 1) := dk_78 (dk_at dksX0_lumpOf_0 12 rfl rfl)
theorem dX0_lumpOf_13 : decode cX0_lumpOf 13 = .ok (.iconst 1, 1) := dk_4 (dk_at dksX0_lumpOf_0 13 rfl rfl)
theorem dX0_lumpOf_14 : decode cX0_lumpOf 14 = .ok (.ireturn, 1) := dk_172 (dk_at dksX0_lumpOf_0 14 rfl rfl)
theorem dX0_lumpOf_15 : decode cX0_lumpOf 15 = .ok (.iconst 0, 1) := dk_3 (dk_at dksX0_lumpOf_0 15 rfl rfl)
theorem dX0_lumpOf_16 : decode cX0_lumpOf 16 = .ok (.ireturn, 1) := dk_172 (dk_at dksX0_lumpOf_0 16 rfl rfl)
abbrev cX0_pieces : ByteArray := method_22_code
def yX0_pieces : MethodName := ⟨RX0, "pieces", "(LClayPipes;I[J)I"⟩
def dkwX0_pieces_0 : List UInt8 := [44, 3, 42, 27, 182, 0, 78, 133, 80, 167, 0, 6, 78, 4, 172, 3, 172]
abbrev dktX0_pieces_0 : List UInt8 := dkwX0_pieces_0 ++ []
theorem dksX0_pieces_0 : cX0_pieces.data.toList.drop 0 = dktX0_pieces_0 := by decide +kernel
theorem dX0_pieces_0 : decode cX0_pieces 0 = .ok (.aload_n 2, 1) := dk_44 (dk_at dksX0_pieces_0 0 rfl rfl)
theorem dX0_pieces_1 : decode cX0_pieces 1 = .ok (.iconst 0, 1) := dk_3 (dk_at dksX0_pieces_0 1 rfl rfl)
theorem dX0_pieces_2 : decode cX0_pieces 2 = .ok (.aload_n 0, 1) := dk_42 (dk_at dksX0_pieces_0 2 rfl rfl)
theorem dX0_pieces_3 : decode cX0_pieces 3 = .ok (.iload_n 1, 1) := dk_27 (dk_at dksX0_pieces_0 3 rfl rfl)
theorem dX0_pieces_4 : decode cX0_pieces 4 = .ok (.invokevirtual 78, 3) := dk_182 0 78 (dk_at dksX0_pieces_0 4 rfl rfl)
theorem dX0_pieces_7 : decode cX0_pieces 7 = .ok (.i2l, 1) := dk_133 (dk_at dksX0_pieces_0 7 rfl rfl)
theorem dX0_pieces_8 : decode cX0_pieces 8 = .ok (.lastore, 1) := dk_80 (dk_at dksX0_pieces_0 8 rfl rfl)
theorem dX0_pieces_9 : decode cX0_pieces 9 = .ok (.goto 6, 3) := dk_167 0 6 (dk_at dksX0_pieces_0 9 rfl rfl)
theorem dX0_pieces_12 : decode cX0_pieces 12 = .ok (.astore_n 3, 1) := dk_78 (dk_at dksX0_pieces_0 12 rfl rfl)
theorem dX0_pieces_13 : decode cX0_pieces 13 = .ok (.iconst 1, 1) := dk_4 (dk_at dksX0_pieces_0 13 rfl rfl)
theorem dX0_pieces_14 : decode cX0_pieces 14 = .ok (.ireturn, 1) := dk_172 (dk_at dksX0_pieces_0 14 rfl rfl)
theorem dX0_pieces_15 : decode cX0_pieces 15 = .ok (.iconst 0, 1) := dk_3 (dk_at dksX0_pieces_0 15 rfl rfl)
theorem dX0_pieces_16 : decode cX0_pieces 16 = .ok (.ireturn, 1) := dk_172 (dk_at dksX0_pieces_0 16 rfl rfl)
abbrev cX0_longest : ByteArray := method_23_code
def yX0_longest : MethodName := ⟨RX0, "longest", "(LClayPipes;[J)I"⟩
def dkwX0_longest_0 : List UInt8 := [43, 3, 42, 182, 0, 81, 133, 80, 167, 0, 6, 77, 4, 172, 3, 172]
abbrev dktX0_longest_0 : List UInt8 := dkwX0_longest_0 ++ []
theorem dksX0_longest_0 : cX0_longest.data.toList.drop 0 = dktX0_longest_0 := by decide +kernel
theorem dX0_longest_0 : decode cX0_longest 0 = .ok (.aload_n 1, 1) := dk_43 (dk_at dksX0_longest_0 0 rfl rfl)
theorem dX0_longest_1 : decode cX0_longest 1 = .ok (.iconst 0, 1) := dk_3 (dk_at dksX0_longest_0 1 rfl rfl)
theorem dX0_longest_2 : decode cX0_longest 2 = .ok (.aload_n 0, 1) := dk_42 (dk_at dksX0_longest_0 2 rfl rfl)
theorem dX0_longest_3 : decode cX0_longest 3 = .ok (.invokevirtual 81, 3) := dk_182 0 81 (dk_at dksX0_longest_0 3 rfl rfl)
theorem dX0_longest_6 : decode cX0_longest 6 = .ok (.i2l, 1) := dk_133 (dk_at dksX0_longest_0 6 rfl rfl)
theorem dX0_longest_7 : decode cX0_longest 7 = .ok (.lastore, 1) := dk_80 (dk_at dksX0_longest_0 7 rfl rfl)
theorem dX0_longest_8 : decode cX0_longest 8 = .ok (.goto 6, 3) := dk_167 0 6 (dk_at dksX0_longest_0 8 rfl rfl)
theorem dX0_longest_11 : decode cX0_longest 11 = .ok (.astore_n 2, 1) := dk_77 (dk_at dksX0_longest_0 11 rfl rfl)
theorem dX0_longest_12 : decode cX0_longest 12 = .ok (.iconst 1, 1) := dk_4 (dk_at dksX0_longest_0 12 rfl rfl)
theorem dX0_longest_13 : decode cX0_longest 13 = .ok (.ireturn, 1) := dk_172 (dk_at dksX0_longest_0 13 rfl rfl)
theorem dX0_longest_14 : decode cX0_longest 14 = .ok (.iconst 0, 1) := dk_3 (dk_at dksX0_longest_0 14 rfl rfl)
theorem dX0_longest_15 : decode cX0_longest 15 = .ok (.ireturn, 1) := dk_172 (dk_at dksX0_longest_0 15 rfl rfl)
abbrev cX0_sits : ByteArray := method_24_code
def yX0_sits : MethodName := ⟨RX0, "sits", "(LClayPipes;I[J)I"⟩
def dkwX0_sits_0 : List UInt8 := [44, 3, 42, 27, 182, 0, 84, 153, 0, 7, 10, 167, 0, 4, 9, 80, 167, 0, 6, 78, 4, 172, 3, 172]
abbrev dktX0_sits_0 : List UInt8 := dkwX0_sits_0 ++ []
theorem dksX0_sits_0 : cX0_sits.data.toList.drop 0 = dktX0_sits_0 := by decide +kernel
theorem dX0_sits_0 : decode cX0_sits 0 = .ok (.aload_n 2, 1) := dk_44 (dk_at dksX0_sits_0 0 rfl rfl)
theorem dX0_sits_1 : decode cX0_sits 1 = .ok (.iconst 0, 1) := dk_3 (dk_at dksX0_sits_0 1 rfl rfl)
theorem dX0_sits_2 : decode cX0_sits 2 = .ok (.aload_n 0, 1) := dk_42 (dk_at dksX0_sits_0 2 rfl rfl)
theorem dX0_sits_3 : decode cX0_sits 3 = .ok (.iload_n 1, 1) := dk_27 (dk_at dksX0_sits_0 3 rfl rfl)
theorem dX0_sits_4 : decode cX0_sits 4 = .ok (.invokevirtual 84, 3) := dk_182 0 84 (dk_at dksX0_sits_0 4 rfl rfl)
theorem dX0_sits_7 : decode cX0_sits 7 = .ok (.ifCond .eq 7, 3) := dk_153 0 7 (dk_at dksX0_sits_0 7 rfl rfl)
theorem dX0_sits_10 : decode cX0_sits 10 = .ok (.lconst 1, 1) := dk_10 (dk_at dksX0_sits_0 10 rfl rfl)
theorem dX0_sits_11 : decode cX0_sits 11 = .ok (.goto 4, 3) := dk_167 0 4 (dk_at dksX0_sits_0 11 rfl rfl)
theorem dX0_sits_14 : decode cX0_sits 14 = .ok (.lconst 0, 1) := dk_9 (dk_at dksX0_sits_0 14 rfl rfl)
theorem dX0_sits_15 : decode cX0_sits 15 = .ok (.lastore, 1) := dk_80 (dk_at dksX0_sits_0 15 rfl rfl)
theorem dX0_sits_16 : decode cX0_sits 16 = .ok (.goto 6, 3) := dk_167 0 6 (dk_at dksX0_sits_0 16 rfl rfl)
theorem dX0_sits_19 : decode cX0_sits 19 = .ok (.astore_n 3, 1) := dk_78 (dk_at dksX0_sits_0 19 rfl rfl)
theorem dX0_sits_20 : decode cX0_sits 20 = .ok (.iconst 1, 1) := dk_4 (dk_at dksX0_sits_0 20 rfl rfl)
theorem dX0_sits_21 : decode cX0_sits 21 = .ok (.ireturn, 1) := dk_172 (dk_at dksX0_sits_0 21 rfl rfl)
theorem dX0_sits_22 : decode cX0_sits 22 = .ok (.iconst 0, 1) := dk_3 (dk_at dksX0_sits_0 22 rfl rfl)
theorem dX0_sits_23 : decode cX0_sits 23 = .ok (.ireturn, 1) := dk_172 (dk_at dksX0_sits_0 23 rfl rfl)
abbrev cX0_nextPerch : ByteArray := method_25_code
def yX0_nextPerch : MethodName := ⟨RX0, "nextPerch", "(LClayPipes;I[J)I"⟩
def dkwX0_nextPerch_0 : List UInt8 := [44, 3, 42, 27, 182, 0, 87, 133, 80, 167, 0, 9, 78, 4, 172, 78, 5, 172, 3, 172]
abbrev dktX0_nextPerch_0 : List UInt8 := dkwX0_nextPerch_0 ++ []
theorem dksX0_nextPerch_0 : cX0_nextPerch.data.toList.drop 0 = dktX0_nextPerch_0 := by decide +kernel
theorem dX0_nextPerch_0 : decode cX0_nextPerch 0 = .ok (.aload_n 2, 1) := dk_44 (dk_at dksX0_nextPerch_0 0 rfl rfl)
theorem dX0_nextPerch_1 : decode cX0_nextPerch 1 = .ok (.iconst 0, 1) := dk_3 (dk_at dksX0_nextPerch_0 1 rfl rfl)
theorem dX0_nextPerch_2 : decode cX0_nextPerch 2 = .ok (.aload_n 0, 1) := dk_42 (dk_at dksX0_nextPerch_0 2 rfl rfl)
theorem dX0_nextPerch_3 : decode cX0_nextPerch 3 = .ok (.iload_n 1, 1) := dk_27 (dk_at dksX0_nextPerch_0 3 rfl rfl)
theorem dX0_nextPerch_4 : decode cX0_nextPerch 4 = .ok (.invokevirtual 87, 3) := dk_182 0 87 (dk_at dksX0_nextPerch_0 4 rfl rfl)
theorem dX0_nextPerch_7 : decode cX0_nextPerch 7 = .ok (.i2l, 1) := dk_133 (dk_at dksX0_nextPerch_0 7 rfl rfl)
theorem dX0_nextPerch_8 : decode cX0_nextPerch 8 = .ok (.lastore, 1) := dk_80 (dk_at dksX0_nextPerch_0 8 rfl rfl)
theorem dX0_nextPerch_9 : decode cX0_nextPerch 9 = .ok (.goto 9, 3) := dk_167 0 9 (dk_at dksX0_nextPerch_0 9 rfl rfl)
theorem dX0_nextPerch_12 : decode cX0_nextPerch 12 = .ok (.astore_n 3, 1) := dk_78 (dk_at dksX0_nextPerch_0 12 rfl rfl)
theorem dX0_nextPerch_13 : decode cX0_nextPerch 13 = .ok (.iconst 1, 1) := dk_4 (dk_at dksX0_nextPerch_0 13 rfl rfl)
theorem dX0_nextPerch_14 : decode cX0_nextPerch 14 = .ok (.ireturn, 1) := dk_172 (dk_at dksX0_nextPerch_0 14 rfl rfl)
theorem dX0_nextPerch_15 : decode cX0_nextPerch 15 = .ok (.astore_n 3, 1) := dk_78 (dk_at dksX0_nextPerch_0 15 rfl rfl)
theorem dX0_nextPerch_16 : decode cX0_nextPerch 16 = .ok (.iconst 2, 1) := dk_5 (dk_at dksX0_nextPerch_0 16 rfl rfl)
theorem dX0_nextPerch_17 : decode cX0_nextPerch 17 = .ok (.ireturn, 1) := dk_172 (dk_at dksX0_nextPerch_0 17 rfl rfl)
theorem dX0_nextPerch_18 : decode cX0_nextPerch 18 = .ok (.iconst 0, 1) := dk_3 (dk_at dksX0_nextPerch_0 18 rfl rfl)
theorem dX0_nextPerch_19 : decode cX0_nextPerch 19 = .ok (.ireturn, 1) := dk_172 (dk_at dksX0_nextPerch_0 19 rfl rfl)
abbrev cX0_lumpsFor : ByteArray := method_26_code
def yX0_lumpsFor : MethodName := ⟨RX0, "lumpsFor", "(LClayPipes;I[J)I"⟩
def dkwX0_lumpsFor_0 : List UInt8 := [44, 3, 42, 27, 182, 0, 90, 133, 80, 167, 0, 6, 78, 4, 172, 3, 172]
abbrev dktX0_lumpsFor_0 : List UInt8 := dkwX0_lumpsFor_0 ++ []
theorem dksX0_lumpsFor_0 : cX0_lumpsFor.data.toList.drop 0 = dktX0_lumpsFor_0 := by decide +kernel
theorem dX0_lumpsFor_0 : decode cX0_lumpsFor 0 = .ok (.aload_n 2, 1) := dk_44 (dk_at dksX0_lumpsFor_0 0 rfl rfl)
theorem dX0_lumpsFor_1 : decode cX0_lumpsFor 1 = .ok (.iconst 0, 1) := dk_3 (dk_at dksX0_lumpsFor_0 1 rfl rfl)
theorem dX0_lumpsFor_2 : decode cX0_lumpsFor 2 = .ok (.aload_n 0, 1) := dk_42 (dk_at dksX0_lumpsFor_0 2 rfl rfl)
theorem dX0_lumpsFor_3 : decode cX0_lumpsFor 3 = .ok (.iload_n 1, 1) := dk_27 (dk_at dksX0_lumpsFor_0 3 rfl rfl)
theorem dX0_lumpsFor_4 : decode cX0_lumpsFor 4 = .ok (.invokevirtual 90, 3) := dk_182 0 90 (dk_at dksX0_lumpsFor_0 4 rfl rfl)
theorem dX0_lumpsFor_7 : decode cX0_lumpsFor 7 = .ok (.i2l, 1) := dk_133 (dk_at dksX0_lumpsFor_0 7 rfl rfl)
theorem dX0_lumpsFor_8 : decode cX0_lumpsFor 8 = .ok (.lastore, 1) := dk_80 (dk_at dksX0_lumpsFor_0 8 rfl rfl)
theorem dX0_lumpsFor_9 : decode cX0_lumpsFor 9 = .ok (.goto 6, 3) := dk_167 0 6 (dk_at dksX0_lumpsFor_0 9 rfl rfl)
theorem dX0_lumpsFor_12 : decode cX0_lumpsFor 12 = .ok (.astore_n 3, 1) := dk_78 (dk_at dksX0_lumpsFor_0 12 rfl rfl)
theorem dX0_lumpsFor_13 : decode cX0_lumpsFor 13 = .ok (.iconst 1, 1) := dk_4 (dk_at dksX0_lumpsFor_0 13 rfl rfl)
theorem dX0_lumpsFor_14 : decode cX0_lumpsFor 14 = .ok (.ireturn, 1) := dk_172 (dk_at dksX0_lumpsFor_0 14 rfl rfl)
theorem dX0_lumpsFor_15 : decode cX0_lumpsFor 15 = .ok (.iconst 0, 1) := dk_3 (dk_at dksX0_lumpsFor_0 15 rfl rfl)
theorem dX0_lumpsFor_16 : decode cX0_lumpsFor 16 = .ok (.ireturn, 1) := dk_172 (dk_at dksX0_lumpsFor_0 16 rfl rfl)
abbrev cX0_pieceFor : ByteArray := method_27_code
def yX0_pieceFor : MethodName := ⟨RX0, "pieceFor", "(LClayPipes;I[J)I"⟩
def dkwX0_pieceFor_0 : List UInt8 := [44, 3, 42, 27, 182, 0, 93, 133, 80, 167, 0, 9, 78, 4, 172, 78, 5, 172, 3, 172]
abbrev dktX0_pieceFor_0 : List UInt8 := dkwX0_pieceFor_0 ++ []
theorem dksX0_pieceFor_0 : cX0_pieceFor.data.toList.drop 0 = dktX0_pieceFor_0 := by decide +kernel
theorem dX0_pieceFor_0 : decode cX0_pieceFor 0 = .ok (.aload_n 2, 1) := dk_44 (dk_at dksX0_pieceFor_0 0 rfl rfl)
theorem dX0_pieceFor_1 : decode cX0_pieceFor 1 = .ok (.iconst 0, 1) := dk_3 (dk_at dksX0_pieceFor_0 1 rfl rfl)
theorem dX0_pieceFor_2 : decode cX0_pieceFor 2 = .ok (.aload_n 0, 1) := dk_42 (dk_at dksX0_pieceFor_0 2 rfl rfl)
theorem dX0_pieceFor_3 : decode cX0_pieceFor 3 = .ok (.iload_n 1, 1) := dk_27 (dk_at dksX0_pieceFor_0 3 rfl rfl)
theorem dX0_pieceFor_4 : decode cX0_pieceFor 4 = .ok (.invokevirtual 93, 3) := dk_182 0 93 (dk_at dksX0_pieceFor_0 4 rfl rfl)
theorem dX0_pieceFor_7 : decode cX0_pieceFor 7 = .ok (.i2l, 1) := dk_133 (dk_at dksX0_pieceFor_0 7 rfl rfl)
theorem dX0_pieceFor_8 : decode cX0_pieceFor 8 = .ok (.lastore, 1) := dk_80 (dk_at dksX0_pieceFor_0 8 rfl rfl)
theorem dX0_pieceFor_9 : decode cX0_pieceFor 9 = .ok (.goto 9, 3) := dk_167 0 9 (dk_at dksX0_pieceFor_0 9 rfl rfl)
theorem dX0_pieceFor_12 : decode cX0_pieceFor 12 = .ok (.astore_n 3, 1) := dk_78 (dk_at dksX0_pieceFor_0 12 rfl rfl)
theorem dX0_pieceFor_13 : decode cX0_pieceFor 13 = .ok (.iconst 1, 1) := dk_4 (dk_at dksX0_pieceFor_0 13 rfl rfl)
theorem dX0_pieceFor_14 : decode cX0_pieceFor 14 = .ok (.ireturn, 1) := dk_172 (dk_at dksX0_pieceFor_0 14 rfl rfl)
theorem dX0_pieceFor_15 : decode cX0_pieceFor 15 = .ok (.astore_n 3, 1) := dk_78 (dk_at dksX0_pieceFor_0 15 rfl rfl)
theorem dX0_pieceFor_16 : decode cX0_pieceFor 16 = .ok (.iconst 2, 1) := dk_5 (dk_at dksX0_pieceFor_0 16 rfl rfl)
theorem dX0_pieceFor_17 : decode cX0_pieceFor 17 = .ok (.ireturn, 1) := dk_172 (dk_at dksX0_pieceFor_0 17 rfl rfl)
theorem dX0_pieceFor_18 : decode cX0_pieceFor 18 = .ok (.iconst 0, 1) := dk_3 (dk_at dksX0_pieceFor_0 18 rfl rfl)
theorem dX0_pieceFor_19 : decode cX0_pieceFor 19 = .ok (.ireturn, 1) := dk_172 (dk_at dksX0_pieceFor_0 19 rfl rfl)
abbrev cX0_freshIn : ByteArray := method_28_code
def yX0_freshIn : MethodName := ⟨RX0, "freshIn", "(LClayPipes;I[J)I"⟩
def dkwX0_freshIn_0 : List UInt8 := [44, 3, 42, 27, 182, 0, 96, 133, 80, 167, 0, 6, 78, 4, 172, 3, 172]
abbrev dktX0_freshIn_0 : List UInt8 := dkwX0_freshIn_0 ++ []
theorem dksX0_freshIn_0 : cX0_freshIn.data.toList.drop 0 = dktX0_freshIn_0 := by decide +kernel
theorem dX0_freshIn_0 : decode cX0_freshIn 0 = .ok (.aload_n 2, 1) := dk_44 (dk_at dksX0_freshIn_0 0 rfl rfl)
theorem dX0_freshIn_1 : decode cX0_freshIn 1 = .ok (.iconst 0, 1) := dk_3 (dk_at dksX0_freshIn_0 1 rfl rfl)
theorem dX0_freshIn_2 : decode cX0_freshIn 2 = .ok (.aload_n 0, 1) := dk_42 (dk_at dksX0_freshIn_0 2 rfl rfl)
theorem dX0_freshIn_3 : decode cX0_freshIn 3 = .ok (.iload_n 1, 1) := dk_27 (dk_at dksX0_freshIn_0 3 rfl rfl)
theorem dX0_freshIn_4 : decode cX0_freshIn 4 = .ok (.invokevirtual 96, 3) := dk_182 0 96 (dk_at dksX0_freshIn_0 4 rfl rfl)
theorem dX0_freshIn_7 : decode cX0_freshIn 7 = .ok (.i2l, 1) := dk_133 (dk_at dksX0_freshIn_0 7 rfl rfl)
theorem dX0_freshIn_8 : decode cX0_freshIn 8 = .ok (.lastore, 1) := dk_80 (dk_at dksX0_freshIn_0 8 rfl rfl)
theorem dX0_freshIn_9 : decode cX0_freshIn 9 = .ok (.goto 6, 3) := dk_167 0 6 (dk_at dksX0_freshIn_0 9 rfl rfl)
theorem dX0_freshIn_12 : decode cX0_freshIn 12 = .ok (.astore_n 3, 1) := dk_78 (dk_at dksX0_freshIn_0 12 rfl rfl)
theorem dX0_freshIn_13 : decode cX0_freshIn 13 = .ok (.iconst 1, 1) := dk_4 (dk_at dksX0_freshIn_0 13 rfl rfl)
theorem dX0_freshIn_14 : decode cX0_freshIn 14 = .ok (.ireturn, 1) := dk_172 (dk_at dksX0_freshIn_0 14 rfl rfl)
theorem dX0_freshIn_15 : decode cX0_freshIn 15 = .ok (.iconst 0, 1) := dk_3 (dk_at dksX0_freshIn_0 15 rfl rfl)
theorem dX0_freshIn_16 : decode cX0_freshIn 16 = .ok (.ireturn, 1) := dk_172 (dk_at dksX0_freshIn_0 16 rfl rfl)
abbrev cX0_piecesIn : ByteArray := method_29_code
def yX0_piecesIn : MethodName := ⟨RX0, "piecesIn", "(LClayPipes;I[J)I"⟩
def dkwX0_piecesIn_0 : List UInt8 := [44, 3, 42, 27, 182, 0, 99, 133, 80, 167, 0, 6, 78, 4, 172, 3, 172]
abbrev dktX0_piecesIn_0 : List UInt8 := dkwX0_piecesIn_0 ++ []
theorem dksX0_piecesIn_0 : cX0_piecesIn.data.toList.drop 0 = dktX0_piecesIn_0 := by decide +kernel
theorem dX0_piecesIn_0 : decode cX0_piecesIn 0 = .ok (.aload_n 2, 1) := dk_44 (dk_at dksX0_piecesIn_0 0 rfl rfl)
theorem dX0_piecesIn_1 : decode cX0_piecesIn 1 = .ok (.iconst 0, 1) := dk_3 (dk_at dksX0_piecesIn_0 1 rfl rfl)
theorem dX0_piecesIn_2 : decode cX0_piecesIn 2 = .ok (.aload_n 0, 1) := dk_42 (dk_at dksX0_piecesIn_0 2 rfl rfl)
theorem dX0_piecesIn_3 : decode cX0_piecesIn 3 = .ok (.iload_n 1, 1) := dk_27 (dk_at dksX0_piecesIn_0 3 rfl rfl)
theorem dX0_piecesIn_4 : decode cX0_piecesIn 4 = .ok (.invokevirtual 99, 3) := dk_182 0 99 (dk_at dksX0_piecesIn_0 4 rfl rfl)
theorem dX0_piecesIn_7 : decode cX0_piecesIn 7 = .ok (.i2l, 1) := dk_133 (dk_at dksX0_piecesIn_0 7 rfl rfl)
theorem dX0_piecesIn_8 : decode cX0_piecesIn 8 = .ok (.lastore, 1) := dk_80 (dk_at dksX0_piecesIn_0 8 rfl rfl)
theorem dX0_piecesIn_9 : decode cX0_piecesIn 9 = .ok (.goto 6, 3) := dk_167 0 6 (dk_at dksX0_piecesIn_0 9 rfl rfl)
theorem dX0_piecesIn_12 : decode cX0_piecesIn 12 = .ok (.astore_n 3, 1) := dk_78 (dk_at dksX0_piecesIn_0 12 rfl rfl)
theorem dX0_piecesIn_13 : decode cX0_piecesIn 13 = .ok (.iconst 1, 1) := dk_4 (dk_at dksX0_piecesIn_0 13 rfl rfl)
theorem dX0_piecesIn_14 : decode cX0_piecesIn 14 = .ok (.ireturn, 1) := dk_172 (dk_at dksX0_piecesIn_0 14 rfl rfl)
theorem dX0_piecesIn_15 : decode cX0_piecesIn 15 = .ok (.iconst 0, 1) := dk_3 (dk_at dksX0_piecesIn_0 15 rfl rfl)
theorem dX0_piecesIn_16 : decode cX0_piecesIn 16 = .ok (.ireturn, 1) := dk_172 (dk_at dksX0_piecesIn_0 16 rfl rfl)
abbrev cX0_atLeast : ByteArray := method_30_code
def yX0_atLeast : MethodName := ⟨RX0, "atLeast", "(LClayPipes;I[J)I"⟩
def dkwX0_atLeast_0 : List UInt8 := [44, 3, 42, 27, 182, 0, 102, 133, 80, 167, 0, 6, 78, 4, 172, 3, 172]
abbrev dktX0_atLeast_0 : List UInt8 := dkwX0_atLeast_0 ++ []
theorem dksX0_atLeast_0 : cX0_atLeast.data.toList.drop 0 = dktX0_atLeast_0 := by decide +kernel
theorem dX0_atLeast_0 : decode cX0_atLeast 0 = .ok (.aload_n 2, 1) := dk_44 (dk_at dksX0_atLeast_0 0 rfl rfl)
theorem dX0_atLeast_1 : decode cX0_atLeast 1 = .ok (.iconst 0, 1) := dk_3 (dk_at dksX0_atLeast_0 1 rfl rfl)
theorem dX0_atLeast_2 : decode cX0_atLeast 2 = .ok (.aload_n 0, 1) := dk_42 (dk_at dksX0_atLeast_0 2 rfl rfl)
theorem dX0_atLeast_3 : decode cX0_atLeast 3 = .ok (.iload_n 1, 1) := dk_27 (dk_at dksX0_atLeast_0 3 rfl rfl)
theorem dX0_atLeast_4 : decode cX0_atLeast 4 = .ok (.invokevirtual 102, 3) := dk_182 0 102 (dk_at dksX0_atLeast_0 4 rfl rfl)
theorem dX0_atLeast_7 : decode cX0_atLeast 7 = .ok (.i2l, 1) := dk_133 (dk_at dksX0_atLeast_0 7 rfl rfl)
theorem dX0_atLeast_8 : decode cX0_atLeast 8 = .ok (.lastore, 1) := dk_80 (dk_at dksX0_atLeast_0 8 rfl rfl)
theorem dX0_atLeast_9 : decode cX0_atLeast 9 = .ok (.goto 6, 3) := dk_167 0 6 (dk_at dksX0_atLeast_0 9 rfl rfl)
theorem dX0_atLeast_12 : decode cX0_atLeast 12 = .ok (.astore_n 3, 1) := dk_78 (dk_at dksX0_atLeast_0 12 rfl rfl)
theorem dX0_atLeast_13 : decode cX0_atLeast 13 = .ok (.iconst 1, 1) := dk_4 (dk_at dksX0_atLeast_0 13 rfl rfl)
theorem dX0_atLeast_14 : decode cX0_atLeast 14 = .ok (.ireturn, 1) := dk_172 (dk_at dksX0_atLeast_0 14 rfl rfl)
theorem dX0_atLeast_15 : decode cX0_atLeast 15 = .ok (.iconst 0, 1) := dk_3 (dk_at dksX0_atLeast_0 15 rfl rfl)
theorem dX0_atLeast_16 : decode cX0_atLeast 16 = .ok (.ireturn, 1) := dk_172 (dk_at dksX0_atLeast_0 16 rfl rfl)
abbrev cX0_driest : ByteArray := method_31_code
def yX0_driest : MethodName := ⟨RX0, "driest", "(LClayPipes;[J)I"⟩
def dkwX0_driest_0 : List UInt8 := [43, 3, 42, 182, 0, 105, 133, 80, 167, 0, 6, 77, 4, 172, 3, 172]
abbrev dktX0_driest_0 : List UInt8 := dkwX0_driest_0 ++ []
theorem dksX0_driest_0 : cX0_driest.data.toList.drop 0 = dktX0_driest_0 := by decide +kernel
theorem dX0_driest_0 : decode cX0_driest 0 = .ok (.aload_n 1, 1) := dk_43 (dk_at dksX0_driest_0 0 rfl rfl)
theorem dX0_driest_1 : decode cX0_driest 1 = .ok (.iconst 0, 1) := dk_3 (dk_at dksX0_driest_0 1 rfl rfl)
theorem dX0_driest_2 : decode cX0_driest 2 = .ok (.aload_n 0, 1) := dk_42 (dk_at dksX0_driest_0 2 rfl rfl)
theorem dX0_driest_3 : decode cX0_driest 3 = .ok (.invokevirtual 105, 3) := dk_182 0 105 (dk_at dksX0_driest_0 3 rfl rfl)
theorem dX0_driest_6 : decode cX0_driest 6 = .ok (.i2l, 1) := dk_133 (dk_at dksX0_driest_0 6 rfl rfl)
theorem dX0_driest_7 : decode cX0_driest 7 = .ok (.lastore, 1) := dk_80 (dk_at dksX0_driest_0 7 rfl rfl)
theorem dX0_driest_8 : decode cX0_driest 8 = .ok (.goto 6, 3) := dk_167 0 6 (dk_at dksX0_driest_0 8 rfl rfl)
theorem dX0_driest_11 : decode cX0_driest 11 = .ok (.astore_n 2, 1) := dk_77 (dk_at dksX0_driest_0 11 rfl rfl)
theorem dX0_driest_12 : decode cX0_driest 12 = .ok (.iconst 1, 1) := dk_4 (dk_at dksX0_driest_0 12 rfl rfl)
theorem dX0_driest_13 : decode cX0_driest 13 = .ok (.ireturn, 1) := dk_172 (dk_at dksX0_driest_0 13 rfl rfl)
theorem dX0_driest_14 : decode cX0_driest 14 = .ok (.iconst 0, 1) := dk_3 (dk_at dksX0_driest_0 14 rfl rfl)
theorem dX0_driest_15 : decode cX0_driest 15 = .ok (.ireturn, 1) := dk_172 (dk_at dksX0_driest_0 15 rfl rfl)
abbrev cX0_wouldDraw : ByteArray := method_32_code
def yX0_wouldDraw : MethodName := ⟨RX0, "wouldDraw", "(LClayPipes;II[J)I"⟩
def dkwX0_wouldDraw_1 : List UInt8 := [58, 4, 5, 172, 3, 172]
abbrev dktX0_wouldDraw_1 : List UInt8 := dkwX0_wouldDraw_1 ++ []
def dkwX0_wouldDraw_0 : List UInt8 := [45, 3, 42, 27, 28, 182, 0, 108, 153, 0, 7, 10, 167, 0, 4, 9, 80, 167, 0, 11, 58, 4, 4, 172]
abbrev dktX0_wouldDraw_0 : List UInt8 := dkwX0_wouldDraw_0 ++ dktX0_wouldDraw_1
theorem dksX0_wouldDraw_0 : cX0_wouldDraw.data.toList.drop 0 = dktX0_wouldDraw_0 := by decide +kernel
theorem dksX0_wouldDraw_1 : cX0_wouldDraw.data.toList.drop 24 = dktX0_wouldDraw_1 := dk_seg dksX0_wouldDraw_0 24 rfl rfl
theorem dX0_wouldDraw_0 : decode cX0_wouldDraw 0 = .ok (.aload_n 3, 1) := dk_45 (dk_at dksX0_wouldDraw_0 0 rfl rfl)
theorem dX0_wouldDraw_1 : decode cX0_wouldDraw 1 = .ok (.iconst 0, 1) := dk_3 (dk_at dksX0_wouldDraw_0 1 rfl rfl)
theorem dX0_wouldDraw_2 : decode cX0_wouldDraw 2 = .ok (.aload_n 0, 1) := dk_42 (dk_at dksX0_wouldDraw_0 2 rfl rfl)
theorem dX0_wouldDraw_3 : decode cX0_wouldDraw 3 = .ok (.iload_n 1, 1) := dk_27 (dk_at dksX0_wouldDraw_0 3 rfl rfl)
theorem dX0_wouldDraw_4 : decode cX0_wouldDraw 4 = .ok (.iload_n 2, 1) := dk_28 (dk_at dksX0_wouldDraw_0 4 rfl rfl)
theorem dX0_wouldDraw_5 : decode cX0_wouldDraw 5 = .ok (.invokevirtual 108, 3) := dk_182 0 108 (dk_at dksX0_wouldDraw_0 5 rfl rfl)
theorem dX0_wouldDraw_8 : decode cX0_wouldDraw 8 = .ok (.ifCond .eq 7, 3) := dk_153 0 7 (dk_at dksX0_wouldDraw_0 8 rfl rfl)
theorem dX0_wouldDraw_11 : decode cX0_wouldDraw 11 = .ok (.lconst 1, 1) := dk_10 (dk_at dksX0_wouldDraw_0 11 rfl rfl)
theorem dX0_wouldDraw_12 : decode cX0_wouldDraw 12 = .ok (.goto 4, 3) := dk_167 0 4 (dk_at dksX0_wouldDraw_0 12 rfl rfl)
theorem dX0_wouldDraw_15 : decode cX0_wouldDraw 15 = .ok (.lconst 0, 1) := dk_9 (dk_at dksX0_wouldDraw_0 15 rfl rfl)
theorem dX0_wouldDraw_16 : decode cX0_wouldDraw 16 = .ok (.lastore, 1) := dk_80 (dk_at dksX0_wouldDraw_0 16 rfl rfl)
theorem dX0_wouldDraw_17 : decode cX0_wouldDraw 17 = .ok (.goto 11, 3) := dk_167 0 11 (dk_at dksX0_wouldDraw_0 17 rfl rfl)
theorem dX0_wouldDraw_20 : decode cX0_wouldDraw 20 = .ok (.astore 4, 2) := dk_58 4 (dk_at dksX0_wouldDraw_0 20 rfl rfl)
theorem dX0_wouldDraw_22 : decode cX0_wouldDraw 22 = .ok (.iconst 1, 1) := dk_4 (dk_at dksX0_wouldDraw_0 22 rfl rfl)
theorem dX0_wouldDraw_23 : decode cX0_wouldDraw 23 = .ok (.ireturn, 1) := dk_172 (dk_at dksX0_wouldDraw_0 23 rfl rfl)
theorem dX0_wouldDraw_24 : decode cX0_wouldDraw 24 = .ok (.astore 4, 2) := dk_58 4 (dk_at dksX0_wouldDraw_1 0 rfl rfl)
theorem dX0_wouldDraw_26 : decode cX0_wouldDraw 26 = .ok (.iconst 2, 1) := dk_5 (dk_at dksX0_wouldDraw_1 2 rfl rfl)
theorem dX0_wouldDraw_27 : decode cX0_wouldDraw 27 = .ok (.ireturn, 1) := dk_172 (dk_at dksX0_wouldDraw_1 3 rfl rfl)
theorem dX0_wouldDraw_28 : decode cX0_wouldDraw 28 = .ok (.iconst 0, 1) := dk_3 (dk_at dksX0_wouldDraw_1 4 rfl rfl)
theorem dX0_wouldDraw_29 : decode cX0_wouldDraw 29 = .ok (.ireturn, 1) := dk_172 (dk_at dksX0_wouldDraw_1 5 rfl rfl)
abbrev cX0_mostSmoked : ByteArray := method_33_code
def yX0_mostSmoked : MethodName := ⟨RX0, "mostSmoked", "(LClayPipes;[J)I"⟩
def dkwX0_mostSmoked_0 : List UInt8 := [43, 3, 42, 182, 0, 112, 133, 80, 167, 0, 6, 77, 4, 172, 3, 172]
abbrev dktX0_mostSmoked_0 : List UInt8 := dkwX0_mostSmoked_0 ++ []
theorem dksX0_mostSmoked_0 : cX0_mostSmoked.data.toList.drop 0 = dktX0_mostSmoked_0 := by decide +kernel
theorem dX0_mostSmoked_0 : decode cX0_mostSmoked 0 = .ok (.aload_n 1, 1) := dk_43 (dk_at dksX0_mostSmoked_0 0 rfl rfl)
theorem dX0_mostSmoked_1 : decode cX0_mostSmoked 1 = .ok (.iconst 0, 1) := dk_3 (dk_at dksX0_mostSmoked_0 1 rfl rfl)
theorem dX0_mostSmoked_2 : decode cX0_mostSmoked 2 = .ok (.aload_n 0, 1) := dk_42 (dk_at dksX0_mostSmoked_0 2 rfl rfl)
theorem dX0_mostSmoked_3 : decode cX0_mostSmoked 3 = .ok (.invokevirtual 112, 3) := dk_182 0 112 (dk_at dksX0_mostSmoked_0 3 rfl rfl)
theorem dX0_mostSmoked_6 : decode cX0_mostSmoked 6 = .ok (.i2l, 1) := dk_133 (dk_at dksX0_mostSmoked_0 6 rfl rfl)
theorem dX0_mostSmoked_7 : decode cX0_mostSmoked 7 = .ok (.lastore, 1) := dk_80 (dk_at dksX0_mostSmoked_0 7 rfl rfl)
theorem dX0_mostSmoked_8 : decode cX0_mostSmoked 8 = .ok (.goto 6, 3) := dk_167 0 6 (dk_at dksX0_mostSmoked_0 8 rfl rfl)
theorem dX0_mostSmoked_11 : decode cX0_mostSmoked 11 = .ok (.astore_n 2, 1) := dk_77 (dk_at dksX0_mostSmoked_0 11 rfl rfl)
theorem dX0_mostSmoked_12 : decode cX0_mostSmoked 12 = .ok (.iconst 1, 1) := dk_4 (dk_at dksX0_mostSmoked_0 12 rfl rfl)
theorem dX0_mostSmoked_13 : decode cX0_mostSmoked 13 = .ok (.ireturn, 1) := dk_172 (dk_at dksX0_mostSmoked_0 13 rfl rfl)
theorem dX0_mostSmoked_14 : decode cX0_mostSmoked 14 = .ok (.iconst 0, 1) := dk_3 (dk_at dksX0_mostSmoked_0 14 rfl rfl)
theorem dX0_mostSmoked_15 : decode cX0_mostSmoked 15 = .ok (.ireturn, 1) := dk_172 (dk_at dksX0_mostSmoked_0 15 rfl rfl)
abbrev cX0_ranked : ByteArray := method_34_code
def yX0_ranked : MethodName := ⟨RX0, "ranked", "(LClayPipes;I[J)I"⟩
def dkwX0_ranked_0 : List UInt8 := [44, 3, 42, 27, 182, 0, 115, 133, 80, 167, 0, 6, 78, 4, 172, 3, 172]
abbrev dktX0_ranked_0 : List UInt8 := dkwX0_ranked_0 ++ []
theorem dksX0_ranked_0 : cX0_ranked.data.toList.drop 0 = dktX0_ranked_0 := by decide +kernel
theorem dX0_ranked_0 : decode cX0_ranked 0 = .ok (.aload_n 2, 1) := dk_44 (dk_at dksX0_ranked_0 0 rfl rfl)
theorem dX0_ranked_1 : decode cX0_ranked 1 = .ok (.iconst 0, 1) := dk_3 (dk_at dksX0_ranked_0 1 rfl rfl)
theorem dX0_ranked_2 : decode cX0_ranked 2 = .ok (.aload_n 0, 1) := dk_42 (dk_at dksX0_ranked_0 2 rfl rfl)
theorem dX0_ranked_3 : decode cX0_ranked 3 = .ok (.iload_n 1, 1) := dk_27 (dk_at dksX0_ranked_0 3 rfl rfl)
theorem dX0_ranked_4 : decode cX0_ranked 4 = .ok (.invokevirtual 115, 3) := dk_182 0 115 (dk_at dksX0_ranked_0 4 rfl rfl)
theorem dX0_ranked_7 : decode cX0_ranked 7 = .ok (.i2l, 1) := dk_133 (dk_at dksX0_ranked_0 7 rfl rfl)
theorem dX0_ranked_8 : decode cX0_ranked 8 = .ok (.lastore, 1) := dk_80 (dk_at dksX0_ranked_0 8 rfl rfl)
theorem dX0_ranked_9 : decode cX0_ranked 9 = .ok (.goto 6, 3) := dk_167 0 6 (dk_at dksX0_ranked_0 9 rfl rfl)
theorem dX0_ranked_12 : decode cX0_ranked 12 = .ok (.astore_n 3, 1) := dk_78 (dk_at dksX0_ranked_0 12 rfl rfl)
theorem dX0_ranked_13 : decode cX0_ranked 13 = .ok (.iconst 1, 1) := dk_4 (dk_at dksX0_ranked_0 13 rfl rfl)
theorem dX0_ranked_14 : decode cX0_ranked 14 = .ok (.ireturn, 1) := dk_172 (dk_at dksX0_ranked_0 14 rfl rfl)
theorem dX0_ranked_15 : decode cX0_ranked 15 = .ok (.iconst 0, 1) := dk_3 (dk_at dksX0_ranked_0 15 rfl rfl)
theorem dX0_ranked_16 : decode cX0_ranked 16 = .ok (.ireturn, 1) := dk_172 (dk_at dksX0_ranked_0 16 rfl rfl)
abbrev cX0_smokes : ByteArray := method_35_code
def yX0_smokes : MethodName := ⟨RX0, "smokes", "(LClayPipes;I[J)I"⟩
def dkwX0_smokes_0 : List UInt8 := [44, 3, 42, 27, 182, 0, 118, 133, 80, 167, 0, 6, 78, 4, 172, 3, 172]
abbrev dktX0_smokes_0 : List UInt8 := dkwX0_smokes_0 ++ []
theorem dksX0_smokes_0 : cX0_smokes.data.toList.drop 0 = dktX0_smokes_0 := by decide +kernel
theorem dX0_smokes_0 : decode cX0_smokes 0 = .ok (.aload_n 2, 1) := dk_44 (dk_at dksX0_smokes_0 0 rfl rfl)
theorem dX0_smokes_1 : decode cX0_smokes 1 = .ok (.iconst 0, 1) := dk_3 (dk_at dksX0_smokes_0 1 rfl rfl)
theorem dX0_smokes_2 : decode cX0_smokes 2 = .ok (.aload_n 0, 1) := dk_42 (dk_at dksX0_smokes_0 2 rfl rfl)
theorem dX0_smokes_3 : decode cX0_smokes 3 = .ok (.iload_n 1, 1) := dk_27 (dk_at dksX0_smokes_0 3 rfl rfl)
theorem dX0_smokes_4 : decode cX0_smokes 4 = .ok (.invokevirtual 118, 3) := dk_182 0 118 (dk_at dksX0_smokes_0 4 rfl rfl)
theorem dX0_smokes_7 : decode cX0_smokes 7 = .ok (.i2l, 1) := dk_133 (dk_at dksX0_smokes_0 7 rfl rfl)
theorem dX0_smokes_8 : decode cX0_smokes 8 = .ok (.lastore, 1) := dk_80 (dk_at dksX0_smokes_0 8 rfl rfl)
theorem dX0_smokes_9 : decode cX0_smokes 9 = .ok (.goto 6, 3) := dk_167 0 6 (dk_at dksX0_smokes_0 9 rfl rfl)
theorem dX0_smokes_12 : decode cX0_smokes 12 = .ok (.astore_n 3, 1) := dk_78 (dk_at dksX0_smokes_0 12 rfl rfl)
theorem dX0_smokes_13 : decode cX0_smokes 13 = .ok (.iconst 1, 1) := dk_4 (dk_at dksX0_smokes_0 13 rfl rfl)
theorem dX0_smokes_14 : decode cX0_smokes 14 = .ok (.ireturn, 1) := dk_172 (dk_at dksX0_smokes_0 14 rfl rfl)
theorem dX0_smokes_15 : decode cX0_smokes 15 = .ok (.iconst 0, 1) := dk_3 (dk_at dksX0_smokes_0 15 rfl rfl)
theorem dX0_smokes_16 : decode cX0_smokes 16 = .ok (.ireturn, 1) := dk_172 (dk_at dksX0_smokes_0 16 rfl rfl)
abbrev cX0_append : ByteArray := method_36_code
def yX0_append : MethodName := ⟨RX0, "append", "(LClayPipes;C[J)I"⟩
def dkwX0_append_0 : List UInt8 := [44, 3, 42, 27, 182, 0, 121, 133, 80, 167, 0, 9, 78, 4, 172, 78, 5, 172, 3, 172]
abbrev dktX0_append_0 : List UInt8 := dkwX0_append_0 ++ []
theorem dksX0_append_0 : cX0_append.data.toList.drop 0 = dktX0_append_0 := by decide +kernel
theorem dX0_append_0 : decode cX0_append 0 = .ok (.aload_n 2, 1) := dk_44 (dk_at dksX0_append_0 0 rfl rfl)
theorem dX0_append_1 : decode cX0_append 1 = .ok (.iconst 0, 1) := dk_3 (dk_at dksX0_append_0 1 rfl rfl)
theorem dX0_append_2 : decode cX0_append 2 = .ok (.aload_n 0, 1) := dk_42 (dk_at dksX0_append_0 2 rfl rfl)
theorem dX0_append_3 : decode cX0_append 3 = .ok (.iload_n 1, 1) := dk_27 (dk_at dksX0_append_0 3 rfl rfl)
theorem dX0_append_4 : decode cX0_append 4 = .ok (.invokevirtual 121, 3) := dk_182 0 121 (dk_at dksX0_append_0 4 rfl rfl)
theorem dX0_append_7 : decode cX0_append 7 = .ok (.i2l, 1) := dk_133 (dk_at dksX0_append_0 7 rfl rfl)
theorem dX0_append_8 : decode cX0_append 8 = .ok (.lastore, 1) := dk_80 (dk_at dksX0_append_0 8 rfl rfl)
theorem dX0_append_9 : decode cX0_append 9 = .ok (.goto 9, 3) := dk_167 0 9 (dk_at dksX0_append_0 9 rfl rfl)
theorem dX0_append_12 : decode cX0_append 12 = .ok (.astore_n 3, 1) := dk_78 (dk_at dksX0_append_0 12 rfl rfl)
theorem dX0_append_13 : decode cX0_append 13 = .ok (.iconst 1, 1) := dk_4 (dk_at dksX0_append_0 13 rfl rfl)
theorem dX0_append_14 : decode cX0_append 14 = .ok (.ireturn, 1) := dk_172 (dk_at dksX0_append_0 14 rfl rfl)
theorem dX0_append_15 : decode cX0_append 15 = .ok (.astore_n 3, 1) := dk_78 (dk_at dksX0_append_0 15 rfl rfl)
theorem dX0_append_16 : decode cX0_append 16 = .ok (.iconst 2, 1) := dk_5 (dk_at dksX0_append_0 16 rfl rfl)
theorem dX0_append_17 : decode cX0_append 17 = .ok (.ireturn, 1) := dk_172 (dk_at dksX0_append_0 17 rfl rfl)
theorem dX0_append_18 : decode cX0_append 18 = .ok (.iconst 0, 1) := dk_3 (dk_at dksX0_append_0 18 rfl rfl)
theorem dX0_append_19 : decode cX0_append 19 = .ok (.ireturn, 1) := dk_172 (dk_at dksX0_append_0 19 rfl rfl)
abbrev cX0_run : ByteArray := method_37_code
def yX0_run : MethodName := ⟨RX0, "run", "(LClayPipes;[J)I"⟩
def dkwX0_run_0 : List UInt8 := [43, 3, 42, 182, 0, 127, 133, 80, 167, 0, 9, 77, 4, 172, 77, 5, 172, 3, 172]
abbrev dktX0_run_0 : List UInt8 := dkwX0_run_0 ++ []
theorem dksX0_run_0 : cX0_run.data.toList.drop 0 = dktX0_run_0 := by decide +kernel
theorem dX0_run_0 : decode cX0_run 0 = .ok (.aload_n 1, 1) := dk_43 (dk_at dksX0_run_0 0 rfl rfl)
theorem dX0_run_1 : decode cX0_run 1 = .ok (.iconst 0, 1) := dk_3 (dk_at dksX0_run_0 1 rfl rfl)
theorem dX0_run_2 : decode cX0_run 2 = .ok (.aload_n 0, 1) := dk_42 (dk_at dksX0_run_0 2 rfl rfl)
theorem dX0_run_3 : decode cX0_run 3 = .ok (.invokevirtual 127, 3) := dk_182 0 127 (dk_at dksX0_run_0 3 rfl rfl)
theorem dX0_run_6 : decode cX0_run 6 = .ok (.i2l, 1) := dk_133 (dk_at dksX0_run_0 6 rfl rfl)
theorem dX0_run_7 : decode cX0_run 7 = .ok (.lastore, 1) := dk_80 (dk_at dksX0_run_0 7 rfl rfl)
theorem dX0_run_8 : decode cX0_run 8 = .ok (.goto 9, 3) := dk_167 0 9 (dk_at dksX0_run_0 8 rfl rfl)
theorem dX0_run_11 : decode cX0_run 11 = .ok (.astore_n 2, 1) := dk_77 (dk_at dksX0_run_0 11 rfl rfl)
theorem dX0_run_12 : decode cX0_run 12 = .ok (.iconst 1, 1) := dk_4 (dk_at dksX0_run_0 12 rfl rfl)
theorem dX0_run_13 : decode cX0_run 13 = .ok (.ireturn, 1) := dk_172 (dk_at dksX0_run_0 13 rfl rfl)
theorem dX0_run_14 : decode cX0_run 14 = .ok (.astore_n 2, 1) := dk_77 (dk_at dksX0_run_0 14 rfl rfl)
theorem dX0_run_15 : decode cX0_run 15 = .ok (.iconst 2, 1) := dk_5 (dk_at dksX0_run_0 15 rfl rfl)
theorem dX0_run_16 : decode cX0_run 16 = .ok (.ireturn, 1) := dk_172 (dk_at dksX0_run_0 16 rfl rfl)
theorem dX0_run_17 : decode cX0_run 17 = .ok (.iconst 0, 1) := dk_3 (dk_at dksX0_run_0 17 rfl rfl)
theorem dX0_run_18 : decode cX0_run 18 = .ok (.ireturn, 1) := dk_172 (dk_at dksX0_run_0 18 rfl rfl)
abbrev cX0_reason : ByteArray := method_38_code
def yX0_reason : MethodName := ⟨RX0, "reason", "(LClayPipes;IZ[J)I"⟩
def dkwX0_reason_0 : List UInt8 := [45, 3, 42, 27, 28, 182, 0, 130, 133, 80, 167, 0, 11, 58, 4, 4, 172, 58, 4, 5, 172, 3, 172]
abbrev dktX0_reason_0 : List UInt8 := dkwX0_reason_0 ++ []
theorem dksX0_reason_0 : cX0_reason.data.toList.drop 0 = dktX0_reason_0 := by decide +kernel
theorem dX0_reason_0 : decode cX0_reason 0 = .ok (.aload_n 3, 1) := dk_45 (dk_at dksX0_reason_0 0 rfl rfl)
theorem dX0_reason_1 : decode cX0_reason 1 = .ok (.iconst 0, 1) := dk_3 (dk_at dksX0_reason_0 1 rfl rfl)
theorem dX0_reason_2 : decode cX0_reason 2 = .ok (.aload_n 0, 1) := dk_42 (dk_at dksX0_reason_0 2 rfl rfl)
theorem dX0_reason_3 : decode cX0_reason 3 = .ok (.iload_n 1, 1) := dk_27 (dk_at dksX0_reason_0 3 rfl rfl)
theorem dX0_reason_4 : decode cX0_reason 4 = .ok (.iload_n 2, 1) := dk_28 (dk_at dksX0_reason_0 4 rfl rfl)
theorem dX0_reason_5 : decode cX0_reason 5 = .ok (.invokevirtual 130, 3) := dk_182 0 130 (dk_at dksX0_reason_0 5 rfl rfl)
theorem dX0_reason_8 : decode cX0_reason 8 = .ok (.i2l, 1) := dk_133 (dk_at dksX0_reason_0 8 rfl rfl)
theorem dX0_reason_9 : decode cX0_reason 9 = .ok (.lastore, 1) := dk_80 (dk_at dksX0_reason_0 9 rfl rfl)
theorem dX0_reason_10 : decode cX0_reason 10 = .ok (.goto 11, 3) := dk_167 0 11 (dk_at dksX0_reason_0 10 rfl rfl)
theorem dX0_reason_13 : decode cX0_reason 13 = .ok (.astore 4, 2) := dk_58 4 (dk_at dksX0_reason_0 13 rfl rfl)
theorem dX0_reason_15 : decode cX0_reason 15 = .ok (.iconst 1, 1) := dk_4 (dk_at dksX0_reason_0 15 rfl rfl)
theorem dX0_reason_16 : decode cX0_reason 16 = .ok (.ireturn, 1) := dk_172 (dk_at dksX0_reason_0 16 rfl rfl)
theorem dX0_reason_17 : decode cX0_reason 17 = .ok (.astore 4, 2) := dk_58 4 (dk_at dksX0_reason_0 17 rfl rfl)
theorem dX0_reason_19 : decode cX0_reason 19 = .ok (.iconst 2, 1) := dk_5 (dk_at dksX0_reason_0 19 rfl rfl)
theorem dX0_reason_20 : decode cX0_reason 20 = .ok (.ireturn, 1) := dk_172 (dk_at dksX0_reason_0 20 rfl rfl)
theorem dX0_reason_21 : decode cX0_reason 21 = .ok (.iconst 0, 1) := dk_3 (dk_at dksX0_reason_0 21 rfl rfl)
theorem dX0_reason_22 : decode cX0_reason 22 = .ok (.ireturn, 1) := dk_172 (dk_at dksX0_reason_0 22 rfl rfl)
abbrev cX0_character : ByteArray := method_39_code
def yX0_character : MethodName := ⟨RX0, "character", "(LClayPipes;I[J)I"⟩
def dkwX0_character_0 : List UInt8 := [44, 3, 42, 27, 182, 0, 134, 133, 80, 167, 0, 6, 78, 4, 172, 3, 172]
abbrev dktX0_character_0 : List UInt8 := dkwX0_character_0 ++ []
theorem dksX0_character_0 : cX0_character.data.toList.drop 0 = dktX0_character_0 := by decide +kernel
theorem dX0_character_0 : decode cX0_character 0 = .ok (.aload_n 2, 1) := dk_44 (dk_at dksX0_character_0 0 rfl rfl)
theorem dX0_character_1 : decode cX0_character 1 = .ok (.iconst 0, 1) := dk_3 (dk_at dksX0_character_0 1 rfl rfl)
theorem dX0_character_2 : decode cX0_character 2 = .ok (.aload_n 0, 1) := dk_42 (dk_at dksX0_character_0 2 rfl rfl)
theorem dX0_character_3 : decode cX0_character 3 = .ok (.iload_n 1, 1) := dk_27 (dk_at dksX0_character_0 3 rfl rfl)
theorem dX0_character_4 : decode cX0_character 4 = .ok (.invokevirtual 134, 3) := dk_182 0 134 (dk_at dksX0_character_0 4 rfl rfl)
theorem dX0_character_7 : decode cX0_character 7 = .ok (.i2l, 1) := dk_133 (dk_at dksX0_character_0 7 rfl rfl)
theorem dX0_character_8 : decode cX0_character 8 = .ok (.lastore, 1) := dk_80 (dk_at dksX0_character_0 8 rfl rfl)
theorem dX0_character_9 : decode cX0_character 9 = .ok (.goto 6, 3) := dk_167 0 6 (dk_at dksX0_character_0 9 rfl rfl)
theorem dX0_character_12 : decode cX0_character 12 = .ok (.astore_n 3, 1) := dk_78 (dk_at dksX0_character_0 12 rfl rfl)
theorem dX0_character_13 : decode cX0_character 13 = .ok (.iconst 1, 1) := dk_4 (dk_at dksX0_character_0 13 rfl rfl)
theorem dX0_character_14 : decode cX0_character 14 = .ok (.ireturn, 1) := dk_172 (dk_at dksX0_character_0 14 rfl rfl)
theorem dX0_character_15 : decode cX0_character 15 = .ok (.iconst 0, 1) := dk_3 (dk_at dksX0_character_0 15 rfl rfl)
theorem dX0_character_16 : decode cX0_character 16 = .ok (.ireturn, 1) := dk_172 (dk_at dksX0_character_0 16 rfl rfl)
abbrev cX0_account : ByteArray := method_40_code
def yX0_account : MethodName := ⟨RX0, "account", "(LClayPipes;I[J)I"⟩
def dkwX0_account_0 : List UInt8 := [44, 3, 42, 27, 182, 0, 138, 133, 80, 167, 0, 6, 78, 4, 172, 3, 172]
abbrev dktX0_account_0 : List UInt8 := dkwX0_account_0 ++ []
theorem dksX0_account_0 : cX0_account.data.toList.drop 0 = dktX0_account_0 := by decide +kernel
theorem dX0_account_0 : decode cX0_account 0 = .ok (.aload_n 2, 1) := dk_44 (dk_at dksX0_account_0 0 rfl rfl)
theorem dX0_account_1 : decode cX0_account 1 = .ok (.iconst 0, 1) := dk_3 (dk_at dksX0_account_0 1 rfl rfl)
theorem dX0_account_2 : decode cX0_account 2 = .ok (.aload_n 0, 1) := dk_42 (dk_at dksX0_account_0 2 rfl rfl)
theorem dX0_account_3 : decode cX0_account 3 = .ok (.iload_n 1, 1) := dk_27 (dk_at dksX0_account_0 3 rfl rfl)
theorem dX0_account_4 : decode cX0_account 4 = .ok (.invokevirtual 138, 3) := dk_182 0 138 (dk_at dksX0_account_0 4 rfl rfl)
theorem dX0_account_7 : decode cX0_account 7 = .ok (.i2l, 1) := dk_133 (dk_at dksX0_account_0 7 rfl rfl)
theorem dX0_account_8 : decode cX0_account 8 = .ok (.lastore, 1) := dk_80 (dk_at dksX0_account_0 8 rfl rfl)
theorem dX0_account_9 : decode cX0_account 9 = .ok (.goto 6, 3) := dk_167 0 6 (dk_at dksX0_account_0 9 rfl rfl)
theorem dX0_account_12 : decode cX0_account 12 = .ok (.astore_n 3, 1) := dk_78 (dk_at dksX0_account_0 12 rfl rfl)
theorem dX0_account_13 : decode cX0_account 13 = .ok (.iconst 1, 1) := dk_4 (dk_at dksX0_account_0 13 rfl rfl)
theorem dX0_account_14 : decode cX0_account 14 = .ok (.ireturn, 1) := dk_172 (dk_at dksX0_account_0 14 rfl rfl)
theorem dX0_account_15 : decode cX0_account 15 = .ok (.iconst 0, 1) := dk_3 (dk_at dksX0_account_0 15 rfl rfl)
theorem dX0_account_16 : decode cX0_account 16 = .ok (.ireturn, 1) := dk_172 (dk_at dksX0_account_0 16 rfl rfl)
abbrev cX0_meanStem : ByteArray := method_41_code
def yX0_meanStem : MethodName := ⟨RX0, "meanStem", "(LClayPipes;[D)I"⟩
def dkwX0_meanStem_0 : List UInt8 := [43, 3, 42, 182, 0, 141, 82, 167, 0, 6, 77, 4, 172, 3, 172]
abbrev dktX0_meanStem_0 : List UInt8 := dkwX0_meanStem_0 ++ []
theorem dksX0_meanStem_0 : cX0_meanStem.data.toList.drop 0 = dktX0_meanStem_0 := by decide +kernel
theorem dX0_meanStem_0 : decode cX0_meanStem 0 = .ok (.aload_n 1, 1) := dk_43 (dk_at dksX0_meanStem_0 0 rfl rfl)
theorem dX0_meanStem_1 : decode cX0_meanStem 1 = .ok (.iconst 0, 1) := dk_3 (dk_at dksX0_meanStem_0 1 rfl rfl)
theorem dX0_meanStem_2 : decode cX0_meanStem 2 = .ok (.aload_n 0, 1) := dk_42 (dk_at dksX0_meanStem_0 2 rfl rfl)
theorem dX0_meanStem_3 : decode cX0_meanStem 3 = .ok (.invokevirtual 141, 3) := dk_182 0 141 (dk_at dksX0_meanStem_0 3 rfl rfl)
theorem dX0_meanStem_6 : decode cX0_meanStem 6 = .ok (.dastore, 1) := dk_82 (dk_at dksX0_meanStem_0 6 rfl rfl)
theorem dX0_meanStem_7 : decode cX0_meanStem 7 = .ok (.goto 6, 3) := dk_167 0 6 (dk_at dksX0_meanStem_0 7 rfl rfl)
theorem dX0_meanStem_10 : decode cX0_meanStem 10 = .ok (.astore_n 2, 1) := dk_77 (dk_at dksX0_meanStem_0 10 rfl rfl)
theorem dX0_meanStem_11 : decode cX0_meanStem 11 = .ok (.iconst 1, 1) := dk_4 (dk_at dksX0_meanStem_0 11 rfl rfl)
theorem dX0_meanStem_12 : decode cX0_meanStem 12 = .ok (.ireturn, 1) := dk_172 (dk_at dksX0_meanStem_0 12 rfl rfl)
theorem dX0_meanStem_13 : decode cX0_meanStem 13 = .ok (.iconst 0, 1) := dk_3 (dk_at dksX0_meanStem_0 13 rfl rfl)
theorem dX0_meanStem_14 : decode cX0_meanStem 14 = .ok (.ireturn, 1) := dk_172 (dk_at dksX0_meanStem_0 14 rfl rfl)
abbrev cX0_drawShare : ByteArray := method_42_code
def yX0_drawShare : MethodName := ⟨RX0, "drawShare", "(LClayPipes;[D)I"⟩
def dkwX0_drawShare_0 : List UInt8 := [43, 3, 42, 182, 0, 147, 141, 82, 167, 0, 6, 77, 4, 172, 3, 172]
abbrev dktX0_drawShare_0 : List UInt8 := dkwX0_drawShare_0 ++ []
theorem dksX0_drawShare_0 : cX0_drawShare.data.toList.drop 0 = dktX0_drawShare_0 := by decide +kernel
theorem dX0_drawShare_0 : decode cX0_drawShare 0 = .ok (.aload_n 1, 1) := dk_43 (dk_at dksX0_drawShare_0 0 rfl rfl)
theorem dX0_drawShare_1 : decode cX0_drawShare 1 = .ok (.iconst 0, 1) := dk_3 (dk_at dksX0_drawShare_0 1 rfl rfl)
theorem dX0_drawShare_2 : decode cX0_drawShare 2 = .ok (.aload_n 0, 1) := dk_42 (dk_at dksX0_drawShare_0 2 rfl rfl)
theorem dX0_drawShare_3 : decode cX0_drawShare 3 = .ok (.invokevirtual 147, 3) := dk_182 0 147 (dk_at dksX0_drawShare_0 3 rfl rfl)
theorem dX0_drawShare_6 : decode cX0_drawShare 6 = .ok (.f2d, 1) := dk_141 (dk_at dksX0_drawShare_0 6 rfl rfl)
theorem dX0_drawShare_7 : decode cX0_drawShare 7 = .ok (.dastore, 1) := dk_82 (dk_at dksX0_drawShare_0 7 rfl rfl)
theorem dX0_drawShare_8 : decode cX0_drawShare 8 = .ok (.goto 6, 3) := dk_167 0 6 (dk_at dksX0_drawShare_0 8 rfl rfl)
theorem dX0_drawShare_11 : decode cX0_drawShare 11 = .ok (.astore_n 2, 1) := dk_77 (dk_at dksX0_drawShare_0 11 rfl rfl)
theorem dX0_drawShare_12 : decode cX0_drawShare 12 = .ok (.iconst 1, 1) := dk_4 (dk_at dksX0_drawShare_0 12 rfl rfl)
theorem dX0_drawShare_13 : decode cX0_drawShare 13 = .ok (.ireturn, 1) := dk_172 (dk_at dksX0_drawShare_0 13 rfl rfl)
theorem dX0_drawShare_14 : decode cX0_drawShare 14 = .ok (.iconst 0, 1) := dk_3 (dk_at dksX0_drawShare_0 14 rfl rfl)
theorem dX0_drawShare_15 : decode cX0_drawShare 15 = .ok (.ireturn, 1) := dk_172 (dk_at dksX0_drawShare_0 15 rfl rfl)
abbrev cX0_undo : ByteArray := method_43_code
def yX0_undo : MethodName := ⟨RX0, "undo", "(LClayPipes;[J)I"⟩
def dkwX0_undo_0 : List UInt8 := [43, 3, 42, 182, 0, 151, 133, 80, 167, 0, 6, 77, 4, 172, 3, 172]
abbrev dktX0_undo_0 : List UInt8 := dkwX0_undo_0 ++ []
theorem dksX0_undo_0 : cX0_undo.data.toList.drop 0 = dktX0_undo_0 := by decide +kernel
theorem dX0_undo_0 : decode cX0_undo 0 = .ok (.aload_n 1, 1) := dk_43 (dk_at dksX0_undo_0 0 rfl rfl)
theorem dX0_undo_1 : decode cX0_undo 1 = .ok (.iconst 0, 1) := dk_3 (dk_at dksX0_undo_0 1 rfl rfl)
theorem dX0_undo_2 : decode cX0_undo 2 = .ok (.aload_n 0, 1) := dk_42 (dk_at dksX0_undo_0 2 rfl rfl)
theorem dX0_undo_3 : decode cX0_undo 3 = .ok (.invokevirtual 151, 3) := dk_182 0 151 (dk_at dksX0_undo_0 3 rfl rfl)
theorem dX0_undo_6 : decode cX0_undo 6 = .ok (.i2l, 1) := dk_133 (dk_at dksX0_undo_0 6 rfl rfl)
theorem dX0_undo_7 : decode cX0_undo 7 = .ok (.lastore, 1) := dk_80 (dk_at dksX0_undo_0 7 rfl rfl)
theorem dX0_undo_8 : decode cX0_undo 8 = .ok (.goto 6, 3) := dk_167 0 6 (dk_at dksX0_undo_0 8 rfl rfl)
theorem dX0_undo_11 : decode cX0_undo 11 = .ok (.astore_n 2, 1) := dk_77 (dk_at dksX0_undo_0 11 rfl rfl)
theorem dX0_undo_12 : decode cX0_undo 12 = .ok (.iconst 1, 1) := dk_4 (dk_at dksX0_undo_0 12 rfl rfl)
theorem dX0_undo_13 : decode cX0_undo 13 = .ok (.ireturn, 1) := dk_172 (dk_at dksX0_undo_0 13 rfl rfl)
theorem dX0_undo_14 : decode cX0_undo 14 = .ok (.iconst 0, 1) := dk_3 (dk_at dksX0_undo_0 14 rfl rfl)
theorem dX0_undo_15 : decode cX0_undo 15 = .ok (.ireturn, 1) := dk_172 (dk_at dksX0_undo_0 15 rfl rfl)
abbrev cX0_restore : ByteArray := method_44_code
def yX0_restore : MethodName := ⟨RX0, "restore", "(LClayPipes;[J)I"⟩
def dkwX0_restore_0 : List UInt8 := [43, 3, 42, 182, 0, 154, 133, 80, 167, 0, 6, 77, 4, 172, 3, 172]
abbrev dktX0_restore_0 : List UInt8 := dkwX0_restore_0 ++ []
theorem dksX0_restore_0 : cX0_restore.data.toList.drop 0 = dktX0_restore_0 := by decide +kernel
theorem dX0_restore_0 : decode cX0_restore 0 = .ok (.aload_n 1, 1) := dk_43 (dk_at dksX0_restore_0 0 rfl rfl)
theorem dX0_restore_1 : decode cX0_restore 1 = .ok (.iconst 0, 1) := dk_3 (dk_at dksX0_restore_0 1 rfl rfl)
theorem dX0_restore_2 : decode cX0_restore 2 = .ok (.aload_n 0, 1) := dk_42 (dk_at dksX0_restore_0 2 rfl rfl)
theorem dX0_restore_3 : decode cX0_restore 3 = .ok (.invokevirtual 154, 3) := dk_182 0 154 (dk_at dksX0_restore_0 3 rfl rfl)
theorem dX0_restore_6 : decode cX0_restore 6 = .ok (.i2l, 1) := dk_133 (dk_at dksX0_restore_0 6 rfl rfl)
theorem dX0_restore_7 : decode cX0_restore 7 = .ok (.lastore, 1) := dk_80 (dk_at dksX0_restore_0 7 rfl rfl)
theorem dX0_restore_8 : decode cX0_restore 8 = .ok (.goto 6, 3) := dk_167 0 6 (dk_at dksX0_restore_0 8 rfl rfl)
theorem dX0_restore_11 : decode cX0_restore 11 = .ok (.astore_n 2, 1) := dk_77 (dk_at dksX0_restore_0 11 rfl rfl)
theorem dX0_restore_12 : decode cX0_restore 12 = .ok (.iconst 1, 1) := dk_4 (dk_at dksX0_restore_0 12 rfl rfl)
theorem dX0_restore_13 : decode cX0_restore 13 = .ok (.ireturn, 1) := dk_172 (dk_at dksX0_restore_0 13 rfl rfl)
theorem dX0_restore_14 : decode cX0_restore 14 = .ok (.iconst 0, 1) := dk_3 (dk_at dksX0_restore_0 14 rfl rfl)
theorem dX0_restore_15 : decode cX0_restore 15 = .ok (.ireturn, 1) := dk_172 (dk_at dksX0_restore_0 15 rfl rfl)
abbrev cL_law : ByteArray := code
def dkwL_law_114 : List UInt8 := [153, 0, 5, 3, 172, 167, 0, 3, 132, 5, 3, 167, 244, 233, 4, 172]
abbrev dktL_law_114 : List UInt8 := dkwL_law_114 ++ []
def dkwL_law_113 : List UInt8 := [182, 0, 167, 21, 6, 159, 0, 5, 3, 172, 21, 6, 154, 0, 15, 45, 3, 47, 21, 7, 133, 148]
abbrev dktL_law_113 : List UInt8 := dkwL_law_113 ++ dktL_law_114
def dkwL_law_112 : List UInt8 := [182, 1, 95, 159, 0, 49, 3, 172, 43, 45, 184, 1, 96, 54, 6, 44, 182, 1, 98, 54, 7, 44]
abbrev dktL_law_112 : List UInt8 := dkwL_law_112 ++ dktL_law_113
def dkwL_law_111 : List UInt8 := [154, 0, 15, 45, 3, 47, 21, 7, 133, 148, 153, 0, 5, 3, 172, 167, 0, 60, 43, 182, 1, 92, 44]
abbrev dktL_law_111 : List UInt8 := dkwL_law_111 ++ dktL_law_112
def dkwL_law_110 : List UInt8 := [184, 1, 89, 54, 6, 44, 182, 1, 91, 54, 7, 44, 182, 0, 167, 21, 6, 159, 0, 5, 3, 172, 21, 6]
abbrev dktL_law_110 : List UInt8 := dkwL_law_110 ++ dktL_law_111
def dkwL_law_109 : List UInt8 := [49, 25, 4, 3, 49, 151, 153, 0, 11, 23, 7, 23, 7, 149, 154, 0, 5, 3, 172, 167, 0, 104, 43, 45]
abbrev dktL_law_109 : List UInt8 := dkwL_law_109 ++ dktL_law_110
def dkwL_law_108 : List UInt8 := [159, 0, 5, 3, 172, 21, 6, 154, 0, 36, 25, 4, 3, 49, 23, 7, 141, 151, 153, 0, 25, 25, 4, 3]
abbrev dktL_law_108 : List UInt8 := dkwL_law_108 ++ dktL_law_109
def dkwL_law_107 : List UInt8 := [172, 167, 0, 170, 43, 25, 4, 184, 1, 86, 54, 6, 44, 182, 1, 88, 56, 7, 44, 182, 0, 167, 21, 6]
abbrev dktL_law_107 : List UInt8 := dkwL_law_107 ++ dktL_law_108
def dkwL_law_106 : List UInt8 := [153, 0, 25, 25, 4, 3, 49, 25, 4, 3, 49, 151, 153, 0, 11, 24, 7, 24, 7, 151, 154, 0, 5, 3]
abbrev dktL_law_106 : List UInt8 := dkwL_law_106 ++ dktL_law_107
def dkwL_law_105 : List UInt8 := [182, 0, 167, 21, 6, 159, 0, 5, 3, 172, 21, 6, 154, 0, 35, 25, 4, 3, 49, 24, 7, 151]
abbrev dktL_law_105 : List UInt8 := dkwL_law_105 ++ dktL_law_106
def dkwL_law_104 : List UInt8 := [153, 0, 5, 3, 172, 167, 0, 235, 43, 25, 4, 184, 1, 82, 54, 6, 44, 182, 1, 85, 57, 7, 44]
abbrev dktL_law_104 : List UInt8 := dkwL_law_104 ++ dktL_law_105
def dkwL_law_103 : List UInt8 := [182, 0, 167, 21, 6, 159, 0, 5, 3, 172, 21, 6, 154, 0, 15, 45, 3, 47, 21, 7, 133, 148]
abbrev dktL_law_103 : List UInt8 := dkwL_law_103 ++ dktL_law_104
def dkwL_law_102 : List UInt8 := [21, 5, 4, 96, 46, 45, 184, 1, 79, 54, 6, 44, 42, 21, 5, 4, 96, 46, 182, 1, 81, 54, 7, 44]
abbrev dktL_law_102 : List UInt8 := dkwL_law_102 ++ dktL_law_103
def dkwL_law_101 : List UInt8 := [172, 21, 6, 154, 0, 15, 45, 3, 47, 21, 7, 133, 148, 153, 0, 5, 3, 172, 167, 1, 35, 43, 42]
abbrev dktL_law_101 : List UInt8 := dkwL_law_101 ++ dktL_law_102
def dkwL_law_100 : List UInt8 := [54, 6, 44, 42, 21, 5, 4, 96, 46, 182, 1, 78, 54, 7, 44, 182, 0, 167, 21, 6, 159, 0, 5, 3]
abbrev dktL_law_100 : List UInt8 := dkwL_law_100 ++ dktL_law_101
def dkwL_law_99 : List UInt8 := [182, 1, 72, 44, 182, 1, 75, 159, 1, 93, 3, 172, 43, 42, 21, 5, 4, 96, 46, 45, 184, 1, 76]
abbrev dktL_law_99 : List UInt8 := dkwL_law_99 ++ dktL_law_100
def dkwL_law_98 : List UInt8 := [153, 0, 5, 3, 172, 167, 1, 117, 43, 182, 1, 68, 44, 182, 1, 71, 159, 1, 106, 3, 172, 43]
abbrev dktL_law_98 : List UInt8 := dkwL_law_98 ++ dktL_law_99
def dkwL_law_97 : List UInt8 := [182, 0, 167, 21, 6, 159, 0, 5, 3, 172, 21, 6, 154, 0, 15, 45, 3, 47, 21, 7, 133, 148]
abbrev dktL_law_97 : List UInt8 := dkwL_law_97 ++ dktL_law_98
def dkwL_law_96 : List UInt8 := [96, 46, 42, 21, 5, 5, 96, 46, 153, 0, 7, 4, 167, 0, 4, 3, 182, 1, 67, 54, 7, 44]
abbrev dktL_law_96 : List UInt8 := dkwL_law_96 ++ dktL_law_97
def dkwL_law_95 : List UInt8 := [21, 5, 5, 96, 46, 153, 0, 7, 4, 167, 0, 4, 3, 45, 184, 1, 64, 54, 6, 44, 42, 21, 5, 4]
abbrev dktL_law_95 : List UInt8 := dkwL_law_95 ++ dktL_law_96
def dkwL_law_94 : List UInt8 := [167, 1, 214, 43, 182, 1, 60, 44, 182, 1, 63, 159, 1, 203, 3, 172, 43, 42, 21, 5, 4, 96, 46, 42]
abbrev dktL_law_94 : List UInt8 := dkwL_law_94 ++ dktL_law_95
def dkwL_law_93 : List UInt8 := [159, 0, 5, 3, 172, 21, 6, 154, 0, 15, 45, 3, 47, 21, 7, 133, 148, 153, 0, 5, 3, 172]
abbrev dktL_law_93 : List UInt8 := dkwL_law_93 ++ dktL_law_94
def dkwL_law_92 : List UInt8 := [167, 2, 2, 43, 45, 184, 1, 57, 54, 6, 44, 182, 1, 59, 54, 7, 44, 182, 0, 167, 21, 6]
abbrev dktL_law_92 : List UInt8 := dkwL_law_92 ++ dktL_law_93
def dkwL_law_91 : List UInt8 := [159, 0, 5, 3, 172, 21, 6, 154, 0, 15, 45, 3, 47, 21, 7, 133, 148, 153, 0, 5, 3, 172]
abbrev dktL_law_91 : List UInt8 := dkwL_law_91 ++ dktL_law_92
def dkwL_law_90 : List UInt8 := [184, 1, 53, 54, 6, 44, 42, 21, 5, 4, 96, 46, 146, 182, 1, 56, 54, 7, 44, 182, 0, 167, 21, 6]
abbrev dktL_law_90 : List UInt8 := dkwL_law_90 ++ dktL_law_91
def dkwL_law_89 : List UInt8 := [172, 43, 182, 1, 49, 44, 182, 1, 52, 159, 2, 62, 3, 172, 43, 42, 21, 5, 4, 96, 46, 146, 45]
abbrev dktL_law_89 : List UInt8 := dkwL_law_89 ++ dktL_law_90
def dkwL_law_88 : List UInt8 := [21, 7, 133, 148, 153, 0, 5, 3, 172, 167, 2, 86, 43, 182, 1, 45, 44, 182, 1, 48, 159, 2, 75, 3]
abbrev dktL_law_88 : List UInt8 := dkwL_law_88 ++ dktL_law_89
def dkwL_law_87 : List UInt8 := [182, 1, 44, 54, 7, 44, 182, 0, 167, 21, 6, 159, 0, 5, 3, 172, 21, 6, 154, 0, 15, 45, 3, 47]
abbrev dktL_law_87 : List UInt8 := dkwL_law_87 ++ dktL_law_88
def dkwL_law_86 : List UInt8 := [167, 2, 142, 43, 42, 21, 5, 4, 96, 46, 45, 184, 1, 42, 54, 6, 44, 42, 21, 5, 4, 96, 46]
abbrev dktL_law_86 : List UInt8 := dkwL_law_86 ++ dktL_law_87
def dkwL_law_85 : List UInt8 := [21, 6, 159, 0, 5, 3, 172, 21, 6, 154, 0, 15, 45, 3, 47, 21, 7, 133, 148, 153, 0, 5, 3, 172]
abbrev dktL_law_85 : List UInt8 := dkwL_law_85 ++ dktL_law_86
def dkwL_law_84 : List UInt8 := [46, 45, 184, 1, 39, 54, 6, 44, 42, 21, 5, 4, 96, 46, 182, 1, 41, 54, 7, 44, 182, 0, 167]
abbrev dktL_law_84 : List UInt8 := dkwL_law_84 ++ dktL_law_85
def dkwL_law_83 : List UInt8 := [159, 2, 213, 3, 172, 43, 182, 1, 35, 44, 182, 1, 38, 159, 2, 200, 3, 172, 43, 42, 21, 5, 4, 96]
abbrev dktL_law_83 : List UInt8 := dkwL_law_83 ++ dktL_law_84
def dkwL_law_82 : List UInt8 := [45, 3, 47, 21, 7, 133, 148, 153, 0, 5, 3, 172, 167, 2, 224, 43, 182, 1, 31, 44, 182, 1, 34]
abbrev dktL_law_82 : List UInt8 := dkwL_law_82 ++ dktL_law_83
def dkwL_law_81 : List UInt8 := [54, 6, 44, 182, 1, 30, 54, 7, 44, 182, 0, 167, 21, 6, 159, 0, 5, 3, 172, 21, 6, 154, 0, 15]
abbrev dktL_law_81 : List UInt8 := dkwL_law_81 ++ dktL_law_82
def dkwL_law_80 : List UInt8 := [21, 7, 153, 0, 7, 10, 167, 0, 4, 9, 148, 153, 0, 5, 3, 172, 167, 3, 12, 43, 45, 184, 1, 28]
abbrev dktL_law_80 : List UInt8 := dkwL_law_80 ++ dktL_law_81
def dkwL_law_79 : List UInt8 := [182, 1, 27, 54, 7, 44, 182, 0, 167, 21, 6, 159, 0, 5, 3, 172, 21, 6, 154, 0, 22, 45, 3, 47]
abbrev dktL_law_79 : List UInt8 := dkwL_law_79 ++ dktL_law_80
def dkwL_law_78 : List UInt8 := [21, 5, 5, 96, 46, 45, 184, 1, 25, 54, 6, 44, 42, 21, 5, 4, 96, 46, 42, 21, 5, 5, 96, 46]
abbrev dktL_law_78 : List UInt8 := dkwL_law_78 ++ dktL_law_79
def dkwL_law_77 : List UInt8 := [167, 3, 100, 43, 182, 1, 21, 44, 182, 1, 24, 159, 3, 89, 3, 172, 43, 42, 21, 5, 4, 96, 46, 42]
abbrev dktL_law_77 : List UInt8 := dkwL_law_77 ++ dktL_law_78
def dkwL_law_76 : List UInt8 := [159, 0, 5, 3, 172, 21, 6, 154, 0, 15, 45, 3, 47, 21, 7, 133, 148, 153, 0, 5, 3, 172]
abbrev dktL_law_76 : List UInt8 := dkwL_law_76 ++ dktL_law_77
def dkwL_law_75 : List UInt8 := [167, 3, 144, 43, 45, 184, 1, 18, 54, 6, 44, 182, 1, 20, 54, 7, 44, 182, 0, 167, 21, 6]
abbrev dktL_law_75 : List UInt8 := dkwL_law_75 ++ dktL_law_76
def dkwL_law_74 : List UInt8 := [21, 6, 159, 0, 5, 3, 172, 21, 6, 154, 0, 15, 45, 3, 47, 21, 7, 133, 148, 153, 0, 5, 3, 172]
abbrev dktL_law_74 : List UInt8 := dkwL_law_74 ++ dktL_law_75
def dkwL_law_73 : List UInt8 := [46, 45, 184, 1, 15, 54, 6, 44, 42, 21, 5, 4, 96, 46, 182, 1, 17, 54, 7, 44, 182, 0, 167]
abbrev dktL_law_73 : List UInt8 := dkwL_law_73 ++ dktL_law_74
def dkwL_law_72 : List UInt8 := [154, 0, 15, 45, 3, 47, 21, 7, 133, 148, 153, 0, 5, 3, 172, 167, 3, 200, 43, 42, 21, 5, 4, 96]
abbrev dktL_law_72 : List UInt8 := dkwL_law_72 ++ dktL_law_73
def dkwL_law_71 : List UInt8 := [21, 5, 4, 96, 46, 182, 1, 14, 54, 7, 44, 182, 0, 167, 21, 6, 159, 0, 5, 3, 172, 21, 6]
abbrev dktL_law_71 : List UInt8 := dkwL_law_71 ++ dktL_law_72
def dkwL_law_70 : List UInt8 := [148, 153, 0, 5, 3, 172, 167, 4, 0, 43, 42, 21, 5, 4, 96, 46, 45, 184, 1, 12, 54, 6, 44, 42]
abbrev dktL_law_70 : List UInt8 := dkwL_law_70 ++ dktL_law_71
def dkwL_law_69 : List UInt8 := [54, 7, 44, 182, 0, 167, 21, 6, 159, 0, 5, 3, 172, 21, 6, 154, 0, 15, 45, 3, 47, 21, 7, 133]
abbrev dktL_law_69 : List UInt8 := dkwL_law_69 ++ dktL_law_70
def dkwL_law_68 : List UInt8 := [172, 43, 42, 21, 5, 4, 96, 46, 45, 184, 1, 9, 54, 6, 44, 42, 21, 5, 4, 96, 46, 182, 1, 11]
abbrev dktL_law_68 : List UInt8 := dkwL_law_68 ++ dktL_law_69
def dkwL_law_67 : List UInt8 := [21, 7, 133, 148, 153, 0, 5, 3, 172, 167, 4, 69, 43, 182, 1, 5, 44, 182, 1, 8, 159, 4, 58, 3]
abbrev dktL_law_67 : List UInt8 := dkwL_law_67 ++ dktL_law_68
def dkwL_law_66 : List UInt8 := [182, 1, 4, 54, 7, 44, 182, 0, 167, 21, 6, 159, 0, 5, 3, 172, 21, 6, 154, 0, 15, 45, 3, 47]
abbrev dktL_law_66 : List UInt8 := dkwL_law_66 ++ dktL_law_67
def dkwL_law_65 : List UInt8 := [167, 4, 125, 43, 42, 21, 5, 4, 96, 46, 45, 184, 1, 2, 54, 6, 44, 42, 21, 5, 4, 96, 46]
abbrev dktL_law_65 : List UInt8 := dkwL_law_65 ++ dktL_law_66
def dkwL_law_64 : List UInt8 := [21, 6, 159, 0, 5, 3, 172, 21, 6, 154, 0, 15, 45, 3, 47, 21, 7, 133, 148, 153, 0, 5, 3, 172]
abbrev dktL_law_64 : List UInt8 := dkwL_law_64 ++ dktL_law_65
def dkwL_law_63 : List UInt8 := [46, 45, 184, 0, 255, 54, 6, 44, 42, 21, 5, 4, 96, 46, 182, 1, 1, 54, 7, 44, 182, 0, 167]
abbrev dktL_law_63 : List UInt8 := dkwL_law_63 ++ dktL_law_64
def dkwL_law_62 : List UInt8 := [159, 4, 196, 3, 172, 43, 182, 0, 251, 44, 182, 0, 254, 159, 4, 183, 3, 172, 43, 42, 21, 5, 4, 96]
abbrev dktL_law_62 : List UInt8 := dkwL_law_62 ++ dktL_law_63
def dkwL_law_61 : List UInt8 := [167, 4, 220, 43, 182, 0, 242, 44, 182, 0, 245, 159, 4, 209, 3, 172, 43, 182, 0, 246, 44, 182, 0, 250]
abbrev dktL_law_61 : List UInt8 := dkwL_law_61 ++ dktL_law_62
def dkwL_law_60 : List UInt8 := [159, 0, 5, 3, 172, 21, 6, 154, 0, 15, 45, 3, 47, 21, 7, 133, 148, 153, 0, 5, 3, 172]
abbrev dktL_law_60 : List UInt8 := dkwL_law_60 ++ dktL_law_61
def dkwL_law_59 : List UInt8 := [184, 0, 239, 54, 6, 44, 42, 21, 5, 4, 96, 46, 182, 0, 241, 54, 7, 44, 182, 0, 167, 21, 6]
abbrev dktL_law_59 : List UInt8 := dkwL_law_59 ++ dktL_law_60
def dkwL_law_58 : List UInt8 := [167, 5, 33, 43, 182, 0, 235, 44, 182, 0, 238, 159, 5, 22, 3, 172, 43, 42, 21, 5, 4, 96, 46, 45]
abbrev dktL_law_58 : List UInt8 := dkwL_law_58 ++ dktL_law_59
def dkwL_law_57 : List UInt8 := [154, 0, 22, 45, 3, 47, 21, 7, 153, 0, 7, 10, 167, 0, 4, 9, 148, 153, 0, 5, 3, 172]
abbrev dktL_law_57 : List UInt8 := dkwL_law_57 ++ dktL_law_58
def dkwL_law_56 : List UInt8 := [21, 5, 4, 96, 46, 182, 0, 234, 54, 7, 44, 182, 0, 167, 21, 6, 159, 0, 5, 3, 172, 21, 6]
abbrev dktL_law_56 : List UInt8 := dkwL_law_56 ++ dktL_law_57
def dkwL_law_55 : List UInt8 := [153, 0, 5, 3, 172, 167, 5, 96, 43, 42, 21, 5, 4, 96, 46, 45, 184, 0, 232, 54, 6, 44, 42]
abbrev dktL_law_55 : List UInt8 := dkwL_law_55 ++ dktL_law_56
def dkwL_law_54 : List UInt8 := [182, 0, 167, 21, 6, 159, 0, 5, 3, 172, 21, 6, 154, 0, 15, 45, 3, 47, 21, 7, 133, 148]
abbrev dktL_law_54 : List UInt8 := dkwL_law_54 ++ dktL_law_55
def dkwL_law_53 : List UInt8 := [153, 0, 5, 3, 172, 167, 5, 140, 43, 45, 184, 0, 229, 54, 6, 44, 182, 0, 231, 54, 7, 44]
abbrev dktL_law_53 : List UInt8 := dkwL_law_53 ++ dktL_law_54
def dkwL_law_52 : List UInt8 := [182, 0, 167, 21, 6, 159, 0, 5, 3, 172, 21, 6, 154, 0, 15, 45, 3, 47, 21, 7, 133, 148]
abbrev dktL_law_52 : List UInt8 := dkwL_law_52 ++ dktL_law_53
def dkwL_law_51 : List UInt8 := [21, 5, 4, 96, 46, 45, 184, 0, 226, 54, 6, 44, 42, 21, 5, 4, 96, 46, 182, 0, 228, 54, 7, 44]
abbrev dktL_law_51 : List UInt8 := dkwL_law_51 ++ dktL_law_52
def dkwL_law_50 : List UInt8 := [172, 21, 6, 154, 0, 15, 45, 3, 47, 21, 7, 133, 148, 153, 0, 5, 3, 172, 167, 5, 196, 43, 42]
abbrev dktL_law_50 : List UInt8 := dkwL_law_50 ++ dktL_law_51
def dkwL_law_49 : List UInt8 := [54, 6, 44, 42, 21, 5, 4, 96, 46, 182, 0, 225, 54, 7, 44, 182, 0, 167, 21, 6, 159, 0, 5, 3]
abbrev dktL_law_49 : List UInt8 := dkwL_law_49 ++ dktL_law_50
def dkwL_law_48 : List UInt8 := [21, 7, 133, 148, 153, 0, 5, 3, 172, 167, 5, 252, 43, 42, 21, 5, 4, 96, 46, 45, 184, 0, 223]
abbrev dktL_law_48 : List UInt8 := dkwL_law_48 ++ dktL_law_49
def dkwL_law_47 : List UInt8 := [182, 0, 222, 54, 7, 44, 182, 0, 167, 21, 6, 159, 0, 5, 3, 172, 21, 6, 154, 0, 15, 45, 3, 47]
abbrev dktL_law_47 : List UInt8 := dkwL_law_47 ++ dktL_law_48
def dkwL_law_46 : List UInt8 := [167, 6, 52, 43, 42, 21, 5, 4, 96, 46, 45, 184, 0, 220, 54, 6, 44, 42, 21, 5, 4, 96, 46]
abbrev dktL_law_46 : List UInt8 := dkwL_law_46 ++ dktL_law_47
def dkwL_law_45 : List UInt8 := [154, 0, 22, 45, 3, 47, 21, 7, 153, 0, 7, 10, 167, 0, 4, 9, 148, 153, 0, 5, 3, 172]
abbrev dktL_law_45 : List UInt8 := dkwL_law_45 ++ dktL_law_46
def dkwL_law_44 : List UInt8 := [21, 5, 4, 96, 46, 182, 0, 219, 54, 7, 44, 182, 0, 167, 21, 6, 159, 0, 5, 3, 172, 21, 6]
abbrev dktL_law_44 : List UInt8 := dkwL_law_44 ++ dktL_law_45
def dkwL_law_43 : List UInt8 := [153, 0, 5, 3, 172, 167, 6, 115, 43, 42, 21, 5, 4, 96, 46, 45, 184, 0, 217, 54, 6, 44, 42]
abbrev dktL_law_43 : List UInt8 := dkwL_law_43 ++ dktL_law_44
def dkwL_law_42 : List UInt8 := [182, 0, 167, 21, 6, 159, 0, 5, 3, 172, 21, 6, 154, 0, 15, 45, 3, 47, 21, 7, 133, 148]
abbrev dktL_law_42 : List UInt8 := dkwL_law_42 ++ dktL_law_43
def dkwL_law_41 : List UInt8 := [184, 0, 214, 54, 6, 44, 42, 21, 5, 4, 96, 46, 42, 21, 5, 5, 96, 46, 182, 0, 216, 54, 7, 44]
abbrev dktL_law_41 : List UInt8 := dkwL_law_41 ++ dktL_law_42
def dkwL_law_40 : List UInt8 := [153, 0, 5, 3, 172, 167, 6, 183, 43, 42, 21, 5, 4, 96, 46, 42, 21, 5, 5, 96, 46, 45]
abbrev dktL_law_40 : List UInt8 := dkwL_law_40 ++ dktL_law_41
def dkwL_law_39 : List UInt8 := [182, 0, 167, 21, 6, 159, 0, 5, 3, 172, 21, 6, 154, 0, 15, 45, 3, 47, 21, 7, 133, 148]
abbrev dktL_law_39 : List UInt8 := dkwL_law_39 ++ dktL_law_40
def dkwL_law_38 : List UInt8 := [21, 5, 4, 96, 46, 45, 184, 0, 211, 54, 6, 44, 42, 21, 5, 4, 96, 46, 182, 0, 213, 54, 7, 44]
abbrev dktL_law_38 : List UInt8 := dkwL_law_38 ++ dktL_law_39
def dkwL_law_37 : List UInt8 := [172, 21, 6, 154, 0, 15, 45, 3, 47, 21, 7, 133, 148, 153, 0, 5, 3, 172, 167, 6, 239, 43, 42]
abbrev dktL_law_37 : List UInt8 := dkwL_law_37 ++ dktL_law_38
def dkwL_law_36 : List UInt8 := [54, 6, 44, 42, 21, 5, 4, 96, 46, 182, 0, 210, 54, 7, 44, 182, 0, 167, 21, 6, 159, 0, 5, 3]
abbrev dktL_law_36 : List UInt8 := dkwL_law_36 ++ dktL_law_37
def dkwL_law_35 : List UInt8 := [21, 7, 133, 148, 153, 0, 5, 3, 172, 167, 7, 39, 43, 42, 21, 5, 4, 96, 46, 45, 184, 0, 208]
abbrev dktL_law_35 : List UInt8 := dkwL_law_35 ++ dktL_law_36
def dkwL_law_34 : List UInt8 := [182, 0, 207, 54, 7, 44, 182, 0, 167, 21, 6, 159, 0, 5, 3, 172, 21, 6, 154, 0, 15, 45, 3, 47]
abbrev dktL_law_34 : List UInt8 := dkwL_law_34 ++ dktL_law_35
def dkwL_law_33 : List UInt8 := [167, 7, 95, 43, 42, 21, 5, 4, 96, 46, 45, 184, 0, 205, 54, 6, 44, 42, 21, 5, 4, 96, 46]
abbrev dktL_law_33 : List UInt8 := dkwL_law_33 ++ dktL_law_34
def dkwL_law_32 : List UInt8 := [159, 0, 5, 3, 172, 21, 6, 154, 0, 15, 45, 3, 47, 21, 7, 133, 148, 153, 0, 5, 3, 172]
abbrev dktL_law_32 : List UInt8 := dkwL_law_32 ++ dktL_law_33
def dkwL_law_31 : List UInt8 := [184, 0, 202, 54, 6, 44, 42, 21, 5, 4, 96, 46, 182, 0, 204, 54, 7, 44, 182, 0, 167, 21, 6]
abbrev dktL_law_31 : List UInt8 := dkwL_law_31 ++ dktL_law_32
def dkwL_law_30 : List UInt8 := [3, 47, 21, 7, 133, 148, 153, 0, 5, 3, 172, 167, 7, 151, 43, 42, 21, 5, 4, 96, 46, 45]
abbrev dktL_law_30 : List UInt8 := dkwL_law_30 ++ dktL_law_31
def dkwL_law_29 : List UInt8 := [96, 46, 182, 0, 201, 54, 7, 44, 182, 0, 167, 21, 6, 159, 0, 5, 3, 172, 21, 6, 154, 0, 15, 45]
abbrev dktL_law_29 : List UInt8 := dkwL_law_29 ++ dktL_law_30
def dkwL_law_28 : List UInt8 := [46, 42, 21, 5, 5, 96, 46, 45, 184, 0, 199, 54, 6, 44, 42, 21, 5, 4, 96, 46, 42, 21, 5, 5]
abbrev dktL_law_28 : List UInt8 := dkwL_law_28 ++ dktL_law_29
def dkwL_law_27 : List UInt8 := [154, 0, 15, 45, 3, 47, 21, 7, 133, 148, 153, 0, 5, 3, 172, 167, 7, 219, 43, 42, 21, 5, 4, 96]
abbrev dktL_law_27 : List UInt8 := dkwL_law_27 ++ dktL_law_28
def dkwL_law_26 : List UInt8 := [21, 5, 4, 96, 46, 182, 0, 198, 54, 7, 44, 182, 0, 167, 21, 6, 159, 0, 5, 3, 172, 21, 6]
abbrev dktL_law_26 : List UInt8 := dkwL_law_26 ++ dktL_law_27
def dkwL_law_25 : List UInt8 := [153, 0, 5, 3, 172, 167, 8, 19, 43, 42, 21, 5, 4, 96, 46, 45, 184, 0, 196, 54, 6, 44, 42]
abbrev dktL_law_25 : List UInt8 := dkwL_law_25 ++ dktL_law_26
def dkwL_law_24 : List UInt8 := [182, 0, 167, 21, 6, 159, 0, 5, 3, 172, 21, 6, 154, 0, 15, 45, 3, 47, 21, 7, 133, 148]
abbrev dktL_law_24 : List UInt8 := dkwL_law_24 ++ dktL_law_25
def dkwL_law_23 : List UInt8 := [184, 0, 193, 54, 6, 44, 42, 21, 5, 4, 96, 46, 42, 21, 5, 5, 96, 46, 182, 0, 195, 54, 7, 44]
abbrev dktL_law_23 : List UInt8 := dkwL_law_23 ++ dktL_law_24
def dkwL_law_22 : List UInt8 := [153, 0, 5, 3, 172, 167, 8, 87, 43, 42, 21, 5, 4, 96, 46, 42, 21, 5, 5, 96, 46, 45]
abbrev dktL_law_22 : List UInt8 := dkwL_law_22 ++ dktL_law_23
def dkwL_law_21 : List UInt8 := [182, 0, 167, 21, 6, 159, 0, 5, 3, 172, 21, 6, 154, 0, 15, 45, 3, 47, 21, 7, 133, 148]
abbrev dktL_law_21 : List UInt8 := dkwL_law_21 ++ dktL_law_22
def dkwL_law_20 : List UInt8 := [153, 0, 5, 3, 172, 167, 8, 131, 43, 45, 184, 0, 190, 54, 6, 44, 182, 0, 192, 54, 7, 44]
abbrev dktL_law_20 : List UInt8 := dkwL_law_20 ++ dktL_law_21
def dkwL_law_19 : List UInt8 := [182, 0, 167, 21, 6, 159, 0, 5, 3, 172, 21, 6, 154, 0, 15, 45, 3, 47, 21, 7, 133, 148]
abbrev dktL_law_19 : List UInt8 := dkwL_law_19 ++ dktL_law_20
def dkwL_law_18 : List UInt8 := [21, 5, 4, 96, 46, 45, 184, 0, 187, 54, 6, 44, 42, 21, 5, 4, 96, 46, 182, 0, 189, 54, 7, 44]
abbrev dktL_law_18 : List UInt8 := dkwL_law_18 ++ dktL_law_19
def dkwL_law_17 : List UInt8 := [172, 21, 6, 154, 0, 15, 45, 3, 47, 21, 7, 133, 148, 153, 0, 5, 3, 172, 167, 8, 187, 43, 42]
abbrev dktL_law_17 : List UInt8 := dkwL_law_17 ++ dktL_law_18
def dkwL_law_16 : List UInt8 := [54, 6, 44, 42, 21, 5, 4, 96, 46, 182, 0, 186, 54, 7, 44, 182, 0, 167, 21, 6, 159, 0, 5, 3]
abbrev dktL_law_16 : List UInt8 := dkwL_law_16 ++ dktL_law_17
def dkwL_law_15 : List UInt8 := [21, 7, 133, 148, 153, 0, 5, 3, 172, 167, 8, 243, 43, 42, 21, 5, 4, 96, 46, 45, 184, 0, 184]
abbrev dktL_law_15 : List UInt8 := dkwL_law_15 ++ dktL_law_16
def dkwL_law_14 : List UInt8 := [182, 0, 183, 54, 7, 44, 182, 0, 167, 21, 6, 159, 0, 5, 3, 172, 21, 6, 154, 0, 15, 45, 3, 47]
abbrev dktL_law_14 : List UInt8 := dkwL_law_14 ++ dktL_law_15
def dkwL_law_13 : List UInt8 := [3, 47, 21, 7, 133, 148, 153, 0, 5, 3, 172, 167, 9, 31, 43, 45, 184, 0, 180, 54, 6, 44]
abbrev dktL_law_13 : List UInt8 := dkwL_law_13 ++ dktL_law_14
def dkwL_law_12 : List UInt8 := [96, 46, 182, 0, 179, 54, 7, 44, 182, 0, 167, 21, 6, 159, 0, 5, 3, 172, 21, 6, 154, 0, 15, 45]
abbrev dktL_law_12 : List UInt8 := dkwL_law_12 ++ dktL_law_13
def dkwL_law_11 : List UInt8 := [46, 42, 21, 5, 5, 96, 46, 45, 184, 0, 177, 54, 6, 44, 42, 21, 5, 4, 96, 46, 42, 21, 5, 5]
abbrev dktL_law_11 : List UInt8 := dkwL_law_11 ++ dktL_law_12
def dkwL_law_10 : List UInt8 := [154, 0, 15, 45, 3, 47, 21, 7, 133, 148, 153, 0, 5, 3, 172, 167, 9, 99, 43, 42, 21, 5, 4, 96]
abbrev dktL_law_10 : List UInt8 := dkwL_law_10 ++ dktL_law_11
def dkwL_law_9 : List UInt8 := [21, 5, 4, 96, 46, 182, 0, 176, 54, 7, 44, 182, 0, 167, 21, 6, 159, 0, 5, 3, 172, 21, 6]
abbrev dktL_law_9 : List UInt8 := dkwL_law_9 ++ dktL_law_10
def dkwL_law_8 : List UInt8 := [153, 0, 5, 3, 172, 167, 9, 155, 43, 42, 21, 5, 4, 96, 46, 45, 184, 0, 174, 54, 6, 44, 42]
abbrev dktL_law_8 : List UInt8 := dkwL_law_8 ++ dktL_law_9
def dkwL_law_7 : List UInt8 := [182, 0, 167, 21, 6, 159, 0, 5, 3, 172, 21, 6, 154, 0, 15, 45, 3, 47, 21, 7, 133, 148]
abbrev dktL_law_7 : List UInt8 := dkwL_law_7 ++ dktL_law_8
def dkwL_law_6 : List UInt8 := [4, 96, 46, 45, 184, 0, 170, 54, 6, 44, 42, 21, 5, 4, 96, 46, 182, 0, 173, 54, 7, 44]
abbrev dktL_law_6 : List UInt8 := dkwL_law_6 ++ dktL_law_7
def dkwL_law_5 : List UInt8 := [21, 6, 154, 0, 15, 45, 3, 47, 21, 7, 133, 148, 153, 0, 5, 3, 172, 167, 9, 211, 43, 42, 21, 5]
abbrev dktL_law_5 : List UInt8 := dkwL_law_5 ++ dktL_law_6
def dkwL_law_4 : List UInt8 := [96, 46, 42, 21, 5, 5, 96, 46, 182, 0, 166, 54, 7, 44, 182, 0, 167, 21, 6, 159, 0, 5, 3, 172]
abbrev dktL_law_4 : List UInt8 := dkwL_law_4 ++ dktL_law_5
def dkwL_law_3 : List UInt8 := [43, 42, 21, 5, 4, 96, 46, 42, 21, 5, 5, 96, 46, 45, 184, 0, 161, 54, 6, 44, 42, 21, 5, 4]
abbrev dktL_law_3 : List UInt8 := dkwL_law_3 ++ dktL_law_4
def dkwL_law_2 : List UInt8 := [170, 0, 0, 0, 0, 0, 11, 4, 0, 0, 0, 0, 0, 0, 0, 55, 0, 0, 0, 240, 0, 0, 1, 52, 0, 0, 1, 108, 0, 0, 1, 164, 0, 0, 1, 232, 0, 0, 2, 20, 0, 0, 2, 76, 0, 0, 2, 132, 0, 0, 2, 176, 0, 0, 2, 244, 0, 0, 3, 44, 0, 0, 3, 112, 0, 0, 3, 168, 0, 0, 3, 224, 0, 0, 4, 24, 0, 0, 4, 80, 0, 0, 4, 148, 0, 0, 4, 211, 0, 0, 5, 11, 0, 0, 5, 67, 0, 0, 5, 123, 0, 0, 5, 167, 0, 0, 5, 230, 0, 0, 5, 243, 0, 0, 6, 43, 0, 0, 6, 56, 0, 0, 6, 69, 0, 0, 6, 82, 0, 0, 6, 138, 0, 0, 6, 194, 0, 0, 6, 207, 0, 0, 7, 7, 0, 0, 7, 63, 0, 0, 7, 119, 0, 0, 7, 163, 0, 0, 7, 176, 0, 0, 7, 251, 0, 0, 8, 39, 0, 0, 8, 52, 0, 0, 8, 65, 0, 0, 8, 121, 0, 0, 8, 177, 0, 0, 8, 190, 0, 0, 8, 203, 0, 0, 9, 5, 0, 0, 9, 49, 0, 0, 9, 62, 0, 0, 9, 146, 0, 0, 9, 159, 0, 0, 9, 172, 0, 0, 9, 228, 0, 0, 10, 28, 0, 0, 10, 93, 0, 0, 10, 159, 0, 0, 10, 203, 0, 0, 10, 216]
abbrev dktL_law_2 : List UInt8 := dkwL_law_2 ++ dktL_law_3
def dkwL_law_1 : List UInt8 := [58, 4, 3, 54, 5, 21, 5, 42, 190, 6, 100, 163, 11, 20, 42, 21, 5, 46, 16, 63, 126]
abbrev dktL_law_1 : List UInt8 := dkwL_law_1 ++ dktL_law_2
def dkwL_law_0 : List UInt8 := [187, 0, 8, 89, 183, 0, 157, 76, 187, 0, 158, 89, 183, 0, 160, 77, 4, 188, 11, 78, 4, 188, 7]
abbrev dktL_law_0 : List UInt8 := dkwL_law_0 ++ dktL_law_1
theorem dksL_law_0 : cL_law.data.toList.drop 0 = dktL_law_0 := by decide +kernel
theorem dksL_law_1 : cL_law.data.toList.drop 23 = dktL_law_1 := dk_seg dksL_law_0 23 rfl rfl
theorem dksL_law_2 : cL_law.data.toList.drop 44 = dktL_law_2 := dk_seg dksL_law_1 21 rfl rfl
theorem dksL_law_3 : cL_law.data.toList.drop 284 = dktL_law_3 := dk_seg dksL_law_2 240 rfl rfl
theorem dksL_law_4 : cL_law.data.toList.drop 308 = dktL_law_4 := dk_seg dksL_law_3 24 rfl rfl
theorem dksL_law_5 : cL_law.data.toList.drop 332 = dktL_law_5 := dk_seg dksL_law_4 24 rfl rfl
theorem dksL_law_6 : cL_law.data.toList.drop 356 = dktL_law_6 := dk_seg dksL_law_5 24 rfl rfl
theorem dksL_law_7 : cL_law.data.toList.drop 378 = dktL_law_7 := dk_seg dksL_law_6 22 rfl rfl
theorem dksL_law_8 : cL_law.data.toList.drop 400 = dktL_law_8 := dk_seg dksL_law_7 22 rfl rfl
theorem dksL_law_9 : cL_law.data.toList.drop 423 = dktL_law_9 := dk_seg dksL_law_8 23 rfl rfl
theorem dksL_law_10 : cL_law.data.toList.drop 446 = dktL_law_10 := dk_seg dksL_law_9 23 rfl rfl
theorem dksL_law_11 : cL_law.data.toList.drop 470 = dktL_law_11 := dk_seg dksL_law_10 24 rfl rfl
theorem dksL_law_12 : cL_law.data.toList.drop 494 = dktL_law_12 := dk_seg dksL_law_11 24 rfl rfl
theorem dksL_law_13 : cL_law.data.toList.drop 518 = dktL_law_13 := dk_seg dksL_law_12 24 rfl rfl
theorem dksL_law_14 : cL_law.data.toList.drop 540 = dktL_law_14 := dk_seg dksL_law_13 22 rfl rfl
theorem dksL_law_15 : cL_law.data.toList.drop 564 = dktL_law_15 := dk_seg dksL_law_14 24 rfl rfl
theorem dksL_law_16 : cL_law.data.toList.drop 587 = dktL_law_16 := dk_seg dksL_law_15 23 rfl rfl
theorem dksL_law_17 : cL_law.data.toList.drop 611 = dktL_law_17 := dk_seg dksL_law_16 24 rfl rfl
theorem dksL_law_18 : cL_law.data.toList.drop 634 = dktL_law_18 := dk_seg dksL_law_17 23 rfl rfl
theorem dksL_law_19 : cL_law.data.toList.drop 658 = dktL_law_19 := dk_seg dksL_law_18 24 rfl rfl
theorem dksL_law_20 : cL_law.data.toList.drop 680 = dktL_law_20 := dk_seg dksL_law_19 22 rfl rfl
theorem dksL_law_21 : cL_law.data.toList.drop 702 = dktL_law_21 := dk_seg dksL_law_20 22 rfl rfl
theorem dksL_law_22 : cL_law.data.toList.drop 724 = dktL_law_22 := dk_seg dksL_law_21 22 rfl rfl
theorem dksL_law_23 : cL_law.data.toList.drop 746 = dktL_law_23 := dk_seg dksL_law_22 22 rfl rfl
theorem dksL_law_24 : cL_law.data.toList.drop 770 = dktL_law_24 := dk_seg dksL_law_23 24 rfl rfl
theorem dksL_law_25 : cL_law.data.toList.drop 792 = dktL_law_25 := dk_seg dksL_law_24 22 rfl rfl
theorem dksL_law_26 : cL_law.data.toList.drop 815 = dktL_law_26 := dk_seg dksL_law_25 23 rfl rfl
theorem dksL_law_27 : cL_law.data.toList.drop 838 = dktL_law_27 := dk_seg dksL_law_26 23 rfl rfl
theorem dksL_law_28 : cL_law.data.toList.drop 862 = dktL_law_28 := dk_seg dksL_law_27 24 rfl rfl
theorem dksL_law_29 : cL_law.data.toList.drop 886 = dktL_law_29 := dk_seg dksL_law_28 24 rfl rfl
theorem dksL_law_30 : cL_law.data.toList.drop 910 = dktL_law_30 := dk_seg dksL_law_29 24 rfl rfl
theorem dksL_law_31 : cL_law.data.toList.drop 932 = dktL_law_31 := dk_seg dksL_law_30 22 rfl rfl
theorem dksL_law_32 : cL_law.data.toList.drop 955 = dktL_law_32 := dk_seg dksL_law_31 23 rfl rfl
theorem dksL_law_33 : cL_law.data.toList.drop 977 = dktL_law_33 := dk_seg dksL_law_32 22 rfl rfl
theorem dksL_law_34 : cL_law.data.toList.drop 1000 = dktL_law_34 := dk_seg dksL_law_33 23 rfl rfl
theorem dksL_law_35 : cL_law.data.toList.drop 1024 = dktL_law_35 := dk_seg dksL_law_34 24 rfl rfl
theorem dksL_law_36 : cL_law.data.toList.drop 1047 = dktL_law_36 := dk_seg dksL_law_35 23 rfl rfl
theorem dksL_law_37 : cL_law.data.toList.drop 1071 = dktL_law_37 := dk_seg dksL_law_36 24 rfl rfl
theorem dksL_law_38 : cL_law.data.toList.drop 1094 = dktL_law_38 := dk_seg dksL_law_37 23 rfl rfl
theorem dksL_law_39 : cL_law.data.toList.drop 1118 = dktL_law_39 := dk_seg dksL_law_38 24 rfl rfl
theorem dksL_law_40 : cL_law.data.toList.drop 1140 = dktL_law_40 := dk_seg dksL_law_39 22 rfl rfl
theorem dksL_law_41 : cL_law.data.toList.drop 1162 = dktL_law_41 := dk_seg dksL_law_40 22 rfl rfl
theorem dksL_law_42 : cL_law.data.toList.drop 1186 = dktL_law_42 := dk_seg dksL_law_41 24 rfl rfl
theorem dksL_law_43 : cL_law.data.toList.drop 1208 = dktL_law_43 := dk_seg dksL_law_42 22 rfl rfl
theorem dksL_law_44 : cL_law.data.toList.drop 1231 = dktL_law_44 := dk_seg dksL_law_43 23 rfl rfl
theorem dksL_law_45 : cL_law.data.toList.drop 1254 = dktL_law_45 := dk_seg dksL_law_44 23 rfl rfl
theorem dksL_law_46 : cL_law.data.toList.drop 1276 = dktL_law_46 := dk_seg dksL_law_45 22 rfl rfl
theorem dksL_law_47 : cL_law.data.toList.drop 1299 = dktL_law_47 := dk_seg dksL_law_46 23 rfl rfl
theorem dksL_law_48 : cL_law.data.toList.drop 1323 = dktL_law_48 := dk_seg dksL_law_47 24 rfl rfl
theorem dksL_law_49 : cL_law.data.toList.drop 1346 = dktL_law_49 := dk_seg dksL_law_48 23 rfl rfl
theorem dksL_law_50 : cL_law.data.toList.drop 1370 = dktL_law_50 := dk_seg dksL_law_49 24 rfl rfl
theorem dksL_law_51 : cL_law.data.toList.drop 1393 = dktL_law_51 := dk_seg dksL_law_50 23 rfl rfl
theorem dksL_law_52 : cL_law.data.toList.drop 1417 = dktL_law_52 := dk_seg dksL_law_51 24 rfl rfl
theorem dksL_law_53 : cL_law.data.toList.drop 1439 = dktL_law_53 := dk_seg dksL_law_52 22 rfl rfl
theorem dksL_law_54 : cL_law.data.toList.drop 1461 = dktL_law_54 := dk_seg dksL_law_53 22 rfl rfl
theorem dksL_law_55 : cL_law.data.toList.drop 1483 = dktL_law_55 := dk_seg dksL_law_54 22 rfl rfl
theorem dksL_law_56 : cL_law.data.toList.drop 1506 = dktL_law_56 := dk_seg dksL_law_55 23 rfl rfl
theorem dksL_law_57 : cL_law.data.toList.drop 1529 = dktL_law_57 := dk_seg dksL_law_56 23 rfl rfl
theorem dksL_law_58 : cL_law.data.toList.drop 1551 = dktL_law_58 := dk_seg dksL_law_57 22 rfl rfl
theorem dksL_law_59 : cL_law.data.toList.drop 1575 = dktL_law_59 := dk_seg dksL_law_58 24 rfl rfl
theorem dksL_law_60 : cL_law.data.toList.drop 1598 = dktL_law_60 := dk_seg dksL_law_59 23 rfl rfl
theorem dksL_law_61 : cL_law.data.toList.drop 1620 = dktL_law_61 := dk_seg dksL_law_60 22 rfl rfl
theorem dksL_law_62 : cL_law.data.toList.drop 1644 = dktL_law_62 := dk_seg dksL_law_61 24 rfl rfl
theorem dksL_law_63 : cL_law.data.toList.drop 1668 = dktL_law_63 := dk_seg dksL_law_62 24 rfl rfl
theorem dksL_law_64 : cL_law.data.toList.drop 1691 = dktL_law_64 := dk_seg dksL_law_63 23 rfl rfl
theorem dksL_law_65 : cL_law.data.toList.drop 1715 = dktL_law_65 := dk_seg dksL_law_64 24 rfl rfl
theorem dksL_law_66 : cL_law.data.toList.drop 1738 = dktL_law_66 := dk_seg dksL_law_65 23 rfl rfl
theorem dksL_law_67 : cL_law.data.toList.drop 1762 = dktL_law_67 := dk_seg dksL_law_66 24 rfl rfl
theorem dksL_law_68 : cL_law.data.toList.drop 1786 = dktL_law_68 := dk_seg dksL_law_67 24 rfl rfl
theorem dksL_law_69 : cL_law.data.toList.drop 1810 = dktL_law_69 := dk_seg dksL_law_68 24 rfl rfl
theorem dksL_law_70 : cL_law.data.toList.drop 1834 = dktL_law_70 := dk_seg dksL_law_69 24 rfl rfl
theorem dksL_law_71 : cL_law.data.toList.drop 1858 = dktL_law_71 := dk_seg dksL_law_70 24 rfl rfl
theorem dksL_law_72 : cL_law.data.toList.drop 1881 = dktL_law_72 := dk_seg dksL_law_71 23 rfl rfl
theorem dksL_law_73 : cL_law.data.toList.drop 1905 = dktL_law_73 := dk_seg dksL_law_72 24 rfl rfl
theorem dksL_law_74 : cL_law.data.toList.drop 1928 = dktL_law_74 := dk_seg dksL_law_73 23 rfl rfl
theorem dksL_law_75 : cL_law.data.toList.drop 1952 = dktL_law_75 := dk_seg dksL_law_74 24 rfl rfl
theorem dksL_law_76 : cL_law.data.toList.drop 1974 = dktL_law_76 := dk_seg dksL_law_75 22 rfl rfl
theorem dksL_law_77 : cL_law.data.toList.drop 1996 = dktL_law_77 := dk_seg dksL_law_76 22 rfl rfl
theorem dksL_law_78 : cL_law.data.toList.drop 2020 = dktL_law_78 := dk_seg dksL_law_77 24 rfl rfl
theorem dksL_law_79 : cL_law.data.toList.drop 2044 = dktL_law_79 := dk_seg dksL_law_78 24 rfl rfl
theorem dksL_law_80 : cL_law.data.toList.drop 2068 = dktL_law_80 := dk_seg dksL_law_79 24 rfl rfl
theorem dksL_law_81 : cL_law.data.toList.drop 2092 = dktL_law_81 := dk_seg dksL_law_80 24 rfl rfl
theorem dksL_law_82 : cL_law.data.toList.drop 2116 = dktL_law_82 := dk_seg dksL_law_81 24 rfl rfl
theorem dksL_law_83 : cL_law.data.toList.drop 2139 = dktL_law_83 := dk_seg dksL_law_82 23 rfl rfl
theorem dksL_law_84 : cL_law.data.toList.drop 2163 = dktL_law_84 := dk_seg dksL_law_83 24 rfl rfl
theorem dksL_law_85 : cL_law.data.toList.drop 2186 = dktL_law_85 := dk_seg dksL_law_84 23 rfl rfl
theorem dksL_law_86 : cL_law.data.toList.drop 2210 = dktL_law_86 := dk_seg dksL_law_85 24 rfl rfl
theorem dksL_law_87 : cL_law.data.toList.drop 2233 = dktL_law_87 := dk_seg dksL_law_86 23 rfl rfl
theorem dksL_law_88 : cL_law.data.toList.drop 2257 = dktL_law_88 := dk_seg dksL_law_87 24 rfl rfl
theorem dksL_law_89 : cL_law.data.toList.drop 2281 = dktL_law_89 := dk_seg dksL_law_88 24 rfl rfl
theorem dksL_law_90 : cL_law.data.toList.drop 2304 = dktL_law_90 := dk_seg dksL_law_89 23 rfl rfl
theorem dksL_law_91 : cL_law.data.toList.drop 2328 = dktL_law_91 := dk_seg dksL_law_90 24 rfl rfl
theorem dksL_law_92 : cL_law.data.toList.drop 2350 = dktL_law_92 := dk_seg dksL_law_91 22 rfl rfl
theorem dksL_law_93 : cL_law.data.toList.drop 2372 = dktL_law_93 := dk_seg dksL_law_92 22 rfl rfl
theorem dksL_law_94 : cL_law.data.toList.drop 2394 = dktL_law_94 := dk_seg dksL_law_93 22 rfl rfl
theorem dksL_law_95 : cL_law.data.toList.drop 2418 = dktL_law_95 := dk_seg dksL_law_94 24 rfl rfl
theorem dksL_law_96 : cL_law.data.toList.drop 2442 = dktL_law_96 := dk_seg dksL_law_95 24 rfl rfl
theorem dksL_law_97 : cL_law.data.toList.drop 2464 = dktL_law_97 := dk_seg dksL_law_96 22 rfl rfl
theorem dksL_law_98 : cL_law.data.toList.drop 2486 = dktL_law_98 := dk_seg dksL_law_97 22 rfl rfl
theorem dksL_law_99 : cL_law.data.toList.drop 2508 = dktL_law_99 := dk_seg dksL_law_98 22 rfl rfl
theorem dksL_law_100 : cL_law.data.toList.drop 2531 = dktL_law_100 := dk_seg dksL_law_99 23 rfl rfl
theorem dksL_law_101 : cL_law.data.toList.drop 2555 = dktL_law_101 := dk_seg dksL_law_100 24 rfl rfl
theorem dksL_law_102 : cL_law.data.toList.drop 2578 = dktL_law_102 := dk_seg dksL_law_101 23 rfl rfl
theorem dksL_law_103 : cL_law.data.toList.drop 2602 = dktL_law_103 := dk_seg dksL_law_102 24 rfl rfl
theorem dksL_law_104 : cL_law.data.toList.drop 2624 = dktL_law_104 := dk_seg dksL_law_103 22 rfl rfl
theorem dksL_law_105 : cL_law.data.toList.drop 2647 = dktL_law_105 := dk_seg dksL_law_104 23 rfl rfl
theorem dksL_law_106 : cL_law.data.toList.drop 2669 = dktL_law_106 := dk_seg dksL_law_105 22 rfl rfl
theorem dksL_law_107 : cL_law.data.toList.drop 2693 = dktL_law_107 := dk_seg dksL_law_106 24 rfl rfl
theorem dksL_law_108 : cL_law.data.toList.drop 2717 = dktL_law_108 := dk_seg dksL_law_107 24 rfl rfl
theorem dksL_law_109 : cL_law.data.toList.drop 2741 = dktL_law_109 := dk_seg dksL_law_108 24 rfl rfl
theorem dksL_law_110 : cL_law.data.toList.drop 2765 = dktL_law_110 := dk_seg dksL_law_109 24 rfl rfl
theorem dksL_law_111 : cL_law.data.toList.drop 2789 = dktL_law_111 := dk_seg dksL_law_110 24 rfl rfl
theorem dksL_law_112 : cL_law.data.toList.drop 2812 = dktL_law_112 := dk_seg dksL_law_111 23 rfl rfl
theorem dksL_law_113 : cL_law.data.toList.drop 2834 = dktL_law_113 := dk_seg dksL_law_112 22 rfl rfl
theorem dksL_law_114 : cL_law.data.toList.drop 2856 = dktL_law_114 := dk_seg dksL_law_113 22 rfl rfl
theorem dL_law_0 : decode cL_law 0 = .ok (.new 8, 3) := dk_187 0 8 (dk_at dksL_law_0 0 rfl rfl)
theorem dL_law_3 : decode cL_law 3 = .ok (.dup, 1) := dk_89 (dk_at dksL_law_0 3 rfl rfl)
theorem dL_law_4 : decode cL_law 4 = .ok (.invokespecial 157, 3) := dk_183 0 157 (dk_at dksL_law_0 4 rfl rfl)
theorem dL_law_7 : decode cL_law 7 = .ok (.astore_n 1, 1) := dk_76 (dk_at dksL_law_0 7 rfl rfl)
theorem dL_law_8 : decode cL_law 8 = .ok (.new 158, 3) := dk_187 0 158 (dk_at dksL_law_0 8 rfl rfl)
theorem dL_law_11 : decode cL_law 11 = .ok (.dup, 1) := dk_89 (dk_at dksL_law_0 11 rfl rfl)
theorem dL_law_12 : decode cL_law 12 = .ok (.invokespecial 160, 3) := dk_183 0 160 (dk_at dksL_law_0 12 rfl rfl)
theorem dL_law_15 : decode cL_law 15 = .ok (.astore_n 2, 1) := dk_77 (dk_at dksL_law_0 15 rfl rfl)
theorem dL_law_16 : decode cL_law 16 = .ok (.iconst 1, 1) := dk_4 (dk_at dksL_law_0 16 rfl rfl)
theorem dL_law_17 : decode cL_law 17 = .ok (.newarray .long, 2) := dk_188_11 (dk_at dksL_law_0 17 rfl rfl)
theorem dL_law_19 : decode cL_law 19 = .ok (.astore_n 3, 1) := dk_78 (dk_at dksL_law_0 19 rfl rfl)
theorem dL_law_20 : decode cL_law 20 = .ok (.iconst 1, 1) := dk_4 (dk_at dksL_law_0 20 rfl rfl)
theorem dL_law_21 : decode cL_law 21 = .ok (.newarray .double, 2) := dk_188_7 (dk_at dksL_law_0 21 rfl rfl)
theorem dL_law_23 : decode cL_law 23 = .ok (.astore 4, 2) := dk_58 4 (dk_at dksL_law_1 0 rfl rfl)
theorem dL_law_25 : decode cL_law 25 = .ok (.iconst 0, 1) := dk_3 (dk_at dksL_law_1 2 rfl rfl)
theorem dL_law_26 : decode cL_law 26 = .ok (.istore 5, 2) := dk_54 5 (dk_at dksL_law_1 3 rfl rfl)
theorem dL_law_28 : decode cL_law 28 = .ok (.iload 5, 2) := dk_21 5 (dk_at dksL_law_1 5 rfl rfl)
theorem dL_law_30 : decode cL_law 30 = .ok (.aload_n 0, 1) := dk_42 (dk_at dksL_law_1 7 rfl rfl)
theorem dL_law_31 : decode cL_law 31 = .ok (.arraylength, 1) := dk_190 (dk_at dksL_law_1 8 rfl rfl)
theorem dL_law_32 : decode cL_law 32 = .ok (.iconst 3, 1) := dk_6 (dk_at dksL_law_1 9 rfl rfl)
theorem dL_law_33 : decode cL_law 33 = .ok (.isub, 1) := dk_100 (dk_at dksL_law_1 10 rfl rfl)
theorem dL_law_34 : decode cL_law 34 = .ok (.if_icmp .gt 2836, 3) := dk_163 11 20 (dk_at dksL_law_1 11 rfl rfl)
theorem dL_law_37 : decode cL_law 37 = .ok (.aload_n 0, 1) := dk_42 (dk_at dksL_law_1 14 rfl rfl)
theorem dL_law_38 : decode cL_law 38 = .ok (.iload 5, 2) := dk_21 5 (dk_at dksL_law_1 15 rfl rfl)
theorem dL_law_40 : decode cL_law 40 = .ok (.iaload, 1) := dk_46 (dk_at dksL_law_1 17 rfl rfl)
theorem dL_law_41 : decode cL_law 41 = .ok (.bipush 63, 2) := dk_16 63 (dk_at dksL_law_1 18 rfl rfl)
theorem dL_law_43 : decode cL_law 43 = .ok (.iand, 1) := dk_126 (dk_at dksL_law_1 20 rfl rfl)
theorem dL_law_44 : decode cL_law 44 = .ok (.tableswitch 2820 0 55 #[240, 308, 364, 420, 488, 532, 588, 644, 688, 756, 812, 880, 936, 992, 1048, 1104, 1172, 1235, 1291, 1347, 1403, 1447, 1510, 1523, 1579, 1592, 1605, 1618, 1674, 1730, 1743, 1799, 1855, 1911, 1955, 1968, 2043, 2087, 2100, 2113, 2169, 2225, 2238, 2251, 2309, 2353, 2366, 2450, 2463, 2476, 2532, 2588, 2653, 2719, 2763, 2776], 240) := by decide +kernel
theorem dL_law_284 : decode cL_law 284 = .ok (.aload_n 1, 1) := dk_43 (dk_at dksL_law_3 0 rfl rfl)
theorem dL_law_285 : decode cL_law 285 = .ok (.aload_n 0, 1) := dk_42 (dk_at dksL_law_3 1 rfl rfl)
theorem dL_law_286 : decode cL_law 286 = .ok (.iload 5, 2) := dk_21 5 (dk_at dksL_law_3 2 rfl rfl)
theorem dL_law_288 : decode cL_law 288 = .ok (.iconst 1, 1) := dk_4 (dk_at dksL_law_3 4 rfl rfl)
theorem dL_law_289 : decode cL_law 289 = .ok (.iadd, 1) := dk_96 (dk_at dksL_law_3 5 rfl rfl)
theorem dL_law_290 : decode cL_law 290 = .ok (.iaload, 1) := dk_46 (dk_at dksL_law_3 6 rfl rfl)
theorem dL_law_291 : decode cL_law 291 = .ok (.aload_n 0, 1) := dk_42 (dk_at dksL_law_3 7 rfl rfl)
theorem dL_law_292 : decode cL_law 292 = .ok (.iload 5, 2) := dk_21 5 (dk_at dksL_law_3 8 rfl rfl)
theorem dL_law_294 : decode cL_law 294 = .ok (.iconst 2, 1) := dk_5 (dk_at dksL_law_3 10 rfl rfl)
theorem dL_law_295 : decode cL_law 295 = .ok (.iadd, 1) := dk_96 (dk_at dksL_law_3 11 rfl rfl)
theorem dL_law_296 : decode cL_law 296 = .ok (.iaload, 1) := dk_46 (dk_at dksL_law_3 12 rfl rfl)
theorem dL_law_297 : decode cL_law 297 = .ok (.aload_n 3, 1) := dk_45 (dk_at dksL_law_3 13 rfl rfl)
theorem dL_law_298 : decode cL_law 298 = .ok (.invokestatic 161, 3) := dk_184 0 161 (dk_at dksL_law_3 14 rfl rfl)
theorem dL_law_301 : decode cL_law 301 = .ok (.istore 6, 2) := dk_54 6 (dk_at dksL_law_3 17 rfl rfl)
theorem dL_law_303 : decode cL_law 303 = .ok (.aload_n 2, 1) := dk_44 (dk_at dksL_law_3 19 rfl rfl)
theorem dL_law_304 : decode cL_law 304 = .ok (.aload_n 0, 1) := dk_42 (dk_at dksL_law_3 20 rfl rfl)
theorem dL_law_305 : decode cL_law 305 = .ok (.iload 5, 2) := dk_21 5 (dk_at dksL_law_3 21 rfl rfl)
theorem dL_law_307 : decode cL_law 307 = .ok (.iconst 1, 1) := dk_4 (dk_at dksL_law_3 23 rfl rfl)
theorem dL_law_308 : decode cL_law 308 = .ok (.iadd, 1) := dk_96 (dk_at dksL_law_4 0 rfl rfl)
theorem dL_law_309 : decode cL_law 309 = .ok (.iaload, 1) := dk_46 (dk_at dksL_law_4 1 rfl rfl)
theorem dL_law_310 : decode cL_law 310 = .ok (.aload_n 0, 1) := dk_42 (dk_at dksL_law_4 2 rfl rfl)
theorem dL_law_311 : decode cL_law 311 = .ok (.iload 5, 2) := dk_21 5 (dk_at dksL_law_4 3 rfl rfl)
theorem dL_law_313 : decode cL_law 313 = .ok (.iconst 2, 1) := dk_5 (dk_at dksL_law_4 5 rfl rfl)
theorem dL_law_314 : decode cL_law 314 = .ok (.iadd, 1) := dk_96 (dk_at dksL_law_4 6 rfl rfl)
theorem dL_law_315 : decode cL_law 315 = .ok (.iaload, 1) := dk_46 (dk_at dksL_law_4 7 rfl rfl)
theorem dL_law_316 : decode cL_law 316 = .ok (.invokevirtual 166, 3) := dk_182 0 166 (dk_at dksL_law_4 8 rfl rfl)
theorem dL_law_319 : decode cL_law 319 = .ok (.istore 7, 2) := dk_54 7 (dk_at dksL_law_4 11 rfl rfl)
theorem dL_law_321 : decode cL_law 321 = .ok (.aload_n 2, 1) := dk_44 (dk_at dksL_law_4 13 rfl rfl)
theorem dL_law_322 : decode cL_law 322 = .ok (.invokevirtual 167, 3) := dk_182 0 167 (dk_at dksL_law_4 14 rfl rfl)
theorem dL_law_325 : decode cL_law 325 = .ok (.iload 6, 2) := dk_21 6 (dk_at dksL_law_4 17 rfl rfl)
theorem dL_law_327 : decode cL_law 327 = .ok (.if_icmp .eq 5, 3) := dk_159 0 5 (dk_at dksL_law_4 19 rfl rfl)
theorem dL_law_330 : decode cL_law 330 = .ok (.iconst 0, 1) := dk_3 (dk_at dksL_law_4 22 rfl rfl)
theorem dL_law_331 : decode cL_law 331 = .ok (.ireturn, 1) := dk_172 (dk_at dksL_law_4 23 rfl rfl)
theorem dL_law_332 : decode cL_law 332 = .ok (.iload 6, 2) := dk_21 6 (dk_at dksL_law_5 0 rfl rfl)
theorem dL_law_334 : decode cL_law 334 = .ok (.ifCond .ne 15, 3) := dk_154 0 15 (dk_at dksL_law_5 2 rfl rfl)
theorem dL_law_337 : decode cL_law 337 = .ok (.aload_n 3, 1) := dk_45 (dk_at dksL_law_5 5 rfl rfl)
theorem dL_law_338 : decode cL_law 338 = .ok (.iconst 0, 1) := dk_3 (dk_at dksL_law_5 6 rfl rfl)
theorem dL_law_339 : decode cL_law 339 = .ok (.laload, 1) := dk_47 (dk_at dksL_law_5 7 rfl rfl)
theorem dL_law_340 : decode cL_law 340 = .ok (.iload 7, 2) := dk_21 7 (dk_at dksL_law_5 8 rfl rfl)
theorem dL_law_342 : decode cL_law 342 = .ok (.i2l, 1) := dk_133 (dk_at dksL_law_5 10 rfl rfl)
theorem dL_law_343 : decode cL_law 343 = .ok (.lcmp, 1) := dk_148 (dk_at dksL_law_5 11 rfl rfl)
theorem dL_law_344 : decode cL_law 344 = .ok (.ifCond .eq 5, 3) := dk_153 0 5 (dk_at dksL_law_5 12 rfl rfl)
theorem dL_law_347 : decode cL_law 347 = .ok (.iconst 0, 1) := dk_3 (dk_at dksL_law_5 15 rfl rfl)
theorem dL_law_348 : decode cL_law 348 = .ok (.ireturn, 1) := dk_172 (dk_at dksL_law_5 16 rfl rfl)
theorem dL_law_349 : decode cL_law 349 = .ok (.goto 2515, 3) := dk_167 9 211 (dk_at dksL_law_5 17 rfl rfl)
theorem dL_law_352 : decode cL_law 352 = .ok (.aload_n 1, 1) := dk_43 (dk_at dksL_law_5 20 rfl rfl)
theorem dL_law_353 : decode cL_law 353 = .ok (.aload_n 0, 1) := dk_42 (dk_at dksL_law_5 21 rfl rfl)
theorem dL_law_354 : decode cL_law 354 = .ok (.iload 5, 2) := dk_21 5 (dk_at dksL_law_5 22 rfl rfl)
theorem dL_law_356 : decode cL_law 356 = .ok (.iconst 1, 1) := dk_4 (dk_at dksL_law_6 0 rfl rfl)
theorem dL_law_357 : decode cL_law 357 = .ok (.iadd, 1) := dk_96 (dk_at dksL_law_6 1 rfl rfl)
theorem dL_law_358 : decode cL_law 358 = .ok (.iaload, 1) := dk_46 (dk_at dksL_law_6 2 rfl rfl)
theorem dL_law_359 : decode cL_law 359 = .ok (.aload_n 3, 1) := dk_45 (dk_at dksL_law_6 3 rfl rfl)
theorem dL_law_360 : decode cL_law 360 = .ok (.invokestatic 170, 3) := dk_184 0 170 (dk_at dksL_law_6 4 rfl rfl)
theorem dL_law_363 : decode cL_law 363 = .ok (.istore 6, 2) := dk_54 6 (dk_at dksL_law_6 7 rfl rfl)
theorem dL_law_365 : decode cL_law 365 = .ok (.aload_n 2, 1) := dk_44 (dk_at dksL_law_6 9 rfl rfl)
theorem dL_law_366 : decode cL_law 366 = .ok (.aload_n 0, 1) := dk_42 (dk_at dksL_law_6 10 rfl rfl)
theorem dL_law_367 : decode cL_law 367 = .ok (.iload 5, 2) := dk_21 5 (dk_at dksL_law_6 11 rfl rfl)
theorem dL_law_369 : decode cL_law 369 = .ok (.iconst 1, 1) := dk_4 (dk_at dksL_law_6 13 rfl rfl)
theorem dL_law_370 : decode cL_law 370 = .ok (.iadd, 1) := dk_96 (dk_at dksL_law_6 14 rfl rfl)
theorem dL_law_371 : decode cL_law 371 = .ok (.iaload, 1) := dk_46 (dk_at dksL_law_6 15 rfl rfl)
theorem dL_law_372 : decode cL_law 372 = .ok (.invokevirtual 173, 3) := dk_182 0 173 (dk_at dksL_law_6 16 rfl rfl)
theorem dL_law_375 : decode cL_law 375 = .ok (.istore 7, 2) := dk_54 7 (dk_at dksL_law_6 19 rfl rfl)
theorem dL_law_377 : decode cL_law 377 = .ok (.aload_n 2, 1) := dk_44 (dk_at dksL_law_6 21 rfl rfl)
theorem dL_law_378 : decode cL_law 378 = .ok (.invokevirtual 167, 3) := dk_182 0 167 (dk_at dksL_law_7 0 rfl rfl)
theorem dL_law_381 : decode cL_law 381 = .ok (.iload 6, 2) := dk_21 6 (dk_at dksL_law_7 3 rfl rfl)
theorem dL_law_383 : decode cL_law 383 = .ok (.if_icmp .eq 5, 3) := dk_159 0 5 (dk_at dksL_law_7 5 rfl rfl)
theorem dL_law_386 : decode cL_law 386 = .ok (.iconst 0, 1) := dk_3 (dk_at dksL_law_7 8 rfl rfl)
theorem dL_law_387 : decode cL_law 387 = .ok (.ireturn, 1) := dk_172 (dk_at dksL_law_7 9 rfl rfl)
theorem dL_law_388 : decode cL_law 388 = .ok (.iload 6, 2) := dk_21 6 (dk_at dksL_law_7 10 rfl rfl)
theorem dL_law_390 : decode cL_law 390 = .ok (.ifCond .ne 15, 3) := dk_154 0 15 (dk_at dksL_law_7 12 rfl rfl)
theorem dL_law_393 : decode cL_law 393 = .ok (.aload_n 3, 1) := dk_45 (dk_at dksL_law_7 15 rfl rfl)
theorem dL_law_394 : decode cL_law 394 = .ok (.iconst 0, 1) := dk_3 (dk_at dksL_law_7 16 rfl rfl)
theorem dL_law_395 : decode cL_law 395 = .ok (.laload, 1) := dk_47 (dk_at dksL_law_7 17 rfl rfl)
theorem dL_law_396 : decode cL_law 396 = .ok (.iload 7, 2) := dk_21 7 (dk_at dksL_law_7 18 rfl rfl)
theorem dL_law_398 : decode cL_law 398 = .ok (.i2l, 1) := dk_133 (dk_at dksL_law_7 20 rfl rfl)
theorem dL_law_399 : decode cL_law 399 = .ok (.lcmp, 1) := dk_148 (dk_at dksL_law_7 21 rfl rfl)
theorem dL_law_400 : decode cL_law 400 = .ok (.ifCond .eq 5, 3) := dk_153 0 5 (dk_at dksL_law_8 0 rfl rfl)
theorem dL_law_403 : decode cL_law 403 = .ok (.iconst 0, 1) := dk_3 (dk_at dksL_law_8 3 rfl rfl)
theorem dL_law_404 : decode cL_law 404 = .ok (.ireturn, 1) := dk_172 (dk_at dksL_law_8 4 rfl rfl)
theorem dL_law_405 : decode cL_law 405 = .ok (.goto 2459, 3) := dk_167 9 155 (dk_at dksL_law_8 5 rfl rfl)
theorem dL_law_408 : decode cL_law 408 = .ok (.aload_n 1, 1) := dk_43 (dk_at dksL_law_8 8 rfl rfl)
theorem dL_law_409 : decode cL_law 409 = .ok (.aload_n 0, 1) := dk_42 (dk_at dksL_law_8 9 rfl rfl)
theorem dL_law_410 : decode cL_law 410 = .ok (.iload 5, 2) := dk_21 5 (dk_at dksL_law_8 10 rfl rfl)
theorem dL_law_412 : decode cL_law 412 = .ok (.iconst 1, 1) := dk_4 (dk_at dksL_law_8 12 rfl rfl)
theorem dL_law_413 : decode cL_law 413 = .ok (.iadd, 1) := dk_96 (dk_at dksL_law_8 13 rfl rfl)
theorem dL_law_414 : decode cL_law 414 = .ok (.iaload, 1) := dk_46 (dk_at dksL_law_8 14 rfl rfl)
theorem dL_law_415 : decode cL_law 415 = .ok (.aload_n 3, 1) := dk_45 (dk_at dksL_law_8 15 rfl rfl)
theorem dL_law_416 : decode cL_law 416 = .ok (.invokestatic 174, 3) := dk_184 0 174 (dk_at dksL_law_8 16 rfl rfl)
theorem dL_law_419 : decode cL_law 419 = .ok (.istore 6, 2) := dk_54 6 (dk_at dksL_law_8 19 rfl rfl)
theorem dL_law_421 : decode cL_law 421 = .ok (.aload_n 2, 1) := dk_44 (dk_at dksL_law_8 21 rfl rfl)
theorem dL_law_422 : decode cL_law 422 = .ok (.aload_n 0, 1) := dk_42 (dk_at dksL_law_8 22 rfl rfl)
theorem dL_law_423 : decode cL_law 423 = .ok (.iload 5, 2) := dk_21 5 (dk_at dksL_law_9 0 rfl rfl)
theorem dL_law_425 : decode cL_law 425 = .ok (.iconst 1, 1) := dk_4 (dk_at dksL_law_9 2 rfl rfl)
theorem dL_law_426 : decode cL_law 426 = .ok (.iadd, 1) := dk_96 (dk_at dksL_law_9 3 rfl rfl)
theorem dL_law_427 : decode cL_law 427 = .ok (.iaload, 1) := dk_46 (dk_at dksL_law_9 4 rfl rfl)
theorem dL_law_428 : decode cL_law 428 = .ok (.invokevirtual 176, 3) := dk_182 0 176 (dk_at dksL_law_9 5 rfl rfl)
theorem dL_law_431 : decode cL_law 431 = .ok (.istore 7, 2) := dk_54 7 (dk_at dksL_law_9 8 rfl rfl)
theorem dL_law_433 : decode cL_law 433 = .ok (.aload_n 2, 1) := dk_44 (dk_at dksL_law_9 10 rfl rfl)
theorem dL_law_434 : decode cL_law 434 = .ok (.invokevirtual 167, 3) := dk_182 0 167 (dk_at dksL_law_9 11 rfl rfl)
theorem dL_law_437 : decode cL_law 437 = .ok (.iload 6, 2) := dk_21 6 (dk_at dksL_law_9 14 rfl rfl)
theorem dL_law_439 : decode cL_law 439 = .ok (.if_icmp .eq 5, 3) := dk_159 0 5 (dk_at dksL_law_9 16 rfl rfl)
theorem dL_law_442 : decode cL_law 442 = .ok (.iconst 0, 1) := dk_3 (dk_at dksL_law_9 19 rfl rfl)
theorem dL_law_443 : decode cL_law 443 = .ok (.ireturn, 1) := dk_172 (dk_at dksL_law_9 20 rfl rfl)
theorem dL_law_444 : decode cL_law 444 = .ok (.iload 6, 2) := dk_21 6 (dk_at dksL_law_9 21 rfl rfl)
theorem dL_law_446 : decode cL_law 446 = .ok (.ifCond .ne 15, 3) := dk_154 0 15 (dk_at dksL_law_10 0 rfl rfl)
theorem dL_law_449 : decode cL_law 449 = .ok (.aload_n 3, 1) := dk_45 (dk_at dksL_law_10 3 rfl rfl)
theorem dL_law_450 : decode cL_law 450 = .ok (.iconst 0, 1) := dk_3 (dk_at dksL_law_10 4 rfl rfl)
theorem dL_law_451 : decode cL_law 451 = .ok (.laload, 1) := dk_47 (dk_at dksL_law_10 5 rfl rfl)
theorem dL_law_452 : decode cL_law 452 = .ok (.iload 7, 2) := dk_21 7 (dk_at dksL_law_10 6 rfl rfl)
theorem dL_law_454 : decode cL_law 454 = .ok (.i2l, 1) := dk_133 (dk_at dksL_law_10 8 rfl rfl)
theorem dL_law_455 : decode cL_law 455 = .ok (.lcmp, 1) := dk_148 (dk_at dksL_law_10 9 rfl rfl)
theorem dL_law_456 : decode cL_law 456 = .ok (.ifCond .eq 5, 3) := dk_153 0 5 (dk_at dksL_law_10 10 rfl rfl)
theorem dL_law_459 : decode cL_law 459 = .ok (.iconst 0, 1) := dk_3 (dk_at dksL_law_10 13 rfl rfl)
theorem dL_law_460 : decode cL_law 460 = .ok (.ireturn, 1) := dk_172 (dk_at dksL_law_10 14 rfl rfl)
theorem dL_law_461 : decode cL_law 461 = .ok (.goto 2403, 3) := dk_167 9 99 (dk_at dksL_law_10 15 rfl rfl)
theorem dL_law_464 : decode cL_law 464 = .ok (.aload_n 1, 1) := dk_43 (dk_at dksL_law_10 18 rfl rfl)
theorem dL_law_465 : decode cL_law 465 = .ok (.aload_n 0, 1) := dk_42 (dk_at dksL_law_10 19 rfl rfl)
theorem dL_law_466 : decode cL_law 466 = .ok (.iload 5, 2) := dk_21 5 (dk_at dksL_law_10 20 rfl rfl)
theorem dL_law_468 : decode cL_law 468 = .ok (.iconst 1, 1) := dk_4 (dk_at dksL_law_10 22 rfl rfl)
theorem dL_law_469 : decode cL_law 469 = .ok (.iadd, 1) := dk_96 (dk_at dksL_law_10 23 rfl rfl)
theorem dL_law_470 : decode cL_law 470 = .ok (.iaload, 1) := dk_46 (dk_at dksL_law_11 0 rfl rfl)
theorem dL_law_471 : decode cL_law 471 = .ok (.aload_n 0, 1) := dk_42 (dk_at dksL_law_11 1 rfl rfl)
theorem dL_law_472 : decode cL_law 472 = .ok (.iload 5, 2) := dk_21 5 (dk_at dksL_law_11 2 rfl rfl)
theorem dL_law_474 : decode cL_law 474 = .ok (.iconst 2, 1) := dk_5 (dk_at dksL_law_11 4 rfl rfl)
theorem dL_law_475 : decode cL_law 475 = .ok (.iadd, 1) := dk_96 (dk_at dksL_law_11 5 rfl rfl)
theorem dL_law_476 : decode cL_law 476 = .ok (.iaload, 1) := dk_46 (dk_at dksL_law_11 6 rfl rfl)
theorem dL_law_477 : decode cL_law 477 = .ok (.aload_n 3, 1) := dk_45 (dk_at dksL_law_11 7 rfl rfl)
theorem dL_law_478 : decode cL_law 478 = .ok (.invokestatic 177, 3) := dk_184 0 177 (dk_at dksL_law_11 8 rfl rfl)
theorem dL_law_481 : decode cL_law 481 = .ok (.istore 6, 2) := dk_54 6 (dk_at dksL_law_11 11 rfl rfl)
theorem dL_law_483 : decode cL_law 483 = .ok (.aload_n 2, 1) := dk_44 (dk_at dksL_law_11 13 rfl rfl)
theorem dL_law_484 : decode cL_law 484 = .ok (.aload_n 0, 1) := dk_42 (dk_at dksL_law_11 14 rfl rfl)
theorem dL_law_485 : decode cL_law 485 = .ok (.iload 5, 2) := dk_21 5 (dk_at dksL_law_11 15 rfl rfl)
theorem dL_law_487 : decode cL_law 487 = .ok (.iconst 1, 1) := dk_4 (dk_at dksL_law_11 17 rfl rfl)
theorem dL_law_488 : decode cL_law 488 = .ok (.iadd, 1) := dk_96 (dk_at dksL_law_11 18 rfl rfl)
theorem dL_law_489 : decode cL_law 489 = .ok (.iaload, 1) := dk_46 (dk_at dksL_law_11 19 rfl rfl)
theorem dL_law_490 : decode cL_law 490 = .ok (.aload_n 0, 1) := dk_42 (dk_at dksL_law_11 20 rfl rfl)
theorem dL_law_491 : decode cL_law 491 = .ok (.iload 5, 2) := dk_21 5 (dk_at dksL_law_11 21 rfl rfl)
theorem dL_law_493 : decode cL_law 493 = .ok (.iconst 2, 1) := dk_5 (dk_at dksL_law_11 23 rfl rfl)
theorem dL_law_494 : decode cL_law 494 = .ok (.iadd, 1) := dk_96 (dk_at dksL_law_12 0 rfl rfl)
theorem dL_law_495 : decode cL_law 495 = .ok (.iaload, 1) := dk_46 (dk_at dksL_law_12 1 rfl rfl)
theorem dL_law_496 : decode cL_law 496 = .ok (.invokevirtual 179, 3) := dk_182 0 179 (dk_at dksL_law_12 2 rfl rfl)
theorem dL_law_499 : decode cL_law 499 = .ok (.istore 7, 2) := dk_54 7 (dk_at dksL_law_12 5 rfl rfl)
theorem dL_law_501 : decode cL_law 501 = .ok (.aload_n 2, 1) := dk_44 (dk_at dksL_law_12 7 rfl rfl)
theorem dL_law_502 : decode cL_law 502 = .ok (.invokevirtual 167, 3) := dk_182 0 167 (dk_at dksL_law_12 8 rfl rfl)
theorem dL_law_505 : decode cL_law 505 = .ok (.iload 6, 2) := dk_21 6 (dk_at dksL_law_12 11 rfl rfl)
theorem dL_law_507 : decode cL_law 507 = .ok (.if_icmp .eq 5, 3) := dk_159 0 5 (dk_at dksL_law_12 13 rfl rfl)
theorem dL_law_510 : decode cL_law 510 = .ok (.iconst 0, 1) := dk_3 (dk_at dksL_law_12 16 rfl rfl)
theorem dL_law_511 : decode cL_law 511 = .ok (.ireturn, 1) := dk_172 (dk_at dksL_law_12 17 rfl rfl)
theorem dL_law_512 : decode cL_law 512 = .ok (.iload 6, 2) := dk_21 6 (dk_at dksL_law_12 18 rfl rfl)
theorem dL_law_514 : decode cL_law 514 = .ok (.ifCond .ne 15, 3) := dk_154 0 15 (dk_at dksL_law_12 20 rfl rfl)
theorem dL_law_517 : decode cL_law 517 = .ok (.aload_n 3, 1) := dk_45 (dk_at dksL_law_12 23 rfl rfl)
theorem dL_law_518 : decode cL_law 518 = .ok (.iconst 0, 1) := dk_3 (dk_at dksL_law_13 0 rfl rfl)
theorem dL_law_519 : decode cL_law 519 = .ok (.laload, 1) := dk_47 (dk_at dksL_law_13 1 rfl rfl)
theorem dL_law_520 : decode cL_law 520 = .ok (.iload 7, 2) := dk_21 7 (dk_at dksL_law_13 2 rfl rfl)
theorem dL_law_522 : decode cL_law 522 = .ok (.i2l, 1) := dk_133 (dk_at dksL_law_13 4 rfl rfl)
theorem dL_law_523 : decode cL_law 523 = .ok (.lcmp, 1) := dk_148 (dk_at dksL_law_13 5 rfl rfl)
theorem dL_law_524 : decode cL_law 524 = .ok (.ifCond .eq 5, 3) := dk_153 0 5 (dk_at dksL_law_13 6 rfl rfl)
theorem dL_law_527 : decode cL_law 527 = .ok (.iconst 0, 1) := dk_3 (dk_at dksL_law_13 9 rfl rfl)
theorem dL_law_528 : decode cL_law 528 = .ok (.ireturn, 1) := dk_172 (dk_at dksL_law_13 10 rfl rfl)
theorem dL_law_529 : decode cL_law 529 = .ok (.goto 2335, 3) := dk_167 9 31 (dk_at dksL_law_13 11 rfl rfl)
theorem dL_law_532 : decode cL_law 532 = .ok (.aload_n 1, 1) := dk_43 (dk_at dksL_law_13 14 rfl rfl)
theorem dL_law_533 : decode cL_law 533 = .ok (.aload_n 3, 1) := dk_45 (dk_at dksL_law_13 15 rfl rfl)
theorem dL_law_534 : decode cL_law 534 = .ok (.invokestatic 180, 3) := dk_184 0 180 (dk_at dksL_law_13 16 rfl rfl)
theorem dL_law_537 : decode cL_law 537 = .ok (.istore 6, 2) := dk_54 6 (dk_at dksL_law_13 19 rfl rfl)
theorem dL_law_539 : decode cL_law 539 = .ok (.aload_n 2, 1) := dk_44 (dk_at dksL_law_13 21 rfl rfl)
theorem dL_law_540 : decode cL_law 540 = .ok (.invokevirtual 183, 3) := dk_182 0 183 (dk_at dksL_law_14 0 rfl rfl)
theorem dL_law_543 : decode cL_law 543 = .ok (.istore 7, 2) := dk_54 7 (dk_at dksL_law_14 3 rfl rfl)
theorem dL_law_545 : decode cL_law 545 = .ok (.aload_n 2, 1) := dk_44 (dk_at dksL_law_14 5 rfl rfl)
theorem dL_law_546 : decode cL_law 546 = .ok (.invokevirtual 167, 3) := dk_182 0 167 (dk_at dksL_law_14 6 rfl rfl)
theorem dL_law_549 : decode cL_law 549 = .ok (.iload 6, 2) := dk_21 6 (dk_at dksL_law_14 9 rfl rfl)
theorem dL_law_551 : decode cL_law 551 = .ok (.if_icmp .eq 5, 3) := dk_159 0 5 (dk_at dksL_law_14 11 rfl rfl)
theorem dL_law_554 : decode cL_law 554 = .ok (.iconst 0, 1) := dk_3 (dk_at dksL_law_14 14 rfl rfl)
theorem dL_law_555 : decode cL_law 555 = .ok (.ireturn, 1) := dk_172 (dk_at dksL_law_14 15 rfl rfl)
theorem dL_law_556 : decode cL_law 556 = .ok (.iload 6, 2) := dk_21 6 (dk_at dksL_law_14 16 rfl rfl)
theorem dL_law_558 : decode cL_law 558 = .ok (.ifCond .ne 15, 3) := dk_154 0 15 (dk_at dksL_law_14 18 rfl rfl)
theorem dL_law_561 : decode cL_law 561 = .ok (.aload_n 3, 1) := dk_45 (dk_at dksL_law_14 21 rfl rfl)
theorem dL_law_562 : decode cL_law 562 = .ok (.iconst 0, 1) := dk_3 (dk_at dksL_law_14 22 rfl rfl)
theorem dL_law_563 : decode cL_law 563 = .ok (.laload, 1) := dk_47 (dk_at dksL_law_14 23 rfl rfl)
theorem dL_law_564 : decode cL_law 564 = .ok (.iload 7, 2) := dk_21 7 (dk_at dksL_law_15 0 rfl rfl)
theorem dL_law_566 : decode cL_law 566 = .ok (.i2l, 1) := dk_133 (dk_at dksL_law_15 2 rfl rfl)
theorem dL_law_567 : decode cL_law 567 = .ok (.lcmp, 1) := dk_148 (dk_at dksL_law_15 3 rfl rfl)
theorem dL_law_568 : decode cL_law 568 = .ok (.ifCond .eq 5, 3) := dk_153 0 5 (dk_at dksL_law_15 4 rfl rfl)
theorem dL_law_571 : decode cL_law 571 = .ok (.iconst 0, 1) := dk_3 (dk_at dksL_law_15 7 rfl rfl)
theorem dL_law_572 : decode cL_law 572 = .ok (.ireturn, 1) := dk_172 (dk_at dksL_law_15 8 rfl rfl)
theorem dL_law_573 : decode cL_law 573 = .ok (.goto 2291, 3) := dk_167 8 243 (dk_at dksL_law_15 9 rfl rfl)
theorem dL_law_576 : decode cL_law 576 = .ok (.aload_n 1, 1) := dk_43 (dk_at dksL_law_15 12 rfl rfl)
theorem dL_law_577 : decode cL_law 577 = .ok (.aload_n 0, 1) := dk_42 (dk_at dksL_law_15 13 rfl rfl)
theorem dL_law_578 : decode cL_law 578 = .ok (.iload 5, 2) := dk_21 5 (dk_at dksL_law_15 14 rfl rfl)
theorem dL_law_580 : decode cL_law 580 = .ok (.iconst 1, 1) := dk_4 (dk_at dksL_law_15 16 rfl rfl)
theorem dL_law_581 : decode cL_law 581 = .ok (.iadd, 1) := dk_96 (dk_at dksL_law_15 17 rfl rfl)
theorem dL_law_582 : decode cL_law 582 = .ok (.iaload, 1) := dk_46 (dk_at dksL_law_15 18 rfl rfl)
theorem dL_law_583 : decode cL_law 583 = .ok (.aload_n 3, 1) := dk_45 (dk_at dksL_law_15 19 rfl rfl)
theorem dL_law_584 : decode cL_law 584 = .ok (.invokestatic 184, 3) := dk_184 0 184 (dk_at dksL_law_15 20 rfl rfl)
theorem dL_law_587 : decode cL_law 587 = .ok (.istore 6, 2) := dk_54 6 (dk_at dksL_law_16 0 rfl rfl)
theorem dL_law_589 : decode cL_law 589 = .ok (.aload_n 2, 1) := dk_44 (dk_at dksL_law_16 2 rfl rfl)
theorem dL_law_590 : decode cL_law 590 = .ok (.aload_n 0, 1) := dk_42 (dk_at dksL_law_16 3 rfl rfl)
theorem dL_law_591 : decode cL_law 591 = .ok (.iload 5, 2) := dk_21 5 (dk_at dksL_law_16 4 rfl rfl)
theorem dL_law_593 : decode cL_law 593 = .ok (.iconst 1, 1) := dk_4 (dk_at dksL_law_16 6 rfl rfl)
theorem dL_law_594 : decode cL_law 594 = .ok (.iadd, 1) := dk_96 (dk_at dksL_law_16 7 rfl rfl)
theorem dL_law_595 : decode cL_law 595 = .ok (.iaload, 1) := dk_46 (dk_at dksL_law_16 8 rfl rfl)
theorem dL_law_596 : decode cL_law 596 = .ok (.invokevirtual 186, 3) := dk_182 0 186 (dk_at dksL_law_16 9 rfl rfl)
theorem dL_law_599 : decode cL_law 599 = .ok (.istore 7, 2) := dk_54 7 (dk_at dksL_law_16 12 rfl rfl)
theorem dL_law_601 : decode cL_law 601 = .ok (.aload_n 2, 1) := dk_44 (dk_at dksL_law_16 14 rfl rfl)
theorem dL_law_602 : decode cL_law 602 = .ok (.invokevirtual 167, 3) := dk_182 0 167 (dk_at dksL_law_16 15 rfl rfl)
theorem dL_law_605 : decode cL_law 605 = .ok (.iload 6, 2) := dk_21 6 (dk_at dksL_law_16 18 rfl rfl)
theorem dL_law_607 : decode cL_law 607 = .ok (.if_icmp .eq 5, 3) := dk_159 0 5 (dk_at dksL_law_16 20 rfl rfl)
theorem dL_law_610 : decode cL_law 610 = .ok (.iconst 0, 1) := dk_3 (dk_at dksL_law_16 23 rfl rfl)
theorem dL_law_611 : decode cL_law 611 = .ok (.ireturn, 1) := dk_172 (dk_at dksL_law_17 0 rfl rfl)
theorem dL_law_612 : decode cL_law 612 = .ok (.iload 6, 2) := dk_21 6 (dk_at dksL_law_17 1 rfl rfl)
theorem dL_law_614 : decode cL_law 614 = .ok (.ifCond .ne 15, 3) := dk_154 0 15 (dk_at dksL_law_17 3 rfl rfl)
theorem dL_law_617 : decode cL_law 617 = .ok (.aload_n 3, 1) := dk_45 (dk_at dksL_law_17 6 rfl rfl)
theorem dL_law_618 : decode cL_law 618 = .ok (.iconst 0, 1) := dk_3 (dk_at dksL_law_17 7 rfl rfl)
theorem dL_law_619 : decode cL_law 619 = .ok (.laload, 1) := dk_47 (dk_at dksL_law_17 8 rfl rfl)
theorem dL_law_620 : decode cL_law 620 = .ok (.iload 7, 2) := dk_21 7 (dk_at dksL_law_17 9 rfl rfl)
theorem dL_law_622 : decode cL_law 622 = .ok (.i2l, 1) := dk_133 (dk_at dksL_law_17 11 rfl rfl)
theorem dL_law_623 : decode cL_law 623 = .ok (.lcmp, 1) := dk_148 (dk_at dksL_law_17 12 rfl rfl)
theorem dL_law_624 : decode cL_law 624 = .ok (.ifCond .eq 5, 3) := dk_153 0 5 (dk_at dksL_law_17 13 rfl rfl)
theorem dL_law_627 : decode cL_law 627 = .ok (.iconst 0, 1) := dk_3 (dk_at dksL_law_17 16 rfl rfl)
theorem dL_law_628 : decode cL_law 628 = .ok (.ireturn, 1) := dk_172 (dk_at dksL_law_17 17 rfl rfl)
theorem dL_law_629 : decode cL_law 629 = .ok (.goto 2235, 3) := dk_167 8 187 (dk_at dksL_law_17 18 rfl rfl)
theorem dL_law_632 : decode cL_law 632 = .ok (.aload_n 1, 1) := dk_43 (dk_at dksL_law_17 21 rfl rfl)
theorem dL_law_633 : decode cL_law 633 = .ok (.aload_n 0, 1) := dk_42 (dk_at dksL_law_17 22 rfl rfl)
theorem dL_law_634 : decode cL_law 634 = .ok (.iload 5, 2) := dk_21 5 (dk_at dksL_law_18 0 rfl rfl)
theorem dL_law_636 : decode cL_law 636 = .ok (.iconst 1, 1) := dk_4 (dk_at dksL_law_18 2 rfl rfl)
theorem dL_law_637 : decode cL_law 637 = .ok (.iadd, 1) := dk_96 (dk_at dksL_law_18 3 rfl rfl)
theorem dL_law_638 : decode cL_law 638 = .ok (.iaload, 1) := dk_46 (dk_at dksL_law_18 4 rfl rfl)
theorem dL_law_639 : decode cL_law 639 = .ok (.aload_n 3, 1) := dk_45 (dk_at dksL_law_18 5 rfl rfl)
theorem dL_law_640 : decode cL_law 640 = .ok (.invokestatic 187, 3) := dk_184 0 187 (dk_at dksL_law_18 6 rfl rfl)
theorem dL_law_643 : decode cL_law 643 = .ok (.istore 6, 2) := dk_54 6 (dk_at dksL_law_18 9 rfl rfl)
theorem dL_law_645 : decode cL_law 645 = .ok (.aload_n 2, 1) := dk_44 (dk_at dksL_law_18 11 rfl rfl)
theorem dL_law_646 : decode cL_law 646 = .ok (.aload_n 0, 1) := dk_42 (dk_at dksL_law_18 12 rfl rfl)
theorem dL_law_647 : decode cL_law 647 = .ok (.iload 5, 2) := dk_21 5 (dk_at dksL_law_18 13 rfl rfl)
theorem dL_law_649 : decode cL_law 649 = .ok (.iconst 1, 1) := dk_4 (dk_at dksL_law_18 15 rfl rfl)
theorem dL_law_650 : decode cL_law 650 = .ok (.iadd, 1) := dk_96 (dk_at dksL_law_18 16 rfl rfl)
theorem dL_law_651 : decode cL_law 651 = .ok (.iaload, 1) := dk_46 (dk_at dksL_law_18 17 rfl rfl)
theorem dL_law_652 : decode cL_law 652 = .ok (.invokevirtual 189, 3) := dk_182 0 189 (dk_at dksL_law_18 18 rfl rfl)
theorem dL_law_655 : decode cL_law 655 = .ok (.istore 7, 2) := dk_54 7 (dk_at dksL_law_18 21 rfl rfl)
theorem dL_law_657 : decode cL_law 657 = .ok (.aload_n 2, 1) := dk_44 (dk_at dksL_law_18 23 rfl rfl)
theorem dL_law_658 : decode cL_law 658 = .ok (.invokevirtual 167, 3) := dk_182 0 167 (dk_at dksL_law_19 0 rfl rfl)
theorem dL_law_661 : decode cL_law 661 = .ok (.iload 6, 2) := dk_21 6 (dk_at dksL_law_19 3 rfl rfl)
theorem dL_law_663 : decode cL_law 663 = .ok (.if_icmp .eq 5, 3) := dk_159 0 5 (dk_at dksL_law_19 5 rfl rfl)
theorem dL_law_666 : decode cL_law 666 = .ok (.iconst 0, 1) := dk_3 (dk_at dksL_law_19 8 rfl rfl)
theorem dL_law_667 : decode cL_law 667 = .ok (.ireturn, 1) := dk_172 (dk_at dksL_law_19 9 rfl rfl)
theorem dL_law_668 : decode cL_law 668 = .ok (.iload 6, 2) := dk_21 6 (dk_at dksL_law_19 10 rfl rfl)
theorem dL_law_670 : decode cL_law 670 = .ok (.ifCond .ne 15, 3) := dk_154 0 15 (dk_at dksL_law_19 12 rfl rfl)
theorem dL_law_673 : decode cL_law 673 = .ok (.aload_n 3, 1) := dk_45 (dk_at dksL_law_19 15 rfl rfl)
theorem dL_law_674 : decode cL_law 674 = .ok (.iconst 0, 1) := dk_3 (dk_at dksL_law_19 16 rfl rfl)
theorem dL_law_675 : decode cL_law 675 = .ok (.laload, 1) := dk_47 (dk_at dksL_law_19 17 rfl rfl)
theorem dL_law_676 : decode cL_law 676 = .ok (.iload 7, 2) := dk_21 7 (dk_at dksL_law_19 18 rfl rfl)
theorem dL_law_678 : decode cL_law 678 = .ok (.i2l, 1) := dk_133 (dk_at dksL_law_19 20 rfl rfl)
theorem dL_law_679 : decode cL_law 679 = .ok (.lcmp, 1) := dk_148 (dk_at dksL_law_19 21 rfl rfl)
theorem dL_law_680 : decode cL_law 680 = .ok (.ifCond .eq 5, 3) := dk_153 0 5 (dk_at dksL_law_20 0 rfl rfl)
theorem dL_law_683 : decode cL_law 683 = .ok (.iconst 0, 1) := dk_3 (dk_at dksL_law_20 3 rfl rfl)
theorem dL_law_684 : decode cL_law 684 = .ok (.ireturn, 1) := dk_172 (dk_at dksL_law_20 4 rfl rfl)
theorem dL_law_685 : decode cL_law 685 = .ok (.goto 2179, 3) := dk_167 8 131 (dk_at dksL_law_20 5 rfl rfl)
theorem dL_law_688 : decode cL_law 688 = .ok (.aload_n 1, 1) := dk_43 (dk_at dksL_law_20 8 rfl rfl)
theorem dL_law_689 : decode cL_law 689 = .ok (.aload_n 3, 1) := dk_45 (dk_at dksL_law_20 9 rfl rfl)
theorem dL_law_690 : decode cL_law 690 = .ok (.invokestatic 190, 3) := dk_184 0 190 (dk_at dksL_law_20 10 rfl rfl)
theorem dL_law_693 : decode cL_law 693 = .ok (.istore 6, 2) := dk_54 6 (dk_at dksL_law_20 13 rfl rfl)
theorem dL_law_695 : decode cL_law 695 = .ok (.aload_n 2, 1) := dk_44 (dk_at dksL_law_20 15 rfl rfl)
theorem dL_law_696 : decode cL_law 696 = .ok (.invokevirtual 192, 3) := dk_182 0 192 (dk_at dksL_law_20 16 rfl rfl)
theorem dL_law_699 : decode cL_law 699 = .ok (.istore 7, 2) := dk_54 7 (dk_at dksL_law_20 19 rfl rfl)
theorem dL_law_701 : decode cL_law 701 = .ok (.aload_n 2, 1) := dk_44 (dk_at dksL_law_20 21 rfl rfl)
theorem dL_law_702 : decode cL_law 702 = .ok (.invokevirtual 167, 3) := dk_182 0 167 (dk_at dksL_law_21 0 rfl rfl)
theorem dL_law_705 : decode cL_law 705 = .ok (.iload 6, 2) := dk_21 6 (dk_at dksL_law_21 3 rfl rfl)
theorem dL_law_707 : decode cL_law 707 = .ok (.if_icmp .eq 5, 3) := dk_159 0 5 (dk_at dksL_law_21 5 rfl rfl)
theorem dL_law_710 : decode cL_law 710 = .ok (.iconst 0, 1) := dk_3 (dk_at dksL_law_21 8 rfl rfl)
theorem dL_law_711 : decode cL_law 711 = .ok (.ireturn, 1) := dk_172 (dk_at dksL_law_21 9 rfl rfl)
theorem dL_law_712 : decode cL_law 712 = .ok (.iload 6, 2) := dk_21 6 (dk_at dksL_law_21 10 rfl rfl)
theorem dL_law_714 : decode cL_law 714 = .ok (.ifCond .ne 15, 3) := dk_154 0 15 (dk_at dksL_law_21 12 rfl rfl)
theorem dL_law_717 : decode cL_law 717 = .ok (.aload_n 3, 1) := dk_45 (dk_at dksL_law_21 15 rfl rfl)
theorem dL_law_718 : decode cL_law 718 = .ok (.iconst 0, 1) := dk_3 (dk_at dksL_law_21 16 rfl rfl)
theorem dL_law_719 : decode cL_law 719 = .ok (.laload, 1) := dk_47 (dk_at dksL_law_21 17 rfl rfl)
theorem dL_law_720 : decode cL_law 720 = .ok (.iload 7, 2) := dk_21 7 (dk_at dksL_law_21 18 rfl rfl)
theorem dL_law_722 : decode cL_law 722 = .ok (.i2l, 1) := dk_133 (dk_at dksL_law_21 20 rfl rfl)
theorem dL_law_723 : decode cL_law 723 = .ok (.lcmp, 1) := dk_148 (dk_at dksL_law_21 21 rfl rfl)
theorem dL_law_724 : decode cL_law 724 = .ok (.ifCond .eq 5, 3) := dk_153 0 5 (dk_at dksL_law_22 0 rfl rfl)
theorem dL_law_727 : decode cL_law 727 = .ok (.iconst 0, 1) := dk_3 (dk_at dksL_law_22 3 rfl rfl)
theorem dL_law_728 : decode cL_law 728 = .ok (.ireturn, 1) := dk_172 (dk_at dksL_law_22 4 rfl rfl)
theorem dL_law_729 : decode cL_law 729 = .ok (.goto 2135, 3) := dk_167 8 87 (dk_at dksL_law_22 5 rfl rfl)
theorem dL_law_732 : decode cL_law 732 = .ok (.aload_n 1, 1) := dk_43 (dk_at dksL_law_22 8 rfl rfl)
theorem dL_law_733 : decode cL_law 733 = .ok (.aload_n 0, 1) := dk_42 (dk_at dksL_law_22 9 rfl rfl)
theorem dL_law_734 : decode cL_law 734 = .ok (.iload 5, 2) := dk_21 5 (dk_at dksL_law_22 10 rfl rfl)
theorem dL_law_736 : decode cL_law 736 = .ok (.iconst 1, 1) := dk_4 (dk_at dksL_law_22 12 rfl rfl)
theorem dL_law_737 : decode cL_law 737 = .ok (.iadd, 1) := dk_96 (dk_at dksL_law_22 13 rfl rfl)
theorem dL_law_738 : decode cL_law 738 = .ok (.iaload, 1) := dk_46 (dk_at dksL_law_22 14 rfl rfl)
theorem dL_law_739 : decode cL_law 739 = .ok (.aload_n 0, 1) := dk_42 (dk_at dksL_law_22 15 rfl rfl)
theorem dL_law_740 : decode cL_law 740 = .ok (.iload 5, 2) := dk_21 5 (dk_at dksL_law_22 16 rfl rfl)
theorem dL_law_742 : decode cL_law 742 = .ok (.iconst 2, 1) := dk_5 (dk_at dksL_law_22 18 rfl rfl)
theorem dL_law_743 : decode cL_law 743 = .ok (.iadd, 1) := dk_96 (dk_at dksL_law_22 19 rfl rfl)
theorem dL_law_744 : decode cL_law 744 = .ok (.iaload, 1) := dk_46 (dk_at dksL_law_22 20 rfl rfl)
theorem dL_law_745 : decode cL_law 745 = .ok (.aload_n 3, 1) := dk_45 (dk_at dksL_law_22 21 rfl rfl)
theorem dL_law_746 : decode cL_law 746 = .ok (.invokestatic 193, 3) := dk_184 0 193 (dk_at dksL_law_23 0 rfl rfl)
theorem dL_law_749 : decode cL_law 749 = .ok (.istore 6, 2) := dk_54 6 (dk_at dksL_law_23 3 rfl rfl)
theorem dL_law_751 : decode cL_law 751 = .ok (.aload_n 2, 1) := dk_44 (dk_at dksL_law_23 5 rfl rfl)
theorem dL_law_752 : decode cL_law 752 = .ok (.aload_n 0, 1) := dk_42 (dk_at dksL_law_23 6 rfl rfl)
theorem dL_law_753 : decode cL_law 753 = .ok (.iload 5, 2) := dk_21 5 (dk_at dksL_law_23 7 rfl rfl)
theorem dL_law_755 : decode cL_law 755 = .ok (.iconst 1, 1) := dk_4 (dk_at dksL_law_23 9 rfl rfl)
theorem dL_law_756 : decode cL_law 756 = .ok (.iadd, 1) := dk_96 (dk_at dksL_law_23 10 rfl rfl)
theorem dL_law_757 : decode cL_law 757 = .ok (.iaload, 1) := dk_46 (dk_at dksL_law_23 11 rfl rfl)
theorem dL_law_758 : decode cL_law 758 = .ok (.aload_n 0, 1) := dk_42 (dk_at dksL_law_23 12 rfl rfl)
theorem dL_law_759 : decode cL_law 759 = .ok (.iload 5, 2) := dk_21 5 (dk_at dksL_law_23 13 rfl rfl)
theorem dL_law_761 : decode cL_law 761 = .ok (.iconst 2, 1) := dk_5 (dk_at dksL_law_23 15 rfl rfl)
theorem dL_law_762 : decode cL_law 762 = .ok (.iadd, 1) := dk_96 (dk_at dksL_law_23 16 rfl rfl)
theorem dL_law_763 : decode cL_law 763 = .ok (.iaload, 1) := dk_46 (dk_at dksL_law_23 17 rfl rfl)
theorem dL_law_764 : decode cL_law 764 = .ok (.invokevirtual 195, 3) := dk_182 0 195 (dk_at dksL_law_23 18 rfl rfl)
theorem dL_law_767 : decode cL_law 767 = .ok (.istore 7, 2) := dk_54 7 (dk_at dksL_law_23 21 rfl rfl)
theorem dL_law_769 : decode cL_law 769 = .ok (.aload_n 2, 1) := dk_44 (dk_at dksL_law_23 23 rfl rfl)
theorem dL_law_770 : decode cL_law 770 = .ok (.invokevirtual 167, 3) := dk_182 0 167 (dk_at dksL_law_24 0 rfl rfl)
theorem dL_law_773 : decode cL_law 773 = .ok (.iload 6, 2) := dk_21 6 (dk_at dksL_law_24 3 rfl rfl)
theorem dL_law_775 : decode cL_law 775 = .ok (.if_icmp .eq 5, 3) := dk_159 0 5 (dk_at dksL_law_24 5 rfl rfl)
theorem dL_law_778 : decode cL_law 778 = .ok (.iconst 0, 1) := dk_3 (dk_at dksL_law_24 8 rfl rfl)
theorem dL_law_779 : decode cL_law 779 = .ok (.ireturn, 1) := dk_172 (dk_at dksL_law_24 9 rfl rfl)
theorem dL_law_780 : decode cL_law 780 = .ok (.iload 6, 2) := dk_21 6 (dk_at dksL_law_24 10 rfl rfl)
theorem dL_law_782 : decode cL_law 782 = .ok (.ifCond .ne 15, 3) := dk_154 0 15 (dk_at dksL_law_24 12 rfl rfl)
theorem dL_law_785 : decode cL_law 785 = .ok (.aload_n 3, 1) := dk_45 (dk_at dksL_law_24 15 rfl rfl)
theorem dL_law_786 : decode cL_law 786 = .ok (.iconst 0, 1) := dk_3 (dk_at dksL_law_24 16 rfl rfl)
theorem dL_law_787 : decode cL_law 787 = .ok (.laload, 1) := dk_47 (dk_at dksL_law_24 17 rfl rfl)
theorem dL_law_788 : decode cL_law 788 = .ok (.iload 7, 2) := dk_21 7 (dk_at dksL_law_24 18 rfl rfl)
theorem dL_law_790 : decode cL_law 790 = .ok (.i2l, 1) := dk_133 (dk_at dksL_law_24 20 rfl rfl)
theorem dL_law_791 : decode cL_law 791 = .ok (.lcmp, 1) := dk_148 (dk_at dksL_law_24 21 rfl rfl)
theorem dL_law_792 : decode cL_law 792 = .ok (.ifCond .eq 5, 3) := dk_153 0 5 (dk_at dksL_law_25 0 rfl rfl)
theorem dL_law_795 : decode cL_law 795 = .ok (.iconst 0, 1) := dk_3 (dk_at dksL_law_25 3 rfl rfl)
theorem dL_law_796 : decode cL_law 796 = .ok (.ireturn, 1) := dk_172 (dk_at dksL_law_25 4 rfl rfl)
theorem dL_law_797 : decode cL_law 797 = .ok (.goto 2067, 3) := dk_167 8 19 (dk_at dksL_law_25 5 rfl rfl)
theorem dL_law_800 : decode cL_law 800 = .ok (.aload_n 1, 1) := dk_43 (dk_at dksL_law_25 8 rfl rfl)
theorem dL_law_801 : decode cL_law 801 = .ok (.aload_n 0, 1) := dk_42 (dk_at dksL_law_25 9 rfl rfl)
theorem dL_law_802 : decode cL_law 802 = .ok (.iload 5, 2) := dk_21 5 (dk_at dksL_law_25 10 rfl rfl)
theorem dL_law_804 : decode cL_law 804 = .ok (.iconst 1, 1) := dk_4 (dk_at dksL_law_25 12 rfl rfl)
theorem dL_law_805 : decode cL_law 805 = .ok (.iadd, 1) := dk_96 (dk_at dksL_law_25 13 rfl rfl)
theorem dL_law_806 : decode cL_law 806 = .ok (.iaload, 1) := dk_46 (dk_at dksL_law_25 14 rfl rfl)
theorem dL_law_807 : decode cL_law 807 = .ok (.aload_n 3, 1) := dk_45 (dk_at dksL_law_25 15 rfl rfl)
theorem dL_law_808 : decode cL_law 808 = .ok (.invokestatic 196, 3) := dk_184 0 196 (dk_at dksL_law_25 16 rfl rfl)
theorem dL_law_811 : decode cL_law 811 = .ok (.istore 6, 2) := dk_54 6 (dk_at dksL_law_25 19 rfl rfl)
theorem dL_law_813 : decode cL_law 813 = .ok (.aload_n 2, 1) := dk_44 (dk_at dksL_law_25 21 rfl rfl)
theorem dL_law_814 : decode cL_law 814 = .ok (.aload_n 0, 1) := dk_42 (dk_at dksL_law_25 22 rfl rfl)
theorem dL_law_815 : decode cL_law 815 = .ok (.iload 5, 2) := dk_21 5 (dk_at dksL_law_26 0 rfl rfl)
theorem dL_law_817 : decode cL_law 817 = .ok (.iconst 1, 1) := dk_4 (dk_at dksL_law_26 2 rfl rfl)
theorem dL_law_818 : decode cL_law 818 = .ok (.iadd, 1) := dk_96 (dk_at dksL_law_26 3 rfl rfl)
theorem dL_law_819 : decode cL_law 819 = .ok (.iaload, 1) := dk_46 (dk_at dksL_law_26 4 rfl rfl)
theorem dL_law_820 : decode cL_law 820 = .ok (.invokevirtual 198, 3) := dk_182 0 198 (dk_at dksL_law_26 5 rfl rfl)
theorem dL_law_823 : decode cL_law 823 = .ok (.istore 7, 2) := dk_54 7 (dk_at dksL_law_26 8 rfl rfl)
theorem dL_law_825 : decode cL_law 825 = .ok (.aload_n 2, 1) := dk_44 (dk_at dksL_law_26 10 rfl rfl)
theorem dL_law_826 : decode cL_law 826 = .ok (.invokevirtual 167, 3) := dk_182 0 167 (dk_at dksL_law_26 11 rfl rfl)
theorem dL_law_829 : decode cL_law 829 = .ok (.iload 6, 2) := dk_21 6 (dk_at dksL_law_26 14 rfl rfl)
theorem dL_law_831 : decode cL_law 831 = .ok (.if_icmp .eq 5, 3) := dk_159 0 5 (dk_at dksL_law_26 16 rfl rfl)
theorem dL_law_834 : decode cL_law 834 = .ok (.iconst 0, 1) := dk_3 (dk_at dksL_law_26 19 rfl rfl)
theorem dL_law_835 : decode cL_law 835 = .ok (.ireturn, 1) := dk_172 (dk_at dksL_law_26 20 rfl rfl)
theorem dL_law_836 : decode cL_law 836 = .ok (.iload 6, 2) := dk_21 6 (dk_at dksL_law_26 21 rfl rfl)
theorem dL_law_838 : decode cL_law 838 = .ok (.ifCond .ne 15, 3) := dk_154 0 15 (dk_at dksL_law_27 0 rfl rfl)
theorem dL_law_841 : decode cL_law 841 = .ok (.aload_n 3, 1) := dk_45 (dk_at dksL_law_27 3 rfl rfl)
theorem dL_law_842 : decode cL_law 842 = .ok (.iconst 0, 1) := dk_3 (dk_at dksL_law_27 4 rfl rfl)
theorem dL_law_843 : decode cL_law 843 = .ok (.laload, 1) := dk_47 (dk_at dksL_law_27 5 rfl rfl)
theorem dL_law_844 : decode cL_law 844 = .ok (.iload 7, 2) := dk_21 7 (dk_at dksL_law_27 6 rfl rfl)
theorem dL_law_846 : decode cL_law 846 = .ok (.i2l, 1) := dk_133 (dk_at dksL_law_27 8 rfl rfl)
theorem dL_law_847 : decode cL_law 847 = .ok (.lcmp, 1) := dk_148 (dk_at dksL_law_27 9 rfl rfl)
theorem dL_law_848 : decode cL_law 848 = .ok (.ifCond .eq 5, 3) := dk_153 0 5 (dk_at dksL_law_27 10 rfl rfl)
theorem dL_law_851 : decode cL_law 851 = .ok (.iconst 0, 1) := dk_3 (dk_at dksL_law_27 13 rfl rfl)
theorem dL_law_852 : decode cL_law 852 = .ok (.ireturn, 1) := dk_172 (dk_at dksL_law_27 14 rfl rfl)
theorem dL_law_853 : decode cL_law 853 = .ok (.goto 2011, 3) := dk_167 7 219 (dk_at dksL_law_27 15 rfl rfl)
theorem dL_law_856 : decode cL_law 856 = .ok (.aload_n 1, 1) := dk_43 (dk_at dksL_law_27 18 rfl rfl)
theorem dL_law_857 : decode cL_law 857 = .ok (.aload_n 0, 1) := dk_42 (dk_at dksL_law_27 19 rfl rfl)
theorem dL_law_858 : decode cL_law 858 = .ok (.iload 5, 2) := dk_21 5 (dk_at dksL_law_27 20 rfl rfl)
theorem dL_law_860 : decode cL_law 860 = .ok (.iconst 1, 1) := dk_4 (dk_at dksL_law_27 22 rfl rfl)
theorem dL_law_861 : decode cL_law 861 = .ok (.iadd, 1) := dk_96 (dk_at dksL_law_27 23 rfl rfl)
theorem dL_law_862 : decode cL_law 862 = .ok (.iaload, 1) := dk_46 (dk_at dksL_law_28 0 rfl rfl)
theorem dL_law_863 : decode cL_law 863 = .ok (.aload_n 0, 1) := dk_42 (dk_at dksL_law_28 1 rfl rfl)
theorem dL_law_864 : decode cL_law 864 = .ok (.iload 5, 2) := dk_21 5 (dk_at dksL_law_28 2 rfl rfl)
theorem dL_law_866 : decode cL_law 866 = .ok (.iconst 2, 1) := dk_5 (dk_at dksL_law_28 4 rfl rfl)
theorem dL_law_867 : decode cL_law 867 = .ok (.iadd, 1) := dk_96 (dk_at dksL_law_28 5 rfl rfl)
theorem dL_law_868 : decode cL_law 868 = .ok (.iaload, 1) := dk_46 (dk_at dksL_law_28 6 rfl rfl)
theorem dL_law_869 : decode cL_law 869 = .ok (.aload_n 3, 1) := dk_45 (dk_at dksL_law_28 7 rfl rfl)
theorem dL_law_870 : decode cL_law 870 = .ok (.invokestatic 199, 3) := dk_184 0 199 (dk_at dksL_law_28 8 rfl rfl)
theorem dL_law_873 : decode cL_law 873 = .ok (.istore 6, 2) := dk_54 6 (dk_at dksL_law_28 11 rfl rfl)
theorem dL_law_875 : decode cL_law 875 = .ok (.aload_n 2, 1) := dk_44 (dk_at dksL_law_28 13 rfl rfl)
theorem dL_law_876 : decode cL_law 876 = .ok (.aload_n 0, 1) := dk_42 (dk_at dksL_law_28 14 rfl rfl)
theorem dL_law_877 : decode cL_law 877 = .ok (.iload 5, 2) := dk_21 5 (dk_at dksL_law_28 15 rfl rfl)
theorem dL_law_879 : decode cL_law 879 = .ok (.iconst 1, 1) := dk_4 (dk_at dksL_law_28 17 rfl rfl)
theorem dL_law_880 : decode cL_law 880 = .ok (.iadd, 1) := dk_96 (dk_at dksL_law_28 18 rfl rfl)
theorem dL_law_881 : decode cL_law 881 = .ok (.iaload, 1) := dk_46 (dk_at dksL_law_28 19 rfl rfl)
theorem dL_law_882 : decode cL_law 882 = .ok (.aload_n 0, 1) := dk_42 (dk_at dksL_law_28 20 rfl rfl)
theorem dL_law_883 : decode cL_law 883 = .ok (.iload 5, 2) := dk_21 5 (dk_at dksL_law_28 21 rfl rfl)
theorem dL_law_885 : decode cL_law 885 = .ok (.iconst 2, 1) := dk_5 (dk_at dksL_law_28 23 rfl rfl)
theorem dL_law_886 : decode cL_law 886 = .ok (.iadd, 1) := dk_96 (dk_at dksL_law_29 0 rfl rfl)
theorem dL_law_887 : decode cL_law 887 = .ok (.iaload, 1) := dk_46 (dk_at dksL_law_29 1 rfl rfl)
theorem dL_law_888 : decode cL_law 888 = .ok (.invokevirtual 201, 3) := dk_182 0 201 (dk_at dksL_law_29 2 rfl rfl)
theorem dL_law_891 : decode cL_law 891 = .ok (.istore 7, 2) := dk_54 7 (dk_at dksL_law_29 5 rfl rfl)
theorem dL_law_893 : decode cL_law 893 = .ok (.aload_n 2, 1) := dk_44 (dk_at dksL_law_29 7 rfl rfl)
theorem dL_law_894 : decode cL_law 894 = .ok (.invokevirtual 167, 3) := dk_182 0 167 (dk_at dksL_law_29 8 rfl rfl)
theorem dL_law_897 : decode cL_law 897 = .ok (.iload 6, 2) := dk_21 6 (dk_at dksL_law_29 11 rfl rfl)
theorem dL_law_899 : decode cL_law 899 = .ok (.if_icmp .eq 5, 3) := dk_159 0 5 (dk_at dksL_law_29 13 rfl rfl)
theorem dL_law_902 : decode cL_law 902 = .ok (.iconst 0, 1) := dk_3 (dk_at dksL_law_29 16 rfl rfl)
theorem dL_law_903 : decode cL_law 903 = .ok (.ireturn, 1) := dk_172 (dk_at dksL_law_29 17 rfl rfl)
theorem dL_law_904 : decode cL_law 904 = .ok (.iload 6, 2) := dk_21 6 (dk_at dksL_law_29 18 rfl rfl)
theorem dL_law_906 : decode cL_law 906 = .ok (.ifCond .ne 15, 3) := dk_154 0 15 (dk_at dksL_law_29 20 rfl rfl)
theorem dL_law_909 : decode cL_law 909 = .ok (.aload_n 3, 1) := dk_45 (dk_at dksL_law_29 23 rfl rfl)
theorem dL_law_910 : decode cL_law 910 = .ok (.iconst 0, 1) := dk_3 (dk_at dksL_law_30 0 rfl rfl)
theorem dL_law_911 : decode cL_law 911 = .ok (.laload, 1) := dk_47 (dk_at dksL_law_30 1 rfl rfl)
theorem dL_law_912 : decode cL_law 912 = .ok (.iload 7, 2) := dk_21 7 (dk_at dksL_law_30 2 rfl rfl)
theorem dL_law_914 : decode cL_law 914 = .ok (.i2l, 1) := dk_133 (dk_at dksL_law_30 4 rfl rfl)
theorem dL_law_915 : decode cL_law 915 = .ok (.lcmp, 1) := dk_148 (dk_at dksL_law_30 5 rfl rfl)
theorem dL_law_916 : decode cL_law 916 = .ok (.ifCond .eq 5, 3) := dk_153 0 5 (dk_at dksL_law_30 6 rfl rfl)
theorem dL_law_919 : decode cL_law 919 = .ok (.iconst 0, 1) := dk_3 (dk_at dksL_law_30 9 rfl rfl)
theorem dL_law_920 : decode cL_law 920 = .ok (.ireturn, 1) := dk_172 (dk_at dksL_law_30 10 rfl rfl)
theorem dL_law_921 : decode cL_law 921 = .ok (.goto 1943, 3) := dk_167 7 151 (dk_at dksL_law_30 11 rfl rfl)
theorem dL_law_924 : decode cL_law 924 = .ok (.aload_n 1, 1) := dk_43 (dk_at dksL_law_30 14 rfl rfl)
theorem dL_law_925 : decode cL_law 925 = .ok (.aload_n 0, 1) := dk_42 (dk_at dksL_law_30 15 rfl rfl)
theorem dL_law_926 : decode cL_law 926 = .ok (.iload 5, 2) := dk_21 5 (dk_at dksL_law_30 16 rfl rfl)
theorem dL_law_928 : decode cL_law 928 = .ok (.iconst 1, 1) := dk_4 (dk_at dksL_law_30 18 rfl rfl)
theorem dL_law_929 : decode cL_law 929 = .ok (.iadd, 1) := dk_96 (dk_at dksL_law_30 19 rfl rfl)
theorem dL_law_930 : decode cL_law 930 = .ok (.iaload, 1) := dk_46 (dk_at dksL_law_30 20 rfl rfl)
theorem dL_law_931 : decode cL_law 931 = .ok (.aload_n 3, 1) := dk_45 (dk_at dksL_law_30 21 rfl rfl)
theorem dL_law_932 : decode cL_law 932 = .ok (.invokestatic 202, 3) := dk_184 0 202 (dk_at dksL_law_31 0 rfl rfl)
theorem dL_law_935 : decode cL_law 935 = .ok (.istore 6, 2) := dk_54 6 (dk_at dksL_law_31 3 rfl rfl)
theorem dL_law_937 : decode cL_law 937 = .ok (.aload_n 2, 1) := dk_44 (dk_at dksL_law_31 5 rfl rfl)
theorem dL_law_938 : decode cL_law 938 = .ok (.aload_n 0, 1) := dk_42 (dk_at dksL_law_31 6 rfl rfl)
theorem dL_law_939 : decode cL_law 939 = .ok (.iload 5, 2) := dk_21 5 (dk_at dksL_law_31 7 rfl rfl)
theorem dL_law_941 : decode cL_law 941 = .ok (.iconst 1, 1) := dk_4 (dk_at dksL_law_31 9 rfl rfl)
theorem dL_law_942 : decode cL_law 942 = .ok (.iadd, 1) := dk_96 (dk_at dksL_law_31 10 rfl rfl)
theorem dL_law_943 : decode cL_law 943 = .ok (.iaload, 1) := dk_46 (dk_at dksL_law_31 11 rfl rfl)
theorem dL_law_944 : decode cL_law 944 = .ok (.invokevirtual 204, 3) := dk_182 0 204 (dk_at dksL_law_31 12 rfl rfl)
theorem dL_law_947 : decode cL_law 947 = .ok (.istore 7, 2) := dk_54 7 (dk_at dksL_law_31 15 rfl rfl)
theorem dL_law_949 : decode cL_law 949 = .ok (.aload_n 2, 1) := dk_44 (dk_at dksL_law_31 17 rfl rfl)
theorem dL_law_950 : decode cL_law 950 = .ok (.invokevirtual 167, 3) := dk_182 0 167 (dk_at dksL_law_31 18 rfl rfl)
theorem dL_law_953 : decode cL_law 953 = .ok (.iload 6, 2) := dk_21 6 (dk_at dksL_law_31 21 rfl rfl)
theorem dL_law_955 : decode cL_law 955 = .ok (.if_icmp .eq 5, 3) := dk_159 0 5 (dk_at dksL_law_32 0 rfl rfl)
theorem dL_law_958 : decode cL_law 958 = .ok (.iconst 0, 1) := dk_3 (dk_at dksL_law_32 3 rfl rfl)
theorem dL_law_959 : decode cL_law 959 = .ok (.ireturn, 1) := dk_172 (dk_at dksL_law_32 4 rfl rfl)
theorem dL_law_960 : decode cL_law 960 = .ok (.iload 6, 2) := dk_21 6 (dk_at dksL_law_32 5 rfl rfl)
theorem dL_law_962 : decode cL_law 962 = .ok (.ifCond .ne 15, 3) := dk_154 0 15 (dk_at dksL_law_32 7 rfl rfl)
theorem dL_law_965 : decode cL_law 965 = .ok (.aload_n 3, 1) := dk_45 (dk_at dksL_law_32 10 rfl rfl)
theorem dL_law_966 : decode cL_law 966 = .ok (.iconst 0, 1) := dk_3 (dk_at dksL_law_32 11 rfl rfl)
theorem dL_law_967 : decode cL_law 967 = .ok (.laload, 1) := dk_47 (dk_at dksL_law_32 12 rfl rfl)
theorem dL_law_968 : decode cL_law 968 = .ok (.iload 7, 2) := dk_21 7 (dk_at dksL_law_32 13 rfl rfl)
theorem dL_law_970 : decode cL_law 970 = .ok (.i2l, 1) := dk_133 (dk_at dksL_law_32 15 rfl rfl)
theorem dL_law_971 : decode cL_law 971 = .ok (.lcmp, 1) := dk_148 (dk_at dksL_law_32 16 rfl rfl)
theorem dL_law_972 : decode cL_law 972 = .ok (.ifCond .eq 5, 3) := dk_153 0 5 (dk_at dksL_law_32 17 rfl rfl)
theorem dL_law_975 : decode cL_law 975 = .ok (.iconst 0, 1) := dk_3 (dk_at dksL_law_32 20 rfl rfl)
theorem dL_law_976 : decode cL_law 976 = .ok (.ireturn, 1) := dk_172 (dk_at dksL_law_32 21 rfl rfl)
theorem dL_law_977 : decode cL_law 977 = .ok (.goto 1887, 3) := dk_167 7 95 (dk_at dksL_law_33 0 rfl rfl)
theorem dL_law_980 : decode cL_law 980 = .ok (.aload_n 1, 1) := dk_43 (dk_at dksL_law_33 3 rfl rfl)
theorem dL_law_981 : decode cL_law 981 = .ok (.aload_n 0, 1) := dk_42 (dk_at dksL_law_33 4 rfl rfl)
theorem dL_law_982 : decode cL_law 982 = .ok (.iload 5, 2) := dk_21 5 (dk_at dksL_law_33 5 rfl rfl)
theorem dL_law_984 : decode cL_law 984 = .ok (.iconst 1, 1) := dk_4 (dk_at dksL_law_33 7 rfl rfl)
theorem dL_law_985 : decode cL_law 985 = .ok (.iadd, 1) := dk_96 (dk_at dksL_law_33 8 rfl rfl)
theorem dL_law_986 : decode cL_law 986 = .ok (.iaload, 1) := dk_46 (dk_at dksL_law_33 9 rfl rfl)
theorem dL_law_987 : decode cL_law 987 = .ok (.aload_n 3, 1) := dk_45 (dk_at dksL_law_33 10 rfl rfl)
theorem dL_law_988 : decode cL_law 988 = .ok (.invokestatic 205, 3) := dk_184 0 205 (dk_at dksL_law_33 11 rfl rfl)
theorem dL_law_991 : decode cL_law 991 = .ok (.istore 6, 2) := dk_54 6 (dk_at dksL_law_33 14 rfl rfl)
theorem dL_law_993 : decode cL_law 993 = .ok (.aload_n 2, 1) := dk_44 (dk_at dksL_law_33 16 rfl rfl)
theorem dL_law_994 : decode cL_law 994 = .ok (.aload_n 0, 1) := dk_42 (dk_at dksL_law_33 17 rfl rfl)
theorem dL_law_995 : decode cL_law 995 = .ok (.iload 5, 2) := dk_21 5 (dk_at dksL_law_33 18 rfl rfl)
theorem dL_law_997 : decode cL_law 997 = .ok (.iconst 1, 1) := dk_4 (dk_at dksL_law_33 20 rfl rfl)
theorem dL_law_998 : decode cL_law 998 = .ok (.iadd, 1) := dk_96 (dk_at dksL_law_33 21 rfl rfl)
theorem dL_law_999 : decode cL_law 999 = .ok (.iaload, 1) := dk_46 (dk_at dksL_law_33 22 rfl rfl)
theorem dL_law_1000 : decode cL_law 1000 = .ok (.invokevirtual 207, 3) := dk_182 0 207 (dk_at dksL_law_34 0 rfl rfl)
theorem dL_law_1003 : decode cL_law 1003 = .ok (.istore 7, 2) := dk_54 7 (dk_at dksL_law_34 3 rfl rfl)
theorem dL_law_1005 : decode cL_law 1005 = .ok (.aload_n 2, 1) := dk_44 (dk_at dksL_law_34 5 rfl rfl)
theorem dL_law_1006 : decode cL_law 1006 = .ok (.invokevirtual 167, 3) := dk_182 0 167 (dk_at dksL_law_34 6 rfl rfl)
theorem dL_law_1009 : decode cL_law 1009 = .ok (.iload 6, 2) := dk_21 6 (dk_at dksL_law_34 9 rfl rfl)
theorem dL_law_1011 : decode cL_law 1011 = .ok (.if_icmp .eq 5, 3) := dk_159 0 5 (dk_at dksL_law_34 11 rfl rfl)
theorem dL_law_1014 : decode cL_law 1014 = .ok (.iconst 0, 1) := dk_3 (dk_at dksL_law_34 14 rfl rfl)
theorem dL_law_1015 : decode cL_law 1015 = .ok (.ireturn, 1) := dk_172 (dk_at dksL_law_34 15 rfl rfl)
theorem dL_law_1016 : decode cL_law 1016 = .ok (.iload 6, 2) := dk_21 6 (dk_at dksL_law_34 16 rfl rfl)
theorem dL_law_1018 : decode cL_law 1018 = .ok (.ifCond .ne 15, 3) := dk_154 0 15 (dk_at dksL_law_34 18 rfl rfl)
theorem dL_law_1021 : decode cL_law 1021 = .ok (.aload_n 3, 1) := dk_45 (dk_at dksL_law_34 21 rfl rfl)
theorem dL_law_1022 : decode cL_law 1022 = .ok (.iconst 0, 1) := dk_3 (dk_at dksL_law_34 22 rfl rfl)
theorem dL_law_1023 : decode cL_law 1023 = .ok (.laload, 1) := dk_47 (dk_at dksL_law_34 23 rfl rfl)
theorem dL_law_1024 : decode cL_law 1024 = .ok (.iload 7, 2) := dk_21 7 (dk_at dksL_law_35 0 rfl rfl)
theorem dL_law_1026 : decode cL_law 1026 = .ok (.i2l, 1) := dk_133 (dk_at dksL_law_35 2 rfl rfl)
theorem dL_law_1027 : decode cL_law 1027 = .ok (.lcmp, 1) := dk_148 (dk_at dksL_law_35 3 rfl rfl)
theorem dL_law_1028 : decode cL_law 1028 = .ok (.ifCond .eq 5, 3) := dk_153 0 5 (dk_at dksL_law_35 4 rfl rfl)
theorem dL_law_1031 : decode cL_law 1031 = .ok (.iconst 0, 1) := dk_3 (dk_at dksL_law_35 7 rfl rfl)
theorem dL_law_1032 : decode cL_law 1032 = .ok (.ireturn, 1) := dk_172 (dk_at dksL_law_35 8 rfl rfl)
theorem dL_law_1033 : decode cL_law 1033 = .ok (.goto 1831, 3) := dk_167 7 39 (dk_at dksL_law_35 9 rfl rfl)
theorem dL_law_1036 : decode cL_law 1036 = .ok (.aload_n 1, 1) := dk_43 (dk_at dksL_law_35 12 rfl rfl)
theorem dL_law_1037 : decode cL_law 1037 = .ok (.aload_n 0, 1) := dk_42 (dk_at dksL_law_35 13 rfl rfl)
theorem dL_law_1038 : decode cL_law 1038 = .ok (.iload 5, 2) := dk_21 5 (dk_at dksL_law_35 14 rfl rfl)
theorem dL_law_1040 : decode cL_law 1040 = .ok (.iconst 1, 1) := dk_4 (dk_at dksL_law_35 16 rfl rfl)
theorem dL_law_1041 : decode cL_law 1041 = .ok (.iadd, 1) := dk_96 (dk_at dksL_law_35 17 rfl rfl)
theorem dL_law_1042 : decode cL_law 1042 = .ok (.iaload, 1) := dk_46 (dk_at dksL_law_35 18 rfl rfl)
theorem dL_law_1043 : decode cL_law 1043 = .ok (.aload_n 3, 1) := dk_45 (dk_at dksL_law_35 19 rfl rfl)
theorem dL_law_1044 : decode cL_law 1044 = .ok (.invokestatic 208, 3) := dk_184 0 208 (dk_at dksL_law_35 20 rfl rfl)
theorem dL_law_1047 : decode cL_law 1047 = .ok (.istore 6, 2) := dk_54 6 (dk_at dksL_law_36 0 rfl rfl)
theorem dL_law_1049 : decode cL_law 1049 = .ok (.aload_n 2, 1) := dk_44 (dk_at dksL_law_36 2 rfl rfl)
theorem dL_law_1050 : decode cL_law 1050 = .ok (.aload_n 0, 1) := dk_42 (dk_at dksL_law_36 3 rfl rfl)
theorem dL_law_1051 : decode cL_law 1051 = .ok (.iload 5, 2) := dk_21 5 (dk_at dksL_law_36 4 rfl rfl)
theorem dL_law_1053 : decode cL_law 1053 = .ok (.iconst 1, 1) := dk_4 (dk_at dksL_law_36 6 rfl rfl)
theorem dL_law_1054 : decode cL_law 1054 = .ok (.iadd, 1) := dk_96 (dk_at dksL_law_36 7 rfl rfl)
theorem dL_law_1055 : decode cL_law 1055 = .ok (.iaload, 1) := dk_46 (dk_at dksL_law_36 8 rfl rfl)
theorem dL_law_1056 : decode cL_law 1056 = .ok (.invokevirtual 210, 3) := dk_182 0 210 (dk_at dksL_law_36 9 rfl rfl)
theorem dL_law_1059 : decode cL_law 1059 = .ok (.istore 7, 2) := dk_54 7 (dk_at dksL_law_36 12 rfl rfl)
theorem dL_law_1061 : decode cL_law 1061 = .ok (.aload_n 2, 1) := dk_44 (dk_at dksL_law_36 14 rfl rfl)
theorem dL_law_1062 : decode cL_law 1062 = .ok (.invokevirtual 167, 3) := dk_182 0 167 (dk_at dksL_law_36 15 rfl rfl)
theorem dL_law_1065 : decode cL_law 1065 = .ok (.iload 6, 2) := dk_21 6 (dk_at dksL_law_36 18 rfl rfl)
theorem dL_law_1067 : decode cL_law 1067 = .ok (.if_icmp .eq 5, 3) := dk_159 0 5 (dk_at dksL_law_36 20 rfl rfl)
theorem dL_law_1070 : decode cL_law 1070 = .ok (.iconst 0, 1) := dk_3 (dk_at dksL_law_36 23 rfl rfl)
theorem dL_law_1071 : decode cL_law 1071 = .ok (.ireturn, 1) := dk_172 (dk_at dksL_law_37 0 rfl rfl)
theorem dL_law_1072 : decode cL_law 1072 = .ok (.iload 6, 2) := dk_21 6 (dk_at dksL_law_37 1 rfl rfl)
theorem dL_law_1074 : decode cL_law 1074 = .ok (.ifCond .ne 15, 3) := dk_154 0 15 (dk_at dksL_law_37 3 rfl rfl)
theorem dL_law_1077 : decode cL_law 1077 = .ok (.aload_n 3, 1) := dk_45 (dk_at dksL_law_37 6 rfl rfl)
theorem dL_law_1078 : decode cL_law 1078 = .ok (.iconst 0, 1) := dk_3 (dk_at dksL_law_37 7 rfl rfl)
theorem dL_law_1079 : decode cL_law 1079 = .ok (.laload, 1) := dk_47 (dk_at dksL_law_37 8 rfl rfl)
theorem dL_law_1080 : decode cL_law 1080 = .ok (.iload 7, 2) := dk_21 7 (dk_at dksL_law_37 9 rfl rfl)
theorem dL_law_1082 : decode cL_law 1082 = .ok (.i2l, 1) := dk_133 (dk_at dksL_law_37 11 rfl rfl)
theorem dL_law_1083 : decode cL_law 1083 = .ok (.lcmp, 1) := dk_148 (dk_at dksL_law_37 12 rfl rfl)
theorem dL_law_1084 : decode cL_law 1084 = .ok (.ifCond .eq 5, 3) := dk_153 0 5 (dk_at dksL_law_37 13 rfl rfl)
theorem dL_law_1087 : decode cL_law 1087 = .ok (.iconst 0, 1) := dk_3 (dk_at dksL_law_37 16 rfl rfl)
theorem dL_law_1088 : decode cL_law 1088 = .ok (.ireturn, 1) := dk_172 (dk_at dksL_law_37 17 rfl rfl)
theorem dL_law_1089 : decode cL_law 1089 = .ok (.goto 1775, 3) := dk_167 6 239 (dk_at dksL_law_37 18 rfl rfl)
theorem dL_law_1092 : decode cL_law 1092 = .ok (.aload_n 1, 1) := dk_43 (dk_at dksL_law_37 21 rfl rfl)
theorem dL_law_1093 : decode cL_law 1093 = .ok (.aload_n 0, 1) := dk_42 (dk_at dksL_law_37 22 rfl rfl)
theorem dL_law_1094 : decode cL_law 1094 = .ok (.iload 5, 2) := dk_21 5 (dk_at dksL_law_38 0 rfl rfl)
theorem dL_law_1096 : decode cL_law 1096 = .ok (.iconst 1, 1) := dk_4 (dk_at dksL_law_38 2 rfl rfl)
theorem dL_law_1097 : decode cL_law 1097 = .ok (.iadd, 1) := dk_96 (dk_at dksL_law_38 3 rfl rfl)
theorem dL_law_1098 : decode cL_law 1098 = .ok (.iaload, 1) := dk_46 (dk_at dksL_law_38 4 rfl rfl)
theorem dL_law_1099 : decode cL_law 1099 = .ok (.aload_n 3, 1) := dk_45 (dk_at dksL_law_38 5 rfl rfl)
theorem dL_law_1100 : decode cL_law 1100 = .ok (.invokestatic 211, 3) := dk_184 0 211 (dk_at dksL_law_38 6 rfl rfl)
theorem dL_law_1103 : decode cL_law 1103 = .ok (.istore 6, 2) := dk_54 6 (dk_at dksL_law_38 9 rfl rfl)
theorem dL_law_1105 : decode cL_law 1105 = .ok (.aload_n 2, 1) := dk_44 (dk_at dksL_law_38 11 rfl rfl)
theorem dL_law_1106 : decode cL_law 1106 = .ok (.aload_n 0, 1) := dk_42 (dk_at dksL_law_38 12 rfl rfl)
theorem dL_law_1107 : decode cL_law 1107 = .ok (.iload 5, 2) := dk_21 5 (dk_at dksL_law_38 13 rfl rfl)
theorem dL_law_1109 : decode cL_law 1109 = .ok (.iconst 1, 1) := dk_4 (dk_at dksL_law_38 15 rfl rfl)
theorem dL_law_1110 : decode cL_law 1110 = .ok (.iadd, 1) := dk_96 (dk_at dksL_law_38 16 rfl rfl)
theorem dL_law_1111 : decode cL_law 1111 = .ok (.iaload, 1) := dk_46 (dk_at dksL_law_38 17 rfl rfl)
theorem dL_law_1112 : decode cL_law 1112 = .ok (.invokevirtual 213, 3) := dk_182 0 213 (dk_at dksL_law_38 18 rfl rfl)
theorem dL_law_1115 : decode cL_law 1115 = .ok (.istore 7, 2) := dk_54 7 (dk_at dksL_law_38 21 rfl rfl)
theorem dL_law_1117 : decode cL_law 1117 = .ok (.aload_n 2, 1) := dk_44 (dk_at dksL_law_38 23 rfl rfl)
theorem dL_law_1118 : decode cL_law 1118 = .ok (.invokevirtual 167, 3) := dk_182 0 167 (dk_at dksL_law_39 0 rfl rfl)
theorem dL_law_1121 : decode cL_law 1121 = .ok (.iload 6, 2) := dk_21 6 (dk_at dksL_law_39 3 rfl rfl)
theorem dL_law_1123 : decode cL_law 1123 = .ok (.if_icmp .eq 5, 3) := dk_159 0 5 (dk_at dksL_law_39 5 rfl rfl)
theorem dL_law_1126 : decode cL_law 1126 = .ok (.iconst 0, 1) := dk_3 (dk_at dksL_law_39 8 rfl rfl)
theorem dL_law_1127 : decode cL_law 1127 = .ok (.ireturn, 1) := dk_172 (dk_at dksL_law_39 9 rfl rfl)
theorem dL_law_1128 : decode cL_law 1128 = .ok (.iload 6, 2) := dk_21 6 (dk_at dksL_law_39 10 rfl rfl)
theorem dL_law_1130 : decode cL_law 1130 = .ok (.ifCond .ne 15, 3) := dk_154 0 15 (dk_at dksL_law_39 12 rfl rfl)
theorem dL_law_1133 : decode cL_law 1133 = .ok (.aload_n 3, 1) := dk_45 (dk_at dksL_law_39 15 rfl rfl)
theorem dL_law_1134 : decode cL_law 1134 = .ok (.iconst 0, 1) := dk_3 (dk_at dksL_law_39 16 rfl rfl)
theorem dL_law_1135 : decode cL_law 1135 = .ok (.laload, 1) := dk_47 (dk_at dksL_law_39 17 rfl rfl)
theorem dL_law_1136 : decode cL_law 1136 = .ok (.iload 7, 2) := dk_21 7 (dk_at dksL_law_39 18 rfl rfl)
theorem dL_law_1138 : decode cL_law 1138 = .ok (.i2l, 1) := dk_133 (dk_at dksL_law_39 20 rfl rfl)
theorem dL_law_1139 : decode cL_law 1139 = .ok (.lcmp, 1) := dk_148 (dk_at dksL_law_39 21 rfl rfl)
theorem dL_law_1140 : decode cL_law 1140 = .ok (.ifCond .eq 5, 3) := dk_153 0 5 (dk_at dksL_law_40 0 rfl rfl)
theorem dL_law_1143 : decode cL_law 1143 = .ok (.iconst 0, 1) := dk_3 (dk_at dksL_law_40 3 rfl rfl)
theorem dL_law_1144 : decode cL_law 1144 = .ok (.ireturn, 1) := dk_172 (dk_at dksL_law_40 4 rfl rfl)
theorem dL_law_1145 : decode cL_law 1145 = .ok (.goto 1719, 3) := dk_167 6 183 (dk_at dksL_law_40 5 rfl rfl)
theorem dL_law_1148 : decode cL_law 1148 = .ok (.aload_n 1, 1) := dk_43 (dk_at dksL_law_40 8 rfl rfl)
theorem dL_law_1149 : decode cL_law 1149 = .ok (.aload_n 0, 1) := dk_42 (dk_at dksL_law_40 9 rfl rfl)
theorem dL_law_1150 : decode cL_law 1150 = .ok (.iload 5, 2) := dk_21 5 (dk_at dksL_law_40 10 rfl rfl)
theorem dL_law_1152 : decode cL_law 1152 = .ok (.iconst 1, 1) := dk_4 (dk_at dksL_law_40 12 rfl rfl)
theorem dL_law_1153 : decode cL_law 1153 = .ok (.iadd, 1) := dk_96 (dk_at dksL_law_40 13 rfl rfl)
theorem dL_law_1154 : decode cL_law 1154 = .ok (.iaload, 1) := dk_46 (dk_at dksL_law_40 14 rfl rfl)
theorem dL_law_1155 : decode cL_law 1155 = .ok (.aload_n 0, 1) := dk_42 (dk_at dksL_law_40 15 rfl rfl)
theorem dL_law_1156 : decode cL_law 1156 = .ok (.iload 5, 2) := dk_21 5 (dk_at dksL_law_40 16 rfl rfl)
theorem dL_law_1158 : decode cL_law 1158 = .ok (.iconst 2, 1) := dk_5 (dk_at dksL_law_40 18 rfl rfl)
theorem dL_law_1159 : decode cL_law 1159 = .ok (.iadd, 1) := dk_96 (dk_at dksL_law_40 19 rfl rfl)
theorem dL_law_1160 : decode cL_law 1160 = .ok (.iaload, 1) := dk_46 (dk_at dksL_law_40 20 rfl rfl)
theorem dL_law_1161 : decode cL_law 1161 = .ok (.aload_n 3, 1) := dk_45 (dk_at dksL_law_40 21 rfl rfl)
theorem dL_law_1162 : decode cL_law 1162 = .ok (.invokestatic 214, 3) := dk_184 0 214 (dk_at dksL_law_41 0 rfl rfl)
theorem dL_law_1165 : decode cL_law 1165 = .ok (.istore 6, 2) := dk_54 6 (dk_at dksL_law_41 3 rfl rfl)
theorem dL_law_1167 : decode cL_law 1167 = .ok (.aload_n 2, 1) := dk_44 (dk_at dksL_law_41 5 rfl rfl)
theorem dL_law_1168 : decode cL_law 1168 = .ok (.aload_n 0, 1) := dk_42 (dk_at dksL_law_41 6 rfl rfl)
theorem dL_law_1169 : decode cL_law 1169 = .ok (.iload 5, 2) := dk_21 5 (dk_at dksL_law_41 7 rfl rfl)
theorem dL_law_1171 : decode cL_law 1171 = .ok (.iconst 1, 1) := dk_4 (dk_at dksL_law_41 9 rfl rfl)
theorem dL_law_1172 : decode cL_law 1172 = .ok (.iadd, 1) := dk_96 (dk_at dksL_law_41 10 rfl rfl)
theorem dL_law_1173 : decode cL_law 1173 = .ok (.iaload, 1) := dk_46 (dk_at dksL_law_41 11 rfl rfl)
theorem dL_law_1174 : decode cL_law 1174 = .ok (.aload_n 0, 1) := dk_42 (dk_at dksL_law_41 12 rfl rfl)
theorem dL_law_1175 : decode cL_law 1175 = .ok (.iload 5, 2) := dk_21 5 (dk_at dksL_law_41 13 rfl rfl)
theorem dL_law_1177 : decode cL_law 1177 = .ok (.iconst 2, 1) := dk_5 (dk_at dksL_law_41 15 rfl rfl)
theorem dL_law_1178 : decode cL_law 1178 = .ok (.iadd, 1) := dk_96 (dk_at dksL_law_41 16 rfl rfl)
theorem dL_law_1179 : decode cL_law 1179 = .ok (.iaload, 1) := dk_46 (dk_at dksL_law_41 17 rfl rfl)
theorem dL_law_1180 : decode cL_law 1180 = .ok (.invokevirtual 216, 3) := dk_182 0 216 (dk_at dksL_law_41 18 rfl rfl)
theorem dL_law_1183 : decode cL_law 1183 = .ok (.istore 7, 2) := dk_54 7 (dk_at dksL_law_41 21 rfl rfl)
theorem dL_law_1185 : decode cL_law 1185 = .ok (.aload_n 2, 1) := dk_44 (dk_at dksL_law_41 23 rfl rfl)
theorem dL_law_1186 : decode cL_law 1186 = .ok (.invokevirtual 167, 3) := dk_182 0 167 (dk_at dksL_law_42 0 rfl rfl)
theorem dL_law_1189 : decode cL_law 1189 = .ok (.iload 6, 2) := dk_21 6 (dk_at dksL_law_42 3 rfl rfl)
theorem dL_law_1191 : decode cL_law 1191 = .ok (.if_icmp .eq 5, 3) := dk_159 0 5 (dk_at dksL_law_42 5 rfl rfl)
theorem dL_law_1194 : decode cL_law 1194 = .ok (.iconst 0, 1) := dk_3 (dk_at dksL_law_42 8 rfl rfl)
theorem dL_law_1195 : decode cL_law 1195 = .ok (.ireturn, 1) := dk_172 (dk_at dksL_law_42 9 rfl rfl)
theorem dL_law_1196 : decode cL_law 1196 = .ok (.iload 6, 2) := dk_21 6 (dk_at dksL_law_42 10 rfl rfl)
theorem dL_law_1198 : decode cL_law 1198 = .ok (.ifCond .ne 15, 3) := dk_154 0 15 (dk_at dksL_law_42 12 rfl rfl)
theorem dL_law_1201 : decode cL_law 1201 = .ok (.aload_n 3, 1) := dk_45 (dk_at dksL_law_42 15 rfl rfl)
theorem dL_law_1202 : decode cL_law 1202 = .ok (.iconst 0, 1) := dk_3 (dk_at dksL_law_42 16 rfl rfl)
theorem dL_law_1203 : decode cL_law 1203 = .ok (.laload, 1) := dk_47 (dk_at dksL_law_42 17 rfl rfl)
theorem dL_law_1204 : decode cL_law 1204 = .ok (.iload 7, 2) := dk_21 7 (dk_at dksL_law_42 18 rfl rfl)
theorem dL_law_1206 : decode cL_law 1206 = .ok (.i2l, 1) := dk_133 (dk_at dksL_law_42 20 rfl rfl)
theorem dL_law_1207 : decode cL_law 1207 = .ok (.lcmp, 1) := dk_148 (dk_at dksL_law_42 21 rfl rfl)
theorem dL_law_1208 : decode cL_law 1208 = .ok (.ifCond .eq 5, 3) := dk_153 0 5 (dk_at dksL_law_43 0 rfl rfl)
theorem dL_law_1211 : decode cL_law 1211 = .ok (.iconst 0, 1) := dk_3 (dk_at dksL_law_43 3 rfl rfl)
theorem dL_law_1212 : decode cL_law 1212 = .ok (.ireturn, 1) := dk_172 (dk_at dksL_law_43 4 rfl rfl)
theorem dL_law_1213 : decode cL_law 1213 = .ok (.goto 1651, 3) := dk_167 6 115 (dk_at dksL_law_43 5 rfl rfl)
theorem dL_law_1216 : decode cL_law 1216 = .ok (.aload_n 1, 1) := dk_43 (dk_at dksL_law_43 8 rfl rfl)
theorem dL_law_1217 : decode cL_law 1217 = .ok (.aload_n 0, 1) := dk_42 (dk_at dksL_law_43 9 rfl rfl)
theorem dL_law_1218 : decode cL_law 1218 = .ok (.iload 5, 2) := dk_21 5 (dk_at dksL_law_43 10 rfl rfl)
theorem dL_law_1220 : decode cL_law 1220 = .ok (.iconst 1, 1) := dk_4 (dk_at dksL_law_43 12 rfl rfl)
theorem dL_law_1221 : decode cL_law 1221 = .ok (.iadd, 1) := dk_96 (dk_at dksL_law_43 13 rfl rfl)
theorem dL_law_1222 : decode cL_law 1222 = .ok (.iaload, 1) := dk_46 (dk_at dksL_law_43 14 rfl rfl)
theorem dL_law_1223 : decode cL_law 1223 = .ok (.aload_n 3, 1) := dk_45 (dk_at dksL_law_43 15 rfl rfl)
theorem dL_law_1224 : decode cL_law 1224 = .ok (.invokestatic 217, 3) := dk_184 0 217 (dk_at dksL_law_43 16 rfl rfl)
theorem dL_law_1227 : decode cL_law 1227 = .ok (.istore 6, 2) := dk_54 6 (dk_at dksL_law_43 19 rfl rfl)
theorem dL_law_1229 : decode cL_law 1229 = .ok (.aload_n 2, 1) := dk_44 (dk_at dksL_law_43 21 rfl rfl)
theorem dL_law_1230 : decode cL_law 1230 = .ok (.aload_n 0, 1) := dk_42 (dk_at dksL_law_43 22 rfl rfl)
theorem dL_law_1231 : decode cL_law 1231 = .ok (.iload 5, 2) := dk_21 5 (dk_at dksL_law_44 0 rfl rfl)
theorem dL_law_1233 : decode cL_law 1233 = .ok (.iconst 1, 1) := dk_4 (dk_at dksL_law_44 2 rfl rfl)
theorem dL_law_1234 : decode cL_law 1234 = .ok (.iadd, 1) := dk_96 (dk_at dksL_law_44 3 rfl rfl)
theorem dL_law_1235 : decode cL_law 1235 = .ok (.iaload, 1) := dk_46 (dk_at dksL_law_44 4 rfl rfl)
theorem dL_law_1236 : decode cL_law 1236 = .ok (.invokevirtual 219, 3) := dk_182 0 219 (dk_at dksL_law_44 5 rfl rfl)
theorem dL_law_1239 : decode cL_law 1239 = .ok (.istore 7, 2) := dk_54 7 (dk_at dksL_law_44 8 rfl rfl)
theorem dL_law_1241 : decode cL_law 1241 = .ok (.aload_n 2, 1) := dk_44 (dk_at dksL_law_44 10 rfl rfl)
theorem dL_law_1242 : decode cL_law 1242 = .ok (.invokevirtual 167, 3) := dk_182 0 167 (dk_at dksL_law_44 11 rfl rfl)
theorem dL_law_1245 : decode cL_law 1245 = .ok (.iload 6, 2) := dk_21 6 (dk_at dksL_law_44 14 rfl rfl)
theorem dL_law_1247 : decode cL_law 1247 = .ok (.if_icmp .eq 5, 3) := dk_159 0 5 (dk_at dksL_law_44 16 rfl rfl)
theorem dL_law_1250 : decode cL_law 1250 = .ok (.iconst 0, 1) := dk_3 (dk_at dksL_law_44 19 rfl rfl)
theorem dL_law_1251 : decode cL_law 1251 = .ok (.ireturn, 1) := dk_172 (dk_at dksL_law_44 20 rfl rfl)
theorem dL_law_1252 : decode cL_law 1252 = .ok (.iload 6, 2) := dk_21 6 (dk_at dksL_law_44 21 rfl rfl)
theorem dL_law_1254 : decode cL_law 1254 = .ok (.ifCond .ne 22, 3) := dk_154 0 22 (dk_at dksL_law_45 0 rfl rfl)
theorem dL_law_1257 : decode cL_law 1257 = .ok (.aload_n 3, 1) := dk_45 (dk_at dksL_law_45 3 rfl rfl)
theorem dL_law_1258 : decode cL_law 1258 = .ok (.iconst 0, 1) := dk_3 (dk_at dksL_law_45 4 rfl rfl)
theorem dL_law_1259 : decode cL_law 1259 = .ok (.laload, 1) := dk_47 (dk_at dksL_law_45 5 rfl rfl)
theorem dL_law_1260 : decode cL_law 1260 = .ok (.iload 7, 2) := dk_21 7 (dk_at dksL_law_45 6 rfl rfl)
theorem dL_law_1262 : decode cL_law 1262 = .ok (.ifCond .eq 7, 3) := dk_153 0 7 (dk_at dksL_law_45 8 rfl rfl)
theorem dL_law_1265 : decode cL_law 1265 = .ok (.lconst 1, 1) := dk_10 (dk_at dksL_law_45 11 rfl rfl)
theorem dL_law_1266 : decode cL_law 1266 = .ok (.goto 4, 3) := dk_167 0 4 (dk_at dksL_law_45 12 rfl rfl)
theorem dL_law_1269 : decode cL_law 1269 = .ok (.lconst 0, 1) := dk_9 (dk_at dksL_law_45 15 rfl rfl)
theorem dL_law_1270 : decode cL_law 1270 = .ok (.lcmp, 1) := dk_148 (dk_at dksL_law_45 16 rfl rfl)
theorem dL_law_1271 : decode cL_law 1271 = .ok (.ifCond .eq 5, 3) := dk_153 0 5 (dk_at dksL_law_45 17 rfl rfl)
theorem dL_law_1274 : decode cL_law 1274 = .ok (.iconst 0, 1) := dk_3 (dk_at dksL_law_45 20 rfl rfl)
theorem dL_law_1275 : decode cL_law 1275 = .ok (.ireturn, 1) := dk_172 (dk_at dksL_law_45 21 rfl rfl)
theorem dL_law_1276 : decode cL_law 1276 = .ok (.goto 1588, 3) := dk_167 6 52 (dk_at dksL_law_46 0 rfl rfl)
theorem dL_law_1279 : decode cL_law 1279 = .ok (.aload_n 1, 1) := dk_43 (dk_at dksL_law_46 3 rfl rfl)
theorem dL_law_1280 : decode cL_law 1280 = .ok (.aload_n 0, 1) := dk_42 (dk_at dksL_law_46 4 rfl rfl)
theorem dL_law_1281 : decode cL_law 1281 = .ok (.iload 5, 2) := dk_21 5 (dk_at dksL_law_46 5 rfl rfl)
theorem dL_law_1283 : decode cL_law 1283 = .ok (.iconst 1, 1) := dk_4 (dk_at dksL_law_46 7 rfl rfl)
theorem dL_law_1284 : decode cL_law 1284 = .ok (.iadd, 1) := dk_96 (dk_at dksL_law_46 8 rfl rfl)
theorem dL_law_1285 : decode cL_law 1285 = .ok (.iaload, 1) := dk_46 (dk_at dksL_law_46 9 rfl rfl)
theorem dL_law_1286 : decode cL_law 1286 = .ok (.aload_n 3, 1) := dk_45 (dk_at dksL_law_46 10 rfl rfl)
theorem dL_law_1287 : decode cL_law 1287 = .ok (.invokestatic 220, 3) := dk_184 0 220 (dk_at dksL_law_46 11 rfl rfl)
theorem dL_law_1290 : decode cL_law 1290 = .ok (.istore 6, 2) := dk_54 6 (dk_at dksL_law_46 14 rfl rfl)
theorem dL_law_1292 : decode cL_law 1292 = .ok (.aload_n 2, 1) := dk_44 (dk_at dksL_law_46 16 rfl rfl)
theorem dL_law_1293 : decode cL_law 1293 = .ok (.aload_n 0, 1) := dk_42 (dk_at dksL_law_46 17 rfl rfl)
theorem dL_law_1294 : decode cL_law 1294 = .ok (.iload 5, 2) := dk_21 5 (dk_at dksL_law_46 18 rfl rfl)
theorem dL_law_1296 : decode cL_law 1296 = .ok (.iconst 1, 1) := dk_4 (dk_at dksL_law_46 20 rfl rfl)
theorem dL_law_1297 : decode cL_law 1297 = .ok (.iadd, 1) := dk_96 (dk_at dksL_law_46 21 rfl rfl)
theorem dL_law_1298 : decode cL_law 1298 = .ok (.iaload, 1) := dk_46 (dk_at dksL_law_46 22 rfl rfl)
theorem dL_law_1299 : decode cL_law 1299 = .ok (.invokevirtual 222, 3) := dk_182 0 222 (dk_at dksL_law_47 0 rfl rfl)
theorem dL_law_1302 : decode cL_law 1302 = .ok (.istore 7, 2) := dk_54 7 (dk_at dksL_law_47 3 rfl rfl)
theorem dL_law_1304 : decode cL_law 1304 = .ok (.aload_n 2, 1) := dk_44 (dk_at dksL_law_47 5 rfl rfl)
theorem dL_law_1305 : decode cL_law 1305 = .ok (.invokevirtual 167, 3) := dk_182 0 167 (dk_at dksL_law_47 6 rfl rfl)
theorem dL_law_1308 : decode cL_law 1308 = .ok (.iload 6, 2) := dk_21 6 (dk_at dksL_law_47 9 rfl rfl)
theorem dL_law_1310 : decode cL_law 1310 = .ok (.if_icmp .eq 5, 3) := dk_159 0 5 (dk_at dksL_law_47 11 rfl rfl)
theorem dL_law_1313 : decode cL_law 1313 = .ok (.iconst 0, 1) := dk_3 (dk_at dksL_law_47 14 rfl rfl)
theorem dL_law_1314 : decode cL_law 1314 = .ok (.ireturn, 1) := dk_172 (dk_at dksL_law_47 15 rfl rfl)
theorem dL_law_1315 : decode cL_law 1315 = .ok (.iload 6, 2) := dk_21 6 (dk_at dksL_law_47 16 rfl rfl)
theorem dL_law_1317 : decode cL_law 1317 = .ok (.ifCond .ne 15, 3) := dk_154 0 15 (dk_at dksL_law_47 18 rfl rfl)
theorem dL_law_1320 : decode cL_law 1320 = .ok (.aload_n 3, 1) := dk_45 (dk_at dksL_law_47 21 rfl rfl)
theorem dL_law_1321 : decode cL_law 1321 = .ok (.iconst 0, 1) := dk_3 (dk_at dksL_law_47 22 rfl rfl)
theorem dL_law_1322 : decode cL_law 1322 = .ok (.laload, 1) := dk_47 (dk_at dksL_law_47 23 rfl rfl)
theorem dL_law_1323 : decode cL_law 1323 = .ok (.iload 7, 2) := dk_21 7 (dk_at dksL_law_48 0 rfl rfl)
theorem dL_law_1325 : decode cL_law 1325 = .ok (.i2l, 1) := dk_133 (dk_at dksL_law_48 2 rfl rfl)
theorem dL_law_1326 : decode cL_law 1326 = .ok (.lcmp, 1) := dk_148 (dk_at dksL_law_48 3 rfl rfl)
theorem dL_law_1327 : decode cL_law 1327 = .ok (.ifCond .eq 5, 3) := dk_153 0 5 (dk_at dksL_law_48 4 rfl rfl)
theorem dL_law_1330 : decode cL_law 1330 = .ok (.iconst 0, 1) := dk_3 (dk_at dksL_law_48 7 rfl rfl)
theorem dL_law_1331 : decode cL_law 1331 = .ok (.ireturn, 1) := dk_172 (dk_at dksL_law_48 8 rfl rfl)
theorem dL_law_1332 : decode cL_law 1332 = .ok (.goto 1532, 3) := dk_167 5 252 (dk_at dksL_law_48 9 rfl rfl)
theorem dL_law_1335 : decode cL_law 1335 = .ok (.aload_n 1, 1) := dk_43 (dk_at dksL_law_48 12 rfl rfl)
theorem dL_law_1336 : decode cL_law 1336 = .ok (.aload_n 0, 1) := dk_42 (dk_at dksL_law_48 13 rfl rfl)
theorem dL_law_1337 : decode cL_law 1337 = .ok (.iload 5, 2) := dk_21 5 (dk_at dksL_law_48 14 rfl rfl)
theorem dL_law_1339 : decode cL_law 1339 = .ok (.iconst 1, 1) := dk_4 (dk_at dksL_law_48 16 rfl rfl)
theorem dL_law_1340 : decode cL_law 1340 = .ok (.iadd, 1) := dk_96 (dk_at dksL_law_48 17 rfl rfl)
theorem dL_law_1341 : decode cL_law 1341 = .ok (.iaload, 1) := dk_46 (dk_at dksL_law_48 18 rfl rfl)
theorem dL_law_1342 : decode cL_law 1342 = .ok (.aload_n 3, 1) := dk_45 (dk_at dksL_law_48 19 rfl rfl)
theorem dL_law_1343 : decode cL_law 1343 = .ok (.invokestatic 223, 3) := dk_184 0 223 (dk_at dksL_law_48 20 rfl rfl)
theorem dL_law_1346 : decode cL_law 1346 = .ok (.istore 6, 2) := dk_54 6 (dk_at dksL_law_49 0 rfl rfl)
theorem dL_law_1348 : decode cL_law 1348 = .ok (.aload_n 2, 1) := dk_44 (dk_at dksL_law_49 2 rfl rfl)
theorem dL_law_1349 : decode cL_law 1349 = .ok (.aload_n 0, 1) := dk_42 (dk_at dksL_law_49 3 rfl rfl)
theorem dL_law_1350 : decode cL_law 1350 = .ok (.iload 5, 2) := dk_21 5 (dk_at dksL_law_49 4 rfl rfl)
theorem dL_law_1352 : decode cL_law 1352 = .ok (.iconst 1, 1) := dk_4 (dk_at dksL_law_49 6 rfl rfl)
theorem dL_law_1353 : decode cL_law 1353 = .ok (.iadd, 1) := dk_96 (dk_at dksL_law_49 7 rfl rfl)
theorem dL_law_1354 : decode cL_law 1354 = .ok (.iaload, 1) := dk_46 (dk_at dksL_law_49 8 rfl rfl)
theorem dL_law_1355 : decode cL_law 1355 = .ok (.invokevirtual 225, 3) := dk_182 0 225 (dk_at dksL_law_49 9 rfl rfl)
theorem dL_law_1358 : decode cL_law 1358 = .ok (.istore 7, 2) := dk_54 7 (dk_at dksL_law_49 12 rfl rfl)
theorem dL_law_1360 : decode cL_law 1360 = .ok (.aload_n 2, 1) := dk_44 (dk_at dksL_law_49 14 rfl rfl)
theorem dL_law_1361 : decode cL_law 1361 = .ok (.invokevirtual 167, 3) := dk_182 0 167 (dk_at dksL_law_49 15 rfl rfl)
theorem dL_law_1364 : decode cL_law 1364 = .ok (.iload 6, 2) := dk_21 6 (dk_at dksL_law_49 18 rfl rfl)
theorem dL_law_1366 : decode cL_law 1366 = .ok (.if_icmp .eq 5, 3) := dk_159 0 5 (dk_at dksL_law_49 20 rfl rfl)
theorem dL_law_1369 : decode cL_law 1369 = .ok (.iconst 0, 1) := dk_3 (dk_at dksL_law_49 23 rfl rfl)
theorem dL_law_1370 : decode cL_law 1370 = .ok (.ireturn, 1) := dk_172 (dk_at dksL_law_50 0 rfl rfl)
theorem dL_law_1371 : decode cL_law 1371 = .ok (.iload 6, 2) := dk_21 6 (dk_at dksL_law_50 1 rfl rfl)
theorem dL_law_1373 : decode cL_law 1373 = .ok (.ifCond .ne 15, 3) := dk_154 0 15 (dk_at dksL_law_50 3 rfl rfl)
theorem dL_law_1376 : decode cL_law 1376 = .ok (.aload_n 3, 1) := dk_45 (dk_at dksL_law_50 6 rfl rfl)
theorem dL_law_1377 : decode cL_law 1377 = .ok (.iconst 0, 1) := dk_3 (dk_at dksL_law_50 7 rfl rfl)
theorem dL_law_1378 : decode cL_law 1378 = .ok (.laload, 1) := dk_47 (dk_at dksL_law_50 8 rfl rfl)
theorem dL_law_1379 : decode cL_law 1379 = .ok (.iload 7, 2) := dk_21 7 (dk_at dksL_law_50 9 rfl rfl)
theorem dL_law_1381 : decode cL_law 1381 = .ok (.i2l, 1) := dk_133 (dk_at dksL_law_50 11 rfl rfl)
theorem dL_law_1382 : decode cL_law 1382 = .ok (.lcmp, 1) := dk_148 (dk_at dksL_law_50 12 rfl rfl)
theorem dL_law_1383 : decode cL_law 1383 = .ok (.ifCond .eq 5, 3) := dk_153 0 5 (dk_at dksL_law_50 13 rfl rfl)
theorem dL_law_1386 : decode cL_law 1386 = .ok (.iconst 0, 1) := dk_3 (dk_at dksL_law_50 16 rfl rfl)
theorem dL_law_1387 : decode cL_law 1387 = .ok (.ireturn, 1) := dk_172 (dk_at dksL_law_50 17 rfl rfl)
theorem dL_law_1388 : decode cL_law 1388 = .ok (.goto 1476, 3) := dk_167 5 196 (dk_at dksL_law_50 18 rfl rfl)
theorem dL_law_1391 : decode cL_law 1391 = .ok (.aload_n 1, 1) := dk_43 (dk_at dksL_law_50 21 rfl rfl)
theorem dL_law_1392 : decode cL_law 1392 = .ok (.aload_n 0, 1) := dk_42 (dk_at dksL_law_50 22 rfl rfl)
theorem dL_law_1393 : decode cL_law 1393 = .ok (.iload 5, 2) := dk_21 5 (dk_at dksL_law_51 0 rfl rfl)
theorem dL_law_1395 : decode cL_law 1395 = .ok (.iconst 1, 1) := dk_4 (dk_at dksL_law_51 2 rfl rfl)
theorem dL_law_1396 : decode cL_law 1396 = .ok (.iadd, 1) := dk_96 (dk_at dksL_law_51 3 rfl rfl)
theorem dL_law_1397 : decode cL_law 1397 = .ok (.iaload, 1) := dk_46 (dk_at dksL_law_51 4 rfl rfl)
theorem dL_law_1398 : decode cL_law 1398 = .ok (.aload_n 3, 1) := dk_45 (dk_at dksL_law_51 5 rfl rfl)
theorem dL_law_1399 : decode cL_law 1399 = .ok (.invokestatic 226, 3) := dk_184 0 226 (dk_at dksL_law_51 6 rfl rfl)
theorem dL_law_1402 : decode cL_law 1402 = .ok (.istore 6, 2) := dk_54 6 (dk_at dksL_law_51 9 rfl rfl)
theorem dL_law_1404 : decode cL_law 1404 = .ok (.aload_n 2, 1) := dk_44 (dk_at dksL_law_51 11 rfl rfl)
theorem dL_law_1405 : decode cL_law 1405 = .ok (.aload_n 0, 1) := dk_42 (dk_at dksL_law_51 12 rfl rfl)
theorem dL_law_1406 : decode cL_law 1406 = .ok (.iload 5, 2) := dk_21 5 (dk_at dksL_law_51 13 rfl rfl)
theorem dL_law_1408 : decode cL_law 1408 = .ok (.iconst 1, 1) := dk_4 (dk_at dksL_law_51 15 rfl rfl)
theorem dL_law_1409 : decode cL_law 1409 = .ok (.iadd, 1) := dk_96 (dk_at dksL_law_51 16 rfl rfl)
theorem dL_law_1410 : decode cL_law 1410 = .ok (.iaload, 1) := dk_46 (dk_at dksL_law_51 17 rfl rfl)
theorem dL_law_1411 : decode cL_law 1411 = .ok (.invokevirtual 228, 3) := dk_182 0 228 (dk_at dksL_law_51 18 rfl rfl)
theorem dL_law_1414 : decode cL_law 1414 = .ok (.istore 7, 2) := dk_54 7 (dk_at dksL_law_51 21 rfl rfl)
theorem dL_law_1416 : decode cL_law 1416 = .ok (.aload_n 2, 1) := dk_44 (dk_at dksL_law_51 23 rfl rfl)
theorem dL_law_1417 : decode cL_law 1417 = .ok (.invokevirtual 167, 3) := dk_182 0 167 (dk_at dksL_law_52 0 rfl rfl)
theorem dL_law_1420 : decode cL_law 1420 = .ok (.iload 6, 2) := dk_21 6 (dk_at dksL_law_52 3 rfl rfl)
theorem dL_law_1422 : decode cL_law 1422 = .ok (.if_icmp .eq 5, 3) := dk_159 0 5 (dk_at dksL_law_52 5 rfl rfl)
theorem dL_law_1425 : decode cL_law 1425 = .ok (.iconst 0, 1) := dk_3 (dk_at dksL_law_52 8 rfl rfl)
theorem dL_law_1426 : decode cL_law 1426 = .ok (.ireturn, 1) := dk_172 (dk_at dksL_law_52 9 rfl rfl)
theorem dL_law_1427 : decode cL_law 1427 = .ok (.iload 6, 2) := dk_21 6 (dk_at dksL_law_52 10 rfl rfl)
theorem dL_law_1429 : decode cL_law 1429 = .ok (.ifCond .ne 15, 3) := dk_154 0 15 (dk_at dksL_law_52 12 rfl rfl)
theorem dL_law_1432 : decode cL_law 1432 = .ok (.aload_n 3, 1) := dk_45 (dk_at dksL_law_52 15 rfl rfl)
theorem dL_law_1433 : decode cL_law 1433 = .ok (.iconst 0, 1) := dk_3 (dk_at dksL_law_52 16 rfl rfl)
theorem dL_law_1434 : decode cL_law 1434 = .ok (.laload, 1) := dk_47 (dk_at dksL_law_52 17 rfl rfl)
theorem dL_law_1435 : decode cL_law 1435 = .ok (.iload 7, 2) := dk_21 7 (dk_at dksL_law_52 18 rfl rfl)
theorem dL_law_1437 : decode cL_law 1437 = .ok (.i2l, 1) := dk_133 (dk_at dksL_law_52 20 rfl rfl)
theorem dL_law_1438 : decode cL_law 1438 = .ok (.lcmp, 1) := dk_148 (dk_at dksL_law_52 21 rfl rfl)
theorem dL_law_1439 : decode cL_law 1439 = .ok (.ifCond .eq 5, 3) := dk_153 0 5 (dk_at dksL_law_53 0 rfl rfl)
theorem dL_law_1442 : decode cL_law 1442 = .ok (.iconst 0, 1) := dk_3 (dk_at dksL_law_53 3 rfl rfl)
theorem dL_law_1443 : decode cL_law 1443 = .ok (.ireturn, 1) := dk_172 (dk_at dksL_law_53 4 rfl rfl)
theorem dL_law_1444 : decode cL_law 1444 = .ok (.goto 1420, 3) := dk_167 5 140 (dk_at dksL_law_53 5 rfl rfl)
theorem dL_law_1447 : decode cL_law 1447 = .ok (.aload_n 1, 1) := dk_43 (dk_at dksL_law_53 8 rfl rfl)
theorem dL_law_1448 : decode cL_law 1448 = .ok (.aload_n 3, 1) := dk_45 (dk_at dksL_law_53 9 rfl rfl)
theorem dL_law_1449 : decode cL_law 1449 = .ok (.invokestatic 229, 3) := dk_184 0 229 (dk_at dksL_law_53 10 rfl rfl)
theorem dL_law_1452 : decode cL_law 1452 = .ok (.istore 6, 2) := dk_54 6 (dk_at dksL_law_53 13 rfl rfl)
theorem dL_law_1454 : decode cL_law 1454 = .ok (.aload_n 2, 1) := dk_44 (dk_at dksL_law_53 15 rfl rfl)
theorem dL_law_1455 : decode cL_law 1455 = .ok (.invokevirtual 231, 3) := dk_182 0 231 (dk_at dksL_law_53 16 rfl rfl)
theorem dL_law_1458 : decode cL_law 1458 = .ok (.istore 7, 2) := dk_54 7 (dk_at dksL_law_53 19 rfl rfl)
theorem dL_law_1460 : decode cL_law 1460 = .ok (.aload_n 2, 1) := dk_44 (dk_at dksL_law_53 21 rfl rfl)
theorem dL_law_1461 : decode cL_law 1461 = .ok (.invokevirtual 167, 3) := dk_182 0 167 (dk_at dksL_law_54 0 rfl rfl)
theorem dL_law_1464 : decode cL_law 1464 = .ok (.iload 6, 2) := dk_21 6 (dk_at dksL_law_54 3 rfl rfl)
theorem dL_law_1466 : decode cL_law 1466 = .ok (.if_icmp .eq 5, 3) := dk_159 0 5 (dk_at dksL_law_54 5 rfl rfl)
theorem dL_law_1469 : decode cL_law 1469 = .ok (.iconst 0, 1) := dk_3 (dk_at dksL_law_54 8 rfl rfl)
theorem dL_law_1470 : decode cL_law 1470 = .ok (.ireturn, 1) := dk_172 (dk_at dksL_law_54 9 rfl rfl)
theorem dL_law_1471 : decode cL_law 1471 = .ok (.iload 6, 2) := dk_21 6 (dk_at dksL_law_54 10 rfl rfl)
theorem dL_law_1473 : decode cL_law 1473 = .ok (.ifCond .ne 15, 3) := dk_154 0 15 (dk_at dksL_law_54 12 rfl rfl)
theorem dL_law_1476 : decode cL_law 1476 = .ok (.aload_n 3, 1) := dk_45 (dk_at dksL_law_54 15 rfl rfl)
theorem dL_law_1477 : decode cL_law 1477 = .ok (.iconst 0, 1) := dk_3 (dk_at dksL_law_54 16 rfl rfl)
theorem dL_law_1478 : decode cL_law 1478 = .ok (.laload, 1) := dk_47 (dk_at dksL_law_54 17 rfl rfl)
theorem dL_law_1479 : decode cL_law 1479 = .ok (.iload 7, 2) := dk_21 7 (dk_at dksL_law_54 18 rfl rfl)
theorem dL_law_1481 : decode cL_law 1481 = .ok (.i2l, 1) := dk_133 (dk_at dksL_law_54 20 rfl rfl)
theorem dL_law_1482 : decode cL_law 1482 = .ok (.lcmp, 1) := dk_148 (dk_at dksL_law_54 21 rfl rfl)
theorem dL_law_1483 : decode cL_law 1483 = .ok (.ifCond .eq 5, 3) := dk_153 0 5 (dk_at dksL_law_55 0 rfl rfl)
theorem dL_law_1486 : decode cL_law 1486 = .ok (.iconst 0, 1) := dk_3 (dk_at dksL_law_55 3 rfl rfl)
theorem dL_law_1487 : decode cL_law 1487 = .ok (.ireturn, 1) := dk_172 (dk_at dksL_law_55 4 rfl rfl)
theorem dL_law_1488 : decode cL_law 1488 = .ok (.goto 1376, 3) := dk_167 5 96 (dk_at dksL_law_55 5 rfl rfl)
theorem dL_law_1491 : decode cL_law 1491 = .ok (.aload_n 1, 1) := dk_43 (dk_at dksL_law_55 8 rfl rfl)
theorem dL_law_1492 : decode cL_law 1492 = .ok (.aload_n 0, 1) := dk_42 (dk_at dksL_law_55 9 rfl rfl)
theorem dL_law_1493 : decode cL_law 1493 = .ok (.iload 5, 2) := dk_21 5 (dk_at dksL_law_55 10 rfl rfl)
theorem dL_law_1495 : decode cL_law 1495 = .ok (.iconst 1, 1) := dk_4 (dk_at dksL_law_55 12 rfl rfl)
theorem dL_law_1496 : decode cL_law 1496 = .ok (.iadd, 1) := dk_96 (dk_at dksL_law_55 13 rfl rfl)
theorem dL_law_1497 : decode cL_law 1497 = .ok (.iaload, 1) := dk_46 (dk_at dksL_law_55 14 rfl rfl)
theorem dL_law_1498 : decode cL_law 1498 = .ok (.aload_n 3, 1) := dk_45 (dk_at dksL_law_55 15 rfl rfl)
theorem dL_law_1499 : decode cL_law 1499 = .ok (.invokestatic 232, 3) := dk_184 0 232 (dk_at dksL_law_55 16 rfl rfl)
theorem dL_law_1502 : decode cL_law 1502 = .ok (.istore 6, 2) := dk_54 6 (dk_at dksL_law_55 19 rfl rfl)
theorem dL_law_1504 : decode cL_law 1504 = .ok (.aload_n 2, 1) := dk_44 (dk_at dksL_law_55 21 rfl rfl)
theorem dL_law_1505 : decode cL_law 1505 = .ok (.aload_n 0, 1) := dk_42 (dk_at dksL_law_55 22 rfl rfl)
theorem dL_law_1506 : decode cL_law 1506 = .ok (.iload 5, 2) := dk_21 5 (dk_at dksL_law_56 0 rfl rfl)
theorem dL_law_1508 : decode cL_law 1508 = .ok (.iconst 1, 1) := dk_4 (dk_at dksL_law_56 2 rfl rfl)
theorem dL_law_1509 : decode cL_law 1509 = .ok (.iadd, 1) := dk_96 (dk_at dksL_law_56 3 rfl rfl)
theorem dL_law_1510 : decode cL_law 1510 = .ok (.iaload, 1) := dk_46 (dk_at dksL_law_56 4 rfl rfl)
theorem dL_law_1511 : decode cL_law 1511 = .ok (.invokevirtual 234, 3) := dk_182 0 234 (dk_at dksL_law_56 5 rfl rfl)
theorem dL_law_1514 : decode cL_law 1514 = .ok (.istore 7, 2) := dk_54 7 (dk_at dksL_law_56 8 rfl rfl)
theorem dL_law_1516 : decode cL_law 1516 = .ok (.aload_n 2, 1) := dk_44 (dk_at dksL_law_56 10 rfl rfl)
theorem dL_law_1517 : decode cL_law 1517 = .ok (.invokevirtual 167, 3) := dk_182 0 167 (dk_at dksL_law_56 11 rfl rfl)
theorem dL_law_1520 : decode cL_law 1520 = .ok (.iload 6, 2) := dk_21 6 (dk_at dksL_law_56 14 rfl rfl)
theorem dL_law_1522 : decode cL_law 1522 = .ok (.if_icmp .eq 5, 3) := dk_159 0 5 (dk_at dksL_law_56 16 rfl rfl)
theorem dL_law_1525 : decode cL_law 1525 = .ok (.iconst 0, 1) := dk_3 (dk_at dksL_law_56 19 rfl rfl)
theorem dL_law_1526 : decode cL_law 1526 = .ok (.ireturn, 1) := dk_172 (dk_at dksL_law_56 20 rfl rfl)
theorem dL_law_1527 : decode cL_law 1527 = .ok (.iload 6, 2) := dk_21 6 (dk_at dksL_law_56 21 rfl rfl)
theorem dL_law_1529 : decode cL_law 1529 = .ok (.ifCond .ne 22, 3) := dk_154 0 22 (dk_at dksL_law_57 0 rfl rfl)
theorem dL_law_1532 : decode cL_law 1532 = .ok (.aload_n 3, 1) := dk_45 (dk_at dksL_law_57 3 rfl rfl)
theorem dL_law_1533 : decode cL_law 1533 = .ok (.iconst 0, 1) := dk_3 (dk_at dksL_law_57 4 rfl rfl)
theorem dL_law_1534 : decode cL_law 1534 = .ok (.laload, 1) := dk_47 (dk_at dksL_law_57 5 rfl rfl)
theorem dL_law_1535 : decode cL_law 1535 = .ok (.iload 7, 2) := dk_21 7 (dk_at dksL_law_57 6 rfl rfl)
theorem dL_law_1537 : decode cL_law 1537 = .ok (.ifCond .eq 7, 3) := dk_153 0 7 (dk_at dksL_law_57 8 rfl rfl)
theorem dL_law_1540 : decode cL_law 1540 = .ok (.lconst 1, 1) := dk_10 (dk_at dksL_law_57 11 rfl rfl)
theorem dL_law_1541 : decode cL_law 1541 = .ok (.goto 4, 3) := dk_167 0 4 (dk_at dksL_law_57 12 rfl rfl)
theorem dL_law_1544 : decode cL_law 1544 = .ok (.lconst 0, 1) := dk_9 (dk_at dksL_law_57 15 rfl rfl)
theorem dL_law_1545 : decode cL_law 1545 = .ok (.lcmp, 1) := dk_148 (dk_at dksL_law_57 16 rfl rfl)
theorem dL_law_1546 : decode cL_law 1546 = .ok (.ifCond .eq 5, 3) := dk_153 0 5 (dk_at dksL_law_57 17 rfl rfl)
theorem dL_law_1549 : decode cL_law 1549 = .ok (.iconst 0, 1) := dk_3 (dk_at dksL_law_57 20 rfl rfl)
theorem dL_law_1550 : decode cL_law 1550 = .ok (.ireturn, 1) := dk_172 (dk_at dksL_law_57 21 rfl rfl)
theorem dL_law_1551 : decode cL_law 1551 = .ok (.goto 1313, 3) := dk_167 5 33 (dk_at dksL_law_58 0 rfl rfl)
theorem dL_law_1554 : decode cL_law 1554 = .ok (.aload_n 1, 1) := dk_43 (dk_at dksL_law_58 3 rfl rfl)
theorem dL_law_1555 : decode cL_law 1555 = .ok (.invokevirtual 235, 3) := dk_182 0 235 (dk_at dksL_law_58 4 rfl rfl)
theorem dL_law_1558 : decode cL_law 1558 = .ok (.aload_n 2, 1) := dk_44 (dk_at dksL_law_58 7 rfl rfl)
theorem dL_law_1559 : decode cL_law 1559 = .ok (.invokevirtual 238, 3) := dk_182 0 238 (dk_at dksL_law_58 8 rfl rfl)
theorem dL_law_1562 : decode cL_law 1562 = .ok (.if_icmp .eq 1302, 3) := dk_159 5 22 (dk_at dksL_law_58 11 rfl rfl)
theorem dL_law_1565 : decode cL_law 1565 = .ok (.iconst 0, 1) := dk_3 (dk_at dksL_law_58 14 rfl rfl)
theorem dL_law_1566 : decode cL_law 1566 = .ok (.ireturn, 1) := dk_172 (dk_at dksL_law_58 15 rfl rfl)
theorem dL_law_1567 : decode cL_law 1567 = .ok (.aload_n 1, 1) := dk_43 (dk_at dksL_law_58 16 rfl rfl)
theorem dL_law_1568 : decode cL_law 1568 = .ok (.aload_n 0, 1) := dk_42 (dk_at dksL_law_58 17 rfl rfl)
theorem dL_law_1569 : decode cL_law 1569 = .ok (.iload 5, 2) := dk_21 5 (dk_at dksL_law_58 18 rfl rfl)
theorem dL_law_1571 : decode cL_law 1571 = .ok (.iconst 1, 1) := dk_4 (dk_at dksL_law_58 20 rfl rfl)
theorem dL_law_1572 : decode cL_law 1572 = .ok (.iadd, 1) := dk_96 (dk_at dksL_law_58 21 rfl rfl)
theorem dL_law_1573 : decode cL_law 1573 = .ok (.iaload, 1) := dk_46 (dk_at dksL_law_58 22 rfl rfl)
theorem dL_law_1574 : decode cL_law 1574 = .ok (.aload_n 3, 1) := dk_45 (dk_at dksL_law_58 23 rfl rfl)
theorem dL_law_1575 : decode cL_law 1575 = .ok (.invokestatic 239, 3) := dk_184 0 239 (dk_at dksL_law_59 0 rfl rfl)
theorem dL_law_1578 : decode cL_law 1578 = .ok (.istore 6, 2) := dk_54 6 (dk_at dksL_law_59 3 rfl rfl)
theorem dL_law_1580 : decode cL_law 1580 = .ok (.aload_n 2, 1) := dk_44 (dk_at dksL_law_59 5 rfl rfl)
theorem dL_law_1581 : decode cL_law 1581 = .ok (.aload_n 0, 1) := dk_42 (dk_at dksL_law_59 6 rfl rfl)
theorem dL_law_1582 : decode cL_law 1582 = .ok (.iload 5, 2) := dk_21 5 (dk_at dksL_law_59 7 rfl rfl)
theorem dL_law_1584 : decode cL_law 1584 = .ok (.iconst 1, 1) := dk_4 (dk_at dksL_law_59 9 rfl rfl)
theorem dL_law_1585 : decode cL_law 1585 = .ok (.iadd, 1) := dk_96 (dk_at dksL_law_59 10 rfl rfl)
theorem dL_law_1586 : decode cL_law 1586 = .ok (.iaload, 1) := dk_46 (dk_at dksL_law_59 11 rfl rfl)
theorem dL_law_1587 : decode cL_law 1587 = .ok (.invokevirtual 241, 3) := dk_182 0 241 (dk_at dksL_law_59 12 rfl rfl)
theorem dL_law_1590 : decode cL_law 1590 = .ok (.istore 7, 2) := dk_54 7 (dk_at dksL_law_59 15 rfl rfl)
theorem dL_law_1592 : decode cL_law 1592 = .ok (.aload_n 2, 1) := dk_44 (dk_at dksL_law_59 17 rfl rfl)
theorem dL_law_1593 : decode cL_law 1593 = .ok (.invokevirtual 167, 3) := dk_182 0 167 (dk_at dksL_law_59 18 rfl rfl)
theorem dL_law_1596 : decode cL_law 1596 = .ok (.iload 6, 2) := dk_21 6 (dk_at dksL_law_59 21 rfl rfl)
theorem dL_law_1598 : decode cL_law 1598 = .ok (.if_icmp .eq 5, 3) := dk_159 0 5 (dk_at dksL_law_60 0 rfl rfl)
theorem dL_law_1601 : decode cL_law 1601 = .ok (.iconst 0, 1) := dk_3 (dk_at dksL_law_60 3 rfl rfl)
theorem dL_law_1602 : decode cL_law 1602 = .ok (.ireturn, 1) := dk_172 (dk_at dksL_law_60 4 rfl rfl)
theorem dL_law_1603 : decode cL_law 1603 = .ok (.iload 6, 2) := dk_21 6 (dk_at dksL_law_60 5 rfl rfl)
theorem dL_law_1605 : decode cL_law 1605 = .ok (.ifCond .ne 15, 3) := dk_154 0 15 (dk_at dksL_law_60 7 rfl rfl)
theorem dL_law_1608 : decode cL_law 1608 = .ok (.aload_n 3, 1) := dk_45 (dk_at dksL_law_60 10 rfl rfl)
theorem dL_law_1609 : decode cL_law 1609 = .ok (.iconst 0, 1) := dk_3 (dk_at dksL_law_60 11 rfl rfl)
theorem dL_law_1610 : decode cL_law 1610 = .ok (.laload, 1) := dk_47 (dk_at dksL_law_60 12 rfl rfl)
theorem dL_law_1611 : decode cL_law 1611 = .ok (.iload 7, 2) := dk_21 7 (dk_at dksL_law_60 13 rfl rfl)
theorem dL_law_1613 : decode cL_law 1613 = .ok (.i2l, 1) := dk_133 (dk_at dksL_law_60 15 rfl rfl)
theorem dL_law_1614 : decode cL_law 1614 = .ok (.lcmp, 1) := dk_148 (dk_at dksL_law_60 16 rfl rfl)
theorem dL_law_1615 : decode cL_law 1615 = .ok (.ifCond .eq 5, 3) := dk_153 0 5 (dk_at dksL_law_60 17 rfl rfl)
theorem dL_law_1618 : decode cL_law 1618 = .ok (.iconst 0, 1) := dk_3 (dk_at dksL_law_60 20 rfl rfl)
theorem dL_law_1619 : decode cL_law 1619 = .ok (.ireturn, 1) := dk_172 (dk_at dksL_law_60 21 rfl rfl)
theorem dL_law_1620 : decode cL_law 1620 = .ok (.goto 1244, 3) := dk_167 4 220 (dk_at dksL_law_61 0 rfl rfl)
theorem dL_law_1623 : decode cL_law 1623 = .ok (.aload_n 1, 1) := dk_43 (dk_at dksL_law_61 3 rfl rfl)
theorem dL_law_1624 : decode cL_law 1624 = .ok (.invokevirtual 242, 3) := dk_182 0 242 (dk_at dksL_law_61 4 rfl rfl)
theorem dL_law_1627 : decode cL_law 1627 = .ok (.aload_n 2, 1) := dk_44 (dk_at dksL_law_61 7 rfl rfl)
theorem dL_law_1628 : decode cL_law 1628 = .ok (.invokevirtual 245, 3) := dk_182 0 245 (dk_at dksL_law_61 8 rfl rfl)
theorem dL_law_1631 : decode cL_law 1631 = .ok (.if_icmp .eq 1233, 3) := dk_159 4 209 (dk_at dksL_law_61 11 rfl rfl)
theorem dL_law_1634 : decode cL_law 1634 = .ok (.iconst 0, 1) := dk_3 (dk_at dksL_law_61 14 rfl rfl)
theorem dL_law_1635 : decode cL_law 1635 = .ok (.ireturn, 1) := dk_172 (dk_at dksL_law_61 15 rfl rfl)
theorem dL_law_1636 : decode cL_law 1636 = .ok (.aload_n 1, 1) := dk_43 (dk_at dksL_law_61 16 rfl rfl)
theorem dL_law_1637 : decode cL_law 1637 = .ok (.invokevirtual 246, 3) := dk_182 0 246 (dk_at dksL_law_61 17 rfl rfl)
theorem dL_law_1640 : decode cL_law 1640 = .ok (.aload_n 2, 1) := dk_44 (dk_at dksL_law_61 20 rfl rfl)
theorem dL_law_1641 : decode cL_law 1641 = .ok (.invokevirtual 250, 3) := dk_182 0 250 (dk_at dksL_law_61 21 rfl rfl)
theorem dL_law_1644 : decode cL_law 1644 = .ok (.if_icmp .eq 1220, 3) := dk_159 4 196 (dk_at dksL_law_62 0 rfl rfl)
theorem dL_law_1647 : decode cL_law 1647 = .ok (.iconst 0, 1) := dk_3 (dk_at dksL_law_62 3 rfl rfl)
theorem dL_law_1648 : decode cL_law 1648 = .ok (.ireturn, 1) := dk_172 (dk_at dksL_law_62 4 rfl rfl)
theorem dL_law_1649 : decode cL_law 1649 = .ok (.aload_n 1, 1) := dk_43 (dk_at dksL_law_62 5 rfl rfl)
theorem dL_law_1650 : decode cL_law 1650 = .ok (.invokevirtual 251, 3) := dk_182 0 251 (dk_at dksL_law_62 6 rfl rfl)
theorem dL_law_1653 : decode cL_law 1653 = .ok (.aload_n 2, 1) := dk_44 (dk_at dksL_law_62 9 rfl rfl)
theorem dL_law_1654 : decode cL_law 1654 = .ok (.invokevirtual 254, 3) := dk_182 0 254 (dk_at dksL_law_62 10 rfl rfl)
theorem dL_law_1657 : decode cL_law 1657 = .ok (.if_icmp .eq 1207, 3) := dk_159 4 183 (dk_at dksL_law_62 13 rfl rfl)
theorem dL_law_1660 : decode cL_law 1660 = .ok (.iconst 0, 1) := dk_3 (dk_at dksL_law_62 16 rfl rfl)
theorem dL_law_1661 : decode cL_law 1661 = .ok (.ireturn, 1) := dk_172 (dk_at dksL_law_62 17 rfl rfl)
theorem dL_law_1662 : decode cL_law 1662 = .ok (.aload_n 1, 1) := dk_43 (dk_at dksL_law_62 18 rfl rfl)
theorem dL_law_1663 : decode cL_law 1663 = .ok (.aload_n 0, 1) := dk_42 (dk_at dksL_law_62 19 rfl rfl)
theorem dL_law_1664 : decode cL_law 1664 = .ok (.iload 5, 2) := dk_21 5 (dk_at dksL_law_62 20 rfl rfl)
theorem dL_law_1666 : decode cL_law 1666 = .ok (.iconst 1, 1) := dk_4 (dk_at dksL_law_62 22 rfl rfl)
theorem dL_law_1667 : decode cL_law 1667 = .ok (.iadd, 1) := dk_96 (dk_at dksL_law_62 23 rfl rfl)
theorem dL_law_1668 : decode cL_law 1668 = .ok (.iaload, 1) := dk_46 (dk_at dksL_law_63 0 rfl rfl)
theorem dL_law_1669 : decode cL_law 1669 = .ok (.aload_n 3, 1) := dk_45 (dk_at dksL_law_63 1 rfl rfl)
theorem dL_law_1670 : decode cL_law 1670 = .ok (.invokestatic 255, 3) := dk_184 0 255 (dk_at dksL_law_63 2 rfl rfl)
theorem dL_law_1673 : decode cL_law 1673 = .ok (.istore 6, 2) := dk_54 6 (dk_at dksL_law_63 5 rfl rfl)
theorem dL_law_1675 : decode cL_law 1675 = .ok (.aload_n 2, 1) := dk_44 (dk_at dksL_law_63 7 rfl rfl)
theorem dL_law_1676 : decode cL_law 1676 = .ok (.aload_n 0, 1) := dk_42 (dk_at dksL_law_63 8 rfl rfl)
theorem dL_law_1677 : decode cL_law 1677 = .ok (.iload 5, 2) := dk_21 5 (dk_at dksL_law_63 9 rfl rfl)
theorem dL_law_1679 : decode cL_law 1679 = .ok (.iconst 1, 1) := dk_4 (dk_at dksL_law_63 11 rfl rfl)
theorem dL_law_1680 : decode cL_law 1680 = .ok (.iadd, 1) := dk_96 (dk_at dksL_law_63 12 rfl rfl)
theorem dL_law_1681 : decode cL_law 1681 = .ok (.iaload, 1) := dk_46 (dk_at dksL_law_63 13 rfl rfl)
theorem dL_law_1682 : decode cL_law 1682 = .ok (.invokevirtual 257, 3) := dk_182 1 1 (dk_at dksL_law_63 14 rfl rfl)
theorem dL_law_1685 : decode cL_law 1685 = .ok (.istore 7, 2) := dk_54 7 (dk_at dksL_law_63 17 rfl rfl)
theorem dL_law_1687 : decode cL_law 1687 = .ok (.aload_n 2, 1) := dk_44 (dk_at dksL_law_63 19 rfl rfl)
theorem dL_law_1688 : decode cL_law 1688 = .ok (.invokevirtual 167, 3) := dk_182 0 167 (dk_at dksL_law_63 20 rfl rfl)
theorem dL_law_1691 : decode cL_law 1691 = .ok (.iload 6, 2) := dk_21 6 (dk_at dksL_law_64 0 rfl rfl)
theorem dL_law_1693 : decode cL_law 1693 = .ok (.if_icmp .eq 5, 3) := dk_159 0 5 (dk_at dksL_law_64 2 rfl rfl)
theorem dL_law_1696 : decode cL_law 1696 = .ok (.iconst 0, 1) := dk_3 (dk_at dksL_law_64 5 rfl rfl)
theorem dL_law_1697 : decode cL_law 1697 = .ok (.ireturn, 1) := dk_172 (dk_at dksL_law_64 6 rfl rfl)
theorem dL_law_1698 : decode cL_law 1698 = .ok (.iload 6, 2) := dk_21 6 (dk_at dksL_law_64 7 rfl rfl)
theorem dL_law_1700 : decode cL_law 1700 = .ok (.ifCond .ne 15, 3) := dk_154 0 15 (dk_at dksL_law_64 9 rfl rfl)
theorem dL_law_1703 : decode cL_law 1703 = .ok (.aload_n 3, 1) := dk_45 (dk_at dksL_law_64 12 rfl rfl)
theorem dL_law_1704 : decode cL_law 1704 = .ok (.iconst 0, 1) := dk_3 (dk_at dksL_law_64 13 rfl rfl)
theorem dL_law_1705 : decode cL_law 1705 = .ok (.laload, 1) := dk_47 (dk_at dksL_law_64 14 rfl rfl)
theorem dL_law_1706 : decode cL_law 1706 = .ok (.iload 7, 2) := dk_21 7 (dk_at dksL_law_64 15 rfl rfl)
theorem dL_law_1708 : decode cL_law 1708 = .ok (.i2l, 1) := dk_133 (dk_at dksL_law_64 17 rfl rfl)
theorem dL_law_1709 : decode cL_law 1709 = .ok (.lcmp, 1) := dk_148 (dk_at dksL_law_64 18 rfl rfl)
theorem dL_law_1710 : decode cL_law 1710 = .ok (.ifCond .eq 5, 3) := dk_153 0 5 (dk_at dksL_law_64 19 rfl rfl)
theorem dL_law_1713 : decode cL_law 1713 = .ok (.iconst 0, 1) := dk_3 (dk_at dksL_law_64 22 rfl rfl)
theorem dL_law_1714 : decode cL_law 1714 = .ok (.ireturn, 1) := dk_172 (dk_at dksL_law_64 23 rfl rfl)
theorem dL_law_1715 : decode cL_law 1715 = .ok (.goto 1149, 3) := dk_167 4 125 (dk_at dksL_law_65 0 rfl rfl)
theorem dL_law_1718 : decode cL_law 1718 = .ok (.aload_n 1, 1) := dk_43 (dk_at dksL_law_65 3 rfl rfl)
theorem dL_law_1719 : decode cL_law 1719 = .ok (.aload_n 0, 1) := dk_42 (dk_at dksL_law_65 4 rfl rfl)
theorem dL_law_1720 : decode cL_law 1720 = .ok (.iload 5, 2) := dk_21 5 (dk_at dksL_law_65 5 rfl rfl)
theorem dL_law_1722 : decode cL_law 1722 = .ok (.iconst 1, 1) := dk_4 (dk_at dksL_law_65 7 rfl rfl)
theorem dL_law_1723 : decode cL_law 1723 = .ok (.iadd, 1) := dk_96 (dk_at dksL_law_65 8 rfl rfl)
theorem dL_law_1724 : decode cL_law 1724 = .ok (.iaload, 1) := dk_46 (dk_at dksL_law_65 9 rfl rfl)
theorem dL_law_1725 : decode cL_law 1725 = .ok (.aload_n 3, 1) := dk_45 (dk_at dksL_law_65 10 rfl rfl)
theorem dL_law_1726 : decode cL_law 1726 = .ok (.invokestatic 258, 3) := dk_184 1 2 (dk_at dksL_law_65 11 rfl rfl)
theorem dL_law_1729 : decode cL_law 1729 = .ok (.istore 6, 2) := dk_54 6 (dk_at dksL_law_65 14 rfl rfl)
theorem dL_law_1731 : decode cL_law 1731 = .ok (.aload_n 2, 1) := dk_44 (dk_at dksL_law_65 16 rfl rfl)
theorem dL_law_1732 : decode cL_law 1732 = .ok (.aload_n 0, 1) := dk_42 (dk_at dksL_law_65 17 rfl rfl)
theorem dL_law_1733 : decode cL_law 1733 = .ok (.iload 5, 2) := dk_21 5 (dk_at dksL_law_65 18 rfl rfl)
theorem dL_law_1735 : decode cL_law 1735 = .ok (.iconst 1, 1) := dk_4 (dk_at dksL_law_65 20 rfl rfl)
theorem dL_law_1736 : decode cL_law 1736 = .ok (.iadd, 1) := dk_96 (dk_at dksL_law_65 21 rfl rfl)
theorem dL_law_1737 : decode cL_law 1737 = .ok (.iaload, 1) := dk_46 (dk_at dksL_law_65 22 rfl rfl)
theorem dL_law_1738 : decode cL_law 1738 = .ok (.invokevirtual 260, 3) := dk_182 1 4 (dk_at dksL_law_66 0 rfl rfl)
theorem dL_law_1741 : decode cL_law 1741 = .ok (.istore 7, 2) := dk_54 7 (dk_at dksL_law_66 3 rfl rfl)
theorem dL_law_1743 : decode cL_law 1743 = .ok (.aload_n 2, 1) := dk_44 (dk_at dksL_law_66 5 rfl rfl)
theorem dL_law_1744 : decode cL_law 1744 = .ok (.invokevirtual 167, 3) := dk_182 0 167 (dk_at dksL_law_66 6 rfl rfl)
theorem dL_law_1747 : decode cL_law 1747 = .ok (.iload 6, 2) := dk_21 6 (dk_at dksL_law_66 9 rfl rfl)
theorem dL_law_1749 : decode cL_law 1749 = .ok (.if_icmp .eq 5, 3) := dk_159 0 5 (dk_at dksL_law_66 11 rfl rfl)
theorem dL_law_1752 : decode cL_law 1752 = .ok (.iconst 0, 1) := dk_3 (dk_at dksL_law_66 14 rfl rfl)
theorem dL_law_1753 : decode cL_law 1753 = .ok (.ireturn, 1) := dk_172 (dk_at dksL_law_66 15 rfl rfl)
theorem dL_law_1754 : decode cL_law 1754 = .ok (.iload 6, 2) := dk_21 6 (dk_at dksL_law_66 16 rfl rfl)
theorem dL_law_1756 : decode cL_law 1756 = .ok (.ifCond .ne 15, 3) := dk_154 0 15 (dk_at dksL_law_66 18 rfl rfl)
theorem dL_law_1759 : decode cL_law 1759 = .ok (.aload_n 3, 1) := dk_45 (dk_at dksL_law_66 21 rfl rfl)
theorem dL_law_1760 : decode cL_law 1760 = .ok (.iconst 0, 1) := dk_3 (dk_at dksL_law_66 22 rfl rfl)
theorem dL_law_1761 : decode cL_law 1761 = .ok (.laload, 1) := dk_47 (dk_at dksL_law_66 23 rfl rfl)
theorem dL_law_1762 : decode cL_law 1762 = .ok (.iload 7, 2) := dk_21 7 (dk_at dksL_law_67 0 rfl rfl)
theorem dL_law_1764 : decode cL_law 1764 = .ok (.i2l, 1) := dk_133 (dk_at dksL_law_67 2 rfl rfl)
theorem dL_law_1765 : decode cL_law 1765 = .ok (.lcmp, 1) := dk_148 (dk_at dksL_law_67 3 rfl rfl)
theorem dL_law_1766 : decode cL_law 1766 = .ok (.ifCond .eq 5, 3) := dk_153 0 5 (dk_at dksL_law_67 4 rfl rfl)
theorem dL_law_1769 : decode cL_law 1769 = .ok (.iconst 0, 1) := dk_3 (dk_at dksL_law_67 7 rfl rfl)
theorem dL_law_1770 : decode cL_law 1770 = .ok (.ireturn, 1) := dk_172 (dk_at dksL_law_67 8 rfl rfl)
theorem dL_law_1771 : decode cL_law 1771 = .ok (.goto 1093, 3) := dk_167 4 69 (dk_at dksL_law_67 9 rfl rfl)
theorem dL_law_1774 : decode cL_law 1774 = .ok (.aload_n 1, 1) := dk_43 (dk_at dksL_law_67 12 rfl rfl)
theorem dL_law_1775 : decode cL_law 1775 = .ok (.invokevirtual 261, 3) := dk_182 1 5 (dk_at dksL_law_67 13 rfl rfl)
theorem dL_law_1778 : decode cL_law 1778 = .ok (.aload_n 2, 1) := dk_44 (dk_at dksL_law_67 16 rfl rfl)
theorem dL_law_1779 : decode cL_law 1779 = .ok (.invokevirtual 264, 3) := dk_182 1 8 (dk_at dksL_law_67 17 rfl rfl)
theorem dL_law_1782 : decode cL_law 1782 = .ok (.if_icmp .eq 1082, 3) := dk_159 4 58 (dk_at dksL_law_67 20 rfl rfl)
theorem dL_law_1785 : decode cL_law 1785 = .ok (.iconst 0, 1) := dk_3 (dk_at dksL_law_67 23 rfl rfl)
theorem dL_law_1786 : decode cL_law 1786 = .ok (.ireturn, 1) := dk_172 (dk_at dksL_law_68 0 rfl rfl)
theorem dL_law_1787 : decode cL_law 1787 = .ok (.aload_n 1, 1) := dk_43 (dk_at dksL_law_68 1 rfl rfl)
theorem dL_law_1788 : decode cL_law 1788 = .ok (.aload_n 0, 1) := dk_42 (dk_at dksL_law_68 2 rfl rfl)
theorem dL_law_1789 : decode cL_law 1789 = .ok (.iload 5, 2) := dk_21 5 (dk_at dksL_law_68 3 rfl rfl)
theorem dL_law_1791 : decode cL_law 1791 = .ok (.iconst 1, 1) := dk_4 (dk_at dksL_law_68 5 rfl rfl)
theorem dL_law_1792 : decode cL_law 1792 = .ok (.iadd, 1) := dk_96 (dk_at dksL_law_68 6 rfl rfl)
theorem dL_law_1793 : decode cL_law 1793 = .ok (.iaload, 1) := dk_46 (dk_at dksL_law_68 7 rfl rfl)
theorem dL_law_1794 : decode cL_law 1794 = .ok (.aload_n 3, 1) := dk_45 (dk_at dksL_law_68 8 rfl rfl)
theorem dL_law_1795 : decode cL_law 1795 = .ok (.invokestatic 265, 3) := dk_184 1 9 (dk_at dksL_law_68 9 rfl rfl)
theorem dL_law_1798 : decode cL_law 1798 = .ok (.istore 6, 2) := dk_54 6 (dk_at dksL_law_68 12 rfl rfl)
theorem dL_law_1800 : decode cL_law 1800 = .ok (.aload_n 2, 1) := dk_44 (dk_at dksL_law_68 14 rfl rfl)
theorem dL_law_1801 : decode cL_law 1801 = .ok (.aload_n 0, 1) := dk_42 (dk_at dksL_law_68 15 rfl rfl)
theorem dL_law_1802 : decode cL_law 1802 = .ok (.iload 5, 2) := dk_21 5 (dk_at dksL_law_68 16 rfl rfl)
theorem dL_law_1804 : decode cL_law 1804 = .ok (.iconst 1, 1) := dk_4 (dk_at dksL_law_68 18 rfl rfl)
theorem dL_law_1805 : decode cL_law 1805 = .ok (.iadd, 1) := dk_96 (dk_at dksL_law_68 19 rfl rfl)
theorem dL_law_1806 : decode cL_law 1806 = .ok (.iaload, 1) := dk_46 (dk_at dksL_law_68 20 rfl rfl)
theorem dL_law_1807 : decode cL_law 1807 = .ok (.invokevirtual 267, 3) := dk_182 1 11 (dk_at dksL_law_68 21 rfl rfl)
theorem dL_law_1810 : decode cL_law 1810 = .ok (.istore 7, 2) := dk_54 7 (dk_at dksL_law_69 0 rfl rfl)
theorem dL_law_1812 : decode cL_law 1812 = .ok (.aload_n 2, 1) := dk_44 (dk_at dksL_law_69 2 rfl rfl)
theorem dL_law_1813 : decode cL_law 1813 = .ok (.invokevirtual 167, 3) := dk_182 0 167 (dk_at dksL_law_69 3 rfl rfl)
theorem dL_law_1816 : decode cL_law 1816 = .ok (.iload 6, 2) := dk_21 6 (dk_at dksL_law_69 6 rfl rfl)
theorem dL_law_1818 : decode cL_law 1818 = .ok (.if_icmp .eq 5, 3) := dk_159 0 5 (dk_at dksL_law_69 8 rfl rfl)
theorem dL_law_1821 : decode cL_law 1821 = .ok (.iconst 0, 1) := dk_3 (dk_at dksL_law_69 11 rfl rfl)
theorem dL_law_1822 : decode cL_law 1822 = .ok (.ireturn, 1) := dk_172 (dk_at dksL_law_69 12 rfl rfl)
theorem dL_law_1823 : decode cL_law 1823 = .ok (.iload 6, 2) := dk_21 6 (dk_at dksL_law_69 13 rfl rfl)
theorem dL_law_1825 : decode cL_law 1825 = .ok (.ifCond .ne 15, 3) := dk_154 0 15 (dk_at dksL_law_69 15 rfl rfl)
theorem dL_law_1828 : decode cL_law 1828 = .ok (.aload_n 3, 1) := dk_45 (dk_at dksL_law_69 18 rfl rfl)
theorem dL_law_1829 : decode cL_law 1829 = .ok (.iconst 0, 1) := dk_3 (dk_at dksL_law_69 19 rfl rfl)
theorem dL_law_1830 : decode cL_law 1830 = .ok (.laload, 1) := dk_47 (dk_at dksL_law_69 20 rfl rfl)
theorem dL_law_1831 : decode cL_law 1831 = .ok (.iload 7, 2) := dk_21 7 (dk_at dksL_law_69 21 rfl rfl)
theorem dL_law_1833 : decode cL_law 1833 = .ok (.i2l, 1) := dk_133 (dk_at dksL_law_69 23 rfl rfl)
theorem dL_law_1834 : decode cL_law 1834 = .ok (.lcmp, 1) := dk_148 (dk_at dksL_law_70 0 rfl rfl)
theorem dL_law_1835 : decode cL_law 1835 = .ok (.ifCond .eq 5, 3) := dk_153 0 5 (dk_at dksL_law_70 1 rfl rfl)
theorem dL_law_1838 : decode cL_law 1838 = .ok (.iconst 0, 1) := dk_3 (dk_at dksL_law_70 4 rfl rfl)
theorem dL_law_1839 : decode cL_law 1839 = .ok (.ireturn, 1) := dk_172 (dk_at dksL_law_70 5 rfl rfl)
theorem dL_law_1840 : decode cL_law 1840 = .ok (.goto 1024, 3) := dk_167 4 0 (dk_at dksL_law_70 6 rfl rfl)
theorem dL_law_1843 : decode cL_law 1843 = .ok (.aload_n 1, 1) := dk_43 (dk_at dksL_law_70 9 rfl rfl)
theorem dL_law_1844 : decode cL_law 1844 = .ok (.aload_n 0, 1) := dk_42 (dk_at dksL_law_70 10 rfl rfl)
theorem dL_law_1845 : decode cL_law 1845 = .ok (.iload 5, 2) := dk_21 5 (dk_at dksL_law_70 11 rfl rfl)
theorem dL_law_1847 : decode cL_law 1847 = .ok (.iconst 1, 1) := dk_4 (dk_at dksL_law_70 13 rfl rfl)
theorem dL_law_1848 : decode cL_law 1848 = .ok (.iadd, 1) := dk_96 (dk_at dksL_law_70 14 rfl rfl)
theorem dL_law_1849 : decode cL_law 1849 = .ok (.iaload, 1) := dk_46 (dk_at dksL_law_70 15 rfl rfl)
theorem dL_law_1850 : decode cL_law 1850 = .ok (.aload_n 3, 1) := dk_45 (dk_at dksL_law_70 16 rfl rfl)
theorem dL_law_1851 : decode cL_law 1851 = .ok (.invokestatic 268, 3) := dk_184 1 12 (dk_at dksL_law_70 17 rfl rfl)
theorem dL_law_1854 : decode cL_law 1854 = .ok (.istore 6, 2) := dk_54 6 (dk_at dksL_law_70 20 rfl rfl)
theorem dL_law_1856 : decode cL_law 1856 = .ok (.aload_n 2, 1) := dk_44 (dk_at dksL_law_70 22 rfl rfl)
theorem dL_law_1857 : decode cL_law 1857 = .ok (.aload_n 0, 1) := dk_42 (dk_at dksL_law_70 23 rfl rfl)
theorem dL_law_1858 : decode cL_law 1858 = .ok (.iload 5, 2) := dk_21 5 (dk_at dksL_law_71 0 rfl rfl)
theorem dL_law_1860 : decode cL_law 1860 = .ok (.iconst 1, 1) := dk_4 (dk_at dksL_law_71 2 rfl rfl)
theorem dL_law_1861 : decode cL_law 1861 = .ok (.iadd, 1) := dk_96 (dk_at dksL_law_71 3 rfl rfl)
theorem dL_law_1862 : decode cL_law 1862 = .ok (.iaload, 1) := dk_46 (dk_at dksL_law_71 4 rfl rfl)
theorem dL_law_1863 : decode cL_law 1863 = .ok (.invokevirtual 270, 3) := dk_182 1 14 (dk_at dksL_law_71 5 rfl rfl)
theorem dL_law_1866 : decode cL_law 1866 = .ok (.istore 7, 2) := dk_54 7 (dk_at dksL_law_71 8 rfl rfl)
theorem dL_law_1868 : decode cL_law 1868 = .ok (.aload_n 2, 1) := dk_44 (dk_at dksL_law_71 10 rfl rfl)
theorem dL_law_1869 : decode cL_law 1869 = .ok (.invokevirtual 167, 3) := dk_182 0 167 (dk_at dksL_law_71 11 rfl rfl)
theorem dL_law_1872 : decode cL_law 1872 = .ok (.iload 6, 2) := dk_21 6 (dk_at dksL_law_71 14 rfl rfl)
theorem dL_law_1874 : decode cL_law 1874 = .ok (.if_icmp .eq 5, 3) := dk_159 0 5 (dk_at dksL_law_71 16 rfl rfl)
theorem dL_law_1877 : decode cL_law 1877 = .ok (.iconst 0, 1) := dk_3 (dk_at dksL_law_71 19 rfl rfl)
theorem dL_law_1878 : decode cL_law 1878 = .ok (.ireturn, 1) := dk_172 (dk_at dksL_law_71 20 rfl rfl)
theorem dL_law_1879 : decode cL_law 1879 = .ok (.iload 6, 2) := dk_21 6 (dk_at dksL_law_71 21 rfl rfl)
theorem dL_law_1881 : decode cL_law 1881 = .ok (.ifCond .ne 15, 3) := dk_154 0 15 (dk_at dksL_law_72 0 rfl rfl)
theorem dL_law_1884 : decode cL_law 1884 = .ok (.aload_n 3, 1) := dk_45 (dk_at dksL_law_72 3 rfl rfl)
theorem dL_law_1885 : decode cL_law 1885 = .ok (.iconst 0, 1) := dk_3 (dk_at dksL_law_72 4 rfl rfl)
theorem dL_law_1886 : decode cL_law 1886 = .ok (.laload, 1) := dk_47 (dk_at dksL_law_72 5 rfl rfl)
theorem dL_law_1887 : decode cL_law 1887 = .ok (.iload 7, 2) := dk_21 7 (dk_at dksL_law_72 6 rfl rfl)
theorem dL_law_1889 : decode cL_law 1889 = .ok (.i2l, 1) := dk_133 (dk_at dksL_law_72 8 rfl rfl)
theorem dL_law_1890 : decode cL_law 1890 = .ok (.lcmp, 1) := dk_148 (dk_at dksL_law_72 9 rfl rfl)
theorem dL_law_1891 : decode cL_law 1891 = .ok (.ifCond .eq 5, 3) := dk_153 0 5 (dk_at dksL_law_72 10 rfl rfl)
theorem dL_law_1894 : decode cL_law 1894 = .ok (.iconst 0, 1) := dk_3 (dk_at dksL_law_72 13 rfl rfl)
theorem dL_law_1895 : decode cL_law 1895 = .ok (.ireturn, 1) := dk_172 (dk_at dksL_law_72 14 rfl rfl)
theorem dL_law_1896 : decode cL_law 1896 = .ok (.goto 968, 3) := dk_167 3 200 (dk_at dksL_law_72 15 rfl rfl)
theorem dL_law_1899 : decode cL_law 1899 = .ok (.aload_n 1, 1) := dk_43 (dk_at dksL_law_72 18 rfl rfl)
theorem dL_law_1900 : decode cL_law 1900 = .ok (.aload_n 0, 1) := dk_42 (dk_at dksL_law_72 19 rfl rfl)
theorem dL_law_1901 : decode cL_law 1901 = .ok (.iload 5, 2) := dk_21 5 (dk_at dksL_law_72 20 rfl rfl)
theorem dL_law_1903 : decode cL_law 1903 = .ok (.iconst 1, 1) := dk_4 (dk_at dksL_law_72 22 rfl rfl)
theorem dL_law_1904 : decode cL_law 1904 = .ok (.iadd, 1) := dk_96 (dk_at dksL_law_72 23 rfl rfl)
theorem dL_law_1905 : decode cL_law 1905 = .ok (.iaload, 1) := dk_46 (dk_at dksL_law_73 0 rfl rfl)
theorem dL_law_1906 : decode cL_law 1906 = .ok (.aload_n 3, 1) := dk_45 (dk_at dksL_law_73 1 rfl rfl)
theorem dL_law_1907 : decode cL_law 1907 = .ok (.invokestatic 271, 3) := dk_184 1 15 (dk_at dksL_law_73 2 rfl rfl)
theorem dL_law_1910 : decode cL_law 1910 = .ok (.istore 6, 2) := dk_54 6 (dk_at dksL_law_73 5 rfl rfl)
theorem dL_law_1912 : decode cL_law 1912 = .ok (.aload_n 2, 1) := dk_44 (dk_at dksL_law_73 7 rfl rfl)
theorem dL_law_1913 : decode cL_law 1913 = .ok (.aload_n 0, 1) := dk_42 (dk_at dksL_law_73 8 rfl rfl)
theorem dL_law_1914 : decode cL_law 1914 = .ok (.iload 5, 2) := dk_21 5 (dk_at dksL_law_73 9 rfl rfl)
theorem dL_law_1916 : decode cL_law 1916 = .ok (.iconst 1, 1) := dk_4 (dk_at dksL_law_73 11 rfl rfl)
theorem dL_law_1917 : decode cL_law 1917 = .ok (.iadd, 1) := dk_96 (dk_at dksL_law_73 12 rfl rfl)
theorem dL_law_1918 : decode cL_law 1918 = .ok (.iaload, 1) := dk_46 (dk_at dksL_law_73 13 rfl rfl)
theorem dL_law_1919 : decode cL_law 1919 = .ok (.invokevirtual 273, 3) := dk_182 1 17 (dk_at dksL_law_73 14 rfl rfl)
theorem dL_law_1922 : decode cL_law 1922 = .ok (.istore 7, 2) := dk_54 7 (dk_at dksL_law_73 17 rfl rfl)
theorem dL_law_1924 : decode cL_law 1924 = .ok (.aload_n 2, 1) := dk_44 (dk_at dksL_law_73 19 rfl rfl)
theorem dL_law_1925 : decode cL_law 1925 = .ok (.invokevirtual 167, 3) := dk_182 0 167 (dk_at dksL_law_73 20 rfl rfl)
theorem dL_law_1928 : decode cL_law 1928 = .ok (.iload 6, 2) := dk_21 6 (dk_at dksL_law_74 0 rfl rfl)
theorem dL_law_1930 : decode cL_law 1930 = .ok (.if_icmp .eq 5, 3) := dk_159 0 5 (dk_at dksL_law_74 2 rfl rfl)
theorem dL_law_1933 : decode cL_law 1933 = .ok (.iconst 0, 1) := dk_3 (dk_at dksL_law_74 5 rfl rfl)
theorem dL_law_1934 : decode cL_law 1934 = .ok (.ireturn, 1) := dk_172 (dk_at dksL_law_74 6 rfl rfl)
theorem dL_law_1935 : decode cL_law 1935 = .ok (.iload 6, 2) := dk_21 6 (dk_at dksL_law_74 7 rfl rfl)
theorem dL_law_1937 : decode cL_law 1937 = .ok (.ifCond .ne 15, 3) := dk_154 0 15 (dk_at dksL_law_74 9 rfl rfl)
theorem dL_law_1940 : decode cL_law 1940 = .ok (.aload_n 3, 1) := dk_45 (dk_at dksL_law_74 12 rfl rfl)
theorem dL_law_1941 : decode cL_law 1941 = .ok (.iconst 0, 1) := dk_3 (dk_at dksL_law_74 13 rfl rfl)
theorem dL_law_1942 : decode cL_law 1942 = .ok (.laload, 1) := dk_47 (dk_at dksL_law_74 14 rfl rfl)
theorem dL_law_1943 : decode cL_law 1943 = .ok (.iload 7, 2) := dk_21 7 (dk_at dksL_law_74 15 rfl rfl)
theorem dL_law_1945 : decode cL_law 1945 = .ok (.i2l, 1) := dk_133 (dk_at dksL_law_74 17 rfl rfl)
theorem dL_law_1946 : decode cL_law 1946 = .ok (.lcmp, 1) := dk_148 (dk_at dksL_law_74 18 rfl rfl)
theorem dL_law_1947 : decode cL_law 1947 = .ok (.ifCond .eq 5, 3) := dk_153 0 5 (dk_at dksL_law_74 19 rfl rfl)
theorem dL_law_1950 : decode cL_law 1950 = .ok (.iconst 0, 1) := dk_3 (dk_at dksL_law_74 22 rfl rfl)
theorem dL_law_1951 : decode cL_law 1951 = .ok (.ireturn, 1) := dk_172 (dk_at dksL_law_74 23 rfl rfl)
theorem dL_law_1952 : decode cL_law 1952 = .ok (.goto 912, 3) := dk_167 3 144 (dk_at dksL_law_75 0 rfl rfl)
theorem dL_law_1955 : decode cL_law 1955 = .ok (.aload_n 1, 1) := dk_43 (dk_at dksL_law_75 3 rfl rfl)
theorem dL_law_1956 : decode cL_law 1956 = .ok (.aload_n 3, 1) := dk_45 (dk_at dksL_law_75 4 rfl rfl)
theorem dL_law_1957 : decode cL_law 1957 = .ok (.invokestatic 274, 3) := dk_184 1 18 (dk_at dksL_law_75 5 rfl rfl)
theorem dL_law_1960 : decode cL_law 1960 = .ok (.istore 6, 2) := dk_54 6 (dk_at dksL_law_75 8 rfl rfl)
theorem dL_law_1962 : decode cL_law 1962 = .ok (.aload_n 2, 1) := dk_44 (dk_at dksL_law_75 10 rfl rfl)
theorem dL_law_1963 : decode cL_law 1963 = .ok (.invokevirtual 276, 3) := dk_182 1 20 (dk_at dksL_law_75 11 rfl rfl)
theorem dL_law_1966 : decode cL_law 1966 = .ok (.istore 7, 2) := dk_54 7 (dk_at dksL_law_75 14 rfl rfl)
theorem dL_law_1968 : decode cL_law 1968 = .ok (.aload_n 2, 1) := dk_44 (dk_at dksL_law_75 16 rfl rfl)
theorem dL_law_1969 : decode cL_law 1969 = .ok (.invokevirtual 167, 3) := dk_182 0 167 (dk_at dksL_law_75 17 rfl rfl)
theorem dL_law_1972 : decode cL_law 1972 = .ok (.iload 6, 2) := dk_21 6 (dk_at dksL_law_75 20 rfl rfl)
theorem dL_law_1974 : decode cL_law 1974 = .ok (.if_icmp .eq 5, 3) := dk_159 0 5 (dk_at dksL_law_76 0 rfl rfl)
theorem dL_law_1977 : decode cL_law 1977 = .ok (.iconst 0, 1) := dk_3 (dk_at dksL_law_76 3 rfl rfl)
theorem dL_law_1978 : decode cL_law 1978 = .ok (.ireturn, 1) := dk_172 (dk_at dksL_law_76 4 rfl rfl)
theorem dL_law_1979 : decode cL_law 1979 = .ok (.iload 6, 2) := dk_21 6 (dk_at dksL_law_76 5 rfl rfl)
theorem dL_law_1981 : decode cL_law 1981 = .ok (.ifCond .ne 15, 3) := dk_154 0 15 (dk_at dksL_law_76 7 rfl rfl)
theorem dL_law_1984 : decode cL_law 1984 = .ok (.aload_n 3, 1) := dk_45 (dk_at dksL_law_76 10 rfl rfl)
theorem dL_law_1985 : decode cL_law 1985 = .ok (.iconst 0, 1) := dk_3 (dk_at dksL_law_76 11 rfl rfl)
theorem dL_law_1986 : decode cL_law 1986 = .ok (.laload, 1) := dk_47 (dk_at dksL_law_76 12 rfl rfl)
theorem dL_law_1987 : decode cL_law 1987 = .ok (.iload 7, 2) := dk_21 7 (dk_at dksL_law_76 13 rfl rfl)
theorem dL_law_1989 : decode cL_law 1989 = .ok (.i2l, 1) := dk_133 (dk_at dksL_law_76 15 rfl rfl)
theorem dL_law_1990 : decode cL_law 1990 = .ok (.lcmp, 1) := dk_148 (dk_at dksL_law_76 16 rfl rfl)
theorem dL_law_1991 : decode cL_law 1991 = .ok (.ifCond .eq 5, 3) := dk_153 0 5 (dk_at dksL_law_76 17 rfl rfl)
theorem dL_law_1994 : decode cL_law 1994 = .ok (.iconst 0, 1) := dk_3 (dk_at dksL_law_76 20 rfl rfl)
theorem dL_law_1995 : decode cL_law 1995 = .ok (.ireturn, 1) := dk_172 (dk_at dksL_law_76 21 rfl rfl)
theorem dL_law_1996 : decode cL_law 1996 = .ok (.goto 868, 3) := dk_167 3 100 (dk_at dksL_law_77 0 rfl rfl)
theorem dL_law_1999 : decode cL_law 1999 = .ok (.aload_n 1, 1) := dk_43 (dk_at dksL_law_77 3 rfl rfl)
theorem dL_law_2000 : decode cL_law 2000 = .ok (.invokevirtual 277, 3) := dk_182 1 21 (dk_at dksL_law_77 4 rfl rfl)
theorem dL_law_2003 : decode cL_law 2003 = .ok (.aload_n 2, 1) := dk_44 (dk_at dksL_law_77 7 rfl rfl)
theorem dL_law_2004 : decode cL_law 2004 = .ok (.invokevirtual 280, 3) := dk_182 1 24 (dk_at dksL_law_77 8 rfl rfl)
theorem dL_law_2007 : decode cL_law 2007 = .ok (.if_icmp .eq 857, 3) := dk_159 3 89 (dk_at dksL_law_77 11 rfl rfl)
theorem dL_law_2010 : decode cL_law 2010 = .ok (.iconst 0, 1) := dk_3 (dk_at dksL_law_77 14 rfl rfl)
theorem dL_law_2011 : decode cL_law 2011 = .ok (.ireturn, 1) := dk_172 (dk_at dksL_law_77 15 rfl rfl)
theorem dL_law_2012 : decode cL_law 2012 = .ok (.aload_n 1, 1) := dk_43 (dk_at dksL_law_77 16 rfl rfl)
theorem dL_law_2013 : decode cL_law 2013 = .ok (.aload_n 0, 1) := dk_42 (dk_at dksL_law_77 17 rfl rfl)
theorem dL_law_2014 : decode cL_law 2014 = .ok (.iload 5, 2) := dk_21 5 (dk_at dksL_law_77 18 rfl rfl)
theorem dL_law_2016 : decode cL_law 2016 = .ok (.iconst 1, 1) := dk_4 (dk_at dksL_law_77 20 rfl rfl)
theorem dL_law_2017 : decode cL_law 2017 = .ok (.iadd, 1) := dk_96 (dk_at dksL_law_77 21 rfl rfl)
theorem dL_law_2018 : decode cL_law 2018 = .ok (.iaload, 1) := dk_46 (dk_at dksL_law_77 22 rfl rfl)
theorem dL_law_2019 : decode cL_law 2019 = .ok (.aload_n 0, 1) := dk_42 (dk_at dksL_law_77 23 rfl rfl)
theorem dL_law_2020 : decode cL_law 2020 = .ok (.iload 5, 2) := dk_21 5 (dk_at dksL_law_78 0 rfl rfl)
theorem dL_law_2022 : decode cL_law 2022 = .ok (.iconst 2, 1) := dk_5 (dk_at dksL_law_78 2 rfl rfl)
theorem dL_law_2023 : decode cL_law 2023 = .ok (.iadd, 1) := dk_96 (dk_at dksL_law_78 3 rfl rfl)
theorem dL_law_2024 : decode cL_law 2024 = .ok (.iaload, 1) := dk_46 (dk_at dksL_law_78 4 rfl rfl)
theorem dL_law_2025 : decode cL_law 2025 = .ok (.aload_n 3, 1) := dk_45 (dk_at dksL_law_78 5 rfl rfl)
theorem dL_law_2026 : decode cL_law 2026 = .ok (.invokestatic 281, 3) := dk_184 1 25 (dk_at dksL_law_78 6 rfl rfl)
theorem dL_law_2029 : decode cL_law 2029 = .ok (.istore 6, 2) := dk_54 6 (dk_at dksL_law_78 9 rfl rfl)
theorem dL_law_2031 : decode cL_law 2031 = .ok (.aload_n 2, 1) := dk_44 (dk_at dksL_law_78 11 rfl rfl)
theorem dL_law_2032 : decode cL_law 2032 = .ok (.aload_n 0, 1) := dk_42 (dk_at dksL_law_78 12 rfl rfl)
theorem dL_law_2033 : decode cL_law 2033 = .ok (.iload 5, 2) := dk_21 5 (dk_at dksL_law_78 13 rfl rfl)
theorem dL_law_2035 : decode cL_law 2035 = .ok (.iconst 1, 1) := dk_4 (dk_at dksL_law_78 15 rfl rfl)
theorem dL_law_2036 : decode cL_law 2036 = .ok (.iadd, 1) := dk_96 (dk_at dksL_law_78 16 rfl rfl)
theorem dL_law_2037 : decode cL_law 2037 = .ok (.iaload, 1) := dk_46 (dk_at dksL_law_78 17 rfl rfl)
theorem dL_law_2038 : decode cL_law 2038 = .ok (.aload_n 0, 1) := dk_42 (dk_at dksL_law_78 18 rfl rfl)
theorem dL_law_2039 : decode cL_law 2039 = .ok (.iload 5, 2) := dk_21 5 (dk_at dksL_law_78 19 rfl rfl)
theorem dL_law_2041 : decode cL_law 2041 = .ok (.iconst 2, 1) := dk_5 (dk_at dksL_law_78 21 rfl rfl)
theorem dL_law_2042 : decode cL_law 2042 = .ok (.iadd, 1) := dk_96 (dk_at dksL_law_78 22 rfl rfl)
theorem dL_law_2043 : decode cL_law 2043 = .ok (.iaload, 1) := dk_46 (dk_at dksL_law_78 23 rfl rfl)
theorem dL_law_2044 : decode cL_law 2044 = .ok (.invokevirtual 283, 3) := dk_182 1 27 (dk_at dksL_law_79 0 rfl rfl)
theorem dL_law_2047 : decode cL_law 2047 = .ok (.istore 7, 2) := dk_54 7 (dk_at dksL_law_79 3 rfl rfl)
theorem dL_law_2049 : decode cL_law 2049 = .ok (.aload_n 2, 1) := dk_44 (dk_at dksL_law_79 5 rfl rfl)
theorem dL_law_2050 : decode cL_law 2050 = .ok (.invokevirtual 167, 3) := dk_182 0 167 (dk_at dksL_law_79 6 rfl rfl)
theorem dL_law_2053 : decode cL_law 2053 = .ok (.iload 6, 2) := dk_21 6 (dk_at dksL_law_79 9 rfl rfl)
theorem dL_law_2055 : decode cL_law 2055 = .ok (.if_icmp .eq 5, 3) := dk_159 0 5 (dk_at dksL_law_79 11 rfl rfl)
theorem dL_law_2058 : decode cL_law 2058 = .ok (.iconst 0, 1) := dk_3 (dk_at dksL_law_79 14 rfl rfl)
theorem dL_law_2059 : decode cL_law 2059 = .ok (.ireturn, 1) := dk_172 (dk_at dksL_law_79 15 rfl rfl)
theorem dL_law_2060 : decode cL_law 2060 = .ok (.iload 6, 2) := dk_21 6 (dk_at dksL_law_79 16 rfl rfl)
theorem dL_law_2062 : decode cL_law 2062 = .ok (.ifCond .ne 22, 3) := dk_154 0 22 (dk_at dksL_law_79 18 rfl rfl)
theorem dL_law_2065 : decode cL_law 2065 = .ok (.aload_n 3, 1) := dk_45 (dk_at dksL_law_79 21 rfl rfl)
theorem dL_law_2066 : decode cL_law 2066 = .ok (.iconst 0, 1) := dk_3 (dk_at dksL_law_79 22 rfl rfl)
theorem dL_law_2067 : decode cL_law 2067 = .ok (.laload, 1) := dk_47 (dk_at dksL_law_79 23 rfl rfl)
theorem dL_law_2068 : decode cL_law 2068 = .ok (.iload 7, 2) := dk_21 7 (dk_at dksL_law_80 0 rfl rfl)
theorem dL_law_2070 : decode cL_law 2070 = .ok (.ifCond .eq 7, 3) := dk_153 0 7 (dk_at dksL_law_80 2 rfl rfl)
theorem dL_law_2073 : decode cL_law 2073 = .ok (.lconst 1, 1) := dk_10 (dk_at dksL_law_80 5 rfl rfl)
theorem dL_law_2074 : decode cL_law 2074 = .ok (.goto 4, 3) := dk_167 0 4 (dk_at dksL_law_80 6 rfl rfl)
theorem dL_law_2077 : decode cL_law 2077 = .ok (.lconst 0, 1) := dk_9 (dk_at dksL_law_80 9 rfl rfl)
theorem dL_law_2078 : decode cL_law 2078 = .ok (.lcmp, 1) := dk_148 (dk_at dksL_law_80 10 rfl rfl)
theorem dL_law_2079 : decode cL_law 2079 = .ok (.ifCond .eq 5, 3) := dk_153 0 5 (dk_at dksL_law_80 11 rfl rfl)
theorem dL_law_2082 : decode cL_law 2082 = .ok (.iconst 0, 1) := dk_3 (dk_at dksL_law_80 14 rfl rfl)
theorem dL_law_2083 : decode cL_law 2083 = .ok (.ireturn, 1) := dk_172 (dk_at dksL_law_80 15 rfl rfl)
theorem dL_law_2084 : decode cL_law 2084 = .ok (.goto 780, 3) := dk_167 3 12 (dk_at dksL_law_80 16 rfl rfl)
theorem dL_law_2087 : decode cL_law 2087 = .ok (.aload_n 1, 1) := dk_43 (dk_at dksL_law_80 19 rfl rfl)
theorem dL_law_2088 : decode cL_law 2088 = .ok (.aload_n 3, 1) := dk_45 (dk_at dksL_law_80 20 rfl rfl)
theorem dL_law_2089 : decode cL_law 2089 = .ok (.invokestatic 284, 3) := dk_184 1 28 (dk_at dksL_law_80 21 rfl rfl)
theorem dL_law_2092 : decode cL_law 2092 = .ok (.istore 6, 2) := dk_54 6 (dk_at dksL_law_81 0 rfl rfl)
theorem dL_law_2094 : decode cL_law 2094 = .ok (.aload_n 2, 1) := dk_44 (dk_at dksL_law_81 2 rfl rfl)
theorem dL_law_2095 : decode cL_law 2095 = .ok (.invokevirtual 286, 3) := dk_182 1 30 (dk_at dksL_law_81 3 rfl rfl)
theorem dL_law_2098 : decode cL_law 2098 = .ok (.istore 7, 2) := dk_54 7 (dk_at dksL_law_81 6 rfl rfl)
theorem dL_law_2100 : decode cL_law 2100 = .ok (.aload_n 2, 1) := dk_44 (dk_at dksL_law_81 8 rfl rfl)
theorem dL_law_2101 : decode cL_law 2101 = .ok (.invokevirtual 167, 3) := dk_182 0 167 (dk_at dksL_law_81 9 rfl rfl)
theorem dL_law_2104 : decode cL_law 2104 = .ok (.iload 6, 2) := dk_21 6 (dk_at dksL_law_81 12 rfl rfl)
theorem dL_law_2106 : decode cL_law 2106 = .ok (.if_icmp .eq 5, 3) := dk_159 0 5 (dk_at dksL_law_81 14 rfl rfl)
theorem dL_law_2109 : decode cL_law 2109 = .ok (.iconst 0, 1) := dk_3 (dk_at dksL_law_81 17 rfl rfl)
theorem dL_law_2110 : decode cL_law 2110 = .ok (.ireturn, 1) := dk_172 (dk_at dksL_law_81 18 rfl rfl)
theorem dL_law_2111 : decode cL_law 2111 = .ok (.iload 6, 2) := dk_21 6 (dk_at dksL_law_81 19 rfl rfl)
theorem dL_law_2113 : decode cL_law 2113 = .ok (.ifCond .ne 15, 3) := dk_154 0 15 (dk_at dksL_law_81 21 rfl rfl)
theorem dL_law_2116 : decode cL_law 2116 = .ok (.aload_n 3, 1) := dk_45 (dk_at dksL_law_82 0 rfl rfl)
theorem dL_law_2117 : decode cL_law 2117 = .ok (.iconst 0, 1) := dk_3 (dk_at dksL_law_82 1 rfl rfl)
theorem dL_law_2118 : decode cL_law 2118 = .ok (.laload, 1) := dk_47 (dk_at dksL_law_82 2 rfl rfl)
theorem dL_law_2119 : decode cL_law 2119 = .ok (.iload 7, 2) := dk_21 7 (dk_at dksL_law_82 3 rfl rfl)
theorem dL_law_2121 : decode cL_law 2121 = .ok (.i2l, 1) := dk_133 (dk_at dksL_law_82 5 rfl rfl)
theorem dL_law_2122 : decode cL_law 2122 = .ok (.lcmp, 1) := dk_148 (dk_at dksL_law_82 6 rfl rfl)
theorem dL_law_2123 : decode cL_law 2123 = .ok (.ifCond .eq 5, 3) := dk_153 0 5 (dk_at dksL_law_82 7 rfl rfl)
theorem dL_law_2126 : decode cL_law 2126 = .ok (.iconst 0, 1) := dk_3 (dk_at dksL_law_82 10 rfl rfl)
theorem dL_law_2127 : decode cL_law 2127 = .ok (.ireturn, 1) := dk_172 (dk_at dksL_law_82 11 rfl rfl)
theorem dL_law_2128 : decode cL_law 2128 = .ok (.goto 736, 3) := dk_167 2 224 (dk_at dksL_law_82 12 rfl rfl)
theorem dL_law_2131 : decode cL_law 2131 = .ok (.aload_n 1, 1) := dk_43 (dk_at dksL_law_82 15 rfl rfl)
theorem dL_law_2132 : decode cL_law 2132 = .ok (.invokevirtual 287, 3) := dk_182 1 31 (dk_at dksL_law_82 16 rfl rfl)
theorem dL_law_2135 : decode cL_law 2135 = .ok (.aload_n 2, 1) := dk_44 (dk_at dksL_law_82 19 rfl rfl)
theorem dL_law_2136 : decode cL_law 2136 = .ok (.invokevirtual 290, 3) := dk_182 1 34 (dk_at dksL_law_82 20 rfl rfl)
theorem dL_law_2139 : decode cL_law 2139 = .ok (.if_icmp .eq 725, 3) := dk_159 2 213 (dk_at dksL_law_83 0 rfl rfl)
theorem dL_law_2142 : decode cL_law 2142 = .ok (.iconst 0, 1) := dk_3 (dk_at dksL_law_83 3 rfl rfl)
theorem dL_law_2143 : decode cL_law 2143 = .ok (.ireturn, 1) := dk_172 (dk_at dksL_law_83 4 rfl rfl)
theorem dL_law_2144 : decode cL_law 2144 = .ok (.aload_n 1, 1) := dk_43 (dk_at dksL_law_83 5 rfl rfl)
theorem dL_law_2145 : decode cL_law 2145 = .ok (.invokevirtual 291, 3) := dk_182 1 35 (dk_at dksL_law_83 6 rfl rfl)
theorem dL_law_2148 : decode cL_law 2148 = .ok (.aload_n 2, 1) := dk_44 (dk_at dksL_law_83 9 rfl rfl)
theorem dL_law_2149 : decode cL_law 2149 = .ok (.invokevirtual 294, 3) := dk_182 1 38 (dk_at dksL_law_83 10 rfl rfl)
theorem dL_law_2152 : decode cL_law 2152 = .ok (.if_icmp .eq 712, 3) := dk_159 2 200 (dk_at dksL_law_83 13 rfl rfl)
theorem dL_law_2155 : decode cL_law 2155 = .ok (.iconst 0, 1) := dk_3 (dk_at dksL_law_83 16 rfl rfl)
theorem dL_law_2156 : decode cL_law 2156 = .ok (.ireturn, 1) := dk_172 (dk_at dksL_law_83 17 rfl rfl)
theorem dL_law_2157 : decode cL_law 2157 = .ok (.aload_n 1, 1) := dk_43 (dk_at dksL_law_83 18 rfl rfl)
theorem dL_law_2158 : decode cL_law 2158 = .ok (.aload_n 0, 1) := dk_42 (dk_at dksL_law_83 19 rfl rfl)
theorem dL_law_2159 : decode cL_law 2159 = .ok (.iload 5, 2) := dk_21 5 (dk_at dksL_law_83 20 rfl rfl)
theorem dL_law_2161 : decode cL_law 2161 = .ok (.iconst 1, 1) := dk_4 (dk_at dksL_law_83 22 rfl rfl)
theorem dL_law_2162 : decode cL_law 2162 = .ok (.iadd, 1) := dk_96 (dk_at dksL_law_83 23 rfl rfl)
theorem dL_law_2163 : decode cL_law 2163 = .ok (.iaload, 1) := dk_46 (dk_at dksL_law_84 0 rfl rfl)
theorem dL_law_2164 : decode cL_law 2164 = .ok (.aload_n 3, 1) := dk_45 (dk_at dksL_law_84 1 rfl rfl)
theorem dL_law_2165 : decode cL_law 2165 = .ok (.invokestatic 295, 3) := dk_184 1 39 (dk_at dksL_law_84 2 rfl rfl)
theorem dL_law_2168 : decode cL_law 2168 = .ok (.istore 6, 2) := dk_54 6 (dk_at dksL_law_84 5 rfl rfl)
theorem dL_law_2170 : decode cL_law 2170 = .ok (.aload_n 2, 1) := dk_44 (dk_at dksL_law_84 7 rfl rfl)
theorem dL_law_2171 : decode cL_law 2171 = .ok (.aload_n 0, 1) := dk_42 (dk_at dksL_law_84 8 rfl rfl)
theorem dL_law_2172 : decode cL_law 2172 = .ok (.iload 5, 2) := dk_21 5 (dk_at dksL_law_84 9 rfl rfl)
theorem dL_law_2174 : decode cL_law 2174 = .ok (.iconst 1, 1) := dk_4 (dk_at dksL_law_84 11 rfl rfl)
theorem dL_law_2175 : decode cL_law 2175 = .ok (.iadd, 1) := dk_96 (dk_at dksL_law_84 12 rfl rfl)
theorem dL_law_2176 : decode cL_law 2176 = .ok (.iaload, 1) := dk_46 (dk_at dksL_law_84 13 rfl rfl)
theorem dL_law_2177 : decode cL_law 2177 = .ok (.invokevirtual 297, 3) := dk_182 1 41 (dk_at dksL_law_84 14 rfl rfl)
theorem dL_law_2180 : decode cL_law 2180 = .ok (.istore 7, 2) := dk_54 7 (dk_at dksL_law_84 17 rfl rfl)
theorem dL_law_2182 : decode cL_law 2182 = .ok (.aload_n 2, 1) := dk_44 (dk_at dksL_law_84 19 rfl rfl)
theorem dL_law_2183 : decode cL_law 2183 = .ok (.invokevirtual 167, 3) := dk_182 0 167 (dk_at dksL_law_84 20 rfl rfl)
theorem dL_law_2186 : decode cL_law 2186 = .ok (.iload 6, 2) := dk_21 6 (dk_at dksL_law_85 0 rfl rfl)
theorem dL_law_2188 : decode cL_law 2188 = .ok (.if_icmp .eq 5, 3) := dk_159 0 5 (dk_at dksL_law_85 2 rfl rfl)
theorem dL_law_2191 : decode cL_law 2191 = .ok (.iconst 0, 1) := dk_3 (dk_at dksL_law_85 5 rfl rfl)
theorem dL_law_2192 : decode cL_law 2192 = .ok (.ireturn, 1) := dk_172 (dk_at dksL_law_85 6 rfl rfl)
theorem dL_law_2193 : decode cL_law 2193 = .ok (.iload 6, 2) := dk_21 6 (dk_at dksL_law_85 7 rfl rfl)
theorem dL_law_2195 : decode cL_law 2195 = .ok (.ifCond .ne 15, 3) := dk_154 0 15 (dk_at dksL_law_85 9 rfl rfl)
theorem dL_law_2198 : decode cL_law 2198 = .ok (.aload_n 3, 1) := dk_45 (dk_at dksL_law_85 12 rfl rfl)
theorem dL_law_2199 : decode cL_law 2199 = .ok (.iconst 0, 1) := dk_3 (dk_at dksL_law_85 13 rfl rfl)
theorem dL_law_2200 : decode cL_law 2200 = .ok (.laload, 1) := dk_47 (dk_at dksL_law_85 14 rfl rfl)
theorem dL_law_2201 : decode cL_law 2201 = .ok (.iload 7, 2) := dk_21 7 (dk_at dksL_law_85 15 rfl rfl)
theorem dL_law_2203 : decode cL_law 2203 = .ok (.i2l, 1) := dk_133 (dk_at dksL_law_85 17 rfl rfl)
theorem dL_law_2204 : decode cL_law 2204 = .ok (.lcmp, 1) := dk_148 (dk_at dksL_law_85 18 rfl rfl)
theorem dL_law_2205 : decode cL_law 2205 = .ok (.ifCond .eq 5, 3) := dk_153 0 5 (dk_at dksL_law_85 19 rfl rfl)
theorem dL_law_2208 : decode cL_law 2208 = .ok (.iconst 0, 1) := dk_3 (dk_at dksL_law_85 22 rfl rfl)
theorem dL_law_2209 : decode cL_law 2209 = .ok (.ireturn, 1) := dk_172 (dk_at dksL_law_85 23 rfl rfl)
theorem dL_law_2210 : decode cL_law 2210 = .ok (.goto 654, 3) := dk_167 2 142 (dk_at dksL_law_86 0 rfl rfl)
theorem dL_law_2213 : decode cL_law 2213 = .ok (.aload_n 1, 1) := dk_43 (dk_at dksL_law_86 3 rfl rfl)
theorem dL_law_2214 : decode cL_law 2214 = .ok (.aload_n 0, 1) := dk_42 (dk_at dksL_law_86 4 rfl rfl)
theorem dL_law_2215 : decode cL_law 2215 = .ok (.iload 5, 2) := dk_21 5 (dk_at dksL_law_86 5 rfl rfl)
theorem dL_law_2217 : decode cL_law 2217 = .ok (.iconst 1, 1) := dk_4 (dk_at dksL_law_86 7 rfl rfl)
theorem dL_law_2218 : decode cL_law 2218 = .ok (.iadd, 1) := dk_96 (dk_at dksL_law_86 8 rfl rfl)
theorem dL_law_2219 : decode cL_law 2219 = .ok (.iaload, 1) := dk_46 (dk_at dksL_law_86 9 rfl rfl)
theorem dL_law_2220 : decode cL_law 2220 = .ok (.aload_n 3, 1) := dk_45 (dk_at dksL_law_86 10 rfl rfl)
theorem dL_law_2221 : decode cL_law 2221 = .ok (.invokestatic 298, 3) := dk_184 1 42 (dk_at dksL_law_86 11 rfl rfl)
theorem dL_law_2224 : decode cL_law 2224 = .ok (.istore 6, 2) := dk_54 6 (dk_at dksL_law_86 14 rfl rfl)
theorem dL_law_2226 : decode cL_law 2226 = .ok (.aload_n 2, 1) := dk_44 (dk_at dksL_law_86 16 rfl rfl)
theorem dL_law_2227 : decode cL_law 2227 = .ok (.aload_n 0, 1) := dk_42 (dk_at dksL_law_86 17 rfl rfl)
theorem dL_law_2228 : decode cL_law 2228 = .ok (.iload 5, 2) := dk_21 5 (dk_at dksL_law_86 18 rfl rfl)
theorem dL_law_2230 : decode cL_law 2230 = .ok (.iconst 1, 1) := dk_4 (dk_at dksL_law_86 20 rfl rfl)
theorem dL_law_2231 : decode cL_law 2231 = .ok (.iadd, 1) := dk_96 (dk_at dksL_law_86 21 rfl rfl)
theorem dL_law_2232 : decode cL_law 2232 = .ok (.iaload, 1) := dk_46 (dk_at dksL_law_86 22 rfl rfl)
theorem dL_law_2233 : decode cL_law 2233 = .ok (.invokevirtual 300, 3) := dk_182 1 44 (dk_at dksL_law_87 0 rfl rfl)
theorem dL_law_2236 : decode cL_law 2236 = .ok (.istore 7, 2) := dk_54 7 (dk_at dksL_law_87 3 rfl rfl)
theorem dL_law_2238 : decode cL_law 2238 = .ok (.aload_n 2, 1) := dk_44 (dk_at dksL_law_87 5 rfl rfl)
theorem dL_law_2239 : decode cL_law 2239 = .ok (.invokevirtual 167, 3) := dk_182 0 167 (dk_at dksL_law_87 6 rfl rfl)
theorem dL_law_2242 : decode cL_law 2242 = .ok (.iload 6, 2) := dk_21 6 (dk_at dksL_law_87 9 rfl rfl)
theorem dL_law_2244 : decode cL_law 2244 = .ok (.if_icmp .eq 5, 3) := dk_159 0 5 (dk_at dksL_law_87 11 rfl rfl)
theorem dL_law_2247 : decode cL_law 2247 = .ok (.iconst 0, 1) := dk_3 (dk_at dksL_law_87 14 rfl rfl)
theorem dL_law_2248 : decode cL_law 2248 = .ok (.ireturn, 1) := dk_172 (dk_at dksL_law_87 15 rfl rfl)
theorem dL_law_2249 : decode cL_law 2249 = .ok (.iload 6, 2) := dk_21 6 (dk_at dksL_law_87 16 rfl rfl)
theorem dL_law_2251 : decode cL_law 2251 = .ok (.ifCond .ne 15, 3) := dk_154 0 15 (dk_at dksL_law_87 18 rfl rfl)
theorem dL_law_2254 : decode cL_law 2254 = .ok (.aload_n 3, 1) := dk_45 (dk_at dksL_law_87 21 rfl rfl)
theorem dL_law_2255 : decode cL_law 2255 = .ok (.iconst 0, 1) := dk_3 (dk_at dksL_law_87 22 rfl rfl)
theorem dL_law_2256 : decode cL_law 2256 = .ok (.laload, 1) := dk_47 (dk_at dksL_law_87 23 rfl rfl)
theorem dL_law_2257 : decode cL_law 2257 = .ok (.iload 7, 2) := dk_21 7 (dk_at dksL_law_88 0 rfl rfl)
theorem dL_law_2259 : decode cL_law 2259 = .ok (.i2l, 1) := dk_133 (dk_at dksL_law_88 2 rfl rfl)
theorem dL_law_2260 : decode cL_law 2260 = .ok (.lcmp, 1) := dk_148 (dk_at dksL_law_88 3 rfl rfl)
theorem dL_law_2261 : decode cL_law 2261 = .ok (.ifCond .eq 5, 3) := dk_153 0 5 (dk_at dksL_law_88 4 rfl rfl)
theorem dL_law_2264 : decode cL_law 2264 = .ok (.iconst 0, 1) := dk_3 (dk_at dksL_law_88 7 rfl rfl)
theorem dL_law_2265 : decode cL_law 2265 = .ok (.ireturn, 1) := dk_172 (dk_at dksL_law_88 8 rfl rfl)
theorem dL_law_2266 : decode cL_law 2266 = .ok (.goto 598, 3) := dk_167 2 86 (dk_at dksL_law_88 9 rfl rfl)
theorem dL_law_2269 : decode cL_law 2269 = .ok (.aload_n 1, 1) := dk_43 (dk_at dksL_law_88 12 rfl rfl)
theorem dL_law_2270 : decode cL_law 2270 = .ok (.invokevirtual 301, 3) := dk_182 1 45 (dk_at dksL_law_88 13 rfl rfl)
theorem dL_law_2273 : decode cL_law 2273 = .ok (.aload_n 2, 1) := dk_44 (dk_at dksL_law_88 16 rfl rfl)
theorem dL_law_2274 : decode cL_law 2274 = .ok (.invokevirtual 304, 3) := dk_182 1 48 (dk_at dksL_law_88 17 rfl rfl)
theorem dL_law_2277 : decode cL_law 2277 = .ok (.if_icmp .eq 587, 3) := dk_159 2 75 (dk_at dksL_law_88 20 rfl rfl)
theorem dL_law_2280 : decode cL_law 2280 = .ok (.iconst 0, 1) := dk_3 (dk_at dksL_law_88 23 rfl rfl)
theorem dL_law_2281 : decode cL_law 2281 = .ok (.ireturn, 1) := dk_172 (dk_at dksL_law_89 0 rfl rfl)
theorem dL_law_2282 : decode cL_law 2282 = .ok (.aload_n 1, 1) := dk_43 (dk_at dksL_law_89 1 rfl rfl)
theorem dL_law_2283 : decode cL_law 2283 = .ok (.invokevirtual 305, 3) := dk_182 1 49 (dk_at dksL_law_89 2 rfl rfl)
theorem dL_law_2286 : decode cL_law 2286 = .ok (.aload_n 2, 1) := dk_44 (dk_at dksL_law_89 5 rfl rfl)
theorem dL_law_2287 : decode cL_law 2287 = .ok (.invokevirtual 308, 3) := dk_182 1 52 (dk_at dksL_law_89 6 rfl rfl)
theorem dL_law_2290 : decode cL_law 2290 = .ok (.if_icmp .eq 574, 3) := dk_159 2 62 (dk_at dksL_law_89 9 rfl rfl)
theorem dL_law_2293 : decode cL_law 2293 = .ok (.iconst 0, 1) := dk_3 (dk_at dksL_law_89 12 rfl rfl)
theorem dL_law_2294 : decode cL_law 2294 = .ok (.ireturn, 1) := dk_172 (dk_at dksL_law_89 13 rfl rfl)
theorem dL_law_2295 : decode cL_law 2295 = .ok (.aload_n 1, 1) := dk_43 (dk_at dksL_law_89 14 rfl rfl)
theorem dL_law_2296 : decode cL_law 2296 = .ok (.aload_n 0, 1) := dk_42 (dk_at dksL_law_89 15 rfl rfl)
theorem dL_law_2297 : decode cL_law 2297 = .ok (.iload 5, 2) := dk_21 5 (dk_at dksL_law_89 16 rfl rfl)
theorem dL_law_2299 : decode cL_law 2299 = .ok (.iconst 1, 1) := dk_4 (dk_at dksL_law_89 18 rfl rfl)
theorem dL_law_2300 : decode cL_law 2300 = .ok (.iadd, 1) := dk_96 (dk_at dksL_law_89 19 rfl rfl)
theorem dL_law_2301 : decode cL_law 2301 = .ok (.iaload, 1) := dk_46 (dk_at dksL_law_89 20 rfl rfl)
theorem dL_law_2302 : decode cL_law 2302 = .ok (.i2c, 1) := dk_146 (dk_at dksL_law_89 21 rfl rfl)
theorem dL_law_2303 : decode cL_law 2303 = .ok (.aload_n 3, 1) := dk_45 (dk_at dksL_law_89 22 rfl rfl)
theorem dL_law_2304 : decode cL_law 2304 = .ok (.invokestatic 309, 3) := dk_184 1 53 (dk_at dksL_law_90 0 rfl rfl)
theorem dL_law_2307 : decode cL_law 2307 = .ok (.istore 6, 2) := dk_54 6 (dk_at dksL_law_90 3 rfl rfl)
theorem dL_law_2309 : decode cL_law 2309 = .ok (.aload_n 2, 1) := dk_44 (dk_at dksL_law_90 5 rfl rfl)
theorem dL_law_2310 : decode cL_law 2310 = .ok (.aload_n 0, 1) := dk_42 (dk_at dksL_law_90 6 rfl rfl)
theorem dL_law_2311 : decode cL_law 2311 = .ok (.iload 5, 2) := dk_21 5 (dk_at dksL_law_90 7 rfl rfl)
theorem dL_law_2313 : decode cL_law 2313 = .ok (.iconst 1, 1) := dk_4 (dk_at dksL_law_90 9 rfl rfl)
theorem dL_law_2314 : decode cL_law 2314 = .ok (.iadd, 1) := dk_96 (dk_at dksL_law_90 10 rfl rfl)
theorem dL_law_2315 : decode cL_law 2315 = .ok (.iaload, 1) := dk_46 (dk_at dksL_law_90 11 rfl rfl)
theorem dL_law_2316 : decode cL_law 2316 = .ok (.i2c, 1) := dk_146 (dk_at dksL_law_90 12 rfl rfl)
theorem dL_law_2317 : decode cL_law 2317 = .ok (.invokevirtual 312, 3) := dk_182 1 56 (dk_at dksL_law_90 13 rfl rfl)
theorem dL_law_2320 : decode cL_law 2320 = .ok (.istore 7, 2) := dk_54 7 (dk_at dksL_law_90 16 rfl rfl)
theorem dL_law_2322 : decode cL_law 2322 = .ok (.aload_n 2, 1) := dk_44 (dk_at dksL_law_90 18 rfl rfl)
theorem dL_law_2323 : decode cL_law 2323 = .ok (.invokevirtual 167, 3) := dk_182 0 167 (dk_at dksL_law_90 19 rfl rfl)
theorem dL_law_2326 : decode cL_law 2326 = .ok (.iload 6, 2) := dk_21 6 (dk_at dksL_law_90 22 rfl rfl)
theorem dL_law_2328 : decode cL_law 2328 = .ok (.if_icmp .eq 5, 3) := dk_159 0 5 (dk_at dksL_law_91 0 rfl rfl)
theorem dL_law_2331 : decode cL_law 2331 = .ok (.iconst 0, 1) := dk_3 (dk_at dksL_law_91 3 rfl rfl)
theorem dL_law_2332 : decode cL_law 2332 = .ok (.ireturn, 1) := dk_172 (dk_at dksL_law_91 4 rfl rfl)
theorem dL_law_2333 : decode cL_law 2333 = .ok (.iload 6, 2) := dk_21 6 (dk_at dksL_law_91 5 rfl rfl)
theorem dL_law_2335 : decode cL_law 2335 = .ok (.ifCond .ne 15, 3) := dk_154 0 15 (dk_at dksL_law_91 7 rfl rfl)
theorem dL_law_2338 : decode cL_law 2338 = .ok (.aload_n 3, 1) := dk_45 (dk_at dksL_law_91 10 rfl rfl)
theorem dL_law_2339 : decode cL_law 2339 = .ok (.iconst 0, 1) := dk_3 (dk_at dksL_law_91 11 rfl rfl)
theorem dL_law_2340 : decode cL_law 2340 = .ok (.laload, 1) := dk_47 (dk_at dksL_law_91 12 rfl rfl)
theorem dL_law_2341 : decode cL_law 2341 = .ok (.iload 7, 2) := dk_21 7 (dk_at dksL_law_91 13 rfl rfl)
theorem dL_law_2343 : decode cL_law 2343 = .ok (.i2l, 1) := dk_133 (dk_at dksL_law_91 15 rfl rfl)
theorem dL_law_2344 : decode cL_law 2344 = .ok (.lcmp, 1) := dk_148 (dk_at dksL_law_91 16 rfl rfl)
theorem dL_law_2345 : decode cL_law 2345 = .ok (.ifCond .eq 5, 3) := dk_153 0 5 (dk_at dksL_law_91 17 rfl rfl)
theorem dL_law_2348 : decode cL_law 2348 = .ok (.iconst 0, 1) := dk_3 (dk_at dksL_law_91 20 rfl rfl)
theorem dL_law_2349 : decode cL_law 2349 = .ok (.ireturn, 1) := dk_172 (dk_at dksL_law_91 21 rfl rfl)
theorem dL_law_2350 : decode cL_law 2350 = .ok (.goto 514, 3) := dk_167 2 2 (dk_at dksL_law_92 0 rfl rfl)
theorem dL_law_2353 : decode cL_law 2353 = .ok (.aload_n 1, 1) := dk_43 (dk_at dksL_law_92 3 rfl rfl)
theorem dL_law_2354 : decode cL_law 2354 = .ok (.aload_n 3, 1) := dk_45 (dk_at dksL_law_92 4 rfl rfl)
theorem dL_law_2355 : decode cL_law 2355 = .ok (.invokestatic 313, 3) := dk_184 1 57 (dk_at dksL_law_92 5 rfl rfl)
theorem dL_law_2358 : decode cL_law 2358 = .ok (.istore 6, 2) := dk_54 6 (dk_at dksL_law_92 8 rfl rfl)
theorem dL_law_2360 : decode cL_law 2360 = .ok (.aload_n 2, 1) := dk_44 (dk_at dksL_law_92 10 rfl rfl)
theorem dL_law_2361 : decode cL_law 2361 = .ok (.invokevirtual 315, 3) := dk_182 1 59 (dk_at dksL_law_92 11 rfl rfl)
theorem dL_law_2364 : decode cL_law 2364 = .ok (.istore 7, 2) := dk_54 7 (dk_at dksL_law_92 14 rfl rfl)
theorem dL_law_2366 : decode cL_law 2366 = .ok (.aload_n 2, 1) := dk_44 (dk_at dksL_law_92 16 rfl rfl)
theorem dL_law_2367 : decode cL_law 2367 = .ok (.invokevirtual 167, 3) := dk_182 0 167 (dk_at dksL_law_92 17 rfl rfl)
theorem dL_law_2370 : decode cL_law 2370 = .ok (.iload 6, 2) := dk_21 6 (dk_at dksL_law_92 20 rfl rfl)
theorem dL_law_2372 : decode cL_law 2372 = .ok (.if_icmp .eq 5, 3) := dk_159 0 5 (dk_at dksL_law_93 0 rfl rfl)
theorem dL_law_2375 : decode cL_law 2375 = .ok (.iconst 0, 1) := dk_3 (dk_at dksL_law_93 3 rfl rfl)
theorem dL_law_2376 : decode cL_law 2376 = .ok (.ireturn, 1) := dk_172 (dk_at dksL_law_93 4 rfl rfl)
theorem dL_law_2377 : decode cL_law 2377 = .ok (.iload 6, 2) := dk_21 6 (dk_at dksL_law_93 5 rfl rfl)
theorem dL_law_2379 : decode cL_law 2379 = .ok (.ifCond .ne 15, 3) := dk_154 0 15 (dk_at dksL_law_93 7 rfl rfl)
theorem dL_law_2382 : decode cL_law 2382 = .ok (.aload_n 3, 1) := dk_45 (dk_at dksL_law_93 10 rfl rfl)
theorem dL_law_2383 : decode cL_law 2383 = .ok (.iconst 0, 1) := dk_3 (dk_at dksL_law_93 11 rfl rfl)
theorem dL_law_2384 : decode cL_law 2384 = .ok (.laload, 1) := dk_47 (dk_at dksL_law_93 12 rfl rfl)
theorem dL_law_2385 : decode cL_law 2385 = .ok (.iload 7, 2) := dk_21 7 (dk_at dksL_law_93 13 rfl rfl)
theorem dL_law_2387 : decode cL_law 2387 = .ok (.i2l, 1) := dk_133 (dk_at dksL_law_93 15 rfl rfl)
theorem dL_law_2388 : decode cL_law 2388 = .ok (.lcmp, 1) := dk_148 (dk_at dksL_law_93 16 rfl rfl)
theorem dL_law_2389 : decode cL_law 2389 = .ok (.ifCond .eq 5, 3) := dk_153 0 5 (dk_at dksL_law_93 17 rfl rfl)
theorem dL_law_2392 : decode cL_law 2392 = .ok (.iconst 0, 1) := dk_3 (dk_at dksL_law_93 20 rfl rfl)
theorem dL_law_2393 : decode cL_law 2393 = .ok (.ireturn, 1) := dk_172 (dk_at dksL_law_93 21 rfl rfl)
theorem dL_law_2394 : decode cL_law 2394 = .ok (.goto 470, 3) := dk_167 1 214 (dk_at dksL_law_94 0 rfl rfl)
theorem dL_law_2397 : decode cL_law 2397 = .ok (.aload_n 1, 1) := dk_43 (dk_at dksL_law_94 3 rfl rfl)
theorem dL_law_2398 : decode cL_law 2398 = .ok (.invokevirtual 316, 3) := dk_182 1 60 (dk_at dksL_law_94 4 rfl rfl)
theorem dL_law_2401 : decode cL_law 2401 = .ok (.aload_n 2, 1) := dk_44 (dk_at dksL_law_94 7 rfl rfl)
theorem dL_law_2402 : decode cL_law 2402 = .ok (.invokevirtual 319, 3) := dk_182 1 63 (dk_at dksL_law_94 8 rfl rfl)
theorem dL_law_2405 : decode cL_law 2405 = .ok (.if_icmp .eq 459, 3) := dk_159 1 203 (dk_at dksL_law_94 11 rfl rfl)
theorem dL_law_2408 : decode cL_law 2408 = .ok (.iconst 0, 1) := dk_3 (dk_at dksL_law_94 14 rfl rfl)
theorem dL_law_2409 : decode cL_law 2409 = .ok (.ireturn, 1) := dk_172 (dk_at dksL_law_94 15 rfl rfl)
theorem dL_law_2410 : decode cL_law 2410 = .ok (.aload_n 1, 1) := dk_43 (dk_at dksL_law_94 16 rfl rfl)
theorem dL_law_2411 : decode cL_law 2411 = .ok (.aload_n 0, 1) := dk_42 (dk_at dksL_law_94 17 rfl rfl)
theorem dL_law_2412 : decode cL_law 2412 = .ok (.iload 5, 2) := dk_21 5 (dk_at dksL_law_94 18 rfl rfl)
theorem dL_law_2414 : decode cL_law 2414 = .ok (.iconst 1, 1) := dk_4 (dk_at dksL_law_94 20 rfl rfl)
theorem dL_law_2415 : decode cL_law 2415 = .ok (.iadd, 1) := dk_96 (dk_at dksL_law_94 21 rfl rfl)
theorem dL_law_2416 : decode cL_law 2416 = .ok (.iaload, 1) := dk_46 (dk_at dksL_law_94 22 rfl rfl)
theorem dL_law_2417 : decode cL_law 2417 = .ok (.aload_n 0, 1) := dk_42 (dk_at dksL_law_94 23 rfl rfl)
theorem dL_law_2418 : decode cL_law 2418 = .ok (.iload 5, 2) := dk_21 5 (dk_at dksL_law_95 0 rfl rfl)
theorem dL_law_2420 : decode cL_law 2420 = .ok (.iconst 2, 1) := dk_5 (dk_at dksL_law_95 2 rfl rfl)
theorem dL_law_2421 : decode cL_law 2421 = .ok (.iadd, 1) := dk_96 (dk_at dksL_law_95 3 rfl rfl)
theorem dL_law_2422 : decode cL_law 2422 = .ok (.iaload, 1) := dk_46 (dk_at dksL_law_95 4 rfl rfl)
theorem dL_law_2423 : decode cL_law 2423 = .ok (.ifCond .eq 7, 3) := dk_153 0 7 (dk_at dksL_law_95 5 rfl rfl)
theorem dL_law_2426 : decode cL_law 2426 = .ok (.iconst 1, 1) := dk_4 (dk_at dksL_law_95 8 rfl rfl)
theorem dL_law_2427 : decode cL_law 2427 = .ok (.goto 4, 3) := dk_167 0 4 (dk_at dksL_law_95 9 rfl rfl)
theorem dL_law_2430 : decode cL_law 2430 = .ok (.iconst 0, 1) := dk_3 (dk_at dksL_law_95 12 rfl rfl)
theorem dL_law_2431 : decode cL_law 2431 = .ok (.aload_n 3, 1) := dk_45 (dk_at dksL_law_95 13 rfl rfl)
theorem dL_law_2432 : decode cL_law 2432 = .ok (.invokestatic 320, 3) := dk_184 1 64 (dk_at dksL_law_95 14 rfl rfl)
theorem dL_law_2435 : decode cL_law 2435 = .ok (.istore 6, 2) := dk_54 6 (dk_at dksL_law_95 17 rfl rfl)
theorem dL_law_2437 : decode cL_law 2437 = .ok (.aload_n 2, 1) := dk_44 (dk_at dksL_law_95 19 rfl rfl)
theorem dL_law_2438 : decode cL_law 2438 = .ok (.aload_n 0, 1) := dk_42 (dk_at dksL_law_95 20 rfl rfl)
theorem dL_law_2439 : decode cL_law 2439 = .ok (.iload 5, 2) := dk_21 5 (dk_at dksL_law_95 21 rfl rfl)
theorem dL_law_2441 : decode cL_law 2441 = .ok (.iconst 1, 1) := dk_4 (dk_at dksL_law_95 23 rfl rfl)
theorem dL_law_2442 : decode cL_law 2442 = .ok (.iadd, 1) := dk_96 (dk_at dksL_law_96 0 rfl rfl)
theorem dL_law_2443 : decode cL_law 2443 = .ok (.iaload, 1) := dk_46 (dk_at dksL_law_96 1 rfl rfl)
theorem dL_law_2444 : decode cL_law 2444 = .ok (.aload_n 0, 1) := dk_42 (dk_at dksL_law_96 2 rfl rfl)
theorem dL_law_2445 : decode cL_law 2445 = .ok (.iload 5, 2) := dk_21 5 (dk_at dksL_law_96 3 rfl rfl)
theorem dL_law_2447 : decode cL_law 2447 = .ok (.iconst 2, 1) := dk_5 (dk_at dksL_law_96 5 rfl rfl)
theorem dL_law_2448 : decode cL_law 2448 = .ok (.iadd, 1) := dk_96 (dk_at dksL_law_96 6 rfl rfl)
theorem dL_law_2449 : decode cL_law 2449 = .ok (.iaload, 1) := dk_46 (dk_at dksL_law_96 7 rfl rfl)
theorem dL_law_2450 : decode cL_law 2450 = .ok (.ifCond .eq 7, 3) := dk_153 0 7 (dk_at dksL_law_96 8 rfl rfl)
theorem dL_law_2453 : decode cL_law 2453 = .ok (.iconst 1, 1) := dk_4 (dk_at dksL_law_96 11 rfl rfl)
theorem dL_law_2454 : decode cL_law 2454 = .ok (.goto 4, 3) := dk_167 0 4 (dk_at dksL_law_96 12 rfl rfl)
theorem dL_law_2457 : decode cL_law 2457 = .ok (.iconst 0, 1) := dk_3 (dk_at dksL_law_96 15 rfl rfl)
theorem dL_law_2458 : decode cL_law 2458 = .ok (.invokevirtual 323, 3) := dk_182 1 67 (dk_at dksL_law_96 16 rfl rfl)
theorem dL_law_2461 : decode cL_law 2461 = .ok (.istore 7, 2) := dk_54 7 (dk_at dksL_law_96 19 rfl rfl)
theorem dL_law_2463 : decode cL_law 2463 = .ok (.aload_n 2, 1) := dk_44 (dk_at dksL_law_96 21 rfl rfl)
theorem dL_law_2464 : decode cL_law 2464 = .ok (.invokevirtual 167, 3) := dk_182 0 167 (dk_at dksL_law_97 0 rfl rfl)
theorem dL_law_2467 : decode cL_law 2467 = .ok (.iload 6, 2) := dk_21 6 (dk_at dksL_law_97 3 rfl rfl)
theorem dL_law_2469 : decode cL_law 2469 = .ok (.if_icmp .eq 5, 3) := dk_159 0 5 (dk_at dksL_law_97 5 rfl rfl)
theorem dL_law_2472 : decode cL_law 2472 = .ok (.iconst 0, 1) := dk_3 (dk_at dksL_law_97 8 rfl rfl)
theorem dL_law_2473 : decode cL_law 2473 = .ok (.ireturn, 1) := dk_172 (dk_at dksL_law_97 9 rfl rfl)
theorem dL_law_2474 : decode cL_law 2474 = .ok (.iload 6, 2) := dk_21 6 (dk_at dksL_law_97 10 rfl rfl)
theorem dL_law_2476 : decode cL_law 2476 = .ok (.ifCond .ne 15, 3) := dk_154 0 15 (dk_at dksL_law_97 12 rfl rfl)
theorem dL_law_2479 : decode cL_law 2479 = .ok (.aload_n 3, 1) := dk_45 (dk_at dksL_law_97 15 rfl rfl)
theorem dL_law_2480 : decode cL_law 2480 = .ok (.iconst 0, 1) := dk_3 (dk_at dksL_law_97 16 rfl rfl)
theorem dL_law_2481 : decode cL_law 2481 = .ok (.laload, 1) := dk_47 (dk_at dksL_law_97 17 rfl rfl)
theorem dL_law_2482 : decode cL_law 2482 = .ok (.iload 7, 2) := dk_21 7 (dk_at dksL_law_97 18 rfl rfl)
theorem dL_law_2484 : decode cL_law 2484 = .ok (.i2l, 1) := dk_133 (dk_at dksL_law_97 20 rfl rfl)
theorem dL_law_2485 : decode cL_law 2485 = .ok (.lcmp, 1) := dk_148 (dk_at dksL_law_97 21 rfl rfl)
theorem dL_law_2486 : decode cL_law 2486 = .ok (.ifCond .eq 5, 3) := dk_153 0 5 (dk_at dksL_law_98 0 rfl rfl)
theorem dL_law_2489 : decode cL_law 2489 = .ok (.iconst 0, 1) := dk_3 (dk_at dksL_law_98 3 rfl rfl)
theorem dL_law_2490 : decode cL_law 2490 = .ok (.ireturn, 1) := dk_172 (dk_at dksL_law_98 4 rfl rfl)
theorem dL_law_2491 : decode cL_law 2491 = .ok (.goto 373, 3) := dk_167 1 117 (dk_at dksL_law_98 5 rfl rfl)
theorem dL_law_2494 : decode cL_law 2494 = .ok (.aload_n 1, 1) := dk_43 (dk_at dksL_law_98 8 rfl rfl)
theorem dL_law_2495 : decode cL_law 2495 = .ok (.invokevirtual 324, 3) := dk_182 1 68 (dk_at dksL_law_98 9 rfl rfl)
theorem dL_law_2498 : decode cL_law 2498 = .ok (.aload_n 2, 1) := dk_44 (dk_at dksL_law_98 12 rfl rfl)
theorem dL_law_2499 : decode cL_law 2499 = .ok (.invokevirtual 327, 3) := dk_182 1 71 (dk_at dksL_law_98 13 rfl rfl)
theorem dL_law_2502 : decode cL_law 2502 = .ok (.if_icmp .eq 362, 3) := dk_159 1 106 (dk_at dksL_law_98 16 rfl rfl)
theorem dL_law_2505 : decode cL_law 2505 = .ok (.iconst 0, 1) := dk_3 (dk_at dksL_law_98 19 rfl rfl)
theorem dL_law_2506 : decode cL_law 2506 = .ok (.ireturn, 1) := dk_172 (dk_at dksL_law_98 20 rfl rfl)
theorem dL_law_2507 : decode cL_law 2507 = .ok (.aload_n 1, 1) := dk_43 (dk_at dksL_law_98 21 rfl rfl)
theorem dL_law_2508 : decode cL_law 2508 = .ok (.invokevirtual 328, 3) := dk_182 1 72 (dk_at dksL_law_99 0 rfl rfl)
theorem dL_law_2511 : decode cL_law 2511 = .ok (.aload_n 2, 1) := dk_44 (dk_at dksL_law_99 3 rfl rfl)
theorem dL_law_2512 : decode cL_law 2512 = .ok (.invokevirtual 331, 3) := dk_182 1 75 (dk_at dksL_law_99 4 rfl rfl)
theorem dL_law_2515 : decode cL_law 2515 = .ok (.if_icmp .eq 349, 3) := dk_159 1 93 (dk_at dksL_law_99 7 rfl rfl)
theorem dL_law_2518 : decode cL_law 2518 = .ok (.iconst 0, 1) := dk_3 (dk_at dksL_law_99 10 rfl rfl)
theorem dL_law_2519 : decode cL_law 2519 = .ok (.ireturn, 1) := dk_172 (dk_at dksL_law_99 11 rfl rfl)
theorem dL_law_2520 : decode cL_law 2520 = .ok (.aload_n 1, 1) := dk_43 (dk_at dksL_law_99 12 rfl rfl)
theorem dL_law_2521 : decode cL_law 2521 = .ok (.aload_n 0, 1) := dk_42 (dk_at dksL_law_99 13 rfl rfl)
theorem dL_law_2522 : decode cL_law 2522 = .ok (.iload 5, 2) := dk_21 5 (dk_at dksL_law_99 14 rfl rfl)
theorem dL_law_2524 : decode cL_law 2524 = .ok (.iconst 1, 1) := dk_4 (dk_at dksL_law_99 16 rfl rfl)
theorem dL_law_2525 : decode cL_law 2525 = .ok (.iadd, 1) := dk_96 (dk_at dksL_law_99 17 rfl rfl)
theorem dL_law_2526 : decode cL_law 2526 = .ok (.iaload, 1) := dk_46 (dk_at dksL_law_99 18 rfl rfl)
theorem dL_law_2527 : decode cL_law 2527 = .ok (.aload_n 3, 1) := dk_45 (dk_at dksL_law_99 19 rfl rfl)
theorem dL_law_2528 : decode cL_law 2528 = .ok (.invokestatic 332, 3) := dk_184 1 76 (dk_at dksL_law_99 20 rfl rfl)
theorem dL_law_2531 : decode cL_law 2531 = .ok (.istore 6, 2) := dk_54 6 (dk_at dksL_law_100 0 rfl rfl)
theorem dL_law_2533 : decode cL_law 2533 = .ok (.aload_n 2, 1) := dk_44 (dk_at dksL_law_100 2 rfl rfl)
theorem dL_law_2534 : decode cL_law 2534 = .ok (.aload_n 0, 1) := dk_42 (dk_at dksL_law_100 3 rfl rfl)
theorem dL_law_2535 : decode cL_law 2535 = .ok (.iload 5, 2) := dk_21 5 (dk_at dksL_law_100 4 rfl rfl)
theorem dL_law_2537 : decode cL_law 2537 = .ok (.iconst 1, 1) := dk_4 (dk_at dksL_law_100 6 rfl rfl)
theorem dL_law_2538 : decode cL_law 2538 = .ok (.iadd, 1) := dk_96 (dk_at dksL_law_100 7 rfl rfl)
theorem dL_law_2539 : decode cL_law 2539 = .ok (.iaload, 1) := dk_46 (dk_at dksL_law_100 8 rfl rfl)
theorem dL_law_2540 : decode cL_law 2540 = .ok (.invokevirtual 334, 3) := dk_182 1 78 (dk_at dksL_law_100 9 rfl rfl)
theorem dL_law_2543 : decode cL_law 2543 = .ok (.istore 7, 2) := dk_54 7 (dk_at dksL_law_100 12 rfl rfl)
theorem dL_law_2545 : decode cL_law 2545 = .ok (.aload_n 2, 1) := dk_44 (dk_at dksL_law_100 14 rfl rfl)
theorem dL_law_2546 : decode cL_law 2546 = .ok (.invokevirtual 167, 3) := dk_182 0 167 (dk_at dksL_law_100 15 rfl rfl)
theorem dL_law_2549 : decode cL_law 2549 = .ok (.iload 6, 2) := dk_21 6 (dk_at dksL_law_100 18 rfl rfl)
theorem dL_law_2551 : decode cL_law 2551 = .ok (.if_icmp .eq 5, 3) := dk_159 0 5 (dk_at dksL_law_100 20 rfl rfl)
theorem dL_law_2554 : decode cL_law 2554 = .ok (.iconst 0, 1) := dk_3 (dk_at dksL_law_100 23 rfl rfl)
theorem dL_law_2555 : decode cL_law 2555 = .ok (.ireturn, 1) := dk_172 (dk_at dksL_law_101 0 rfl rfl)
theorem dL_law_2556 : decode cL_law 2556 = .ok (.iload 6, 2) := dk_21 6 (dk_at dksL_law_101 1 rfl rfl)
theorem dL_law_2558 : decode cL_law 2558 = .ok (.ifCond .ne 15, 3) := dk_154 0 15 (dk_at dksL_law_101 3 rfl rfl)
theorem dL_law_2561 : decode cL_law 2561 = .ok (.aload_n 3, 1) := dk_45 (dk_at dksL_law_101 6 rfl rfl)
theorem dL_law_2562 : decode cL_law 2562 = .ok (.iconst 0, 1) := dk_3 (dk_at dksL_law_101 7 rfl rfl)
theorem dL_law_2563 : decode cL_law 2563 = .ok (.laload, 1) := dk_47 (dk_at dksL_law_101 8 rfl rfl)
theorem dL_law_2564 : decode cL_law 2564 = .ok (.iload 7, 2) := dk_21 7 (dk_at dksL_law_101 9 rfl rfl)
theorem dL_law_2566 : decode cL_law 2566 = .ok (.i2l, 1) := dk_133 (dk_at dksL_law_101 11 rfl rfl)
theorem dL_law_2567 : decode cL_law 2567 = .ok (.lcmp, 1) := dk_148 (dk_at dksL_law_101 12 rfl rfl)
theorem dL_law_2568 : decode cL_law 2568 = .ok (.ifCond .eq 5, 3) := dk_153 0 5 (dk_at dksL_law_101 13 rfl rfl)
theorem dL_law_2571 : decode cL_law 2571 = .ok (.iconst 0, 1) := dk_3 (dk_at dksL_law_101 16 rfl rfl)
theorem dL_law_2572 : decode cL_law 2572 = .ok (.ireturn, 1) := dk_172 (dk_at dksL_law_101 17 rfl rfl)
theorem dL_law_2573 : decode cL_law 2573 = .ok (.goto 291, 3) := dk_167 1 35 (dk_at dksL_law_101 18 rfl rfl)
theorem dL_law_2576 : decode cL_law 2576 = .ok (.aload_n 1, 1) := dk_43 (dk_at dksL_law_101 21 rfl rfl)
theorem dL_law_2577 : decode cL_law 2577 = .ok (.aload_n 0, 1) := dk_42 (dk_at dksL_law_101 22 rfl rfl)
theorem dL_law_2578 : decode cL_law 2578 = .ok (.iload 5, 2) := dk_21 5 (dk_at dksL_law_102 0 rfl rfl)
theorem dL_law_2580 : decode cL_law 2580 = .ok (.iconst 1, 1) := dk_4 (dk_at dksL_law_102 2 rfl rfl)
theorem dL_law_2581 : decode cL_law 2581 = .ok (.iadd, 1) := dk_96 (dk_at dksL_law_102 3 rfl rfl)
theorem dL_law_2582 : decode cL_law 2582 = .ok (.iaload, 1) := dk_46 (dk_at dksL_law_102 4 rfl rfl)
theorem dL_law_2583 : decode cL_law 2583 = .ok (.aload_n 3, 1) := dk_45 (dk_at dksL_law_102 5 rfl rfl)
theorem dL_law_2584 : decode cL_law 2584 = .ok (.invokestatic 335, 3) := dk_184 1 79 (dk_at dksL_law_102 6 rfl rfl)
theorem dL_law_2587 : decode cL_law 2587 = .ok (.istore 6, 2) := dk_54 6 (dk_at dksL_law_102 9 rfl rfl)
theorem dL_law_2589 : decode cL_law 2589 = .ok (.aload_n 2, 1) := dk_44 (dk_at dksL_law_102 11 rfl rfl)
theorem dL_law_2590 : decode cL_law 2590 = .ok (.aload_n 0, 1) := dk_42 (dk_at dksL_law_102 12 rfl rfl)
theorem dL_law_2591 : decode cL_law 2591 = .ok (.iload 5, 2) := dk_21 5 (dk_at dksL_law_102 13 rfl rfl)
theorem dL_law_2593 : decode cL_law 2593 = .ok (.iconst 1, 1) := dk_4 (dk_at dksL_law_102 15 rfl rfl)
theorem dL_law_2594 : decode cL_law 2594 = .ok (.iadd, 1) := dk_96 (dk_at dksL_law_102 16 rfl rfl)
theorem dL_law_2595 : decode cL_law 2595 = .ok (.iaload, 1) := dk_46 (dk_at dksL_law_102 17 rfl rfl)
theorem dL_law_2596 : decode cL_law 2596 = .ok (.invokevirtual 337, 3) := dk_182 1 81 (dk_at dksL_law_102 18 rfl rfl)
theorem dL_law_2599 : decode cL_law 2599 = .ok (.istore 7, 2) := dk_54 7 (dk_at dksL_law_102 21 rfl rfl)
theorem dL_law_2601 : decode cL_law 2601 = .ok (.aload_n 2, 1) := dk_44 (dk_at dksL_law_102 23 rfl rfl)
theorem dL_law_2602 : decode cL_law 2602 = .ok (.invokevirtual 167, 3) := dk_182 0 167 (dk_at dksL_law_103 0 rfl rfl)
theorem dL_law_2605 : decode cL_law 2605 = .ok (.iload 6, 2) := dk_21 6 (dk_at dksL_law_103 3 rfl rfl)
theorem dL_law_2607 : decode cL_law 2607 = .ok (.if_icmp .eq 5, 3) := dk_159 0 5 (dk_at dksL_law_103 5 rfl rfl)
theorem dL_law_2610 : decode cL_law 2610 = .ok (.iconst 0, 1) := dk_3 (dk_at dksL_law_103 8 rfl rfl)
theorem dL_law_2611 : decode cL_law 2611 = .ok (.ireturn, 1) := dk_172 (dk_at dksL_law_103 9 rfl rfl)
theorem dL_law_2612 : decode cL_law 2612 = .ok (.iload 6, 2) := dk_21 6 (dk_at dksL_law_103 10 rfl rfl)
theorem dL_law_2614 : decode cL_law 2614 = .ok (.ifCond .ne 15, 3) := dk_154 0 15 (dk_at dksL_law_103 12 rfl rfl)
theorem dL_law_2617 : decode cL_law 2617 = .ok (.aload_n 3, 1) := dk_45 (dk_at dksL_law_103 15 rfl rfl)
theorem dL_law_2618 : decode cL_law 2618 = .ok (.iconst 0, 1) := dk_3 (dk_at dksL_law_103 16 rfl rfl)
theorem dL_law_2619 : decode cL_law 2619 = .ok (.laload, 1) := dk_47 (dk_at dksL_law_103 17 rfl rfl)
theorem dL_law_2620 : decode cL_law 2620 = .ok (.iload 7, 2) := dk_21 7 (dk_at dksL_law_103 18 rfl rfl)
theorem dL_law_2622 : decode cL_law 2622 = .ok (.i2l, 1) := dk_133 (dk_at dksL_law_103 20 rfl rfl)
theorem dL_law_2623 : decode cL_law 2623 = .ok (.lcmp, 1) := dk_148 (dk_at dksL_law_103 21 rfl rfl)
theorem dL_law_2624 : decode cL_law 2624 = .ok (.ifCond .eq 5, 3) := dk_153 0 5 (dk_at dksL_law_104 0 rfl rfl)
theorem dL_law_2627 : decode cL_law 2627 = .ok (.iconst 0, 1) := dk_3 (dk_at dksL_law_104 3 rfl rfl)
theorem dL_law_2628 : decode cL_law 2628 = .ok (.ireturn, 1) := dk_172 (dk_at dksL_law_104 4 rfl rfl)
theorem dL_law_2629 : decode cL_law 2629 = .ok (.goto 235, 3) := dk_167 0 235 (dk_at dksL_law_104 5 rfl rfl)
theorem dL_law_2632 : decode cL_law 2632 = .ok (.aload_n 1, 1) := dk_43 (dk_at dksL_law_104 8 rfl rfl)
theorem dL_law_2633 : decode cL_law 2633 = .ok (.aload 4, 2) := dk_25 4 (dk_at dksL_law_104 9 rfl rfl)
theorem dL_law_2635 : decode cL_law 2635 = .ok (.invokestatic 338, 3) := dk_184 1 82 (dk_at dksL_law_104 11 rfl rfl)
theorem dL_law_2638 : decode cL_law 2638 = .ok (.istore 6, 2) := dk_54 6 (dk_at dksL_law_104 14 rfl rfl)
theorem dL_law_2640 : decode cL_law 2640 = .ok (.aload_n 2, 1) := dk_44 (dk_at dksL_law_104 16 rfl rfl)
theorem dL_law_2641 : decode cL_law 2641 = .ok (.invokevirtual 341, 3) := dk_182 1 85 (dk_at dksL_law_104 17 rfl rfl)
theorem dL_law_2644 : decode cL_law 2644 = .ok (.dstore 7, 2) := dk_57 7 (dk_at dksL_law_104 20 rfl rfl)
theorem dL_law_2646 : decode cL_law 2646 = .ok (.aload_n 2, 1) := dk_44 (dk_at dksL_law_104 22 rfl rfl)
theorem dL_law_2647 : decode cL_law 2647 = .ok (.invokevirtual 167, 3) := dk_182 0 167 (dk_at dksL_law_105 0 rfl rfl)
theorem dL_law_2650 : decode cL_law 2650 = .ok (.iload 6, 2) := dk_21 6 (dk_at dksL_law_105 3 rfl rfl)
theorem dL_law_2652 : decode cL_law 2652 = .ok (.if_icmp .eq 5, 3) := dk_159 0 5 (dk_at dksL_law_105 5 rfl rfl)
theorem dL_law_2655 : decode cL_law 2655 = .ok (.iconst 0, 1) := dk_3 (dk_at dksL_law_105 8 rfl rfl)
theorem dL_law_2656 : decode cL_law 2656 = .ok (.ireturn, 1) := dk_172 (dk_at dksL_law_105 9 rfl rfl)
theorem dL_law_2657 : decode cL_law 2657 = .ok (.iload 6, 2) := dk_21 6 (dk_at dksL_law_105 10 rfl rfl)
theorem dL_law_2659 : decode cL_law 2659 = .ok (.ifCond .ne 35, 3) := dk_154 0 35 (dk_at dksL_law_105 12 rfl rfl)
theorem dL_law_2662 : decode cL_law 2662 = .ok (.aload 4, 2) := dk_25 4 (dk_at dksL_law_105 15 rfl rfl)
theorem dL_law_2664 : decode cL_law 2664 = .ok (.iconst 0, 1) := dk_3 (dk_at dksL_law_105 17 rfl rfl)
theorem dL_law_2665 : decode cL_law 2665 = .ok (.daload, 1) := dk_49 (dk_at dksL_law_105 18 rfl rfl)
theorem dL_law_2666 : decode cL_law 2666 = .ok (.dload 7, 2) := dk_24 7 (dk_at dksL_law_105 19 rfl rfl)
theorem dL_law_2668 : decode cL_law 2668 = .ok (.dcmp .l, 1) := dk_151 (dk_at dksL_law_105 21 rfl rfl)
theorem dL_law_2669 : decode cL_law 2669 = .ok (.ifCond .eq 25, 3) := dk_153 0 25 (dk_at dksL_law_106 0 rfl rfl)
theorem dL_law_2672 : decode cL_law 2672 = .ok (.aload 4, 2) := dk_25 4 (dk_at dksL_law_106 3 rfl rfl)
theorem dL_law_2674 : decode cL_law 2674 = .ok (.iconst 0, 1) := dk_3 (dk_at dksL_law_106 5 rfl rfl)
theorem dL_law_2675 : decode cL_law 2675 = .ok (.daload, 1) := dk_49 (dk_at dksL_law_106 6 rfl rfl)
theorem dL_law_2676 : decode cL_law 2676 = .ok (.aload 4, 2) := dk_25 4 (dk_at dksL_law_106 7 rfl rfl)
theorem dL_law_2678 : decode cL_law 2678 = .ok (.iconst 0, 1) := dk_3 (dk_at dksL_law_106 9 rfl rfl)
theorem dL_law_2679 : decode cL_law 2679 = .ok (.daload, 1) := dk_49 (dk_at dksL_law_106 10 rfl rfl)
theorem dL_law_2680 : decode cL_law 2680 = .ok (.dcmp .l, 1) := dk_151 (dk_at dksL_law_106 11 rfl rfl)
theorem dL_law_2681 : decode cL_law 2681 = .ok (.ifCond .eq 11, 3) := dk_153 0 11 (dk_at dksL_law_106 12 rfl rfl)
theorem dL_law_2684 : decode cL_law 2684 = .ok (.dload 7, 2) := dk_24 7 (dk_at dksL_law_106 15 rfl rfl)
theorem dL_law_2686 : decode cL_law 2686 = .ok (.dload 7, 2) := dk_24 7 (dk_at dksL_law_106 17 rfl rfl)
theorem dL_law_2688 : decode cL_law 2688 = .ok (.dcmp .l, 1) := dk_151 (dk_at dksL_law_106 19 rfl rfl)
theorem dL_law_2689 : decode cL_law 2689 = .ok (.ifCond .ne 5, 3) := dk_154 0 5 (dk_at dksL_law_106 20 rfl rfl)
theorem dL_law_2692 : decode cL_law 2692 = .ok (.iconst 0, 1) := dk_3 (dk_at dksL_law_106 23 rfl rfl)
theorem dL_law_2693 : decode cL_law 2693 = .ok (.ireturn, 1) := dk_172 (dk_at dksL_law_107 0 rfl rfl)
theorem dL_law_2694 : decode cL_law 2694 = .ok (.goto 170, 3) := dk_167 0 170 (dk_at dksL_law_107 1 rfl rfl)
theorem dL_law_2697 : decode cL_law 2697 = .ok (.aload_n 1, 1) := dk_43 (dk_at dksL_law_107 4 rfl rfl)
theorem dL_law_2698 : decode cL_law 2698 = .ok (.aload 4, 2) := dk_25 4 (dk_at dksL_law_107 5 rfl rfl)
theorem dL_law_2700 : decode cL_law 2700 = .ok (.invokestatic 342, 3) := dk_184 1 86 (dk_at dksL_law_107 7 rfl rfl)
theorem dL_law_2703 : decode cL_law 2703 = .ok (.istore 6, 2) := dk_54 6 (dk_at dksL_law_107 10 rfl rfl)
theorem dL_law_2705 : decode cL_law 2705 = .ok (.aload_n 2, 1) := dk_44 (dk_at dksL_law_107 12 rfl rfl)
theorem dL_law_2706 : decode cL_law 2706 = .ok (.invokevirtual 344, 3) := dk_182 1 88 (dk_at dksL_law_107 13 rfl rfl)
theorem dL_law_2709 : decode cL_law 2709 = .ok (.fstore 7, 2) := dk_56 7 (dk_at dksL_law_107 16 rfl rfl)
theorem dL_law_2711 : decode cL_law 2711 = .ok (.aload_n 2, 1) := dk_44 (dk_at dksL_law_107 18 rfl rfl)
theorem dL_law_2712 : decode cL_law 2712 = .ok (.invokevirtual 167, 3) := dk_182 0 167 (dk_at dksL_law_107 19 rfl rfl)
theorem dL_law_2715 : decode cL_law 2715 = .ok (.iload 6, 2) := dk_21 6 (dk_at dksL_law_107 22 rfl rfl)
theorem dL_law_2717 : decode cL_law 2717 = .ok (.if_icmp .eq 5, 3) := dk_159 0 5 (dk_at dksL_law_108 0 rfl rfl)
theorem dL_law_2720 : decode cL_law 2720 = .ok (.iconst 0, 1) := dk_3 (dk_at dksL_law_108 3 rfl rfl)
theorem dL_law_2721 : decode cL_law 2721 = .ok (.ireturn, 1) := dk_172 (dk_at dksL_law_108 4 rfl rfl)
theorem dL_law_2722 : decode cL_law 2722 = .ok (.iload 6, 2) := dk_21 6 (dk_at dksL_law_108 5 rfl rfl)
theorem dL_law_2724 : decode cL_law 2724 = .ok (.ifCond .ne 36, 3) := dk_154 0 36 (dk_at dksL_law_108 7 rfl rfl)
theorem dL_law_2727 : decode cL_law 2727 = .ok (.aload 4, 2) := dk_25 4 (dk_at dksL_law_108 10 rfl rfl)
theorem dL_law_2729 : decode cL_law 2729 = .ok (.iconst 0, 1) := dk_3 (dk_at dksL_law_108 12 rfl rfl)
theorem dL_law_2730 : decode cL_law 2730 = .ok (.daload, 1) := dk_49 (dk_at dksL_law_108 13 rfl rfl)
theorem dL_law_2731 : decode cL_law 2731 = .ok (.fload 7, 2) := dk_23 7 (dk_at dksL_law_108 14 rfl rfl)
theorem dL_law_2733 : decode cL_law 2733 = .ok (.f2d, 1) := dk_141 (dk_at dksL_law_108 16 rfl rfl)
theorem dL_law_2734 : decode cL_law 2734 = .ok (.dcmp .l, 1) := dk_151 (dk_at dksL_law_108 17 rfl rfl)
theorem dL_law_2735 : decode cL_law 2735 = .ok (.ifCond .eq 25, 3) := dk_153 0 25 (dk_at dksL_law_108 18 rfl rfl)
theorem dL_law_2738 : decode cL_law 2738 = .ok (.aload 4, 2) := dk_25 4 (dk_at dksL_law_108 21 rfl rfl)
theorem dL_law_2740 : decode cL_law 2740 = .ok (.iconst 0, 1) := dk_3 (dk_at dksL_law_108 23 rfl rfl)
theorem dL_law_2741 : decode cL_law 2741 = .ok (.daload, 1) := dk_49 (dk_at dksL_law_109 0 rfl rfl)
theorem dL_law_2742 : decode cL_law 2742 = .ok (.aload 4, 2) := dk_25 4 (dk_at dksL_law_109 1 rfl rfl)
theorem dL_law_2744 : decode cL_law 2744 = .ok (.iconst 0, 1) := dk_3 (dk_at dksL_law_109 3 rfl rfl)
theorem dL_law_2745 : decode cL_law 2745 = .ok (.daload, 1) := dk_49 (dk_at dksL_law_109 4 rfl rfl)
theorem dL_law_2746 : decode cL_law 2746 = .ok (.dcmp .l, 1) := dk_151 (dk_at dksL_law_109 5 rfl rfl)
theorem dL_law_2747 : decode cL_law 2747 = .ok (.ifCond .eq 11, 3) := dk_153 0 11 (dk_at dksL_law_109 6 rfl rfl)
theorem dL_law_2750 : decode cL_law 2750 = .ok (.fload 7, 2) := dk_23 7 (dk_at dksL_law_109 9 rfl rfl)
theorem dL_law_2752 : decode cL_law 2752 = .ok (.fload 7, 2) := dk_23 7 (dk_at dksL_law_109 11 rfl rfl)
theorem dL_law_2754 : decode cL_law 2754 = .ok (.fcmp .l, 1) := dk_149 (dk_at dksL_law_109 13 rfl rfl)
theorem dL_law_2755 : decode cL_law 2755 = .ok (.ifCond .ne 5, 3) := dk_154 0 5 (dk_at dksL_law_109 14 rfl rfl)
theorem dL_law_2758 : decode cL_law 2758 = .ok (.iconst 0, 1) := dk_3 (dk_at dksL_law_109 17 rfl rfl)
theorem dL_law_2759 : decode cL_law 2759 = .ok (.ireturn, 1) := dk_172 (dk_at dksL_law_109 18 rfl rfl)
theorem dL_law_2760 : decode cL_law 2760 = .ok (.goto 104, 3) := dk_167 0 104 (dk_at dksL_law_109 19 rfl rfl)
theorem dL_law_2763 : decode cL_law 2763 = .ok (.aload_n 1, 1) := dk_43 (dk_at dksL_law_109 22 rfl rfl)
theorem dL_law_2764 : decode cL_law 2764 = .ok (.aload_n 3, 1) := dk_45 (dk_at dksL_law_109 23 rfl rfl)
theorem dL_law_2765 : decode cL_law 2765 = .ok (.invokestatic 345, 3) := dk_184 1 89 (dk_at dksL_law_110 0 rfl rfl)
theorem dL_law_2768 : decode cL_law 2768 = .ok (.istore 6, 2) := dk_54 6 (dk_at dksL_law_110 3 rfl rfl)
theorem dL_law_2770 : decode cL_law 2770 = .ok (.aload_n 2, 1) := dk_44 (dk_at dksL_law_110 5 rfl rfl)
theorem dL_law_2771 : decode cL_law 2771 = .ok (.invokevirtual 347, 3) := dk_182 1 91 (dk_at dksL_law_110 6 rfl rfl)
theorem dL_law_2774 : decode cL_law 2774 = .ok (.istore 7, 2) := dk_54 7 (dk_at dksL_law_110 9 rfl rfl)
theorem dL_law_2776 : decode cL_law 2776 = .ok (.aload_n 2, 1) := dk_44 (dk_at dksL_law_110 11 rfl rfl)
theorem dL_law_2777 : decode cL_law 2777 = .ok (.invokevirtual 167, 3) := dk_182 0 167 (dk_at dksL_law_110 12 rfl rfl)
theorem dL_law_2780 : decode cL_law 2780 = .ok (.iload 6, 2) := dk_21 6 (dk_at dksL_law_110 15 rfl rfl)
theorem dL_law_2782 : decode cL_law 2782 = .ok (.if_icmp .eq 5, 3) := dk_159 0 5 (dk_at dksL_law_110 17 rfl rfl)
theorem dL_law_2785 : decode cL_law 2785 = .ok (.iconst 0, 1) := dk_3 (dk_at dksL_law_110 20 rfl rfl)
theorem dL_law_2786 : decode cL_law 2786 = .ok (.ireturn, 1) := dk_172 (dk_at dksL_law_110 21 rfl rfl)
theorem dL_law_2787 : decode cL_law 2787 = .ok (.iload 6, 2) := dk_21 6 (dk_at dksL_law_110 22 rfl rfl)
theorem dL_law_2789 : decode cL_law 2789 = .ok (.ifCond .ne 15, 3) := dk_154 0 15 (dk_at dksL_law_111 0 rfl rfl)
theorem dL_law_2792 : decode cL_law 2792 = .ok (.aload_n 3, 1) := dk_45 (dk_at dksL_law_111 3 rfl rfl)
theorem dL_law_2793 : decode cL_law 2793 = .ok (.iconst 0, 1) := dk_3 (dk_at dksL_law_111 4 rfl rfl)
theorem dL_law_2794 : decode cL_law 2794 = .ok (.laload, 1) := dk_47 (dk_at dksL_law_111 5 rfl rfl)
theorem dL_law_2795 : decode cL_law 2795 = .ok (.iload 7, 2) := dk_21 7 (dk_at dksL_law_111 6 rfl rfl)
theorem dL_law_2797 : decode cL_law 2797 = .ok (.i2l, 1) := dk_133 (dk_at dksL_law_111 8 rfl rfl)
theorem dL_law_2798 : decode cL_law 2798 = .ok (.lcmp, 1) := dk_148 (dk_at dksL_law_111 9 rfl rfl)
theorem dL_law_2799 : decode cL_law 2799 = .ok (.ifCond .eq 5, 3) := dk_153 0 5 (dk_at dksL_law_111 10 rfl rfl)
theorem dL_law_2802 : decode cL_law 2802 = .ok (.iconst 0, 1) := dk_3 (dk_at dksL_law_111 13 rfl rfl)
theorem dL_law_2803 : decode cL_law 2803 = .ok (.ireturn, 1) := dk_172 (dk_at dksL_law_111 14 rfl rfl)
theorem dL_law_2804 : decode cL_law 2804 = .ok (.goto 60, 3) := dk_167 0 60 (dk_at dksL_law_111 15 rfl rfl)
theorem dL_law_2807 : decode cL_law 2807 = .ok (.aload_n 1, 1) := dk_43 (dk_at dksL_law_111 18 rfl rfl)
theorem dL_law_2808 : decode cL_law 2808 = .ok (.invokevirtual 348, 3) := dk_182 1 92 (dk_at dksL_law_111 19 rfl rfl)
theorem dL_law_2811 : decode cL_law 2811 = .ok (.aload_n 2, 1) := dk_44 (dk_at dksL_law_111 22 rfl rfl)
theorem dL_law_2812 : decode cL_law 2812 = .ok (.invokevirtual 351, 3) := dk_182 1 95 (dk_at dksL_law_112 0 rfl rfl)
theorem dL_law_2815 : decode cL_law 2815 = .ok (.if_icmp .eq 49, 3) := dk_159 0 49 (dk_at dksL_law_112 3 rfl rfl)
theorem dL_law_2818 : decode cL_law 2818 = .ok (.iconst 0, 1) := dk_3 (dk_at dksL_law_112 6 rfl rfl)
theorem dL_law_2819 : decode cL_law 2819 = .ok (.ireturn, 1) := dk_172 (dk_at dksL_law_112 7 rfl rfl)
theorem dL_law_2820 : decode cL_law 2820 = .ok (.aload_n 1, 1) := dk_43 (dk_at dksL_law_112 8 rfl rfl)
theorem dL_law_2821 : decode cL_law 2821 = .ok (.aload_n 3, 1) := dk_45 (dk_at dksL_law_112 9 rfl rfl)
theorem dL_law_2822 : decode cL_law 2822 = .ok (.invokestatic 352, 3) := dk_184 1 96 (dk_at dksL_law_112 10 rfl rfl)
theorem dL_law_2825 : decode cL_law 2825 = .ok (.istore 6, 2) := dk_54 6 (dk_at dksL_law_112 13 rfl rfl)
theorem dL_law_2827 : decode cL_law 2827 = .ok (.aload_n 2, 1) := dk_44 (dk_at dksL_law_112 15 rfl rfl)
theorem dL_law_2828 : decode cL_law 2828 = .ok (.invokevirtual 354, 3) := dk_182 1 98 (dk_at dksL_law_112 16 rfl rfl)
theorem dL_law_2831 : decode cL_law 2831 = .ok (.istore 7, 2) := dk_54 7 (dk_at dksL_law_112 19 rfl rfl)
theorem dL_law_2833 : decode cL_law 2833 = .ok (.aload_n 2, 1) := dk_44 (dk_at dksL_law_112 21 rfl rfl)
theorem dL_law_2834 : decode cL_law 2834 = .ok (.invokevirtual 167, 3) := dk_182 0 167 (dk_at dksL_law_113 0 rfl rfl)
theorem dL_law_2837 : decode cL_law 2837 = .ok (.iload 6, 2) := dk_21 6 (dk_at dksL_law_113 3 rfl rfl)
theorem dL_law_2839 : decode cL_law 2839 = .ok (.if_icmp .eq 5, 3) := dk_159 0 5 (dk_at dksL_law_113 5 rfl rfl)
theorem dL_law_2842 : decode cL_law 2842 = .ok (.iconst 0, 1) := dk_3 (dk_at dksL_law_113 8 rfl rfl)
theorem dL_law_2843 : decode cL_law 2843 = .ok (.ireturn, 1) := dk_172 (dk_at dksL_law_113 9 rfl rfl)
theorem dL_law_2844 : decode cL_law 2844 = .ok (.iload 6, 2) := dk_21 6 (dk_at dksL_law_113 10 rfl rfl)
theorem dL_law_2846 : decode cL_law 2846 = .ok (.ifCond .ne 15, 3) := dk_154 0 15 (dk_at dksL_law_113 12 rfl rfl)
theorem dL_law_2849 : decode cL_law 2849 = .ok (.aload_n 3, 1) := dk_45 (dk_at dksL_law_113 15 rfl rfl)
theorem dL_law_2850 : decode cL_law 2850 = .ok (.iconst 0, 1) := dk_3 (dk_at dksL_law_113 16 rfl rfl)
theorem dL_law_2851 : decode cL_law 2851 = .ok (.laload, 1) := dk_47 (dk_at dksL_law_113 17 rfl rfl)
theorem dL_law_2852 : decode cL_law 2852 = .ok (.iload 7, 2) := dk_21 7 (dk_at dksL_law_113 18 rfl rfl)
theorem dL_law_2854 : decode cL_law 2854 = .ok (.i2l, 1) := dk_133 (dk_at dksL_law_113 20 rfl rfl)
theorem dL_law_2855 : decode cL_law 2855 = .ok (.lcmp, 1) := dk_148 (dk_at dksL_law_113 21 rfl rfl)
theorem dL_law_2856 : decode cL_law 2856 = .ok (.ifCond .eq 5, 3) := dk_153 0 5 (dk_at dksL_law_114 0 rfl rfl)
theorem dL_law_2859 : decode cL_law 2859 = .ok (.iconst 0, 1) := dk_3 (dk_at dksL_law_114 3 rfl rfl)
theorem dL_law_2860 : decode cL_law 2860 = .ok (.ireturn, 1) := dk_172 (dk_at dksL_law_114 4 rfl rfl)
theorem dL_law_2861 : decode cL_law 2861 = .ok (.goto 3, 3) := dk_167 0 3 (dk_at dksL_law_114 5 rfl rfl)
theorem dL_law_2864 : decode cL_law 2864 = .ok (.iinc 5 3, 3) := dk_132 5 3 (dk_at dksL_law_114 8 rfl rfl)
theorem dL_law_2867 : decode cL_law 2867 = .ok (.goto (-2839), 3) := dk_167 244 233 (dk_at dksL_law_114 11 rfl rfl)
theorem dL_law_2870 : decode cL_law 2870 = .ok (.iconst 1, 1) := dk_4 (dk_at dksL_law_114 14 rfl rfl)
theorem dL_law_2871 : decode cL_law 2871 = .ok (.ireturn, 1) := dk_172 (dk_at dksL_law_114 15 rfl rfl)
