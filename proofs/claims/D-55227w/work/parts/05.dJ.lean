/-! decode rows -/
set_option maxRecDepth 100000
abbrev cJ0_init : ByteArray := prog_41_method_1_code
def yJ0_init : MethodName := ⟨RJ0, "<init>", "()V"⟩
theorem dJ0_init_0 : decode cJ0_init 0 = .ok (.aload_n 0, 1) := by decide +kernel
theorem dJ0_init_1 : decode cJ0_init 1 = .ok (.invokespecial 1, 3) := by decide +kernel
theorem dJ0_init_4 : decode cJ0_init 4 = .ok (.return_, 1) := by decide +kernel
abbrev cJ0_isEmpty : ByteArray := prog_41_method_4_code
def yJ0_isEmpty : MethodName := ⟨RJ0, "isEmpty", "()Z"⟩
def dkwJ0_isEmpty_0 : List UInt8 := [42, 182, 0, 7, 154, 0, 7, 4, 167, 0, 4, 3, 172]
abbrev dktJ0_isEmpty_0 : List UInt8 := dkwJ0_isEmpty_0 ++ []
theorem dksJ0_isEmpty_0 : cJ0_isEmpty.data.toList.drop 0 = dktJ0_isEmpty_0 := by decide +kernel
theorem dJ0_isEmpty_0 : decode cJ0_isEmpty 0 = .ok (.aload_n 0, 1) := dk_42 (dk_at dksJ0_isEmpty_0 0 rfl rfl)
theorem dJ0_isEmpty_1 : decode cJ0_isEmpty 1 = .ok (.invokevirtual 7, 3) := dk_182 0 7 (dk_at dksJ0_isEmpty_0 1 rfl rfl)
theorem dJ0_isEmpty_4 : decode cJ0_isEmpty 4 = .ok (.ifCond .ne 7, 3) := dk_154 0 7 (dk_at dksJ0_isEmpty_0 4 rfl rfl)
theorem dJ0_isEmpty_7 : decode cJ0_isEmpty 7 = .ok (.iconst 1, 1) := dk_4 (dk_at dksJ0_isEmpty_0 7 rfl rfl)
theorem dJ0_isEmpty_8 : decode cJ0_isEmpty 8 = .ok (.goto 4, 3) := dk_167 0 4 (dk_at dksJ0_isEmpty_0 8 rfl rfl)
theorem dJ0_isEmpty_11 : decode cJ0_isEmpty 11 = .ok (.iconst 0, 1) := dk_3 (dk_at dksJ0_isEmpty_0 11 rfl rfl)
theorem dJ0_isEmpty_12 : decode cJ0_isEmpty 12 = .ok (.ireturn, 1) := dk_172 (dk_at dksJ0_isEmpty_0 12 rfl rfl)
abbrev cJ1_init : ByteArray := prog_42_method_1_code
def yJ1_init : MethodName := ⟨RJ1, "<init>", "()V"⟩
def dkwJ1_init_0 : List UInt8 := [42, 183, 0, 1, 42, 3, 181, 0, 7, 177]
abbrev dktJ1_init_0 : List UInt8 := dkwJ1_init_0 ++ []
theorem dksJ1_init_0 : cJ1_init.data.toList.drop 0 = dktJ1_init_0 := by decide +kernel
theorem dJ1_init_0 : decode cJ1_init 0 = .ok (.aload_n 0, 1) := dk_42 (dk_at dksJ1_init_0 0 rfl rfl)
theorem dJ1_init_1 : decode cJ1_init 1 = .ok (.invokespecial 1, 3) := dk_183 0 1 (dk_at dksJ1_init_0 1 rfl rfl)
theorem dJ1_init_4 : decode cJ1_init 4 = .ok (.aload_n 0, 1) := dk_42 (dk_at dksJ1_init_0 4 rfl rfl)
theorem dJ1_init_5 : decode cJ1_init 5 = .ok (.iconst 0, 1) := dk_3 (dk_at dksJ1_init_0 5 rfl rfl)
theorem dJ1_init_6 : decode cJ1_init 6 = .ok (.putfield 7, 3) := dk_181 0 7 (dk_at dksJ1_init_0 6 rfl rfl)
theorem dJ1_init_9 : decode cJ1_init 9 = .ok (.return_, 1) := dk_177 (dk_at dksJ1_init_0 9 rfl rfl)
abbrev cJ1_listIterator : ByteArray := prog_42_method_12_code
def yJ1_listIterator : MethodName := ⟨RJ1, "listIterator", "()Ljava/util/ListIterator;"⟩
def dkwJ1_listIterator_0 : List UInt8 := [42, 3, 182, 0, 47, 176]
abbrev dktJ1_listIterator_0 : List UInt8 := dkwJ1_listIterator_0 ++ []
theorem dksJ1_listIterator_0 : cJ1_listIterator.data.toList.drop 0 = dktJ1_listIterator_0 := by decide +kernel
theorem dJ1_listIterator_0 : decode cJ1_listIterator 0 = .ok (.aload_n 0, 1) := dk_42 (dk_at dksJ1_listIterator_0 0 rfl rfl)
theorem dJ1_listIterator_1 : decode cJ1_listIterator 1 = .ok (.iconst 0, 1) := dk_3 (dk_at dksJ1_listIterator_0 1 rfl rfl)
theorem dJ1_listIterator_2 : decode cJ1_listIterator 2 = .ok (.invokevirtual 47, 3) := dk_182 0 47 (dk_at dksJ1_listIterator_0 2 rfl rfl)
theorem dJ1_listIterator_5 : decode cJ1_listIterator 5 = .ok (.areturn, 1) := dk_176 (dk_at dksJ1_listIterator_0 5 rfl rfl)
abbrev cJ3_init : ByteArray := prog_45_method_1_code
def yJ3_init : MethodName := ⟨RJ3, "<init>", "()V"⟩
theorem dJ3_init_0 : decode cJ3_init 0 = .ok (.aload_n 0, 1) := by decide +kernel
theorem dJ3_init_1 : decode cJ3_init 1 = .ok (.invokespecial 1, 3) := by decide +kernel
theorem dJ3_init_4 : decode cJ3_init 4 = .ok (.return_, 1) := by decide +kernel
abbrev cJ3_iterator : ByteArray := prog_45_method_7_code
def yJ3_iterator : MethodName := ⟨RJ3, "iterator", "()Ljava/util/Iterator;"⟩
theorem dJ3_iterator_0 : decode cJ3_iterator 0 = .ok (.aload_n 0, 1) := by decide +kernel
theorem dJ3_iterator_1 : decode cJ3_iterator 1 = .ok (.invokevirtual 65, 3) := by decide +kernel
theorem dJ3_iterator_4 : decode cJ3_iterator 4 = .ok (.areturn, 1) := by decide +kernel
abbrev cJ2_init : ByteArray := prog_48_method_2_code
def yJ2_init : MethodName := ⟨RJ2, "<init>", "()V"⟩
def dkwJ2_init_0 : List UInt8 := [42, 183, 0, 1, 42, 178, 0, 39, 181, 0, 9, 177]
abbrev dktJ2_init_0 : List UInt8 := dkwJ2_init_0 ++ []
theorem dksJ2_init_0 : cJ2_init.data.toList.drop 0 = dktJ2_init_0 := by decide +kernel
theorem dJ2_init_0 : decode cJ2_init 0 = .ok (.aload_n 0, 1) := dk_42 (dk_at dksJ2_init_0 0 rfl rfl)
theorem dJ2_init_1 : decode cJ2_init 1 = .ok (.invokespecial 1, 3) := dk_183 0 1 (dk_at dksJ2_init_0 1 rfl rfl)
theorem dJ2_init_4 : decode cJ2_init 4 = .ok (.aload_n 0, 1) := dk_42 (dk_at dksJ2_init_0 4 rfl rfl)
theorem dJ2_init_5 : decode cJ2_init 5 = .ok (.getstatic 39, 3) := dk_178 0 39 (dk_at dksJ2_init_0 5 rfl rfl)
theorem dJ2_init_8 : decode cJ2_init 8 = .ok (.putfield 9, 3) := dk_181 0 9 (dk_at dksJ2_init_0 8 rfl rfl)
theorem dJ2_init_11 : decode cJ2_init 11 = .ok (.return_, 1) := dk_177 (dk_at dksJ2_init_0 11 rfl rfl)
abbrev cJ2_iterator : ByteArray := prog_48_method_55_code
def yJ2_iterator : MethodName := ⟨RJ2, "iterator", "()Ljava/util/Iterator;"⟩
def dkwJ2_iterator_0 : List UInt8 := [187, 1, 11, 89, 42, 183, 1, 13, 176]
abbrev dktJ2_iterator_0 : List UInt8 := dkwJ2_iterator_0 ++ []
theorem dksJ2_iterator_0 : cJ2_iterator.data.toList.drop 0 = dktJ2_iterator_0 := by decide +kernel
theorem dJ2_iterator_0 : decode cJ2_iterator 0 = .ok (.new 267, 3) := dk_187 1 11 (dk_at dksJ2_iterator_0 0 rfl rfl)
theorem dJ2_iterator_3 : decode cJ2_iterator 3 = .ok (.dup, 1) := dk_89 (dk_at dksJ2_iterator_0 3 rfl rfl)
theorem dJ2_iterator_4 : decode cJ2_iterator 4 = .ok (.aload_n 0, 1) := dk_42 (dk_at dksJ2_iterator_0 4 rfl rfl)
theorem dJ2_iterator_5 : decode cJ2_iterator 5 = .ok (.invokespecial 269, 3) := dk_183 1 13 (dk_at dksJ2_iterator_0 5 rfl rfl)
theorem dJ2_iterator_8 : decode cJ2_iterator 8 = .ok (.areturn, 1) := dk_176 (dk_at dksJ2_iterator_0 8 rfl rfl)
abbrev cJ2_size : ByteArray := prog_48_method_8_code
def yJ2_size : MethodName := ⟨RJ2, "size", "()I"⟩
theorem dJ2_size_0 : decode cJ2_size 0 = .ok (.aload_n 0, 1) := by decide +kernel
theorem dJ2_size_1 : decode cJ2_size 1 = .ok (.getfield 48, 3) := by decide +kernel
theorem dJ2_size_4 : decode cJ2_size 4 = .ok (.ireturn, 1) := by decide +kernel
abbrev cJ2_get : ByteArray := prog_48_method_20_code
def yJ2_get : MethodName := ⟨RJ2, "get", "(I)Ljava/lang/Object;"⟩
def dkwJ2_get_0 : List UInt8 := [27, 42, 180, 0, 48, 184, 0, 118, 87, 42, 27, 182, 0, 123, 176]
abbrev dktJ2_get_0 : List UInt8 := dkwJ2_get_0 ++ []
theorem dksJ2_get_0 : cJ2_get.data.toList.drop 0 = dktJ2_get_0 := by decide +kernel
theorem dJ2_get_0 : decode cJ2_get 0 = .ok (.iload_n 1, 1) := dk_27 (dk_at dksJ2_get_0 0 rfl rfl)
theorem dJ2_get_1 : decode cJ2_get 1 = .ok (.aload_n 0, 1) := dk_42 (dk_at dksJ2_get_0 1 rfl rfl)
theorem dJ2_get_2 : decode cJ2_get 2 = .ok (.getfield 48, 3) := dk_180 0 48 (dk_at dksJ2_get_0 2 rfl rfl)
theorem dJ2_get_5 : decode cJ2_get 5 = .ok (.invokestatic 118, 3) := dk_184 0 118 (dk_at dksJ2_get_0 5 rfl rfl)
theorem dJ2_get_8 : decode cJ2_get 8 = .ok (.pop, 1) := dk_87 (dk_at dksJ2_get_0 8 rfl rfl)
theorem dJ2_get_9 : decode cJ2_get 9 = .ok (.aload_n 0, 1) := dk_42 (dk_at dksJ2_get_0 9 rfl rfl)
theorem dJ2_get_10 : decode cJ2_get 10 = .ok (.iload_n 1, 1) := dk_27 (dk_at dksJ2_get_0 10 rfl rfl)
theorem dJ2_get_11 : decode cJ2_get 11 = .ok (.invokevirtual 123, 3) := dk_182 0 123 (dk_at dksJ2_get_0 11 rfl rfl)
theorem dJ2_get_14 : decode cJ2_get 14 = .ok (.areturn, 1) := dk_176 (dk_at dksJ2_get_0 14 rfl rfl)
abbrev cJ2_elementData : ByteArray := prog_48_method_18_code
def yJ2_elementData : MethodName := ⟨RJ2, "elementData", "(I)Ljava/lang/Object;"⟩
def dkwJ2_elementData_0 : List UInt8 := [42, 180, 0, 9, 27, 50, 176]
abbrev dktJ2_elementData_0 : List UInt8 := dkwJ2_elementData_0 ++ []
theorem dksJ2_elementData_0 : cJ2_elementData.data.toList.drop 0 = dktJ2_elementData_0 := by decide +kernel
theorem dJ2_elementData_0 : decode cJ2_elementData 0 = .ok (.aload_n 0, 1) := dk_42 (dk_at dksJ2_elementData_0 0 rfl rfl)
theorem dJ2_elementData_1 : decode cJ2_elementData 1 = .ok (.getfield 9, 3) := dk_180 0 9 (dk_at dksJ2_elementData_0 1 rfl rfl)
theorem dJ2_elementData_4 : decode cJ2_elementData 4 = .ok (.iload_n 1, 1) := dk_27 (dk_at dksJ2_elementData_0 4 rfl rfl)
theorem dJ2_elementData_5 : decode cJ2_elementData 5 = .ok (.aaload, 1) := dk_50 (dk_at dksJ2_elementData_0 5 rfl rfl)
theorem dJ2_elementData_6 : decode cJ2_elementData 6 = .ok (.areturn, 1) := dk_176 (dk_at dksJ2_elementData_0 6 rfl rfl)
abbrev cJ2_add : ByteArray := prog_48_method_25_code
def yJ2_add : MethodName := ⟨RJ2, "add", "(Ljava/lang/Object;)Z"⟩
def dkwJ2_add_1 : List UInt8 := [172]
abbrev dktJ2_add_1 : List UInt8 := dkwJ2_add_1 ++ []
def dkwJ2_add_0 : List UInt8 := [42, 89, 180, 0, 63, 4, 96, 181, 0, 63, 42, 43, 42, 180, 0, 9, 42, 180, 0, 48, 182, 0, 131, 4]
abbrev dktJ2_add_0 : List UInt8 := dkwJ2_add_0 ++ dktJ2_add_1
theorem dksJ2_add_0 : cJ2_add.data.toList.drop 0 = dktJ2_add_0 := by decide +kernel
theorem dksJ2_add_1 : cJ2_add.data.toList.drop 24 = dktJ2_add_1 := dk_seg dksJ2_add_0 24 rfl rfl
theorem dJ2_add_0 : decode cJ2_add 0 = .ok (.aload_n 0, 1) := dk_42 (dk_at dksJ2_add_0 0 rfl rfl)
theorem dJ2_add_1 : decode cJ2_add 1 = .ok (.dup, 1) := dk_89 (dk_at dksJ2_add_0 1 rfl rfl)
theorem dJ2_add_2 : decode cJ2_add 2 = .ok (.getfield 63, 3) := dk_180 0 63 (dk_at dksJ2_add_0 2 rfl rfl)
theorem dJ2_add_5 : decode cJ2_add 5 = .ok (.iconst 1, 1) := dk_4 (dk_at dksJ2_add_0 5 rfl rfl)
theorem dJ2_add_6 : decode cJ2_add 6 = .ok (.iadd, 1) := dk_96 (dk_at dksJ2_add_0 6 rfl rfl)
theorem dJ2_add_7 : decode cJ2_add 7 = .ok (.putfield 63, 3) := dk_181 0 63 (dk_at dksJ2_add_0 7 rfl rfl)
theorem dJ2_add_10 : decode cJ2_add 10 = .ok (.aload_n 0, 1) := dk_42 (dk_at dksJ2_add_0 10 rfl rfl)
theorem dJ2_add_11 : decode cJ2_add 11 = .ok (.aload_n 1, 1) := dk_43 (dk_at dksJ2_add_0 11 rfl rfl)
theorem dJ2_add_12 : decode cJ2_add 12 = .ok (.aload_n 0, 1) := dk_42 (dk_at dksJ2_add_0 12 rfl rfl)
theorem dJ2_add_13 : decode cJ2_add 13 = .ok (.getfield 9, 3) := dk_180 0 9 (dk_at dksJ2_add_0 13 rfl rfl)
theorem dJ2_add_16 : decode cJ2_add 16 = .ok (.aload_n 0, 1) := dk_42 (dk_at dksJ2_add_0 16 rfl rfl)
theorem dJ2_add_17 : decode cJ2_add 17 = .ok (.getfield 48, 3) := dk_180 0 48 (dk_at dksJ2_add_0 17 rfl rfl)
theorem dJ2_add_20 : decode cJ2_add 20 = .ok (.invokevirtual 131, 3) := dk_182 0 131 (dk_at dksJ2_add_0 20 rfl rfl)
theorem dJ2_add_23 : decode cJ2_add 23 = .ok (.iconst 1, 1) := dk_4 (dk_at dksJ2_add_0 23 rfl rfl)
theorem dJ2_add_24 : decode cJ2_add 24 = .ok (.ireturn, 1) := dk_172 (dk_at dksJ2_add_1 0 rfl rfl)
abbrev cJ2_add_2 : ByteArray := prog_48_method_24_code
def yJ2_add_2 : MethodName := ⟨RJ2, "add", "(Ljava/lang/Object;[Ljava/lang/Object;I)V"⟩
def dkwJ2_add_2_0 : List UInt8 := [29, 44, 190, 160, 0, 8, 42, 182, 0, 129, 77, 44, 29, 43, 83, 42, 29, 4, 96, 181, 0, 48, 177]
abbrev dktJ2_add_2_0 : List UInt8 := dkwJ2_add_2_0 ++ []
theorem dksJ2_add_2_0 : cJ2_add_2.data.toList.drop 0 = dktJ2_add_2_0 := by decide +kernel
theorem dJ2_add_2_0 : decode cJ2_add_2 0 = .ok (.iload_n 3, 1) := dk_29 (dk_at dksJ2_add_2_0 0 rfl rfl)
theorem dJ2_add_2_1 : decode cJ2_add_2 1 = .ok (.aload_n 2, 1) := dk_44 (dk_at dksJ2_add_2_0 1 rfl rfl)
theorem dJ2_add_2_2 : decode cJ2_add_2 2 = .ok (.arraylength, 1) := dk_190 (dk_at dksJ2_add_2_0 2 rfl rfl)
theorem dJ2_add_2_3 : decode cJ2_add_2 3 = .ok (.if_icmp .ne 8, 3) := dk_160 0 8 (dk_at dksJ2_add_2_0 3 rfl rfl)
theorem dJ2_add_2_6 : decode cJ2_add_2 6 = .ok (.aload_n 0, 1) := dk_42 (dk_at dksJ2_add_2_0 6 rfl rfl)
theorem dJ2_add_2_7 : decode cJ2_add_2 7 = .ok (.invokevirtual 129, 3) := dk_182 0 129 (dk_at dksJ2_add_2_0 7 rfl rfl)
theorem dJ2_add_2_10 : decode cJ2_add_2 10 = .ok (.astore_n 2, 1) := dk_77 (dk_at dksJ2_add_2_0 10 rfl rfl)
theorem dJ2_add_2_11 : decode cJ2_add_2 11 = .ok (.aload_n 2, 1) := dk_44 (dk_at dksJ2_add_2_0 11 rfl rfl)
theorem dJ2_add_2_12 : decode cJ2_add_2 12 = .ok (.iload_n 3, 1) := dk_29 (dk_at dksJ2_add_2_0 12 rfl rfl)
theorem dJ2_add_2_13 : decode cJ2_add_2 13 = .ok (.aload_n 1, 1) := dk_43 (dk_at dksJ2_add_2_0 13 rfl rfl)
theorem dJ2_add_2_14 : decode cJ2_add_2 14 = .ok (.aastore, 1) := dk_83 (dk_at dksJ2_add_2_0 14 rfl rfl)
theorem dJ2_add_2_15 : decode cJ2_add_2 15 = .ok (.aload_n 0, 1) := dk_42 (dk_at dksJ2_add_2_0 15 rfl rfl)
theorem dJ2_add_2_16 : decode cJ2_add_2 16 = .ok (.iload_n 3, 1) := dk_29 (dk_at dksJ2_add_2_0 16 rfl rfl)
theorem dJ2_add_2_17 : decode cJ2_add_2 17 = .ok (.iconst 1, 1) := dk_4 (dk_at dksJ2_add_2_0 17 rfl rfl)
theorem dJ2_add_2_18 : decode cJ2_add_2 18 = .ok (.iadd, 1) := dk_96 (dk_at dksJ2_add_2_0 18 rfl rfl)
theorem dJ2_add_2_19 : decode cJ2_add_2 19 = .ok (.putfield 48, 3) := dk_181 0 48 (dk_at dksJ2_add_2_0 19 rfl rfl)
theorem dJ2_add_2_22 : decode cJ2_add_2 22 = .ok (.return_, 1) := dk_177 (dk_at dksJ2_add_2_0 22 rfl rfl)
abbrev cJ2_grow : ByteArray := prog_48_method_7_code
def yJ2_grow : MethodName := ⟨RJ2, "grow", "()[Ljava/lang/Object;"⟩
def dkwJ2_grow_0 : List UInt8 := [42, 42, 180, 0, 48, 4, 96, 182, 0, 69, 176]
abbrev dktJ2_grow_0 : List UInt8 := dkwJ2_grow_0 ++ []
theorem dksJ2_grow_0 : cJ2_grow.data.toList.drop 0 = dktJ2_grow_0 := by decide +kernel
theorem dJ2_grow_0 : decode cJ2_grow 0 = .ok (.aload_n 0, 1) := dk_42 (dk_at dksJ2_grow_0 0 rfl rfl)
theorem dJ2_grow_1 : decode cJ2_grow 1 = .ok (.aload_n 0, 1) := dk_42 (dk_at dksJ2_grow_0 1 rfl rfl)
theorem dJ2_grow_2 : decode cJ2_grow 2 = .ok (.getfield 48, 3) := dk_180 0 48 (dk_at dksJ2_grow_0 2 rfl rfl)
theorem dJ2_grow_5 : decode cJ2_grow 5 = .ok (.iconst 1, 1) := dk_4 (dk_at dksJ2_grow_0 5 rfl rfl)
theorem dJ2_grow_6 : decode cJ2_grow 6 = .ok (.iadd, 1) := dk_96 (dk_at dksJ2_grow_0 6 rfl rfl)
theorem dJ2_grow_7 : decode cJ2_grow 7 = .ok (.invokevirtual 69, 3) := dk_182 0 69 (dk_at dksJ2_grow_0 7 rfl rfl)
theorem dJ2_grow_10 : decode cJ2_grow 10 = .ok (.areturn, 1) := dk_176 (dk_at dksJ2_grow_0 10 rfl rfl)
abbrev cJ2_grow_2 : ByteArray := prog_48_method_6_code
def yJ2_grow_2 : MethodName := ⟨RJ2, "grow", "(I)[Ljava/lang/Object;"⟩
def dkwJ2_grow_2_2 : List UInt8 := [27, 184, 0, 79, 189, 0, 7, 90, 181, 0, 9, 176]
abbrev dktJ2_grow_2_2 : List UInt8 := dkwJ2_grow_2_2 ++ []
def dkwJ2_grow_2_1 : List UInt8 := [28, 4, 122, 184, 0, 73, 62, 42, 42, 180, 0, 9, 29, 184, 0, 66, 90, 181, 0, 9, 176, 42, 16, 10]
abbrev dktJ2_grow_2_1 : List UInt8 := dkwJ2_grow_2_1 ++ dktJ2_grow_2_2
def dkwJ2_grow_2_0 : List UInt8 := [42, 180, 0, 9, 190, 61, 28, 157, 0, 13, 42, 180, 0, 9, 178, 0, 39, 165, 0, 28, 28, 27, 28, 100]
abbrev dktJ2_grow_2_0 : List UInt8 := dkwJ2_grow_2_0 ++ dktJ2_grow_2_1
theorem dksJ2_grow_2_0 : cJ2_grow_2.data.toList.drop 0 = dktJ2_grow_2_0 := by decide +kernel
theorem dksJ2_grow_2_1 : cJ2_grow_2.data.toList.drop 24 = dktJ2_grow_2_1 := dk_seg dksJ2_grow_2_0 24 rfl rfl
theorem dksJ2_grow_2_2 : cJ2_grow_2.data.toList.drop 48 = dktJ2_grow_2_2 := dk_seg dksJ2_grow_2_1 24 rfl rfl
theorem dJ2_grow_2_0 : decode cJ2_grow_2 0 = .ok (.aload_n 0, 1) := dk_42 (dk_at dksJ2_grow_2_0 0 rfl rfl)
theorem dJ2_grow_2_1 : decode cJ2_grow_2 1 = .ok (.getfield 9, 3) := dk_180 0 9 (dk_at dksJ2_grow_2_0 1 rfl rfl)
theorem dJ2_grow_2_4 : decode cJ2_grow_2 4 = .ok (.arraylength, 1) := dk_190 (dk_at dksJ2_grow_2_0 4 rfl rfl)
theorem dJ2_grow_2_5 : decode cJ2_grow_2 5 = .ok (.istore_n 2, 1) := dk_61 (dk_at dksJ2_grow_2_0 5 rfl rfl)
theorem dJ2_grow_2_6 : decode cJ2_grow_2 6 = .ok (.iload_n 2, 1) := dk_28 (dk_at dksJ2_grow_2_0 6 rfl rfl)
theorem dJ2_grow_2_7 : decode cJ2_grow_2 7 = .ok (.ifCond .gt 13, 3) := dk_157 0 13 (dk_at dksJ2_grow_2_0 7 rfl rfl)
theorem dJ2_grow_2_10 : decode cJ2_grow_2 10 = .ok (.aload_n 0, 1) := dk_42 (dk_at dksJ2_grow_2_0 10 rfl rfl)
theorem dJ2_grow_2_11 : decode cJ2_grow_2 11 = .ok (.getfield 9, 3) := dk_180 0 9 (dk_at dksJ2_grow_2_0 11 rfl rfl)
theorem dJ2_grow_2_14 : decode cJ2_grow_2 14 = .ok (.getstatic 39, 3) := dk_178 0 39 (dk_at dksJ2_grow_2_0 14 rfl rfl)
theorem dJ2_grow_2_17 : decode cJ2_grow_2 17 = .ok (.if_acmp .eq 28, 3) := dk_165 0 28 (dk_at dksJ2_grow_2_0 17 rfl rfl)
theorem dJ2_grow_2_20 : decode cJ2_grow_2 20 = .ok (.iload_n 2, 1) := dk_28 (dk_at dksJ2_grow_2_0 20 rfl rfl)
theorem dJ2_grow_2_21 : decode cJ2_grow_2 21 = .ok (.iload_n 1, 1) := dk_27 (dk_at dksJ2_grow_2_0 21 rfl rfl)
theorem dJ2_grow_2_22 : decode cJ2_grow_2 22 = .ok (.iload_n 2, 1) := dk_28 (dk_at dksJ2_grow_2_0 22 rfl rfl)
theorem dJ2_grow_2_23 : decode cJ2_grow_2 23 = .ok (.isub, 1) := dk_100 (dk_at dksJ2_grow_2_0 23 rfl rfl)
theorem dJ2_grow_2_24 : decode cJ2_grow_2 24 = .ok (.iload_n 2, 1) := dk_28 (dk_at dksJ2_grow_2_1 0 rfl rfl)
theorem dJ2_grow_2_25 : decode cJ2_grow_2 25 = .ok (.iconst 1, 1) := dk_4 (dk_at dksJ2_grow_2_1 1 rfl rfl)
theorem dJ2_grow_2_26 : decode cJ2_grow_2 26 = .ok (.ishr, 1) := dk_122 (dk_at dksJ2_grow_2_1 2 rfl rfl)
theorem dJ2_grow_2_27 : decode cJ2_grow_2 27 = .ok (.invokestatic 73, 3) := dk_184 0 73 (dk_at dksJ2_grow_2_1 3 rfl rfl)
theorem dJ2_grow_2_30 : decode cJ2_grow_2 30 = .ok (.istore_n 3, 1) := dk_62 (dk_at dksJ2_grow_2_1 6 rfl rfl)
theorem dJ2_grow_2_31 : decode cJ2_grow_2 31 = .ok (.aload_n 0, 1) := dk_42 (dk_at dksJ2_grow_2_1 7 rfl rfl)
theorem dJ2_grow_2_32 : decode cJ2_grow_2 32 = .ok (.aload_n 0, 1) := dk_42 (dk_at dksJ2_grow_2_1 8 rfl rfl)
theorem dJ2_grow_2_33 : decode cJ2_grow_2 33 = .ok (.getfield 9, 3) := dk_180 0 9 (dk_at dksJ2_grow_2_1 9 rfl rfl)
theorem dJ2_grow_2_36 : decode cJ2_grow_2 36 = .ok (.iload_n 3, 1) := dk_29 (dk_at dksJ2_grow_2_1 12 rfl rfl)
theorem dJ2_grow_2_37 : decode cJ2_grow_2 37 = .ok (.invokestatic 66, 3) := dk_184 0 66 (dk_at dksJ2_grow_2_1 13 rfl rfl)
theorem dJ2_grow_2_40 : decode cJ2_grow_2 40 = .ok (.dup_x1, 1) := dk_90 (dk_at dksJ2_grow_2_1 16 rfl rfl)
theorem dJ2_grow_2_41 : decode cJ2_grow_2 41 = .ok (.putfield 9, 3) := dk_181 0 9 (dk_at dksJ2_grow_2_1 17 rfl rfl)
theorem dJ2_grow_2_44 : decode cJ2_grow_2 44 = .ok (.areturn, 1) := dk_176 (dk_at dksJ2_grow_2_1 20 rfl rfl)
theorem dJ2_grow_2_45 : decode cJ2_grow_2 45 = .ok (.aload_n 0, 1) := dk_42 (dk_at dksJ2_grow_2_1 21 rfl rfl)
theorem dJ2_grow_2_46 : decode cJ2_grow_2 46 = .ok (.bipush 10, 2) := dk_16 10 (dk_at dksJ2_grow_2_1 22 rfl rfl)
theorem dJ2_grow_2_48 : decode cJ2_grow_2 48 = .ok (.iload_n 1, 1) := dk_27 (dk_at dksJ2_grow_2_2 0 rfl rfl)
theorem dJ2_grow_2_49 : decode cJ2_grow_2 49 = .ok (.invokestatic 79, 3) := dk_184 0 79 (dk_at dksJ2_grow_2_2 1 rfl rfl)
theorem dJ2_grow_2_52 : decode cJ2_grow_2 52 = .ok (.anewarray 7, 3) := dk_189 0 7 (dk_at dksJ2_grow_2_2 4 rfl rfl)
theorem dJ2_grow_2_55 : decode cJ2_grow_2 55 = .ok (.dup_x1, 1) := dk_90 (dk_at dksJ2_grow_2_2 7 rfl rfl)
theorem dJ2_grow_2_56 : decode cJ2_grow_2 56 = .ok (.putfield 9, 3) := dk_181 0 9 (dk_at dksJ2_grow_2_2 8 rfl rfl)
theorem dJ2_grow_2_59 : decode cJ2_grow_2 59 = .ok (.areturn, 1) := dk_176 (dk_at dksJ2_grow_2_2 11 rfl rfl)
abbrev cJ2_listIterator : ByteArray := prog_48_method_53_code
def yJ2_listIterator : MethodName := ⟨RJ2, "listIterator", "(I)Ljava/util/ListIterator;"⟩
def dkwJ2_listIterator_0 : List UInt8 := [42, 27, 182, 0, 135, 187, 1, 6, 89, 42, 27, 183, 1, 8, 176]
abbrev dktJ2_listIterator_0 : List UInt8 := dkwJ2_listIterator_0 ++ []
theorem dksJ2_listIterator_0 : cJ2_listIterator.data.toList.drop 0 = dktJ2_listIterator_0 := by decide +kernel
theorem dJ2_listIterator_0 : decode cJ2_listIterator 0 = .ok (.aload_n 0, 1) := dk_42 (dk_at dksJ2_listIterator_0 0 rfl rfl)
theorem dJ2_listIterator_1 : decode cJ2_listIterator 1 = .ok (.iload_n 1, 1) := dk_27 (dk_at dksJ2_listIterator_0 1 rfl rfl)
theorem dJ2_listIterator_2 : decode cJ2_listIterator 2 = .ok (.invokevirtual 135, 3) := dk_182 0 135 (dk_at dksJ2_listIterator_0 2 rfl rfl)
theorem dJ2_listIterator_5 : decode cJ2_listIterator 5 = .ok (.new 262, 3) := dk_187 1 6 (dk_at dksJ2_listIterator_0 5 rfl rfl)
theorem dJ2_listIterator_8 : decode cJ2_listIterator 8 = .ok (.dup, 1) := dk_89 (dk_at dksJ2_listIterator_0 8 rfl rfl)
theorem dJ2_listIterator_9 : decode cJ2_listIterator 9 = .ok (.aload_n 0, 1) := dk_42 (dk_at dksJ2_listIterator_0 9 rfl rfl)
theorem dJ2_listIterator_10 : decode cJ2_listIterator 10 = .ok (.iload_n 1, 1) := dk_27 (dk_at dksJ2_listIterator_0 10 rfl rfl)
theorem dJ2_listIterator_11 : decode cJ2_listIterator 11 = .ok (.invokespecial 264, 3) := dk_183 1 8 (dk_at dksJ2_listIterator_0 11 rfl rfl)
theorem dJ2_listIterator_14 : decode cJ2_listIterator 14 = .ok (.areturn, 1) := dk_176 (dk_at dksJ2_listIterator_0 14 rfl rfl)
abbrev cJ2_rangeCheckForAdd : ByteArray := prog_48_method_45_code
def yJ2_rangeCheckForAdd : MethodName := ⟨RJ2, "rangeCheckForAdd", "(I)V"⟩
def dkwJ2_rangeCheckForAdd_1 : List UInt8 := [191, 177]
abbrev dktJ2_rangeCheckForAdd_1 : List UInt8 := dkwJ2_rangeCheckForAdd_1 ++ []
def dkwJ2_rangeCheckForAdd_0 : List UInt8 := [27, 42, 180, 0, 48, 163, 0, 7, 27, 156, 0, 16, 187, 0, 187, 89, 42, 27, 182, 0, 198, 183, 0, 193]
abbrev dktJ2_rangeCheckForAdd_0 : List UInt8 := dkwJ2_rangeCheckForAdd_0 ++ dktJ2_rangeCheckForAdd_1
theorem dksJ2_rangeCheckForAdd_0 : cJ2_rangeCheckForAdd.data.toList.drop 0 = dktJ2_rangeCheckForAdd_0 := by decide +kernel
theorem dksJ2_rangeCheckForAdd_1 : cJ2_rangeCheckForAdd.data.toList.drop 24 = dktJ2_rangeCheckForAdd_1 := dk_seg dksJ2_rangeCheckForAdd_0 24 rfl rfl
theorem dJ2_rangeCheckForAdd_0 : decode cJ2_rangeCheckForAdd 0 = .ok (.iload_n 1, 1) := dk_27 (dk_at dksJ2_rangeCheckForAdd_0 0 rfl rfl)
theorem dJ2_rangeCheckForAdd_1 : decode cJ2_rangeCheckForAdd 1 = .ok (.aload_n 0, 1) := dk_42 (dk_at dksJ2_rangeCheckForAdd_0 1 rfl rfl)
theorem dJ2_rangeCheckForAdd_2 : decode cJ2_rangeCheckForAdd 2 = .ok (.getfield 48, 3) := dk_180 0 48 (dk_at dksJ2_rangeCheckForAdd_0 2 rfl rfl)
theorem dJ2_rangeCheckForAdd_5 : decode cJ2_rangeCheckForAdd 5 = .ok (.if_icmp .gt 7, 3) := dk_163 0 7 (dk_at dksJ2_rangeCheckForAdd_0 5 rfl rfl)
theorem dJ2_rangeCheckForAdd_8 : decode cJ2_rangeCheckForAdd 8 = .ok (.iload_n 1, 1) := dk_27 (dk_at dksJ2_rangeCheckForAdd_0 8 rfl rfl)
theorem dJ2_rangeCheckForAdd_9 : decode cJ2_rangeCheckForAdd 9 = .ok (.ifCond .ge 16, 3) := dk_156 0 16 (dk_at dksJ2_rangeCheckForAdd_0 9 rfl rfl)
theorem dJ2_rangeCheckForAdd_12 : decode cJ2_rangeCheckForAdd 12 = .ok (.new 187, 3) := dk_187 0 187 (dk_at dksJ2_rangeCheckForAdd_0 12 rfl rfl)
theorem dJ2_rangeCheckForAdd_15 : decode cJ2_rangeCheckForAdd 15 = .ok (.dup, 1) := dk_89 (dk_at dksJ2_rangeCheckForAdd_0 15 rfl rfl)
theorem dJ2_rangeCheckForAdd_16 : decode cJ2_rangeCheckForAdd 16 = .ok (.aload_n 0, 1) := dk_42 (dk_at dksJ2_rangeCheckForAdd_0 16 rfl rfl)
theorem dJ2_rangeCheckForAdd_17 : decode cJ2_rangeCheckForAdd 17 = .ok (.iload_n 1, 1) := dk_27 (dk_at dksJ2_rangeCheckForAdd_0 17 rfl rfl)
theorem dJ2_rangeCheckForAdd_18 : decode cJ2_rangeCheckForAdd 18 = .ok (.invokevirtual 198, 3) := dk_182 0 198 (dk_at dksJ2_rangeCheckForAdd_0 18 rfl rfl)
theorem dJ2_rangeCheckForAdd_21 : decode cJ2_rangeCheckForAdd 21 = .ok (.invokespecial 193, 3) := dk_183 0 193 (dk_at dksJ2_rangeCheckForAdd_0 21 rfl rfl)
theorem dJ2_rangeCheckForAdd_24 : decode cJ2_rangeCheckForAdd 24 = .ok (.athrow, 1) := dk_191 (dk_at dksJ2_rangeCheckForAdd_1 0 rfl rfl)
theorem dJ2_rangeCheckForAdd_25 : decode cJ2_rangeCheckForAdd 25 = .ok (.return_, 1) := dk_177 (dk_at dksJ2_rangeCheckForAdd_1 1 rfl rfl)
abbrev cJ2_outOfBoundsMsg : ByteArray := prog_48_method_46_code
def yJ2_outOfBoundsMsg : MethodName := ⟨RJ2, "outOfBoundsMsg", "(I)Ljava/lang/String;"⟩
def dkwJ2_outOfBoundsMsg_1 : List UInt8 := [180, 0, 48, 182, 0, 29, 182, 0, 32, 176]
abbrev dktJ2_outOfBoundsMsg_1 : List UInt8 := dkwJ2_outOfBoundsMsg_1 ++ []
def dkwJ2_outOfBoundsMsg_0 : List UInt8 := [187, 0, 20, 89, 183, 0, 22, 18, 201, 182, 0, 25, 27, 182, 0, 29, 18, 203, 182, 0, 25, 42]
abbrev dktJ2_outOfBoundsMsg_0 : List UInt8 := dkwJ2_outOfBoundsMsg_0 ++ dktJ2_outOfBoundsMsg_1
theorem dksJ2_outOfBoundsMsg_0 : cJ2_outOfBoundsMsg.data.toList.drop 0 = dktJ2_outOfBoundsMsg_0 := by decide +kernel
theorem dksJ2_outOfBoundsMsg_1 : cJ2_outOfBoundsMsg.data.toList.drop 22 = dktJ2_outOfBoundsMsg_1 := dk_seg dksJ2_outOfBoundsMsg_0 22 rfl rfl
theorem dJ2_outOfBoundsMsg_0 : decode cJ2_outOfBoundsMsg 0 = .ok (.new 20, 3) := dk_187 0 20 (dk_at dksJ2_outOfBoundsMsg_0 0 rfl rfl)
theorem dJ2_outOfBoundsMsg_3 : decode cJ2_outOfBoundsMsg 3 = .ok (.dup, 1) := dk_89 (dk_at dksJ2_outOfBoundsMsg_0 3 rfl rfl)
theorem dJ2_outOfBoundsMsg_4 : decode cJ2_outOfBoundsMsg 4 = .ok (.invokespecial 22, 3) := dk_183 0 22 (dk_at dksJ2_outOfBoundsMsg_0 4 rfl rfl)
theorem dJ2_outOfBoundsMsg_7 : decode cJ2_outOfBoundsMsg 7 = .ok (.ldc 201, 2) := dk_18 201 (dk_at dksJ2_outOfBoundsMsg_0 7 rfl rfl)
theorem dJ2_outOfBoundsMsg_9 : decode cJ2_outOfBoundsMsg 9 = .ok (.invokevirtual 25, 3) := dk_182 0 25 (dk_at dksJ2_outOfBoundsMsg_0 9 rfl rfl)
theorem dJ2_outOfBoundsMsg_12 : decode cJ2_outOfBoundsMsg 12 = .ok (.iload_n 1, 1) := dk_27 (dk_at dksJ2_outOfBoundsMsg_0 12 rfl rfl)
theorem dJ2_outOfBoundsMsg_13 : decode cJ2_outOfBoundsMsg 13 = .ok (.invokevirtual 29, 3) := dk_182 0 29 (dk_at dksJ2_outOfBoundsMsg_0 13 rfl rfl)
theorem dJ2_outOfBoundsMsg_16 : decode cJ2_outOfBoundsMsg 16 = .ok (.ldc 203, 2) := dk_18 203 (dk_at dksJ2_outOfBoundsMsg_0 16 rfl rfl)
theorem dJ2_outOfBoundsMsg_18 : decode cJ2_outOfBoundsMsg 18 = .ok (.invokevirtual 25, 3) := dk_182 0 25 (dk_at dksJ2_outOfBoundsMsg_0 18 rfl rfl)
theorem dJ2_outOfBoundsMsg_21 : decode cJ2_outOfBoundsMsg 21 = .ok (.aload_n 0, 1) := dk_42 (dk_at dksJ2_outOfBoundsMsg_0 21 rfl rfl)
theorem dJ2_outOfBoundsMsg_22 : decode cJ2_outOfBoundsMsg 22 = .ok (.getfield 48, 3) := dk_180 0 48 (dk_at dksJ2_outOfBoundsMsg_1 0 rfl rfl)
theorem dJ2_outOfBoundsMsg_25 : decode cJ2_outOfBoundsMsg 25 = .ok (.invokevirtual 29, 3) := dk_182 0 29 (dk_at dksJ2_outOfBoundsMsg_1 3 rfl rfl)
theorem dJ2_outOfBoundsMsg_28 : decode cJ2_outOfBoundsMsg 28 = .ok (.invokevirtual 32, 3) := dk_182 0 32 (dk_at dksJ2_outOfBoundsMsg_1 6 rfl rfl)
theorem dJ2_outOfBoundsMsg_31 : decode cJ2_outOfBoundsMsg 31 = .ok (.areturn, 1) := dk_176 (dk_at dksJ2_outOfBoundsMsg_1 9 rfl rfl)
abbrev cJ2_remove : ByteArray := prog_48_method_29_code
def yJ2_remove : MethodName := ⟨RJ2, "remove", "(I)Ljava/lang/Object;"⟩
def dkwJ2_remove_1 : List UInt8 := [45, 176]
abbrev dktJ2_remove_1 : List UInt8 := dkwJ2_remove_1 ++ []
def dkwJ2_remove_0 : List UInt8 := [27, 42, 180, 0, 48, 184, 0, 118, 87, 42, 180, 0, 9, 77, 44, 27, 50, 78, 42, 44, 27, 182, 0, 144]
abbrev dktJ2_remove_0 : List UInt8 := dkwJ2_remove_0 ++ dktJ2_remove_1
theorem dksJ2_remove_0 : cJ2_remove.data.toList.drop 0 = dktJ2_remove_0 := by decide +kernel
theorem dksJ2_remove_1 : cJ2_remove.data.toList.drop 24 = dktJ2_remove_1 := dk_seg dksJ2_remove_0 24 rfl rfl
theorem dJ2_remove_0 : decode cJ2_remove 0 = .ok (.iload_n 1, 1) := dk_27 (dk_at dksJ2_remove_0 0 rfl rfl)
theorem dJ2_remove_1 : decode cJ2_remove 1 = .ok (.aload_n 0, 1) := dk_42 (dk_at dksJ2_remove_0 1 rfl rfl)
theorem dJ2_remove_2 : decode cJ2_remove 2 = .ok (.getfield 48, 3) := dk_180 0 48 (dk_at dksJ2_remove_0 2 rfl rfl)
theorem dJ2_remove_5 : decode cJ2_remove 5 = .ok (.invokestatic 118, 3) := dk_184 0 118 (dk_at dksJ2_remove_0 5 rfl rfl)
theorem dJ2_remove_8 : decode cJ2_remove 8 = .ok (.pop, 1) := dk_87 (dk_at dksJ2_remove_0 8 rfl rfl)
theorem dJ2_remove_9 : decode cJ2_remove 9 = .ok (.aload_n 0, 1) := dk_42 (dk_at dksJ2_remove_0 9 rfl rfl)
theorem dJ2_remove_10 : decode cJ2_remove 10 = .ok (.getfield 9, 3) := dk_180 0 9 (dk_at dksJ2_remove_0 10 rfl rfl)
theorem dJ2_remove_13 : decode cJ2_remove 13 = .ok (.astore_n 2, 1) := dk_77 (dk_at dksJ2_remove_0 13 rfl rfl)
theorem dJ2_remove_14 : decode cJ2_remove 14 = .ok (.aload_n 2, 1) := dk_44 (dk_at dksJ2_remove_0 14 rfl rfl)
theorem dJ2_remove_15 : decode cJ2_remove 15 = .ok (.iload_n 1, 1) := dk_27 (dk_at dksJ2_remove_0 15 rfl rfl)
theorem dJ2_remove_16 : decode cJ2_remove 16 = .ok (.aaload, 1) := dk_50 (dk_at dksJ2_remove_0 16 rfl rfl)
theorem dJ2_remove_17 : decode cJ2_remove 17 = .ok (.astore_n 3, 1) := dk_78 (dk_at dksJ2_remove_0 17 rfl rfl)
theorem dJ2_remove_18 : decode cJ2_remove 18 = .ok (.aload_n 0, 1) := dk_42 (dk_at dksJ2_remove_0 18 rfl rfl)
theorem dJ2_remove_19 : decode cJ2_remove 19 = .ok (.aload_n 2, 1) := dk_44 (dk_at dksJ2_remove_0 19 rfl rfl)
theorem dJ2_remove_20 : decode cJ2_remove 20 = .ok (.iload_n 1, 1) := dk_27 (dk_at dksJ2_remove_0 20 rfl rfl)
theorem dJ2_remove_21 : decode cJ2_remove 21 = .ok (.invokevirtual 144, 3) := dk_182 0 144 (dk_at dksJ2_remove_0 21 rfl rfl)
theorem dJ2_remove_24 : decode cJ2_remove 24 = .ok (.aload_n 3, 1) := dk_45 (dk_at dksJ2_remove_1 0 rfl rfl)
theorem dJ2_remove_25 : decode cJ2_remove 25 = .ok (.areturn, 1) := dk_176 (dk_at dksJ2_remove_1 1 rfl rfl)
abbrev cJ2_fastRemove : ByteArray := prog_48_method_39_code
def yJ2_fastRemove : MethodName := ⟨RJ2, "fastRemove", "([Ljava/lang/Object;I)V"⟩
def dkwJ2_fastRemove_1 : List UInt8 := [4, 96, 43, 28, 29, 28, 100, 184, 0, 112, 43, 42, 29, 90, 181, 0, 48, 1, 83, 177]
abbrev dktJ2_fastRemove_1 : List UInt8 := dkwJ2_fastRemove_1 ++ []
def dkwJ2_fastRemove_0 : List UInt8 := [42, 89, 180, 0, 63, 4, 96, 181, 0, 63, 42, 180, 0, 48, 4, 100, 89, 62, 28, 164, 0, 15, 43, 28]
abbrev dktJ2_fastRemove_0 : List UInt8 := dkwJ2_fastRemove_0 ++ dktJ2_fastRemove_1
theorem dksJ2_fastRemove_0 : cJ2_fastRemove.data.toList.drop 0 = dktJ2_fastRemove_0 := by decide +kernel
theorem dksJ2_fastRemove_1 : cJ2_fastRemove.data.toList.drop 24 = dktJ2_fastRemove_1 := dk_seg dksJ2_fastRemove_0 24 rfl rfl
theorem dJ2_fastRemove_0 : decode cJ2_fastRemove 0 = .ok (.aload_n 0, 1) := dk_42 (dk_at dksJ2_fastRemove_0 0 rfl rfl)
theorem dJ2_fastRemove_1 : decode cJ2_fastRemove 1 = .ok (.dup, 1) := dk_89 (dk_at dksJ2_fastRemove_0 1 rfl rfl)
theorem dJ2_fastRemove_2 : decode cJ2_fastRemove 2 = .ok (.getfield 63, 3) := dk_180 0 63 (dk_at dksJ2_fastRemove_0 2 rfl rfl)
theorem dJ2_fastRemove_5 : decode cJ2_fastRemove 5 = .ok (.iconst 1, 1) := dk_4 (dk_at dksJ2_fastRemove_0 5 rfl rfl)
theorem dJ2_fastRemove_6 : decode cJ2_fastRemove 6 = .ok (.iadd, 1) := dk_96 (dk_at dksJ2_fastRemove_0 6 rfl rfl)
theorem dJ2_fastRemove_7 : decode cJ2_fastRemove 7 = .ok (.putfield 63, 3) := dk_181 0 63 (dk_at dksJ2_fastRemove_0 7 rfl rfl)
theorem dJ2_fastRemove_10 : decode cJ2_fastRemove 10 = .ok (.aload_n 0, 1) := dk_42 (dk_at dksJ2_fastRemove_0 10 rfl rfl)
theorem dJ2_fastRemove_11 : decode cJ2_fastRemove 11 = .ok (.getfield 48, 3) := dk_180 0 48 (dk_at dksJ2_fastRemove_0 11 rfl rfl)
theorem dJ2_fastRemove_14 : decode cJ2_fastRemove 14 = .ok (.iconst 1, 1) := dk_4 (dk_at dksJ2_fastRemove_0 14 rfl rfl)
theorem dJ2_fastRemove_15 : decode cJ2_fastRemove 15 = .ok (.isub, 1) := dk_100 (dk_at dksJ2_fastRemove_0 15 rfl rfl)
theorem dJ2_fastRemove_16 : decode cJ2_fastRemove 16 = .ok (.dup, 1) := dk_89 (dk_at dksJ2_fastRemove_0 16 rfl rfl)
theorem dJ2_fastRemove_17 : decode cJ2_fastRemove 17 = .ok (.istore_n 3, 1) := dk_62 (dk_at dksJ2_fastRemove_0 17 rfl rfl)
theorem dJ2_fastRemove_18 : decode cJ2_fastRemove 18 = .ok (.iload_n 2, 1) := dk_28 (dk_at dksJ2_fastRemove_0 18 rfl rfl)
theorem dJ2_fastRemove_19 : decode cJ2_fastRemove 19 = .ok (.if_icmp .le 15, 3) := dk_164 0 15 (dk_at dksJ2_fastRemove_0 19 rfl rfl)
theorem dJ2_fastRemove_22 : decode cJ2_fastRemove 22 = .ok (.aload_n 1, 1) := dk_43 (dk_at dksJ2_fastRemove_0 22 rfl rfl)
theorem dJ2_fastRemove_23 : decode cJ2_fastRemove 23 = .ok (.iload_n 2, 1) := dk_28 (dk_at dksJ2_fastRemove_0 23 rfl rfl)
theorem dJ2_fastRemove_24 : decode cJ2_fastRemove 24 = .ok (.iconst 1, 1) := dk_4 (dk_at dksJ2_fastRemove_1 0 rfl rfl)
theorem dJ2_fastRemove_25 : decode cJ2_fastRemove 25 = .ok (.iadd, 1) := dk_96 (dk_at dksJ2_fastRemove_1 1 rfl rfl)
theorem dJ2_fastRemove_26 : decode cJ2_fastRemove 26 = .ok (.aload_n 1, 1) := dk_43 (dk_at dksJ2_fastRemove_1 2 rfl rfl)
theorem dJ2_fastRemove_27 : decode cJ2_fastRemove 27 = .ok (.iload_n 2, 1) := dk_28 (dk_at dksJ2_fastRemove_1 3 rfl rfl)
theorem dJ2_fastRemove_28 : decode cJ2_fastRemove 28 = .ok (.iload_n 3, 1) := dk_29 (dk_at dksJ2_fastRemove_1 4 rfl rfl)
theorem dJ2_fastRemove_29 : decode cJ2_fastRemove 29 = .ok (.iload_n 2, 1) := dk_28 (dk_at dksJ2_fastRemove_1 5 rfl rfl)
theorem dJ2_fastRemove_30 : decode cJ2_fastRemove 30 = .ok (.isub, 1) := dk_100 (dk_at dksJ2_fastRemove_1 6 rfl rfl)
theorem dJ2_fastRemove_31 : decode cJ2_fastRemove 31 = .ok (.invokestatic 112, 3) := dk_184 0 112 (dk_at dksJ2_fastRemove_1 7 rfl rfl)
theorem dJ2_fastRemove_34 : decode cJ2_fastRemove 34 = .ok (.aload_n 1, 1) := dk_43 (dk_at dksJ2_fastRemove_1 10 rfl rfl)
theorem dJ2_fastRemove_35 : decode cJ2_fastRemove 35 = .ok (.aload_n 0, 1) := dk_42 (dk_at dksJ2_fastRemove_1 11 rfl rfl)
theorem dJ2_fastRemove_36 : decode cJ2_fastRemove 36 = .ok (.iload_n 3, 1) := dk_29 (dk_at dksJ2_fastRemove_1 12 rfl rfl)
theorem dJ2_fastRemove_37 : decode cJ2_fastRemove 37 = .ok (.dup_x1, 1) := dk_90 (dk_at dksJ2_fastRemove_1 13 rfl rfl)
theorem dJ2_fastRemove_38 : decode cJ2_fastRemove 38 = .ok (.putfield 48, 3) := dk_181 0 48 (dk_at dksJ2_fastRemove_1 14 rfl rfl)
theorem dJ2_fastRemove_41 : decode cJ2_fastRemove 41 = .ok (.aconst_null, 1) := dk_1 (dk_at dksJ2_fastRemove_1 17 rfl rfl)
theorem dJ2_fastRemove_42 : decode cJ2_fastRemove 42 = .ok (.aastore, 1) := dk_83 (dk_at dksJ2_fastRemove_1 18 rfl rfl)
theorem dJ2_fastRemove_43 : decode cJ2_fastRemove 43 = .ok (.return_, 1) := dk_177 (dk_at dksJ2_fastRemove_1 19 rfl rfl)
abbrev cJ2_isEmpty : ByteArray := prog_48_method_9_code
def yJ2_isEmpty : MethodName := ⟨RJ2, "isEmpty", "()Z"⟩
def dkwJ2_isEmpty_0 : List UInt8 := [42, 180, 0, 48, 154, 0, 7, 4, 167, 0, 4, 3, 172]
abbrev dktJ2_isEmpty_0 : List UInt8 := dkwJ2_isEmpty_0 ++ []
theorem dksJ2_isEmpty_0 : cJ2_isEmpty.data.toList.drop 0 = dktJ2_isEmpty_0 := by decide +kernel
theorem dJ2_isEmpty_0 : decode cJ2_isEmpty 0 = .ok (.aload_n 0, 1) := dk_42 (dk_at dksJ2_isEmpty_0 0 rfl rfl)
theorem dJ2_isEmpty_1 : decode cJ2_isEmpty 1 = .ok (.getfield 48, 3) := dk_180 0 48 (dk_at dksJ2_isEmpty_0 1 rfl rfl)
theorem dJ2_isEmpty_4 : decode cJ2_isEmpty 4 = .ok (.ifCond .ne 7, 3) := dk_154 0 7 (dk_at dksJ2_isEmpty_0 4 rfl rfl)
theorem dJ2_isEmpty_7 : decode cJ2_isEmpty 7 = .ok (.iconst 1, 1) := dk_4 (dk_at dksJ2_isEmpty_0 7 rfl rfl)
theorem dJ2_isEmpty_8 : decode cJ2_isEmpty 8 = .ok (.goto 4, 3) := dk_167 0 4 (dk_at dksJ2_isEmpty_0 8 rfl rfl)
theorem dJ2_isEmpty_11 : decode cJ2_isEmpty 11 = .ok (.iconst 0, 1) := dk_3 (dk_at dksJ2_isEmpty_0 11 rfl rfl)
theorem dJ2_isEmpty_12 : decode cJ2_isEmpty 12 = .ok (.ireturn, 1) := dk_172 (dk_at dksJ2_isEmpty_0 12 rfl rfl)
abbrev cJ2_contains : ByteArray := prog_48_method_10_code
def yJ2_contains : MethodName := ⟨RJ2, "contains", "(Ljava/lang/Object;)Z"⟩
def dkwJ2_contains_0 : List UInt8 := [42, 43, 182, 0, 85, 155, 0, 7, 4, 167, 0, 4, 3, 172]
abbrev dktJ2_contains_0 : List UInt8 := dkwJ2_contains_0 ++ []
theorem dksJ2_contains_0 : cJ2_contains.data.toList.drop 0 = dktJ2_contains_0 := by decide +kernel
theorem dJ2_contains_0 : decode cJ2_contains 0 = .ok (.aload_n 0, 1) := dk_42 (dk_at dksJ2_contains_0 0 rfl rfl)
theorem dJ2_contains_1 : decode cJ2_contains 1 = .ok (.aload_n 1, 1) := dk_43 (dk_at dksJ2_contains_0 1 rfl rfl)
theorem dJ2_contains_2 : decode cJ2_contains 2 = .ok (.invokevirtual 85, 3) := dk_182 0 85 (dk_at dksJ2_contains_0 2 rfl rfl)
theorem dJ2_contains_5 : decode cJ2_contains 5 = .ok (.ifCond .lt 7, 3) := dk_155 0 7 (dk_at dksJ2_contains_0 5 rfl rfl)
theorem dJ2_contains_8 : decode cJ2_contains 8 = .ok (.iconst 1, 1) := dk_4 (dk_at dksJ2_contains_0 8 rfl rfl)
theorem dJ2_contains_9 : decode cJ2_contains 9 = .ok (.goto 4, 3) := dk_167 0 4 (dk_at dksJ2_contains_0 9 rfl rfl)
theorem dJ2_contains_12 : decode cJ2_contains 12 = .ok (.iconst 0, 1) := dk_3 (dk_at dksJ2_contains_0 12 rfl rfl)
theorem dJ2_contains_13 : decode cJ2_contains 13 = .ok (.ireturn, 1) := dk_172 (dk_at dksJ2_contains_0 13 rfl rfl)
abbrev cJ2_indexOf : ByteArray := prog_48_method_11_code
def yJ2_indexOf : MethodName := ⟨RJ2, "indexOf", "(Ljava/lang/Object;)I"⟩
def dkwJ2_indexOf_0 : List UInt8 := [42, 43, 3, 42, 180, 0, 48, 182, 0, 89, 172]
abbrev dktJ2_indexOf_0 : List UInt8 := dkwJ2_indexOf_0 ++ []
theorem dksJ2_indexOf_0 : cJ2_indexOf.data.toList.drop 0 = dktJ2_indexOf_0 := by decide +kernel
theorem dJ2_indexOf_0 : decode cJ2_indexOf 0 = .ok (.aload_n 0, 1) := dk_42 (dk_at dksJ2_indexOf_0 0 rfl rfl)
theorem dJ2_indexOf_1 : decode cJ2_indexOf 1 = .ok (.aload_n 1, 1) := dk_43 (dk_at dksJ2_indexOf_0 1 rfl rfl)
theorem dJ2_indexOf_2 : decode cJ2_indexOf 2 = .ok (.iconst 0, 1) := dk_3 (dk_at dksJ2_indexOf_0 2 rfl rfl)
theorem dJ2_indexOf_3 : decode cJ2_indexOf 3 = .ok (.aload_n 0, 1) := dk_42 (dk_at dksJ2_indexOf_0 3 rfl rfl)
theorem dJ2_indexOf_4 : decode cJ2_indexOf 4 = .ok (.getfield 48, 3) := dk_180 0 48 (dk_at dksJ2_indexOf_0 4 rfl rfl)
theorem dJ2_indexOf_7 : decode cJ2_indexOf 7 = .ok (.invokevirtual 89, 3) := dk_182 0 89 (dk_at dksJ2_indexOf_0 7 rfl rfl)
theorem dJ2_indexOf_10 : decode cJ2_indexOf 10 = .ok (.ireturn, 1) := dk_172 (dk_at dksJ2_indexOf_0 10 rfl rfl)
abbrev cJ2_indexOfRange : ByteArray := prog_48_method_12_code
def yJ2_indexOfRange : MethodName := ⟨RJ2, "indexOfRange", "(Ljava/lang/Object;II)I"⟩
def dkwJ2_indexOfRange_2 : List UInt8 := [43, 25, 4, 21, 5, 50, 182, 0, 93, 153, 0, 6, 21, 5, 172, 132, 5, 1, 167, 255, 232, 2, 172]
abbrev dktJ2_indexOfRange_2 : List UInt8 := dkwJ2_indexOfRange_2 ++ []
def dkwJ2_indexOfRange_1 : List UInt8 := [199, 0, 6, 21, 5, 172, 132, 5, 1, 167, 255, 236, 167, 0, 33, 28, 54, 5, 21, 5, 29, 162, 0, 24]
abbrev dktJ2_indexOfRange_1 : List UInt8 := dkwJ2_indexOfRange_1 ++ dktJ2_indexOfRange_2
def dkwJ2_indexOfRange_0 : List UInt8 := [42, 180, 0, 9, 58, 4, 43, 199, 0, 32, 28, 54, 5, 21, 5, 29, 162, 0, 20, 25, 4, 21, 5, 50]
abbrev dktJ2_indexOfRange_0 : List UInt8 := dkwJ2_indexOfRange_0 ++ dktJ2_indexOfRange_1
theorem dksJ2_indexOfRange_0 : cJ2_indexOfRange.data.toList.drop 0 = dktJ2_indexOfRange_0 := by decide +kernel
theorem dksJ2_indexOfRange_1 : cJ2_indexOfRange.data.toList.drop 24 = dktJ2_indexOfRange_1 := dk_seg dksJ2_indexOfRange_0 24 rfl rfl
theorem dksJ2_indexOfRange_2 : cJ2_indexOfRange.data.toList.drop 48 = dktJ2_indexOfRange_2 := dk_seg dksJ2_indexOfRange_1 24 rfl rfl
theorem dJ2_indexOfRange_0 : decode cJ2_indexOfRange 0 = .ok (.aload_n 0, 1) := dk_42 (dk_at dksJ2_indexOfRange_0 0 rfl rfl)
theorem dJ2_indexOfRange_1 : decode cJ2_indexOfRange 1 = .ok (.getfield 9, 3) := dk_180 0 9 (dk_at dksJ2_indexOfRange_0 1 rfl rfl)
theorem dJ2_indexOfRange_4 : decode cJ2_indexOfRange 4 = .ok (.astore 4, 2) := dk_58 4 (dk_at dksJ2_indexOfRange_0 4 rfl rfl)
theorem dJ2_indexOfRange_6 : decode cJ2_indexOfRange 6 = .ok (.aload_n 1, 1) := dk_43 (dk_at dksJ2_indexOfRange_0 6 rfl rfl)
theorem dJ2_indexOfRange_7 : decode cJ2_indexOfRange 7 = .ok (.ifnonnull 32, 3) := dk_199 0 32 (dk_at dksJ2_indexOfRange_0 7 rfl rfl)
theorem dJ2_indexOfRange_10 : decode cJ2_indexOfRange 10 = .ok (.iload_n 2, 1) := dk_28 (dk_at dksJ2_indexOfRange_0 10 rfl rfl)
theorem dJ2_indexOfRange_11 : decode cJ2_indexOfRange 11 = .ok (.istore 5, 2) := dk_54 5 (dk_at dksJ2_indexOfRange_0 11 rfl rfl)
theorem dJ2_indexOfRange_13 : decode cJ2_indexOfRange 13 = .ok (.iload 5, 2) := dk_21 5 (dk_at dksJ2_indexOfRange_0 13 rfl rfl)
theorem dJ2_indexOfRange_15 : decode cJ2_indexOfRange 15 = .ok (.iload_n 3, 1) := dk_29 (dk_at dksJ2_indexOfRange_0 15 rfl rfl)
theorem dJ2_indexOfRange_16 : decode cJ2_indexOfRange 16 = .ok (.if_icmp .ge 20, 3) := dk_162 0 20 (dk_at dksJ2_indexOfRange_0 16 rfl rfl)
theorem dJ2_indexOfRange_19 : decode cJ2_indexOfRange 19 = .ok (.aload 4, 2) := dk_25 4 (dk_at dksJ2_indexOfRange_0 19 rfl rfl)
theorem dJ2_indexOfRange_21 : decode cJ2_indexOfRange 21 = .ok (.iload 5, 2) := dk_21 5 (dk_at dksJ2_indexOfRange_0 21 rfl rfl)
theorem dJ2_indexOfRange_23 : decode cJ2_indexOfRange 23 = .ok (.aaload, 1) := dk_50 (dk_at dksJ2_indexOfRange_0 23 rfl rfl)
theorem dJ2_indexOfRange_24 : decode cJ2_indexOfRange 24 = .ok (.ifnonnull 6, 3) := dk_199 0 6 (dk_at dksJ2_indexOfRange_1 0 rfl rfl)
theorem dJ2_indexOfRange_27 : decode cJ2_indexOfRange 27 = .ok (.iload 5, 2) := dk_21 5 (dk_at dksJ2_indexOfRange_1 3 rfl rfl)
theorem dJ2_indexOfRange_29 : decode cJ2_indexOfRange 29 = .ok (.ireturn, 1) := dk_172 (dk_at dksJ2_indexOfRange_1 5 rfl rfl)
theorem dJ2_indexOfRange_30 : decode cJ2_indexOfRange 30 = .ok (.iinc 5 1, 3) := dk_132 5 1 (dk_at dksJ2_indexOfRange_1 6 rfl rfl)
theorem dJ2_indexOfRange_33 : decode cJ2_indexOfRange 33 = .ok (.goto (-20), 3) := dk_167 255 236 (dk_at dksJ2_indexOfRange_1 9 rfl rfl)
theorem dJ2_indexOfRange_36 : decode cJ2_indexOfRange 36 = .ok (.goto 33, 3) := dk_167 0 33 (dk_at dksJ2_indexOfRange_1 12 rfl rfl)
theorem dJ2_indexOfRange_39 : decode cJ2_indexOfRange 39 = .ok (.iload_n 2, 1) := dk_28 (dk_at dksJ2_indexOfRange_1 15 rfl rfl)
theorem dJ2_indexOfRange_40 : decode cJ2_indexOfRange 40 = .ok (.istore 5, 2) := dk_54 5 (dk_at dksJ2_indexOfRange_1 16 rfl rfl)
theorem dJ2_indexOfRange_42 : decode cJ2_indexOfRange 42 = .ok (.iload 5, 2) := dk_21 5 (dk_at dksJ2_indexOfRange_1 18 rfl rfl)
theorem dJ2_indexOfRange_44 : decode cJ2_indexOfRange 44 = .ok (.iload_n 3, 1) := dk_29 (dk_at dksJ2_indexOfRange_1 20 rfl rfl)
theorem dJ2_indexOfRange_45 : decode cJ2_indexOfRange 45 = .ok (.if_icmp .ge 24, 3) := dk_162 0 24 (dk_at dksJ2_indexOfRange_1 21 rfl rfl)
theorem dJ2_indexOfRange_48 : decode cJ2_indexOfRange 48 = .ok (.aload_n 1, 1) := dk_43 (dk_at dksJ2_indexOfRange_2 0 rfl rfl)
theorem dJ2_indexOfRange_49 : decode cJ2_indexOfRange 49 = .ok (.aload 4, 2) := dk_25 4 (dk_at dksJ2_indexOfRange_2 1 rfl rfl)
theorem dJ2_indexOfRange_51 : decode cJ2_indexOfRange 51 = .ok (.iload 5, 2) := dk_21 5 (dk_at dksJ2_indexOfRange_2 3 rfl rfl)
theorem dJ2_indexOfRange_53 : decode cJ2_indexOfRange 53 = .ok (.aaload, 1) := dk_50 (dk_at dksJ2_indexOfRange_2 5 rfl rfl)
theorem dJ2_indexOfRange_54 : decode cJ2_indexOfRange 54 = .ok (.invokevirtual 93, 3) := dk_182 0 93 (dk_at dksJ2_indexOfRange_2 6 rfl rfl)
theorem dJ2_indexOfRange_57 : decode cJ2_indexOfRange 57 = .ok (.ifCond .eq 6, 3) := dk_153 0 6 (dk_at dksJ2_indexOfRange_2 9 rfl rfl)
theorem dJ2_indexOfRange_60 : decode cJ2_indexOfRange 60 = .ok (.iload 5, 2) := dk_21 5 (dk_at dksJ2_indexOfRange_2 12 rfl rfl)
theorem dJ2_indexOfRange_62 : decode cJ2_indexOfRange 62 = .ok (.ireturn, 1) := dk_172 (dk_at dksJ2_indexOfRange_2 14 rfl rfl)
theorem dJ2_indexOfRange_63 : decode cJ2_indexOfRange 63 = .ok (.iinc 5 1, 3) := dk_132 5 1 (dk_at dksJ2_indexOfRange_2 15 rfl rfl)
theorem dJ2_indexOfRange_66 : decode cJ2_indexOfRange 66 = .ok (.goto (-24), 3) := dk_167 255 232 (dk_at dksJ2_indexOfRange_2 18 rfl rfl)
theorem dJ2_indexOfRange_69 : decode cJ2_indexOfRange 69 = .ok (.iconst (-1), 1) := dk_2 (dk_at dksJ2_indexOfRange_2 21 rfl rfl)
theorem dJ2_indexOfRange_70 : decode cJ2_indexOfRange 70 = .ok (.ireturn, 1) := dk_172 (dk_at dksJ2_indexOfRange_2 22 rfl rfl)
abbrev cJ15_init : ByteArray := prog_49_method_1_code
def yJ15_init : MethodName := ⟨RJ15, "<init>", "(Ljava/util/ArrayList;)V"⟩
def dkwJ15_init_1 : List UInt8 := [181, 0, 22, 177]
abbrev dktJ15_init_1 : List UInt8 := dkwJ15_init_1 ++ []
def dkwJ15_init_0 : List UInt8 := [42, 43, 181, 0, 1, 42, 183, 0, 7, 42, 2, 181, 0, 13, 42, 42, 180, 0, 1, 180, 0, 17]
abbrev dktJ15_init_0 : List UInt8 := dkwJ15_init_0 ++ dktJ15_init_1
theorem dksJ15_init_0 : cJ15_init.data.toList.drop 0 = dktJ15_init_0 := by decide +kernel
theorem dksJ15_init_1 : cJ15_init.data.toList.drop 22 = dktJ15_init_1 := dk_seg dksJ15_init_0 22 rfl rfl
theorem dJ15_init_0 : decode cJ15_init 0 = .ok (.aload_n 0, 1) := dk_42 (dk_at dksJ15_init_0 0 rfl rfl)
theorem dJ15_init_1 : decode cJ15_init 1 = .ok (.aload_n 1, 1) := dk_43 (dk_at dksJ15_init_0 1 rfl rfl)
theorem dJ15_init_2 : decode cJ15_init 2 = .ok (.putfield 1, 3) := dk_181 0 1 (dk_at dksJ15_init_0 2 rfl rfl)
theorem dJ15_init_5 : decode cJ15_init 5 = .ok (.aload_n 0, 1) := dk_42 (dk_at dksJ15_init_0 5 rfl rfl)
theorem dJ15_init_6 : decode cJ15_init 6 = .ok (.invokespecial 7, 3) := dk_183 0 7 (dk_at dksJ15_init_0 6 rfl rfl)
theorem dJ15_init_9 : decode cJ15_init 9 = .ok (.aload_n 0, 1) := dk_42 (dk_at dksJ15_init_0 9 rfl rfl)
theorem dJ15_init_10 : decode cJ15_init 10 = .ok (.iconst (-1), 1) := dk_2 (dk_at dksJ15_init_0 10 rfl rfl)
theorem dJ15_init_11 : decode cJ15_init 11 = .ok (.putfield 13, 3) := dk_181 0 13 (dk_at dksJ15_init_0 11 rfl rfl)
theorem dJ15_init_14 : decode cJ15_init 14 = .ok (.aload_n 0, 1) := dk_42 (dk_at dksJ15_init_0 14 rfl rfl)
theorem dJ15_init_15 : decode cJ15_init 15 = .ok (.aload_n 0, 1) := dk_42 (dk_at dksJ15_init_0 15 rfl rfl)
theorem dJ15_init_16 : decode cJ15_init 16 = .ok (.getfield 1, 3) := dk_180 0 1 (dk_at dksJ15_init_0 16 rfl rfl)
theorem dJ15_init_19 : decode cJ15_init 19 = .ok (.getfield 17, 3) := dk_180 0 17 (dk_at dksJ15_init_0 19 rfl rfl)
theorem dJ15_init_22 : decode cJ15_init 22 = .ok (.putfield 22, 3) := dk_181 0 22 (dk_at dksJ15_init_1 0 rfl rfl)
theorem dJ15_init_25 : decode cJ15_init 25 = .ok (.return_, 1) := dk_177 (dk_at dksJ15_init_1 3 rfl rfl)
abbrev cJ15_hasNext : ByteArray := prog_49_method_2_code
def yJ15_hasNext : MethodName := ⟨RJ15, "hasNext", "()Z"⟩
def dkwJ15_hasNext_0 : List UInt8 := [42, 180, 0, 25, 42, 180, 0, 1, 180, 0, 28, 159, 0, 7, 4, 167, 0, 4, 3, 172]
abbrev dktJ15_hasNext_0 : List UInt8 := dkwJ15_hasNext_0 ++ []
theorem dksJ15_hasNext_0 : cJ15_hasNext.data.toList.drop 0 = dktJ15_hasNext_0 := by decide +kernel
theorem dJ15_hasNext_0 : decode cJ15_hasNext 0 = .ok (.aload_n 0, 1) := dk_42 (dk_at dksJ15_hasNext_0 0 rfl rfl)
theorem dJ15_hasNext_1 : decode cJ15_hasNext 1 = .ok (.getfield 25, 3) := dk_180 0 25 (dk_at dksJ15_hasNext_0 1 rfl rfl)
theorem dJ15_hasNext_4 : decode cJ15_hasNext 4 = .ok (.aload_n 0, 1) := dk_42 (dk_at dksJ15_hasNext_0 4 rfl rfl)
theorem dJ15_hasNext_5 : decode cJ15_hasNext 5 = .ok (.getfield 1, 3) := dk_180 0 1 (dk_at dksJ15_hasNext_0 5 rfl rfl)
theorem dJ15_hasNext_8 : decode cJ15_hasNext 8 = .ok (.getfield 28, 3) := dk_180 0 28 (dk_at dksJ15_hasNext_0 8 rfl rfl)
theorem dJ15_hasNext_11 : decode cJ15_hasNext 11 = .ok (.if_icmp .eq 7, 3) := dk_159 0 7 (dk_at dksJ15_hasNext_0 11 rfl rfl)
theorem dJ15_hasNext_14 : decode cJ15_hasNext 14 = .ok (.iconst 1, 1) := dk_4 (dk_at dksJ15_hasNext_0 14 rfl rfl)
theorem dJ15_hasNext_15 : decode cJ15_hasNext 15 = .ok (.goto 4, 3) := dk_167 0 4 (dk_at dksJ15_hasNext_0 15 rfl rfl)
theorem dJ15_hasNext_18 : decode cJ15_hasNext 18 = .ok (.iconst 0, 1) := dk_3 (dk_at dksJ15_hasNext_0 18 rfl rfl)
theorem dJ15_hasNext_19 : decode cJ15_hasNext 19 = .ok (.ireturn, 1) := dk_172 (dk_at dksJ15_hasNext_0 19 rfl rfl)
abbrev cJ15_next : ByteArray := prog_49_method_3_code
def yJ15_next : MethodName := ⟨RJ15, "next", "()Ljava/lang/Object;"⟩
def dkwJ15_next_2 : List UInt8 := [183, 0, 43, 191, 42, 27, 4, 96, 181, 0, 25, 44, 42, 27, 90, 181, 0, 13, 50, 176]
abbrev dktJ15_next_2 : List UInt8 := dkwJ15_next_2 ++ []
def dkwJ15_next_1 : List UInt8 := [183, 0, 36, 191, 42, 180, 0, 1, 180, 0, 37, 77, 27, 44, 190, 161, 0, 11, 187, 0, 41, 89]
abbrev dktJ15_next_1 : List UInt8 := dkwJ15_next_1 ++ dktJ15_next_2
def dkwJ15_next_0 : List UInt8 := [42, 182, 0, 31, 42, 180, 0, 25, 60, 27, 42, 180, 0, 1, 180, 0, 28, 161, 0, 11, 187, 0, 34, 89]
abbrev dktJ15_next_0 : List UInt8 := dkwJ15_next_0 ++ dktJ15_next_1
theorem dksJ15_next_0 : cJ15_next.data.toList.drop 0 = dktJ15_next_0 := by decide +kernel
theorem dksJ15_next_1 : cJ15_next.data.toList.drop 24 = dktJ15_next_1 := dk_seg dksJ15_next_0 24 rfl rfl
theorem dksJ15_next_2 : cJ15_next.data.toList.drop 46 = dktJ15_next_2 := dk_seg dksJ15_next_1 22 rfl rfl
theorem dJ15_next_0 : decode cJ15_next 0 = .ok (.aload_n 0, 1) := dk_42 (dk_at dksJ15_next_0 0 rfl rfl)
theorem dJ15_next_1 : decode cJ15_next 1 = .ok (.invokevirtual 31, 3) := dk_182 0 31 (dk_at dksJ15_next_0 1 rfl rfl)
theorem dJ15_next_4 : decode cJ15_next 4 = .ok (.aload_n 0, 1) := dk_42 (dk_at dksJ15_next_0 4 rfl rfl)
theorem dJ15_next_5 : decode cJ15_next 5 = .ok (.getfield 25, 3) := dk_180 0 25 (dk_at dksJ15_next_0 5 rfl rfl)
theorem dJ15_next_8 : decode cJ15_next 8 = .ok (.istore_n 1, 1) := dk_60 (dk_at dksJ15_next_0 8 rfl rfl)
theorem dJ15_next_9 : decode cJ15_next 9 = .ok (.iload_n 1, 1) := dk_27 (dk_at dksJ15_next_0 9 rfl rfl)
theorem dJ15_next_10 : decode cJ15_next 10 = .ok (.aload_n 0, 1) := dk_42 (dk_at dksJ15_next_0 10 rfl rfl)
theorem dJ15_next_11 : decode cJ15_next 11 = .ok (.getfield 1, 3) := dk_180 0 1 (dk_at dksJ15_next_0 11 rfl rfl)
theorem dJ15_next_14 : decode cJ15_next 14 = .ok (.getfield 28, 3) := dk_180 0 28 (dk_at dksJ15_next_0 14 rfl rfl)
theorem dJ15_next_17 : decode cJ15_next 17 = .ok (.if_icmp .lt 11, 3) := dk_161 0 11 (dk_at dksJ15_next_0 17 rfl rfl)
theorem dJ15_next_20 : decode cJ15_next 20 = .ok (.new 34, 3) := dk_187 0 34 (dk_at dksJ15_next_0 20 rfl rfl)
theorem dJ15_next_23 : decode cJ15_next 23 = .ok (.dup, 1) := dk_89 (dk_at dksJ15_next_0 23 rfl rfl)
theorem dJ15_next_24 : decode cJ15_next 24 = .ok (.invokespecial 36, 3) := dk_183 0 36 (dk_at dksJ15_next_1 0 rfl rfl)
theorem dJ15_next_27 : decode cJ15_next 27 = .ok (.athrow, 1) := dk_191 (dk_at dksJ15_next_1 3 rfl rfl)
theorem dJ15_next_28 : decode cJ15_next 28 = .ok (.aload_n 0, 1) := dk_42 (dk_at dksJ15_next_1 4 rfl rfl)
theorem dJ15_next_29 : decode cJ15_next 29 = .ok (.getfield 1, 3) := dk_180 0 1 (dk_at dksJ15_next_1 5 rfl rfl)
theorem dJ15_next_32 : decode cJ15_next 32 = .ok (.getfield 37, 3) := dk_180 0 37 (dk_at dksJ15_next_1 8 rfl rfl)
theorem dJ15_next_35 : decode cJ15_next 35 = .ok (.astore_n 2, 1) := dk_77 (dk_at dksJ15_next_1 11 rfl rfl)
theorem dJ15_next_36 : decode cJ15_next 36 = .ok (.iload_n 1, 1) := dk_27 (dk_at dksJ15_next_1 12 rfl rfl)
theorem dJ15_next_37 : decode cJ15_next 37 = .ok (.aload_n 2, 1) := dk_44 (dk_at dksJ15_next_1 13 rfl rfl)
theorem dJ15_next_38 : decode cJ15_next 38 = .ok (.arraylength, 1) := dk_190 (dk_at dksJ15_next_1 14 rfl rfl)
theorem dJ15_next_39 : decode cJ15_next 39 = .ok (.if_icmp .lt 11, 3) := dk_161 0 11 (dk_at dksJ15_next_1 15 rfl rfl)
theorem dJ15_next_42 : decode cJ15_next 42 = .ok (.new 41, 3) := dk_187 0 41 (dk_at dksJ15_next_1 18 rfl rfl)
theorem dJ15_next_45 : decode cJ15_next 45 = .ok (.dup, 1) := dk_89 (dk_at dksJ15_next_1 21 rfl rfl)
theorem dJ15_next_46 : decode cJ15_next 46 = .ok (.invokespecial 43, 3) := dk_183 0 43 (dk_at dksJ15_next_2 0 rfl rfl)
theorem dJ15_next_49 : decode cJ15_next 49 = .ok (.athrow, 1) := dk_191 (dk_at dksJ15_next_2 3 rfl rfl)
theorem dJ15_next_50 : decode cJ15_next 50 = .ok (.aload_n 0, 1) := dk_42 (dk_at dksJ15_next_2 4 rfl rfl)
theorem dJ15_next_51 : decode cJ15_next 51 = .ok (.iload_n 1, 1) := dk_27 (dk_at dksJ15_next_2 5 rfl rfl)
theorem dJ15_next_52 : decode cJ15_next 52 = .ok (.iconst 1, 1) := dk_4 (dk_at dksJ15_next_2 6 rfl rfl)
theorem dJ15_next_53 : decode cJ15_next 53 = .ok (.iadd, 1) := dk_96 (dk_at dksJ15_next_2 7 rfl rfl)
theorem dJ15_next_54 : decode cJ15_next 54 = .ok (.putfield 25, 3) := dk_181 0 25 (dk_at dksJ15_next_2 8 rfl rfl)
theorem dJ15_next_57 : decode cJ15_next 57 = .ok (.aload_n 2, 1) := dk_44 (dk_at dksJ15_next_2 11 rfl rfl)
theorem dJ15_next_58 : decode cJ15_next 58 = .ok (.aload_n 0, 1) := dk_42 (dk_at dksJ15_next_2 12 rfl rfl)
theorem dJ15_next_59 : decode cJ15_next 59 = .ok (.iload_n 1, 1) := dk_27 (dk_at dksJ15_next_2 13 rfl rfl)
theorem dJ15_next_60 : decode cJ15_next 60 = .ok (.dup_x1, 1) := dk_90 (dk_at dksJ15_next_2 14 rfl rfl)
theorem dJ15_next_61 : decode cJ15_next 61 = .ok (.putfield 13, 3) := dk_181 0 13 (dk_at dksJ15_next_2 15 rfl rfl)
theorem dJ15_next_64 : decode cJ15_next 64 = .ok (.aaload, 1) := dk_50 (dk_at dksJ15_next_2 18 rfl rfl)
theorem dJ15_next_65 : decode cJ15_next 65 = .ok (.areturn, 1) := dk_176 (dk_at dksJ15_next_2 19 rfl rfl)
abbrev cJ15_checkForComodification : ByteArray := prog_49_method_6_code
def yJ15_checkForComodification : MethodName := ⟨RJ15, "checkForComodification", "()V"⟩
def dkwJ15_checkForComodification_0 : List UInt8 := [42, 180, 0, 1, 180, 0, 17, 42, 180, 0, 22, 159, 0, 11, 187, 0, 41, 89, 183, 0, 43, 191, 177]
abbrev dktJ15_checkForComodification_0 : List UInt8 := dkwJ15_checkForComodification_0 ++ []
theorem dksJ15_checkForComodification_0 : cJ15_checkForComodification.data.toList.drop 0 = dktJ15_checkForComodification_0 := by decide +kernel
theorem dJ15_checkForComodification_0 : decode cJ15_checkForComodification 0 = .ok (.aload_n 0, 1) := dk_42 (dk_at dksJ15_checkForComodification_0 0 rfl rfl)
theorem dJ15_checkForComodification_1 : decode cJ15_checkForComodification 1 = .ok (.getfield 1, 3) := dk_180 0 1 (dk_at dksJ15_checkForComodification_0 1 rfl rfl)
theorem dJ15_checkForComodification_4 : decode cJ15_checkForComodification 4 = .ok (.getfield 17, 3) := dk_180 0 17 (dk_at dksJ15_checkForComodification_0 4 rfl rfl)
theorem dJ15_checkForComodification_7 : decode cJ15_checkForComodification 7 = .ok (.aload_n 0, 1) := dk_42 (dk_at dksJ15_checkForComodification_0 7 rfl rfl)
theorem dJ15_checkForComodification_8 : decode cJ15_checkForComodification 8 = .ok (.getfield 22, 3) := dk_180 0 22 (dk_at dksJ15_checkForComodification_0 8 rfl rfl)
theorem dJ15_checkForComodification_11 : decode cJ15_checkForComodification 11 = .ok (.if_icmp .eq 11, 3) := dk_159 0 11 (dk_at dksJ15_checkForComodification_0 11 rfl rfl)
theorem dJ15_checkForComodification_14 : decode cJ15_checkForComodification 14 = .ok (.new 41, 3) := dk_187 0 41 (dk_at dksJ15_checkForComodification_0 14 rfl rfl)
theorem dJ15_checkForComodification_17 : decode cJ15_checkForComodification 17 = .ok (.dup, 1) := dk_89 (dk_at dksJ15_checkForComodification_0 17 rfl rfl)
theorem dJ15_checkForComodification_18 : decode cJ15_checkForComodification 18 = .ok (.invokespecial 43, 3) := dk_183 0 43 (dk_at dksJ15_checkForComodification_0 18 rfl rfl)
theorem dJ15_checkForComodification_21 : decode cJ15_checkForComodification 21 = .ok (.athrow, 1) := dk_191 (dk_at dksJ15_checkForComodification_0 21 rfl rfl)
theorem dJ15_checkForComodification_22 : decode cJ15_checkForComodification 22 = .ok (.return_, 1) := dk_177 (dk_at dksJ15_checkForComodification_0 22 rfl rfl)
abbrev cJ15_remove : ByteArray := prog_49_method_4_code
def yJ15_remove : MethodName := ⟨RJ15, "remove", "()V"⟩
def dkwJ15_remove_2 : List UInt8 := [180, 0, 1, 180, 0, 17, 181, 0, 22, 167, 0, 12, 76, 187, 0, 41, 89, 183, 0, 43, 191, 177]
abbrev dktJ15_remove_2 : List UInt8 := dkwJ15_remove_2 ++ []
def dkwJ15_remove_1 : List UInt8 := [180, 0, 13, 182, 0, 47, 87, 42, 42, 180, 0, 13, 181, 0, 25, 42, 2, 181, 0, 13, 42, 42]
abbrev dktJ15_remove_1 : List UInt8 := dkwJ15_remove_1 ++ dktJ15_remove_2
def dkwJ15_remove_0 : List UInt8 := [42, 180, 0, 13, 156, 0, 11, 187, 0, 44, 89, 183, 0, 46, 191, 42, 182, 0, 31, 42, 180, 0, 1, 42]
abbrev dktJ15_remove_0 : List UInt8 := dkwJ15_remove_0 ++ dktJ15_remove_1
theorem dksJ15_remove_0 : cJ15_remove.data.toList.drop 0 = dktJ15_remove_0 := by decide +kernel
theorem dksJ15_remove_1 : cJ15_remove.data.toList.drop 24 = dktJ15_remove_1 := dk_seg dksJ15_remove_0 24 rfl rfl
theorem dksJ15_remove_2 : cJ15_remove.data.toList.drop 46 = dktJ15_remove_2 := dk_seg dksJ15_remove_1 22 rfl rfl
theorem dJ15_remove_0 : decode cJ15_remove 0 = .ok (.aload_n 0, 1) := dk_42 (dk_at dksJ15_remove_0 0 rfl rfl)
theorem dJ15_remove_1 : decode cJ15_remove 1 = .ok (.getfield 13, 3) := dk_180 0 13 (dk_at dksJ15_remove_0 1 rfl rfl)
theorem dJ15_remove_4 : decode cJ15_remove 4 = .ok (.ifCond .ge 11, 3) := dk_156 0 11 (dk_at dksJ15_remove_0 4 rfl rfl)
theorem dJ15_remove_7 : decode cJ15_remove 7 = .ok (.new 44, 3) := dk_187 0 44 (dk_at dksJ15_remove_0 7 rfl rfl)
theorem dJ15_remove_10 : decode cJ15_remove 10 = .ok (.dup, 1) := dk_89 (dk_at dksJ15_remove_0 10 rfl rfl)
theorem dJ15_remove_11 : decode cJ15_remove 11 = .ok (.invokespecial 46, 3) := dk_183 0 46 (dk_at dksJ15_remove_0 11 rfl rfl)
theorem dJ15_remove_14 : decode cJ15_remove 14 = .ok (.athrow, 1) := dk_191 (dk_at dksJ15_remove_0 14 rfl rfl)
theorem dJ15_remove_15 : decode cJ15_remove 15 = .ok (.aload_n 0, 1) := dk_42 (dk_at dksJ15_remove_0 15 rfl rfl)
theorem dJ15_remove_16 : decode cJ15_remove 16 = .ok (.invokevirtual 31, 3) := dk_182 0 31 (dk_at dksJ15_remove_0 16 rfl rfl)
theorem dJ15_remove_19 : decode cJ15_remove 19 = .ok (.aload_n 0, 1) := dk_42 (dk_at dksJ15_remove_0 19 rfl rfl)
theorem dJ15_remove_20 : decode cJ15_remove 20 = .ok (.getfield 1, 3) := dk_180 0 1 (dk_at dksJ15_remove_0 20 rfl rfl)
theorem dJ15_remove_23 : decode cJ15_remove 23 = .ok (.aload_n 0, 1) := dk_42 (dk_at dksJ15_remove_0 23 rfl rfl)
theorem dJ15_remove_24 : decode cJ15_remove 24 = .ok (.getfield 13, 3) := dk_180 0 13 (dk_at dksJ15_remove_1 0 rfl rfl)
theorem dJ15_remove_27 : decode cJ15_remove 27 = .ok (.invokevirtual 47, 3) := dk_182 0 47 (dk_at dksJ15_remove_1 3 rfl rfl)
theorem dJ15_remove_30 : decode cJ15_remove 30 = .ok (.pop, 1) := dk_87 (dk_at dksJ15_remove_1 6 rfl rfl)
theorem dJ15_remove_31 : decode cJ15_remove 31 = .ok (.aload_n 0, 1) := dk_42 (dk_at dksJ15_remove_1 7 rfl rfl)
theorem dJ15_remove_32 : decode cJ15_remove 32 = .ok (.aload_n 0, 1) := dk_42 (dk_at dksJ15_remove_1 8 rfl rfl)
theorem dJ15_remove_33 : decode cJ15_remove 33 = .ok (.getfield 13, 3) := dk_180 0 13 (dk_at dksJ15_remove_1 9 rfl rfl)
theorem dJ15_remove_36 : decode cJ15_remove 36 = .ok (.putfield 25, 3) := dk_181 0 25 (dk_at dksJ15_remove_1 12 rfl rfl)
theorem dJ15_remove_39 : decode cJ15_remove 39 = .ok (.aload_n 0, 1) := dk_42 (dk_at dksJ15_remove_1 15 rfl rfl)
theorem dJ15_remove_40 : decode cJ15_remove 40 = .ok (.iconst (-1), 1) := dk_2 (dk_at dksJ15_remove_1 16 rfl rfl)
theorem dJ15_remove_41 : decode cJ15_remove 41 = .ok (.putfield 13, 3) := dk_181 0 13 (dk_at dksJ15_remove_1 17 rfl rfl)
theorem dJ15_remove_44 : decode cJ15_remove 44 = .ok (.aload_n 0, 1) := dk_42 (dk_at dksJ15_remove_1 20 rfl rfl)
theorem dJ15_remove_45 : decode cJ15_remove 45 = .ok (.aload_n 0, 1) := dk_42 (dk_at dksJ15_remove_1 21 rfl rfl)
theorem dJ15_remove_46 : decode cJ15_remove 46 = .ok (.getfield 1, 3) := dk_180 0 1 (dk_at dksJ15_remove_2 0 rfl rfl)
theorem dJ15_remove_49 : decode cJ15_remove 49 = .ok (.getfield 17, 3) := dk_180 0 17 (dk_at dksJ15_remove_2 3 rfl rfl)
theorem dJ15_remove_52 : decode cJ15_remove 52 = .ok (.putfield 22, 3) := dk_181 0 22 (dk_at dksJ15_remove_2 6 rfl rfl)
theorem dJ15_remove_55 : decode cJ15_remove 55 = .ok (.goto 12, 3) := dk_167 0 12 (dk_at dksJ15_remove_2 9 rfl rfl)
theorem dJ15_remove_58 : decode cJ15_remove 58 = .ok (.astore_n 1, 1) := dk_76 (dk_at dksJ15_remove_2 12 rfl rfl)
theorem dJ15_remove_59 : decode cJ15_remove 59 = .ok (.new 41, 3) := dk_187 0 41 (dk_at dksJ15_remove_2 13 rfl rfl)
theorem dJ15_remove_62 : decode cJ15_remove 62 = .ok (.dup, 1) := dk_89 (dk_at dksJ15_remove_2 16 rfl rfl)
theorem dJ15_remove_63 : decode cJ15_remove 63 = .ok (.invokespecial 43, 3) := dk_183 0 43 (dk_at dksJ15_remove_2 17 rfl rfl)
theorem dJ15_remove_66 : decode cJ15_remove 66 = .ok (.athrow, 1) := dk_191 (dk_at dksJ15_remove_2 20 rfl rfl)
theorem dJ15_remove_67 : decode cJ15_remove 67 = .ok (.return_, 1) := dk_177 (dk_at dksJ15_remove_2 21 rfl rfl)
abbrev cJ4_init : ByteArray := prog_62_method_1_code
def yJ4_init : MethodName := ⟨RJ4, "<init>", "()V"⟩
def dkwJ4_init_0 : List UInt8 := [42, 183, 0, 1, 42, 3, 181, 0, 7, 177]
abbrev dktJ4_init_0 : List UInt8 := dkwJ4_init_0 ++ []
theorem dksJ4_init_0 : cJ4_init.data.toList.drop 0 = dktJ4_init_0 := by decide +kernel
theorem dJ4_init_0 : decode cJ4_init 0 = .ok (.aload_n 0, 1) := dk_42 (dk_at dksJ4_init_0 0 rfl rfl)
theorem dJ4_init_1 : decode cJ4_init 1 = .ok (.invokespecial 1, 3) := dk_183 0 1 (dk_at dksJ4_init_0 1 rfl rfl)
theorem dJ4_init_4 : decode cJ4_init 4 = .ok (.aload_n 0, 1) := dk_42 (dk_at dksJ4_init_0 4 rfl rfl)
theorem dJ4_init_5 : decode cJ4_init 5 = .ok (.iconst 0, 1) := dk_3 (dk_at dksJ4_init_0 5 rfl rfl)
theorem dJ4_init_6 : decode cJ4_init 6 = .ok (.putfield 7, 3) := dk_181 0 7 (dk_at dksJ4_init_0 6 rfl rfl)
theorem dJ4_init_9 : decode cJ4_init 9 = .ok (.return_, 1) := dk_177 (dk_at dksJ4_init_0 9 rfl rfl)
abbrev cJ4_size : ByteArray := prog_62_method_16_code
def yJ4_size : MethodName := ⟨RJ4, "size", "()I"⟩
theorem dJ4_size_0 : decode cJ4_size 0 = .ok (.aload_n 0, 1) := by decide +kernel
theorem dJ4_size_1 : decode cJ4_size 1 = .ok (.getfield 7, 3) := by decide +kernel
theorem dJ4_size_4 : decode cJ4_size 4 = .ok (.ireturn, 1) := by decide +kernel
abbrev cJ4_get : ByteArray := prog_62_method_22_code
def yJ4_get : MethodName := ⟨RJ4, "get", "(I)Ljava/lang/Object;"⟩
def dkwJ4_get_0 : List UInt8 := [42, 27, 182, 0, 90, 42, 27, 182, 0, 86, 180, 0, 39, 176]
abbrev dktJ4_get_0 : List UInt8 := dkwJ4_get_0 ++ []
theorem dksJ4_get_0 : cJ4_get.data.toList.drop 0 = dktJ4_get_0 := by decide +kernel
theorem dJ4_get_0 : decode cJ4_get 0 = .ok (.aload_n 0, 1) := dk_42 (dk_at dksJ4_get_0 0 rfl rfl)
theorem dJ4_get_1 : decode cJ4_get 1 = .ok (.iload_n 1, 1) := dk_27 (dk_at dksJ4_get_0 1 rfl rfl)
theorem dJ4_get_2 : decode cJ4_get 2 = .ok (.invokevirtual 90, 3) := dk_182 0 90 (dk_at dksJ4_get_0 2 rfl rfl)
theorem dJ4_get_5 : decode cJ4_get 5 = .ok (.aload_n 0, 1) := dk_42 (dk_at dksJ4_get_0 5 rfl rfl)
theorem dJ4_get_6 : decode cJ4_get 6 = .ok (.iload_n 1, 1) := dk_27 (dk_at dksJ4_get_0 6 rfl rfl)
theorem dJ4_get_7 : decode cJ4_get 7 = .ok (.invokevirtual 86, 3) := dk_182 0 86 (dk_at dksJ4_get_0 7 rfl rfl)
theorem dJ4_get_10 : decode cJ4_get 10 = .ok (.getfield 39, 3) := dk_180 0 39 (dk_at dksJ4_get_0 10 rfl rfl)
theorem dJ4_get_13 : decode cJ4_get 13 = .ok (.areturn, 1) := dk_176 (dk_at dksJ4_get_0 13 rfl rfl)
abbrev cJ4_checkElementIndex : ByteArray := prog_62_method_29_code
def yJ4_checkElementIndex : MethodName := ⟨RJ4, "checkElementIndex", "(I)V"⟩
def dkwJ4_checkElementIndex_0 : List UInt8 := [42, 27, 182, 0, 115, 154, 0, 16, 187, 0, 119, 89, 42, 27, 182, 0, 121, 183, 0, 125, 191, 177]
abbrev dktJ4_checkElementIndex_0 : List UInt8 := dkwJ4_checkElementIndex_0 ++ []
theorem dksJ4_checkElementIndex_0 : cJ4_checkElementIndex.data.toList.drop 0 = dktJ4_checkElementIndex_0 := by decide +kernel
theorem dJ4_checkElementIndex_0 : decode cJ4_checkElementIndex 0 = .ok (.aload_n 0, 1) := dk_42 (dk_at dksJ4_checkElementIndex_0 0 rfl rfl)
theorem dJ4_checkElementIndex_1 : decode cJ4_checkElementIndex 1 = .ok (.iload_n 1, 1) := dk_27 (dk_at dksJ4_checkElementIndex_0 1 rfl rfl)
theorem dJ4_checkElementIndex_2 : decode cJ4_checkElementIndex 2 = .ok (.invokevirtual 115, 3) := dk_182 0 115 (dk_at dksJ4_checkElementIndex_0 2 rfl rfl)
theorem dJ4_checkElementIndex_5 : decode cJ4_checkElementIndex 5 = .ok (.ifCond .ne 16, 3) := dk_154 0 16 (dk_at dksJ4_checkElementIndex_0 5 rfl rfl)
theorem dJ4_checkElementIndex_8 : decode cJ4_checkElementIndex 8 = .ok (.new 119, 3) := dk_187 0 119 (dk_at dksJ4_checkElementIndex_0 8 rfl rfl)
theorem dJ4_checkElementIndex_11 : decode cJ4_checkElementIndex 11 = .ok (.dup, 1) := dk_89 (dk_at dksJ4_checkElementIndex_0 11 rfl rfl)
theorem dJ4_checkElementIndex_12 : decode cJ4_checkElementIndex 12 = .ok (.aload_n 0, 1) := dk_42 (dk_at dksJ4_checkElementIndex_0 12 rfl rfl)
theorem dJ4_checkElementIndex_13 : decode cJ4_checkElementIndex 13 = .ok (.iload_n 1, 1) := dk_27 (dk_at dksJ4_checkElementIndex_0 13 rfl rfl)
theorem dJ4_checkElementIndex_14 : decode cJ4_checkElementIndex 14 = .ok (.invokevirtual 121, 3) := dk_182 0 121 (dk_at dksJ4_checkElementIndex_0 14 rfl rfl)
theorem dJ4_checkElementIndex_17 : decode cJ4_checkElementIndex 17 = .ok (.invokespecial 125, 3) := dk_183 0 125 (dk_at dksJ4_checkElementIndex_0 17 rfl rfl)
theorem dJ4_checkElementIndex_20 : decode cJ4_checkElementIndex 20 = .ok (.athrow, 1) := dk_191 (dk_at dksJ4_checkElementIndex_0 20 rfl rfl)
theorem dJ4_checkElementIndex_21 : decode cJ4_checkElementIndex 21 = .ok (.return_, 1) := dk_177 (dk_at dksJ4_checkElementIndex_0 21 rfl rfl)
abbrev cJ4_isElementIndex : ByteArray := prog_62_method_26_code
def yJ4_isElementIndex : MethodName := ⟨RJ4, "isElementIndex", "(I)Z"⟩
def dkwJ4_isElementIndex_0 : List UInt8 := [27, 155, 0, 15, 27, 42, 180, 0, 7, 162, 0, 7, 4, 167, 0, 4, 3, 172]
abbrev dktJ4_isElementIndex_0 : List UInt8 := dkwJ4_isElementIndex_0 ++ []
theorem dksJ4_isElementIndex_0 : cJ4_isElementIndex.data.toList.drop 0 = dktJ4_isElementIndex_0 := by decide +kernel
theorem dJ4_isElementIndex_0 : decode cJ4_isElementIndex 0 = .ok (.iload_n 1, 1) := dk_27 (dk_at dksJ4_isElementIndex_0 0 rfl rfl)
theorem dJ4_isElementIndex_1 : decode cJ4_isElementIndex 1 = .ok (.ifCond .lt 15, 3) := dk_155 0 15 (dk_at dksJ4_isElementIndex_0 1 rfl rfl)
theorem dJ4_isElementIndex_4 : decode cJ4_isElementIndex 4 = .ok (.iload_n 1, 1) := dk_27 (dk_at dksJ4_isElementIndex_0 4 rfl rfl)
theorem dJ4_isElementIndex_5 : decode cJ4_isElementIndex 5 = .ok (.aload_n 0, 1) := dk_42 (dk_at dksJ4_isElementIndex_0 5 rfl rfl)
theorem dJ4_isElementIndex_6 : decode cJ4_isElementIndex 6 = .ok (.getfield 7, 3) := dk_180 0 7 (dk_at dksJ4_isElementIndex_0 6 rfl rfl)
theorem dJ4_isElementIndex_9 : decode cJ4_isElementIndex 9 = .ok (.if_icmp .ge 7, 3) := dk_162 0 7 (dk_at dksJ4_isElementIndex_0 9 rfl rfl)
theorem dJ4_isElementIndex_12 : decode cJ4_isElementIndex 12 = .ok (.iconst 1, 1) := dk_4 (dk_at dksJ4_isElementIndex_0 12 rfl rfl)
theorem dJ4_isElementIndex_13 : decode cJ4_isElementIndex 13 = .ok (.goto 4, 3) := dk_167 0 4 (dk_at dksJ4_isElementIndex_0 13 rfl rfl)
theorem dJ4_isElementIndex_16 : decode cJ4_isElementIndex 16 = .ok (.iconst 0, 1) := dk_3 (dk_at dksJ4_isElementIndex_0 16 rfl rfl)
theorem dJ4_isElementIndex_17 : decode cJ4_isElementIndex 17 = .ok (.ireturn, 1) := dk_172 (dk_at dksJ4_isElementIndex_0 17 rfl rfl)
abbrev cJ4_outOfBoundsMsg : ByteArray := prog_62_method_28_code
def yJ4_outOfBoundsMsg : MethodName := ⟨RJ4, "outOfBoundsMsg", "(I)Ljava/lang/String;"⟩
def dkwJ4_outOfBoundsMsg_1 : List UInt8 := [180, 0, 7, 182, 0, 106, 182, 0, 111, 176]
abbrev dktJ4_outOfBoundsMsg_1 : List UInt8 := dkwJ4_outOfBoundsMsg_1 ++ []
def dkwJ4_outOfBoundsMsg_0 : List UInt8 := [187, 0, 97, 89, 183, 0, 99, 18, 100, 182, 0, 102, 27, 182, 0, 106, 18, 109, 182, 0, 102, 42]
abbrev dktJ4_outOfBoundsMsg_0 : List UInt8 := dkwJ4_outOfBoundsMsg_0 ++ dktJ4_outOfBoundsMsg_1
theorem dksJ4_outOfBoundsMsg_0 : cJ4_outOfBoundsMsg.data.toList.drop 0 = dktJ4_outOfBoundsMsg_0 := by decide +kernel
theorem dksJ4_outOfBoundsMsg_1 : cJ4_outOfBoundsMsg.data.toList.drop 22 = dktJ4_outOfBoundsMsg_1 := dk_seg dksJ4_outOfBoundsMsg_0 22 rfl rfl
theorem dJ4_outOfBoundsMsg_0 : decode cJ4_outOfBoundsMsg 0 = .ok (.new 97, 3) := dk_187 0 97 (dk_at dksJ4_outOfBoundsMsg_0 0 rfl rfl)
theorem dJ4_outOfBoundsMsg_3 : decode cJ4_outOfBoundsMsg 3 = .ok (.dup, 1) := dk_89 (dk_at dksJ4_outOfBoundsMsg_0 3 rfl rfl)
theorem dJ4_outOfBoundsMsg_4 : decode cJ4_outOfBoundsMsg 4 = .ok (.invokespecial 99, 3) := dk_183 0 99 (dk_at dksJ4_outOfBoundsMsg_0 4 rfl rfl)
theorem dJ4_outOfBoundsMsg_7 : decode cJ4_outOfBoundsMsg 7 = .ok (.ldc 100, 2) := dk_18 100 (dk_at dksJ4_outOfBoundsMsg_0 7 rfl rfl)
theorem dJ4_outOfBoundsMsg_9 : decode cJ4_outOfBoundsMsg 9 = .ok (.invokevirtual 102, 3) := dk_182 0 102 (dk_at dksJ4_outOfBoundsMsg_0 9 rfl rfl)
theorem dJ4_outOfBoundsMsg_12 : decode cJ4_outOfBoundsMsg 12 = .ok (.iload_n 1, 1) := dk_27 (dk_at dksJ4_outOfBoundsMsg_0 12 rfl rfl)
theorem dJ4_outOfBoundsMsg_13 : decode cJ4_outOfBoundsMsg 13 = .ok (.invokevirtual 106, 3) := dk_182 0 106 (dk_at dksJ4_outOfBoundsMsg_0 13 rfl rfl)
theorem dJ4_outOfBoundsMsg_16 : decode cJ4_outOfBoundsMsg 16 = .ok (.ldc 109, 2) := dk_18 109 (dk_at dksJ4_outOfBoundsMsg_0 16 rfl rfl)
theorem dJ4_outOfBoundsMsg_18 : decode cJ4_outOfBoundsMsg 18 = .ok (.invokevirtual 102, 3) := dk_182 0 102 (dk_at dksJ4_outOfBoundsMsg_0 18 rfl rfl)
theorem dJ4_outOfBoundsMsg_21 : decode cJ4_outOfBoundsMsg 21 = .ok (.aload_n 0, 1) := dk_42 (dk_at dksJ4_outOfBoundsMsg_0 21 rfl rfl)
theorem dJ4_outOfBoundsMsg_22 : decode cJ4_outOfBoundsMsg 22 = .ok (.getfield 7, 3) := dk_180 0 7 (dk_at dksJ4_outOfBoundsMsg_1 0 rfl rfl)
theorem dJ4_outOfBoundsMsg_25 : decode cJ4_outOfBoundsMsg 25 = .ok (.invokevirtual 106, 3) := dk_182 0 106 (dk_at dksJ4_outOfBoundsMsg_1 3 rfl rfl)
theorem dJ4_outOfBoundsMsg_28 : decode cJ4_outOfBoundsMsg 28 = .ok (.invokevirtual 111, 3) := dk_182 0 111 (dk_at dksJ4_outOfBoundsMsg_1 6 rfl rfl)
theorem dJ4_outOfBoundsMsg_31 : decode cJ4_outOfBoundsMsg 31 = .ok (.areturn, 1) := dk_176 (dk_at dksJ4_outOfBoundsMsg_1 9 rfl rfl)
abbrev cJ4_node : ByteArray := prog_62_method_31_code
def yJ4_node : MethodName := ⟨RJ4, "node", "(I)Ljava/util/LinkedList$Node;"⟩
def dkwJ4_node_2 : List UInt8 := [29, 27, 164, 0, 14, 44, 180, 0, 30, 77, 132, 3, 255, 167, 255, 243, 44, 176]
abbrev dktJ4_node_2 : List UInt8 := dkwJ4_node_2 ++ []
def dkwJ4_node_1 : List UInt8 := [180, 0, 36, 77, 132, 3, 1, 167, 255, 243, 44, 176, 42, 180, 0, 27, 77, 42, 180, 0, 7, 4, 100, 62]
abbrev dktJ4_node_1 : List UInt8 := dkwJ4_node_1 ++ dktJ4_node_2
def dkwJ4_node_0 : List UInt8 := [27, 42, 180, 0, 7, 4, 122, 162, 0, 28, 42, 180, 0, 18, 77, 3, 62, 29, 27, 162, 0, 14, 44]
abbrev dktJ4_node_0 : List UInt8 := dkwJ4_node_0 ++ dktJ4_node_1
theorem dksJ4_node_0 : cJ4_node.data.toList.drop 0 = dktJ4_node_0 := by decide +kernel
theorem dksJ4_node_1 : cJ4_node.data.toList.drop 23 = dktJ4_node_1 := dk_seg dksJ4_node_0 23 rfl rfl
theorem dksJ4_node_2 : cJ4_node.data.toList.drop 47 = dktJ4_node_2 := dk_seg dksJ4_node_1 24 rfl rfl
theorem dJ4_node_0 : decode cJ4_node 0 = .ok (.iload_n 1, 1) := dk_27 (dk_at dksJ4_node_0 0 rfl rfl)
theorem dJ4_node_1 : decode cJ4_node 1 = .ok (.aload_n 0, 1) := dk_42 (dk_at dksJ4_node_0 1 rfl rfl)
theorem dJ4_node_2 : decode cJ4_node 2 = .ok (.getfield 7, 3) := dk_180 0 7 (dk_at dksJ4_node_0 2 rfl rfl)
theorem dJ4_node_5 : decode cJ4_node 5 = .ok (.iconst 1, 1) := dk_4 (dk_at dksJ4_node_0 5 rfl rfl)
theorem dJ4_node_6 : decode cJ4_node 6 = .ok (.ishr, 1) := dk_122 (dk_at dksJ4_node_0 6 rfl rfl)
theorem dJ4_node_7 : decode cJ4_node 7 = .ok (.if_icmp .ge 28, 3) := dk_162 0 28 (dk_at dksJ4_node_0 7 rfl rfl)
theorem dJ4_node_10 : decode cJ4_node 10 = .ok (.aload_n 0, 1) := dk_42 (dk_at dksJ4_node_0 10 rfl rfl)
theorem dJ4_node_11 : decode cJ4_node 11 = .ok (.getfield 18, 3) := dk_180 0 18 (dk_at dksJ4_node_0 11 rfl rfl)
theorem dJ4_node_14 : decode cJ4_node 14 = .ok (.astore_n 2, 1) := dk_77 (dk_at dksJ4_node_0 14 rfl rfl)
theorem dJ4_node_15 : decode cJ4_node 15 = .ok (.iconst 0, 1) := dk_3 (dk_at dksJ4_node_0 15 rfl rfl)
theorem dJ4_node_16 : decode cJ4_node 16 = .ok (.istore_n 3, 1) := dk_62 (dk_at dksJ4_node_0 16 rfl rfl)
theorem dJ4_node_17 : decode cJ4_node 17 = .ok (.iload_n 3, 1) := dk_29 (dk_at dksJ4_node_0 17 rfl rfl)
theorem dJ4_node_18 : decode cJ4_node 18 = .ok (.iload_n 1, 1) := dk_27 (dk_at dksJ4_node_0 18 rfl rfl)
theorem dJ4_node_19 : decode cJ4_node 19 = .ok (.if_icmp .ge 14, 3) := dk_162 0 14 (dk_at dksJ4_node_0 19 rfl rfl)
theorem dJ4_node_22 : decode cJ4_node 22 = .ok (.aload_n 2, 1) := dk_44 (dk_at dksJ4_node_0 22 rfl rfl)
theorem dJ4_node_23 : decode cJ4_node 23 = .ok (.getfield 36, 3) := dk_180 0 36 (dk_at dksJ4_node_1 0 rfl rfl)
theorem dJ4_node_26 : decode cJ4_node 26 = .ok (.astore_n 2, 1) := dk_77 (dk_at dksJ4_node_1 3 rfl rfl)
theorem dJ4_node_27 : decode cJ4_node 27 = .ok (.iinc 3 1, 3) := dk_132 3 1 (dk_at dksJ4_node_1 4 rfl rfl)
theorem dJ4_node_30 : decode cJ4_node 30 = .ok (.goto (-13), 3) := dk_167 255 243 (dk_at dksJ4_node_1 7 rfl rfl)
theorem dJ4_node_33 : decode cJ4_node 33 = .ok (.aload_n 2, 1) := dk_44 (dk_at dksJ4_node_1 10 rfl rfl)
theorem dJ4_node_34 : decode cJ4_node 34 = .ok (.areturn, 1) := dk_176 (dk_at dksJ4_node_1 11 rfl rfl)
theorem dJ4_node_35 : decode cJ4_node 35 = .ok (.aload_n 0, 1) := dk_42 (dk_at dksJ4_node_1 12 rfl rfl)
theorem dJ4_node_36 : decode cJ4_node 36 = .ok (.getfield 27, 3) := dk_180 0 27 (dk_at dksJ4_node_1 13 rfl rfl)
theorem dJ4_node_39 : decode cJ4_node 39 = .ok (.astore_n 2, 1) := dk_77 (dk_at dksJ4_node_1 16 rfl rfl)
theorem dJ4_node_40 : decode cJ4_node 40 = .ok (.aload_n 0, 1) := dk_42 (dk_at dksJ4_node_1 17 rfl rfl)
theorem dJ4_node_41 : decode cJ4_node 41 = .ok (.getfield 7, 3) := dk_180 0 7 (dk_at dksJ4_node_1 18 rfl rfl)
theorem dJ4_node_44 : decode cJ4_node 44 = .ok (.iconst 1, 1) := dk_4 (dk_at dksJ4_node_1 21 rfl rfl)
theorem dJ4_node_45 : decode cJ4_node 45 = .ok (.isub, 1) := dk_100 (dk_at dksJ4_node_1 22 rfl rfl)
theorem dJ4_node_46 : decode cJ4_node 46 = .ok (.istore_n 3, 1) := dk_62 (dk_at dksJ4_node_1 23 rfl rfl)
theorem dJ4_node_47 : decode cJ4_node 47 = .ok (.iload_n 3, 1) := dk_29 (dk_at dksJ4_node_2 0 rfl rfl)
theorem dJ4_node_48 : decode cJ4_node 48 = .ok (.iload_n 1, 1) := dk_27 (dk_at dksJ4_node_2 1 rfl rfl)
theorem dJ4_node_49 : decode cJ4_node 49 = .ok (.if_icmp .le 14, 3) := dk_164 0 14 (dk_at dksJ4_node_2 2 rfl rfl)
theorem dJ4_node_52 : decode cJ4_node 52 = .ok (.aload_n 2, 1) := dk_44 (dk_at dksJ4_node_2 5 rfl rfl)
theorem dJ4_node_53 : decode cJ4_node 53 = .ok (.getfield 30, 3) := dk_180 0 30 (dk_at dksJ4_node_2 6 rfl rfl)
theorem dJ4_node_56 : decode cJ4_node 56 = .ok (.astore_n 2, 1) := dk_77 (dk_at dksJ4_node_2 9 rfl rfl)
theorem dJ4_node_57 : decode cJ4_node 57 = .ok (.iinc 3 (-1), 3) := dk_132 3 255 (dk_at dksJ4_node_2 10 rfl rfl)
theorem dJ4_node_60 : decode cJ4_node 60 = .ok (.goto (-13), 3) := dk_167 255 243 (dk_at dksJ4_node_2 13 rfl rfl)
theorem dJ4_node_63 : decode cJ4_node 63 = .ok (.aload_n 2, 1) := dk_44 (dk_at dksJ4_node_2 16 rfl rfl)
theorem dJ4_node_64 : decode cJ4_node 64 = .ok (.areturn, 1) := dk_176 (dk_at dksJ4_node_2 17 rfl rfl)
abbrev cJ4_listIterator : ByteArray := prog_62_method_49_code
def yJ4_listIterator : MethodName := ⟨RJ4, "listIterator", "(I)Ljava/util/ListIterator;"⟩
def dkwJ4_listIterator_0 : List UInt8 := [42, 27, 182, 0, 76, 187, 0, 150, 89, 42, 27, 183, 0, 152, 176]
abbrev dktJ4_listIterator_0 : List UInt8 := dkwJ4_listIterator_0 ++ []
theorem dksJ4_listIterator_0 : cJ4_listIterator.data.toList.drop 0 = dktJ4_listIterator_0 := by decide +kernel
theorem dJ4_listIterator_0 : decode cJ4_listIterator 0 = .ok (.aload_n 0, 1) := dk_42 (dk_at dksJ4_listIterator_0 0 rfl rfl)
theorem dJ4_listIterator_1 : decode cJ4_listIterator 1 = .ok (.iload_n 1, 1) := dk_27 (dk_at dksJ4_listIterator_0 1 rfl rfl)
theorem dJ4_listIterator_2 : decode cJ4_listIterator 2 = .ok (.invokevirtual 76, 3) := dk_182 0 76 (dk_at dksJ4_listIterator_0 2 rfl rfl)
theorem dJ4_listIterator_5 : decode cJ4_listIterator 5 = .ok (.new 150, 3) := dk_187 0 150 (dk_at dksJ4_listIterator_0 5 rfl rfl)
theorem dJ4_listIterator_8 : decode cJ4_listIterator 8 = .ok (.dup, 1) := dk_89 (dk_at dksJ4_listIterator_0 8 rfl rfl)
theorem dJ4_listIterator_9 : decode cJ4_listIterator 9 = .ok (.aload_n 0, 1) := dk_42 (dk_at dksJ4_listIterator_0 9 rfl rfl)
theorem dJ4_listIterator_10 : decode cJ4_listIterator 10 = .ok (.iload_n 1, 1) := dk_27 (dk_at dksJ4_listIterator_0 10 rfl rfl)
theorem dJ4_listIterator_11 : decode cJ4_listIterator 11 = .ok (.invokespecial 152, 3) := dk_183 0 152 (dk_at dksJ4_listIterator_0 11 rfl rfl)
theorem dJ4_listIterator_14 : decode cJ4_listIterator 14 = .ok (.areturn, 1) := dk_176 (dk_at dksJ4_listIterator_0 14 rfl rfl)
abbrev cJ4_checkPositionIndex : ByteArray := prog_62_method_30_code
def yJ4_checkPositionIndex : MethodName := ⟨RJ4, "checkPositionIndex", "(I)V"⟩
def dkwJ4_checkPositionIndex_0 : List UInt8 := [42, 27, 182, 0, 128, 154, 0, 16, 187, 0, 119, 89, 42, 27, 182, 0, 121, 183, 0, 125, 191, 177]
abbrev dktJ4_checkPositionIndex_0 : List UInt8 := dkwJ4_checkPositionIndex_0 ++ []
theorem dksJ4_checkPositionIndex_0 : cJ4_checkPositionIndex.data.toList.drop 0 = dktJ4_checkPositionIndex_0 := by decide +kernel
theorem dJ4_checkPositionIndex_0 : decode cJ4_checkPositionIndex 0 = .ok (.aload_n 0, 1) := dk_42 (dk_at dksJ4_checkPositionIndex_0 0 rfl rfl)
theorem dJ4_checkPositionIndex_1 : decode cJ4_checkPositionIndex 1 = .ok (.iload_n 1, 1) := dk_27 (dk_at dksJ4_checkPositionIndex_0 1 rfl rfl)
theorem dJ4_checkPositionIndex_2 : decode cJ4_checkPositionIndex 2 = .ok (.invokevirtual 128, 3) := dk_182 0 128 (dk_at dksJ4_checkPositionIndex_0 2 rfl rfl)
theorem dJ4_checkPositionIndex_5 : decode cJ4_checkPositionIndex 5 = .ok (.ifCond .ne 16, 3) := dk_154 0 16 (dk_at dksJ4_checkPositionIndex_0 5 rfl rfl)
theorem dJ4_checkPositionIndex_8 : decode cJ4_checkPositionIndex 8 = .ok (.new 119, 3) := dk_187 0 119 (dk_at dksJ4_checkPositionIndex_0 8 rfl rfl)
theorem dJ4_checkPositionIndex_11 : decode cJ4_checkPositionIndex 11 = .ok (.dup, 1) := dk_89 (dk_at dksJ4_checkPositionIndex_0 11 rfl rfl)
theorem dJ4_checkPositionIndex_12 : decode cJ4_checkPositionIndex 12 = .ok (.aload_n 0, 1) := dk_42 (dk_at dksJ4_checkPositionIndex_0 12 rfl rfl)
theorem dJ4_checkPositionIndex_13 : decode cJ4_checkPositionIndex 13 = .ok (.iload_n 1, 1) := dk_27 (dk_at dksJ4_checkPositionIndex_0 13 rfl rfl)
theorem dJ4_checkPositionIndex_14 : decode cJ4_checkPositionIndex 14 = .ok (.invokevirtual 121, 3) := dk_182 0 121 (dk_at dksJ4_checkPositionIndex_0 14 rfl rfl)
theorem dJ4_checkPositionIndex_17 : decode cJ4_checkPositionIndex 17 = .ok (.invokespecial 125, 3) := dk_183 0 125 (dk_at dksJ4_checkPositionIndex_0 17 rfl rfl)
theorem dJ4_checkPositionIndex_20 : decode cJ4_checkPositionIndex 20 = .ok (.athrow, 1) := dk_191 (dk_at dksJ4_checkPositionIndex_0 20 rfl rfl)
theorem dJ4_checkPositionIndex_21 : decode cJ4_checkPositionIndex 21 = .ok (.return_, 1) := dk_177 (dk_at dksJ4_checkPositionIndex_0 21 rfl rfl)
abbrev cJ4_isPositionIndex : ByteArray := prog_62_method_27_code
def yJ4_isPositionIndex : MethodName := ⟨RJ4, "isPositionIndex", "(I)Z"⟩
def dkwJ4_isPositionIndex_0 : List UInt8 := [27, 155, 0, 15, 27, 42, 180, 0, 7, 163, 0, 7, 4, 167, 0, 4, 3, 172]
abbrev dktJ4_isPositionIndex_0 : List UInt8 := dkwJ4_isPositionIndex_0 ++ []
theorem dksJ4_isPositionIndex_0 : cJ4_isPositionIndex.data.toList.drop 0 = dktJ4_isPositionIndex_0 := by decide +kernel
theorem dJ4_isPositionIndex_0 : decode cJ4_isPositionIndex 0 = .ok (.iload_n 1, 1) := dk_27 (dk_at dksJ4_isPositionIndex_0 0 rfl rfl)
theorem dJ4_isPositionIndex_1 : decode cJ4_isPositionIndex 1 = .ok (.ifCond .lt 15, 3) := dk_155 0 15 (dk_at dksJ4_isPositionIndex_0 1 rfl rfl)
theorem dJ4_isPositionIndex_4 : decode cJ4_isPositionIndex 4 = .ok (.iload_n 1, 1) := dk_27 (dk_at dksJ4_isPositionIndex_0 4 rfl rfl)
theorem dJ4_isPositionIndex_5 : decode cJ4_isPositionIndex 5 = .ok (.aload_n 0, 1) := dk_42 (dk_at dksJ4_isPositionIndex_0 5 rfl rfl)
theorem dJ4_isPositionIndex_6 : decode cJ4_isPositionIndex 6 = .ok (.getfield 7, 3) := dk_180 0 7 (dk_at dksJ4_isPositionIndex_0 6 rfl rfl)
theorem dJ4_isPositionIndex_9 : decode cJ4_isPositionIndex 9 = .ok (.if_icmp .gt 7, 3) := dk_163 0 7 (dk_at dksJ4_isPositionIndex_0 9 rfl rfl)
theorem dJ4_isPositionIndex_12 : decode cJ4_isPositionIndex 12 = .ok (.iconst 1, 1) := dk_4 (dk_at dksJ4_isPositionIndex_0 12 rfl rfl)
theorem dJ4_isPositionIndex_13 : decode cJ4_isPositionIndex 13 = .ok (.goto 4, 3) := dk_167 0 4 (dk_at dksJ4_isPositionIndex_0 13 rfl rfl)
theorem dJ4_isPositionIndex_16 : decode cJ4_isPositionIndex 16 = .ok (.iconst 0, 1) := dk_3 (dk_at dksJ4_isPositionIndex_0 16 rfl rfl)
theorem dJ4_isPositionIndex_17 : decode cJ4_isPositionIndex 17 = .ok (.ireturn, 1) := dk_172 (dk_at dksJ4_isPositionIndex_0 17 rfl rfl)
abbrev cJ4_addLast : ByteArray := prog_62_method_14_code
def yJ4_addLast : MethodName := ⟨RJ4, "addLast", "(Ljava/lang/Object;)V"⟩
def dkwJ4_addLast_0 : List UInt8 := [42, 43, 182, 0, 57, 177]
abbrev dktJ4_addLast_0 : List UInt8 := dkwJ4_addLast_0 ++ []
theorem dksJ4_addLast_0 : cJ4_addLast.data.toList.drop 0 = dktJ4_addLast_0 := by decide +kernel
theorem dJ4_addLast_0 : decode cJ4_addLast 0 = .ok (.aload_n 0, 1) := dk_42 (dk_at dksJ4_addLast_0 0 rfl rfl)
theorem dJ4_addLast_1 : decode cJ4_addLast 1 = .ok (.aload_n 1, 1) := dk_43 (dk_at dksJ4_addLast_0 1 rfl rfl)
theorem dJ4_addLast_2 : decode cJ4_addLast 2 = .ok (.invokevirtual 57, 3) := dk_182 0 57 (dk_at dksJ4_addLast_0 2 rfl rfl)
theorem dJ4_addLast_5 : decode cJ4_addLast 5 = .ok (.return_, 1) := dk_177 (dk_at dksJ4_addLast_0 5 rfl rfl)
abbrev cJ4_linkLast : ByteArray := prog_62_method_4_code
def yJ4_linkLast : MethodName := ⟨RJ4, "linkLast", "(Ljava/lang/Object;)V"⟩
def dkwJ4_linkLast_2 : List UInt8 := [181, 0, 7, 42, 89, 180, 0, 33, 4, 96, 181, 0, 33, 177]
abbrev dktJ4_linkLast_2 : List UInt8 := dkwJ4_linkLast_2 ++ []
def dkwJ4_linkLast_1 : List UInt8 := [199, 0, 11, 42, 45, 181, 0, 18, 167, 0, 8, 44, 45, 181, 0, 36, 42, 89, 180, 0, 7, 4, 96]
abbrev dktJ4_linkLast_1 : List UInt8 := dkwJ4_linkLast_1 ++ dktJ4_linkLast_2
def dkwJ4_linkLast_0 : List UInt8 := [42, 180, 0, 27, 77, 187, 0, 22, 89, 44, 43, 1, 183, 0, 24, 78, 42, 45, 181, 0, 27, 44]
abbrev dktJ4_linkLast_0 : List UInt8 := dkwJ4_linkLast_0 ++ dktJ4_linkLast_1
theorem dksJ4_linkLast_0 : cJ4_linkLast.data.toList.drop 0 = dktJ4_linkLast_0 := by decide +kernel
theorem dksJ4_linkLast_1 : cJ4_linkLast.data.toList.drop 22 = dktJ4_linkLast_1 := dk_seg dksJ4_linkLast_0 22 rfl rfl
theorem dksJ4_linkLast_2 : cJ4_linkLast.data.toList.drop 45 = dktJ4_linkLast_2 := dk_seg dksJ4_linkLast_1 23 rfl rfl
theorem dJ4_linkLast_0 : decode cJ4_linkLast 0 = .ok (.aload_n 0, 1) := dk_42 (dk_at dksJ4_linkLast_0 0 rfl rfl)
theorem dJ4_linkLast_1 : decode cJ4_linkLast 1 = .ok (.getfield 27, 3) := dk_180 0 27 (dk_at dksJ4_linkLast_0 1 rfl rfl)
theorem dJ4_linkLast_4 : decode cJ4_linkLast 4 = .ok (.astore_n 2, 1) := dk_77 (dk_at dksJ4_linkLast_0 4 rfl rfl)
theorem dJ4_linkLast_5 : decode cJ4_linkLast 5 = .ok (.new 22, 3) := dk_187 0 22 (dk_at dksJ4_linkLast_0 5 rfl rfl)
theorem dJ4_linkLast_8 : decode cJ4_linkLast 8 = .ok (.dup, 1) := dk_89 (dk_at dksJ4_linkLast_0 8 rfl rfl)
theorem dJ4_linkLast_9 : decode cJ4_linkLast 9 = .ok (.aload_n 2, 1) := dk_44 (dk_at dksJ4_linkLast_0 9 rfl rfl)
theorem dJ4_linkLast_10 : decode cJ4_linkLast 10 = .ok (.aload_n 1, 1) := dk_43 (dk_at dksJ4_linkLast_0 10 rfl rfl)
theorem dJ4_linkLast_11 : decode cJ4_linkLast 11 = .ok (.aconst_null, 1) := dk_1 (dk_at dksJ4_linkLast_0 11 rfl rfl)
theorem dJ4_linkLast_12 : decode cJ4_linkLast 12 = .ok (.invokespecial 24, 3) := dk_183 0 24 (dk_at dksJ4_linkLast_0 12 rfl rfl)
theorem dJ4_linkLast_15 : decode cJ4_linkLast 15 = .ok (.astore_n 3, 1) := dk_78 (dk_at dksJ4_linkLast_0 15 rfl rfl)
theorem dJ4_linkLast_16 : decode cJ4_linkLast 16 = .ok (.aload_n 0, 1) := dk_42 (dk_at dksJ4_linkLast_0 16 rfl rfl)
theorem dJ4_linkLast_17 : decode cJ4_linkLast 17 = .ok (.aload_n 3, 1) := dk_45 (dk_at dksJ4_linkLast_0 17 rfl rfl)
theorem dJ4_linkLast_18 : decode cJ4_linkLast 18 = .ok (.putfield 27, 3) := dk_181 0 27 (dk_at dksJ4_linkLast_0 18 rfl rfl)
theorem dJ4_linkLast_21 : decode cJ4_linkLast 21 = .ok (.aload_n 2, 1) := dk_44 (dk_at dksJ4_linkLast_0 21 rfl rfl)
theorem dJ4_linkLast_22 : decode cJ4_linkLast 22 = .ok (.ifnonnull 11, 3) := dk_199 0 11 (dk_at dksJ4_linkLast_1 0 rfl rfl)
theorem dJ4_linkLast_25 : decode cJ4_linkLast 25 = .ok (.aload_n 0, 1) := dk_42 (dk_at dksJ4_linkLast_1 3 rfl rfl)
theorem dJ4_linkLast_26 : decode cJ4_linkLast 26 = .ok (.aload_n 3, 1) := dk_45 (dk_at dksJ4_linkLast_1 4 rfl rfl)
theorem dJ4_linkLast_27 : decode cJ4_linkLast 27 = .ok (.putfield 18, 3) := dk_181 0 18 (dk_at dksJ4_linkLast_1 5 rfl rfl)
theorem dJ4_linkLast_30 : decode cJ4_linkLast 30 = .ok (.goto 8, 3) := dk_167 0 8 (dk_at dksJ4_linkLast_1 8 rfl rfl)
theorem dJ4_linkLast_33 : decode cJ4_linkLast 33 = .ok (.aload_n 2, 1) := dk_44 (dk_at dksJ4_linkLast_1 11 rfl rfl)
theorem dJ4_linkLast_34 : decode cJ4_linkLast 34 = .ok (.aload_n 3, 1) := dk_45 (dk_at dksJ4_linkLast_1 12 rfl rfl)
theorem dJ4_linkLast_35 : decode cJ4_linkLast 35 = .ok (.putfield 36, 3) := dk_181 0 36 (dk_at dksJ4_linkLast_1 13 rfl rfl)
theorem dJ4_linkLast_38 : decode cJ4_linkLast 38 = .ok (.aload_n 0, 1) := dk_42 (dk_at dksJ4_linkLast_1 16 rfl rfl)
theorem dJ4_linkLast_39 : decode cJ4_linkLast 39 = .ok (.dup, 1) := dk_89 (dk_at dksJ4_linkLast_1 17 rfl rfl)
theorem dJ4_linkLast_40 : decode cJ4_linkLast 40 = .ok (.getfield 7, 3) := dk_180 0 7 (dk_at dksJ4_linkLast_1 18 rfl rfl)
theorem dJ4_linkLast_43 : decode cJ4_linkLast 43 = .ok (.iconst 1, 1) := dk_4 (dk_at dksJ4_linkLast_1 21 rfl rfl)
theorem dJ4_linkLast_44 : decode cJ4_linkLast 44 = .ok (.iadd, 1) := dk_96 (dk_at dksJ4_linkLast_1 22 rfl rfl)
theorem dJ4_linkLast_45 : decode cJ4_linkLast 45 = .ok (.putfield 7, 3) := dk_181 0 7 (dk_at dksJ4_linkLast_2 0 rfl rfl)
theorem dJ4_linkLast_48 : decode cJ4_linkLast 48 = .ok (.aload_n 0, 1) := dk_42 (dk_at dksJ4_linkLast_2 3 rfl rfl)
theorem dJ4_linkLast_49 : decode cJ4_linkLast 49 = .ok (.dup, 1) := dk_89 (dk_at dksJ4_linkLast_2 4 rfl rfl)
theorem dJ4_linkLast_50 : decode cJ4_linkLast 50 = .ok (.getfield 33, 3) := dk_180 0 33 (dk_at dksJ4_linkLast_2 5 rfl rfl)
theorem dJ4_linkLast_53 : decode cJ4_linkLast 53 = .ok (.iconst 1, 1) := dk_4 (dk_at dksJ4_linkLast_2 8 rfl rfl)
theorem dJ4_linkLast_54 : decode cJ4_linkLast 54 = .ok (.iadd, 1) := dk_96 (dk_at dksJ4_linkLast_2 9 rfl rfl)
theorem dJ4_linkLast_55 : decode cJ4_linkLast 55 = .ok (.putfield 33, 3) := dk_181 0 33 (dk_at dksJ4_linkLast_2 10 rfl rfl)
theorem dJ4_linkLast_58 : decode cJ4_linkLast 58 = .ok (.return_, 1) := dk_177 (dk_at dksJ4_linkLast_2 13 rfl rfl)
abbrev cJ4_getFirst : ByteArray := prog_62_method_9_code
def yJ4_getFirst : MethodName := ⟨RJ4, "getFirst", "()Ljava/lang/Object;"⟩
def dkwJ4_getFirst_0 : List UInt8 := [42, 180, 0, 18, 76, 43, 199, 0, 11, 187, 0, 43, 89, 183, 0, 45, 191, 43, 180, 0, 39, 176]
abbrev dktJ4_getFirst_0 : List UInt8 := dkwJ4_getFirst_0 ++ []
theorem dksJ4_getFirst_0 : cJ4_getFirst.data.toList.drop 0 = dktJ4_getFirst_0 := by decide +kernel
theorem dJ4_getFirst_0 : decode cJ4_getFirst 0 = .ok (.aload_n 0, 1) := dk_42 (dk_at dksJ4_getFirst_0 0 rfl rfl)
theorem dJ4_getFirst_1 : decode cJ4_getFirst 1 = .ok (.getfield 18, 3) := dk_180 0 18 (dk_at dksJ4_getFirst_0 1 rfl rfl)
theorem dJ4_getFirst_4 : decode cJ4_getFirst 4 = .ok (.astore_n 1, 1) := dk_76 (dk_at dksJ4_getFirst_0 4 rfl rfl)
theorem dJ4_getFirst_5 : decode cJ4_getFirst 5 = .ok (.aload_n 1, 1) := dk_43 (dk_at dksJ4_getFirst_0 5 rfl rfl)
theorem dJ4_getFirst_6 : decode cJ4_getFirst 6 = .ok (.ifnonnull 11, 3) := dk_199 0 11 (dk_at dksJ4_getFirst_0 6 rfl rfl)
theorem dJ4_getFirst_9 : decode cJ4_getFirst 9 = .ok (.new 43, 3) := dk_187 0 43 (dk_at dksJ4_getFirst_0 9 rfl rfl)
theorem dJ4_getFirst_12 : decode cJ4_getFirst 12 = .ok (.dup, 1) := dk_89 (dk_at dksJ4_getFirst_0 12 rfl rfl)
theorem dJ4_getFirst_13 : decode cJ4_getFirst 13 = .ok (.invokespecial 45, 3) := dk_183 0 45 (dk_at dksJ4_getFirst_0 13 rfl rfl)
theorem dJ4_getFirst_16 : decode cJ4_getFirst 16 = .ok (.athrow, 1) := dk_191 (dk_at dksJ4_getFirst_0 16 rfl rfl)
theorem dJ4_getFirst_17 : decode cJ4_getFirst 17 = .ok (.aload_n 1, 1) := dk_43 (dk_at dksJ4_getFirst_0 17 rfl rfl)
theorem dJ4_getFirst_18 : decode cJ4_getFirst 18 = .ok (.getfield 39, 3) := dk_180 0 39 (dk_at dksJ4_getFirst_0 18 rfl rfl)
theorem dJ4_getFirst_21 : decode cJ4_getFirst 21 = .ok (.areturn, 1) := dk_176 (dk_at dksJ4_getFirst_0 21 rfl rfl)
abbrev cJ4_removeFirst : ByteArray := prog_62_method_11_code
def yJ4_removeFirst : MethodName := ⟨RJ4, "removeFirst", "()Ljava/lang/Object;"⟩
def dkwJ4_removeFirst_0 : List UInt8 := [42, 180, 0, 18, 76, 43, 199, 0, 11, 187, 0, 43, 89, 183, 0, 45, 191, 42, 43, 182, 0, 46, 176]
abbrev dktJ4_removeFirst_0 : List UInt8 := dkwJ4_removeFirst_0 ++ []
theorem dksJ4_removeFirst_0 : cJ4_removeFirst.data.toList.drop 0 = dktJ4_removeFirst_0 := by decide +kernel
theorem dJ4_removeFirst_0 : decode cJ4_removeFirst 0 = .ok (.aload_n 0, 1) := dk_42 (dk_at dksJ4_removeFirst_0 0 rfl rfl)
theorem dJ4_removeFirst_1 : decode cJ4_removeFirst 1 = .ok (.getfield 18, 3) := dk_180 0 18 (dk_at dksJ4_removeFirst_0 1 rfl rfl)
theorem dJ4_removeFirst_4 : decode cJ4_removeFirst 4 = .ok (.astore_n 1, 1) := dk_76 (dk_at dksJ4_removeFirst_0 4 rfl rfl)
theorem dJ4_removeFirst_5 : decode cJ4_removeFirst 5 = .ok (.aload_n 1, 1) := dk_43 (dk_at dksJ4_removeFirst_0 5 rfl rfl)
theorem dJ4_removeFirst_6 : decode cJ4_removeFirst 6 = .ok (.ifnonnull 11, 3) := dk_199 0 11 (dk_at dksJ4_removeFirst_0 6 rfl rfl)
theorem dJ4_removeFirst_9 : decode cJ4_removeFirst 9 = .ok (.new 43, 3) := dk_187 0 43 (dk_at dksJ4_removeFirst_0 9 rfl rfl)
theorem dJ4_removeFirst_12 : decode cJ4_removeFirst 12 = .ok (.dup, 1) := dk_89 (dk_at dksJ4_removeFirst_0 12 rfl rfl)
theorem dJ4_removeFirst_13 : decode cJ4_removeFirst 13 = .ok (.invokespecial 45, 3) := dk_183 0 45 (dk_at dksJ4_removeFirst_0 13 rfl rfl)
theorem dJ4_removeFirst_16 : decode cJ4_removeFirst 16 = .ok (.athrow, 1) := dk_191 (dk_at dksJ4_removeFirst_0 16 rfl rfl)
theorem dJ4_removeFirst_17 : decode cJ4_removeFirst 17 = .ok (.aload_n 0, 1) := dk_42 (dk_at dksJ4_removeFirst_0 17 rfl rfl)
theorem dJ4_removeFirst_18 : decode cJ4_removeFirst 18 = .ok (.aload_n 1, 1) := dk_43 (dk_at dksJ4_removeFirst_0 18 rfl rfl)
theorem dJ4_removeFirst_19 : decode cJ4_removeFirst 19 = .ok (.invokevirtual 46, 3) := dk_182 0 46 (dk_at dksJ4_removeFirst_0 19 rfl rfl)
theorem dJ4_removeFirst_22 : decode cJ4_removeFirst 22 = .ok (.areturn, 1) := dk_176 (dk_at dksJ4_removeFirst_0 22 rfl rfl)
abbrev cJ4_unlinkFirst : ByteArray := prog_62_method_6_code
def yJ4_unlinkFirst : MethodName := ⟨RJ4, "unlinkFirst", "(Ljava/util/LinkedList$Node;)Ljava/lang/Object;"⟩
def dkwJ4_unlinkFirst_2 : List UInt8 := [180, 0, 7, 4, 100, 181, 0, 7, 42, 89, 180, 0, 33, 4, 96, 181, 0, 33, 44, 176]
abbrev dktJ4_unlinkFirst_2 : List UInt8 := dkwJ4_unlinkFirst_2 ++ []
def dkwJ4_unlinkFirst_1 : List UInt8 := [181, 0, 18, 45, 199, 0, 11, 42, 1, 181, 0, 27, 167, 0, 8, 45, 1, 181, 0, 30, 42, 89]
abbrev dktJ4_unlinkFirst_1 : List UInt8 := dkwJ4_unlinkFirst_1 ++ dktJ4_unlinkFirst_2
def dkwJ4_unlinkFirst_0 : List UInt8 := [43, 180, 0, 39, 77, 43, 180, 0, 36, 78, 43, 1, 181, 0, 39, 43, 1, 181, 0, 36, 42, 45]
abbrev dktJ4_unlinkFirst_0 : List UInt8 := dkwJ4_unlinkFirst_0 ++ dktJ4_unlinkFirst_1
theorem dksJ4_unlinkFirst_0 : cJ4_unlinkFirst.data.toList.drop 0 = dktJ4_unlinkFirst_0 := by decide +kernel
theorem dksJ4_unlinkFirst_1 : cJ4_unlinkFirst.data.toList.drop 22 = dktJ4_unlinkFirst_1 := dk_seg dksJ4_unlinkFirst_0 22 rfl rfl
theorem dksJ4_unlinkFirst_2 : cJ4_unlinkFirst.data.toList.drop 44 = dktJ4_unlinkFirst_2 := dk_seg dksJ4_unlinkFirst_1 22 rfl rfl
theorem dJ4_unlinkFirst_0 : decode cJ4_unlinkFirst 0 = .ok (.aload_n 1, 1) := dk_43 (dk_at dksJ4_unlinkFirst_0 0 rfl rfl)
theorem dJ4_unlinkFirst_1 : decode cJ4_unlinkFirst 1 = .ok (.getfield 39, 3) := dk_180 0 39 (dk_at dksJ4_unlinkFirst_0 1 rfl rfl)
theorem dJ4_unlinkFirst_4 : decode cJ4_unlinkFirst 4 = .ok (.astore_n 2, 1) := dk_77 (dk_at dksJ4_unlinkFirst_0 4 rfl rfl)
theorem dJ4_unlinkFirst_5 : decode cJ4_unlinkFirst 5 = .ok (.aload_n 1, 1) := dk_43 (dk_at dksJ4_unlinkFirst_0 5 rfl rfl)
theorem dJ4_unlinkFirst_6 : decode cJ4_unlinkFirst 6 = .ok (.getfield 36, 3) := dk_180 0 36 (dk_at dksJ4_unlinkFirst_0 6 rfl rfl)
theorem dJ4_unlinkFirst_9 : decode cJ4_unlinkFirst 9 = .ok (.astore_n 3, 1) := dk_78 (dk_at dksJ4_unlinkFirst_0 9 rfl rfl)
theorem dJ4_unlinkFirst_10 : decode cJ4_unlinkFirst 10 = .ok (.aload_n 1, 1) := dk_43 (dk_at dksJ4_unlinkFirst_0 10 rfl rfl)
theorem dJ4_unlinkFirst_11 : decode cJ4_unlinkFirst 11 = .ok (.aconst_null, 1) := dk_1 (dk_at dksJ4_unlinkFirst_0 11 rfl rfl)
theorem dJ4_unlinkFirst_12 : decode cJ4_unlinkFirst 12 = .ok (.putfield 39, 3) := dk_181 0 39 (dk_at dksJ4_unlinkFirst_0 12 rfl rfl)
theorem dJ4_unlinkFirst_15 : decode cJ4_unlinkFirst 15 = .ok (.aload_n 1, 1) := dk_43 (dk_at dksJ4_unlinkFirst_0 15 rfl rfl)
theorem dJ4_unlinkFirst_16 : decode cJ4_unlinkFirst 16 = .ok (.aconst_null, 1) := dk_1 (dk_at dksJ4_unlinkFirst_0 16 rfl rfl)
theorem dJ4_unlinkFirst_17 : decode cJ4_unlinkFirst 17 = .ok (.putfield 36, 3) := dk_181 0 36 (dk_at dksJ4_unlinkFirst_0 17 rfl rfl)
theorem dJ4_unlinkFirst_20 : decode cJ4_unlinkFirst 20 = .ok (.aload_n 0, 1) := dk_42 (dk_at dksJ4_unlinkFirst_0 20 rfl rfl)
theorem dJ4_unlinkFirst_21 : decode cJ4_unlinkFirst 21 = .ok (.aload_n 3, 1) := dk_45 (dk_at dksJ4_unlinkFirst_0 21 rfl rfl)
theorem dJ4_unlinkFirst_22 : decode cJ4_unlinkFirst 22 = .ok (.putfield 18, 3) := dk_181 0 18 (dk_at dksJ4_unlinkFirst_1 0 rfl rfl)
theorem dJ4_unlinkFirst_25 : decode cJ4_unlinkFirst 25 = .ok (.aload_n 3, 1) := dk_45 (dk_at dksJ4_unlinkFirst_1 3 rfl rfl)
theorem dJ4_unlinkFirst_26 : decode cJ4_unlinkFirst 26 = .ok (.ifnonnull 11, 3) := dk_199 0 11 (dk_at dksJ4_unlinkFirst_1 4 rfl rfl)
theorem dJ4_unlinkFirst_29 : decode cJ4_unlinkFirst 29 = .ok (.aload_n 0, 1) := dk_42 (dk_at dksJ4_unlinkFirst_1 7 rfl rfl)
theorem dJ4_unlinkFirst_30 : decode cJ4_unlinkFirst 30 = .ok (.aconst_null, 1) := dk_1 (dk_at dksJ4_unlinkFirst_1 8 rfl rfl)
theorem dJ4_unlinkFirst_31 : decode cJ4_unlinkFirst 31 = .ok (.putfield 27, 3) := dk_181 0 27 (dk_at dksJ4_unlinkFirst_1 9 rfl rfl)
theorem dJ4_unlinkFirst_34 : decode cJ4_unlinkFirst 34 = .ok (.goto 8, 3) := dk_167 0 8 (dk_at dksJ4_unlinkFirst_1 12 rfl rfl)
theorem dJ4_unlinkFirst_37 : decode cJ4_unlinkFirst 37 = .ok (.aload_n 3, 1) := dk_45 (dk_at dksJ4_unlinkFirst_1 15 rfl rfl)
theorem dJ4_unlinkFirst_38 : decode cJ4_unlinkFirst 38 = .ok (.aconst_null, 1) := dk_1 (dk_at dksJ4_unlinkFirst_1 16 rfl rfl)
theorem dJ4_unlinkFirst_39 : decode cJ4_unlinkFirst 39 = .ok (.putfield 30, 3) := dk_181 0 30 (dk_at dksJ4_unlinkFirst_1 17 rfl rfl)
theorem dJ4_unlinkFirst_42 : decode cJ4_unlinkFirst 42 = .ok (.aload_n 0, 1) := dk_42 (dk_at dksJ4_unlinkFirst_1 20 rfl rfl)
theorem dJ4_unlinkFirst_43 : decode cJ4_unlinkFirst 43 = .ok (.dup, 1) := dk_89 (dk_at dksJ4_unlinkFirst_1 21 rfl rfl)
theorem dJ4_unlinkFirst_44 : decode cJ4_unlinkFirst 44 = .ok (.getfield 7, 3) := dk_180 0 7 (dk_at dksJ4_unlinkFirst_2 0 rfl rfl)
theorem dJ4_unlinkFirst_47 : decode cJ4_unlinkFirst 47 = .ok (.iconst 1, 1) := dk_4 (dk_at dksJ4_unlinkFirst_2 3 rfl rfl)
theorem dJ4_unlinkFirst_48 : decode cJ4_unlinkFirst 48 = .ok (.isub, 1) := dk_100 (dk_at dksJ4_unlinkFirst_2 4 rfl rfl)
theorem dJ4_unlinkFirst_49 : decode cJ4_unlinkFirst 49 = .ok (.putfield 7, 3) := dk_181 0 7 (dk_at dksJ4_unlinkFirst_2 5 rfl rfl)
theorem dJ4_unlinkFirst_52 : decode cJ4_unlinkFirst 52 = .ok (.aload_n 0, 1) := dk_42 (dk_at dksJ4_unlinkFirst_2 8 rfl rfl)
theorem dJ4_unlinkFirst_53 : decode cJ4_unlinkFirst 53 = .ok (.dup, 1) := dk_89 (dk_at dksJ4_unlinkFirst_2 9 rfl rfl)
theorem dJ4_unlinkFirst_54 : decode cJ4_unlinkFirst 54 = .ok (.getfield 33, 3) := dk_180 0 33 (dk_at dksJ4_unlinkFirst_2 10 rfl rfl)
theorem dJ4_unlinkFirst_57 : decode cJ4_unlinkFirst 57 = .ok (.iconst 1, 1) := dk_4 (dk_at dksJ4_unlinkFirst_2 13 rfl rfl)
theorem dJ4_unlinkFirst_58 : decode cJ4_unlinkFirst 58 = .ok (.iadd, 1) := dk_96 (dk_at dksJ4_unlinkFirst_2 14 rfl rfl)
theorem dJ4_unlinkFirst_59 : decode cJ4_unlinkFirst 59 = .ok (.putfield 33, 3) := dk_181 0 33 (dk_at dksJ4_unlinkFirst_2 15 rfl rfl)
theorem dJ4_unlinkFirst_62 : decode cJ4_unlinkFirst 62 = .ok (.aload_n 2, 1) := dk_44 (dk_at dksJ4_unlinkFirst_2 18 rfl rfl)
theorem dJ4_unlinkFirst_63 : decode cJ4_unlinkFirst 63 = .ok (.areturn, 1) := dk_176 (dk_at dksJ4_unlinkFirst_2 19 rfl rfl)
abbrev cJ4_remove : ByteArray := prog_62_method_25_code
def yJ4_remove : MethodName := ⟨RJ4, "remove", "(I)Ljava/lang/Object;"⟩
def dkwJ4_remove_0 : List UInt8 := [42, 27, 182, 0, 90, 42, 42, 27, 182, 0, 86, 182, 0, 64, 176]
abbrev dktJ4_remove_0 : List UInt8 := dkwJ4_remove_0 ++ []
theorem dksJ4_remove_0 : cJ4_remove.data.toList.drop 0 = dktJ4_remove_0 := by decide +kernel
theorem dJ4_remove_0 : decode cJ4_remove 0 = .ok (.aload_n 0, 1) := dk_42 (dk_at dksJ4_remove_0 0 rfl rfl)
theorem dJ4_remove_1 : decode cJ4_remove 1 = .ok (.iload_n 1, 1) := dk_27 (dk_at dksJ4_remove_0 1 rfl rfl)
theorem dJ4_remove_2 : decode cJ4_remove 2 = .ok (.invokevirtual 90, 3) := dk_182 0 90 (dk_at dksJ4_remove_0 2 rfl rfl)
theorem dJ4_remove_5 : decode cJ4_remove 5 = .ok (.aload_n 0, 1) := dk_42 (dk_at dksJ4_remove_0 5 rfl rfl)
theorem dJ4_remove_6 : decode cJ4_remove 6 = .ok (.aload_n 0, 1) := dk_42 (dk_at dksJ4_remove_0 6 rfl rfl)
theorem dJ4_remove_7 : decode cJ4_remove 7 = .ok (.iload_n 1, 1) := dk_27 (dk_at dksJ4_remove_0 7 rfl rfl)
theorem dJ4_remove_8 : decode cJ4_remove 8 = .ok (.invokevirtual 86, 3) := dk_182 0 86 (dk_at dksJ4_remove_0 8 rfl rfl)
theorem dJ4_remove_11 : decode cJ4_remove 11 = .ok (.invokevirtual 64, 3) := dk_182 0 64 (dk_at dksJ4_remove_0 11 rfl rfl)
theorem dJ4_remove_14 : decode cJ4_remove 14 = .ok (.areturn, 1) := dk_176 (dk_at dksJ4_remove_0 14 rfl rfl)
abbrev cJ4_unlink : ByteArray := prog_62_method_8_code
def yJ4_unlink : MethodName := ⟨RJ4, "unlink", "(Ljava/util/LinkedList$Node;)Ljava/lang/Object;"⟩
def dkwJ4_unlink_3 : List UInt8 := [180, 0, 7, 4, 100, 181, 0, 7, 42, 89, 180, 0, 33, 4, 96, 181, 0, 33, 44, 176]
abbrev dktJ4_unlink_3 : List UInt8 := dkwJ4_unlink_3 ++ []
def dkwJ4_unlink_2 : List UInt8 := [181, 0, 27, 167, 0, 14, 45, 25, 4, 181, 0, 30, 43, 1, 181, 0, 36, 43, 1, 181, 0, 39, 42, 89]
abbrev dktJ4_unlink_2 : List UInt8 := dkwJ4_unlink_2 ++ dktJ4_unlink_3
def dkwJ4_unlink_1 : List UInt8 := [181, 0, 18, 167, 0, 14, 25, 4, 45, 181, 0, 36, 43, 1, 181, 0, 30, 45, 199, 0, 12, 42, 25, 4]
abbrev dktJ4_unlink_1 : List UInt8 := dkwJ4_unlink_1 ++ dktJ4_unlink_2
def dkwJ4_unlink_0 : List UInt8 := [43, 180, 0, 39, 77, 43, 180, 0, 36, 78, 43, 180, 0, 30, 58, 4, 25, 4, 199, 0, 11, 42, 45]
abbrev dktJ4_unlink_0 : List UInt8 := dkwJ4_unlink_0 ++ dktJ4_unlink_1
theorem dksJ4_unlink_0 : cJ4_unlink.data.toList.drop 0 = dktJ4_unlink_0 := by decide +kernel
theorem dksJ4_unlink_1 : cJ4_unlink.data.toList.drop 23 = dktJ4_unlink_1 := dk_seg dksJ4_unlink_0 23 rfl rfl
theorem dksJ4_unlink_2 : cJ4_unlink.data.toList.drop 47 = dktJ4_unlink_2 := dk_seg dksJ4_unlink_1 24 rfl rfl
theorem dksJ4_unlink_3 : cJ4_unlink.data.toList.drop 71 = dktJ4_unlink_3 := dk_seg dksJ4_unlink_2 24 rfl rfl
theorem dJ4_unlink_0 : decode cJ4_unlink 0 = .ok (.aload_n 1, 1) := dk_43 (dk_at dksJ4_unlink_0 0 rfl rfl)
theorem dJ4_unlink_1 : decode cJ4_unlink 1 = .ok (.getfield 39, 3) := dk_180 0 39 (dk_at dksJ4_unlink_0 1 rfl rfl)
theorem dJ4_unlink_4 : decode cJ4_unlink 4 = .ok (.astore_n 2, 1) := dk_77 (dk_at dksJ4_unlink_0 4 rfl rfl)
theorem dJ4_unlink_5 : decode cJ4_unlink 5 = .ok (.aload_n 1, 1) := dk_43 (dk_at dksJ4_unlink_0 5 rfl rfl)
theorem dJ4_unlink_6 : decode cJ4_unlink 6 = .ok (.getfield 36, 3) := dk_180 0 36 (dk_at dksJ4_unlink_0 6 rfl rfl)
theorem dJ4_unlink_9 : decode cJ4_unlink 9 = .ok (.astore_n 3, 1) := dk_78 (dk_at dksJ4_unlink_0 9 rfl rfl)
theorem dJ4_unlink_10 : decode cJ4_unlink 10 = .ok (.aload_n 1, 1) := dk_43 (dk_at dksJ4_unlink_0 10 rfl rfl)
theorem dJ4_unlink_11 : decode cJ4_unlink 11 = .ok (.getfield 30, 3) := dk_180 0 30 (dk_at dksJ4_unlink_0 11 rfl rfl)
theorem dJ4_unlink_14 : decode cJ4_unlink 14 = .ok (.astore 4, 2) := dk_58 4 (dk_at dksJ4_unlink_0 14 rfl rfl)
theorem dJ4_unlink_16 : decode cJ4_unlink 16 = .ok (.aload 4, 2) := dk_25 4 (dk_at dksJ4_unlink_0 16 rfl rfl)
theorem dJ4_unlink_18 : decode cJ4_unlink 18 = .ok (.ifnonnull 11, 3) := dk_199 0 11 (dk_at dksJ4_unlink_0 18 rfl rfl)
theorem dJ4_unlink_21 : decode cJ4_unlink 21 = .ok (.aload_n 0, 1) := dk_42 (dk_at dksJ4_unlink_0 21 rfl rfl)
theorem dJ4_unlink_22 : decode cJ4_unlink 22 = .ok (.aload_n 3, 1) := dk_45 (dk_at dksJ4_unlink_0 22 rfl rfl)
theorem dJ4_unlink_23 : decode cJ4_unlink 23 = .ok (.putfield 18, 3) := dk_181 0 18 (dk_at dksJ4_unlink_1 0 rfl rfl)
theorem dJ4_unlink_26 : decode cJ4_unlink 26 = .ok (.goto 14, 3) := dk_167 0 14 (dk_at dksJ4_unlink_1 3 rfl rfl)
theorem dJ4_unlink_29 : decode cJ4_unlink 29 = .ok (.aload 4, 2) := dk_25 4 (dk_at dksJ4_unlink_1 6 rfl rfl)
theorem dJ4_unlink_31 : decode cJ4_unlink 31 = .ok (.aload_n 3, 1) := dk_45 (dk_at dksJ4_unlink_1 8 rfl rfl)
theorem dJ4_unlink_32 : decode cJ4_unlink 32 = .ok (.putfield 36, 3) := dk_181 0 36 (dk_at dksJ4_unlink_1 9 rfl rfl)
theorem dJ4_unlink_35 : decode cJ4_unlink 35 = .ok (.aload_n 1, 1) := dk_43 (dk_at dksJ4_unlink_1 12 rfl rfl)
theorem dJ4_unlink_36 : decode cJ4_unlink 36 = .ok (.aconst_null, 1) := dk_1 (dk_at dksJ4_unlink_1 13 rfl rfl)
theorem dJ4_unlink_37 : decode cJ4_unlink 37 = .ok (.putfield 30, 3) := dk_181 0 30 (dk_at dksJ4_unlink_1 14 rfl rfl)
theorem dJ4_unlink_40 : decode cJ4_unlink 40 = .ok (.aload_n 3, 1) := dk_45 (dk_at dksJ4_unlink_1 17 rfl rfl)
theorem dJ4_unlink_41 : decode cJ4_unlink 41 = .ok (.ifnonnull 12, 3) := dk_199 0 12 (dk_at dksJ4_unlink_1 18 rfl rfl)
theorem dJ4_unlink_44 : decode cJ4_unlink 44 = .ok (.aload_n 0, 1) := dk_42 (dk_at dksJ4_unlink_1 21 rfl rfl)
theorem dJ4_unlink_45 : decode cJ4_unlink 45 = .ok (.aload 4, 2) := dk_25 4 (dk_at dksJ4_unlink_1 22 rfl rfl)
theorem dJ4_unlink_47 : decode cJ4_unlink 47 = .ok (.putfield 27, 3) := dk_181 0 27 (dk_at dksJ4_unlink_2 0 rfl rfl)
theorem dJ4_unlink_50 : decode cJ4_unlink 50 = .ok (.goto 14, 3) := dk_167 0 14 (dk_at dksJ4_unlink_2 3 rfl rfl)
theorem dJ4_unlink_53 : decode cJ4_unlink 53 = .ok (.aload_n 3, 1) := dk_45 (dk_at dksJ4_unlink_2 6 rfl rfl)
theorem dJ4_unlink_54 : decode cJ4_unlink 54 = .ok (.aload 4, 2) := dk_25 4 (dk_at dksJ4_unlink_2 7 rfl rfl)
theorem dJ4_unlink_56 : decode cJ4_unlink 56 = .ok (.putfield 30, 3) := dk_181 0 30 (dk_at dksJ4_unlink_2 9 rfl rfl)
theorem dJ4_unlink_59 : decode cJ4_unlink 59 = .ok (.aload_n 1, 1) := dk_43 (dk_at dksJ4_unlink_2 12 rfl rfl)
theorem dJ4_unlink_60 : decode cJ4_unlink 60 = .ok (.aconst_null, 1) := dk_1 (dk_at dksJ4_unlink_2 13 rfl rfl)
theorem dJ4_unlink_61 : decode cJ4_unlink 61 = .ok (.putfield 36, 3) := dk_181 0 36 (dk_at dksJ4_unlink_2 14 rfl rfl)
theorem dJ4_unlink_64 : decode cJ4_unlink 64 = .ok (.aload_n 1, 1) := dk_43 (dk_at dksJ4_unlink_2 17 rfl rfl)
theorem dJ4_unlink_65 : decode cJ4_unlink 65 = .ok (.aconst_null, 1) := dk_1 (dk_at dksJ4_unlink_2 18 rfl rfl)
theorem dJ4_unlink_66 : decode cJ4_unlink 66 = .ok (.putfield 39, 3) := dk_181 0 39 (dk_at dksJ4_unlink_2 19 rfl rfl)
theorem dJ4_unlink_69 : decode cJ4_unlink 69 = .ok (.aload_n 0, 1) := dk_42 (dk_at dksJ4_unlink_2 22 rfl rfl)
theorem dJ4_unlink_70 : decode cJ4_unlink 70 = .ok (.dup, 1) := dk_89 (dk_at dksJ4_unlink_2 23 rfl rfl)
theorem dJ4_unlink_71 : decode cJ4_unlink 71 = .ok (.getfield 7, 3) := dk_180 0 7 (dk_at dksJ4_unlink_3 0 rfl rfl)
theorem dJ4_unlink_74 : decode cJ4_unlink 74 = .ok (.iconst 1, 1) := dk_4 (dk_at dksJ4_unlink_3 3 rfl rfl)
theorem dJ4_unlink_75 : decode cJ4_unlink 75 = .ok (.isub, 1) := dk_100 (dk_at dksJ4_unlink_3 4 rfl rfl)
theorem dJ4_unlink_76 : decode cJ4_unlink 76 = .ok (.putfield 7, 3) := dk_181 0 7 (dk_at dksJ4_unlink_3 5 rfl rfl)
theorem dJ4_unlink_79 : decode cJ4_unlink 79 = .ok (.aload_n 0, 1) := dk_42 (dk_at dksJ4_unlink_3 8 rfl rfl)
theorem dJ4_unlink_80 : decode cJ4_unlink 80 = .ok (.dup, 1) := dk_89 (dk_at dksJ4_unlink_3 9 rfl rfl)
theorem dJ4_unlink_81 : decode cJ4_unlink 81 = .ok (.getfield 33, 3) := dk_180 0 33 (dk_at dksJ4_unlink_3 10 rfl rfl)
theorem dJ4_unlink_84 : decode cJ4_unlink 84 = .ok (.iconst 1, 1) := dk_4 (dk_at dksJ4_unlink_3 13 rfl rfl)
theorem dJ4_unlink_85 : decode cJ4_unlink 85 = .ok (.iadd, 1) := dk_96 (dk_at dksJ4_unlink_3 14 rfl rfl)
theorem dJ4_unlink_86 : decode cJ4_unlink 86 = .ok (.putfield 33, 3) := dk_181 0 33 (dk_at dksJ4_unlink_3 15 rfl rfl)
theorem dJ4_unlink_89 : decode cJ4_unlink 89 = .ok (.aload_n 2, 1) := dk_44 (dk_at dksJ4_unlink_3 18 rfl rfl)
theorem dJ4_unlink_90 : decode cJ4_unlink 90 = .ok (.areturn, 1) := dk_176 (dk_at dksJ4_unlink_3 19 rfl rfl)
abbrev cJ4_set : ByteArray := prog_62_method_23_code
def yJ4_set : MethodName := ⟨RJ4, "set", "(ILjava/lang/Object;)Ljava/lang/Object;"⟩
def dkwJ4_set_1 : List UInt8 := [176]
abbrev dktJ4_set_1 : List UInt8 := dkwJ4_set_1 ++ []
def dkwJ4_set_0 : List UInt8 := [42, 27, 182, 0, 90, 42, 27, 182, 0, 86, 78, 45, 180, 0, 39, 58, 4, 45, 44, 181, 0, 39, 25, 4]
abbrev dktJ4_set_0 : List UInt8 := dkwJ4_set_0 ++ dktJ4_set_1
theorem dksJ4_set_0 : cJ4_set.data.toList.drop 0 = dktJ4_set_0 := by decide +kernel
theorem dksJ4_set_1 : cJ4_set.data.toList.drop 24 = dktJ4_set_1 := dk_seg dksJ4_set_0 24 rfl rfl
theorem dJ4_set_0 : decode cJ4_set 0 = .ok (.aload_n 0, 1) := dk_42 (dk_at dksJ4_set_0 0 rfl rfl)
theorem dJ4_set_1 : decode cJ4_set 1 = .ok (.iload_n 1, 1) := dk_27 (dk_at dksJ4_set_0 1 rfl rfl)
theorem dJ4_set_2 : decode cJ4_set 2 = .ok (.invokevirtual 90, 3) := dk_182 0 90 (dk_at dksJ4_set_0 2 rfl rfl)
theorem dJ4_set_5 : decode cJ4_set 5 = .ok (.aload_n 0, 1) := dk_42 (dk_at dksJ4_set_0 5 rfl rfl)
theorem dJ4_set_6 : decode cJ4_set 6 = .ok (.iload_n 1, 1) := dk_27 (dk_at dksJ4_set_0 6 rfl rfl)
theorem dJ4_set_7 : decode cJ4_set 7 = .ok (.invokevirtual 86, 3) := dk_182 0 86 (dk_at dksJ4_set_0 7 rfl rfl)
theorem dJ4_set_10 : decode cJ4_set 10 = .ok (.astore_n 3, 1) := dk_78 (dk_at dksJ4_set_0 10 rfl rfl)
theorem dJ4_set_11 : decode cJ4_set 11 = .ok (.aload_n 3, 1) := dk_45 (dk_at dksJ4_set_0 11 rfl rfl)
theorem dJ4_set_12 : decode cJ4_set 12 = .ok (.getfield 39, 3) := dk_180 0 39 (dk_at dksJ4_set_0 12 rfl rfl)
theorem dJ4_set_15 : decode cJ4_set 15 = .ok (.astore 4, 2) := dk_58 4 (dk_at dksJ4_set_0 15 rfl rfl)
theorem dJ4_set_17 : decode cJ4_set 17 = .ok (.aload_n 3, 1) := dk_45 (dk_at dksJ4_set_0 17 rfl rfl)
theorem dJ4_set_18 : decode cJ4_set 18 = .ok (.aload_n 2, 1) := dk_44 (dk_at dksJ4_set_0 18 rfl rfl)
theorem dJ4_set_19 : decode cJ4_set 19 = .ok (.putfield 39, 3) := dk_181 0 39 (dk_at dksJ4_set_0 19 rfl rfl)
theorem dJ4_set_22 : decode cJ4_set 22 = .ok (.aload 4, 2) := dk_25 4 (dk_at dksJ4_set_0 22 rfl rfl)
theorem dJ4_set_24 : decode cJ4_set 24 = .ok (.areturn, 1) := dk_176 (dk_at dksJ4_set_1 0 rfl rfl)
abbrev cJ4_add : ByteArray := prog_62_method_24_code
def yJ4_add : MethodName := ⟨RJ4, "add", "(ILjava/lang/Object;)V"⟩
def dkwJ4_add_1 : List UInt8 := [27, 182, 0, 86, 182, 0, 93, 177]
abbrev dktJ4_add_1 : List UInt8 := dkwJ4_add_1 ++ []
def dkwJ4_add_0 : List UInt8 := [42, 27, 182, 0, 76, 27, 42, 180, 0, 7, 160, 0, 11, 42, 44, 182, 0, 57, 167, 0, 13, 42, 44, 42]
abbrev dktJ4_add_0 : List UInt8 := dkwJ4_add_0 ++ dktJ4_add_1
theorem dksJ4_add_0 : cJ4_add.data.toList.drop 0 = dktJ4_add_0 := by decide +kernel
theorem dksJ4_add_1 : cJ4_add.data.toList.drop 24 = dktJ4_add_1 := dk_seg dksJ4_add_0 24 rfl rfl
theorem dJ4_add_0 : decode cJ4_add 0 = .ok (.aload_n 0, 1) := dk_42 (dk_at dksJ4_add_0 0 rfl rfl)
theorem dJ4_add_1 : decode cJ4_add 1 = .ok (.iload_n 1, 1) := dk_27 (dk_at dksJ4_add_0 1 rfl rfl)
theorem dJ4_add_2 : decode cJ4_add 2 = .ok (.invokevirtual 76, 3) := dk_182 0 76 (dk_at dksJ4_add_0 2 rfl rfl)
theorem dJ4_add_5 : decode cJ4_add 5 = .ok (.iload_n 1, 1) := dk_27 (dk_at dksJ4_add_0 5 rfl rfl)
theorem dJ4_add_6 : decode cJ4_add 6 = .ok (.aload_n 0, 1) := dk_42 (dk_at dksJ4_add_0 6 rfl rfl)
theorem dJ4_add_7 : decode cJ4_add 7 = .ok (.getfield 7, 3) := dk_180 0 7 (dk_at dksJ4_add_0 7 rfl rfl)
theorem dJ4_add_10 : decode cJ4_add 10 = .ok (.if_icmp .ne 11, 3) := dk_160 0 11 (dk_at dksJ4_add_0 10 rfl rfl)
theorem dJ4_add_13 : decode cJ4_add 13 = .ok (.aload_n 0, 1) := dk_42 (dk_at dksJ4_add_0 13 rfl rfl)
theorem dJ4_add_14 : decode cJ4_add 14 = .ok (.aload_n 2, 1) := dk_44 (dk_at dksJ4_add_0 14 rfl rfl)
theorem dJ4_add_15 : decode cJ4_add 15 = .ok (.invokevirtual 57, 3) := dk_182 0 57 (dk_at dksJ4_add_0 15 rfl rfl)
theorem dJ4_add_18 : decode cJ4_add 18 = .ok (.goto 13, 3) := dk_167 0 13 (dk_at dksJ4_add_0 18 rfl rfl)
theorem dJ4_add_21 : decode cJ4_add 21 = .ok (.aload_n 0, 1) := dk_42 (dk_at dksJ4_add_0 21 rfl rfl)
theorem dJ4_add_22 : decode cJ4_add 22 = .ok (.aload_n 2, 1) := dk_44 (dk_at dksJ4_add_0 22 rfl rfl)
theorem dJ4_add_23 : decode cJ4_add 23 = .ok (.aload_n 0, 1) := dk_42 (dk_at dksJ4_add_0 23 rfl rfl)
theorem dJ4_add_24 : decode cJ4_add 24 = .ok (.iload_n 1, 1) := dk_27 (dk_at dksJ4_add_1 0 rfl rfl)
theorem dJ4_add_25 : decode cJ4_add 25 = .ok (.invokevirtual 86, 3) := dk_182 0 86 (dk_at dksJ4_add_1 1 rfl rfl)
theorem dJ4_add_28 : decode cJ4_add 28 = .ok (.invokevirtual 93, 3) := dk_182 0 93 (dk_at dksJ4_add_1 4 rfl rfl)
theorem dJ4_add_31 : decode cJ4_add 31 = .ok (.return_, 1) := dk_177 (dk_at dksJ4_add_1 7 rfl rfl)
abbrev cJ4_linkBefore : ByteArray := prog_62_method_5_code
def yJ4_linkBefore : MethodName := ⟨RJ4, "linkBefore", "(Ljava/lang/Object;Ljava/util/LinkedList$Node;)V"⟩
def dkwJ4_linkBefore_2 : List UInt8 := [96, 181, 0, 7, 42, 89, 180, 0, 33, 4, 96, 181, 0, 33, 177]
abbrev dktJ4_linkBefore_2 : List UInt8 := dkwJ4_linkBefore_2 ++ []
def dkwJ4_linkBefore_1 : List UInt8 := [199, 0, 12, 42, 25, 4, 181, 0, 18, 167, 0, 9, 45, 25, 4, 181, 0, 36, 42, 89, 180, 0, 7, 4]
abbrev dktJ4_linkBefore_1 : List UInt8 := dkwJ4_linkBefore_1 ++ dktJ4_linkBefore_2
def dkwJ4_linkBefore_0 : List UInt8 := [44, 180, 0, 30, 78, 187, 0, 22, 89, 45, 43, 44, 183, 0, 24, 58, 4, 44, 25, 4, 181, 0, 30, 45]
abbrev dktJ4_linkBefore_0 : List UInt8 := dkwJ4_linkBefore_0 ++ dktJ4_linkBefore_1
theorem dksJ4_linkBefore_0 : cJ4_linkBefore.data.toList.drop 0 = dktJ4_linkBefore_0 := by decide +kernel
theorem dksJ4_linkBefore_1 : cJ4_linkBefore.data.toList.drop 24 = dktJ4_linkBefore_1 := dk_seg dksJ4_linkBefore_0 24 rfl rfl
theorem dksJ4_linkBefore_2 : cJ4_linkBefore.data.toList.drop 48 = dktJ4_linkBefore_2 := dk_seg dksJ4_linkBefore_1 24 rfl rfl
theorem dJ4_linkBefore_0 : decode cJ4_linkBefore 0 = .ok (.aload_n 2, 1) := dk_44 (dk_at dksJ4_linkBefore_0 0 rfl rfl)
theorem dJ4_linkBefore_1 : decode cJ4_linkBefore 1 = .ok (.getfield 30, 3) := dk_180 0 30 (dk_at dksJ4_linkBefore_0 1 rfl rfl)
theorem dJ4_linkBefore_4 : decode cJ4_linkBefore 4 = .ok (.astore_n 3, 1) := dk_78 (dk_at dksJ4_linkBefore_0 4 rfl rfl)
theorem dJ4_linkBefore_5 : decode cJ4_linkBefore 5 = .ok (.new 22, 3) := dk_187 0 22 (dk_at dksJ4_linkBefore_0 5 rfl rfl)
theorem dJ4_linkBefore_8 : decode cJ4_linkBefore 8 = .ok (.dup, 1) := dk_89 (dk_at dksJ4_linkBefore_0 8 rfl rfl)
theorem dJ4_linkBefore_9 : decode cJ4_linkBefore 9 = .ok (.aload_n 3, 1) := dk_45 (dk_at dksJ4_linkBefore_0 9 rfl rfl)
theorem dJ4_linkBefore_10 : decode cJ4_linkBefore 10 = .ok (.aload_n 1, 1) := dk_43 (dk_at dksJ4_linkBefore_0 10 rfl rfl)
theorem dJ4_linkBefore_11 : decode cJ4_linkBefore 11 = .ok (.aload_n 2, 1) := dk_44 (dk_at dksJ4_linkBefore_0 11 rfl rfl)
theorem dJ4_linkBefore_12 : decode cJ4_linkBefore 12 = .ok (.invokespecial 24, 3) := dk_183 0 24 (dk_at dksJ4_linkBefore_0 12 rfl rfl)
theorem dJ4_linkBefore_15 : decode cJ4_linkBefore 15 = .ok (.astore 4, 2) := dk_58 4 (dk_at dksJ4_linkBefore_0 15 rfl rfl)
theorem dJ4_linkBefore_17 : decode cJ4_linkBefore 17 = .ok (.aload_n 2, 1) := dk_44 (dk_at dksJ4_linkBefore_0 17 rfl rfl)
theorem dJ4_linkBefore_18 : decode cJ4_linkBefore 18 = .ok (.aload 4, 2) := dk_25 4 (dk_at dksJ4_linkBefore_0 18 rfl rfl)
theorem dJ4_linkBefore_20 : decode cJ4_linkBefore 20 = .ok (.putfield 30, 3) := dk_181 0 30 (dk_at dksJ4_linkBefore_0 20 rfl rfl)
theorem dJ4_linkBefore_23 : decode cJ4_linkBefore 23 = .ok (.aload_n 3, 1) := dk_45 (dk_at dksJ4_linkBefore_0 23 rfl rfl)
theorem dJ4_linkBefore_24 : decode cJ4_linkBefore 24 = .ok (.ifnonnull 12, 3) := dk_199 0 12 (dk_at dksJ4_linkBefore_1 0 rfl rfl)
theorem dJ4_linkBefore_27 : decode cJ4_linkBefore 27 = .ok (.aload_n 0, 1) := dk_42 (dk_at dksJ4_linkBefore_1 3 rfl rfl)
theorem dJ4_linkBefore_28 : decode cJ4_linkBefore 28 = .ok (.aload 4, 2) := dk_25 4 (dk_at dksJ4_linkBefore_1 4 rfl rfl)
theorem dJ4_linkBefore_30 : decode cJ4_linkBefore 30 = .ok (.putfield 18, 3) := dk_181 0 18 (dk_at dksJ4_linkBefore_1 6 rfl rfl)
theorem dJ4_linkBefore_33 : decode cJ4_linkBefore 33 = .ok (.goto 9, 3) := dk_167 0 9 (dk_at dksJ4_linkBefore_1 9 rfl rfl)
theorem dJ4_linkBefore_36 : decode cJ4_linkBefore 36 = .ok (.aload_n 3, 1) := dk_45 (dk_at dksJ4_linkBefore_1 12 rfl rfl)
theorem dJ4_linkBefore_37 : decode cJ4_linkBefore 37 = .ok (.aload 4, 2) := dk_25 4 (dk_at dksJ4_linkBefore_1 13 rfl rfl)
theorem dJ4_linkBefore_39 : decode cJ4_linkBefore 39 = .ok (.putfield 36, 3) := dk_181 0 36 (dk_at dksJ4_linkBefore_1 15 rfl rfl)
theorem dJ4_linkBefore_42 : decode cJ4_linkBefore 42 = .ok (.aload_n 0, 1) := dk_42 (dk_at dksJ4_linkBefore_1 18 rfl rfl)
theorem dJ4_linkBefore_43 : decode cJ4_linkBefore 43 = .ok (.dup, 1) := dk_89 (dk_at dksJ4_linkBefore_1 19 rfl rfl)
theorem dJ4_linkBefore_44 : decode cJ4_linkBefore 44 = .ok (.getfield 7, 3) := dk_180 0 7 (dk_at dksJ4_linkBefore_1 20 rfl rfl)
theorem dJ4_linkBefore_47 : decode cJ4_linkBefore 47 = .ok (.iconst 1, 1) := dk_4 (dk_at dksJ4_linkBefore_1 23 rfl rfl)
theorem dJ4_linkBefore_48 : decode cJ4_linkBefore 48 = .ok (.iadd, 1) := dk_96 (dk_at dksJ4_linkBefore_2 0 rfl rfl)
theorem dJ4_linkBefore_49 : decode cJ4_linkBefore 49 = .ok (.putfield 7, 3) := dk_181 0 7 (dk_at dksJ4_linkBefore_2 1 rfl rfl)
theorem dJ4_linkBefore_52 : decode cJ4_linkBefore 52 = .ok (.aload_n 0, 1) := dk_42 (dk_at dksJ4_linkBefore_2 4 rfl rfl)
theorem dJ4_linkBefore_53 : decode cJ4_linkBefore 53 = .ok (.dup, 1) := dk_89 (dk_at dksJ4_linkBefore_2 5 rfl rfl)
theorem dJ4_linkBefore_54 : decode cJ4_linkBefore 54 = .ok (.getfield 33, 3) := dk_180 0 33 (dk_at dksJ4_linkBefore_2 6 rfl rfl)
theorem dJ4_linkBefore_57 : decode cJ4_linkBefore 57 = .ok (.iconst 1, 1) := dk_4 (dk_at dksJ4_linkBefore_2 9 rfl rfl)
theorem dJ4_linkBefore_58 : decode cJ4_linkBefore 58 = .ok (.iadd, 1) := dk_96 (dk_at dksJ4_linkBefore_2 10 rfl rfl)
theorem dJ4_linkBefore_59 : decode cJ4_linkBefore 59 = .ok (.putfield 33, 3) := dk_181 0 33 (dk_at dksJ4_linkBefore_2 11 rfl rfl)
theorem dJ4_linkBefore_62 : decode cJ4_linkBefore 62 = .ok (.return_, 1) := dk_177 (dk_at dksJ4_linkBefore_2 14 rfl rfl)
abbrev cJ4_contains : ByteArray := prog_62_method_15_code
def yJ4_contains : MethodName := ⟨RJ4, "contains", "(Ljava/lang/Object;)Z"⟩
def dkwJ4_contains_0 : List UInt8 := [42, 43, 182, 0, 60, 155, 0, 7, 4, 167, 0, 4, 3, 172]
abbrev dktJ4_contains_0 : List UInt8 := dkwJ4_contains_0 ++ []
theorem dksJ4_contains_0 : cJ4_contains.data.toList.drop 0 = dktJ4_contains_0 := by decide +kernel
theorem dJ4_contains_0 : decode cJ4_contains 0 = .ok (.aload_n 0, 1) := dk_42 (dk_at dksJ4_contains_0 0 rfl rfl)
theorem dJ4_contains_1 : decode cJ4_contains 1 = .ok (.aload_n 1, 1) := dk_43 (dk_at dksJ4_contains_0 1 rfl rfl)
theorem dJ4_contains_2 : decode cJ4_contains 2 = .ok (.invokevirtual 60, 3) := dk_182 0 60 (dk_at dksJ4_contains_0 2 rfl rfl)
theorem dJ4_contains_5 : decode cJ4_contains 5 = .ok (.ifCond .lt 7, 3) := dk_155 0 7 (dk_at dksJ4_contains_0 5 rfl rfl)
theorem dJ4_contains_8 : decode cJ4_contains 8 = .ok (.iconst 1, 1) := dk_4 (dk_at dksJ4_contains_0 8 rfl rfl)
theorem dJ4_contains_9 : decode cJ4_contains 9 = .ok (.goto 4, 3) := dk_167 0 4 (dk_at dksJ4_contains_0 9 rfl rfl)
theorem dJ4_contains_12 : decode cJ4_contains 12 = .ok (.iconst 0, 1) := dk_3 (dk_at dksJ4_contains_0 12 rfl rfl)
theorem dJ4_contains_13 : decode cJ4_contains 13 = .ok (.ireturn, 1) := dk_172 (dk_at dksJ4_contains_0 13 rfl rfl)
abbrev cJ4_indexOf : ByteArray := prog_62_method_32_code
def yJ4_indexOf : MethodName := ⟨RJ4, "indexOf", "(Ljava/lang/Object;)I"⟩
def dkwJ4_indexOf_3 : List UInt8 := [172]
abbrev dktJ4_indexOf_3 : List UInt8 := dkwJ4_indexOf_3 ++ []
def dkwJ4_indexOf_2 : List UInt8 := [45, 180, 0, 39, 182, 0, 67, 153, 0, 5, 28, 172, 132, 2, 1, 45, 180, 0, 36, 78, 167, 255, 231, 2]
abbrev dktJ4_indexOf_2 : List UInt8 := dkwJ4_indexOf_2 ++ dktJ4_indexOf_3
def dkwJ4_indexOf_1 : List UInt8 := [132, 2, 1, 45, 180, 0, 36, 78, 167, 255, 235, 167, 0, 36, 42, 180, 0, 18, 78, 45, 198, 0, 27, 43]
abbrev dktJ4_indexOf_1 : List UInt8 := dkwJ4_indexOf_1 ++ dktJ4_indexOf_2
def dkwJ4_indexOf_0 : List UInt8 := [3, 61, 43, 199, 0, 35, 42, 180, 0, 18, 78, 45, 198, 0, 23, 45, 180, 0, 39, 199, 0, 5, 28, 172]
abbrev dktJ4_indexOf_0 : List UInt8 := dkwJ4_indexOf_0 ++ dktJ4_indexOf_1
theorem dksJ4_indexOf_0 : cJ4_indexOf.data.toList.drop 0 = dktJ4_indexOf_0 := by decide +kernel
theorem dksJ4_indexOf_1 : cJ4_indexOf.data.toList.drop 24 = dktJ4_indexOf_1 := dk_seg dksJ4_indexOf_0 24 rfl rfl
theorem dksJ4_indexOf_2 : cJ4_indexOf.data.toList.drop 48 = dktJ4_indexOf_2 := dk_seg dksJ4_indexOf_1 24 rfl rfl
theorem dksJ4_indexOf_3 : cJ4_indexOf.data.toList.drop 72 = dktJ4_indexOf_3 := dk_seg dksJ4_indexOf_2 24 rfl rfl
theorem dJ4_indexOf_0 : decode cJ4_indexOf 0 = .ok (.iconst 0, 1) := dk_3 (dk_at dksJ4_indexOf_0 0 rfl rfl)
theorem dJ4_indexOf_1 : decode cJ4_indexOf 1 = .ok (.istore_n 2, 1) := dk_61 (dk_at dksJ4_indexOf_0 1 rfl rfl)
theorem dJ4_indexOf_2 : decode cJ4_indexOf 2 = .ok (.aload_n 1, 1) := dk_43 (dk_at dksJ4_indexOf_0 2 rfl rfl)
theorem dJ4_indexOf_3 : decode cJ4_indexOf 3 = .ok (.ifnonnull 35, 3) := dk_199 0 35 (dk_at dksJ4_indexOf_0 3 rfl rfl)
theorem dJ4_indexOf_6 : decode cJ4_indexOf 6 = .ok (.aload_n 0, 1) := dk_42 (dk_at dksJ4_indexOf_0 6 rfl rfl)
theorem dJ4_indexOf_7 : decode cJ4_indexOf 7 = .ok (.getfield 18, 3) := dk_180 0 18 (dk_at dksJ4_indexOf_0 7 rfl rfl)
theorem dJ4_indexOf_10 : decode cJ4_indexOf 10 = .ok (.astore_n 3, 1) := dk_78 (dk_at dksJ4_indexOf_0 10 rfl rfl)
theorem dJ4_indexOf_11 : decode cJ4_indexOf 11 = .ok (.aload_n 3, 1) := dk_45 (dk_at dksJ4_indexOf_0 11 rfl rfl)
theorem dJ4_indexOf_12 : decode cJ4_indexOf 12 = .ok (.ifnull 23, 3) := dk_198 0 23 (dk_at dksJ4_indexOf_0 12 rfl rfl)
theorem dJ4_indexOf_15 : decode cJ4_indexOf 15 = .ok (.aload_n 3, 1) := dk_45 (dk_at dksJ4_indexOf_0 15 rfl rfl)
theorem dJ4_indexOf_16 : decode cJ4_indexOf 16 = .ok (.getfield 39, 3) := dk_180 0 39 (dk_at dksJ4_indexOf_0 16 rfl rfl)
theorem dJ4_indexOf_19 : decode cJ4_indexOf 19 = .ok (.ifnonnull 5, 3) := dk_199 0 5 (dk_at dksJ4_indexOf_0 19 rfl rfl)
theorem dJ4_indexOf_22 : decode cJ4_indexOf 22 = .ok (.iload_n 2, 1) := dk_28 (dk_at dksJ4_indexOf_0 22 rfl rfl)
theorem dJ4_indexOf_23 : decode cJ4_indexOf 23 = .ok (.ireturn, 1) := dk_172 (dk_at dksJ4_indexOf_0 23 rfl rfl)
theorem dJ4_indexOf_24 : decode cJ4_indexOf 24 = .ok (.iinc 2 1, 3) := dk_132 2 1 (dk_at dksJ4_indexOf_1 0 rfl rfl)
theorem dJ4_indexOf_27 : decode cJ4_indexOf 27 = .ok (.aload_n 3, 1) := dk_45 (dk_at dksJ4_indexOf_1 3 rfl rfl)
theorem dJ4_indexOf_28 : decode cJ4_indexOf 28 = .ok (.getfield 36, 3) := dk_180 0 36 (dk_at dksJ4_indexOf_1 4 rfl rfl)
theorem dJ4_indexOf_31 : decode cJ4_indexOf 31 = .ok (.astore_n 3, 1) := dk_78 (dk_at dksJ4_indexOf_1 7 rfl rfl)
theorem dJ4_indexOf_32 : decode cJ4_indexOf 32 = .ok (.goto (-21), 3) := dk_167 255 235 (dk_at dksJ4_indexOf_1 8 rfl rfl)
theorem dJ4_indexOf_35 : decode cJ4_indexOf 35 = .ok (.goto 36, 3) := dk_167 0 36 (dk_at dksJ4_indexOf_1 11 rfl rfl)
theorem dJ4_indexOf_38 : decode cJ4_indexOf 38 = .ok (.aload_n 0, 1) := dk_42 (dk_at dksJ4_indexOf_1 14 rfl rfl)
theorem dJ4_indexOf_39 : decode cJ4_indexOf 39 = .ok (.getfield 18, 3) := dk_180 0 18 (dk_at dksJ4_indexOf_1 15 rfl rfl)
theorem dJ4_indexOf_42 : decode cJ4_indexOf 42 = .ok (.astore_n 3, 1) := dk_78 (dk_at dksJ4_indexOf_1 18 rfl rfl)
theorem dJ4_indexOf_43 : decode cJ4_indexOf 43 = .ok (.aload_n 3, 1) := dk_45 (dk_at dksJ4_indexOf_1 19 rfl rfl)
theorem dJ4_indexOf_44 : decode cJ4_indexOf 44 = .ok (.ifnull 27, 3) := dk_198 0 27 (dk_at dksJ4_indexOf_1 20 rfl rfl)
theorem dJ4_indexOf_47 : decode cJ4_indexOf 47 = .ok (.aload_n 1, 1) := dk_43 (dk_at dksJ4_indexOf_1 23 rfl rfl)
theorem dJ4_indexOf_48 : decode cJ4_indexOf 48 = .ok (.aload_n 3, 1) := dk_45 (dk_at dksJ4_indexOf_2 0 rfl rfl)
theorem dJ4_indexOf_49 : decode cJ4_indexOf 49 = .ok (.getfield 39, 3) := dk_180 0 39 (dk_at dksJ4_indexOf_2 1 rfl rfl)
theorem dJ4_indexOf_52 : decode cJ4_indexOf 52 = .ok (.invokevirtual 67, 3) := dk_182 0 67 (dk_at dksJ4_indexOf_2 4 rfl rfl)
theorem dJ4_indexOf_55 : decode cJ4_indexOf 55 = .ok (.ifCond .eq 5, 3) := dk_153 0 5 (dk_at dksJ4_indexOf_2 7 rfl rfl)
theorem dJ4_indexOf_58 : decode cJ4_indexOf 58 = .ok (.iload_n 2, 1) := dk_28 (dk_at dksJ4_indexOf_2 10 rfl rfl)
theorem dJ4_indexOf_59 : decode cJ4_indexOf 59 = .ok (.ireturn, 1) := dk_172 (dk_at dksJ4_indexOf_2 11 rfl rfl)
theorem dJ4_indexOf_60 : decode cJ4_indexOf 60 = .ok (.iinc 2 1, 3) := dk_132 2 1 (dk_at dksJ4_indexOf_2 12 rfl rfl)
theorem dJ4_indexOf_63 : decode cJ4_indexOf 63 = .ok (.aload_n 3, 1) := dk_45 (dk_at dksJ4_indexOf_2 15 rfl rfl)
theorem dJ4_indexOf_64 : decode cJ4_indexOf 64 = .ok (.getfield 36, 3) := dk_180 0 36 (dk_at dksJ4_indexOf_2 16 rfl rfl)
theorem dJ4_indexOf_67 : decode cJ4_indexOf 67 = .ok (.astore_n 3, 1) := dk_78 (dk_at dksJ4_indexOf_2 19 rfl rfl)
theorem dJ4_indexOf_68 : decode cJ4_indexOf 68 = .ok (.goto (-25), 3) := dk_167 255 231 (dk_at dksJ4_indexOf_2 20 rfl rfl)
theorem dJ4_indexOf_71 : decode cJ4_indexOf 71 = .ok (.iconst (-1), 1) := dk_2 (dk_at dksJ4_indexOf_2 23 rfl rfl)
theorem dJ4_indexOf_72 : decode cJ4_indexOf 72 = .ok (.ireturn, 1) := dk_172 (dk_at dksJ4_indexOf_3 0 rfl rfl)
abbrev cJ29_hasNext : ByteArray := prog_63_method_2_code
def yJ29_hasNext : MethodName := ⟨RJ29, "hasNext", "()Z"⟩
def dkwJ29_hasNext_0 : List UInt8 := [42, 180, 0, 33, 42, 180, 0, 1, 180, 0, 22, 162, 0, 7, 4, 167, 0, 4, 3, 172]
abbrev dktJ29_hasNext_0 : List UInt8 := dkwJ29_hasNext_0 ++ []
theorem dksJ29_hasNext_0 : cJ29_hasNext.data.toList.drop 0 = dktJ29_hasNext_0 := by decide +kernel
theorem dJ29_hasNext_0 : decode cJ29_hasNext 0 = .ok (.aload_n 0, 1) := dk_42 (dk_at dksJ29_hasNext_0 0 rfl rfl)
theorem dJ29_hasNext_1 : decode cJ29_hasNext 1 = .ok (.getfield 33, 3) := dk_180 0 33 (dk_at dksJ29_hasNext_0 1 rfl rfl)
theorem dJ29_hasNext_4 : decode cJ29_hasNext 4 = .ok (.aload_n 0, 1) := dk_42 (dk_at dksJ29_hasNext_0 4 rfl rfl)
theorem dJ29_hasNext_5 : decode cJ29_hasNext 5 = .ok (.getfield 1, 3) := dk_180 0 1 (dk_at dksJ29_hasNext_0 5 rfl rfl)
theorem dJ29_hasNext_8 : decode cJ29_hasNext 8 = .ok (.getfield 22, 3) := dk_180 0 22 (dk_at dksJ29_hasNext_0 8 rfl rfl)
theorem dJ29_hasNext_11 : decode cJ29_hasNext 11 = .ok (.if_icmp .ge 7, 3) := dk_162 0 7 (dk_at dksJ29_hasNext_0 11 rfl rfl)
theorem dJ29_hasNext_14 : decode cJ29_hasNext 14 = .ok (.iconst 1, 1) := dk_4 (dk_at dksJ29_hasNext_0 14 rfl rfl)
theorem dJ29_hasNext_15 : decode cJ29_hasNext 15 = .ok (.goto 4, 3) := dk_167 0 4 (dk_at dksJ29_hasNext_0 15 rfl rfl)
theorem dJ29_hasNext_18 : decode cJ29_hasNext 18 = .ok (.iconst 0, 1) := dk_3 (dk_at dksJ29_hasNext_0 18 rfl rfl)
theorem dJ29_hasNext_19 : decode cJ29_hasNext 19 = .ok (.ireturn, 1) := dk_172 (dk_at dksJ29_hasNext_0 19 rfl rfl)
abbrev cJ29_next : ByteArray := prog_63_method_3_code
def yJ29_next : MethodName := ⟨RJ29, "next", "()Ljava/lang/Object;"⟩
def dkwJ29_next_2 : List UInt8 := [42, 180, 0, 46, 180, 0, 52, 176]
abbrev dktJ29_next_2 : List UInt8 := dkwJ29_next_2 ++ []
def dkwJ29_next_1 : List UInt8 := [181, 0, 46, 42, 42, 180, 0, 29, 180, 0, 49, 181, 0, 29, 42, 89, 180, 0, 33, 4, 96, 181, 0, 33]
abbrev dktJ29_next_1 : List UInt8 := dkwJ29_next_1 ++ dktJ29_next_2
def dkwJ29_next_0 : List UInt8 := [42, 182, 0, 36, 42, 182, 0, 39, 154, 0, 11, 187, 0, 43, 89, 183, 0, 45, 191, 42, 42, 180, 0, 29]
abbrev dktJ29_next_0 : List UInt8 := dkwJ29_next_0 ++ dktJ29_next_1
theorem dksJ29_next_0 : cJ29_next.data.toList.drop 0 = dktJ29_next_0 := by decide +kernel
theorem dksJ29_next_1 : cJ29_next.data.toList.drop 24 = dktJ29_next_1 := dk_seg dksJ29_next_0 24 rfl rfl
theorem dksJ29_next_2 : cJ29_next.data.toList.drop 48 = dktJ29_next_2 := dk_seg dksJ29_next_1 24 rfl rfl
theorem dJ29_next_0 : decode cJ29_next 0 = .ok (.aload_n 0, 1) := dk_42 (dk_at dksJ29_next_0 0 rfl rfl)
theorem dJ29_next_1 : decode cJ29_next 1 = .ok (.invokevirtual 36, 3) := dk_182 0 36 (dk_at dksJ29_next_0 1 rfl rfl)
theorem dJ29_next_4 : decode cJ29_next 4 = .ok (.aload_n 0, 1) := dk_42 (dk_at dksJ29_next_0 4 rfl rfl)
theorem dJ29_next_5 : decode cJ29_next 5 = .ok (.invokevirtual 39, 3) := dk_182 0 39 (dk_at dksJ29_next_0 5 rfl rfl)
theorem dJ29_next_8 : decode cJ29_next 8 = .ok (.ifCond .ne 11, 3) := dk_154 0 11 (dk_at dksJ29_next_0 8 rfl rfl)
theorem dJ29_next_11 : decode cJ29_next 11 = .ok (.new 43, 3) := dk_187 0 43 (dk_at dksJ29_next_0 11 rfl rfl)
theorem dJ29_next_14 : decode cJ29_next 14 = .ok (.dup, 1) := dk_89 (dk_at dksJ29_next_0 14 rfl rfl)
theorem dJ29_next_15 : decode cJ29_next 15 = .ok (.invokespecial 45, 3) := dk_183 0 45 (dk_at dksJ29_next_0 15 rfl rfl)
theorem dJ29_next_18 : decode cJ29_next 18 = .ok (.athrow, 1) := dk_191 (dk_at dksJ29_next_0 18 rfl rfl)
theorem dJ29_next_19 : decode cJ29_next 19 = .ok (.aload_n 0, 1) := dk_42 (dk_at dksJ29_next_0 19 rfl rfl)
theorem dJ29_next_20 : decode cJ29_next 20 = .ok (.aload_n 0, 1) := dk_42 (dk_at dksJ29_next_0 20 rfl rfl)
theorem dJ29_next_21 : decode cJ29_next 21 = .ok (.getfield 29, 3) := dk_180 0 29 (dk_at dksJ29_next_0 21 rfl rfl)
theorem dJ29_next_24 : decode cJ29_next 24 = .ok (.putfield 46, 3) := dk_181 0 46 (dk_at dksJ29_next_1 0 rfl rfl)
theorem dJ29_next_27 : decode cJ29_next 27 = .ok (.aload_n 0, 1) := dk_42 (dk_at dksJ29_next_1 3 rfl rfl)
theorem dJ29_next_28 : decode cJ29_next 28 = .ok (.aload_n 0, 1) := dk_42 (dk_at dksJ29_next_1 4 rfl rfl)
theorem dJ29_next_29 : decode cJ29_next 29 = .ok (.getfield 29, 3) := dk_180 0 29 (dk_at dksJ29_next_1 5 rfl rfl)
theorem dJ29_next_32 : decode cJ29_next 32 = .ok (.getfield 49, 3) := dk_180 0 49 (dk_at dksJ29_next_1 8 rfl rfl)
theorem dJ29_next_35 : decode cJ29_next 35 = .ok (.putfield 29, 3) := dk_181 0 29 (dk_at dksJ29_next_1 11 rfl rfl)
theorem dJ29_next_38 : decode cJ29_next 38 = .ok (.aload_n 0, 1) := dk_42 (dk_at dksJ29_next_1 14 rfl rfl)
theorem dJ29_next_39 : decode cJ29_next 39 = .ok (.dup, 1) := dk_89 (dk_at dksJ29_next_1 15 rfl rfl)
theorem dJ29_next_40 : decode cJ29_next 40 = .ok (.getfield 33, 3) := dk_180 0 33 (dk_at dksJ29_next_1 16 rfl rfl)
theorem dJ29_next_43 : decode cJ29_next 43 = .ok (.iconst 1, 1) := dk_4 (dk_at dksJ29_next_1 19 rfl rfl)
theorem dJ29_next_44 : decode cJ29_next 44 = .ok (.iadd, 1) := dk_96 (dk_at dksJ29_next_1 20 rfl rfl)
theorem dJ29_next_45 : decode cJ29_next 45 = .ok (.putfield 33, 3) := dk_181 0 33 (dk_at dksJ29_next_1 21 rfl rfl)
theorem dJ29_next_48 : decode cJ29_next 48 = .ok (.aload_n 0, 1) := dk_42 (dk_at dksJ29_next_2 0 rfl rfl)
theorem dJ29_next_49 : decode cJ29_next 49 = .ok (.getfield 46, 3) := dk_180 0 46 (dk_at dksJ29_next_2 1 rfl rfl)
theorem dJ29_next_52 : decode cJ29_next 52 = .ok (.getfield 52, 3) := dk_180 0 52 (dk_at dksJ29_next_2 4 rfl rfl)
theorem dJ29_next_55 : decode cJ29_next 55 = .ok (.areturn, 1) := dk_176 (dk_at dksJ29_next_2 7 rfl rfl)
abbrev cJ29_checkForComodification : ByteArray := prog_63_method_12_code
def yJ29_checkForComodification : MethodName := ⟨RJ29, "checkForComodification", "()V"⟩
def dkwJ29_checkForComodification_0 : List UInt8 := [42, 180, 0, 1, 180, 0, 13, 42, 180, 0, 19, 159, 0, 11, 187, 0, 91, 89, 183, 0, 93, 191, 177]
abbrev dktJ29_checkForComodification_0 : List UInt8 := dkwJ29_checkForComodification_0 ++ []
theorem dksJ29_checkForComodification_0 : cJ29_checkForComodification.data.toList.drop 0 = dktJ29_checkForComodification_0 := by decide +kernel
theorem dJ29_checkForComodification_0 : decode cJ29_checkForComodification 0 = .ok (.aload_n 0, 1) := dk_42 (dk_at dksJ29_checkForComodification_0 0 rfl rfl)
theorem dJ29_checkForComodification_1 : decode cJ29_checkForComodification 1 = .ok (.getfield 1, 3) := dk_180 0 1 (dk_at dksJ29_checkForComodification_0 1 rfl rfl)
theorem dJ29_checkForComodification_4 : decode cJ29_checkForComodification 4 = .ok (.getfield 13, 3) := dk_180 0 13 (dk_at dksJ29_checkForComodification_0 4 rfl rfl)
theorem dJ29_checkForComodification_7 : decode cJ29_checkForComodification 7 = .ok (.aload_n 0, 1) := dk_42 (dk_at dksJ29_checkForComodification_0 7 rfl rfl)
theorem dJ29_checkForComodification_8 : decode cJ29_checkForComodification 8 = .ok (.getfield 19, 3) := dk_180 0 19 (dk_at dksJ29_checkForComodification_0 8 rfl rfl)
theorem dJ29_checkForComodification_11 : decode cJ29_checkForComodification 11 = .ok (.if_icmp .eq 11, 3) := dk_159 0 11 (dk_at dksJ29_checkForComodification_0 11 rfl rfl)
theorem dJ29_checkForComodification_14 : decode cJ29_checkForComodification 14 = .ok (.new 91, 3) := dk_187 0 91 (dk_at dksJ29_checkForComodification_0 14 rfl rfl)
theorem dJ29_checkForComodification_17 : decode cJ29_checkForComodification 17 = .ok (.dup, 1) := dk_89 (dk_at dksJ29_checkForComodification_0 17 rfl rfl)
theorem dJ29_checkForComodification_18 : decode cJ29_checkForComodification 18 = .ok (.invokespecial 93, 3) := dk_183 0 93 (dk_at dksJ29_checkForComodification_0 18 rfl rfl)
theorem dJ29_checkForComodification_21 : decode cJ29_checkForComodification 21 = .ok (.athrow, 1) := dk_191 (dk_at dksJ29_checkForComodification_0 21 rfl rfl)
theorem dJ29_checkForComodification_22 : decode cJ29_checkForComodification 22 = .ok (.return_, 1) := dk_177 (dk_at dksJ29_checkForComodification_0 22 rfl rfl)
abbrev cJ29_init : ByteArray := prog_63_method_1_code
def yJ29_init : MethodName := ⟨RJ29, "<init>", "(Ljava/util/LinkedList;I)V"⟩
def dkwJ29_init_1 : List UInt8 := [180, 0, 22, 160, 0, 7, 1, 167, 0, 8, 43, 28, 182, 0, 25, 181, 0, 29, 42, 28, 181, 0, 33, 177]
abbrev dktJ29_init_1 : List UInt8 := dkwJ29_init_1 ++ []
def dkwJ29_init_0 : List UInt8 := [42, 43, 181, 0, 1, 42, 183, 0, 7, 42, 42, 180, 0, 1, 180, 0, 13, 181, 0, 19, 42, 28, 43]
abbrev dktJ29_init_0 : List UInt8 := dkwJ29_init_0 ++ dktJ29_init_1
theorem dksJ29_init_0 : cJ29_init.data.toList.drop 0 = dktJ29_init_0 := by decide +kernel
theorem dksJ29_init_1 : cJ29_init.data.toList.drop 23 = dktJ29_init_1 := dk_seg dksJ29_init_0 23 rfl rfl
theorem dJ29_init_0 : decode cJ29_init 0 = .ok (.aload_n 0, 1) := dk_42 (dk_at dksJ29_init_0 0 rfl rfl)
theorem dJ29_init_1 : decode cJ29_init 1 = .ok (.aload_n 1, 1) := dk_43 (dk_at dksJ29_init_0 1 rfl rfl)
theorem dJ29_init_2 : decode cJ29_init 2 = .ok (.putfield 1, 3) := dk_181 0 1 (dk_at dksJ29_init_0 2 rfl rfl)
theorem dJ29_init_5 : decode cJ29_init 5 = .ok (.aload_n 0, 1) := dk_42 (dk_at dksJ29_init_0 5 rfl rfl)
theorem dJ29_init_6 : decode cJ29_init 6 = .ok (.invokespecial 7, 3) := dk_183 0 7 (dk_at dksJ29_init_0 6 rfl rfl)
theorem dJ29_init_9 : decode cJ29_init 9 = .ok (.aload_n 0, 1) := dk_42 (dk_at dksJ29_init_0 9 rfl rfl)
theorem dJ29_init_10 : decode cJ29_init 10 = .ok (.aload_n 0, 1) := dk_42 (dk_at dksJ29_init_0 10 rfl rfl)
theorem dJ29_init_11 : decode cJ29_init 11 = .ok (.getfield 1, 3) := dk_180 0 1 (dk_at dksJ29_init_0 11 rfl rfl)
theorem dJ29_init_14 : decode cJ29_init 14 = .ok (.getfield 13, 3) := dk_180 0 13 (dk_at dksJ29_init_0 14 rfl rfl)
theorem dJ29_init_17 : decode cJ29_init 17 = .ok (.putfield 19, 3) := dk_181 0 19 (dk_at dksJ29_init_0 17 rfl rfl)
theorem dJ29_init_20 : decode cJ29_init 20 = .ok (.aload_n 0, 1) := dk_42 (dk_at dksJ29_init_0 20 rfl rfl)
theorem dJ29_init_21 : decode cJ29_init 21 = .ok (.iload_n 2, 1) := dk_28 (dk_at dksJ29_init_0 21 rfl rfl)
theorem dJ29_init_22 : decode cJ29_init 22 = .ok (.aload_n 1, 1) := dk_43 (dk_at dksJ29_init_0 22 rfl rfl)
theorem dJ29_init_23 : decode cJ29_init 23 = .ok (.getfield 22, 3) := dk_180 0 22 (dk_at dksJ29_init_1 0 rfl rfl)
theorem dJ29_init_26 : decode cJ29_init 26 = .ok (.if_icmp .ne 7, 3) := dk_160 0 7 (dk_at dksJ29_init_1 3 rfl rfl)
theorem dJ29_init_29 : decode cJ29_init 29 = .ok (.aconst_null, 1) := dk_1 (dk_at dksJ29_init_1 6 rfl rfl)
theorem dJ29_init_30 : decode cJ29_init 30 = .ok (.goto 8, 3) := dk_167 0 8 (dk_at dksJ29_init_1 7 rfl rfl)
theorem dJ29_init_33 : decode cJ29_init 33 = .ok (.aload_n 1, 1) := dk_43 (dk_at dksJ29_init_1 10 rfl rfl)
theorem dJ29_init_34 : decode cJ29_init 34 = .ok (.iload_n 2, 1) := dk_28 (dk_at dksJ29_init_1 11 rfl rfl)
theorem dJ29_init_35 : decode cJ29_init 35 = .ok (.invokevirtual 25, 3) := dk_182 0 25 (dk_at dksJ29_init_1 12 rfl rfl)
theorem dJ29_init_38 : decode cJ29_init 38 = .ok (.putfield 29, 3) := dk_181 0 29 (dk_at dksJ29_init_1 15 rfl rfl)
theorem dJ29_init_41 : decode cJ29_init 41 = .ok (.aload_n 0, 1) := dk_42 (dk_at dksJ29_init_1 18 rfl rfl)
theorem dJ29_init_42 : decode cJ29_init 42 = .ok (.iload_n 2, 1) := dk_28 (dk_at dksJ29_init_1 19 rfl rfl)
theorem dJ29_init_43 : decode cJ29_init 43 = .ok (.putfield 33, 3) := dk_181 0 33 (dk_at dksJ29_init_1 20 rfl rfl)
theorem dJ29_init_46 : decode cJ29_init 46 = .ok (.return_, 1) := dk_177 (dk_at dksJ29_init_1 23 rfl rfl)
abbrev cJ29_remove : ByteArray := prog_63_method_8_code
def yJ29_remove : MethodName := ⟨RJ29, "remove", "()V"⟩
def dkwJ29_remove_3 : List UInt8 := [181, 0, 46, 42, 89, 180, 0, 19, 4, 96, 181, 0, 19, 177]
abbrev dktJ29_remove_3 : List UInt8 := dkwJ29_remove_3 ++ []
def dkwJ29_remove_2 : List UInt8 := [166, 0, 11, 42, 43, 181, 0, 29, 167, 0, 13, 42, 89, 180, 0, 33, 4, 100, 181, 0, 33, 42, 1]
abbrev dktJ29_remove_2 : List UInt8 := dkwJ29_remove_2 ++ dktJ29_remove_3
def dkwJ29_remove_1 : List UInt8 := [180, 0, 49, 76, 42, 180, 0, 1, 42, 180, 0, 46, 182, 0, 68, 87, 42, 180, 0, 29, 42, 180, 0, 46]
abbrev dktJ29_remove_1 : List UInt8 := dkwJ29_remove_1 ++ dktJ29_remove_2
def dkwJ29_remove_0 : List UInt8 := [42, 182, 0, 36, 42, 180, 0, 46, 199, 0, 11, 187, 0, 65, 89, 183, 0, 67, 191, 42, 180, 0, 46]
abbrev dktJ29_remove_0 : List UInt8 := dkwJ29_remove_0 ++ dktJ29_remove_1
theorem dksJ29_remove_0 : cJ29_remove.data.toList.drop 0 = dktJ29_remove_0 := by decide +kernel
theorem dksJ29_remove_1 : cJ29_remove.data.toList.drop 23 = dktJ29_remove_1 := dk_seg dksJ29_remove_0 23 rfl rfl
theorem dksJ29_remove_2 : cJ29_remove.data.toList.drop 47 = dktJ29_remove_2 := dk_seg dksJ29_remove_1 24 rfl rfl
theorem dksJ29_remove_3 : cJ29_remove.data.toList.drop 70 = dktJ29_remove_3 := dk_seg dksJ29_remove_2 23 rfl rfl
theorem dJ29_remove_0 : decode cJ29_remove 0 = .ok (.aload_n 0, 1) := dk_42 (dk_at dksJ29_remove_0 0 rfl rfl)
theorem dJ29_remove_1 : decode cJ29_remove 1 = .ok (.invokevirtual 36, 3) := dk_182 0 36 (dk_at dksJ29_remove_0 1 rfl rfl)
theorem dJ29_remove_4 : decode cJ29_remove 4 = .ok (.aload_n 0, 1) := dk_42 (dk_at dksJ29_remove_0 4 rfl rfl)
theorem dJ29_remove_5 : decode cJ29_remove 5 = .ok (.getfield 46, 3) := dk_180 0 46 (dk_at dksJ29_remove_0 5 rfl rfl)
theorem dJ29_remove_8 : decode cJ29_remove 8 = .ok (.ifnonnull 11, 3) := dk_199 0 11 (dk_at dksJ29_remove_0 8 rfl rfl)
theorem dJ29_remove_11 : decode cJ29_remove 11 = .ok (.new 65, 3) := dk_187 0 65 (dk_at dksJ29_remove_0 11 rfl rfl)
theorem dJ29_remove_14 : decode cJ29_remove 14 = .ok (.dup, 1) := dk_89 (dk_at dksJ29_remove_0 14 rfl rfl)
theorem dJ29_remove_15 : decode cJ29_remove 15 = .ok (.invokespecial 67, 3) := dk_183 0 67 (dk_at dksJ29_remove_0 15 rfl rfl)
theorem dJ29_remove_18 : decode cJ29_remove 18 = .ok (.athrow, 1) := dk_191 (dk_at dksJ29_remove_0 18 rfl rfl)
theorem dJ29_remove_19 : decode cJ29_remove 19 = .ok (.aload_n 0, 1) := dk_42 (dk_at dksJ29_remove_0 19 rfl rfl)
theorem dJ29_remove_20 : decode cJ29_remove 20 = .ok (.getfield 46, 3) := dk_180 0 46 (dk_at dksJ29_remove_0 20 rfl rfl)
theorem dJ29_remove_23 : decode cJ29_remove 23 = .ok (.getfield 49, 3) := dk_180 0 49 (dk_at dksJ29_remove_1 0 rfl rfl)
theorem dJ29_remove_26 : decode cJ29_remove 26 = .ok (.astore_n 1, 1) := dk_76 (dk_at dksJ29_remove_1 3 rfl rfl)
theorem dJ29_remove_27 : decode cJ29_remove 27 = .ok (.aload_n 0, 1) := dk_42 (dk_at dksJ29_remove_1 4 rfl rfl)
theorem dJ29_remove_28 : decode cJ29_remove 28 = .ok (.getfield 1, 3) := dk_180 0 1 (dk_at dksJ29_remove_1 5 rfl rfl)
theorem dJ29_remove_31 : decode cJ29_remove 31 = .ok (.aload_n 0, 1) := dk_42 (dk_at dksJ29_remove_1 8 rfl rfl)
theorem dJ29_remove_32 : decode cJ29_remove 32 = .ok (.getfield 46, 3) := dk_180 0 46 (dk_at dksJ29_remove_1 9 rfl rfl)
theorem dJ29_remove_35 : decode cJ29_remove 35 = .ok (.invokevirtual 68, 3) := dk_182 0 68 (dk_at dksJ29_remove_1 12 rfl rfl)
theorem dJ29_remove_38 : decode cJ29_remove 38 = .ok (.pop, 1) := dk_87 (dk_at dksJ29_remove_1 15 rfl rfl)
theorem dJ29_remove_39 : decode cJ29_remove 39 = .ok (.aload_n 0, 1) := dk_42 (dk_at dksJ29_remove_1 16 rfl rfl)
theorem dJ29_remove_40 : decode cJ29_remove 40 = .ok (.getfield 29, 3) := dk_180 0 29 (dk_at dksJ29_remove_1 17 rfl rfl)
theorem dJ29_remove_43 : decode cJ29_remove 43 = .ok (.aload_n 0, 1) := dk_42 (dk_at dksJ29_remove_1 20 rfl rfl)
theorem dJ29_remove_44 : decode cJ29_remove 44 = .ok (.getfield 46, 3) := dk_180 0 46 (dk_at dksJ29_remove_1 21 rfl rfl)
theorem dJ29_remove_47 : decode cJ29_remove 47 = .ok (.if_acmp .ne 11, 3) := dk_166 0 11 (dk_at dksJ29_remove_2 0 rfl rfl)
theorem dJ29_remove_50 : decode cJ29_remove 50 = .ok (.aload_n 0, 1) := dk_42 (dk_at dksJ29_remove_2 3 rfl rfl)
theorem dJ29_remove_51 : decode cJ29_remove 51 = .ok (.aload_n 1, 1) := dk_43 (dk_at dksJ29_remove_2 4 rfl rfl)
theorem dJ29_remove_52 : decode cJ29_remove 52 = .ok (.putfield 29, 3) := dk_181 0 29 (dk_at dksJ29_remove_2 5 rfl rfl)
theorem dJ29_remove_55 : decode cJ29_remove 55 = .ok (.goto 13, 3) := dk_167 0 13 (dk_at dksJ29_remove_2 8 rfl rfl)
theorem dJ29_remove_58 : decode cJ29_remove 58 = .ok (.aload_n 0, 1) := dk_42 (dk_at dksJ29_remove_2 11 rfl rfl)
theorem dJ29_remove_59 : decode cJ29_remove 59 = .ok (.dup, 1) := dk_89 (dk_at dksJ29_remove_2 12 rfl rfl)
theorem dJ29_remove_60 : decode cJ29_remove 60 = .ok (.getfield 33, 3) := dk_180 0 33 (dk_at dksJ29_remove_2 13 rfl rfl)
theorem dJ29_remove_63 : decode cJ29_remove 63 = .ok (.iconst 1, 1) := dk_4 (dk_at dksJ29_remove_2 16 rfl rfl)
theorem dJ29_remove_64 : decode cJ29_remove 64 = .ok (.isub, 1) := dk_100 (dk_at dksJ29_remove_2 17 rfl rfl)
theorem dJ29_remove_65 : decode cJ29_remove 65 = .ok (.putfield 33, 3) := dk_181 0 33 (dk_at dksJ29_remove_2 18 rfl rfl)
theorem dJ29_remove_68 : decode cJ29_remove 68 = .ok (.aload_n 0, 1) := dk_42 (dk_at dksJ29_remove_2 21 rfl rfl)
theorem dJ29_remove_69 : decode cJ29_remove 69 = .ok (.aconst_null, 1) := dk_1 (dk_at dksJ29_remove_2 22 rfl rfl)
theorem dJ29_remove_70 : decode cJ29_remove 70 = .ok (.putfield 46, 3) := dk_181 0 46 (dk_at dksJ29_remove_3 0 rfl rfl)
theorem dJ29_remove_73 : decode cJ29_remove 73 = .ok (.aload_n 0, 1) := dk_42 (dk_at dksJ29_remove_3 3 rfl rfl)
theorem dJ29_remove_74 : decode cJ29_remove 74 = .ok (.dup, 1) := dk_89 (dk_at dksJ29_remove_3 4 rfl rfl)
theorem dJ29_remove_75 : decode cJ29_remove 75 = .ok (.getfield 19, 3) := dk_180 0 19 (dk_at dksJ29_remove_3 5 rfl rfl)
theorem dJ29_remove_78 : decode cJ29_remove 78 = .ok (.iconst 1, 1) := dk_4 (dk_at dksJ29_remove_3 8 rfl rfl)
theorem dJ29_remove_79 : decode cJ29_remove 79 = .ok (.iadd, 1) := dk_96 (dk_at dksJ29_remove_3 9 rfl rfl)
theorem dJ29_remove_80 : decode cJ29_remove 80 = .ok (.putfield 19, 3) := dk_181 0 19 (dk_at dksJ29_remove_3 10 rfl rfl)
theorem dJ29_remove_83 : decode cJ29_remove 83 = .ok (.return_, 1) := dk_177 (dk_at dksJ29_remove_3 13 rfl rfl)
abbrev cJ30_init : ByteArray := prog_64_method_1_code
def yJ30_init : MethodName := ⟨RJ30, "<init>", "(Ljava/util/LinkedList$Node;Ljava/lang/Object;Ljava/util/LinkedList$Node;)V"⟩
def dkwJ30_init_0 : List UInt8 := [42, 183, 0, 1, 42, 44, 181, 0, 7, 42, 45, 181, 0, 13, 42, 43, 181, 0, 17, 177]
abbrev dktJ30_init_0 : List UInt8 := dkwJ30_init_0 ++ []
theorem dksJ30_init_0 : cJ30_init.data.toList.drop 0 = dktJ30_init_0 := by decide +kernel
theorem dJ30_init_0 : decode cJ30_init 0 = .ok (.aload_n 0, 1) := dk_42 (dk_at dksJ30_init_0 0 rfl rfl)
theorem dJ30_init_1 : decode cJ30_init 1 = .ok (.invokespecial 1, 3) := dk_183 0 1 (dk_at dksJ30_init_0 1 rfl rfl)
theorem dJ30_init_4 : decode cJ30_init 4 = .ok (.aload_n 0, 1) := dk_42 (dk_at dksJ30_init_0 4 rfl rfl)
theorem dJ30_init_5 : decode cJ30_init 5 = .ok (.aload_n 2, 1) := dk_44 (dk_at dksJ30_init_0 5 rfl rfl)
theorem dJ30_init_6 : decode cJ30_init 6 = .ok (.putfield 7, 3) := dk_181 0 7 (dk_at dksJ30_init_0 6 rfl rfl)
theorem dJ30_init_9 : decode cJ30_init 9 = .ok (.aload_n 0, 1) := dk_42 (dk_at dksJ30_init_0 9 rfl rfl)
theorem dJ30_init_10 : decode cJ30_init 10 = .ok (.aload_n 3, 1) := dk_45 (dk_at dksJ30_init_0 10 rfl rfl)
theorem dJ30_init_11 : decode cJ30_init 11 = .ok (.putfield 13, 3) := dk_181 0 13 (dk_at dksJ30_init_0 11 rfl rfl)
theorem dJ30_init_14 : decode cJ30_init 14 = .ok (.aload_n 0, 1) := dk_42 (dk_at dksJ30_init_0 14 rfl rfl)
theorem dJ30_init_15 : decode cJ30_init 15 = .ok (.aload_n 1, 1) := dk_43 (dk_at dksJ30_init_0 15 rfl rfl)
theorem dJ30_init_16 : decode cJ30_init 16 = .ok (.putfield 17, 3) := dk_181 0 17 (dk_at dksJ30_init_0 16 rfl rfl)
theorem dJ30_init_19 : decode cJ30_init 19 = .ok (.return_, 1) := dk_177 (dk_at dksJ30_init_0 19 rfl rfl)
abbrev cJ27_hasNext : ByteArray := prog_43_method_2_code
def yJ27_hasNext : MethodName := ⟨RJ27, "hasNext", "()Z"⟩
def dkwJ27_hasNext_0 : List UInt8 := [42, 180, 0, 13, 42, 180, 0, 1, 182, 0, 28, 159, 0, 7, 4, 167, 0, 4, 3, 172]
abbrev dktJ27_hasNext_0 : List UInt8 := dkwJ27_hasNext_0 ++ []
theorem dksJ27_hasNext_0 : cJ27_hasNext.data.toList.drop 0 = dktJ27_hasNext_0 := by decide +kernel
theorem dJ27_hasNext_0 : decode cJ27_hasNext 0 = .ok (.aload_n 0, 1) := dk_42 (dk_at dksJ27_hasNext_0 0 rfl rfl)
theorem dJ27_hasNext_1 : decode cJ27_hasNext 1 = .ok (.getfield 13, 3) := dk_180 0 13 (dk_at dksJ27_hasNext_0 1 rfl rfl)
theorem dJ27_hasNext_4 : decode cJ27_hasNext 4 = .ok (.aload_n 0, 1) := dk_42 (dk_at dksJ27_hasNext_0 4 rfl rfl)
theorem dJ27_hasNext_5 : decode cJ27_hasNext 5 = .ok (.getfield 1, 3) := dk_180 0 1 (dk_at dksJ27_hasNext_0 5 rfl rfl)
theorem dJ27_hasNext_8 : decode cJ27_hasNext 8 = .ok (.invokevirtual 28, 3) := dk_182 0 28 (dk_at dksJ27_hasNext_0 8 rfl rfl)
theorem dJ27_hasNext_11 : decode cJ27_hasNext 11 = .ok (.if_icmp .eq 7, 3) := dk_159 0 7 (dk_at dksJ27_hasNext_0 11 rfl rfl)
theorem dJ27_hasNext_14 : decode cJ27_hasNext 14 = .ok (.iconst 1, 1) := dk_4 (dk_at dksJ27_hasNext_0 14 rfl rfl)
theorem dJ27_hasNext_15 : decode cJ27_hasNext 15 = .ok (.goto 4, 3) := dk_167 0 4 (dk_at dksJ27_hasNext_0 15 rfl rfl)
theorem dJ27_hasNext_18 : decode cJ27_hasNext 18 = .ok (.iconst 0, 1) := dk_3 (dk_at dksJ27_hasNext_0 18 rfl rfl)
theorem dJ27_hasNext_19 : decode cJ27_hasNext 19 = .ok (.ireturn, 1) := dk_172 (dk_at dksJ27_hasNext_0 19 rfl rfl)
abbrev cJ27_next : ByteArray := prog_43_method_3_code
def yJ27_next : MethodName := ⟨RJ27, "next", "()Ljava/lang/Object;"⟩
def dkwJ27_next_1 : List UInt8 := [27, 4, 96, 181, 0, 13, 44, 176, 76, 42, 182, 0, 32, 187, 0, 41, 89, 43, 183, 0, 43, 191]
abbrev dktJ27_next_1 : List UInt8 := dkwJ27_next_1 ++ []
def dkwJ27_next_0 : List UInt8 := [42, 182, 0, 32, 42, 180, 0, 13, 60, 42, 180, 0, 1, 27, 182, 0, 35, 77, 42, 27, 181, 0, 17, 42]
abbrev dktJ27_next_0 : List UInt8 := dkwJ27_next_0 ++ dktJ27_next_1
theorem dksJ27_next_0 : cJ27_next.data.toList.drop 0 = dktJ27_next_0 := by decide +kernel
theorem dksJ27_next_1 : cJ27_next.data.toList.drop 24 = dktJ27_next_1 := dk_seg dksJ27_next_0 24 rfl rfl
theorem dJ27_next_0 : decode cJ27_next 0 = .ok (.aload_n 0, 1) := dk_42 (dk_at dksJ27_next_0 0 rfl rfl)
theorem dJ27_next_1 : decode cJ27_next 1 = .ok (.invokevirtual 32, 3) := dk_182 0 32 (dk_at dksJ27_next_0 1 rfl rfl)
theorem dJ27_next_4 : decode cJ27_next 4 = .ok (.aload_n 0, 1) := dk_42 (dk_at dksJ27_next_0 4 rfl rfl)
theorem dJ27_next_5 : decode cJ27_next 5 = .ok (.getfield 13, 3) := dk_180 0 13 (dk_at dksJ27_next_0 5 rfl rfl)
theorem dJ27_next_8 : decode cJ27_next 8 = .ok (.istore_n 1, 1) := dk_60 (dk_at dksJ27_next_0 8 rfl rfl)
theorem dJ27_next_9 : decode cJ27_next 9 = .ok (.aload_n 0, 1) := dk_42 (dk_at dksJ27_next_0 9 rfl rfl)
theorem dJ27_next_10 : decode cJ27_next 10 = .ok (.getfield 1, 3) := dk_180 0 1 (dk_at dksJ27_next_0 10 rfl rfl)
theorem dJ27_next_13 : decode cJ27_next 13 = .ok (.iload_n 1, 1) := dk_27 (dk_at dksJ27_next_0 13 rfl rfl)
theorem dJ27_next_14 : decode cJ27_next 14 = .ok (.invokevirtual 35, 3) := dk_182 0 35 (dk_at dksJ27_next_0 14 rfl rfl)
theorem dJ27_next_17 : decode cJ27_next 17 = .ok (.astore_n 2, 1) := dk_77 (dk_at dksJ27_next_0 17 rfl rfl)
theorem dJ27_next_18 : decode cJ27_next 18 = .ok (.aload_n 0, 1) := dk_42 (dk_at dksJ27_next_0 18 rfl rfl)
theorem dJ27_next_19 : decode cJ27_next 19 = .ok (.iload_n 1, 1) := dk_27 (dk_at dksJ27_next_0 19 rfl rfl)
theorem dJ27_next_20 : decode cJ27_next 20 = .ok (.putfield 17, 3) := dk_181 0 17 (dk_at dksJ27_next_0 20 rfl rfl)
theorem dJ27_next_23 : decode cJ27_next 23 = .ok (.aload_n 0, 1) := dk_42 (dk_at dksJ27_next_0 23 rfl rfl)
theorem dJ27_next_24 : decode cJ27_next 24 = .ok (.iload_n 1, 1) := dk_27 (dk_at dksJ27_next_1 0 rfl rfl)
theorem dJ27_next_25 : decode cJ27_next 25 = .ok (.iconst 1, 1) := dk_4 (dk_at dksJ27_next_1 1 rfl rfl)
theorem dJ27_next_26 : decode cJ27_next 26 = .ok (.iadd, 1) := dk_96 (dk_at dksJ27_next_1 2 rfl rfl)
theorem dJ27_next_27 : decode cJ27_next 27 = .ok (.putfield 13, 3) := dk_181 0 13 (dk_at dksJ27_next_1 3 rfl rfl)
theorem dJ27_next_30 : decode cJ27_next 30 = .ok (.aload_n 2, 1) := dk_44 (dk_at dksJ27_next_1 6 rfl rfl)
theorem dJ27_next_31 : decode cJ27_next 31 = .ok (.areturn, 1) := dk_176 (dk_at dksJ27_next_1 7 rfl rfl)
theorem dJ27_next_32 : decode cJ27_next 32 = .ok (.astore_n 1, 1) := dk_76 (dk_at dksJ27_next_1 8 rfl rfl)
theorem dJ27_next_33 : decode cJ27_next 33 = .ok (.aload_n 0, 1) := dk_42 (dk_at dksJ27_next_1 9 rfl rfl)
theorem dJ27_next_34 : decode cJ27_next 34 = .ok (.invokevirtual 32, 3) := dk_182 0 32 (dk_at dksJ27_next_1 10 rfl rfl)
theorem dJ27_next_37 : decode cJ27_next 37 = .ok (.new 41, 3) := dk_187 0 41 (dk_at dksJ27_next_1 13 rfl rfl)
theorem dJ27_next_40 : decode cJ27_next 40 = .ok (.dup, 1) := dk_89 (dk_at dksJ27_next_1 16 rfl rfl)
theorem dJ27_next_41 : decode cJ27_next 41 = .ok (.aload_n 1, 1) := dk_43 (dk_at dksJ27_next_1 17 rfl rfl)
theorem dJ27_next_42 : decode cJ27_next 42 = .ok (.invokespecial 43, 3) := dk_183 0 43 (dk_at dksJ27_next_1 18 rfl rfl)
theorem dJ27_next_45 : decode cJ27_next 45 = .ok (.athrow, 1) := dk_191 (dk_at dksJ27_next_1 21 rfl rfl)
abbrev cJ27_checkForComodification : ByteArray := prog_43_method_5_code
def yJ27_checkForComodification : MethodName := ⟨RJ27, "checkForComodification", "()V"⟩
def dkwJ27_checkForComodification_0 : List UInt8 := [42, 180, 0, 1, 180, 0, 20, 42, 180, 0, 25, 159, 0, 11, 187, 0, 52, 89, 183, 0, 54, 191, 177]
abbrev dktJ27_checkForComodification_0 : List UInt8 := dkwJ27_checkForComodification_0 ++ []
theorem dksJ27_checkForComodification_0 : cJ27_checkForComodification.data.toList.drop 0 = dktJ27_checkForComodification_0 := by decide +kernel
theorem dJ27_checkForComodification_0 : decode cJ27_checkForComodification 0 = .ok (.aload_n 0, 1) := dk_42 (dk_at dksJ27_checkForComodification_0 0 rfl rfl)
theorem dJ27_checkForComodification_1 : decode cJ27_checkForComodification 1 = .ok (.getfield 1, 3) := dk_180 0 1 (dk_at dksJ27_checkForComodification_0 1 rfl rfl)
theorem dJ27_checkForComodification_4 : decode cJ27_checkForComodification 4 = .ok (.getfield 20, 3) := dk_180 0 20 (dk_at dksJ27_checkForComodification_0 4 rfl rfl)
theorem dJ27_checkForComodification_7 : decode cJ27_checkForComodification 7 = .ok (.aload_n 0, 1) := dk_42 (dk_at dksJ27_checkForComodification_0 7 rfl rfl)
theorem dJ27_checkForComodification_8 : decode cJ27_checkForComodification 8 = .ok (.getfield 25, 3) := dk_180 0 25 (dk_at dksJ27_checkForComodification_0 8 rfl rfl)
theorem dJ27_checkForComodification_11 : decode cJ27_checkForComodification 11 = .ok (.if_icmp .eq 11, 3) := dk_159 0 11 (dk_at dksJ27_checkForComodification_0 11 rfl rfl)
theorem dJ27_checkForComodification_14 : decode cJ27_checkForComodification 14 = .ok (.new 52, 3) := dk_187 0 52 (dk_at dksJ27_checkForComodification_0 14 rfl rfl)
theorem dJ27_checkForComodification_17 : decode cJ27_checkForComodification 17 = .ok (.dup, 1) := dk_89 (dk_at dksJ27_checkForComodification_0 17 rfl rfl)
theorem dJ27_checkForComodification_18 : decode cJ27_checkForComodification 18 = .ok (.invokespecial 54, 3) := dk_183 0 54 (dk_at dksJ27_checkForComodification_0 18 rfl rfl)
theorem dJ27_checkForComodification_21 : decode cJ27_checkForComodification 21 = .ok (.athrow, 1) := dk_191 (dk_at dksJ27_checkForComodification_0 21 rfl rfl)
theorem dJ27_checkForComodification_22 : decode cJ27_checkForComodification 22 = .ok (.return_, 1) := dk_177 (dk_at dksJ27_checkForComodification_0 22 rfl rfl)
abbrev cJ27_remove : ByteArray := prog_43_method_4_code
def yJ27_remove : MethodName := ⟨RJ27, "remove", "()V"⟩
def dkwJ27_remove_3 : List UInt8 := [187, 0, 52, 89, 183, 0, 54, 191, 177]
abbrev dktJ27_remove_3 : List UInt8 := dkwJ27_remove_3 ++ []
def dkwJ27_remove_2 : List UInt8 := [100, 181, 0, 13, 42, 2, 181, 0, 17, 42, 42, 180, 0, 1, 180, 0, 20, 181, 0, 25, 167, 0, 12, 76]
abbrev dktJ27_remove_2 : List UInt8 := dkwJ27_remove_2 ++ dktJ27_remove_3
def dkwJ27_remove_1 : List UInt8 := [180, 0, 17, 182, 0, 49, 87, 42, 180, 0, 17, 42, 180, 0, 13, 162, 0, 13, 42, 89, 180, 0, 13, 4]
abbrev dktJ27_remove_1 : List UInt8 := dkwJ27_remove_1 ++ dktJ27_remove_2
def dkwJ27_remove_0 : List UInt8 := [42, 180, 0, 17, 156, 0, 11, 187, 0, 46, 89, 183, 0, 48, 191, 42, 182, 0, 32, 42, 180, 0, 1, 42]
abbrev dktJ27_remove_0 : List UInt8 := dkwJ27_remove_0 ++ dktJ27_remove_1
theorem dksJ27_remove_0 : cJ27_remove.data.toList.drop 0 = dktJ27_remove_0 := by decide +kernel
theorem dksJ27_remove_1 : cJ27_remove.data.toList.drop 24 = dktJ27_remove_1 := dk_seg dksJ27_remove_0 24 rfl rfl
theorem dksJ27_remove_2 : cJ27_remove.data.toList.drop 48 = dktJ27_remove_2 := dk_seg dksJ27_remove_1 24 rfl rfl
theorem dksJ27_remove_3 : cJ27_remove.data.toList.drop 72 = dktJ27_remove_3 := dk_seg dksJ27_remove_2 24 rfl rfl
theorem dJ27_remove_0 : decode cJ27_remove 0 = .ok (.aload_n 0, 1) := dk_42 (dk_at dksJ27_remove_0 0 rfl rfl)
theorem dJ27_remove_1 : decode cJ27_remove 1 = .ok (.getfield 17, 3) := dk_180 0 17 (dk_at dksJ27_remove_0 1 rfl rfl)
theorem dJ27_remove_4 : decode cJ27_remove 4 = .ok (.ifCond .ge 11, 3) := dk_156 0 11 (dk_at dksJ27_remove_0 4 rfl rfl)
theorem dJ27_remove_7 : decode cJ27_remove 7 = .ok (.new 46, 3) := dk_187 0 46 (dk_at dksJ27_remove_0 7 rfl rfl)
theorem dJ27_remove_10 : decode cJ27_remove 10 = .ok (.dup, 1) := dk_89 (dk_at dksJ27_remove_0 10 rfl rfl)
theorem dJ27_remove_11 : decode cJ27_remove 11 = .ok (.invokespecial 48, 3) := dk_183 0 48 (dk_at dksJ27_remove_0 11 rfl rfl)
theorem dJ27_remove_14 : decode cJ27_remove 14 = .ok (.athrow, 1) := dk_191 (dk_at dksJ27_remove_0 14 rfl rfl)
theorem dJ27_remove_15 : decode cJ27_remove 15 = .ok (.aload_n 0, 1) := dk_42 (dk_at dksJ27_remove_0 15 rfl rfl)
theorem dJ27_remove_16 : decode cJ27_remove 16 = .ok (.invokevirtual 32, 3) := dk_182 0 32 (dk_at dksJ27_remove_0 16 rfl rfl)
theorem dJ27_remove_19 : decode cJ27_remove 19 = .ok (.aload_n 0, 1) := dk_42 (dk_at dksJ27_remove_0 19 rfl rfl)
theorem dJ27_remove_20 : decode cJ27_remove 20 = .ok (.getfield 1, 3) := dk_180 0 1 (dk_at dksJ27_remove_0 20 rfl rfl)
theorem dJ27_remove_23 : decode cJ27_remove 23 = .ok (.aload_n 0, 1) := dk_42 (dk_at dksJ27_remove_0 23 rfl rfl)
theorem dJ27_remove_24 : decode cJ27_remove 24 = .ok (.getfield 17, 3) := dk_180 0 17 (dk_at dksJ27_remove_1 0 rfl rfl)
theorem dJ27_remove_27 : decode cJ27_remove 27 = .ok (.invokevirtual 49, 3) := dk_182 0 49 (dk_at dksJ27_remove_1 3 rfl rfl)
theorem dJ27_remove_30 : decode cJ27_remove 30 = .ok (.pop, 1) := dk_87 (dk_at dksJ27_remove_1 6 rfl rfl)
theorem dJ27_remove_31 : decode cJ27_remove 31 = .ok (.aload_n 0, 1) := dk_42 (dk_at dksJ27_remove_1 7 rfl rfl)
theorem dJ27_remove_32 : decode cJ27_remove 32 = .ok (.getfield 17, 3) := dk_180 0 17 (dk_at dksJ27_remove_1 8 rfl rfl)
theorem dJ27_remove_35 : decode cJ27_remove 35 = .ok (.aload_n 0, 1) := dk_42 (dk_at dksJ27_remove_1 11 rfl rfl)
theorem dJ27_remove_36 : decode cJ27_remove 36 = .ok (.getfield 13, 3) := dk_180 0 13 (dk_at dksJ27_remove_1 12 rfl rfl)
theorem dJ27_remove_39 : decode cJ27_remove 39 = .ok (.if_icmp .ge 13, 3) := dk_162 0 13 (dk_at dksJ27_remove_1 15 rfl rfl)
theorem dJ27_remove_42 : decode cJ27_remove 42 = .ok (.aload_n 0, 1) := dk_42 (dk_at dksJ27_remove_1 18 rfl rfl)
theorem dJ27_remove_43 : decode cJ27_remove 43 = .ok (.dup, 1) := dk_89 (dk_at dksJ27_remove_1 19 rfl rfl)
theorem dJ27_remove_44 : decode cJ27_remove 44 = .ok (.getfield 13, 3) := dk_180 0 13 (dk_at dksJ27_remove_1 20 rfl rfl)
theorem dJ27_remove_47 : decode cJ27_remove 47 = .ok (.iconst 1, 1) := dk_4 (dk_at dksJ27_remove_1 23 rfl rfl)
theorem dJ27_remove_48 : decode cJ27_remove 48 = .ok (.isub, 1) := dk_100 (dk_at dksJ27_remove_2 0 rfl rfl)
theorem dJ27_remove_49 : decode cJ27_remove 49 = .ok (.putfield 13, 3) := dk_181 0 13 (dk_at dksJ27_remove_2 1 rfl rfl)
theorem dJ27_remove_52 : decode cJ27_remove 52 = .ok (.aload_n 0, 1) := dk_42 (dk_at dksJ27_remove_2 4 rfl rfl)
theorem dJ27_remove_53 : decode cJ27_remove 53 = .ok (.iconst (-1), 1) := dk_2 (dk_at dksJ27_remove_2 5 rfl rfl)
theorem dJ27_remove_54 : decode cJ27_remove 54 = .ok (.putfield 17, 3) := dk_181 0 17 (dk_at dksJ27_remove_2 6 rfl rfl)
theorem dJ27_remove_57 : decode cJ27_remove 57 = .ok (.aload_n 0, 1) := dk_42 (dk_at dksJ27_remove_2 9 rfl rfl)
theorem dJ27_remove_58 : decode cJ27_remove 58 = .ok (.aload_n 0, 1) := dk_42 (dk_at dksJ27_remove_2 10 rfl rfl)
theorem dJ27_remove_59 : decode cJ27_remove 59 = .ok (.getfield 1, 3) := dk_180 0 1 (dk_at dksJ27_remove_2 11 rfl rfl)
theorem dJ27_remove_62 : decode cJ27_remove 62 = .ok (.getfield 20, 3) := dk_180 0 20 (dk_at dksJ27_remove_2 14 rfl rfl)
theorem dJ27_remove_65 : decode cJ27_remove 65 = .ok (.putfield 25, 3) := dk_181 0 25 (dk_at dksJ27_remove_2 17 rfl rfl)
theorem dJ27_remove_68 : decode cJ27_remove 68 = .ok (.goto 12, 3) := dk_167 0 12 (dk_at dksJ27_remove_2 20 rfl rfl)
theorem dJ27_remove_71 : decode cJ27_remove 71 = .ok (.astore_n 1, 1) := dk_76 (dk_at dksJ27_remove_2 23 rfl rfl)
theorem dJ27_remove_72 : decode cJ27_remove 72 = .ok (.new 52, 3) := dk_187 0 52 (dk_at dksJ27_remove_3 0 rfl rfl)
theorem dJ27_remove_75 : decode cJ27_remove 75 = .ok (.dup, 1) := dk_89 (dk_at dksJ27_remove_3 3 rfl rfl)
theorem dJ27_remove_76 : decode cJ27_remove 76 = .ok (.invokespecial 54, 3) := dk_183 0 54 (dk_at dksJ27_remove_3 4 rfl rfl)
theorem dJ27_remove_79 : decode cJ27_remove 79 = .ok (.athrow, 1) := dk_191 (dk_at dksJ27_remove_3 7 rfl rfl)
theorem dJ27_remove_80 : decode cJ27_remove 80 = .ok (.return_, 1) := dk_177 (dk_at dksJ27_remove_3 8 rfl rfl)
abbrev cJ5_init : ByteArray := prog_46_method_3_code
def yJ5_init : MethodName := ⟨RJ5, "<init>", "()V"⟩
def dkwJ5_init_0 : List UInt8 := [42, 183, 0, 42, 42, 16, 17, 189, 0, 47, 181, 0, 3, 177]
abbrev dktJ5_init_0 : List UInt8 := dkwJ5_init_0 ++ []
theorem dksJ5_init_0 : cJ5_init.data.toList.drop 0 = dktJ5_init_0 := by decide +kernel
theorem dJ5_init_0 : decode cJ5_init 0 = .ok (.aload_n 0, 1) := dk_42 (dk_at dksJ5_init_0 0 rfl rfl)
theorem dJ5_init_1 : decode cJ5_init 1 = .ok (.invokespecial 42, 3) := dk_183 0 42 (dk_at dksJ5_init_0 1 rfl rfl)
theorem dJ5_init_4 : decode cJ5_init 4 = .ok (.aload_n 0, 1) := dk_42 (dk_at dksJ5_init_0 4 rfl rfl)
theorem dJ5_init_5 : decode cJ5_init 5 = .ok (.bipush 17, 2) := dk_16 17 (dk_at dksJ5_init_0 5 rfl rfl)
theorem dJ5_init_7 : decode cJ5_init 7 = .ok (.anewarray 47, 3) := dk_189 0 47 (dk_at dksJ5_init_0 7 rfl rfl)
theorem dJ5_init_10 : decode cJ5_init 10 = .ok (.putfield 3, 3) := dk_181 0 3 (dk_at dksJ5_init_0 10 rfl rfl)
theorem dJ5_init_13 : decode cJ5_init 13 = .ok (.return_, 1) := dk_177 (dk_at dksJ5_init_0 13 rfl rfl)
abbrev cJ5_nonNullElementAt : ByteArray := prog_46_method_11_code
def yJ5_nonNullElementAt : MethodName := ⟨RJ5, "nonNullElementAt", "([Ljava/lang/Object;I)Ljava/lang/Object;"⟩
def dkwJ5_nonNullElementAt_0 : List UInt8 := [42, 27, 50, 77, 44, 199, 0, 11, 187, 0, 62, 89, 183, 0, 64, 191, 44, 176]
abbrev dktJ5_nonNullElementAt_0 : List UInt8 := dkwJ5_nonNullElementAt_0 ++ []
theorem dksJ5_nonNullElementAt_0 : cJ5_nonNullElementAt.data.toList.drop 0 = dktJ5_nonNullElementAt_0 := by decide +kernel
theorem dJ5_nonNullElementAt_0 : decode cJ5_nonNullElementAt 0 = .ok (.aload_n 0, 1) := dk_42 (dk_at dksJ5_nonNullElementAt_0 0 rfl rfl)
theorem dJ5_nonNullElementAt_1 : decode cJ5_nonNullElementAt 1 = .ok (.iload_n 1, 1) := dk_27 (dk_at dksJ5_nonNullElementAt_0 1 rfl rfl)
theorem dJ5_nonNullElementAt_2 : decode cJ5_nonNullElementAt 2 = .ok (.aaload, 1) := dk_50 (dk_at dksJ5_nonNullElementAt_0 2 rfl rfl)
theorem dJ5_nonNullElementAt_3 : decode cJ5_nonNullElementAt 3 = .ok (.astore_n 2, 1) := dk_77 (dk_at dksJ5_nonNullElementAt_0 3 rfl rfl)
theorem dJ5_nonNullElementAt_4 : decode cJ5_nonNullElementAt 4 = .ok (.aload_n 2, 1) := dk_44 (dk_at dksJ5_nonNullElementAt_0 4 rfl rfl)
theorem dJ5_nonNullElementAt_5 : decode cJ5_nonNullElementAt 5 = .ok (.ifnonnull 11, 3) := dk_199 0 11 (dk_at dksJ5_nonNullElementAt_0 5 rfl rfl)
theorem dJ5_nonNullElementAt_8 : decode cJ5_nonNullElementAt 8 = .ok (.new 62, 3) := dk_187 0 62 (dk_at dksJ5_nonNullElementAt_0 8 rfl rfl)
theorem dJ5_nonNullElementAt_11 : decode cJ5_nonNullElementAt 11 = .ok (.dup, 1) := dk_89 (dk_at dksJ5_nonNullElementAt_0 11 rfl rfl)
theorem dJ5_nonNullElementAt_12 : decode cJ5_nonNullElementAt 12 = .ok (.invokespecial 64, 3) := dk_183 0 64 (dk_at dksJ5_nonNullElementAt_0 12 rfl rfl)
theorem dJ5_nonNullElementAt_15 : decode cJ5_nonNullElementAt 15 = .ok (.athrow, 1) := dk_191 (dk_at dksJ5_nonNullElementAt_0 15 rfl rfl)
theorem dJ5_nonNullElementAt_16 : decode cJ5_nonNullElementAt 16 = .ok (.aload_n 2, 1) := dk_44 (dk_at dksJ5_nonNullElementAt_0 16 rfl rfl)
theorem dJ5_nonNullElementAt_17 : decode cJ5_nonNullElementAt 17 = .ok (.areturn, 1) := dk_176 (dk_at dksJ5_nonNullElementAt_0 17 rfl rfl)
abbrev cJ5_inc : ByteArray := prog_46_method_6_code
def yJ5_inc : MethodName := ⟨RJ5, "inc", "(II)I"⟩
def dkwJ5_inc_0 : List UInt8 := [132, 0, 1, 26, 27, 161, 0, 5, 3, 59, 26, 172]
abbrev dktJ5_inc_0 : List UInt8 := dkwJ5_inc_0 ++ []
theorem dksJ5_inc_0 : cJ5_inc.data.toList.drop 0 = dktJ5_inc_0 := by decide +kernel
theorem dJ5_inc_0 : decode cJ5_inc 0 = .ok (.iinc 0 1, 3) := dk_132 0 1 (dk_at dksJ5_inc_0 0 rfl rfl)
theorem dJ5_inc_3 : decode cJ5_inc 3 = .ok (.iload_n 0, 1) := dk_26 (dk_at dksJ5_inc_0 3 rfl rfl)
theorem dJ5_inc_4 : decode cJ5_inc 4 = .ok (.iload_n 1, 1) := dk_27 (dk_at dksJ5_inc_0 4 rfl rfl)
theorem dJ5_inc_5 : decode cJ5_inc 5 = .ok (.if_icmp .lt 5, 3) := dk_161 0 5 (dk_at dksJ5_inc_0 5 rfl rfl)
theorem dJ5_inc_8 : decode cJ5_inc 8 = .ok (.iconst 0, 1) := dk_3 (dk_at dksJ5_inc_0 8 rfl rfl)
theorem dJ5_inc_9 : decode cJ5_inc 9 = .ok (.istore_n 0, 1) := dk_59 (dk_at dksJ5_inc_0 9 rfl rfl)
theorem dJ5_inc_10 : decode cJ5_inc 10 = .ok (.iload_n 0, 1) := dk_26 (dk_at dksJ5_inc_0 10 rfl rfl)
theorem dJ5_inc_11 : decode cJ5_inc 11 = .ok (.ireturn, 1) := dk_172 (dk_at dksJ5_inc_0 11 rfl rfl)
abbrev cJ5_iterator : ByteArray := prog_46_method_39_code
def yJ5_iterator : MethodName := ⟨RJ5, "iterator", "()Ljava/util/Iterator;"⟩
def dkwJ5_iterator_0 : List UInt8 := [187, 0, 131, 89, 42, 183, 0, 133, 176]
abbrev dktJ5_iterator_0 : List UInt8 := dkwJ5_iterator_0 ++ []
theorem dksJ5_iterator_0 : cJ5_iterator.data.toList.drop 0 = dktJ5_iterator_0 := by decide +kernel
theorem dJ5_iterator_0 : decode cJ5_iterator 0 = .ok (.new 131, 3) := dk_187 0 131 (dk_at dksJ5_iterator_0 0 rfl rfl)
theorem dJ5_iterator_3 : decode cJ5_iterator 3 = .ok (.dup, 1) := dk_89 (dk_at dksJ5_iterator_0 3 rfl rfl)
theorem dJ5_iterator_4 : decode cJ5_iterator 4 = .ok (.aload_n 0, 1) := dk_42 (dk_at dksJ5_iterator_0 4 rfl rfl)
theorem dJ5_iterator_5 : decode cJ5_iterator 5 = .ok (.invokespecial 133, 3) := dk_183 0 133 (dk_at dksJ5_iterator_0 5 rfl rfl)
theorem dJ5_iterator_8 : decode cJ5_iterator 8 = .ok (.areturn, 1) := dk_176 (dk_at dksJ5_iterator_0 8 rfl rfl)
abbrev cJ5_size : ByteArray := prog_46_method_37_code
def yJ5_size : MethodName := ⟨RJ5, "size", "()I"⟩
def dkwJ5_size_0 : List UInt8 := [42, 180, 0, 20, 42, 180, 0, 24, 42, 180, 0, 3, 190, 184, 0, 127, 172]
abbrev dktJ5_size_0 : List UInt8 := dkwJ5_size_0 ++ []
theorem dksJ5_size_0 : cJ5_size.data.toList.drop 0 = dktJ5_size_0 := by decide +kernel
theorem dJ5_size_0 : decode cJ5_size 0 = .ok (.aload_n 0, 1) := dk_42 (dk_at dksJ5_size_0 0 rfl rfl)
theorem dJ5_size_1 : decode cJ5_size 1 = .ok (.getfield 20, 3) := dk_180 0 20 (dk_at dksJ5_size_0 1 rfl rfl)
theorem dJ5_size_4 : decode cJ5_size 4 = .ok (.aload_n 0, 1) := dk_42 (dk_at dksJ5_size_0 4 rfl rfl)
theorem dJ5_size_5 : decode cJ5_size 5 = .ok (.getfield 24, 3) := dk_180 0 24 (dk_at dksJ5_size_0 5 rfl rfl)
theorem dJ5_size_8 : decode cJ5_size 8 = .ok (.aload_n 0, 1) := dk_42 (dk_at dksJ5_size_0 8 rfl rfl)
theorem dJ5_size_9 : decode cJ5_size 9 = .ok (.getfield 3, 3) := dk_180 0 3 (dk_at dksJ5_size_0 9 rfl rfl)
theorem dJ5_size_12 : decode cJ5_size 12 = .ok (.arraylength, 1) := dk_190 (dk_at dksJ5_size_0 12 rfl rfl)
theorem dJ5_size_13 : decode cJ5_size 13 = .ok (.invokestatic 127, 3) := dk_184 0 127 (dk_at dksJ5_size_0 13 rfl rfl)
theorem dJ5_size_16 : decode cJ5_size 16 = .ok (.ireturn, 1) := dk_172 (dk_at dksJ5_size_0 16 rfl rfl)
abbrev cJ5_sub : ByteArray := prog_46_method_9_code
def yJ5_sub : MethodName := ⟨RJ5, "sub", "(III)I"⟩
def dkwJ5_sub_0 : List UInt8 := [26, 27, 100, 89, 59, 156, 0, 7, 26, 28, 96, 59, 26, 172]
abbrev dktJ5_sub_0 : List UInt8 := dkwJ5_sub_0 ++ []
theorem dksJ5_sub_0 : cJ5_sub.data.toList.drop 0 = dktJ5_sub_0 := by decide +kernel
theorem dJ5_sub_0 : decode cJ5_sub 0 = .ok (.iload_n 0, 1) := dk_26 (dk_at dksJ5_sub_0 0 rfl rfl)
theorem dJ5_sub_1 : decode cJ5_sub 1 = .ok (.iload_n 1, 1) := dk_27 (dk_at dksJ5_sub_0 1 rfl rfl)
theorem dJ5_sub_2 : decode cJ5_sub 2 = .ok (.isub, 1) := dk_100 (dk_at dksJ5_sub_0 2 rfl rfl)
theorem dJ5_sub_3 : decode cJ5_sub 3 = .ok (.dup, 1) := dk_89 (dk_at dksJ5_sub_0 3 rfl rfl)
theorem dJ5_sub_4 : decode cJ5_sub 4 = .ok (.istore_n 0, 1) := dk_59 (dk_at dksJ5_sub_0 4 rfl rfl)
theorem dJ5_sub_5 : decode cJ5_sub 5 = .ok (.ifCond .ge 7, 3) := dk_156 0 7 (dk_at dksJ5_sub_0 5 rfl rfl)
theorem dJ5_sub_8 : decode cJ5_sub 8 = .ok (.iload_n 0, 1) := dk_26 (dk_at dksJ5_sub_0 8 rfl rfl)
theorem dJ5_sub_9 : decode cJ5_sub 9 = .ok (.iload_n 2, 1) := dk_28 (dk_at dksJ5_sub_0 9 rfl rfl)
theorem dJ5_sub_10 : decode cJ5_sub 10 = .ok (.iadd, 1) := dk_96 (dk_at dksJ5_sub_0 10 rfl rfl)
theorem dJ5_sub_11 : decode cJ5_sub 11 = .ok (.istore_n 0, 1) := dk_59 (dk_at dksJ5_sub_0 11 rfl rfl)
theorem dJ5_sub_12 : decode cJ5_sub 12 = .ok (.iload_n 0, 1) := dk_26 (dk_at dksJ5_sub_0 12 rfl rfl)
theorem dJ5_sub_13 : decode cJ5_sub 13 = .ok (.ireturn, 1) := dk_172 (dk_at dksJ5_sub_0 13 rfl rfl)
abbrev cJ5_addLast : ByteArray := prog_46_method_13_code
def yJ5_addLast : MethodName := ⟨RJ5, "addLast", "(Ljava/lang/Object;)V"⟩
def dkwJ5_addLast_2 : List UInt8 := [182, 0, 71, 177]
abbrev dktJ5_addLast_2 : List UInt8 := dkwJ5_addLast_2 ++ []
def dkwJ5_addLast_1 : List UInt8 := [42, 180, 0, 24, 42, 42, 180, 0, 20, 44, 190, 184, 0, 74, 90, 181, 0, 20, 160, 0, 8, 42, 4]
abbrev dktJ5_addLast_1 : List UInt8 := dkwJ5_addLast_1 ++ dktJ5_addLast_2
def dkwJ5_addLast_0 : List UInt8 := [43, 199, 0, 11, 187, 0, 65, 89, 183, 0, 67, 191, 42, 180, 0, 3, 77, 44, 42, 180, 0, 20, 43, 83]
abbrev dktJ5_addLast_0 : List UInt8 := dkwJ5_addLast_0 ++ dktJ5_addLast_1
theorem dksJ5_addLast_0 : cJ5_addLast.data.toList.drop 0 = dktJ5_addLast_0 := by decide +kernel
theorem dksJ5_addLast_1 : cJ5_addLast.data.toList.drop 24 = dktJ5_addLast_1 := dk_seg dksJ5_addLast_0 24 rfl rfl
theorem dksJ5_addLast_2 : cJ5_addLast.data.toList.drop 47 = dktJ5_addLast_2 := dk_seg dksJ5_addLast_1 23 rfl rfl
theorem dJ5_addLast_0 : decode cJ5_addLast 0 = .ok (.aload_n 1, 1) := dk_43 (dk_at dksJ5_addLast_0 0 rfl rfl)
theorem dJ5_addLast_1 : decode cJ5_addLast 1 = .ok (.ifnonnull 11, 3) := dk_199 0 11 (dk_at dksJ5_addLast_0 1 rfl rfl)
theorem dJ5_addLast_4 : decode cJ5_addLast 4 = .ok (.new 65, 3) := dk_187 0 65 (dk_at dksJ5_addLast_0 4 rfl rfl)
theorem dJ5_addLast_7 : decode cJ5_addLast 7 = .ok (.dup, 1) := dk_89 (dk_at dksJ5_addLast_0 7 rfl rfl)
theorem dJ5_addLast_8 : decode cJ5_addLast 8 = .ok (.invokespecial 67, 3) := dk_183 0 67 (dk_at dksJ5_addLast_0 8 rfl rfl)
theorem dJ5_addLast_11 : decode cJ5_addLast 11 = .ok (.athrow, 1) := dk_191 (dk_at dksJ5_addLast_0 11 rfl rfl)
theorem dJ5_addLast_12 : decode cJ5_addLast 12 = .ok (.aload_n 0, 1) := dk_42 (dk_at dksJ5_addLast_0 12 rfl rfl)
theorem dJ5_addLast_13 : decode cJ5_addLast 13 = .ok (.getfield 3, 3) := dk_180 0 3 (dk_at dksJ5_addLast_0 13 rfl rfl)
theorem dJ5_addLast_16 : decode cJ5_addLast 16 = .ok (.astore_n 2, 1) := dk_77 (dk_at dksJ5_addLast_0 16 rfl rfl)
theorem dJ5_addLast_17 : decode cJ5_addLast 17 = .ok (.aload_n 2, 1) := dk_44 (dk_at dksJ5_addLast_0 17 rfl rfl)
theorem dJ5_addLast_18 : decode cJ5_addLast 18 = .ok (.aload_n 0, 1) := dk_42 (dk_at dksJ5_addLast_0 18 rfl rfl)
theorem dJ5_addLast_19 : decode cJ5_addLast 19 = .ok (.getfield 20, 3) := dk_180 0 20 (dk_at dksJ5_addLast_0 19 rfl rfl)
theorem dJ5_addLast_22 : decode cJ5_addLast 22 = .ok (.aload_n 1, 1) := dk_43 (dk_at dksJ5_addLast_0 22 rfl rfl)
theorem dJ5_addLast_23 : decode cJ5_addLast 23 = .ok (.aastore, 1) := dk_83 (dk_at dksJ5_addLast_0 23 rfl rfl)
theorem dJ5_addLast_24 : decode cJ5_addLast 24 = .ok (.aload_n 0, 1) := dk_42 (dk_at dksJ5_addLast_1 0 rfl rfl)
theorem dJ5_addLast_25 : decode cJ5_addLast 25 = .ok (.getfield 24, 3) := dk_180 0 24 (dk_at dksJ5_addLast_1 1 rfl rfl)
theorem dJ5_addLast_28 : decode cJ5_addLast 28 = .ok (.aload_n 0, 1) := dk_42 (dk_at dksJ5_addLast_1 4 rfl rfl)
theorem dJ5_addLast_29 : decode cJ5_addLast 29 = .ok (.aload_n 0, 1) := dk_42 (dk_at dksJ5_addLast_1 5 rfl rfl)
theorem dJ5_addLast_30 : decode cJ5_addLast 30 = .ok (.getfield 20, 3) := dk_180 0 20 (dk_at dksJ5_addLast_1 6 rfl rfl)
theorem dJ5_addLast_33 : decode cJ5_addLast 33 = .ok (.aload_n 2, 1) := dk_44 (dk_at dksJ5_addLast_1 9 rfl rfl)
theorem dJ5_addLast_34 : decode cJ5_addLast 34 = .ok (.arraylength, 1) := dk_190 (dk_at dksJ5_addLast_1 10 rfl rfl)
theorem dJ5_addLast_35 : decode cJ5_addLast 35 = .ok (.invokestatic 74, 3) := dk_184 0 74 (dk_at dksJ5_addLast_1 11 rfl rfl)
theorem dJ5_addLast_38 : decode cJ5_addLast 38 = .ok (.dup_x1, 1) := dk_90 (dk_at dksJ5_addLast_1 14 rfl rfl)
theorem dJ5_addLast_39 : decode cJ5_addLast 39 = .ok (.putfield 20, 3) := dk_181 0 20 (dk_at dksJ5_addLast_1 15 rfl rfl)
theorem dJ5_addLast_42 : decode cJ5_addLast 42 = .ok (.if_icmp .ne 8, 3) := dk_160 0 8 (dk_at dksJ5_addLast_1 18 rfl rfl)
theorem dJ5_addLast_45 : decode cJ5_addLast 45 = .ok (.aload_n 0, 1) := dk_42 (dk_at dksJ5_addLast_1 21 rfl rfl)
theorem dJ5_addLast_46 : decode cJ5_addLast 46 = .ok (.iconst 1, 1) := dk_4 (dk_at dksJ5_addLast_1 22 rfl rfl)
theorem dJ5_addLast_47 : decode cJ5_addLast 47 = .ok (.invokevirtual 71, 3) := dk_182 0 71 (dk_at dksJ5_addLast_2 0 rfl rfl)
theorem dJ5_addLast_50 : decode cJ5_addLast 50 = .ok (.return_, 1) := dk_177 (dk_at dksJ5_addLast_2 3 rfl rfl)
abbrev cJ5_grow : ByteArray := prog_46_method_1_code
def yJ5_grow : MethodName := ⟨RJ5, "grow", "(I)V"⟩
def dkwJ5_grow_7 : List UInt8 := [177]
abbrev dktJ5_grow_7 : List UInt8 := dkwJ5_grow_7 ++ []
def dkwJ5_grow_6 : List UInt8 := [181, 0, 24, 54, 8, 21, 7, 21, 8, 162, 0, 15, 25, 5, 21, 7, 1, 83, 132, 7, 1, 167, 255, 240]
abbrev dktJ5_grow_6 : List UInt8 := dkwJ5_grow_6 ++ dktJ5_grow_7
def dkwJ5_grow_5 : List UInt8 := [42, 180, 0, 24, 100, 184, 0, 27, 42, 180, 0, 24, 54, 7, 42, 89, 180, 0, 24, 21, 6, 96, 90]
abbrev dktJ5_grow_5 : List UInt8 := dkwJ5_grow_5 ++ dktJ5_grow_6
def dkwJ5_grow_4 : List UInt8 := [198, 0, 71, 29, 28, 100, 54, 6, 25, 5, 42, 180, 0, 24, 25, 5, 42, 180, 0, 24, 21, 6, 96, 28]
abbrev dktJ5_grow_4 : List UInt8 := dkwJ5_grow_4 ++ dktJ5_grow_5
def dkwJ5_grow_3 : List UInt8 := [180, 0, 24, 161, 0, 24, 42, 180, 0, 20, 42, 180, 0, 24, 160, 0, 81, 25, 5, 42, 180, 0, 24, 50]
abbrev dktJ5_grow_3 : List UInt8 := dkwJ5_grow_3 ++ dktJ5_grow_4
def dkwJ5_grow_2 : List UInt8 := [182, 0, 10, 62, 42, 42, 180, 0, 3, 29, 184, 0, 14, 90, 181, 0, 3, 58, 5, 42, 180, 0, 20, 42]
abbrev dktJ5_grow_2 : List UInt8 := dkwJ5_grow_2 ++ dktJ5_grow_3
def dkwJ5_grow_1 : List UInt8 := [21, 4, 27, 161, 0, 15, 28, 21, 4, 96, 89, 62, 18, 9, 100, 158, 0, 11, 42, 27, 21, 4]
abbrev dktJ5_grow_1 : List UInt8 := dkwJ5_grow_1 ++ dktJ5_grow_2
def dkwJ5_grow_0 : List UInt8 := [42, 180, 0, 3, 190, 61, 28, 16, 64, 162, 0, 9, 28, 5, 96, 167, 0, 6, 28, 4, 122, 54, 4]
abbrev dktJ5_grow_0 : List UInt8 := dkwJ5_grow_0 ++ dktJ5_grow_1
theorem dksJ5_grow_0 : cJ5_grow.data.toList.drop 0 = dktJ5_grow_0 := by decide +kernel
theorem dksJ5_grow_1 : cJ5_grow.data.toList.drop 23 = dktJ5_grow_1 := dk_seg dksJ5_grow_0 23 rfl rfl
theorem dksJ5_grow_2 : cJ5_grow.data.toList.drop 45 = dktJ5_grow_2 := dk_seg dksJ5_grow_1 22 rfl rfl
theorem dksJ5_grow_3 : cJ5_grow.data.toList.drop 69 = dktJ5_grow_3 := dk_seg dksJ5_grow_2 24 rfl rfl
theorem dksJ5_grow_4 : cJ5_grow.data.toList.drop 93 = dktJ5_grow_4 := dk_seg dksJ5_grow_3 24 rfl rfl
theorem dksJ5_grow_5 : cJ5_grow.data.toList.drop 117 = dktJ5_grow_5 := dk_seg dksJ5_grow_4 24 rfl rfl
theorem dksJ5_grow_6 : cJ5_grow.data.toList.drop 140 = dktJ5_grow_6 := dk_seg dksJ5_grow_5 23 rfl rfl
theorem dksJ5_grow_7 : cJ5_grow.data.toList.drop 164 = dktJ5_grow_7 := dk_seg dksJ5_grow_6 24 rfl rfl
theorem dJ5_grow_0 : decode cJ5_grow 0 = .ok (.aload_n 0, 1) := dk_42 (dk_at dksJ5_grow_0 0 rfl rfl)
theorem dJ5_grow_1 : decode cJ5_grow 1 = .ok (.getfield 3, 3) := dk_180 0 3 (dk_at dksJ5_grow_0 1 rfl rfl)
theorem dJ5_grow_4 : decode cJ5_grow 4 = .ok (.arraylength, 1) := dk_190 (dk_at dksJ5_grow_0 4 rfl rfl)
theorem dJ5_grow_5 : decode cJ5_grow 5 = .ok (.istore_n 2, 1) := dk_61 (dk_at dksJ5_grow_0 5 rfl rfl)
theorem dJ5_grow_6 : decode cJ5_grow 6 = .ok (.iload_n 2, 1) := dk_28 (dk_at dksJ5_grow_0 6 rfl rfl)
theorem dJ5_grow_7 : decode cJ5_grow 7 = .ok (.bipush 64, 2) := dk_16 64 (dk_at dksJ5_grow_0 7 rfl rfl)
theorem dJ5_grow_9 : decode cJ5_grow 9 = .ok (.if_icmp .ge 9, 3) := dk_162 0 9 (dk_at dksJ5_grow_0 9 rfl rfl)
theorem dJ5_grow_12 : decode cJ5_grow 12 = .ok (.iload_n 2, 1) := dk_28 (dk_at dksJ5_grow_0 12 rfl rfl)
theorem dJ5_grow_13 : decode cJ5_grow 13 = .ok (.iconst 2, 1) := dk_5 (dk_at dksJ5_grow_0 13 rfl rfl)
theorem dJ5_grow_14 : decode cJ5_grow 14 = .ok (.iadd, 1) := dk_96 (dk_at dksJ5_grow_0 14 rfl rfl)
theorem dJ5_grow_15 : decode cJ5_grow 15 = .ok (.goto 6, 3) := dk_167 0 6 (dk_at dksJ5_grow_0 15 rfl rfl)
theorem dJ5_grow_18 : decode cJ5_grow 18 = .ok (.iload_n 2, 1) := dk_28 (dk_at dksJ5_grow_0 18 rfl rfl)
theorem dJ5_grow_19 : decode cJ5_grow 19 = .ok (.iconst 1, 1) := dk_4 (dk_at dksJ5_grow_0 19 rfl rfl)
theorem dJ5_grow_20 : decode cJ5_grow 20 = .ok (.ishr, 1) := dk_122 (dk_at dksJ5_grow_0 20 rfl rfl)
theorem dJ5_grow_21 : decode cJ5_grow 21 = .ok (.istore 4, 2) := dk_54 4 (dk_at dksJ5_grow_0 21 rfl rfl)
theorem dJ5_grow_23 : decode cJ5_grow 23 = .ok (.iload 4, 2) := dk_21 4 (dk_at dksJ5_grow_1 0 rfl rfl)
theorem dJ5_grow_25 : decode cJ5_grow 25 = .ok (.iload_n 1, 1) := dk_27 (dk_at dksJ5_grow_1 2 rfl rfl)
theorem dJ5_grow_26 : decode cJ5_grow 26 = .ok (.if_icmp .lt 15, 3) := dk_161 0 15 (dk_at dksJ5_grow_1 3 rfl rfl)
theorem dJ5_grow_29 : decode cJ5_grow 29 = .ok (.iload_n 2, 1) := dk_28 (dk_at dksJ5_grow_1 6 rfl rfl)
theorem dJ5_grow_30 : decode cJ5_grow 30 = .ok (.iload 4, 2) := dk_21 4 (dk_at dksJ5_grow_1 7 rfl rfl)
theorem dJ5_grow_32 : decode cJ5_grow 32 = .ok (.iadd, 1) := dk_96 (dk_at dksJ5_grow_1 9 rfl rfl)
theorem dJ5_grow_33 : decode cJ5_grow 33 = .ok (.dup, 1) := dk_89 (dk_at dksJ5_grow_1 10 rfl rfl)
theorem dJ5_grow_34 : decode cJ5_grow 34 = .ok (.istore_n 3, 1) := dk_62 (dk_at dksJ5_grow_1 11 rfl rfl)
theorem dJ5_grow_35 : decode cJ5_grow 35 = .ok (.ldc 9, 2) := dk_18 9 (dk_at dksJ5_grow_1 12 rfl rfl)
theorem dJ5_grow_37 : decode cJ5_grow 37 = .ok (.isub, 1) := dk_100 (dk_at dksJ5_grow_1 14 rfl rfl)
theorem dJ5_grow_38 : decode cJ5_grow 38 = .ok (.ifCond .le 11, 3) := dk_158 0 11 (dk_at dksJ5_grow_1 15 rfl rfl)
theorem dJ5_grow_41 : decode cJ5_grow 41 = .ok (.aload_n 0, 1) := dk_42 (dk_at dksJ5_grow_1 18 rfl rfl)
theorem dJ5_grow_42 : decode cJ5_grow 42 = .ok (.iload_n 1, 1) := dk_27 (dk_at dksJ5_grow_1 19 rfl rfl)
theorem dJ5_grow_43 : decode cJ5_grow 43 = .ok (.iload 4, 2) := dk_21 4 (dk_at dksJ5_grow_1 20 rfl rfl)
theorem dJ5_grow_45 : decode cJ5_grow 45 = .ok (.invokevirtual 10, 3) := dk_182 0 10 (dk_at dksJ5_grow_2 0 rfl rfl)
theorem dJ5_grow_48 : decode cJ5_grow 48 = .ok (.istore_n 3, 1) := dk_62 (dk_at dksJ5_grow_2 3 rfl rfl)
theorem dJ5_grow_49 : decode cJ5_grow 49 = .ok (.aload_n 0, 1) := dk_42 (dk_at dksJ5_grow_2 4 rfl rfl)
theorem dJ5_grow_50 : decode cJ5_grow 50 = .ok (.aload_n 0, 1) := dk_42 (dk_at dksJ5_grow_2 5 rfl rfl)
theorem dJ5_grow_51 : decode cJ5_grow 51 = .ok (.getfield 3, 3) := dk_180 0 3 (dk_at dksJ5_grow_2 6 rfl rfl)
theorem dJ5_grow_54 : decode cJ5_grow 54 = .ok (.iload_n 3, 1) := dk_29 (dk_at dksJ5_grow_2 9 rfl rfl)
theorem dJ5_grow_55 : decode cJ5_grow 55 = .ok (.invokestatic 14, 3) := dk_184 0 14 (dk_at dksJ5_grow_2 10 rfl rfl)
theorem dJ5_grow_58 : decode cJ5_grow 58 = .ok (.dup_x1, 1) := dk_90 (dk_at dksJ5_grow_2 13 rfl rfl)
theorem dJ5_grow_59 : decode cJ5_grow 59 = .ok (.putfield 3, 3) := dk_181 0 3 (dk_at dksJ5_grow_2 14 rfl rfl)
theorem dJ5_grow_62 : decode cJ5_grow 62 = .ok (.astore 5, 2) := dk_58 5 (dk_at dksJ5_grow_2 17 rfl rfl)
theorem dJ5_grow_64 : decode cJ5_grow 64 = .ok (.aload_n 0, 1) := dk_42 (dk_at dksJ5_grow_2 19 rfl rfl)
theorem dJ5_grow_65 : decode cJ5_grow 65 = .ok (.getfield 20, 3) := dk_180 0 20 (dk_at dksJ5_grow_2 20 rfl rfl)
theorem dJ5_grow_68 : decode cJ5_grow 68 = .ok (.aload_n 0, 1) := dk_42 (dk_at dksJ5_grow_2 23 rfl rfl)
theorem dJ5_grow_69 : decode cJ5_grow 69 = .ok (.getfield 24, 3) := dk_180 0 24 (dk_at dksJ5_grow_3 0 rfl rfl)
theorem dJ5_grow_72 : decode cJ5_grow 72 = .ok (.if_icmp .lt 24, 3) := dk_161 0 24 (dk_at dksJ5_grow_3 3 rfl rfl)
theorem dJ5_grow_75 : decode cJ5_grow 75 = .ok (.aload_n 0, 1) := dk_42 (dk_at dksJ5_grow_3 6 rfl rfl)
theorem dJ5_grow_76 : decode cJ5_grow 76 = .ok (.getfield 20, 3) := dk_180 0 20 (dk_at dksJ5_grow_3 7 rfl rfl)
theorem dJ5_grow_79 : decode cJ5_grow 79 = .ok (.aload_n 0, 1) := dk_42 (dk_at dksJ5_grow_3 10 rfl rfl)
theorem dJ5_grow_80 : decode cJ5_grow 80 = .ok (.getfield 24, 3) := dk_180 0 24 (dk_at dksJ5_grow_3 11 rfl rfl)
theorem dJ5_grow_83 : decode cJ5_grow 83 = .ok (.if_icmp .ne 81, 3) := dk_160 0 81 (dk_at dksJ5_grow_3 14 rfl rfl)
theorem dJ5_grow_86 : decode cJ5_grow 86 = .ok (.aload 5, 2) := dk_25 5 (dk_at dksJ5_grow_3 17 rfl rfl)
theorem dJ5_grow_88 : decode cJ5_grow 88 = .ok (.aload_n 0, 1) := dk_42 (dk_at dksJ5_grow_3 19 rfl rfl)
theorem dJ5_grow_89 : decode cJ5_grow 89 = .ok (.getfield 24, 3) := dk_180 0 24 (dk_at dksJ5_grow_3 20 rfl rfl)
theorem dJ5_grow_92 : decode cJ5_grow 92 = .ok (.aaload, 1) := dk_50 (dk_at dksJ5_grow_3 23 rfl rfl)
theorem dJ5_grow_93 : decode cJ5_grow 93 = .ok (.ifnull 71, 3) := dk_198 0 71 (dk_at dksJ5_grow_4 0 rfl rfl)
theorem dJ5_grow_96 : decode cJ5_grow 96 = .ok (.iload_n 3, 1) := dk_29 (dk_at dksJ5_grow_4 3 rfl rfl)
theorem dJ5_grow_97 : decode cJ5_grow 97 = .ok (.iload_n 2, 1) := dk_28 (dk_at dksJ5_grow_4 4 rfl rfl)
theorem dJ5_grow_98 : decode cJ5_grow 98 = .ok (.isub, 1) := dk_100 (dk_at dksJ5_grow_4 5 rfl rfl)
theorem dJ5_grow_99 : decode cJ5_grow 99 = .ok (.istore 6, 2) := dk_54 6 (dk_at dksJ5_grow_4 6 rfl rfl)
theorem dJ5_grow_101 : decode cJ5_grow 101 = .ok (.aload 5, 2) := dk_25 5 (dk_at dksJ5_grow_4 8 rfl rfl)
theorem dJ5_grow_103 : decode cJ5_grow 103 = .ok (.aload_n 0, 1) := dk_42 (dk_at dksJ5_grow_4 10 rfl rfl)
theorem dJ5_grow_104 : decode cJ5_grow 104 = .ok (.getfield 24, 3) := dk_180 0 24 (dk_at dksJ5_grow_4 11 rfl rfl)
theorem dJ5_grow_107 : decode cJ5_grow 107 = .ok (.aload 5, 2) := dk_25 5 (dk_at dksJ5_grow_4 14 rfl rfl)
theorem dJ5_grow_109 : decode cJ5_grow 109 = .ok (.aload_n 0, 1) := dk_42 (dk_at dksJ5_grow_4 16 rfl rfl)
theorem dJ5_grow_110 : decode cJ5_grow 110 = .ok (.getfield 24, 3) := dk_180 0 24 (dk_at dksJ5_grow_4 17 rfl rfl)
theorem dJ5_grow_113 : decode cJ5_grow 113 = .ok (.iload 6, 2) := dk_21 6 (dk_at dksJ5_grow_4 20 rfl rfl)
theorem dJ5_grow_115 : decode cJ5_grow 115 = .ok (.iadd, 1) := dk_96 (dk_at dksJ5_grow_4 22 rfl rfl)
theorem dJ5_grow_116 : decode cJ5_grow 116 = .ok (.iload_n 2, 1) := dk_28 (dk_at dksJ5_grow_4 23 rfl rfl)
theorem dJ5_grow_117 : decode cJ5_grow 117 = .ok (.aload_n 0, 1) := dk_42 (dk_at dksJ5_grow_5 0 rfl rfl)
theorem dJ5_grow_118 : decode cJ5_grow 118 = .ok (.getfield 24, 3) := dk_180 0 24 (dk_at dksJ5_grow_5 1 rfl rfl)
theorem dJ5_grow_121 : decode cJ5_grow 121 = .ok (.isub, 1) := dk_100 (dk_at dksJ5_grow_5 4 rfl rfl)
theorem dJ5_grow_122 : decode cJ5_grow 122 = .ok (.invokestatic 27, 3) := dk_184 0 27 (dk_at dksJ5_grow_5 5 rfl rfl)
theorem dJ5_grow_125 : decode cJ5_grow 125 = .ok (.aload_n 0, 1) := dk_42 (dk_at dksJ5_grow_5 8 rfl rfl)
theorem dJ5_grow_126 : decode cJ5_grow 126 = .ok (.getfield 24, 3) := dk_180 0 24 (dk_at dksJ5_grow_5 9 rfl rfl)
theorem dJ5_grow_129 : decode cJ5_grow 129 = .ok (.istore 7, 2) := dk_54 7 (dk_at dksJ5_grow_5 12 rfl rfl)
theorem dJ5_grow_131 : decode cJ5_grow 131 = .ok (.aload_n 0, 1) := dk_42 (dk_at dksJ5_grow_5 14 rfl rfl)
theorem dJ5_grow_132 : decode cJ5_grow 132 = .ok (.dup, 1) := dk_89 (dk_at dksJ5_grow_5 15 rfl rfl)
theorem dJ5_grow_133 : decode cJ5_grow 133 = .ok (.getfield 24, 3) := dk_180 0 24 (dk_at dksJ5_grow_5 16 rfl rfl)
theorem dJ5_grow_136 : decode cJ5_grow 136 = .ok (.iload 6, 2) := dk_21 6 (dk_at dksJ5_grow_5 19 rfl rfl)
theorem dJ5_grow_138 : decode cJ5_grow 138 = .ok (.iadd, 1) := dk_96 (dk_at dksJ5_grow_5 21 rfl rfl)
theorem dJ5_grow_139 : decode cJ5_grow 139 = .ok (.dup_x1, 1) := dk_90 (dk_at dksJ5_grow_5 22 rfl rfl)
theorem dJ5_grow_140 : decode cJ5_grow 140 = .ok (.putfield 24, 3) := dk_181 0 24 (dk_at dksJ5_grow_6 0 rfl rfl)
theorem dJ5_grow_143 : decode cJ5_grow 143 = .ok (.istore 8, 2) := dk_54 8 (dk_at dksJ5_grow_6 3 rfl rfl)
theorem dJ5_grow_145 : decode cJ5_grow 145 = .ok (.iload 7, 2) := dk_21 7 (dk_at dksJ5_grow_6 5 rfl rfl)
theorem dJ5_grow_147 : decode cJ5_grow 147 = .ok (.iload 8, 2) := dk_21 8 (dk_at dksJ5_grow_6 7 rfl rfl)
theorem dJ5_grow_149 : decode cJ5_grow 149 = .ok (.if_icmp .ge 15, 3) := dk_162 0 15 (dk_at dksJ5_grow_6 9 rfl rfl)
theorem dJ5_grow_152 : decode cJ5_grow 152 = .ok (.aload 5, 2) := dk_25 5 (dk_at dksJ5_grow_6 12 rfl rfl)
theorem dJ5_grow_154 : decode cJ5_grow 154 = .ok (.iload 7, 2) := dk_21 7 (dk_at dksJ5_grow_6 14 rfl rfl)
theorem dJ5_grow_156 : decode cJ5_grow 156 = .ok (.aconst_null, 1) := dk_1 (dk_at dksJ5_grow_6 16 rfl rfl)
theorem dJ5_grow_157 : decode cJ5_grow 157 = .ok (.aastore, 1) := dk_83 (dk_at dksJ5_grow_6 17 rfl rfl)
theorem dJ5_grow_158 : decode cJ5_grow 158 = .ok (.iinc 7 1, 3) := dk_132 7 1 (dk_at dksJ5_grow_6 18 rfl rfl)
theorem dJ5_grow_161 : decode cJ5_grow 161 = .ok (.goto (-16), 3) := dk_167 255 240 (dk_at dksJ5_grow_6 21 rfl rfl)
theorem dJ5_grow_164 : decode cJ5_grow 164 = .ok (.return_, 1) := dk_177 (dk_at dksJ5_grow_7 0 rfl rfl)
abbrev cJ5_newCapacity : ByteArray := prog_46_method_2_code
def yJ5_newCapacity : MethodName := ⟨RJ5, "newCapacity", "(II)I"⟩
def dkwJ5_newCapacity_2 : List UInt8 := [18, 9, 100, 156, 0, 9, 29, 28, 96, 167, 0, 5, 18, 9, 172]
abbrev dktJ5_newCapacity_2 : List UInt8 := dkwJ5_newCapacity_2 ++ []
def dkwJ5_newCapacity_1 : List UInt8 := [187, 0, 33, 89, 18, 35, 183, 0, 37, 191, 18, 41, 172, 27, 28, 164, 0, 6, 21, 4, 172, 29, 28, 96]
abbrev dktJ5_newCapacity_1 : List UInt8 := dkwJ5_newCapacity_1 ++ dktJ5_newCapacity_2
def dkwJ5_newCapacity_0 : List UInt8 := [42, 180, 0, 3, 190, 62, 29, 27, 96, 89, 54, 4, 18, 9, 100, 158, 0, 21, 21, 4, 156, 0, 13]
abbrev dktJ5_newCapacity_0 : List UInt8 := dkwJ5_newCapacity_0 ++ dktJ5_newCapacity_1
theorem dksJ5_newCapacity_0 : cJ5_newCapacity.data.toList.drop 0 = dktJ5_newCapacity_0 := by decide +kernel
theorem dksJ5_newCapacity_1 : cJ5_newCapacity.data.toList.drop 23 = dktJ5_newCapacity_1 := dk_seg dksJ5_newCapacity_0 23 rfl rfl
theorem dksJ5_newCapacity_2 : cJ5_newCapacity.data.toList.drop 47 = dktJ5_newCapacity_2 := dk_seg dksJ5_newCapacity_1 24 rfl rfl
theorem dJ5_newCapacity_0 : decode cJ5_newCapacity 0 = .ok (.aload_n 0, 1) := dk_42 (dk_at dksJ5_newCapacity_0 0 rfl rfl)
theorem dJ5_newCapacity_1 : decode cJ5_newCapacity 1 = .ok (.getfield 3, 3) := dk_180 0 3 (dk_at dksJ5_newCapacity_0 1 rfl rfl)
theorem dJ5_newCapacity_4 : decode cJ5_newCapacity 4 = .ok (.arraylength, 1) := dk_190 (dk_at dksJ5_newCapacity_0 4 rfl rfl)
theorem dJ5_newCapacity_5 : decode cJ5_newCapacity 5 = .ok (.istore_n 3, 1) := dk_62 (dk_at dksJ5_newCapacity_0 5 rfl rfl)
theorem dJ5_newCapacity_6 : decode cJ5_newCapacity 6 = .ok (.iload_n 3, 1) := dk_29 (dk_at dksJ5_newCapacity_0 6 rfl rfl)
theorem dJ5_newCapacity_7 : decode cJ5_newCapacity 7 = .ok (.iload_n 1, 1) := dk_27 (dk_at dksJ5_newCapacity_0 7 rfl rfl)
theorem dJ5_newCapacity_8 : decode cJ5_newCapacity 8 = .ok (.iadd, 1) := dk_96 (dk_at dksJ5_newCapacity_0 8 rfl rfl)
theorem dJ5_newCapacity_9 : decode cJ5_newCapacity 9 = .ok (.dup, 1) := dk_89 (dk_at dksJ5_newCapacity_0 9 rfl rfl)
theorem dJ5_newCapacity_10 : decode cJ5_newCapacity 10 = .ok (.istore 4, 2) := dk_54 4 (dk_at dksJ5_newCapacity_0 10 rfl rfl)
theorem dJ5_newCapacity_12 : decode cJ5_newCapacity 12 = .ok (.ldc 9, 2) := dk_18 9 (dk_at dksJ5_newCapacity_0 12 rfl rfl)
theorem dJ5_newCapacity_14 : decode cJ5_newCapacity 14 = .ok (.isub, 1) := dk_100 (dk_at dksJ5_newCapacity_0 14 rfl rfl)
theorem dJ5_newCapacity_15 : decode cJ5_newCapacity 15 = .ok (.ifCond .le 21, 3) := dk_158 0 21 (dk_at dksJ5_newCapacity_0 15 rfl rfl)
theorem dJ5_newCapacity_18 : decode cJ5_newCapacity 18 = .ok (.iload 4, 2) := dk_21 4 (dk_at dksJ5_newCapacity_0 18 rfl rfl)
theorem dJ5_newCapacity_20 : decode cJ5_newCapacity 20 = .ok (.ifCond .ge 13, 3) := dk_156 0 13 (dk_at dksJ5_newCapacity_0 20 rfl rfl)
theorem dJ5_newCapacity_23 : decode cJ5_newCapacity 23 = .ok (.new 33, 3) := dk_187 0 33 (dk_at dksJ5_newCapacity_1 0 rfl rfl)
theorem dJ5_newCapacity_26 : decode cJ5_newCapacity 26 = .ok (.dup, 1) := dk_89 (dk_at dksJ5_newCapacity_1 3 rfl rfl)
theorem dJ5_newCapacity_27 : decode cJ5_newCapacity 27 = .ok (.ldc 35, 2) := dk_18 35 (dk_at dksJ5_newCapacity_1 4 rfl rfl)
theorem dJ5_newCapacity_29 : decode cJ5_newCapacity 29 = .ok (.invokespecial 37, 3) := dk_183 0 37 (dk_at dksJ5_newCapacity_1 6 rfl rfl)
theorem dJ5_newCapacity_32 : decode cJ5_newCapacity 32 = .ok (.athrow, 1) := dk_191 (dk_at dksJ5_newCapacity_1 9 rfl rfl)
theorem dJ5_newCapacity_33 : decode cJ5_newCapacity 33 = .ok (.ldc 41, 2) := dk_18 41 (dk_at dksJ5_newCapacity_1 10 rfl rfl)
theorem dJ5_newCapacity_35 : decode cJ5_newCapacity 35 = .ok (.ireturn, 1) := dk_172 (dk_at dksJ5_newCapacity_1 12 rfl rfl)
theorem dJ5_newCapacity_36 : decode cJ5_newCapacity 36 = .ok (.iload_n 1, 1) := dk_27 (dk_at dksJ5_newCapacity_1 13 rfl rfl)
theorem dJ5_newCapacity_37 : decode cJ5_newCapacity 37 = .ok (.iload_n 2, 1) := dk_28 (dk_at dksJ5_newCapacity_1 14 rfl rfl)
theorem dJ5_newCapacity_38 : decode cJ5_newCapacity 38 = .ok (.if_icmp .le 6, 3) := dk_164 0 6 (dk_at dksJ5_newCapacity_1 15 rfl rfl)
theorem dJ5_newCapacity_41 : decode cJ5_newCapacity 41 = .ok (.iload 4, 2) := dk_21 4 (dk_at dksJ5_newCapacity_1 18 rfl rfl)
theorem dJ5_newCapacity_43 : decode cJ5_newCapacity 43 = .ok (.ireturn, 1) := dk_172 (dk_at dksJ5_newCapacity_1 20 rfl rfl)
theorem dJ5_newCapacity_44 : decode cJ5_newCapacity 44 = .ok (.iload_n 3, 1) := dk_29 (dk_at dksJ5_newCapacity_1 21 rfl rfl)
theorem dJ5_newCapacity_45 : decode cJ5_newCapacity 45 = .ok (.iload_n 2, 1) := dk_28 (dk_at dksJ5_newCapacity_1 22 rfl rfl)
theorem dJ5_newCapacity_46 : decode cJ5_newCapacity 46 = .ok (.iadd, 1) := dk_96 (dk_at dksJ5_newCapacity_1 23 rfl rfl)
theorem dJ5_newCapacity_47 : decode cJ5_newCapacity 47 = .ok (.ldc 9, 2) := dk_18 9 (dk_at dksJ5_newCapacity_2 0 rfl rfl)
theorem dJ5_newCapacity_49 : decode cJ5_newCapacity 49 = .ok (.isub, 1) := dk_100 (dk_at dksJ5_newCapacity_2 2 rfl rfl)
theorem dJ5_newCapacity_50 : decode cJ5_newCapacity 50 = .ok (.ifCond .ge 9, 3) := dk_156 0 9 (dk_at dksJ5_newCapacity_2 3 rfl rfl)
theorem dJ5_newCapacity_53 : decode cJ5_newCapacity 53 = .ok (.iload_n 3, 1) := dk_29 (dk_at dksJ5_newCapacity_2 6 rfl rfl)
theorem dJ5_newCapacity_54 : decode cJ5_newCapacity 54 = .ok (.iload_n 2, 1) := dk_28 (dk_at dksJ5_newCapacity_2 7 rfl rfl)
theorem dJ5_newCapacity_55 : decode cJ5_newCapacity 55 = .ok (.iadd, 1) := dk_96 (dk_at dksJ5_newCapacity_2 8 rfl rfl)
theorem dJ5_newCapacity_56 : decode cJ5_newCapacity 56 = .ok (.goto 5, 3) := dk_167 0 5 (dk_at dksJ5_newCapacity_2 9 rfl rfl)
theorem dJ5_newCapacity_59 : decode cJ5_newCapacity 59 = .ok (.ldc 9, 2) := dk_18 9 (dk_at dksJ5_newCapacity_2 12 rfl rfl)
theorem dJ5_newCapacity_61 : decode cJ5_newCapacity 61 = .ok (.ireturn, 1) := dk_172 (dk_at dksJ5_newCapacity_2 14 rfl rfl)
abbrev cJ5_removeFirst : ByteArray := prog_46_method_18_code
def yJ5_removeFirst : MethodName := ⟨RJ5, "removeFirst", "()Ljava/lang/Object;"⟩
def dkwJ5_removeFirst_0 : List UInt8 := [42, 182, 0, 93, 76, 43, 199, 0, 11, 187, 0, 97, 89, 183, 0, 99, 191, 43, 176]
abbrev dktJ5_removeFirst_0 : List UInt8 := dkwJ5_removeFirst_0 ++ []
theorem dksJ5_removeFirst_0 : cJ5_removeFirst.data.toList.drop 0 = dktJ5_removeFirst_0 := by decide +kernel
theorem dJ5_removeFirst_0 : decode cJ5_removeFirst 0 = .ok (.aload_n 0, 1) := dk_42 (dk_at dksJ5_removeFirst_0 0 rfl rfl)
theorem dJ5_removeFirst_1 : decode cJ5_removeFirst 1 = .ok (.invokevirtual 93, 3) := dk_182 0 93 (dk_at dksJ5_removeFirst_0 1 rfl rfl)
theorem dJ5_removeFirst_4 : decode cJ5_removeFirst 4 = .ok (.astore_n 1, 1) := dk_76 (dk_at dksJ5_removeFirst_0 4 rfl rfl)
theorem dJ5_removeFirst_5 : decode cJ5_removeFirst 5 = .ok (.aload_n 1, 1) := dk_43 (dk_at dksJ5_removeFirst_0 5 rfl rfl)
theorem dJ5_removeFirst_6 : decode cJ5_removeFirst 6 = .ok (.ifnonnull 11, 3) := dk_199 0 11 (dk_at dksJ5_removeFirst_0 6 rfl rfl)
theorem dJ5_removeFirst_9 : decode cJ5_removeFirst 9 = .ok (.new 97, 3) := dk_187 0 97 (dk_at dksJ5_removeFirst_0 9 rfl rfl)
theorem dJ5_removeFirst_12 : decode cJ5_removeFirst 12 = .ok (.dup, 1) := dk_89 (dk_at dksJ5_removeFirst_0 12 rfl rfl)
theorem dJ5_removeFirst_13 : decode cJ5_removeFirst 13 = .ok (.invokespecial 99, 3) := dk_183 0 99 (dk_at dksJ5_removeFirst_0 13 rfl rfl)
theorem dJ5_removeFirst_16 : decode cJ5_removeFirst 16 = .ok (.athrow, 1) := dk_191 (dk_at dksJ5_removeFirst_0 16 rfl rfl)
theorem dJ5_removeFirst_17 : decode cJ5_removeFirst 17 = .ok (.aload_n 1, 1) := dk_43 (dk_at dksJ5_removeFirst_0 17 rfl rfl)
theorem dJ5_removeFirst_18 : decode cJ5_removeFirst 18 = .ok (.areturn, 1) := dk_176 (dk_at dksJ5_removeFirst_0 18 rfl rfl)
abbrev cJ5_pollFirst : ByteArray := prog_46_method_20_code
def yJ5_pollFirst : MethodName := ⟨RJ5, "pollFirst", "()Ljava/lang/Object;"⟩
def dkwJ5_pollFirst_1 : List UInt8 := [42, 28, 43, 190, 184, 0, 74, 181, 0, 24, 45, 176]
abbrev dktJ5_pollFirst_1 : List UInt8 := dkwJ5_pollFirst_1 ++ []
def dkwJ5_pollFirst_0 : List UInt8 := [42, 180, 0, 3, 89, 76, 42, 180, 0, 24, 89, 61, 184, 0, 103, 78, 45, 198, 0, 17, 43, 28, 1, 83]
abbrev dktJ5_pollFirst_0 : List UInt8 := dkwJ5_pollFirst_0 ++ dktJ5_pollFirst_1
theorem dksJ5_pollFirst_0 : cJ5_pollFirst.data.toList.drop 0 = dktJ5_pollFirst_0 := by decide +kernel
theorem dksJ5_pollFirst_1 : cJ5_pollFirst.data.toList.drop 24 = dktJ5_pollFirst_1 := dk_seg dksJ5_pollFirst_0 24 rfl rfl
theorem dJ5_pollFirst_0 : decode cJ5_pollFirst 0 = .ok (.aload_n 0, 1) := dk_42 (dk_at dksJ5_pollFirst_0 0 rfl rfl)
theorem dJ5_pollFirst_1 : decode cJ5_pollFirst 1 = .ok (.getfield 3, 3) := dk_180 0 3 (dk_at dksJ5_pollFirst_0 1 rfl rfl)
theorem dJ5_pollFirst_4 : decode cJ5_pollFirst 4 = .ok (.dup, 1) := dk_89 (dk_at dksJ5_pollFirst_0 4 rfl rfl)
theorem dJ5_pollFirst_5 : decode cJ5_pollFirst 5 = .ok (.astore_n 1, 1) := dk_76 (dk_at dksJ5_pollFirst_0 5 rfl rfl)
theorem dJ5_pollFirst_6 : decode cJ5_pollFirst 6 = .ok (.aload_n 0, 1) := dk_42 (dk_at dksJ5_pollFirst_0 6 rfl rfl)
theorem dJ5_pollFirst_7 : decode cJ5_pollFirst 7 = .ok (.getfield 24, 3) := dk_180 0 24 (dk_at dksJ5_pollFirst_0 7 rfl rfl)
theorem dJ5_pollFirst_10 : decode cJ5_pollFirst 10 = .ok (.dup, 1) := dk_89 (dk_at dksJ5_pollFirst_0 10 rfl rfl)
theorem dJ5_pollFirst_11 : decode cJ5_pollFirst 11 = .ok (.istore_n 2, 1) := dk_61 (dk_at dksJ5_pollFirst_0 11 rfl rfl)
theorem dJ5_pollFirst_12 : decode cJ5_pollFirst 12 = .ok (.invokestatic 103, 3) := dk_184 0 103 (dk_at dksJ5_pollFirst_0 12 rfl rfl)
theorem dJ5_pollFirst_15 : decode cJ5_pollFirst 15 = .ok (.astore_n 3, 1) := dk_78 (dk_at dksJ5_pollFirst_0 15 rfl rfl)
theorem dJ5_pollFirst_16 : decode cJ5_pollFirst 16 = .ok (.aload_n 3, 1) := dk_45 (dk_at dksJ5_pollFirst_0 16 rfl rfl)
theorem dJ5_pollFirst_17 : decode cJ5_pollFirst 17 = .ok (.ifnull 17, 3) := dk_198 0 17 (dk_at dksJ5_pollFirst_0 17 rfl rfl)
theorem dJ5_pollFirst_20 : decode cJ5_pollFirst 20 = .ok (.aload_n 1, 1) := dk_43 (dk_at dksJ5_pollFirst_0 20 rfl rfl)
theorem dJ5_pollFirst_21 : decode cJ5_pollFirst 21 = .ok (.iload_n 2, 1) := dk_28 (dk_at dksJ5_pollFirst_0 21 rfl rfl)
theorem dJ5_pollFirst_22 : decode cJ5_pollFirst 22 = .ok (.aconst_null, 1) := dk_1 (dk_at dksJ5_pollFirst_0 22 rfl rfl)
theorem dJ5_pollFirst_23 : decode cJ5_pollFirst 23 = .ok (.aastore, 1) := dk_83 (dk_at dksJ5_pollFirst_0 23 rfl rfl)
theorem dJ5_pollFirst_24 : decode cJ5_pollFirst 24 = .ok (.aload_n 0, 1) := dk_42 (dk_at dksJ5_pollFirst_1 0 rfl rfl)
theorem dJ5_pollFirst_25 : decode cJ5_pollFirst 25 = .ok (.iload_n 2, 1) := dk_28 (dk_at dksJ5_pollFirst_1 1 rfl rfl)
theorem dJ5_pollFirst_26 : decode cJ5_pollFirst 26 = .ok (.aload_n 1, 1) := dk_43 (dk_at dksJ5_pollFirst_1 2 rfl rfl)
theorem dJ5_pollFirst_27 : decode cJ5_pollFirst 27 = .ok (.arraylength, 1) := dk_190 (dk_at dksJ5_pollFirst_1 3 rfl rfl)
theorem dJ5_pollFirst_28 : decode cJ5_pollFirst 28 = .ok (.invokestatic 74, 3) := dk_184 0 74 (dk_at dksJ5_pollFirst_1 4 rfl rfl)
theorem dJ5_pollFirst_31 : decode cJ5_pollFirst 31 = .ok (.putfield 24, 3) := dk_181 0 24 (dk_at dksJ5_pollFirst_1 7 rfl rfl)
theorem dJ5_pollFirst_34 : decode cJ5_pollFirst 34 = .ok (.aload_n 3, 1) := dk_45 (dk_at dksJ5_pollFirst_1 10 rfl rfl)
theorem dJ5_pollFirst_35 : decode cJ5_pollFirst 35 = .ok (.areturn, 1) := dk_176 (dk_at dksJ5_pollFirst_1 11 rfl rfl)
abbrev cJ5_elementAt : ByteArray := prog_46_method_10_code
def yJ5_elementAt : MethodName := ⟨RJ5, "elementAt", "([Ljava/lang/Object;I)Ljava/lang/Object;"⟩
def dkwJ5_elementAt_0 : List UInt8 := [42, 27, 50, 176]
abbrev dktJ5_elementAt_0 : List UInt8 := dkwJ5_elementAt_0 ++ []
theorem dksJ5_elementAt_0 : cJ5_elementAt.data.toList.drop 0 = dktJ5_elementAt_0 := by decide +kernel
theorem dJ5_elementAt_0 : decode cJ5_elementAt 0 = .ok (.aload_n 0, 1) := dk_42 (dk_at dksJ5_elementAt_0 0 rfl rfl)
theorem dJ5_elementAt_1 : decode cJ5_elementAt 1 = .ok (.iload_n 1, 1) := dk_27 (dk_at dksJ5_elementAt_0 1 rfl rfl)
theorem dJ5_elementAt_2 : decode cJ5_elementAt 2 = .ok (.aaload, 1) := dk_50 (dk_at dksJ5_elementAt_0 2 rfl rfl)
theorem dJ5_elementAt_3 : decode cJ5_elementAt 3 = .ok (.areturn, 1) := dk_176 (dk_at dksJ5_elementAt_0 3 rfl rfl)
abbrev cJ5_delete : ByteArray := prog_46_method_36_code
def yJ5_delete : MethodName := ⟨RJ5, "delete", "(I)Z"⟩
def dkwJ5_delete_8 : List UInt8 := [4, 172]
abbrev dktJ5_delete_8 : List UInt8 := dkwJ5_delete_8 ++ []
def dkwJ5_delete_7 : List UInt8 := [4, 100, 44, 3, 50, 83, 44, 4, 44, 3, 21, 5, 4, 100, 184, 0, 27, 44, 42, 180, 0, 20, 1, 83]
abbrev dktJ5_delete_7 : List UInt8 := dkwJ5_delete_7 ++ dktJ5_delete_8
def dkwJ5_delete_6 : List UInt8 := [21, 7, 184, 0, 27, 167, 0, 36, 44, 27, 4, 96, 44, 27, 29, 27, 4, 96, 100, 184, 0, 27, 44, 29]
abbrev dktJ5_delete_6 : List UInt8 := dkwJ5_delete_6 ++ dktJ5_delete_7
def dkwJ5_delete_5 : List UInt8 := [21, 5, 29, 184, 0, 68, 181, 0, 20, 27, 42, 180, 0, 20, 163, 0, 17, 44, 27, 4, 96, 44, 27]
abbrev dktJ5_delete_5 : List UInt8 := dkwJ5_delete_5 ++ dktJ5_delete_6
def dkwJ5_delete_4 : List UInt8 := [96, 100, 184, 0, 27, 44, 21, 4, 1, 83, 42, 21, 4, 29, 184, 0, 74, 181, 0, 24, 3, 172, 42]
abbrev dktJ5_delete_4 : List UInt8 := dkwJ5_delete_4 ++ dktJ5_delete_5
def dkwJ5_delete_3 : List UInt8 := [27, 184, 0, 27, 44, 3, 44, 29, 4, 100, 50, 83, 44, 21, 4, 44, 21, 4, 4, 96, 21, 6, 27, 4]
abbrev dktJ5_delete_3 : List UInt8 := dkwJ5_delete_3 ++ dktJ5_delete_4
def dkwJ5_delete_2 : List UInt8 := [27, 163, 0, 19, 44, 21, 4, 44, 21, 4, 4, 96, 21, 6, 184, 0, 27, 167, 0, 36, 44, 3, 44, 4]
abbrev dktJ5_delete_2 : List UInt8 := dkwJ5_delete_2 ++ dktJ5_delete_3
def dkwJ5_delete_1 : List UInt8 := [180, 0, 20, 89, 54, 5, 27, 29, 184, 0, 127, 4, 100, 54, 7, 21, 6, 21, 7, 162, 0, 75, 21, 4]
abbrev dktJ5_delete_1 : List UInt8 := dkwJ5_delete_1 ++ dktJ5_delete_2
def dkwJ5_delete_0 : List UInt8 := [42, 180, 0, 3, 77, 44, 190, 62, 27, 42, 180, 0, 24, 89, 54, 4, 29, 184, 0, 127, 54, 6, 42]
abbrev dktJ5_delete_0 : List UInt8 := dkwJ5_delete_0 ++ dktJ5_delete_1
theorem dksJ5_delete_0 : cJ5_delete.data.toList.drop 0 = dktJ5_delete_0 := by decide +kernel
theorem dksJ5_delete_1 : cJ5_delete.data.toList.drop 23 = dktJ5_delete_1 := dk_seg dksJ5_delete_0 23 rfl rfl
theorem dksJ5_delete_2 : cJ5_delete.data.toList.drop 47 = dktJ5_delete_2 := dk_seg dksJ5_delete_1 24 rfl rfl
theorem dksJ5_delete_3 : cJ5_delete.data.toList.drop 71 = dktJ5_delete_3 := dk_seg dksJ5_delete_2 24 rfl rfl
theorem dksJ5_delete_4 : cJ5_delete.data.toList.drop 95 = dktJ5_delete_4 := dk_seg dksJ5_delete_3 24 rfl rfl
theorem dksJ5_delete_5 : cJ5_delete.data.toList.drop 118 = dktJ5_delete_5 := dk_seg dksJ5_delete_4 23 rfl rfl
theorem dksJ5_delete_6 : cJ5_delete.data.toList.drop 141 = dktJ5_delete_6 := dk_seg dksJ5_delete_5 23 rfl rfl
theorem dksJ5_delete_7 : cJ5_delete.data.toList.drop 165 = dktJ5_delete_7 := dk_seg dksJ5_delete_6 24 rfl rfl
theorem dksJ5_delete_8 : cJ5_delete.data.toList.drop 189 = dktJ5_delete_8 := dk_seg dksJ5_delete_7 24 rfl rfl
theorem dJ5_delete_0 : decode cJ5_delete 0 = .ok (.aload_n 0, 1) := dk_42 (dk_at dksJ5_delete_0 0 rfl rfl)
theorem dJ5_delete_1 : decode cJ5_delete 1 = .ok (.getfield 3, 3) := dk_180 0 3 (dk_at dksJ5_delete_0 1 rfl rfl)
theorem dJ5_delete_4 : decode cJ5_delete 4 = .ok (.astore_n 2, 1) := dk_77 (dk_at dksJ5_delete_0 4 rfl rfl)
theorem dJ5_delete_5 : decode cJ5_delete 5 = .ok (.aload_n 2, 1) := dk_44 (dk_at dksJ5_delete_0 5 rfl rfl)
theorem dJ5_delete_6 : decode cJ5_delete 6 = .ok (.arraylength, 1) := dk_190 (dk_at dksJ5_delete_0 6 rfl rfl)
theorem dJ5_delete_7 : decode cJ5_delete 7 = .ok (.istore_n 3, 1) := dk_62 (dk_at dksJ5_delete_0 7 rfl rfl)
theorem dJ5_delete_8 : decode cJ5_delete 8 = .ok (.iload_n 1, 1) := dk_27 (dk_at dksJ5_delete_0 8 rfl rfl)
theorem dJ5_delete_9 : decode cJ5_delete 9 = .ok (.aload_n 0, 1) := dk_42 (dk_at dksJ5_delete_0 9 rfl rfl)
theorem dJ5_delete_10 : decode cJ5_delete 10 = .ok (.getfield 24, 3) := dk_180 0 24 (dk_at dksJ5_delete_0 10 rfl rfl)
theorem dJ5_delete_13 : decode cJ5_delete 13 = .ok (.dup, 1) := dk_89 (dk_at dksJ5_delete_0 13 rfl rfl)
theorem dJ5_delete_14 : decode cJ5_delete 14 = .ok (.istore 4, 2) := dk_54 4 (dk_at dksJ5_delete_0 14 rfl rfl)
theorem dJ5_delete_16 : decode cJ5_delete 16 = .ok (.iload_n 3, 1) := dk_29 (dk_at dksJ5_delete_0 16 rfl rfl)
theorem dJ5_delete_17 : decode cJ5_delete 17 = .ok (.invokestatic 127, 3) := dk_184 0 127 (dk_at dksJ5_delete_0 17 rfl rfl)
theorem dJ5_delete_20 : decode cJ5_delete 20 = .ok (.istore 6, 2) := dk_54 6 (dk_at dksJ5_delete_0 20 rfl rfl)
theorem dJ5_delete_22 : decode cJ5_delete 22 = .ok (.aload_n 0, 1) := dk_42 (dk_at dksJ5_delete_0 22 rfl rfl)
theorem dJ5_delete_23 : decode cJ5_delete 23 = .ok (.getfield 20, 3) := dk_180 0 20 (dk_at dksJ5_delete_1 0 rfl rfl)
theorem dJ5_delete_26 : decode cJ5_delete 26 = .ok (.dup, 1) := dk_89 (dk_at dksJ5_delete_1 3 rfl rfl)
theorem dJ5_delete_27 : decode cJ5_delete 27 = .ok (.istore 5, 2) := dk_54 5 (dk_at dksJ5_delete_1 4 rfl rfl)
theorem dJ5_delete_29 : decode cJ5_delete 29 = .ok (.iload_n 1, 1) := dk_27 (dk_at dksJ5_delete_1 6 rfl rfl)
theorem dJ5_delete_30 : decode cJ5_delete 30 = .ok (.iload_n 3, 1) := dk_29 (dk_at dksJ5_delete_1 7 rfl rfl)
theorem dJ5_delete_31 : decode cJ5_delete 31 = .ok (.invokestatic 127, 3) := dk_184 0 127 (dk_at dksJ5_delete_1 8 rfl rfl)
theorem dJ5_delete_34 : decode cJ5_delete 34 = .ok (.iconst 1, 1) := dk_4 (dk_at dksJ5_delete_1 11 rfl rfl)
theorem dJ5_delete_35 : decode cJ5_delete 35 = .ok (.isub, 1) := dk_100 (dk_at dksJ5_delete_1 12 rfl rfl)
theorem dJ5_delete_36 : decode cJ5_delete 36 = .ok (.istore 7, 2) := dk_54 7 (dk_at dksJ5_delete_1 13 rfl rfl)
theorem dJ5_delete_38 : decode cJ5_delete 38 = .ok (.iload 6, 2) := dk_21 6 (dk_at dksJ5_delete_1 15 rfl rfl)
theorem dJ5_delete_40 : decode cJ5_delete 40 = .ok (.iload 7, 2) := dk_21 7 (dk_at dksJ5_delete_1 17 rfl rfl)
theorem dJ5_delete_42 : decode cJ5_delete 42 = .ok (.if_icmp .ge 75, 3) := dk_162 0 75 (dk_at dksJ5_delete_1 19 rfl rfl)
theorem dJ5_delete_45 : decode cJ5_delete 45 = .ok (.iload 4, 2) := dk_21 4 (dk_at dksJ5_delete_1 22 rfl rfl)
theorem dJ5_delete_47 : decode cJ5_delete 47 = .ok (.iload_n 1, 1) := dk_27 (dk_at dksJ5_delete_2 0 rfl rfl)
theorem dJ5_delete_48 : decode cJ5_delete 48 = .ok (.if_icmp .gt 19, 3) := dk_163 0 19 (dk_at dksJ5_delete_2 1 rfl rfl)
theorem dJ5_delete_51 : decode cJ5_delete 51 = .ok (.aload_n 2, 1) := dk_44 (dk_at dksJ5_delete_2 4 rfl rfl)
theorem dJ5_delete_52 : decode cJ5_delete 52 = .ok (.iload 4, 2) := dk_21 4 (dk_at dksJ5_delete_2 5 rfl rfl)
theorem dJ5_delete_54 : decode cJ5_delete 54 = .ok (.aload_n 2, 1) := dk_44 (dk_at dksJ5_delete_2 7 rfl rfl)
theorem dJ5_delete_55 : decode cJ5_delete 55 = .ok (.iload 4, 2) := dk_21 4 (dk_at dksJ5_delete_2 8 rfl rfl)
theorem dJ5_delete_57 : decode cJ5_delete 57 = .ok (.iconst 1, 1) := dk_4 (dk_at dksJ5_delete_2 10 rfl rfl)
theorem dJ5_delete_58 : decode cJ5_delete 58 = .ok (.iadd, 1) := dk_96 (dk_at dksJ5_delete_2 11 rfl rfl)
theorem dJ5_delete_59 : decode cJ5_delete 59 = .ok (.iload 6, 2) := dk_21 6 (dk_at dksJ5_delete_2 12 rfl rfl)
theorem dJ5_delete_61 : decode cJ5_delete 61 = .ok (.invokestatic 27, 3) := dk_184 0 27 (dk_at dksJ5_delete_2 14 rfl rfl)
theorem dJ5_delete_64 : decode cJ5_delete 64 = .ok (.goto 36, 3) := dk_167 0 36 (dk_at dksJ5_delete_2 17 rfl rfl)
theorem dJ5_delete_67 : decode cJ5_delete 67 = .ok (.aload_n 2, 1) := dk_44 (dk_at dksJ5_delete_2 20 rfl rfl)
theorem dJ5_delete_68 : decode cJ5_delete 68 = .ok (.iconst 0, 1) := dk_3 (dk_at dksJ5_delete_2 21 rfl rfl)
theorem dJ5_delete_69 : decode cJ5_delete 69 = .ok (.aload_n 2, 1) := dk_44 (dk_at dksJ5_delete_2 22 rfl rfl)
theorem dJ5_delete_70 : decode cJ5_delete 70 = .ok (.iconst 1, 1) := dk_4 (dk_at dksJ5_delete_2 23 rfl rfl)
theorem dJ5_delete_71 : decode cJ5_delete 71 = .ok (.iload_n 1, 1) := dk_27 (dk_at dksJ5_delete_3 0 rfl rfl)
theorem dJ5_delete_72 : decode cJ5_delete 72 = .ok (.invokestatic 27, 3) := dk_184 0 27 (dk_at dksJ5_delete_3 1 rfl rfl)
theorem dJ5_delete_75 : decode cJ5_delete 75 = .ok (.aload_n 2, 1) := dk_44 (dk_at dksJ5_delete_3 4 rfl rfl)
theorem dJ5_delete_76 : decode cJ5_delete 76 = .ok (.iconst 0, 1) := dk_3 (dk_at dksJ5_delete_3 5 rfl rfl)
theorem dJ5_delete_77 : decode cJ5_delete 77 = .ok (.aload_n 2, 1) := dk_44 (dk_at dksJ5_delete_3 6 rfl rfl)
theorem dJ5_delete_78 : decode cJ5_delete 78 = .ok (.iload_n 3, 1) := dk_29 (dk_at dksJ5_delete_3 7 rfl rfl)
theorem dJ5_delete_79 : decode cJ5_delete 79 = .ok (.iconst 1, 1) := dk_4 (dk_at dksJ5_delete_3 8 rfl rfl)
theorem dJ5_delete_80 : decode cJ5_delete 80 = .ok (.isub, 1) := dk_100 (dk_at dksJ5_delete_3 9 rfl rfl)
theorem dJ5_delete_81 : decode cJ5_delete 81 = .ok (.aaload, 1) := dk_50 (dk_at dksJ5_delete_3 10 rfl rfl)
theorem dJ5_delete_82 : decode cJ5_delete 82 = .ok (.aastore, 1) := dk_83 (dk_at dksJ5_delete_3 11 rfl rfl)
theorem dJ5_delete_83 : decode cJ5_delete 83 = .ok (.aload_n 2, 1) := dk_44 (dk_at dksJ5_delete_3 12 rfl rfl)
theorem dJ5_delete_84 : decode cJ5_delete 84 = .ok (.iload 4, 2) := dk_21 4 (dk_at dksJ5_delete_3 13 rfl rfl)
theorem dJ5_delete_86 : decode cJ5_delete 86 = .ok (.aload_n 2, 1) := dk_44 (dk_at dksJ5_delete_3 15 rfl rfl)
theorem dJ5_delete_87 : decode cJ5_delete 87 = .ok (.iload 4, 2) := dk_21 4 (dk_at dksJ5_delete_3 16 rfl rfl)
theorem dJ5_delete_89 : decode cJ5_delete 89 = .ok (.iconst 1, 1) := dk_4 (dk_at dksJ5_delete_3 18 rfl rfl)
theorem dJ5_delete_90 : decode cJ5_delete 90 = .ok (.iadd, 1) := dk_96 (dk_at dksJ5_delete_3 19 rfl rfl)
theorem dJ5_delete_91 : decode cJ5_delete 91 = .ok (.iload 6, 2) := dk_21 6 (dk_at dksJ5_delete_3 20 rfl rfl)
theorem dJ5_delete_93 : decode cJ5_delete 93 = .ok (.iload_n 1, 1) := dk_27 (dk_at dksJ5_delete_3 22 rfl rfl)
theorem dJ5_delete_94 : decode cJ5_delete 94 = .ok (.iconst 1, 1) := dk_4 (dk_at dksJ5_delete_3 23 rfl rfl)
theorem dJ5_delete_95 : decode cJ5_delete 95 = .ok (.iadd, 1) := dk_96 (dk_at dksJ5_delete_4 0 rfl rfl)
theorem dJ5_delete_96 : decode cJ5_delete 96 = .ok (.isub, 1) := dk_100 (dk_at dksJ5_delete_4 1 rfl rfl)
theorem dJ5_delete_97 : decode cJ5_delete 97 = .ok (.invokestatic 27, 3) := dk_184 0 27 (dk_at dksJ5_delete_4 2 rfl rfl)
theorem dJ5_delete_100 : decode cJ5_delete 100 = .ok (.aload_n 2, 1) := dk_44 (dk_at dksJ5_delete_4 5 rfl rfl)
theorem dJ5_delete_101 : decode cJ5_delete 101 = .ok (.iload 4, 2) := dk_21 4 (dk_at dksJ5_delete_4 6 rfl rfl)
theorem dJ5_delete_103 : decode cJ5_delete 103 = .ok (.aconst_null, 1) := dk_1 (dk_at dksJ5_delete_4 8 rfl rfl)
theorem dJ5_delete_104 : decode cJ5_delete 104 = .ok (.aastore, 1) := dk_83 (dk_at dksJ5_delete_4 9 rfl rfl)
theorem dJ5_delete_105 : decode cJ5_delete 105 = .ok (.aload_n 0, 1) := dk_42 (dk_at dksJ5_delete_4 10 rfl rfl)
theorem dJ5_delete_106 : decode cJ5_delete 106 = .ok (.iload 4, 2) := dk_21 4 (dk_at dksJ5_delete_4 11 rfl rfl)
theorem dJ5_delete_108 : decode cJ5_delete 108 = .ok (.iload_n 3, 1) := dk_29 (dk_at dksJ5_delete_4 13 rfl rfl)
theorem dJ5_delete_109 : decode cJ5_delete 109 = .ok (.invokestatic 74, 3) := dk_184 0 74 (dk_at dksJ5_delete_4 14 rfl rfl)
theorem dJ5_delete_112 : decode cJ5_delete 112 = .ok (.putfield 24, 3) := dk_181 0 24 (dk_at dksJ5_delete_4 17 rfl rfl)
theorem dJ5_delete_115 : decode cJ5_delete 115 = .ok (.iconst 0, 1) := dk_3 (dk_at dksJ5_delete_4 20 rfl rfl)
theorem dJ5_delete_116 : decode cJ5_delete 116 = .ok (.ireturn, 1) := dk_172 (dk_at dksJ5_delete_4 21 rfl rfl)
theorem dJ5_delete_117 : decode cJ5_delete 117 = .ok (.aload_n 0, 1) := dk_42 (dk_at dksJ5_delete_4 22 rfl rfl)
theorem dJ5_delete_118 : decode cJ5_delete 118 = .ok (.iload 5, 2) := dk_21 5 (dk_at dksJ5_delete_5 0 rfl rfl)
theorem dJ5_delete_120 : decode cJ5_delete 120 = .ok (.iload_n 3, 1) := dk_29 (dk_at dksJ5_delete_5 2 rfl rfl)
theorem dJ5_delete_121 : decode cJ5_delete 121 = .ok (.invokestatic 68, 3) := dk_184 0 68 (dk_at dksJ5_delete_5 3 rfl rfl)
theorem dJ5_delete_124 : decode cJ5_delete 124 = .ok (.putfield 20, 3) := dk_181 0 20 (dk_at dksJ5_delete_5 6 rfl rfl)
theorem dJ5_delete_127 : decode cJ5_delete 127 = .ok (.iload_n 1, 1) := dk_27 (dk_at dksJ5_delete_5 9 rfl rfl)
theorem dJ5_delete_128 : decode cJ5_delete 128 = .ok (.aload_n 0, 1) := dk_42 (dk_at dksJ5_delete_5 10 rfl rfl)
theorem dJ5_delete_129 : decode cJ5_delete 129 = .ok (.getfield 20, 3) := dk_180 0 20 (dk_at dksJ5_delete_5 11 rfl rfl)
theorem dJ5_delete_132 : decode cJ5_delete 132 = .ok (.if_icmp .gt 17, 3) := dk_163 0 17 (dk_at dksJ5_delete_5 14 rfl rfl)
theorem dJ5_delete_135 : decode cJ5_delete 135 = .ok (.aload_n 2, 1) := dk_44 (dk_at dksJ5_delete_5 17 rfl rfl)
theorem dJ5_delete_136 : decode cJ5_delete 136 = .ok (.iload_n 1, 1) := dk_27 (dk_at dksJ5_delete_5 18 rfl rfl)
theorem dJ5_delete_137 : decode cJ5_delete 137 = .ok (.iconst 1, 1) := dk_4 (dk_at dksJ5_delete_5 19 rfl rfl)
theorem dJ5_delete_138 : decode cJ5_delete 138 = .ok (.iadd, 1) := dk_96 (dk_at dksJ5_delete_5 20 rfl rfl)
theorem dJ5_delete_139 : decode cJ5_delete 139 = .ok (.aload_n 2, 1) := dk_44 (dk_at dksJ5_delete_5 21 rfl rfl)
theorem dJ5_delete_140 : decode cJ5_delete 140 = .ok (.iload_n 1, 1) := dk_27 (dk_at dksJ5_delete_5 22 rfl rfl)
theorem dJ5_delete_141 : decode cJ5_delete 141 = .ok (.iload 7, 2) := dk_21 7 (dk_at dksJ5_delete_6 0 rfl rfl)
theorem dJ5_delete_143 : decode cJ5_delete 143 = .ok (.invokestatic 27, 3) := dk_184 0 27 (dk_at dksJ5_delete_6 2 rfl rfl)
theorem dJ5_delete_146 : decode cJ5_delete 146 = .ok (.goto 36, 3) := dk_167 0 36 (dk_at dksJ5_delete_6 5 rfl rfl)
theorem dJ5_delete_149 : decode cJ5_delete 149 = .ok (.aload_n 2, 1) := dk_44 (dk_at dksJ5_delete_6 8 rfl rfl)
theorem dJ5_delete_150 : decode cJ5_delete 150 = .ok (.iload_n 1, 1) := dk_27 (dk_at dksJ5_delete_6 9 rfl rfl)
theorem dJ5_delete_151 : decode cJ5_delete 151 = .ok (.iconst 1, 1) := dk_4 (dk_at dksJ5_delete_6 10 rfl rfl)
theorem dJ5_delete_152 : decode cJ5_delete 152 = .ok (.iadd, 1) := dk_96 (dk_at dksJ5_delete_6 11 rfl rfl)
theorem dJ5_delete_153 : decode cJ5_delete 153 = .ok (.aload_n 2, 1) := dk_44 (dk_at dksJ5_delete_6 12 rfl rfl)
theorem dJ5_delete_154 : decode cJ5_delete 154 = .ok (.iload_n 1, 1) := dk_27 (dk_at dksJ5_delete_6 13 rfl rfl)
theorem dJ5_delete_155 : decode cJ5_delete 155 = .ok (.iload_n 3, 1) := dk_29 (dk_at dksJ5_delete_6 14 rfl rfl)
theorem dJ5_delete_156 : decode cJ5_delete 156 = .ok (.iload_n 1, 1) := dk_27 (dk_at dksJ5_delete_6 15 rfl rfl)
theorem dJ5_delete_157 : decode cJ5_delete 157 = .ok (.iconst 1, 1) := dk_4 (dk_at dksJ5_delete_6 16 rfl rfl)
theorem dJ5_delete_158 : decode cJ5_delete 158 = .ok (.iadd, 1) := dk_96 (dk_at dksJ5_delete_6 17 rfl rfl)
theorem dJ5_delete_159 : decode cJ5_delete 159 = .ok (.isub, 1) := dk_100 (dk_at dksJ5_delete_6 18 rfl rfl)
theorem dJ5_delete_160 : decode cJ5_delete 160 = .ok (.invokestatic 27, 3) := dk_184 0 27 (dk_at dksJ5_delete_6 19 rfl rfl)
theorem dJ5_delete_163 : decode cJ5_delete 163 = .ok (.aload_n 2, 1) := dk_44 (dk_at dksJ5_delete_6 22 rfl rfl)
theorem dJ5_delete_164 : decode cJ5_delete 164 = .ok (.iload_n 3, 1) := dk_29 (dk_at dksJ5_delete_6 23 rfl rfl)
theorem dJ5_delete_165 : decode cJ5_delete 165 = .ok (.iconst 1, 1) := dk_4 (dk_at dksJ5_delete_7 0 rfl rfl)
theorem dJ5_delete_166 : decode cJ5_delete 166 = .ok (.isub, 1) := dk_100 (dk_at dksJ5_delete_7 1 rfl rfl)
theorem dJ5_delete_167 : decode cJ5_delete 167 = .ok (.aload_n 2, 1) := dk_44 (dk_at dksJ5_delete_7 2 rfl rfl)
theorem dJ5_delete_168 : decode cJ5_delete 168 = .ok (.iconst 0, 1) := dk_3 (dk_at dksJ5_delete_7 3 rfl rfl)
theorem dJ5_delete_169 : decode cJ5_delete 169 = .ok (.aaload, 1) := dk_50 (dk_at dksJ5_delete_7 4 rfl rfl)
theorem dJ5_delete_170 : decode cJ5_delete 170 = .ok (.aastore, 1) := dk_83 (dk_at dksJ5_delete_7 5 rfl rfl)
theorem dJ5_delete_171 : decode cJ5_delete 171 = .ok (.aload_n 2, 1) := dk_44 (dk_at dksJ5_delete_7 6 rfl rfl)
theorem dJ5_delete_172 : decode cJ5_delete 172 = .ok (.iconst 1, 1) := dk_4 (dk_at dksJ5_delete_7 7 rfl rfl)
theorem dJ5_delete_173 : decode cJ5_delete 173 = .ok (.aload_n 2, 1) := dk_44 (dk_at dksJ5_delete_7 8 rfl rfl)
theorem dJ5_delete_174 : decode cJ5_delete 174 = .ok (.iconst 0, 1) := dk_3 (dk_at dksJ5_delete_7 9 rfl rfl)
theorem dJ5_delete_175 : decode cJ5_delete 175 = .ok (.iload 5, 2) := dk_21 5 (dk_at dksJ5_delete_7 10 rfl rfl)
theorem dJ5_delete_177 : decode cJ5_delete 177 = .ok (.iconst 1, 1) := dk_4 (dk_at dksJ5_delete_7 12 rfl rfl)
theorem dJ5_delete_178 : decode cJ5_delete 178 = .ok (.isub, 1) := dk_100 (dk_at dksJ5_delete_7 13 rfl rfl)
theorem dJ5_delete_179 : decode cJ5_delete 179 = .ok (.invokestatic 27, 3) := dk_184 0 27 (dk_at dksJ5_delete_7 14 rfl rfl)
theorem dJ5_delete_182 : decode cJ5_delete 182 = .ok (.aload_n 2, 1) := dk_44 (dk_at dksJ5_delete_7 17 rfl rfl)
theorem dJ5_delete_183 : decode cJ5_delete 183 = .ok (.aload_n 0, 1) := dk_42 (dk_at dksJ5_delete_7 18 rfl rfl)
theorem dJ5_delete_184 : decode cJ5_delete 184 = .ok (.getfield 20, 3) := dk_180 0 20 (dk_at dksJ5_delete_7 19 rfl rfl)
theorem dJ5_delete_187 : decode cJ5_delete 187 = .ok (.aconst_null, 1) := dk_1 (dk_at dksJ5_delete_7 22 rfl rfl)
theorem dJ5_delete_188 : decode cJ5_delete 188 = .ok (.aastore, 1) := dk_83 (dk_at dksJ5_delete_7 23 rfl rfl)
theorem dJ5_delete_189 : decode cJ5_delete 189 = .ok (.iconst 1, 1) := dk_4 (dk_at dksJ5_delete_8 0 rfl rfl)
theorem dJ5_delete_190 : decode cJ5_delete 190 = .ok (.ireturn, 1) := dk_172 (dk_at dksJ5_delete_8 1 rfl rfl)
abbrev cJ5_dec : ByteArray := prog_46_method_7_code
def yJ5_dec : MethodName := ⟨RJ5, "dec", "(II)I"⟩
def dkwJ5_dec_0 : List UInt8 := [132, 0, 255, 26, 156, 0, 7, 27, 4, 100, 59, 26, 172]
abbrev dktJ5_dec_0 : List UInt8 := dkwJ5_dec_0 ++ []
theorem dksJ5_dec_0 : cJ5_dec.data.toList.drop 0 = dktJ5_dec_0 := by decide +kernel
theorem dJ5_dec_0 : decode cJ5_dec 0 = .ok (.iinc 0 (-1), 3) := dk_132 0 255 (dk_at dksJ5_dec_0 0 rfl rfl)
theorem dJ5_dec_3 : decode cJ5_dec 3 = .ok (.iload_n 0, 1) := dk_26 (dk_at dksJ5_dec_0 3 rfl rfl)
theorem dJ5_dec_4 : decode cJ5_dec 4 = .ok (.ifCond .ge 7, 3) := dk_156 0 7 (dk_at dksJ5_dec_0 4 rfl rfl)
theorem dJ5_dec_7 : decode cJ5_dec 7 = .ok (.iload_n 1, 1) := dk_27 (dk_at dksJ5_dec_0 7 rfl rfl)
theorem dJ5_dec_8 : decode cJ5_dec 8 = .ok (.iconst 1, 1) := dk_4 (dk_at dksJ5_dec_0 8 rfl rfl)
theorem dJ5_dec_9 : decode cJ5_dec 9 = .ok (.isub, 1) := dk_100 (dk_at dksJ5_dec_0 9 rfl rfl)
theorem dJ5_dec_10 : decode cJ5_dec 10 = .ok (.istore_n 0, 1) := dk_59 (dk_at dksJ5_dec_0 10 rfl rfl)
theorem dJ5_dec_11 : decode cJ5_dec 11 = .ok (.iload_n 0, 1) := dk_26 (dk_at dksJ5_dec_0 11 rfl rfl)
theorem dJ5_dec_12 : decode cJ5_dec 12 = .ok (.ireturn, 1) := dk_172 (dk_at dksJ5_dec_0 12 rfl rfl)
abbrev cJ5_isEmpty : ByteArray := prog_46_method_38_code
def yJ5_isEmpty : MethodName := ⟨RJ5, "isEmpty", "()Z"⟩
def dkwJ5_isEmpty_0 : List UInt8 := [42, 180, 0, 24, 42, 180, 0, 20, 160, 0, 7, 4, 167, 0, 4, 3, 172]
abbrev dktJ5_isEmpty_0 : List UInt8 := dkwJ5_isEmpty_0 ++ []
theorem dksJ5_isEmpty_0 : cJ5_isEmpty.data.toList.drop 0 = dktJ5_isEmpty_0 := by decide +kernel
theorem dJ5_isEmpty_0 : decode cJ5_isEmpty 0 = .ok (.aload_n 0, 1) := dk_42 (dk_at dksJ5_isEmpty_0 0 rfl rfl)
theorem dJ5_isEmpty_1 : decode cJ5_isEmpty 1 = .ok (.getfield 24, 3) := dk_180 0 24 (dk_at dksJ5_isEmpty_0 1 rfl rfl)
theorem dJ5_isEmpty_4 : decode cJ5_isEmpty 4 = .ok (.aload_n 0, 1) := dk_42 (dk_at dksJ5_isEmpty_0 4 rfl rfl)
theorem dJ5_isEmpty_5 : decode cJ5_isEmpty 5 = .ok (.getfield 20, 3) := dk_180 0 20 (dk_at dksJ5_isEmpty_0 5 rfl rfl)
theorem dJ5_isEmpty_8 : decode cJ5_isEmpty 8 = .ok (.if_icmp .ne 7, 3) := dk_160 0 7 (dk_at dksJ5_isEmpty_0 8 rfl rfl)
theorem dJ5_isEmpty_11 : decode cJ5_isEmpty 11 = .ok (.iconst 1, 1) := dk_4 (dk_at dksJ5_isEmpty_0 11 rfl rfl)
theorem dJ5_isEmpty_12 : decode cJ5_isEmpty 12 = .ok (.goto 4, 3) := dk_167 0 4 (dk_at dksJ5_isEmpty_0 12 rfl rfl)
theorem dJ5_isEmpty_15 : decode cJ5_isEmpty 15 = .ok (.iconst 0, 1) := dk_3 (dk_at dksJ5_isEmpty_0 15 rfl rfl)
theorem dJ5_isEmpty_16 : decode cJ5_isEmpty 16 = .ok (.ireturn, 1) := dk_172 (dk_at dksJ5_isEmpty_0 16 rfl rfl)
abbrev cJ5_removeLast : ByteArray := prog_46_method_19_code
def yJ5_removeLast : MethodName := ⟨RJ5, "removeLast", "()Ljava/lang/Object;"⟩
def dkwJ5_removeLast_0 : List UInt8 := [42, 182, 0, 100, 76, 43, 199, 0, 11, 187, 0, 97, 89, 183, 0, 99, 191, 43, 176]
abbrev dktJ5_removeLast_0 : List UInt8 := dkwJ5_removeLast_0 ++ []
theorem dksJ5_removeLast_0 : cJ5_removeLast.data.toList.drop 0 = dktJ5_removeLast_0 := by decide +kernel
theorem dJ5_removeLast_0 : decode cJ5_removeLast 0 = .ok (.aload_n 0, 1) := dk_42 (dk_at dksJ5_removeLast_0 0 rfl rfl)
theorem dJ5_removeLast_1 : decode cJ5_removeLast 1 = .ok (.invokevirtual 100, 3) := dk_182 0 100 (dk_at dksJ5_removeLast_0 1 rfl rfl)
theorem dJ5_removeLast_4 : decode cJ5_removeLast 4 = .ok (.astore_n 1, 1) := dk_76 (dk_at dksJ5_removeLast_0 4 rfl rfl)
theorem dJ5_removeLast_5 : decode cJ5_removeLast 5 = .ok (.aload_n 1, 1) := dk_43 (dk_at dksJ5_removeLast_0 5 rfl rfl)
theorem dJ5_removeLast_6 : decode cJ5_removeLast 6 = .ok (.ifnonnull 11, 3) := dk_199 0 11 (dk_at dksJ5_removeLast_0 6 rfl rfl)
theorem dJ5_removeLast_9 : decode cJ5_removeLast 9 = .ok (.new 97, 3) := dk_187 0 97 (dk_at dksJ5_removeLast_0 9 rfl rfl)
theorem dJ5_removeLast_12 : decode cJ5_removeLast 12 = .ok (.dup, 1) := dk_89 (dk_at dksJ5_removeLast_0 12 rfl rfl)
theorem dJ5_removeLast_13 : decode cJ5_removeLast 13 = .ok (.invokespecial 99, 3) := dk_183 0 99 (dk_at dksJ5_removeLast_0 13 rfl rfl)
theorem dJ5_removeLast_16 : decode cJ5_removeLast 16 = .ok (.athrow, 1) := dk_191 (dk_at dksJ5_removeLast_0 16 rfl rfl)
theorem dJ5_removeLast_17 : decode cJ5_removeLast 17 = .ok (.aload_n 1, 1) := dk_43 (dk_at dksJ5_removeLast_0 17 rfl rfl)
theorem dJ5_removeLast_18 : decode cJ5_removeLast 18 = .ok (.areturn, 1) := dk_176 (dk_at dksJ5_removeLast_0 18 rfl rfl)
abbrev cJ5_pollLast : ByteArray := prog_46_method_21_code
def yJ5_pollLast : MethodName := ⟨RJ5, "pollLast", "()Ljava/lang/Object;"⟩
def dkwJ5_pollLast_1 : List UInt8 := [198, 0, 12, 43, 42, 28, 90, 181, 0, 20, 1, 83, 45, 176]
abbrev dktJ5_pollLast_1 : List UInt8 := dkwJ5_pollLast_1 ++ []
def dkwJ5_pollLast_0 : List UInt8 := [42, 180, 0, 3, 89, 76, 42, 180, 0, 20, 43, 190, 184, 0, 68, 89, 61, 184, 0, 103, 78, 45]
abbrev dktJ5_pollLast_0 : List UInt8 := dkwJ5_pollLast_0 ++ dktJ5_pollLast_1
theorem dksJ5_pollLast_0 : cJ5_pollLast.data.toList.drop 0 = dktJ5_pollLast_0 := by decide +kernel
theorem dksJ5_pollLast_1 : cJ5_pollLast.data.toList.drop 22 = dktJ5_pollLast_1 := dk_seg dksJ5_pollLast_0 22 rfl rfl
theorem dJ5_pollLast_0 : decode cJ5_pollLast 0 = .ok (.aload_n 0, 1) := dk_42 (dk_at dksJ5_pollLast_0 0 rfl rfl)
theorem dJ5_pollLast_1 : decode cJ5_pollLast 1 = .ok (.getfield 3, 3) := dk_180 0 3 (dk_at dksJ5_pollLast_0 1 rfl rfl)
theorem dJ5_pollLast_4 : decode cJ5_pollLast 4 = .ok (.dup, 1) := dk_89 (dk_at dksJ5_pollLast_0 4 rfl rfl)
theorem dJ5_pollLast_5 : decode cJ5_pollLast 5 = .ok (.astore_n 1, 1) := dk_76 (dk_at dksJ5_pollLast_0 5 rfl rfl)
theorem dJ5_pollLast_6 : decode cJ5_pollLast 6 = .ok (.aload_n 0, 1) := dk_42 (dk_at dksJ5_pollLast_0 6 rfl rfl)
theorem dJ5_pollLast_7 : decode cJ5_pollLast 7 = .ok (.getfield 20, 3) := dk_180 0 20 (dk_at dksJ5_pollLast_0 7 rfl rfl)
theorem dJ5_pollLast_10 : decode cJ5_pollLast 10 = .ok (.aload_n 1, 1) := dk_43 (dk_at dksJ5_pollLast_0 10 rfl rfl)
theorem dJ5_pollLast_11 : decode cJ5_pollLast 11 = .ok (.arraylength, 1) := dk_190 (dk_at dksJ5_pollLast_0 11 rfl rfl)
theorem dJ5_pollLast_12 : decode cJ5_pollLast 12 = .ok (.invokestatic 68, 3) := dk_184 0 68 (dk_at dksJ5_pollLast_0 12 rfl rfl)
theorem dJ5_pollLast_15 : decode cJ5_pollLast 15 = .ok (.dup, 1) := dk_89 (dk_at dksJ5_pollLast_0 15 rfl rfl)
theorem dJ5_pollLast_16 : decode cJ5_pollLast 16 = .ok (.istore_n 2, 1) := dk_61 (dk_at dksJ5_pollLast_0 16 rfl rfl)
theorem dJ5_pollLast_17 : decode cJ5_pollLast 17 = .ok (.invokestatic 103, 3) := dk_184 0 103 (dk_at dksJ5_pollLast_0 17 rfl rfl)
theorem dJ5_pollLast_20 : decode cJ5_pollLast 20 = .ok (.astore_n 3, 1) := dk_78 (dk_at dksJ5_pollLast_0 20 rfl rfl)
theorem dJ5_pollLast_21 : decode cJ5_pollLast 21 = .ok (.aload_n 3, 1) := dk_45 (dk_at dksJ5_pollLast_0 21 rfl rfl)
theorem dJ5_pollLast_22 : decode cJ5_pollLast 22 = .ok (.ifnull 12, 3) := dk_198 0 12 (dk_at dksJ5_pollLast_1 0 rfl rfl)
theorem dJ5_pollLast_25 : decode cJ5_pollLast 25 = .ok (.aload_n 1, 1) := dk_43 (dk_at dksJ5_pollLast_1 3 rfl rfl)
theorem dJ5_pollLast_26 : decode cJ5_pollLast 26 = .ok (.aload_n 0, 1) := dk_42 (dk_at dksJ5_pollLast_1 4 rfl rfl)
theorem dJ5_pollLast_27 : decode cJ5_pollLast 27 = .ok (.iload_n 2, 1) := dk_28 (dk_at dksJ5_pollLast_1 5 rfl rfl)
theorem dJ5_pollLast_28 : decode cJ5_pollLast 28 = .ok (.dup_x1, 1) := dk_90 (dk_at dksJ5_pollLast_1 6 rfl rfl)
theorem dJ5_pollLast_29 : decode cJ5_pollLast 29 = .ok (.putfield 20, 3) := dk_181 0 20 (dk_at dksJ5_pollLast_1 7 rfl rfl)
theorem dJ5_pollLast_32 : decode cJ5_pollLast 32 = .ok (.aconst_null, 1) := dk_1 (dk_at dksJ5_pollLast_1 10 rfl rfl)
theorem dJ5_pollLast_33 : decode cJ5_pollLast 33 = .ok (.aastore, 1) := dk_83 (dk_at dksJ5_pollLast_1 11 rfl rfl)
theorem dJ5_pollLast_34 : decode cJ5_pollLast 34 = .ok (.aload_n 3, 1) := dk_45 (dk_at dksJ5_pollLast_1 12 rfl rfl)
theorem dJ5_pollLast_35 : decode cJ5_pollLast 35 = .ok (.areturn, 1) := dk_176 (dk_at dksJ5_pollLast_1 13 rfl rfl)
abbrev cJ5_clear : ByteArray := prog_46_method_53_code
def yJ5_clear : MethodName := ⟨RJ5, "clear", "()V"⟩
def dkwJ5_clear_1 : List UInt8 := [181, 0, 24, 177]
abbrev dktJ5_clear_1 : List UInt8 := dkwJ5_clear_1 ++ []
def dkwJ5_clear_0 : List UInt8 := [42, 180, 0, 3, 42, 180, 0, 24, 42, 180, 0, 20, 184, 0, 181, 42, 42, 3, 90, 181, 0, 20]
abbrev dktJ5_clear_0 : List UInt8 := dkwJ5_clear_0 ++ dktJ5_clear_1
theorem dksJ5_clear_0 : cJ5_clear.data.toList.drop 0 = dktJ5_clear_0 := by decide +kernel
theorem dksJ5_clear_1 : cJ5_clear.data.toList.drop 22 = dktJ5_clear_1 := dk_seg dksJ5_clear_0 22 rfl rfl
theorem dJ5_clear_0 : decode cJ5_clear 0 = .ok (.aload_n 0, 1) := dk_42 (dk_at dksJ5_clear_0 0 rfl rfl)
theorem dJ5_clear_1 : decode cJ5_clear 1 = .ok (.getfield 3, 3) := dk_180 0 3 (dk_at dksJ5_clear_0 1 rfl rfl)
theorem dJ5_clear_4 : decode cJ5_clear 4 = .ok (.aload_n 0, 1) := dk_42 (dk_at dksJ5_clear_0 4 rfl rfl)
theorem dJ5_clear_5 : decode cJ5_clear 5 = .ok (.getfield 24, 3) := dk_180 0 24 (dk_at dksJ5_clear_0 5 rfl rfl)
theorem dJ5_clear_8 : decode cJ5_clear 8 = .ok (.aload_n 0, 1) := dk_42 (dk_at dksJ5_clear_0 8 rfl rfl)
theorem dJ5_clear_9 : decode cJ5_clear 9 = .ok (.getfield 20, 3) := dk_180 0 20 (dk_at dksJ5_clear_0 9 rfl rfl)
theorem dJ5_clear_12 : decode cJ5_clear 12 = .ok (.invokestatic 181, 3) := dk_184 0 181 (dk_at dksJ5_clear_0 12 rfl rfl)
theorem dJ5_clear_15 : decode cJ5_clear 15 = .ok (.aload_n 0, 1) := dk_42 (dk_at dksJ5_clear_0 15 rfl rfl)
theorem dJ5_clear_16 : decode cJ5_clear 16 = .ok (.aload_n 0, 1) := dk_42 (dk_at dksJ5_clear_0 16 rfl rfl)
theorem dJ5_clear_17 : decode cJ5_clear 17 = .ok (.iconst 0, 1) := dk_3 (dk_at dksJ5_clear_0 17 rfl rfl)
theorem dJ5_clear_18 : decode cJ5_clear 18 = .ok (.dup_x1, 1) := dk_90 (dk_at dksJ5_clear_0 18 rfl rfl)
theorem dJ5_clear_19 : decode cJ5_clear 19 = .ok (.putfield 20, 3) := dk_181 0 20 (dk_at dksJ5_clear_0 19 rfl rfl)
theorem dJ5_clear_22 : decode cJ5_clear 22 = .ok (.putfield 24, 3) := dk_181 0 24 (dk_at dksJ5_clear_1 0 rfl rfl)
theorem dJ5_clear_25 : decode cJ5_clear 25 = .ok (.return_, 1) := dk_177 (dk_at dksJ5_clear_1 3 rfl rfl)
abbrev cJ5_circularClear : ByteArray := prog_46_method_54_code
def yJ5_circularClear : MethodName := ⟨RJ5, "circularClear", "([Ljava/lang/Object;II)V"⟩
def dkwJ5_circularClear_1 : List UInt8 := [167, 255, 244, 29, 28, 160, 0, 6, 167, 0, 10, 3, 60, 28, 62, 167, 255, 229, 177]
abbrev dktJ5_circularClear_1 : List UInt8 := dkwJ5_circularClear_1 ++ []
def dkwJ5_circularClear_0 : List UInt8 := [27, 28, 163, 0, 7, 28, 167, 0, 5, 42, 190, 62, 27, 29, 162, 0, 13, 42, 27, 1, 83, 132, 1, 1]
abbrev dktJ5_circularClear_0 : List UInt8 := dkwJ5_circularClear_0 ++ dktJ5_circularClear_1
theorem dksJ5_circularClear_0 : cJ5_circularClear.data.toList.drop 0 = dktJ5_circularClear_0 := by decide +kernel
theorem dksJ5_circularClear_1 : cJ5_circularClear.data.toList.drop 24 = dktJ5_circularClear_1 := dk_seg dksJ5_circularClear_0 24 rfl rfl
theorem dJ5_circularClear_0 : decode cJ5_circularClear 0 = .ok (.iload_n 1, 1) := dk_27 (dk_at dksJ5_circularClear_0 0 rfl rfl)
theorem dJ5_circularClear_1 : decode cJ5_circularClear 1 = .ok (.iload_n 2, 1) := dk_28 (dk_at dksJ5_circularClear_0 1 rfl rfl)
theorem dJ5_circularClear_2 : decode cJ5_circularClear 2 = .ok (.if_icmp .gt 7, 3) := dk_163 0 7 (dk_at dksJ5_circularClear_0 2 rfl rfl)
theorem dJ5_circularClear_5 : decode cJ5_circularClear 5 = .ok (.iload_n 2, 1) := dk_28 (dk_at dksJ5_circularClear_0 5 rfl rfl)
theorem dJ5_circularClear_6 : decode cJ5_circularClear 6 = .ok (.goto 5, 3) := dk_167 0 5 (dk_at dksJ5_circularClear_0 6 rfl rfl)
theorem dJ5_circularClear_9 : decode cJ5_circularClear 9 = .ok (.aload_n 0, 1) := dk_42 (dk_at dksJ5_circularClear_0 9 rfl rfl)
theorem dJ5_circularClear_10 : decode cJ5_circularClear 10 = .ok (.arraylength, 1) := dk_190 (dk_at dksJ5_circularClear_0 10 rfl rfl)
theorem dJ5_circularClear_11 : decode cJ5_circularClear 11 = .ok (.istore_n 3, 1) := dk_62 (dk_at dksJ5_circularClear_0 11 rfl rfl)
theorem dJ5_circularClear_12 : decode cJ5_circularClear 12 = .ok (.iload_n 1, 1) := dk_27 (dk_at dksJ5_circularClear_0 12 rfl rfl)
theorem dJ5_circularClear_13 : decode cJ5_circularClear 13 = .ok (.iload_n 3, 1) := dk_29 (dk_at dksJ5_circularClear_0 13 rfl rfl)
theorem dJ5_circularClear_14 : decode cJ5_circularClear 14 = .ok (.if_icmp .ge 13, 3) := dk_162 0 13 (dk_at dksJ5_circularClear_0 14 rfl rfl)
theorem dJ5_circularClear_17 : decode cJ5_circularClear 17 = .ok (.aload_n 0, 1) := dk_42 (dk_at dksJ5_circularClear_0 17 rfl rfl)
theorem dJ5_circularClear_18 : decode cJ5_circularClear 18 = .ok (.iload_n 1, 1) := dk_27 (dk_at dksJ5_circularClear_0 18 rfl rfl)
theorem dJ5_circularClear_19 : decode cJ5_circularClear 19 = .ok (.aconst_null, 1) := dk_1 (dk_at dksJ5_circularClear_0 19 rfl rfl)
theorem dJ5_circularClear_20 : decode cJ5_circularClear 20 = .ok (.aastore, 1) := dk_83 (dk_at dksJ5_circularClear_0 20 rfl rfl)
theorem dJ5_circularClear_21 : decode cJ5_circularClear 21 = .ok (.iinc 1 1, 3) := dk_132 1 1 (dk_at dksJ5_circularClear_0 21 rfl rfl)
theorem dJ5_circularClear_24 : decode cJ5_circularClear 24 = .ok (.goto (-12), 3) := dk_167 255 244 (dk_at dksJ5_circularClear_1 0 rfl rfl)
theorem dJ5_circularClear_27 : decode cJ5_circularClear 27 = .ok (.iload_n 3, 1) := dk_29 (dk_at dksJ5_circularClear_1 3 rfl rfl)
theorem dJ5_circularClear_28 : decode cJ5_circularClear 28 = .ok (.iload_n 2, 1) := dk_28 (dk_at dksJ5_circularClear_1 4 rfl rfl)
theorem dJ5_circularClear_29 : decode cJ5_circularClear 29 = .ok (.if_icmp .ne 6, 3) := dk_160 0 6 (dk_at dksJ5_circularClear_1 5 rfl rfl)
theorem dJ5_circularClear_32 : decode cJ5_circularClear 32 = .ok (.goto 10, 3) := dk_167 0 10 (dk_at dksJ5_circularClear_1 8 rfl rfl)
theorem dJ5_circularClear_35 : decode cJ5_circularClear 35 = .ok (.iconst 0, 1) := dk_3 (dk_at dksJ5_circularClear_1 11 rfl rfl)
theorem dJ5_circularClear_36 : decode cJ5_circularClear 36 = .ok (.istore_n 1, 1) := dk_60 (dk_at dksJ5_circularClear_1 12 rfl rfl)
theorem dJ5_circularClear_37 : decode cJ5_circularClear 37 = .ok (.iload_n 2, 1) := dk_28 (dk_at dksJ5_circularClear_1 13 rfl rfl)
theorem dJ5_circularClear_38 : decode cJ5_circularClear 38 = .ok (.istore_n 3, 1) := dk_62 (dk_at dksJ5_circularClear_1 14 rfl rfl)
theorem dJ5_circularClear_39 : decode cJ5_circularClear 39 = .ok (.goto (-27), 3) := dk_167 255 229 (dk_at dksJ5_circularClear_1 15 rfl rfl)
theorem dJ5_circularClear_42 : decode cJ5_circularClear 42 = .ok (.return_, 1) := dk_177 (dk_at dksJ5_circularClear_1 18 rfl rfl)
abbrev cJ31_hasNext : ByteArray := prog_47_method_2_code
def yJ31_hasNext : MethodName := ⟨RJ31, "hasNext", "()Z"⟩
def dkwJ31_hasNext_0 : List UInt8 := [42, 180, 0, 19, 158, 0, 7, 4, 167, 0, 4, 3, 172]
abbrev dktJ31_hasNext_0 : List UInt8 := dkwJ31_hasNext_0 ++ []
theorem dksJ31_hasNext_0 : cJ31_hasNext.data.toList.drop 0 = dktJ31_hasNext_0 := by decide +kernel
theorem dJ31_hasNext_0 : decode cJ31_hasNext 0 = .ok (.aload_n 0, 1) := dk_42 (dk_at dksJ31_hasNext_0 0 rfl rfl)
theorem dJ31_hasNext_1 : decode cJ31_hasNext 1 = .ok (.getfield 19, 3) := dk_180 0 19 (dk_at dksJ31_hasNext_0 1 rfl rfl)
theorem dJ31_hasNext_4 : decode cJ31_hasNext 4 = .ok (.ifCond .le 7, 3) := dk_158 0 7 (dk_at dksJ31_hasNext_0 4 rfl rfl)
theorem dJ31_hasNext_7 : decode cJ31_hasNext 7 = .ok (.iconst 1, 1) := dk_4 (dk_at dksJ31_hasNext_0 7 rfl rfl)
theorem dJ31_hasNext_8 : decode cJ31_hasNext 8 = .ok (.goto 4, 3) := dk_167 0 4 (dk_at dksJ31_hasNext_0 8 rfl rfl)
theorem dJ31_hasNext_11 : decode cJ31_hasNext 11 = .ok (.iconst 0, 1) := dk_3 (dk_at dksJ31_hasNext_0 11 rfl rfl)
theorem dJ31_hasNext_12 : decode cJ31_hasNext 12 = .ok (.ireturn, 1) := dk_172 (dk_at dksJ31_hasNext_0 12 rfl rfl)
abbrev cJ31_next : ByteArray := prog_47_method_3_code
def yJ31_next : MethodName := ⟨RJ31, "next", "()Ljava/lang/Object;"⟩
def dkwJ31_next_2 : List UInt8 := [181, 0, 29, 42, 89, 180, 0, 19, 4, 100, 181, 0, 19, 44, 176]
abbrev dktJ31_next_2 : List UInt8 := dkwJ31_next_2 ++ []
def dkwJ31_next_1 : List UInt8 := [42, 180, 0, 29, 184, 0, 39, 77, 42, 42, 42, 180, 0, 29, 90, 181, 0, 23, 43, 190, 184, 0, 43]
abbrev dktJ31_next_1 : List UInt8 := dkwJ31_next_1 ++ dktJ31_next_2
def dkwJ31_next_0 : List UInt8 := [42, 180, 0, 19, 157, 0, 11, 187, 0, 32, 89, 183, 0, 34, 191, 42, 180, 0, 1, 180, 0, 35, 76, 43]
abbrev dktJ31_next_0 : List UInt8 := dkwJ31_next_0 ++ dktJ31_next_1
theorem dksJ31_next_0 : cJ31_next.data.toList.drop 0 = dktJ31_next_0 := by decide +kernel
theorem dksJ31_next_1 : cJ31_next.data.toList.drop 24 = dktJ31_next_1 := dk_seg dksJ31_next_0 24 rfl rfl
theorem dksJ31_next_2 : cJ31_next.data.toList.drop 47 = dktJ31_next_2 := dk_seg dksJ31_next_1 23 rfl rfl
theorem dJ31_next_0 : decode cJ31_next 0 = .ok (.aload_n 0, 1) := dk_42 (dk_at dksJ31_next_0 0 rfl rfl)
theorem dJ31_next_1 : decode cJ31_next 1 = .ok (.getfield 19, 3) := dk_180 0 19 (dk_at dksJ31_next_0 1 rfl rfl)
theorem dJ31_next_4 : decode cJ31_next 4 = .ok (.ifCond .gt 11, 3) := dk_157 0 11 (dk_at dksJ31_next_0 4 rfl rfl)
theorem dJ31_next_7 : decode cJ31_next 7 = .ok (.new 32, 3) := dk_187 0 32 (dk_at dksJ31_next_0 7 rfl rfl)
theorem dJ31_next_10 : decode cJ31_next 10 = .ok (.dup, 1) := dk_89 (dk_at dksJ31_next_0 10 rfl rfl)
theorem dJ31_next_11 : decode cJ31_next 11 = .ok (.invokespecial 34, 3) := dk_183 0 34 (dk_at dksJ31_next_0 11 rfl rfl)
theorem dJ31_next_14 : decode cJ31_next 14 = .ok (.athrow, 1) := dk_191 (dk_at dksJ31_next_0 14 rfl rfl)
theorem dJ31_next_15 : decode cJ31_next 15 = .ok (.aload_n 0, 1) := dk_42 (dk_at dksJ31_next_0 15 rfl rfl)
theorem dJ31_next_16 : decode cJ31_next 16 = .ok (.getfield 1, 3) := dk_180 0 1 (dk_at dksJ31_next_0 16 rfl rfl)
theorem dJ31_next_19 : decode cJ31_next 19 = .ok (.getfield 35, 3) := dk_180 0 35 (dk_at dksJ31_next_0 19 rfl rfl)
theorem dJ31_next_22 : decode cJ31_next 22 = .ok (.astore_n 1, 1) := dk_76 (dk_at dksJ31_next_0 22 rfl rfl)
theorem dJ31_next_23 : decode cJ31_next 23 = .ok (.aload_n 1, 1) := dk_43 (dk_at dksJ31_next_0 23 rfl rfl)
theorem dJ31_next_24 : decode cJ31_next 24 = .ok (.aload_n 0, 1) := dk_42 (dk_at dksJ31_next_1 0 rfl rfl)
theorem dJ31_next_25 : decode cJ31_next 25 = .ok (.getfield 29, 3) := dk_180 0 29 (dk_at dksJ31_next_1 1 rfl rfl)
theorem dJ31_next_28 : decode cJ31_next 28 = .ok (.invokestatic 39, 3) := dk_184 0 39 (dk_at dksJ31_next_1 4 rfl rfl)
theorem dJ31_next_31 : decode cJ31_next 31 = .ok (.astore_n 2, 1) := dk_77 (dk_at dksJ31_next_1 7 rfl rfl)
theorem dJ31_next_32 : decode cJ31_next 32 = .ok (.aload_n 0, 1) := dk_42 (dk_at dksJ31_next_1 8 rfl rfl)
theorem dJ31_next_33 : decode cJ31_next 33 = .ok (.aload_n 0, 1) := dk_42 (dk_at dksJ31_next_1 9 rfl rfl)
theorem dJ31_next_34 : decode cJ31_next 34 = .ok (.aload_n 0, 1) := dk_42 (dk_at dksJ31_next_1 10 rfl rfl)
theorem dJ31_next_35 : decode cJ31_next 35 = .ok (.getfield 29, 3) := dk_180 0 29 (dk_at dksJ31_next_1 11 rfl rfl)
theorem dJ31_next_38 : decode cJ31_next 38 = .ok (.dup_x1, 1) := dk_90 (dk_at dksJ31_next_1 14 rfl rfl)
theorem dJ31_next_39 : decode cJ31_next 39 = .ok (.putfield 23, 3) := dk_181 0 23 (dk_at dksJ31_next_1 15 rfl rfl)
theorem dJ31_next_42 : decode cJ31_next 42 = .ok (.aload_n 1, 1) := dk_43 (dk_at dksJ31_next_1 18 rfl rfl)
theorem dJ31_next_43 : decode cJ31_next 43 = .ok (.arraylength, 1) := dk_190 (dk_at dksJ31_next_1 19 rfl rfl)
theorem dJ31_next_44 : decode cJ31_next 44 = .ok (.invokestatic 43, 3) := dk_184 0 43 (dk_at dksJ31_next_1 20 rfl rfl)
theorem dJ31_next_47 : decode cJ31_next 47 = .ok (.putfield 29, 3) := dk_181 0 29 (dk_at dksJ31_next_2 0 rfl rfl)
theorem dJ31_next_50 : decode cJ31_next 50 = .ok (.aload_n 0, 1) := dk_42 (dk_at dksJ31_next_2 3 rfl rfl)
theorem dJ31_next_51 : decode cJ31_next 51 = .ok (.dup, 1) := dk_89 (dk_at dksJ31_next_2 4 rfl rfl)
theorem dJ31_next_52 : decode cJ31_next 52 = .ok (.getfield 19, 3) := dk_180 0 19 (dk_at dksJ31_next_2 5 rfl rfl)
theorem dJ31_next_55 : decode cJ31_next 55 = .ok (.iconst 1, 1) := dk_4 (dk_at dksJ31_next_2 8 rfl rfl)
theorem dJ31_next_56 : decode cJ31_next 56 = .ok (.isub, 1) := dk_100 (dk_at dksJ31_next_2 9 rfl rfl)
theorem dJ31_next_57 : decode cJ31_next 57 = .ok (.putfield 19, 3) := dk_181 0 19 (dk_at dksJ31_next_2 10 rfl rfl)
theorem dJ31_next_60 : decode cJ31_next 60 = .ok (.aload_n 2, 1) := dk_44 (dk_at dksJ31_next_2 13 rfl rfl)
theorem dJ31_next_61 : decode cJ31_next 61 = .ok (.areturn, 1) := dk_176 (dk_at dksJ31_next_2 14 rfl rfl)
abbrev cJ31_init : ByteArray := prog_47_method_1_code
def yJ31_init : MethodName := ⟨RJ31, "<init>", "(Ljava/util/ArrayDeque;)V"⟩
def dkwJ31_init_1 : List UInt8 := [181, 0, 23, 42, 43, 180, 0, 26, 181, 0, 29, 177]
abbrev dktJ31_init_1 : List UInt8 := dkwJ31_init_1 ++ []
def dkwJ31_init_0 : List UInt8 := [42, 43, 181, 0, 1, 42, 183, 0, 7, 42, 42, 180, 0, 1, 182, 0, 13, 181, 0, 19, 42, 2]
abbrev dktJ31_init_0 : List UInt8 := dkwJ31_init_0 ++ dktJ31_init_1
theorem dksJ31_init_0 : cJ31_init.data.toList.drop 0 = dktJ31_init_0 := by decide +kernel
theorem dksJ31_init_1 : cJ31_init.data.toList.drop 22 = dktJ31_init_1 := dk_seg dksJ31_init_0 22 rfl rfl
theorem dJ31_init_0 : decode cJ31_init 0 = .ok (.aload_n 0, 1) := dk_42 (dk_at dksJ31_init_0 0 rfl rfl)
theorem dJ31_init_1 : decode cJ31_init 1 = .ok (.aload_n 1, 1) := dk_43 (dk_at dksJ31_init_0 1 rfl rfl)
theorem dJ31_init_2 : decode cJ31_init 2 = .ok (.putfield 1, 3) := dk_181 0 1 (dk_at dksJ31_init_0 2 rfl rfl)
theorem dJ31_init_5 : decode cJ31_init 5 = .ok (.aload_n 0, 1) := dk_42 (dk_at dksJ31_init_0 5 rfl rfl)
theorem dJ31_init_6 : decode cJ31_init 6 = .ok (.invokespecial 7, 3) := dk_183 0 7 (dk_at dksJ31_init_0 6 rfl rfl)
theorem dJ31_init_9 : decode cJ31_init 9 = .ok (.aload_n 0, 1) := dk_42 (dk_at dksJ31_init_0 9 rfl rfl)
theorem dJ31_init_10 : decode cJ31_init 10 = .ok (.aload_n 0, 1) := dk_42 (dk_at dksJ31_init_0 10 rfl rfl)
theorem dJ31_init_11 : decode cJ31_init 11 = .ok (.getfield 1, 3) := dk_180 0 1 (dk_at dksJ31_init_0 11 rfl rfl)
theorem dJ31_init_14 : decode cJ31_init 14 = .ok (.invokevirtual 13, 3) := dk_182 0 13 (dk_at dksJ31_init_0 14 rfl rfl)
theorem dJ31_init_17 : decode cJ31_init 17 = .ok (.putfield 19, 3) := dk_181 0 19 (dk_at dksJ31_init_0 17 rfl rfl)
theorem dJ31_init_20 : decode cJ31_init 20 = .ok (.aload_n 0, 1) := dk_42 (dk_at dksJ31_init_0 20 rfl rfl)
theorem dJ31_init_21 : decode cJ31_init 21 = .ok (.iconst (-1), 1) := dk_2 (dk_at dksJ31_init_0 21 rfl rfl)
theorem dJ31_init_22 : decode cJ31_init 22 = .ok (.putfield 23, 3) := dk_181 0 23 (dk_at dksJ31_init_1 0 rfl rfl)
theorem dJ31_init_25 : decode cJ31_init 25 = .ok (.aload_n 0, 1) := dk_42 (dk_at dksJ31_init_1 3 rfl rfl)
theorem dJ31_init_26 : decode cJ31_init 26 = .ok (.aload_n 1, 1) := dk_43 (dk_at dksJ31_init_1 4 rfl rfl)
theorem dJ31_init_27 : decode cJ31_init 27 = .ok (.getfield 26, 3) := dk_180 0 26 (dk_at dksJ31_init_1 5 rfl rfl)
theorem dJ31_init_30 : decode cJ31_init 30 = .ok (.putfield 29, 3) := dk_181 0 29 (dk_at dksJ31_init_1 8 rfl rfl)
theorem dJ31_init_33 : decode cJ31_init 33 = .ok (.return_, 1) := dk_177 (dk_at dksJ31_init_1 11 rfl rfl)
abbrev cJ31_remove : ByteArray := prog_47_method_5_code
def yJ31_remove : MethodName := ⟨RJ31, "remove", "()V"⟩
def dkwJ31_remove_1 : List UInt8 := [182, 0, 53, 182, 0, 57, 42, 2, 181, 0, 23, 177]
abbrev dktJ31_remove_1 : List UInt8 := dkwJ31_remove_1 ++ []
def dkwJ31_remove_0 : List UInt8 := [42, 180, 0, 23, 156, 0, 11, 187, 0, 50, 89, 183, 0, 52, 191, 42, 42, 180, 0, 1, 42, 180, 0, 23]
abbrev dktJ31_remove_0 : List UInt8 := dkwJ31_remove_0 ++ dktJ31_remove_1
theorem dksJ31_remove_0 : cJ31_remove.data.toList.drop 0 = dktJ31_remove_0 := by decide +kernel
theorem dksJ31_remove_1 : cJ31_remove.data.toList.drop 24 = dktJ31_remove_1 := dk_seg dksJ31_remove_0 24 rfl rfl
theorem dJ31_remove_0 : decode cJ31_remove 0 = .ok (.aload_n 0, 1) := dk_42 (dk_at dksJ31_remove_0 0 rfl rfl)
theorem dJ31_remove_1 : decode cJ31_remove 1 = .ok (.getfield 23, 3) := dk_180 0 23 (dk_at dksJ31_remove_0 1 rfl rfl)
theorem dJ31_remove_4 : decode cJ31_remove 4 = .ok (.ifCond .ge 11, 3) := dk_156 0 11 (dk_at dksJ31_remove_0 4 rfl rfl)
theorem dJ31_remove_7 : decode cJ31_remove 7 = .ok (.new 50, 3) := dk_187 0 50 (dk_at dksJ31_remove_0 7 rfl rfl)
theorem dJ31_remove_10 : decode cJ31_remove 10 = .ok (.dup, 1) := dk_89 (dk_at dksJ31_remove_0 10 rfl rfl)
theorem dJ31_remove_11 : decode cJ31_remove 11 = .ok (.invokespecial 52, 3) := dk_183 0 52 (dk_at dksJ31_remove_0 11 rfl rfl)
theorem dJ31_remove_14 : decode cJ31_remove 14 = .ok (.athrow, 1) := dk_191 (dk_at dksJ31_remove_0 14 rfl rfl)
theorem dJ31_remove_15 : decode cJ31_remove 15 = .ok (.aload_n 0, 1) := dk_42 (dk_at dksJ31_remove_0 15 rfl rfl)
theorem dJ31_remove_16 : decode cJ31_remove 16 = .ok (.aload_n 0, 1) := dk_42 (dk_at dksJ31_remove_0 16 rfl rfl)
theorem dJ31_remove_17 : decode cJ31_remove 17 = .ok (.getfield 1, 3) := dk_180 0 1 (dk_at dksJ31_remove_0 17 rfl rfl)
theorem dJ31_remove_20 : decode cJ31_remove 20 = .ok (.aload_n 0, 1) := dk_42 (dk_at dksJ31_remove_0 20 rfl rfl)
theorem dJ31_remove_21 : decode cJ31_remove 21 = .ok (.getfield 23, 3) := dk_180 0 23 (dk_at dksJ31_remove_0 21 rfl rfl)
theorem dJ31_remove_24 : decode cJ31_remove 24 = .ok (.invokevirtual 53, 3) := dk_182 0 53 (dk_at dksJ31_remove_1 0 rfl rfl)
theorem dJ31_remove_27 : decode cJ31_remove 27 = .ok (.invokevirtual 57, 3) := dk_182 0 57 (dk_at dksJ31_remove_1 3 rfl rfl)
theorem dJ31_remove_30 : decode cJ31_remove 30 = .ok (.aload_n 0, 1) := dk_42 (dk_at dksJ31_remove_1 6 rfl rfl)
theorem dJ31_remove_31 : decode cJ31_remove 31 = .ok (.iconst (-1), 1) := dk_2 (dk_at dksJ31_remove_1 7 rfl rfl)
theorem dJ31_remove_32 : decode cJ31_remove 32 = .ok (.putfield 23, 3) := dk_181 0 23 (dk_at dksJ31_remove_1 8 rfl rfl)
theorem dJ31_remove_35 : decode cJ31_remove 35 = .ok (.return_, 1) := dk_177 (dk_at dksJ31_remove_1 11 rfl rfl)
abbrev cJ31_postDelete : ByteArray := prog_47_method_4_code
def yJ31_postDelete : MethodName := ⟨RJ31, "postDelete", "(Z)V"⟩
def dkwJ31_postDelete_0 : List UInt8 := [27, 153, 0, 22, 42, 42, 180, 0, 29, 42, 180, 0, 1, 180, 0, 35, 190, 184, 0, 47, 181, 0, 29, 177]
abbrev dktJ31_postDelete_0 : List UInt8 := dkwJ31_postDelete_0 ++ []
theorem dksJ31_postDelete_0 : cJ31_postDelete.data.toList.drop 0 = dktJ31_postDelete_0 := by decide +kernel
theorem dJ31_postDelete_0 : decode cJ31_postDelete 0 = .ok (.iload_n 1, 1) := dk_27 (dk_at dksJ31_postDelete_0 0 rfl rfl)
theorem dJ31_postDelete_1 : decode cJ31_postDelete 1 = .ok (.ifCond .eq 22, 3) := dk_153 0 22 (dk_at dksJ31_postDelete_0 1 rfl rfl)
theorem dJ31_postDelete_4 : decode cJ31_postDelete 4 = .ok (.aload_n 0, 1) := dk_42 (dk_at dksJ31_postDelete_0 4 rfl rfl)
theorem dJ31_postDelete_5 : decode cJ31_postDelete 5 = .ok (.aload_n 0, 1) := dk_42 (dk_at dksJ31_postDelete_0 5 rfl rfl)
theorem dJ31_postDelete_6 : decode cJ31_postDelete 6 = .ok (.getfield 29, 3) := dk_180 0 29 (dk_at dksJ31_postDelete_0 6 rfl rfl)
theorem dJ31_postDelete_9 : decode cJ31_postDelete 9 = .ok (.aload_n 0, 1) := dk_42 (dk_at dksJ31_postDelete_0 9 rfl rfl)
theorem dJ31_postDelete_10 : decode cJ31_postDelete 10 = .ok (.getfield 1, 3) := dk_180 0 1 (dk_at dksJ31_postDelete_0 10 rfl rfl)
theorem dJ31_postDelete_13 : decode cJ31_postDelete 13 = .ok (.getfield 35, 3) := dk_180 0 35 (dk_at dksJ31_postDelete_0 13 rfl rfl)
theorem dJ31_postDelete_16 : decode cJ31_postDelete 16 = .ok (.arraylength, 1) := dk_190 (dk_at dksJ31_postDelete_0 16 rfl rfl)
theorem dJ31_postDelete_17 : decode cJ31_postDelete 17 = .ok (.invokestatic 47, 3) := dk_184 0 47 (dk_at dksJ31_postDelete_0 17 rfl rfl)
theorem dJ31_postDelete_20 : decode cJ31_postDelete 20 = .ok (.putfield 29, 3) := dk_181 0 29 (dk_at dksJ31_postDelete_0 20 rfl rfl)
theorem dJ31_postDelete_23 : decode cJ31_postDelete 23 = .ok (.return_, 1) := dk_177 (dk_at dksJ31_postDelete_0 23 rfl rfl)
abbrev cJ6_init : ByteArray := prog_52_method_5_code
def yJ6_init : MethodName := ⟨RJ6, "<init>", "(I)V"⟩
def dkwJ6_init_2 : List UInt8 := [27, 182, 0, 27, 42, 4, 181, 0, 24, 177]
abbrev dktJ6_init_2 : List UInt8 := dkwJ6_init_2 ++ []
def dkwJ6_init_1 : List UInt8 := [187, 0, 33, 89, 183, 0, 35, 18, 36, 182, 0, 38, 27, 182, 0, 42, 182, 0, 45, 183, 0, 49, 191, 42]
abbrev dktJ6_init_1 : List UInt8 := dkwJ6_init_1 ++ dktJ6_init_2
def dkwJ6_init_0 : List UInt8 := [42, 183, 0, 21, 42, 3, 181, 0, 7, 42, 3, 181, 0, 24, 27, 156, 0, 30, 187, 0, 31, 89]
abbrev dktJ6_init_0 : List UInt8 := dkwJ6_init_0 ++ dktJ6_init_1
theorem dksJ6_init_0 : cJ6_init.data.toList.drop 0 = dktJ6_init_0 := by decide +kernel
theorem dksJ6_init_1 : cJ6_init.data.toList.drop 22 = dktJ6_init_1 := dk_seg dksJ6_init_0 22 rfl rfl
theorem dksJ6_init_2 : cJ6_init.data.toList.drop 46 = dktJ6_init_2 := dk_seg dksJ6_init_1 24 rfl rfl
theorem dJ6_init_0 : decode cJ6_init 0 = .ok (.aload_n 0, 1) := dk_42 (dk_at dksJ6_init_0 0 rfl rfl)
theorem dJ6_init_1 : decode cJ6_init 1 = .ok (.invokespecial 21, 3) := dk_183 0 21 (dk_at dksJ6_init_0 1 rfl rfl)
theorem dJ6_init_4 : decode cJ6_init 4 = .ok (.aload_n 0, 1) := dk_42 (dk_at dksJ6_init_0 4 rfl rfl)
theorem dJ6_init_5 : decode cJ6_init 5 = .ok (.iconst 0, 1) := dk_3 (dk_at dksJ6_init_0 5 rfl rfl)
theorem dJ6_init_6 : decode cJ6_init 6 = .ok (.putfield 7, 3) := dk_181 0 7 (dk_at dksJ6_init_0 6 rfl rfl)
theorem dJ6_init_9 : decode cJ6_init 9 = .ok (.aload_n 0, 1) := dk_42 (dk_at dksJ6_init_0 9 rfl rfl)
theorem dJ6_init_10 : decode cJ6_init 10 = .ok (.iconst 0, 1) := dk_3 (dk_at dksJ6_init_0 10 rfl rfl)
theorem dJ6_init_11 : decode cJ6_init 11 = .ok (.putfield 24, 3) := dk_181 0 24 (dk_at dksJ6_init_0 11 rfl rfl)
theorem dJ6_init_14 : decode cJ6_init 14 = .ok (.iload_n 1, 1) := dk_27 (dk_at dksJ6_init_0 14 rfl rfl)
theorem dJ6_init_15 : decode cJ6_init 15 = .ok (.ifCond .ge 30, 3) := dk_156 0 30 (dk_at dksJ6_init_0 15 rfl rfl)
theorem dJ6_init_18 : decode cJ6_init 18 = .ok (.new 31, 3) := dk_187 0 31 (dk_at dksJ6_init_0 18 rfl rfl)
theorem dJ6_init_21 : decode cJ6_init 21 = .ok (.dup, 1) := dk_89 (dk_at dksJ6_init_0 21 rfl rfl)
theorem dJ6_init_22 : decode cJ6_init 22 = .ok (.new 33, 3) := dk_187 0 33 (dk_at dksJ6_init_1 0 rfl rfl)
theorem dJ6_init_25 : decode cJ6_init 25 = .ok (.dup, 1) := dk_89 (dk_at dksJ6_init_1 3 rfl rfl)
theorem dJ6_init_26 : decode cJ6_init 26 = .ok (.invokespecial 35, 3) := dk_183 0 35 (dk_at dksJ6_init_1 4 rfl rfl)
theorem dJ6_init_29 : decode cJ6_init 29 = .ok (.ldc 36, 2) := dk_18 36 (dk_at dksJ6_init_1 7 rfl rfl)
theorem dJ6_init_31 : decode cJ6_init 31 = .ok (.invokevirtual 38, 3) := dk_182 0 38 (dk_at dksJ6_init_1 9 rfl rfl)
theorem dJ6_init_34 : decode cJ6_init 34 = .ok (.iload_n 1, 1) := dk_27 (dk_at dksJ6_init_1 12 rfl rfl)
theorem dJ6_init_35 : decode cJ6_init 35 = .ok (.invokevirtual 42, 3) := dk_182 0 42 (dk_at dksJ6_init_1 13 rfl rfl)
theorem dJ6_init_38 : decode cJ6_init 38 = .ok (.invokevirtual 45, 3) := dk_182 0 45 (dk_at dksJ6_init_1 16 rfl rfl)
theorem dJ6_init_41 : decode cJ6_init 41 = .ok (.invokespecial 49, 3) := dk_183 0 49 (dk_at dksJ6_init_1 19 rfl rfl)
theorem dJ6_init_44 : decode cJ6_init 44 = .ok (.athrow, 1) := dk_191 (dk_at dksJ6_init_1 22 rfl rfl)
theorem dJ6_init_45 : decode cJ6_init 45 = .ok (.aload_n 0, 1) := dk_42 (dk_at dksJ6_init_1 23 rfl rfl)
theorem dJ6_init_46 : decode cJ6_init 46 = .ok (.iload_n 1, 1) := dk_27 (dk_at dksJ6_init_2 0 rfl rfl)
theorem dJ6_init_47 : decode cJ6_init 47 = .ok (.invokevirtual 27, 3) := dk_182 0 27 (dk_at dksJ6_init_2 1 rfl rfl)
theorem dJ6_init_50 : decode cJ6_init 50 = .ok (.aload_n 0, 1) := dk_42 (dk_at dksJ6_init_2 4 rfl rfl)
theorem dJ6_init_51 : decode cJ6_init 51 = .ok (.iconst 1, 1) := dk_4 (dk_at dksJ6_init_2 5 rfl rfl)
theorem dJ6_init_52 : decode cJ6_init 52 = .ok (.putfield 24, 3) := dk_181 0 24 (dk_at dksJ6_init_2 6 rfl rfl)
theorem dJ6_init_55 : decode cJ6_init 55 = .ok (.return_, 1) := dk_177 (dk_at dksJ6_init_2 9 rfl rfl)
abbrev cJ6_initWords : ByteArray := prog_52_method_6_code
def yJ6_initWords : MethodName := ⟨RJ6, "initWords", "(I)V"⟩
def dkwJ6_initWords_0 : List UInt8 := [42, 27, 4, 100, 184, 0, 52, 4, 96, 188, 11, 181, 0, 11, 177]
abbrev dktJ6_initWords_0 : List UInt8 := dkwJ6_initWords_0 ++ []
theorem dksJ6_initWords_0 : cJ6_initWords.data.toList.drop 0 = dktJ6_initWords_0 := by decide +kernel
theorem dJ6_initWords_0 : decode cJ6_initWords 0 = .ok (.aload_n 0, 1) := dk_42 (dk_at dksJ6_initWords_0 0 rfl rfl)
theorem dJ6_initWords_1 : decode cJ6_initWords 1 = .ok (.iload_n 1, 1) := dk_27 (dk_at dksJ6_initWords_0 1 rfl rfl)
theorem dJ6_initWords_2 : decode cJ6_initWords 2 = .ok (.iconst 1, 1) := dk_4 (dk_at dksJ6_initWords_0 2 rfl rfl)
theorem dJ6_initWords_3 : decode cJ6_initWords 3 = .ok (.isub, 1) := dk_100 (dk_at dksJ6_initWords_0 3 rfl rfl)
theorem dJ6_initWords_4 : decode cJ6_initWords 4 = .ok (.invokestatic 52, 3) := dk_184 0 52 (dk_at dksJ6_initWords_0 4 rfl rfl)
theorem dJ6_initWords_7 : decode cJ6_initWords 7 = .ok (.iconst 1, 1) := dk_4 (dk_at dksJ6_initWords_0 7 rfl rfl)
theorem dJ6_initWords_8 : decode cJ6_initWords 8 = .ok (.iadd, 1) := dk_96 (dk_at dksJ6_initWords_0 8 rfl rfl)
theorem dJ6_initWords_9 : decode cJ6_initWords 9 = .ok (.newarray .long, 2) := dk_188_11 (dk_at dksJ6_initWords_0 9 rfl rfl)
theorem dJ6_initWords_11 : decode cJ6_initWords 11 = .ok (.putfield 11, 3) := dk_181 0 11 (dk_at dksJ6_initWords_0 11 rfl rfl)
theorem dJ6_initWords_14 : decode cJ6_initWords 14 = .ok (.return_, 1) := dk_177 (dk_at dksJ6_initWords_0 14 rfl rfl)
abbrev cJ6_wordIndex : ByteArray := prog_52_method_1_code
def yJ6_wordIndex : MethodName := ⟨RJ6, "wordIndex", "(I)I"⟩
def dkwJ6_wordIndex_0 : List UInt8 := [26, 16, 6, 122, 172]
abbrev dktJ6_wordIndex_0 : List UInt8 := dkwJ6_wordIndex_0 ++ []
theorem dksJ6_wordIndex_0 : cJ6_wordIndex.data.toList.drop 0 = dktJ6_wordIndex_0 := by decide +kernel
theorem dJ6_wordIndex_0 : decode cJ6_wordIndex 0 = .ok (.iload_n 0, 1) := dk_26 (dk_at dksJ6_wordIndex_0 0 rfl rfl)
theorem dJ6_wordIndex_1 : decode cJ6_wordIndex 1 = .ok (.bipush 6, 2) := dk_16 6 (dk_at dksJ6_wordIndex_0 1 rfl rfl)
theorem dJ6_wordIndex_3 : decode cJ6_wordIndex 3 = .ok (.ishr, 1) := dk_122 (dk_at dksJ6_wordIndex_0 3 rfl rfl)
theorem dJ6_wordIndex_4 : decode cJ6_wordIndex 4 = .ok (.ireturn, 1) := dk_172 (dk_at dksJ6_wordIndex_0 4 rfl rfl)
abbrev cJ6_nextSetBit : ByteArray := prog_52_method_28_code
def yJ6_nextSetBit : MethodName := ⟨RJ6, "nextSetBit", "(I)I"⟩
def dkwJ6_nextSetBit_4 : List UInt8 := [28, 47, 66, 167, 255, 220]
abbrev dktJ6_nextSetBit_4 : List UInt8 := dkwJ6_nextSetBit_4 ++ []
def dkwJ6_nextSetBit_3 : List UInt8 := [104, 33, 184, 0, 182, 96, 172, 132, 2, 1, 28, 42, 180, 0, 7, 160, 0, 5, 2, 172, 42, 180, 0, 11]
abbrev dktJ6_nextSetBit_3 : List UInt8 := dkwJ6_nextSetBit_3 ++ dktJ6_nextSetBit_4
def dkwJ6_nextSetBit_2 : List UInt8 := [2, 172, 42, 180, 0, 11, 28, 47, 20, 0, 165, 27, 121, 127, 66, 33, 9, 148, 153, 0, 13, 28, 16, 64]
abbrev dktJ6_nextSetBit_2 : List UInt8 := dkwJ6_nextSetBit_2 ++ dktJ6_nextSetBit_3
def dkwJ6_nextSetBit_1 : List UInt8 := [182, 0, 45, 183, 0, 146, 191, 42, 182, 0, 56, 27, 184, 0, 52, 61, 28, 42, 180, 0, 7, 161, 0, 5]
abbrev dktJ6_nextSetBit_1 : List UInt8 := dkwJ6_nextSetBit_1 ++ dktJ6_nextSetBit_2
def dkwJ6_nextSetBit_0 : List UInt8 := [27, 156, 0, 30, 187, 0, 142, 89, 187, 0, 33, 89, 183, 0, 35, 18, 144, 182, 0, 38, 27, 182, 0, 42]
abbrev dktJ6_nextSetBit_0 : List UInt8 := dkwJ6_nextSetBit_0 ++ dktJ6_nextSetBit_1
theorem dksJ6_nextSetBit_0 : cJ6_nextSetBit.data.toList.drop 0 = dktJ6_nextSetBit_0 := by decide +kernel
theorem dksJ6_nextSetBit_1 : cJ6_nextSetBit.data.toList.drop 24 = dktJ6_nextSetBit_1 := dk_seg dksJ6_nextSetBit_0 24 rfl rfl
theorem dksJ6_nextSetBit_2 : cJ6_nextSetBit.data.toList.drop 48 = dktJ6_nextSetBit_2 := dk_seg dksJ6_nextSetBit_1 24 rfl rfl
theorem dksJ6_nextSetBit_3 : cJ6_nextSetBit.data.toList.drop 72 = dktJ6_nextSetBit_3 := dk_seg dksJ6_nextSetBit_2 24 rfl rfl
theorem dksJ6_nextSetBit_4 : cJ6_nextSetBit.data.toList.drop 96 = dktJ6_nextSetBit_4 := dk_seg dksJ6_nextSetBit_3 24 rfl rfl
theorem dJ6_nextSetBit_0 : decode cJ6_nextSetBit 0 = .ok (.iload_n 1, 1) := dk_27 (dk_at dksJ6_nextSetBit_0 0 rfl rfl)
theorem dJ6_nextSetBit_1 : decode cJ6_nextSetBit 1 = .ok (.ifCond .ge 30, 3) := dk_156 0 30 (dk_at dksJ6_nextSetBit_0 1 rfl rfl)
theorem dJ6_nextSetBit_4 : decode cJ6_nextSetBit 4 = .ok (.new 142, 3) := dk_187 0 142 (dk_at dksJ6_nextSetBit_0 4 rfl rfl)
theorem dJ6_nextSetBit_7 : decode cJ6_nextSetBit 7 = .ok (.dup, 1) := dk_89 (dk_at dksJ6_nextSetBit_0 7 rfl rfl)
theorem dJ6_nextSetBit_8 : decode cJ6_nextSetBit 8 = .ok (.new 33, 3) := dk_187 0 33 (dk_at dksJ6_nextSetBit_0 8 rfl rfl)
theorem dJ6_nextSetBit_11 : decode cJ6_nextSetBit 11 = .ok (.dup, 1) := dk_89 (dk_at dksJ6_nextSetBit_0 11 rfl rfl)
theorem dJ6_nextSetBit_12 : decode cJ6_nextSetBit 12 = .ok (.invokespecial 35, 3) := dk_183 0 35 (dk_at dksJ6_nextSetBit_0 12 rfl rfl)
theorem dJ6_nextSetBit_15 : decode cJ6_nextSetBit 15 = .ok (.ldc 144, 2) := dk_18 144 (dk_at dksJ6_nextSetBit_0 15 rfl rfl)
theorem dJ6_nextSetBit_17 : decode cJ6_nextSetBit 17 = .ok (.invokevirtual 38, 3) := dk_182 0 38 (dk_at dksJ6_nextSetBit_0 17 rfl rfl)
theorem dJ6_nextSetBit_20 : decode cJ6_nextSetBit 20 = .ok (.iload_n 1, 1) := dk_27 (dk_at dksJ6_nextSetBit_0 20 rfl rfl)
theorem dJ6_nextSetBit_21 : decode cJ6_nextSetBit 21 = .ok (.invokevirtual 42, 3) := dk_182 0 42 (dk_at dksJ6_nextSetBit_0 21 rfl rfl)
theorem dJ6_nextSetBit_24 : decode cJ6_nextSetBit 24 = .ok (.invokevirtual 45, 3) := dk_182 0 45 (dk_at dksJ6_nextSetBit_1 0 rfl rfl)
theorem dJ6_nextSetBit_27 : decode cJ6_nextSetBit 27 = .ok (.invokespecial 146, 3) := dk_183 0 146 (dk_at dksJ6_nextSetBit_1 3 rfl rfl)
theorem dJ6_nextSetBit_30 : decode cJ6_nextSetBit 30 = .ok (.athrow, 1) := dk_191 (dk_at dksJ6_nextSetBit_1 6 rfl rfl)
theorem dJ6_nextSetBit_31 : decode cJ6_nextSetBit 31 = .ok (.aload_n 0, 1) := dk_42 (dk_at dksJ6_nextSetBit_1 7 rfl rfl)
theorem dJ6_nextSetBit_32 : decode cJ6_nextSetBit 32 = .ok (.invokevirtual 56, 3) := dk_182 0 56 (dk_at dksJ6_nextSetBit_1 8 rfl rfl)
theorem dJ6_nextSetBit_35 : decode cJ6_nextSetBit 35 = .ok (.iload_n 1, 1) := dk_27 (dk_at dksJ6_nextSetBit_1 11 rfl rfl)
theorem dJ6_nextSetBit_36 : decode cJ6_nextSetBit 36 = .ok (.invokestatic 52, 3) := dk_184 0 52 (dk_at dksJ6_nextSetBit_1 12 rfl rfl)
theorem dJ6_nextSetBit_39 : decode cJ6_nextSetBit 39 = .ok (.istore_n 2, 1) := dk_61 (dk_at dksJ6_nextSetBit_1 15 rfl rfl)
theorem dJ6_nextSetBit_40 : decode cJ6_nextSetBit 40 = .ok (.iload_n 2, 1) := dk_28 (dk_at dksJ6_nextSetBit_1 16 rfl rfl)
theorem dJ6_nextSetBit_41 : decode cJ6_nextSetBit 41 = .ok (.aload_n 0, 1) := dk_42 (dk_at dksJ6_nextSetBit_1 17 rfl rfl)
theorem dJ6_nextSetBit_42 : decode cJ6_nextSetBit 42 = .ok (.getfield 7, 3) := dk_180 0 7 (dk_at dksJ6_nextSetBit_1 18 rfl rfl)
theorem dJ6_nextSetBit_45 : decode cJ6_nextSetBit 45 = .ok (.if_icmp .lt 5, 3) := dk_161 0 5 (dk_at dksJ6_nextSetBit_1 21 rfl rfl)
theorem dJ6_nextSetBit_48 : decode cJ6_nextSetBit 48 = .ok (.iconst (-1), 1) := dk_2 (dk_at dksJ6_nextSetBit_2 0 rfl rfl)
theorem dJ6_nextSetBit_49 : decode cJ6_nextSetBit 49 = .ok (.ireturn, 1) := dk_172 (dk_at dksJ6_nextSetBit_2 1 rfl rfl)
theorem dJ6_nextSetBit_50 : decode cJ6_nextSetBit 50 = .ok (.aload_n 0, 1) := dk_42 (dk_at dksJ6_nextSetBit_2 2 rfl rfl)
theorem dJ6_nextSetBit_51 : decode cJ6_nextSetBit 51 = .ok (.getfield 11, 3) := dk_180 0 11 (dk_at dksJ6_nextSetBit_2 3 rfl rfl)
theorem dJ6_nextSetBit_54 : decode cJ6_nextSetBit 54 = .ok (.iload_n 2, 1) := dk_28 (dk_at dksJ6_nextSetBit_2 6 rfl rfl)
theorem dJ6_nextSetBit_55 : decode cJ6_nextSetBit 55 = .ok (.laload, 1) := dk_47 (dk_at dksJ6_nextSetBit_2 7 rfl rfl)
theorem dJ6_nextSetBit_56 : decode cJ6_nextSetBit 56 = .ok (.ldc2_w 165, 3) := dk_20 0 165 (dk_at dksJ6_nextSetBit_2 8 rfl rfl)
theorem dJ6_nextSetBit_59 : decode cJ6_nextSetBit 59 = .ok (.iload_n 1, 1) := dk_27 (dk_at dksJ6_nextSetBit_2 11 rfl rfl)
theorem dJ6_nextSetBit_60 : decode cJ6_nextSetBit 60 = .ok (.lshl, 1) := dk_121 (dk_at dksJ6_nextSetBit_2 12 rfl rfl)
theorem dJ6_nextSetBit_61 : decode cJ6_nextSetBit 61 = .ok (.land, 1) := dk_127 (dk_at dksJ6_nextSetBit_2 13 rfl rfl)
theorem dJ6_nextSetBit_62 : decode cJ6_nextSetBit 62 = .ok (.lstore_n 3, 1) := dk_66 (dk_at dksJ6_nextSetBit_2 14 rfl rfl)
theorem dJ6_nextSetBit_63 : decode cJ6_nextSetBit 63 = .ok (.lload_n 3, 1) := dk_33 (dk_at dksJ6_nextSetBit_2 15 rfl rfl)
theorem dJ6_nextSetBit_64 : decode cJ6_nextSetBit 64 = .ok (.lconst 0, 1) := dk_9 (dk_at dksJ6_nextSetBit_2 16 rfl rfl)
theorem dJ6_nextSetBit_65 : decode cJ6_nextSetBit 65 = .ok (.lcmp, 1) := dk_148 (dk_at dksJ6_nextSetBit_2 17 rfl rfl)
theorem dJ6_nextSetBit_66 : decode cJ6_nextSetBit 66 = .ok (.ifCond .eq 13, 3) := dk_153 0 13 (dk_at dksJ6_nextSetBit_2 18 rfl rfl)
theorem dJ6_nextSetBit_69 : decode cJ6_nextSetBit 69 = .ok (.iload_n 2, 1) := dk_28 (dk_at dksJ6_nextSetBit_2 21 rfl rfl)
theorem dJ6_nextSetBit_70 : decode cJ6_nextSetBit 70 = .ok (.bipush 64, 2) := dk_16 64 (dk_at dksJ6_nextSetBit_2 22 rfl rfl)
theorem dJ6_nextSetBit_72 : decode cJ6_nextSetBit 72 = .ok (.imul, 1) := dk_104 (dk_at dksJ6_nextSetBit_3 0 rfl rfl)
theorem dJ6_nextSetBit_73 : decode cJ6_nextSetBit 73 = .ok (.lload_n 3, 1) := dk_33 (dk_at dksJ6_nextSetBit_3 1 rfl rfl)
theorem dJ6_nextSetBit_74 : decode cJ6_nextSetBit 74 = .ok (.invokestatic 182, 3) := dk_184 0 182 (dk_at dksJ6_nextSetBit_3 2 rfl rfl)
theorem dJ6_nextSetBit_77 : decode cJ6_nextSetBit 77 = .ok (.iadd, 1) := dk_96 (dk_at dksJ6_nextSetBit_3 5 rfl rfl)
theorem dJ6_nextSetBit_78 : decode cJ6_nextSetBit 78 = .ok (.ireturn, 1) := dk_172 (dk_at dksJ6_nextSetBit_3 6 rfl rfl)
theorem dJ6_nextSetBit_79 : decode cJ6_nextSetBit 79 = .ok (.iinc 2 1, 3) := dk_132 2 1 (dk_at dksJ6_nextSetBit_3 7 rfl rfl)
theorem dJ6_nextSetBit_82 : decode cJ6_nextSetBit 82 = .ok (.iload_n 2, 1) := dk_28 (dk_at dksJ6_nextSetBit_3 10 rfl rfl)
theorem dJ6_nextSetBit_83 : decode cJ6_nextSetBit 83 = .ok (.aload_n 0, 1) := dk_42 (dk_at dksJ6_nextSetBit_3 11 rfl rfl)
theorem dJ6_nextSetBit_84 : decode cJ6_nextSetBit 84 = .ok (.getfield 7, 3) := dk_180 0 7 (dk_at dksJ6_nextSetBit_3 12 rfl rfl)
theorem dJ6_nextSetBit_87 : decode cJ6_nextSetBit 87 = .ok (.if_icmp .ne 5, 3) := dk_160 0 5 (dk_at dksJ6_nextSetBit_3 15 rfl rfl)
theorem dJ6_nextSetBit_90 : decode cJ6_nextSetBit 90 = .ok (.iconst (-1), 1) := dk_2 (dk_at dksJ6_nextSetBit_3 18 rfl rfl)
theorem dJ6_nextSetBit_91 : decode cJ6_nextSetBit 91 = .ok (.ireturn, 1) := dk_172 (dk_at dksJ6_nextSetBit_3 19 rfl rfl)
theorem dJ6_nextSetBit_92 : decode cJ6_nextSetBit 92 = .ok (.aload_n 0, 1) := dk_42 (dk_at dksJ6_nextSetBit_3 20 rfl rfl)
theorem dJ6_nextSetBit_93 : decode cJ6_nextSetBit 93 = .ok (.getfield 11, 3) := dk_180 0 11 (dk_at dksJ6_nextSetBit_3 21 rfl rfl)
theorem dJ6_nextSetBit_96 : decode cJ6_nextSetBit 96 = .ok (.iload_n 2, 1) := dk_28 (dk_at dksJ6_nextSetBit_4 0 rfl rfl)
theorem dJ6_nextSetBit_97 : decode cJ6_nextSetBit 97 = .ok (.laload, 1) := dk_47 (dk_at dksJ6_nextSetBit_4 1 rfl rfl)
theorem dJ6_nextSetBit_98 : decode cJ6_nextSetBit 98 = .ok (.lstore_n 3, 1) := dk_66 (dk_at dksJ6_nextSetBit_4 2 rfl rfl)
theorem dJ6_nextSetBit_99 : decode cJ6_nextSetBit 99 = .ok (.goto (-36), 3) := dk_167 255 220 (dk_at dksJ6_nextSetBit_4 3 rfl rfl)
abbrev cJ6_checkInvariants : ByteArray := prog_52_method_2_code
def yJ6_checkInvariants : MethodName := ⟨RJ6, "checkInvariants", "()V"⟩
def dkwJ6_checkInvariants_4 : List UInt8 := [180, 0, 7, 47, 9, 148, 153, 0, 11, 187, 0, 15, 89, 183, 0, 17, 191, 177]
abbrev dktJ6_checkInvariants_4 : List UInt8 := dkwJ6_checkInvariants_4 ++ []
def dkwJ6_checkInvariants_3 : List UInt8 := [178, 0, 3, 154, 0, 37, 42, 180, 0, 7, 42, 180, 0, 11, 190, 159, 0, 25, 42, 180, 0, 11, 42]
abbrev dktJ6_checkInvariants_3 : List UInt8 := dkwJ6_checkInvariants_3 ++ dktJ6_checkInvariants_4
def dkwJ6_checkInvariants_2 : List UInt8 := [155, 0, 15, 42, 180, 0, 7, 42, 180, 0, 11, 190, 164, 0, 11, 187, 0, 15, 89, 183, 0, 17, 191]
abbrev dktJ6_checkInvariants_2 : List UInt8 := dkwJ6_checkInvariants_2 ++ dktJ6_checkInvariants_3
def dkwJ6_checkInvariants_1 : List UInt8 := [9, 148, 154, 0, 11, 187, 0, 15, 89, 183, 0, 17, 191, 178, 0, 3, 154, 0, 30, 42, 180, 0, 7]
abbrev dktJ6_checkInvariants_1 : List UInt8 := dkwJ6_checkInvariants_1 ++ dktJ6_checkInvariants_2
def dkwJ6_checkInvariants_0 : List UInt8 := [178, 0, 3, 154, 0, 34, 42, 180, 0, 7, 153, 0, 27, 42, 180, 0, 11, 42, 180, 0, 7, 4, 100, 47]
abbrev dktJ6_checkInvariants_0 : List UInt8 := dkwJ6_checkInvariants_0 ++ dktJ6_checkInvariants_1
theorem dksJ6_checkInvariants_0 : cJ6_checkInvariants.data.toList.drop 0 = dktJ6_checkInvariants_0 := by decide +kernel
theorem dksJ6_checkInvariants_1 : cJ6_checkInvariants.data.toList.drop 24 = dktJ6_checkInvariants_1 := dk_seg dksJ6_checkInvariants_0 24 rfl rfl
theorem dksJ6_checkInvariants_2 : cJ6_checkInvariants.data.toList.drop 47 = dktJ6_checkInvariants_2 := dk_seg dksJ6_checkInvariants_1 23 rfl rfl
theorem dksJ6_checkInvariants_3 : cJ6_checkInvariants.data.toList.drop 70 = dktJ6_checkInvariants_3 := dk_seg dksJ6_checkInvariants_2 23 rfl rfl
theorem dksJ6_checkInvariants_4 : cJ6_checkInvariants.data.toList.drop 93 = dktJ6_checkInvariants_4 := dk_seg dksJ6_checkInvariants_3 23 rfl rfl
theorem dJ6_checkInvariants_0 : decode cJ6_checkInvariants 0 = .ok (.getstatic 3, 3) := dk_178 0 3 (dk_at dksJ6_checkInvariants_0 0 rfl rfl)
theorem dJ6_checkInvariants_3 : decode cJ6_checkInvariants 3 = .ok (.ifCond .ne 34, 3) := dk_154 0 34 (dk_at dksJ6_checkInvariants_0 3 rfl rfl)
theorem dJ6_checkInvariants_6 : decode cJ6_checkInvariants 6 = .ok (.aload_n 0, 1) := dk_42 (dk_at dksJ6_checkInvariants_0 6 rfl rfl)
theorem dJ6_checkInvariants_7 : decode cJ6_checkInvariants 7 = .ok (.getfield 7, 3) := dk_180 0 7 (dk_at dksJ6_checkInvariants_0 7 rfl rfl)
theorem dJ6_checkInvariants_10 : decode cJ6_checkInvariants 10 = .ok (.ifCond .eq 27, 3) := dk_153 0 27 (dk_at dksJ6_checkInvariants_0 10 rfl rfl)
theorem dJ6_checkInvariants_13 : decode cJ6_checkInvariants 13 = .ok (.aload_n 0, 1) := dk_42 (dk_at dksJ6_checkInvariants_0 13 rfl rfl)
theorem dJ6_checkInvariants_14 : decode cJ6_checkInvariants 14 = .ok (.getfield 11, 3) := dk_180 0 11 (dk_at dksJ6_checkInvariants_0 14 rfl rfl)
theorem dJ6_checkInvariants_17 : decode cJ6_checkInvariants 17 = .ok (.aload_n 0, 1) := dk_42 (dk_at dksJ6_checkInvariants_0 17 rfl rfl)
theorem dJ6_checkInvariants_18 : decode cJ6_checkInvariants 18 = .ok (.getfield 7, 3) := dk_180 0 7 (dk_at dksJ6_checkInvariants_0 18 rfl rfl)
theorem dJ6_checkInvariants_21 : decode cJ6_checkInvariants 21 = .ok (.iconst 1, 1) := dk_4 (dk_at dksJ6_checkInvariants_0 21 rfl rfl)
theorem dJ6_checkInvariants_22 : decode cJ6_checkInvariants 22 = .ok (.isub, 1) := dk_100 (dk_at dksJ6_checkInvariants_0 22 rfl rfl)
theorem dJ6_checkInvariants_23 : decode cJ6_checkInvariants 23 = .ok (.laload, 1) := dk_47 (dk_at dksJ6_checkInvariants_0 23 rfl rfl)
theorem dJ6_checkInvariants_24 : decode cJ6_checkInvariants 24 = .ok (.lconst 0, 1) := dk_9 (dk_at dksJ6_checkInvariants_1 0 rfl rfl)
theorem dJ6_checkInvariants_25 : decode cJ6_checkInvariants 25 = .ok (.lcmp, 1) := dk_148 (dk_at dksJ6_checkInvariants_1 1 rfl rfl)
theorem dJ6_checkInvariants_26 : decode cJ6_checkInvariants 26 = .ok (.ifCond .ne 11, 3) := dk_154 0 11 (dk_at dksJ6_checkInvariants_1 2 rfl rfl)
theorem dJ6_checkInvariants_29 : decode cJ6_checkInvariants 29 = .ok (.new 15, 3) := dk_187 0 15 (dk_at dksJ6_checkInvariants_1 5 rfl rfl)
theorem dJ6_checkInvariants_32 : decode cJ6_checkInvariants 32 = .ok (.dup, 1) := dk_89 (dk_at dksJ6_checkInvariants_1 8 rfl rfl)
theorem dJ6_checkInvariants_33 : decode cJ6_checkInvariants 33 = .ok (.invokespecial 17, 3) := dk_183 0 17 (dk_at dksJ6_checkInvariants_1 9 rfl rfl)
theorem dJ6_checkInvariants_36 : decode cJ6_checkInvariants 36 = .ok (.athrow, 1) := dk_191 (dk_at dksJ6_checkInvariants_1 12 rfl rfl)
theorem dJ6_checkInvariants_37 : decode cJ6_checkInvariants 37 = .ok (.getstatic 3, 3) := dk_178 0 3 (dk_at dksJ6_checkInvariants_1 13 rfl rfl)
theorem dJ6_checkInvariants_40 : decode cJ6_checkInvariants 40 = .ok (.ifCond .ne 30, 3) := dk_154 0 30 (dk_at dksJ6_checkInvariants_1 16 rfl rfl)
theorem dJ6_checkInvariants_43 : decode cJ6_checkInvariants 43 = .ok (.aload_n 0, 1) := dk_42 (dk_at dksJ6_checkInvariants_1 19 rfl rfl)
theorem dJ6_checkInvariants_44 : decode cJ6_checkInvariants 44 = .ok (.getfield 7, 3) := dk_180 0 7 (dk_at dksJ6_checkInvariants_1 20 rfl rfl)
theorem dJ6_checkInvariants_47 : decode cJ6_checkInvariants 47 = .ok (.ifCond .lt 15, 3) := dk_155 0 15 (dk_at dksJ6_checkInvariants_2 0 rfl rfl)
theorem dJ6_checkInvariants_50 : decode cJ6_checkInvariants 50 = .ok (.aload_n 0, 1) := dk_42 (dk_at dksJ6_checkInvariants_2 3 rfl rfl)
theorem dJ6_checkInvariants_51 : decode cJ6_checkInvariants 51 = .ok (.getfield 7, 3) := dk_180 0 7 (dk_at dksJ6_checkInvariants_2 4 rfl rfl)
theorem dJ6_checkInvariants_54 : decode cJ6_checkInvariants 54 = .ok (.aload_n 0, 1) := dk_42 (dk_at dksJ6_checkInvariants_2 7 rfl rfl)
theorem dJ6_checkInvariants_55 : decode cJ6_checkInvariants 55 = .ok (.getfield 11, 3) := dk_180 0 11 (dk_at dksJ6_checkInvariants_2 8 rfl rfl)
theorem dJ6_checkInvariants_58 : decode cJ6_checkInvariants 58 = .ok (.arraylength, 1) := dk_190 (dk_at dksJ6_checkInvariants_2 11 rfl rfl)
theorem dJ6_checkInvariants_59 : decode cJ6_checkInvariants 59 = .ok (.if_icmp .le 11, 3) := dk_164 0 11 (dk_at dksJ6_checkInvariants_2 12 rfl rfl)
theorem dJ6_checkInvariants_62 : decode cJ6_checkInvariants 62 = .ok (.new 15, 3) := dk_187 0 15 (dk_at dksJ6_checkInvariants_2 15 rfl rfl)
theorem dJ6_checkInvariants_65 : decode cJ6_checkInvariants 65 = .ok (.dup, 1) := dk_89 (dk_at dksJ6_checkInvariants_2 18 rfl rfl)
theorem dJ6_checkInvariants_66 : decode cJ6_checkInvariants 66 = .ok (.invokespecial 17, 3) := dk_183 0 17 (dk_at dksJ6_checkInvariants_2 19 rfl rfl)
theorem dJ6_checkInvariants_69 : decode cJ6_checkInvariants 69 = .ok (.athrow, 1) := dk_191 (dk_at dksJ6_checkInvariants_2 22 rfl rfl)
theorem dJ6_checkInvariants_70 : decode cJ6_checkInvariants 70 = .ok (.getstatic 3, 3) := dk_178 0 3 (dk_at dksJ6_checkInvariants_3 0 rfl rfl)
theorem dJ6_checkInvariants_73 : decode cJ6_checkInvariants 73 = .ok (.ifCond .ne 37, 3) := dk_154 0 37 (dk_at dksJ6_checkInvariants_3 3 rfl rfl)
theorem dJ6_checkInvariants_76 : decode cJ6_checkInvariants 76 = .ok (.aload_n 0, 1) := dk_42 (dk_at dksJ6_checkInvariants_3 6 rfl rfl)
theorem dJ6_checkInvariants_77 : decode cJ6_checkInvariants 77 = .ok (.getfield 7, 3) := dk_180 0 7 (dk_at dksJ6_checkInvariants_3 7 rfl rfl)
theorem dJ6_checkInvariants_80 : decode cJ6_checkInvariants 80 = .ok (.aload_n 0, 1) := dk_42 (dk_at dksJ6_checkInvariants_3 10 rfl rfl)
theorem dJ6_checkInvariants_81 : decode cJ6_checkInvariants 81 = .ok (.getfield 11, 3) := dk_180 0 11 (dk_at dksJ6_checkInvariants_3 11 rfl rfl)
theorem dJ6_checkInvariants_84 : decode cJ6_checkInvariants 84 = .ok (.arraylength, 1) := dk_190 (dk_at dksJ6_checkInvariants_3 14 rfl rfl)
theorem dJ6_checkInvariants_85 : decode cJ6_checkInvariants 85 = .ok (.if_icmp .eq 25, 3) := dk_159 0 25 (dk_at dksJ6_checkInvariants_3 15 rfl rfl)
theorem dJ6_checkInvariants_88 : decode cJ6_checkInvariants 88 = .ok (.aload_n 0, 1) := dk_42 (dk_at dksJ6_checkInvariants_3 18 rfl rfl)
theorem dJ6_checkInvariants_89 : decode cJ6_checkInvariants 89 = .ok (.getfield 11, 3) := dk_180 0 11 (dk_at dksJ6_checkInvariants_3 19 rfl rfl)
theorem dJ6_checkInvariants_92 : decode cJ6_checkInvariants 92 = .ok (.aload_n 0, 1) := dk_42 (dk_at dksJ6_checkInvariants_3 22 rfl rfl)
theorem dJ6_checkInvariants_93 : decode cJ6_checkInvariants 93 = .ok (.getfield 7, 3) := dk_180 0 7 (dk_at dksJ6_checkInvariants_4 0 rfl rfl)
theorem dJ6_checkInvariants_96 : decode cJ6_checkInvariants 96 = .ok (.laload, 1) := dk_47 (dk_at dksJ6_checkInvariants_4 3 rfl rfl)
theorem dJ6_checkInvariants_97 : decode cJ6_checkInvariants 97 = .ok (.lconst 0, 1) := dk_9 (dk_at dksJ6_checkInvariants_4 4 rfl rfl)
theorem dJ6_checkInvariants_98 : decode cJ6_checkInvariants 98 = .ok (.lcmp, 1) := dk_148 (dk_at dksJ6_checkInvariants_4 5 rfl rfl)
theorem dJ6_checkInvariants_99 : decode cJ6_checkInvariants 99 = .ok (.ifCond .eq 11, 3) := dk_153 0 11 (dk_at dksJ6_checkInvariants_4 6 rfl rfl)
theorem dJ6_checkInvariants_102 : decode cJ6_checkInvariants 102 = .ok (.new 15, 3) := dk_187 0 15 (dk_at dksJ6_checkInvariants_4 9 rfl rfl)
theorem dJ6_checkInvariants_105 : decode cJ6_checkInvariants 105 = .ok (.dup, 1) := dk_89 (dk_at dksJ6_checkInvariants_4 12 rfl rfl)
theorem dJ6_checkInvariants_106 : decode cJ6_checkInvariants 106 = .ok (.invokespecial 17, 3) := dk_183 0 17 (dk_at dksJ6_checkInvariants_4 13 rfl rfl)
theorem dJ6_checkInvariants_109 : decode cJ6_checkInvariants 109 = .ok (.athrow, 1) := dk_191 (dk_at dksJ6_checkInvariants_4 16 rfl rfl)
theorem dJ6_checkInvariants_110 : decode cJ6_checkInvariants 110 = .ok (.return_, 1) := dk_177 (dk_at dksJ6_checkInvariants_4 17 rfl rfl)
abbrev cJ6_get : ByteArray := prog_52_method_26_code
def yJ6_get : MethodName := ⟨RJ6, "get", "(I)Z"⟩
def dkwJ6_get_2 : List UInt8 := [42, 180, 0, 11, 28, 47, 10, 27, 121, 127, 9, 148, 153, 0, 7, 4, 167, 0, 4, 3, 172]
abbrev dktJ6_get_2 : List UInt8 := dkwJ6_get_2 ++ []
def dkwJ6_get_1 : List UInt8 := [182, 0, 45, 183, 0, 146, 191, 42, 182, 0, 56, 27, 184, 0, 52, 61, 28, 42, 180, 0, 7, 162, 0, 22]
abbrev dktJ6_get_1 : List UInt8 := dkwJ6_get_1 ++ dktJ6_get_2
def dkwJ6_get_0 : List UInt8 := [27, 156, 0, 30, 187, 0, 142, 89, 187, 0, 33, 89, 183, 0, 35, 18, 153, 182, 0, 38, 27, 182, 0, 42]
abbrev dktJ6_get_0 : List UInt8 := dkwJ6_get_0 ++ dktJ6_get_1
theorem dksJ6_get_0 : cJ6_get.data.toList.drop 0 = dktJ6_get_0 := by decide +kernel
theorem dksJ6_get_1 : cJ6_get.data.toList.drop 24 = dktJ6_get_1 := dk_seg dksJ6_get_0 24 rfl rfl
theorem dksJ6_get_2 : cJ6_get.data.toList.drop 48 = dktJ6_get_2 := dk_seg dksJ6_get_1 24 rfl rfl
theorem dJ6_get_0 : decode cJ6_get 0 = .ok (.iload_n 1, 1) := dk_27 (dk_at dksJ6_get_0 0 rfl rfl)
theorem dJ6_get_1 : decode cJ6_get 1 = .ok (.ifCond .ge 30, 3) := dk_156 0 30 (dk_at dksJ6_get_0 1 rfl rfl)
theorem dJ6_get_4 : decode cJ6_get 4 = .ok (.new 142, 3) := dk_187 0 142 (dk_at dksJ6_get_0 4 rfl rfl)
theorem dJ6_get_7 : decode cJ6_get 7 = .ok (.dup, 1) := dk_89 (dk_at dksJ6_get_0 7 rfl rfl)
theorem dJ6_get_8 : decode cJ6_get 8 = .ok (.new 33, 3) := dk_187 0 33 (dk_at dksJ6_get_0 8 rfl rfl)
theorem dJ6_get_11 : decode cJ6_get 11 = .ok (.dup, 1) := dk_89 (dk_at dksJ6_get_0 11 rfl rfl)
theorem dJ6_get_12 : decode cJ6_get 12 = .ok (.invokespecial 35, 3) := dk_183 0 35 (dk_at dksJ6_get_0 12 rfl rfl)
theorem dJ6_get_15 : decode cJ6_get 15 = .ok (.ldc 153, 2) := dk_18 153 (dk_at dksJ6_get_0 15 rfl rfl)
theorem dJ6_get_17 : decode cJ6_get 17 = .ok (.invokevirtual 38, 3) := dk_182 0 38 (dk_at dksJ6_get_0 17 rfl rfl)
theorem dJ6_get_20 : decode cJ6_get 20 = .ok (.iload_n 1, 1) := dk_27 (dk_at dksJ6_get_0 20 rfl rfl)
theorem dJ6_get_21 : decode cJ6_get 21 = .ok (.invokevirtual 42, 3) := dk_182 0 42 (dk_at dksJ6_get_0 21 rfl rfl)
theorem dJ6_get_24 : decode cJ6_get 24 = .ok (.invokevirtual 45, 3) := dk_182 0 45 (dk_at dksJ6_get_1 0 rfl rfl)
theorem dJ6_get_27 : decode cJ6_get 27 = .ok (.invokespecial 146, 3) := dk_183 0 146 (dk_at dksJ6_get_1 3 rfl rfl)
theorem dJ6_get_30 : decode cJ6_get 30 = .ok (.athrow, 1) := dk_191 (dk_at dksJ6_get_1 6 rfl rfl)
theorem dJ6_get_31 : decode cJ6_get 31 = .ok (.aload_n 0, 1) := dk_42 (dk_at dksJ6_get_1 7 rfl rfl)
theorem dJ6_get_32 : decode cJ6_get 32 = .ok (.invokevirtual 56, 3) := dk_182 0 56 (dk_at dksJ6_get_1 8 rfl rfl)
theorem dJ6_get_35 : decode cJ6_get 35 = .ok (.iload_n 1, 1) := dk_27 (dk_at dksJ6_get_1 11 rfl rfl)
theorem dJ6_get_36 : decode cJ6_get 36 = .ok (.invokestatic 52, 3) := dk_184 0 52 (dk_at dksJ6_get_1 12 rfl rfl)
theorem dJ6_get_39 : decode cJ6_get 39 = .ok (.istore_n 2, 1) := dk_61 (dk_at dksJ6_get_1 15 rfl rfl)
theorem dJ6_get_40 : decode cJ6_get 40 = .ok (.iload_n 2, 1) := dk_28 (dk_at dksJ6_get_1 16 rfl rfl)
theorem dJ6_get_41 : decode cJ6_get 41 = .ok (.aload_n 0, 1) := dk_42 (dk_at dksJ6_get_1 17 rfl rfl)
theorem dJ6_get_42 : decode cJ6_get 42 = .ok (.getfield 7, 3) := dk_180 0 7 (dk_at dksJ6_get_1 18 rfl rfl)
theorem dJ6_get_45 : decode cJ6_get 45 = .ok (.if_icmp .ge 22, 3) := dk_162 0 22 (dk_at dksJ6_get_1 21 rfl rfl)
theorem dJ6_get_48 : decode cJ6_get 48 = .ok (.aload_n 0, 1) := dk_42 (dk_at dksJ6_get_2 0 rfl rfl)
theorem dJ6_get_49 : decode cJ6_get 49 = .ok (.getfield 11, 3) := dk_180 0 11 (dk_at dksJ6_get_2 1 rfl rfl)
theorem dJ6_get_52 : decode cJ6_get 52 = .ok (.iload_n 2, 1) := dk_28 (dk_at dksJ6_get_2 4 rfl rfl)
theorem dJ6_get_53 : decode cJ6_get 53 = .ok (.laload, 1) := dk_47 (dk_at dksJ6_get_2 5 rfl rfl)
theorem dJ6_get_54 : decode cJ6_get 54 = .ok (.lconst 1, 1) := dk_10 (dk_at dksJ6_get_2 6 rfl rfl)
theorem dJ6_get_55 : decode cJ6_get 55 = .ok (.iload_n 1, 1) := dk_27 (dk_at dksJ6_get_2 7 rfl rfl)
theorem dJ6_get_56 : decode cJ6_get 56 = .ok (.lshl, 1) := dk_121 (dk_at dksJ6_get_2 8 rfl rfl)
theorem dJ6_get_57 : decode cJ6_get 57 = .ok (.land, 1) := dk_127 (dk_at dksJ6_get_2 9 rfl rfl)
theorem dJ6_get_58 : decode cJ6_get 58 = .ok (.lconst 0, 1) := dk_9 (dk_at dksJ6_get_2 10 rfl rfl)
theorem dJ6_get_59 : decode cJ6_get 59 = .ok (.lcmp, 1) := dk_148 (dk_at dksJ6_get_2 11 rfl rfl)
theorem dJ6_get_60 : decode cJ6_get 60 = .ok (.ifCond .eq 7, 3) := dk_153 0 7 (dk_at dksJ6_get_2 12 rfl rfl)
theorem dJ6_get_63 : decode cJ6_get 63 = .ok (.iconst 1, 1) := dk_4 (dk_at dksJ6_get_2 15 rfl rfl)
theorem dJ6_get_64 : decode cJ6_get 64 = .ok (.goto 4, 3) := dk_167 0 4 (dk_at dksJ6_get_2 16 rfl rfl)
theorem dJ6_get_67 : decode cJ6_get 67 = .ok (.iconst 0, 1) := dk_3 (dk_at dksJ6_get_2 19 rfl rfl)
theorem dJ6_get_68 : decode cJ6_get 68 = .ok (.ireturn, 1) := dk_172 (dk_at dksJ6_get_2 20 rfl rfl)
abbrev cJ6_or : ByteArray := prog_52_method_37_code
def yJ6_or : MethodName := ⟨RJ6, "or", "(Ljava/util/BitSet;)V"⟩
def dkwJ6_or_4 : List UInt8 := [180, 0, 7, 28, 100, 184, 0, 199, 42, 182, 0, 56, 177]
abbrev dktJ6_or_4 : List UInt8 := dkwJ6_or_4 ++ []
def dkwJ6_or_3 : List UInt8 := [167, 255, 233, 28, 43, 180, 0, 7, 162, 0, 22, 43, 180, 0, 11, 28, 42, 180, 0, 11, 28, 42]
abbrev dktJ6_or_3 : List UInt8 := dkwJ6_or_3 ++ dktJ6_or_4
def dkwJ6_or_2 : List UInt8 := [29, 28, 162, 0, 24, 42, 180, 0, 11, 29, 92, 47, 43, 180, 0, 11, 29, 47, 129, 80, 132, 3, 1]
abbrev dktJ6_or_2 : List UInt8 := dkwJ6_or_2 ++ dktJ6_or_3
def dkwJ6_or_1 : List UInt8 := [180, 0, 7, 162, 0, 19, 42, 43, 180, 0, 7, 182, 0, 139, 42, 43, 180, 0, 7, 181, 0, 7, 3, 62]
abbrev dktJ6_or_1 : List UInt8 := dkwJ6_or_1 ++ dktJ6_or_2
def dkwJ6_or_0 : List UInt8 := [42, 43, 166, 0, 4, 177, 42, 180, 0, 7, 43, 180, 0, 7, 184, 0, 193, 61, 42, 180, 0, 7, 43]
abbrev dktJ6_or_0 : List UInt8 := dkwJ6_or_0 ++ dktJ6_or_1
theorem dksJ6_or_0 : cJ6_or.data.toList.drop 0 = dktJ6_or_0 := by decide +kernel
theorem dksJ6_or_1 : cJ6_or.data.toList.drop 23 = dktJ6_or_1 := dk_seg dksJ6_or_0 23 rfl rfl
theorem dksJ6_or_2 : cJ6_or.data.toList.drop 47 = dktJ6_or_2 := dk_seg dksJ6_or_1 24 rfl rfl
theorem dksJ6_or_3 : cJ6_or.data.toList.drop 70 = dktJ6_or_3 := dk_seg dksJ6_or_2 23 rfl rfl
theorem dksJ6_or_4 : cJ6_or.data.toList.drop 92 = dktJ6_or_4 := dk_seg dksJ6_or_3 22 rfl rfl
theorem dJ6_or_0 : decode cJ6_or 0 = .ok (.aload_n 0, 1) := dk_42 (dk_at dksJ6_or_0 0 rfl rfl)
theorem dJ6_or_1 : decode cJ6_or 1 = .ok (.aload_n 1, 1) := dk_43 (dk_at dksJ6_or_0 1 rfl rfl)
theorem dJ6_or_2 : decode cJ6_or 2 = .ok (.if_acmp .ne 4, 3) := dk_166 0 4 (dk_at dksJ6_or_0 2 rfl rfl)
theorem dJ6_or_5 : decode cJ6_or 5 = .ok (.return_, 1) := dk_177 (dk_at dksJ6_or_0 5 rfl rfl)
theorem dJ6_or_6 : decode cJ6_or 6 = .ok (.aload_n 0, 1) := dk_42 (dk_at dksJ6_or_0 6 rfl rfl)
theorem dJ6_or_7 : decode cJ6_or 7 = .ok (.getfield 7, 3) := dk_180 0 7 (dk_at dksJ6_or_0 7 rfl rfl)
theorem dJ6_or_10 : decode cJ6_or 10 = .ok (.aload_n 1, 1) := dk_43 (dk_at dksJ6_or_0 10 rfl rfl)
theorem dJ6_or_11 : decode cJ6_or 11 = .ok (.getfield 7, 3) := dk_180 0 7 (dk_at dksJ6_or_0 11 rfl rfl)
theorem dJ6_or_14 : decode cJ6_or 14 = .ok (.invokestatic 193, 3) := dk_184 0 193 (dk_at dksJ6_or_0 14 rfl rfl)
theorem dJ6_or_17 : decode cJ6_or 17 = .ok (.istore_n 2, 1) := dk_61 (dk_at dksJ6_or_0 17 rfl rfl)
theorem dJ6_or_18 : decode cJ6_or 18 = .ok (.aload_n 0, 1) := dk_42 (dk_at dksJ6_or_0 18 rfl rfl)
theorem dJ6_or_19 : decode cJ6_or 19 = .ok (.getfield 7, 3) := dk_180 0 7 (dk_at dksJ6_or_0 19 rfl rfl)
theorem dJ6_or_22 : decode cJ6_or 22 = .ok (.aload_n 1, 1) := dk_43 (dk_at dksJ6_or_0 22 rfl rfl)
theorem dJ6_or_23 : decode cJ6_or 23 = .ok (.getfield 7, 3) := dk_180 0 7 (dk_at dksJ6_or_1 0 rfl rfl)
theorem dJ6_or_26 : decode cJ6_or 26 = .ok (.if_icmp .ge 19, 3) := dk_162 0 19 (dk_at dksJ6_or_1 3 rfl rfl)
theorem dJ6_or_29 : decode cJ6_or 29 = .ok (.aload_n 0, 1) := dk_42 (dk_at dksJ6_or_1 6 rfl rfl)
theorem dJ6_or_30 : decode cJ6_or 30 = .ok (.aload_n 1, 1) := dk_43 (dk_at dksJ6_or_1 7 rfl rfl)
theorem dJ6_or_31 : decode cJ6_or 31 = .ok (.getfield 7, 3) := dk_180 0 7 (dk_at dksJ6_or_1 8 rfl rfl)
theorem dJ6_or_34 : decode cJ6_or 34 = .ok (.invokevirtual 139, 3) := dk_182 0 139 (dk_at dksJ6_or_1 11 rfl rfl)
theorem dJ6_or_37 : decode cJ6_or 37 = .ok (.aload_n 0, 1) := dk_42 (dk_at dksJ6_or_1 14 rfl rfl)
theorem dJ6_or_38 : decode cJ6_or 38 = .ok (.aload_n 1, 1) := dk_43 (dk_at dksJ6_or_1 15 rfl rfl)
theorem dJ6_or_39 : decode cJ6_or 39 = .ok (.getfield 7, 3) := dk_180 0 7 (dk_at dksJ6_or_1 16 rfl rfl)
theorem dJ6_or_42 : decode cJ6_or 42 = .ok (.putfield 7, 3) := dk_181 0 7 (dk_at dksJ6_or_1 19 rfl rfl)
theorem dJ6_or_45 : decode cJ6_or 45 = .ok (.iconst 0, 1) := dk_3 (dk_at dksJ6_or_1 22 rfl rfl)
theorem dJ6_or_46 : decode cJ6_or 46 = .ok (.istore_n 3, 1) := dk_62 (dk_at dksJ6_or_1 23 rfl rfl)
theorem dJ6_or_47 : decode cJ6_or 47 = .ok (.iload_n 3, 1) := dk_29 (dk_at dksJ6_or_2 0 rfl rfl)
theorem dJ6_or_48 : decode cJ6_or 48 = .ok (.iload_n 2, 1) := dk_28 (dk_at dksJ6_or_2 1 rfl rfl)
theorem dJ6_or_49 : decode cJ6_or 49 = .ok (.if_icmp .ge 24, 3) := dk_162 0 24 (dk_at dksJ6_or_2 2 rfl rfl)
theorem dJ6_or_52 : decode cJ6_or 52 = .ok (.aload_n 0, 1) := dk_42 (dk_at dksJ6_or_2 5 rfl rfl)
theorem dJ6_or_53 : decode cJ6_or 53 = .ok (.getfield 11, 3) := dk_180 0 11 (dk_at dksJ6_or_2 6 rfl rfl)
theorem dJ6_or_56 : decode cJ6_or 56 = .ok (.iload_n 3, 1) := dk_29 (dk_at dksJ6_or_2 9 rfl rfl)
theorem dJ6_or_57 : decode cJ6_or 57 = .ok (.dup2, 1) := dk_92 (dk_at dksJ6_or_2 10 rfl rfl)
theorem dJ6_or_58 : decode cJ6_or 58 = .ok (.laload, 1) := dk_47 (dk_at dksJ6_or_2 11 rfl rfl)
theorem dJ6_or_59 : decode cJ6_or 59 = .ok (.aload_n 1, 1) := dk_43 (dk_at dksJ6_or_2 12 rfl rfl)
theorem dJ6_or_60 : decode cJ6_or 60 = .ok (.getfield 11, 3) := dk_180 0 11 (dk_at dksJ6_or_2 13 rfl rfl)
theorem dJ6_or_63 : decode cJ6_or 63 = .ok (.iload_n 3, 1) := dk_29 (dk_at dksJ6_or_2 16 rfl rfl)
theorem dJ6_or_64 : decode cJ6_or 64 = .ok (.laload, 1) := dk_47 (dk_at dksJ6_or_2 17 rfl rfl)
theorem dJ6_or_65 : decode cJ6_or 65 = .ok (.lor, 1) := dk_129 (dk_at dksJ6_or_2 18 rfl rfl)
theorem dJ6_or_66 : decode cJ6_or 66 = .ok (.lastore, 1) := dk_80 (dk_at dksJ6_or_2 19 rfl rfl)
theorem dJ6_or_67 : decode cJ6_or 67 = .ok (.iinc 3 1, 3) := dk_132 3 1 (dk_at dksJ6_or_2 20 rfl rfl)
theorem dJ6_or_70 : decode cJ6_or 70 = .ok (.goto (-23), 3) := dk_167 255 233 (dk_at dksJ6_or_3 0 rfl rfl)
theorem dJ6_or_73 : decode cJ6_or 73 = .ok (.iload_n 2, 1) := dk_28 (dk_at dksJ6_or_3 3 rfl rfl)
theorem dJ6_or_74 : decode cJ6_or 74 = .ok (.aload_n 1, 1) := dk_43 (dk_at dksJ6_or_3 4 rfl rfl)
theorem dJ6_or_75 : decode cJ6_or 75 = .ok (.getfield 7, 3) := dk_180 0 7 (dk_at dksJ6_or_3 5 rfl rfl)
theorem dJ6_or_78 : decode cJ6_or 78 = .ok (.if_icmp .ge 22, 3) := dk_162 0 22 (dk_at dksJ6_or_3 8 rfl rfl)
theorem dJ6_or_81 : decode cJ6_or 81 = .ok (.aload_n 1, 1) := dk_43 (dk_at dksJ6_or_3 11 rfl rfl)
theorem dJ6_or_82 : decode cJ6_or 82 = .ok (.getfield 11, 3) := dk_180 0 11 (dk_at dksJ6_or_3 12 rfl rfl)
theorem dJ6_or_85 : decode cJ6_or 85 = .ok (.iload_n 2, 1) := dk_28 (dk_at dksJ6_or_3 15 rfl rfl)
theorem dJ6_or_86 : decode cJ6_or 86 = .ok (.aload_n 0, 1) := dk_42 (dk_at dksJ6_or_3 16 rfl rfl)
theorem dJ6_or_87 : decode cJ6_or 87 = .ok (.getfield 11, 3) := dk_180 0 11 (dk_at dksJ6_or_3 17 rfl rfl)
theorem dJ6_or_90 : decode cJ6_or 90 = .ok (.iload_n 2, 1) := dk_28 (dk_at dksJ6_or_3 20 rfl rfl)
theorem dJ6_or_91 : decode cJ6_or 91 = .ok (.aload_n 0, 1) := dk_42 (dk_at dksJ6_or_3 21 rfl rfl)
theorem dJ6_or_92 : decode cJ6_or 92 = .ok (.getfield 7, 3) := dk_180 0 7 (dk_at dksJ6_or_4 0 rfl rfl)
theorem dJ6_or_95 : decode cJ6_or 95 = .ok (.iload_n 2, 1) := dk_28 (dk_at dksJ6_or_4 3 rfl rfl)
theorem dJ6_or_96 : decode cJ6_or 96 = .ok (.isub, 1) := dk_100 (dk_at dksJ6_or_4 4 rfl rfl)
theorem dJ6_or_97 : decode cJ6_or 97 = .ok (.invokestatic 199, 3) := dk_184 0 199 (dk_at dksJ6_or_4 5 rfl rfl)
theorem dJ6_or_100 : decode cJ6_or 100 = .ok (.aload_n 0, 1) := dk_42 (dk_at dksJ6_or_4 8 rfl rfl)
theorem dJ6_or_101 : decode cJ6_or 101 = .ok (.invokevirtual 56, 3) := dk_182 0 56 (dk_at dksJ6_or_4 9 rfl rfl)
theorem dJ6_or_104 : decode cJ6_or 104 = .ok (.return_, 1) := dk_177 (dk_at dksJ6_or_4 12 rfl rfl)
abbrev cJ6_ensureCapacity : ByteArray := prog_52_method_14_code
def yJ6_ensureCapacity : MethodName := ⟨RJ6, "ensureCapacity", "(I)V"⟩
def dkwJ6_ensureCapacity_1 : List UInt8 := [180, 0, 11, 28, 184, 0, 59, 181, 0, 11, 42, 3, 181, 0, 24, 177]
abbrev dktJ6_ensureCapacity_1 : List UInt8 := dkwJ6_ensureCapacity_1 ++ []
def dkwJ6_ensureCapacity_0 : List UInt8 := [42, 180, 0, 11, 190, 27, 162, 0, 32, 5, 42, 180, 0, 11, 190, 104, 27, 184, 0, 133, 61, 42, 42]
abbrev dktJ6_ensureCapacity_0 : List UInt8 := dkwJ6_ensureCapacity_0 ++ dktJ6_ensureCapacity_1
theorem dksJ6_ensureCapacity_0 : cJ6_ensureCapacity.data.toList.drop 0 = dktJ6_ensureCapacity_0 := by decide +kernel
theorem dksJ6_ensureCapacity_1 : cJ6_ensureCapacity.data.toList.drop 23 = dktJ6_ensureCapacity_1 := dk_seg dksJ6_ensureCapacity_0 23 rfl rfl
theorem dJ6_ensureCapacity_0 : decode cJ6_ensureCapacity 0 = .ok (.aload_n 0, 1) := dk_42 (dk_at dksJ6_ensureCapacity_0 0 rfl rfl)
theorem dJ6_ensureCapacity_1 : decode cJ6_ensureCapacity 1 = .ok (.getfield 11, 3) := dk_180 0 11 (dk_at dksJ6_ensureCapacity_0 1 rfl rfl)
theorem dJ6_ensureCapacity_4 : decode cJ6_ensureCapacity 4 = .ok (.arraylength, 1) := dk_190 (dk_at dksJ6_ensureCapacity_0 4 rfl rfl)
theorem dJ6_ensureCapacity_5 : decode cJ6_ensureCapacity 5 = .ok (.iload_n 1, 1) := dk_27 (dk_at dksJ6_ensureCapacity_0 5 rfl rfl)
theorem dJ6_ensureCapacity_6 : decode cJ6_ensureCapacity 6 = .ok (.if_icmp .ge 32, 3) := dk_162 0 32 (dk_at dksJ6_ensureCapacity_0 6 rfl rfl)
theorem dJ6_ensureCapacity_9 : decode cJ6_ensureCapacity 9 = .ok (.iconst 2, 1) := dk_5 (dk_at dksJ6_ensureCapacity_0 9 rfl rfl)
theorem dJ6_ensureCapacity_10 : decode cJ6_ensureCapacity 10 = .ok (.aload_n 0, 1) := dk_42 (dk_at dksJ6_ensureCapacity_0 10 rfl rfl)
theorem dJ6_ensureCapacity_11 : decode cJ6_ensureCapacity 11 = .ok (.getfield 11, 3) := dk_180 0 11 (dk_at dksJ6_ensureCapacity_0 11 rfl rfl)
theorem dJ6_ensureCapacity_14 : decode cJ6_ensureCapacity 14 = .ok (.arraylength, 1) := dk_190 (dk_at dksJ6_ensureCapacity_0 14 rfl rfl)
theorem dJ6_ensureCapacity_15 : decode cJ6_ensureCapacity 15 = .ok (.imul, 1) := dk_104 (dk_at dksJ6_ensureCapacity_0 15 rfl rfl)
theorem dJ6_ensureCapacity_16 : decode cJ6_ensureCapacity 16 = .ok (.iload_n 1, 1) := dk_27 (dk_at dksJ6_ensureCapacity_0 16 rfl rfl)
theorem dJ6_ensureCapacity_17 : decode cJ6_ensureCapacity 17 = .ok (.invokestatic 133, 3) := dk_184 0 133 (dk_at dksJ6_ensureCapacity_0 17 rfl rfl)
theorem dJ6_ensureCapacity_20 : decode cJ6_ensureCapacity 20 = .ok (.istore_n 2, 1) := dk_61 (dk_at dksJ6_ensureCapacity_0 20 rfl rfl)
theorem dJ6_ensureCapacity_21 : decode cJ6_ensureCapacity 21 = .ok (.aload_n 0, 1) := dk_42 (dk_at dksJ6_ensureCapacity_0 21 rfl rfl)
theorem dJ6_ensureCapacity_22 : decode cJ6_ensureCapacity 22 = .ok (.aload_n 0, 1) := dk_42 (dk_at dksJ6_ensureCapacity_0 22 rfl rfl)
theorem dJ6_ensureCapacity_23 : decode cJ6_ensureCapacity 23 = .ok (.getfield 11, 3) := dk_180 0 11 (dk_at dksJ6_ensureCapacity_1 0 rfl rfl)
theorem dJ6_ensureCapacity_26 : decode cJ6_ensureCapacity 26 = .ok (.iload_n 2, 1) := dk_28 (dk_at dksJ6_ensureCapacity_1 3 rfl rfl)
theorem dJ6_ensureCapacity_27 : decode cJ6_ensureCapacity 27 = .ok (.invokestatic 59, 3) := dk_184 0 59 (dk_at dksJ6_ensureCapacity_1 4 rfl rfl)
theorem dJ6_ensureCapacity_30 : decode cJ6_ensureCapacity 30 = .ok (.putfield 11, 3) := dk_181 0 11 (dk_at dksJ6_ensureCapacity_1 7 rfl rfl)
theorem dJ6_ensureCapacity_33 : decode cJ6_ensureCapacity 33 = .ok (.aload_n 0, 1) := dk_42 (dk_at dksJ6_ensureCapacity_1 10 rfl rfl)
theorem dJ6_ensureCapacity_34 : decode cJ6_ensureCapacity 34 = .ok (.iconst 0, 1) := dk_3 (dk_at dksJ6_ensureCapacity_1 11 rfl rfl)
theorem dJ6_ensureCapacity_35 : decode cJ6_ensureCapacity 35 = .ok (.putfield 24, 3) := dk_181 0 24 (dk_at dksJ6_ensureCapacity_1 12 rfl rfl)
theorem dJ6_ensureCapacity_38 : decode cJ6_ensureCapacity 38 = .ok (.return_, 1) := dk_177 (dk_at dksJ6_ensureCapacity_1 15 rfl rfl)
abbrev cJ6_set : ByteArray := prog_52_method_19_code
def yJ6_set : MethodName := ⟨RJ6, "set", "(I)V"⟩
def dkwJ6_set_2 : List UInt8 := [10, 27, 121, 129, 80, 42, 182, 0, 56, 177]
abbrev dktJ6_set_2 : List UInt8 := dkwJ6_set_2 ++ []
def dkwJ6_set_1 : List UInt8 := [182, 0, 45, 183, 0, 146, 191, 27, 184, 0, 52, 61, 42, 28, 182, 0, 155, 42, 180, 0, 11, 28, 92, 47]
abbrev dktJ6_set_1 : List UInt8 := dkwJ6_set_1 ++ dktJ6_set_2
def dkwJ6_set_0 : List UInt8 := [27, 156, 0, 30, 187, 0, 142, 89, 187, 0, 33, 89, 183, 0, 35, 18, 153, 182, 0, 38, 27, 182, 0, 42]
abbrev dktJ6_set_0 : List UInt8 := dkwJ6_set_0 ++ dktJ6_set_1
theorem dksJ6_set_0 : cJ6_set.data.toList.drop 0 = dktJ6_set_0 := by decide +kernel
theorem dksJ6_set_1 : cJ6_set.data.toList.drop 24 = dktJ6_set_1 := dk_seg dksJ6_set_0 24 rfl rfl
theorem dksJ6_set_2 : cJ6_set.data.toList.drop 48 = dktJ6_set_2 := dk_seg dksJ6_set_1 24 rfl rfl
theorem dJ6_set_0 : decode cJ6_set 0 = .ok (.iload_n 1, 1) := dk_27 (dk_at dksJ6_set_0 0 rfl rfl)
theorem dJ6_set_1 : decode cJ6_set 1 = .ok (.ifCond .ge 30, 3) := dk_156 0 30 (dk_at dksJ6_set_0 1 rfl rfl)
theorem dJ6_set_4 : decode cJ6_set 4 = .ok (.new 142, 3) := dk_187 0 142 (dk_at dksJ6_set_0 4 rfl rfl)
theorem dJ6_set_7 : decode cJ6_set 7 = .ok (.dup, 1) := dk_89 (dk_at dksJ6_set_0 7 rfl rfl)
theorem dJ6_set_8 : decode cJ6_set 8 = .ok (.new 33, 3) := dk_187 0 33 (dk_at dksJ6_set_0 8 rfl rfl)
theorem dJ6_set_11 : decode cJ6_set 11 = .ok (.dup, 1) := dk_89 (dk_at dksJ6_set_0 11 rfl rfl)
theorem dJ6_set_12 : decode cJ6_set 12 = .ok (.invokespecial 35, 3) := dk_183 0 35 (dk_at dksJ6_set_0 12 rfl rfl)
theorem dJ6_set_15 : decode cJ6_set 15 = .ok (.ldc 153, 2) := dk_18 153 (dk_at dksJ6_set_0 15 rfl rfl)
theorem dJ6_set_17 : decode cJ6_set 17 = .ok (.invokevirtual 38, 3) := dk_182 0 38 (dk_at dksJ6_set_0 17 rfl rfl)
theorem dJ6_set_20 : decode cJ6_set 20 = .ok (.iload_n 1, 1) := dk_27 (dk_at dksJ6_set_0 20 rfl rfl)
theorem dJ6_set_21 : decode cJ6_set 21 = .ok (.invokevirtual 42, 3) := dk_182 0 42 (dk_at dksJ6_set_0 21 rfl rfl)
theorem dJ6_set_24 : decode cJ6_set 24 = .ok (.invokevirtual 45, 3) := dk_182 0 45 (dk_at dksJ6_set_1 0 rfl rfl)
theorem dJ6_set_27 : decode cJ6_set 27 = .ok (.invokespecial 146, 3) := dk_183 0 146 (dk_at dksJ6_set_1 3 rfl rfl)
theorem dJ6_set_30 : decode cJ6_set 30 = .ok (.athrow, 1) := dk_191 (dk_at dksJ6_set_1 6 rfl rfl)
theorem dJ6_set_31 : decode cJ6_set 31 = .ok (.iload_n 1, 1) := dk_27 (dk_at dksJ6_set_1 7 rfl rfl)
theorem dJ6_set_32 : decode cJ6_set 32 = .ok (.invokestatic 52, 3) := dk_184 0 52 (dk_at dksJ6_set_1 8 rfl rfl)
theorem dJ6_set_35 : decode cJ6_set 35 = .ok (.istore_n 2, 1) := dk_61 (dk_at dksJ6_set_1 11 rfl rfl)
theorem dJ6_set_36 : decode cJ6_set 36 = .ok (.aload_n 0, 1) := dk_42 (dk_at dksJ6_set_1 12 rfl rfl)
theorem dJ6_set_37 : decode cJ6_set 37 = .ok (.iload_n 2, 1) := dk_28 (dk_at dksJ6_set_1 13 rfl rfl)
theorem dJ6_set_38 : decode cJ6_set 38 = .ok (.invokevirtual 155, 3) := dk_182 0 155 (dk_at dksJ6_set_1 14 rfl rfl)
theorem dJ6_set_41 : decode cJ6_set 41 = .ok (.aload_n 0, 1) := dk_42 (dk_at dksJ6_set_1 17 rfl rfl)
theorem dJ6_set_42 : decode cJ6_set 42 = .ok (.getfield 11, 3) := dk_180 0 11 (dk_at dksJ6_set_1 18 rfl rfl)
theorem dJ6_set_45 : decode cJ6_set 45 = .ok (.iload_n 2, 1) := dk_28 (dk_at dksJ6_set_1 21 rfl rfl)
theorem dJ6_set_46 : decode cJ6_set 46 = .ok (.dup2, 1) := dk_92 (dk_at dksJ6_set_1 22 rfl rfl)
theorem dJ6_set_47 : decode cJ6_set 47 = .ok (.laload, 1) := dk_47 (dk_at dksJ6_set_1 23 rfl rfl)
theorem dJ6_set_48 : decode cJ6_set 48 = .ok (.lconst 1, 1) := dk_10 (dk_at dksJ6_set_2 0 rfl rfl)
theorem dJ6_set_49 : decode cJ6_set 49 = .ok (.iload_n 1, 1) := dk_27 (dk_at dksJ6_set_2 1 rfl rfl)
theorem dJ6_set_50 : decode cJ6_set 50 = .ok (.lshl, 1) := dk_121 (dk_at dksJ6_set_2 2 rfl rfl)
theorem dJ6_set_51 : decode cJ6_set 51 = .ok (.lor, 1) := dk_129 (dk_at dksJ6_set_2 3 rfl rfl)
theorem dJ6_set_52 : decode cJ6_set 52 = .ok (.lastore, 1) := dk_80 (dk_at dksJ6_set_2 4 rfl rfl)
theorem dJ6_set_53 : decode cJ6_set 53 = .ok (.aload_n 0, 1) := dk_42 (dk_at dksJ6_set_2 5 rfl rfl)
theorem dJ6_set_54 : decode cJ6_set 54 = .ok (.invokevirtual 56, 3) := dk_182 0 56 (dk_at dksJ6_set_2 6 rfl rfl)
theorem dJ6_set_57 : decode cJ6_set 57 = .ok (.return_, 1) := dk_177 (dk_at dksJ6_set_2 9 rfl rfl)
abbrev cJ6_expandTo : ByteArray := prog_52_method_15_code
def yJ6_expandTo : MethodName := ⟨RJ6, "expandTo", "(I)V"⟩
def dkwJ6_expandTo_0 : List UInt8 := [27, 4, 96, 61, 42, 180, 0, 7, 28, 162, 0, 13, 42, 28, 182, 0, 139, 42, 28, 181, 0, 7, 177]
abbrev dktJ6_expandTo_0 : List UInt8 := dkwJ6_expandTo_0 ++ []
theorem dksJ6_expandTo_0 : cJ6_expandTo.data.toList.drop 0 = dktJ6_expandTo_0 := by decide +kernel
theorem dJ6_expandTo_0 : decode cJ6_expandTo 0 = .ok (.iload_n 1, 1) := dk_27 (dk_at dksJ6_expandTo_0 0 rfl rfl)
theorem dJ6_expandTo_1 : decode cJ6_expandTo 1 = .ok (.iconst 1, 1) := dk_4 (dk_at dksJ6_expandTo_0 1 rfl rfl)
theorem dJ6_expandTo_2 : decode cJ6_expandTo 2 = .ok (.iadd, 1) := dk_96 (dk_at dksJ6_expandTo_0 2 rfl rfl)
theorem dJ6_expandTo_3 : decode cJ6_expandTo 3 = .ok (.istore_n 2, 1) := dk_61 (dk_at dksJ6_expandTo_0 3 rfl rfl)
theorem dJ6_expandTo_4 : decode cJ6_expandTo 4 = .ok (.aload_n 0, 1) := dk_42 (dk_at dksJ6_expandTo_0 4 rfl rfl)
theorem dJ6_expandTo_5 : decode cJ6_expandTo 5 = .ok (.getfield 7, 3) := dk_180 0 7 (dk_at dksJ6_expandTo_0 5 rfl rfl)
theorem dJ6_expandTo_8 : decode cJ6_expandTo 8 = .ok (.iload_n 2, 1) := dk_28 (dk_at dksJ6_expandTo_0 8 rfl rfl)
theorem dJ6_expandTo_9 : decode cJ6_expandTo 9 = .ok (.if_icmp .ge 13, 3) := dk_162 0 13 (dk_at dksJ6_expandTo_0 9 rfl rfl)
theorem dJ6_expandTo_12 : decode cJ6_expandTo 12 = .ok (.aload_n 0, 1) := dk_42 (dk_at dksJ6_expandTo_0 12 rfl rfl)
theorem dJ6_expandTo_13 : decode cJ6_expandTo 13 = .ok (.iload_n 2, 1) := dk_28 (dk_at dksJ6_expandTo_0 13 rfl rfl)
theorem dJ6_expandTo_14 : decode cJ6_expandTo 14 = .ok (.invokevirtual 139, 3) := dk_182 0 139 (dk_at dksJ6_expandTo_0 14 rfl rfl)
theorem dJ6_expandTo_17 : decode cJ6_expandTo 17 = .ok (.aload_n 0, 1) := dk_42 (dk_at dksJ6_expandTo_0 17 rfl rfl)
theorem dJ6_expandTo_18 : decode cJ6_expandTo 18 = .ok (.iload_n 2, 1) := dk_28 (dk_at dksJ6_expandTo_0 18 rfl rfl)
theorem dJ6_expandTo_19 : decode cJ6_expandTo 19 = .ok (.putfield 7, 3) := dk_181 0 7 (dk_at dksJ6_expandTo_0 19 rfl rfl)
theorem dJ6_expandTo_22 : decode cJ6_expandTo 22 = .ok (.return_, 1) := dk_177 (dk_at dksJ6_expandTo_0 22 rfl rfl)
abbrev cJ6_cardinality : ByteArray := prog_52_method_35_code
def yJ6_cardinality : MethodName := ⟨RJ6, "cardinality", "()I"⟩
def dkwJ6_cardinality_1 : List UInt8 := [132, 2, 1, 167, 255, 233, 27, 172]
abbrev dktJ6_cardinality_1 : List UInt8 := dkwJ6_cardinality_1 ++ []
def dkwJ6_cardinality_0 : List UInt8 := [3, 60, 3, 61, 28, 42, 180, 0, 7, 162, 0, 21, 27, 42, 180, 0, 11, 28, 47, 184, 0, 196, 96, 60]
abbrev dktJ6_cardinality_0 : List UInt8 := dkwJ6_cardinality_0 ++ dktJ6_cardinality_1
theorem dksJ6_cardinality_0 : cJ6_cardinality.data.toList.drop 0 = dktJ6_cardinality_0 := by decide +kernel
theorem dksJ6_cardinality_1 : cJ6_cardinality.data.toList.drop 24 = dktJ6_cardinality_1 := dk_seg dksJ6_cardinality_0 24 rfl rfl
theorem dJ6_cardinality_0 : decode cJ6_cardinality 0 = .ok (.iconst 0, 1) := dk_3 (dk_at dksJ6_cardinality_0 0 rfl rfl)
theorem dJ6_cardinality_1 : decode cJ6_cardinality 1 = .ok (.istore_n 1, 1) := dk_60 (dk_at dksJ6_cardinality_0 1 rfl rfl)
theorem dJ6_cardinality_2 : decode cJ6_cardinality 2 = .ok (.iconst 0, 1) := dk_3 (dk_at dksJ6_cardinality_0 2 rfl rfl)
theorem dJ6_cardinality_3 : decode cJ6_cardinality 3 = .ok (.istore_n 2, 1) := dk_61 (dk_at dksJ6_cardinality_0 3 rfl rfl)
theorem dJ6_cardinality_4 : decode cJ6_cardinality 4 = .ok (.iload_n 2, 1) := dk_28 (dk_at dksJ6_cardinality_0 4 rfl rfl)
theorem dJ6_cardinality_5 : decode cJ6_cardinality 5 = .ok (.aload_n 0, 1) := dk_42 (dk_at dksJ6_cardinality_0 5 rfl rfl)
theorem dJ6_cardinality_6 : decode cJ6_cardinality 6 = .ok (.getfield 7, 3) := dk_180 0 7 (dk_at dksJ6_cardinality_0 6 rfl rfl)
theorem dJ6_cardinality_9 : decode cJ6_cardinality 9 = .ok (.if_icmp .ge 21, 3) := dk_162 0 21 (dk_at dksJ6_cardinality_0 9 rfl rfl)
theorem dJ6_cardinality_12 : decode cJ6_cardinality 12 = .ok (.iload_n 1, 1) := dk_27 (dk_at dksJ6_cardinality_0 12 rfl rfl)
theorem dJ6_cardinality_13 : decode cJ6_cardinality 13 = .ok (.aload_n 0, 1) := dk_42 (dk_at dksJ6_cardinality_0 13 rfl rfl)
theorem dJ6_cardinality_14 : decode cJ6_cardinality 14 = .ok (.getfield 11, 3) := dk_180 0 11 (dk_at dksJ6_cardinality_0 14 rfl rfl)
theorem dJ6_cardinality_17 : decode cJ6_cardinality 17 = .ok (.iload_n 2, 1) := dk_28 (dk_at dksJ6_cardinality_0 17 rfl rfl)
theorem dJ6_cardinality_18 : decode cJ6_cardinality 18 = .ok (.laload, 1) := dk_47 (dk_at dksJ6_cardinality_0 18 rfl rfl)
theorem dJ6_cardinality_19 : decode cJ6_cardinality 19 = .ok (.invokestatic 196, 3) := dk_184 0 196 (dk_at dksJ6_cardinality_0 19 rfl rfl)
theorem dJ6_cardinality_22 : decode cJ6_cardinality 22 = .ok (.iadd, 1) := dk_96 (dk_at dksJ6_cardinality_0 22 rfl rfl)
theorem dJ6_cardinality_23 : decode cJ6_cardinality 23 = .ok (.istore_n 1, 1) := dk_60 (dk_at dksJ6_cardinality_0 23 rfl rfl)
theorem dJ6_cardinality_24 : decode cJ6_cardinality 24 = .ok (.iinc 2 1, 3) := dk_132 2 1 (dk_at dksJ6_cardinality_1 0 rfl rfl)
theorem dJ6_cardinality_27 : decode cJ6_cardinality 27 = .ok (.goto (-23), 3) := dk_167 255 233 (dk_at dksJ6_cardinality_1 3 rfl rfl)
theorem dJ6_cardinality_30 : decode cJ6_cardinality 30 = .ok (.iload_n 1, 1) := dk_27 (dk_at dksJ6_cardinality_1 6 rfl rfl)
theorem dJ6_cardinality_31 : decode cJ6_cardinality 31 = .ok (.ireturn, 1) := dk_172 (dk_at dksJ6_cardinality_1 7 rfl rfl)
abbrev cJ6_clear : ByteArray := prog_52_method_23_code
def yJ6_clear : MethodName := ⟨RJ6, "clear", "(I)V"⟩
def dkwJ6_clear_2 : List UInt8 := [180, 0, 11, 28, 92, 47, 10, 27, 121, 20, 0, 165, 131, 127, 80, 42, 182, 0, 158, 42, 182, 0, 56, 177]
abbrev dktJ6_clear_2 : List UInt8 := dkwJ6_clear_2 ++ []
def dkwJ6_clear_1 : List UInt8 := [182, 0, 45, 183, 0, 146, 191, 27, 184, 0, 52, 61, 28, 42, 180, 0, 7, 161, 0, 4, 177, 42]
abbrev dktJ6_clear_1 : List UInt8 := dkwJ6_clear_1 ++ dktJ6_clear_2
def dkwJ6_clear_0 : List UInt8 := [27, 156, 0, 30, 187, 0, 142, 89, 187, 0, 33, 89, 183, 0, 35, 18, 153, 182, 0, 38, 27, 182, 0, 42]
abbrev dktJ6_clear_0 : List UInt8 := dkwJ6_clear_0 ++ dktJ6_clear_1
theorem dksJ6_clear_0 : cJ6_clear.data.toList.drop 0 = dktJ6_clear_0 := by decide +kernel
theorem dksJ6_clear_1 : cJ6_clear.data.toList.drop 24 = dktJ6_clear_1 := dk_seg dksJ6_clear_0 24 rfl rfl
theorem dksJ6_clear_2 : cJ6_clear.data.toList.drop 46 = dktJ6_clear_2 := dk_seg dksJ6_clear_1 22 rfl rfl
theorem dJ6_clear_0 : decode cJ6_clear 0 = .ok (.iload_n 1, 1) := dk_27 (dk_at dksJ6_clear_0 0 rfl rfl)
theorem dJ6_clear_1 : decode cJ6_clear 1 = .ok (.ifCond .ge 30, 3) := dk_156 0 30 (dk_at dksJ6_clear_0 1 rfl rfl)
theorem dJ6_clear_4 : decode cJ6_clear 4 = .ok (.new 142, 3) := dk_187 0 142 (dk_at dksJ6_clear_0 4 rfl rfl)
theorem dJ6_clear_7 : decode cJ6_clear 7 = .ok (.dup, 1) := dk_89 (dk_at dksJ6_clear_0 7 rfl rfl)
theorem dJ6_clear_8 : decode cJ6_clear 8 = .ok (.new 33, 3) := dk_187 0 33 (dk_at dksJ6_clear_0 8 rfl rfl)
theorem dJ6_clear_11 : decode cJ6_clear 11 = .ok (.dup, 1) := dk_89 (dk_at dksJ6_clear_0 11 rfl rfl)
theorem dJ6_clear_12 : decode cJ6_clear 12 = .ok (.invokespecial 35, 3) := dk_183 0 35 (dk_at dksJ6_clear_0 12 rfl rfl)
theorem dJ6_clear_15 : decode cJ6_clear 15 = .ok (.ldc 153, 2) := dk_18 153 (dk_at dksJ6_clear_0 15 rfl rfl)
theorem dJ6_clear_17 : decode cJ6_clear 17 = .ok (.invokevirtual 38, 3) := dk_182 0 38 (dk_at dksJ6_clear_0 17 rfl rfl)
theorem dJ6_clear_20 : decode cJ6_clear 20 = .ok (.iload_n 1, 1) := dk_27 (dk_at dksJ6_clear_0 20 rfl rfl)
theorem dJ6_clear_21 : decode cJ6_clear 21 = .ok (.invokevirtual 42, 3) := dk_182 0 42 (dk_at dksJ6_clear_0 21 rfl rfl)
theorem dJ6_clear_24 : decode cJ6_clear 24 = .ok (.invokevirtual 45, 3) := dk_182 0 45 (dk_at dksJ6_clear_1 0 rfl rfl)
theorem dJ6_clear_27 : decode cJ6_clear 27 = .ok (.invokespecial 146, 3) := dk_183 0 146 (dk_at dksJ6_clear_1 3 rfl rfl)
theorem dJ6_clear_30 : decode cJ6_clear 30 = .ok (.athrow, 1) := dk_191 (dk_at dksJ6_clear_1 6 rfl rfl)
theorem dJ6_clear_31 : decode cJ6_clear 31 = .ok (.iload_n 1, 1) := dk_27 (dk_at dksJ6_clear_1 7 rfl rfl)
theorem dJ6_clear_32 : decode cJ6_clear 32 = .ok (.invokestatic 52, 3) := dk_184 0 52 (dk_at dksJ6_clear_1 8 rfl rfl)
theorem dJ6_clear_35 : decode cJ6_clear 35 = .ok (.istore_n 2, 1) := dk_61 (dk_at dksJ6_clear_1 11 rfl rfl)
theorem dJ6_clear_36 : decode cJ6_clear 36 = .ok (.iload_n 2, 1) := dk_28 (dk_at dksJ6_clear_1 12 rfl rfl)
theorem dJ6_clear_37 : decode cJ6_clear 37 = .ok (.aload_n 0, 1) := dk_42 (dk_at dksJ6_clear_1 13 rfl rfl)
theorem dJ6_clear_38 : decode cJ6_clear 38 = .ok (.getfield 7, 3) := dk_180 0 7 (dk_at dksJ6_clear_1 14 rfl rfl)
theorem dJ6_clear_41 : decode cJ6_clear 41 = .ok (.if_icmp .lt 4, 3) := dk_161 0 4 (dk_at dksJ6_clear_1 17 rfl rfl)
theorem dJ6_clear_44 : decode cJ6_clear 44 = .ok (.return_, 1) := dk_177 (dk_at dksJ6_clear_1 20 rfl rfl)
theorem dJ6_clear_45 : decode cJ6_clear 45 = .ok (.aload_n 0, 1) := dk_42 (dk_at dksJ6_clear_1 21 rfl rfl)
theorem dJ6_clear_46 : decode cJ6_clear 46 = .ok (.getfield 11, 3) := dk_180 0 11 (dk_at dksJ6_clear_2 0 rfl rfl)
theorem dJ6_clear_49 : decode cJ6_clear 49 = .ok (.iload_n 2, 1) := dk_28 (dk_at dksJ6_clear_2 3 rfl rfl)
theorem dJ6_clear_50 : decode cJ6_clear 50 = .ok (.dup2, 1) := dk_92 (dk_at dksJ6_clear_2 4 rfl rfl)
theorem dJ6_clear_51 : decode cJ6_clear 51 = .ok (.laload, 1) := dk_47 (dk_at dksJ6_clear_2 5 rfl rfl)
theorem dJ6_clear_52 : decode cJ6_clear 52 = .ok (.lconst 1, 1) := dk_10 (dk_at dksJ6_clear_2 6 rfl rfl)
theorem dJ6_clear_53 : decode cJ6_clear 53 = .ok (.iload_n 1, 1) := dk_27 (dk_at dksJ6_clear_2 7 rfl rfl)
theorem dJ6_clear_54 : decode cJ6_clear 54 = .ok (.lshl, 1) := dk_121 (dk_at dksJ6_clear_2 8 rfl rfl)
theorem dJ6_clear_55 : decode cJ6_clear 55 = .ok (.ldc2_w 165, 3) := dk_20 0 165 (dk_at dksJ6_clear_2 9 rfl rfl)
theorem dJ6_clear_58 : decode cJ6_clear 58 = .ok (.lxor, 1) := dk_131 (dk_at dksJ6_clear_2 12 rfl rfl)
theorem dJ6_clear_59 : decode cJ6_clear 59 = .ok (.land, 1) := dk_127 (dk_at dksJ6_clear_2 13 rfl rfl)
theorem dJ6_clear_60 : decode cJ6_clear 60 = .ok (.lastore, 1) := dk_80 (dk_at dksJ6_clear_2 14 rfl rfl)
theorem dJ6_clear_61 : decode cJ6_clear 61 = .ok (.aload_n 0, 1) := dk_42 (dk_at dksJ6_clear_2 15 rfl rfl)
theorem dJ6_clear_62 : decode cJ6_clear 62 = .ok (.invokevirtual 158, 3) := dk_182 0 158 (dk_at dksJ6_clear_2 16 rfl rfl)
theorem dJ6_clear_65 : decode cJ6_clear 65 = .ok (.aload_n 0, 1) := dk_42 (dk_at dksJ6_clear_2 19 rfl rfl)
theorem dJ6_clear_66 : decode cJ6_clear 66 = .ok (.invokevirtual 56, 3) := dk_182 0 56 (dk_at dksJ6_clear_2 20 rfl rfl)
theorem dJ6_clear_69 : decode cJ6_clear 69 = .ok (.return_, 1) := dk_177 (dk_at dksJ6_clear_2 23 rfl rfl)
abbrev cJ6_recalculateWordsInUse : ByteArray := prog_52_method_3_code
def yJ6_recalculateWordsInUse : MethodName := ⟨RJ6, "recalculateWordsInUse", "()V"⟩
def dkwJ6_recalculateWordsInUse_1 : List UInt8 := [167, 0, 9, 132, 1, 255, 167, 255, 235, 42, 27, 4, 96, 181, 0, 7, 177]
abbrev dktJ6_recalculateWordsInUse_1 : List UInt8 := dkwJ6_recalculateWordsInUse_1 ++ []
def dkwJ6_recalculateWordsInUse_0 : List UInt8 := [42, 180, 0, 7, 4, 100, 60, 27, 155, 0, 23, 42, 180, 0, 11, 27, 47, 9, 148, 153, 0, 6]
abbrev dktJ6_recalculateWordsInUse_0 : List UInt8 := dkwJ6_recalculateWordsInUse_0 ++ dktJ6_recalculateWordsInUse_1
theorem dksJ6_recalculateWordsInUse_0 : cJ6_recalculateWordsInUse.data.toList.drop 0 = dktJ6_recalculateWordsInUse_0 := by decide +kernel
theorem dksJ6_recalculateWordsInUse_1 : cJ6_recalculateWordsInUse.data.toList.drop 22 = dktJ6_recalculateWordsInUse_1 := dk_seg dksJ6_recalculateWordsInUse_0 22 rfl rfl
theorem dJ6_recalculateWordsInUse_0 : decode cJ6_recalculateWordsInUse 0 = .ok (.aload_n 0, 1) := dk_42 (dk_at dksJ6_recalculateWordsInUse_0 0 rfl rfl)
theorem dJ6_recalculateWordsInUse_1 : decode cJ6_recalculateWordsInUse 1 = .ok (.getfield 7, 3) := dk_180 0 7 (dk_at dksJ6_recalculateWordsInUse_0 1 rfl rfl)
theorem dJ6_recalculateWordsInUse_4 : decode cJ6_recalculateWordsInUse 4 = .ok (.iconst 1, 1) := dk_4 (dk_at dksJ6_recalculateWordsInUse_0 4 rfl rfl)
theorem dJ6_recalculateWordsInUse_5 : decode cJ6_recalculateWordsInUse 5 = .ok (.isub, 1) := dk_100 (dk_at dksJ6_recalculateWordsInUse_0 5 rfl rfl)
theorem dJ6_recalculateWordsInUse_6 : decode cJ6_recalculateWordsInUse 6 = .ok (.istore_n 1, 1) := dk_60 (dk_at dksJ6_recalculateWordsInUse_0 6 rfl rfl)
theorem dJ6_recalculateWordsInUse_7 : decode cJ6_recalculateWordsInUse 7 = .ok (.iload_n 1, 1) := dk_27 (dk_at dksJ6_recalculateWordsInUse_0 7 rfl rfl)
theorem dJ6_recalculateWordsInUse_8 : decode cJ6_recalculateWordsInUse 8 = .ok (.ifCond .lt 23, 3) := dk_155 0 23 (dk_at dksJ6_recalculateWordsInUse_0 8 rfl rfl)
theorem dJ6_recalculateWordsInUse_11 : decode cJ6_recalculateWordsInUse 11 = .ok (.aload_n 0, 1) := dk_42 (dk_at dksJ6_recalculateWordsInUse_0 11 rfl rfl)
theorem dJ6_recalculateWordsInUse_12 : decode cJ6_recalculateWordsInUse 12 = .ok (.getfield 11, 3) := dk_180 0 11 (dk_at dksJ6_recalculateWordsInUse_0 12 rfl rfl)
theorem dJ6_recalculateWordsInUse_15 : decode cJ6_recalculateWordsInUse 15 = .ok (.iload_n 1, 1) := dk_27 (dk_at dksJ6_recalculateWordsInUse_0 15 rfl rfl)
theorem dJ6_recalculateWordsInUse_16 : decode cJ6_recalculateWordsInUse 16 = .ok (.laload, 1) := dk_47 (dk_at dksJ6_recalculateWordsInUse_0 16 rfl rfl)
theorem dJ6_recalculateWordsInUse_17 : decode cJ6_recalculateWordsInUse 17 = .ok (.lconst 0, 1) := dk_9 (dk_at dksJ6_recalculateWordsInUse_0 17 rfl rfl)
theorem dJ6_recalculateWordsInUse_18 : decode cJ6_recalculateWordsInUse 18 = .ok (.lcmp, 1) := dk_148 (dk_at dksJ6_recalculateWordsInUse_0 18 rfl rfl)
theorem dJ6_recalculateWordsInUse_19 : decode cJ6_recalculateWordsInUse 19 = .ok (.ifCond .eq 6, 3) := dk_153 0 6 (dk_at dksJ6_recalculateWordsInUse_0 19 rfl rfl)
theorem dJ6_recalculateWordsInUse_22 : decode cJ6_recalculateWordsInUse 22 = .ok (.goto 9, 3) := dk_167 0 9 (dk_at dksJ6_recalculateWordsInUse_1 0 rfl rfl)
theorem dJ6_recalculateWordsInUse_25 : decode cJ6_recalculateWordsInUse 25 = .ok (.iinc 1 (-1), 3) := dk_132 1 255 (dk_at dksJ6_recalculateWordsInUse_1 3 rfl rfl)
theorem dJ6_recalculateWordsInUse_28 : decode cJ6_recalculateWordsInUse 28 = .ok (.goto (-21), 3) := dk_167 255 235 (dk_at dksJ6_recalculateWordsInUse_1 6 rfl rfl)
theorem dJ6_recalculateWordsInUse_31 : decode cJ6_recalculateWordsInUse 31 = .ok (.aload_n 0, 1) := dk_42 (dk_at dksJ6_recalculateWordsInUse_1 9 rfl rfl)
theorem dJ6_recalculateWordsInUse_32 : decode cJ6_recalculateWordsInUse 32 = .ok (.iload_n 1, 1) := dk_27 (dk_at dksJ6_recalculateWordsInUse_1 10 rfl rfl)
theorem dJ6_recalculateWordsInUse_33 : decode cJ6_recalculateWordsInUse 33 = .ok (.iconst 1, 1) := dk_4 (dk_at dksJ6_recalculateWordsInUse_1 11 rfl rfl)
theorem dJ6_recalculateWordsInUse_34 : decode cJ6_recalculateWordsInUse 34 = .ok (.iadd, 1) := dk_96 (dk_at dksJ6_recalculateWordsInUse_1 12 rfl rfl)
theorem dJ6_recalculateWordsInUse_35 : decode cJ6_recalculateWordsInUse 35 = .ok (.putfield 7, 3) := dk_181 0 7 (dk_at dksJ6_recalculateWordsInUse_1 13 rfl rfl)
theorem dJ6_recalculateWordsInUse_38 : decode cJ6_recalculateWordsInUse 38 = .ok (.return_, 1) := dk_177 (dk_at dksJ6_recalculateWordsInUse_1 16 rfl rfl)
abbrev cJ7_init : ByteArray := prog_11_method_2_code
def yJ7_init : MethodName := ⟨RJ7, "<init>", "(I)V"⟩
def dkwJ7_init_1 : List UInt8 := [167, 0, 16, 42, 27, 184, 0, 26, 181, 0, 15, 42, 4, 181, 0, 22, 177]
abbrev dktJ7_init_1 : List UInt8 := dkwJ7_init_1 ++ []
def dkwJ7_init_0 : List UInt8 := [42, 183, 0, 3, 178, 0, 18, 153, 0, 18, 42, 27, 188, 8, 181, 0, 15, 42, 3, 181, 0, 22]
abbrev dktJ7_init_0 : List UInt8 := dkwJ7_init_0 ++ dktJ7_init_1
theorem dksJ7_init_0 : cJ7_init.data.toList.drop 0 = dktJ7_init_0 := by decide +kernel
theorem dksJ7_init_1 : cJ7_init.data.toList.drop 22 = dktJ7_init_1 := dk_seg dksJ7_init_0 22 rfl rfl
theorem dJ7_init_0 : decode cJ7_init 0 = .ok (.aload_n 0, 1) := dk_42 (dk_at dksJ7_init_0 0 rfl rfl)
theorem dJ7_init_1 : decode cJ7_init 1 = .ok (.invokespecial 3, 3) := dk_183 0 3 (dk_at dksJ7_init_0 1 rfl rfl)
theorem dJ7_init_4 : decode cJ7_init 4 = .ok (.getstatic 18, 3) := dk_178 0 18 (dk_at dksJ7_init_0 4 rfl rfl)
theorem dJ7_init_7 : decode cJ7_init 7 = .ok (.ifCond .eq 18, 3) := dk_153 0 18 (dk_at dksJ7_init_0 7 rfl rfl)
theorem dJ7_init_10 : decode cJ7_init 10 = .ok (.aload_n 0, 1) := dk_42 (dk_at dksJ7_init_0 10 rfl rfl)
theorem dJ7_init_11 : decode cJ7_init 11 = .ok (.iload_n 1, 1) := dk_27 (dk_at dksJ7_init_0 11 rfl rfl)
theorem dJ7_init_12 : decode cJ7_init 12 = .ok (.newarray .byte, 2) := dk_188_8 (dk_at dksJ7_init_0 12 rfl rfl)
theorem dJ7_init_14 : decode cJ7_init 14 = .ok (.putfield 15, 3) := dk_181 0 15 (dk_at dksJ7_init_0 14 rfl rfl)
theorem dJ7_init_17 : decode cJ7_init 17 = .ok (.aload_n 0, 1) := dk_42 (dk_at dksJ7_init_0 17 rfl rfl)
theorem dJ7_init_18 : decode cJ7_init 18 = .ok (.iconst 0, 1) := dk_3 (dk_at dksJ7_init_0 18 rfl rfl)
theorem dJ7_init_19 : decode cJ7_init 19 = .ok (.putfield 22, 3) := dk_181 0 22 (dk_at dksJ7_init_0 19 rfl rfl)
theorem dJ7_init_22 : decode cJ7_init 22 = .ok (.goto 16, 3) := dk_167 0 16 (dk_at dksJ7_init_1 0 rfl rfl)
theorem dJ7_init_25 : decode cJ7_init 25 = .ok (.aload_n 0, 1) := dk_42 (dk_at dksJ7_init_1 3 rfl rfl)
theorem dJ7_init_26 : decode cJ7_init 26 = .ok (.iload_n 1, 1) := dk_27 (dk_at dksJ7_init_1 4 rfl rfl)
theorem dJ7_init_27 : decode cJ7_init 27 = .ok (.invokestatic 26, 3) := dk_184 0 26 (dk_at dksJ7_init_1 5 rfl rfl)
theorem dJ7_init_30 : decode cJ7_init 30 = .ok (.putfield 15, 3) := dk_181 0 15 (dk_at dksJ7_init_1 8 rfl rfl)
theorem dJ7_init_33 : decode cJ7_init 33 = .ok (.aload_n 0, 1) := dk_42 (dk_at dksJ7_init_1 11 rfl rfl)
theorem dJ7_init_34 : decode cJ7_init 34 = .ok (.iconst 1, 1) := dk_4 (dk_at dksJ7_init_1 12 rfl rfl)
theorem dJ7_init_35 : decode cJ7_init 35 = .ok (.putfield 22, 3) := dk_181 0 22 (dk_at dksJ7_init_1 13 rfl rfl)
theorem dJ7_init_38 : decode cJ7_init 38 = .ok (.return_, 1) := dk_177 (dk_at dksJ7_init_1 16 rfl rfl)
abbrev cJ7_append : ByteArray := prog_11_method_22_code
def yJ7_append : MethodName := ⟨RJ7, "append", "(Ljava/lang/String;)Ljava/lang/AbstractStringBuilder;"⟩
def dkwJ7_append_1 : List UInt8 := [42, 42, 180, 0, 79, 43, 182, 0, 208, 42, 89, 180, 0, 79, 28, 96, 181, 0, 79, 42, 176]
abbrev dktJ7_append_1 : List UInt8 := dkwJ7_append_1 ++ []
def dkwJ7_append_0 : List UInt8 := [43, 199, 0, 8, 42, 182, 0, 204, 176, 43, 182, 0, 32, 61, 42, 42, 180, 0, 79, 28, 96, 182, 0, 100]
abbrev dktJ7_append_0 : List UInt8 := dkwJ7_append_0 ++ dktJ7_append_1
theorem dksJ7_append_0 : cJ7_append.data.toList.drop 0 = dktJ7_append_0 := by decide +kernel
theorem dksJ7_append_1 : cJ7_append.data.toList.drop 24 = dktJ7_append_1 := dk_seg dksJ7_append_0 24 rfl rfl
theorem dJ7_append_0 : decode cJ7_append 0 = .ok (.aload_n 1, 1) := dk_43 (dk_at dksJ7_append_0 0 rfl rfl)
theorem dJ7_append_1 : decode cJ7_append 1 = .ok (.ifnonnull 8, 3) := dk_199 0 8 (dk_at dksJ7_append_0 1 rfl rfl)
theorem dJ7_append_4 : decode cJ7_append 4 = .ok (.aload_n 0, 1) := dk_42 (dk_at dksJ7_append_0 4 rfl rfl)
theorem dJ7_append_5 : decode cJ7_append 5 = .ok (.invokevirtual 204, 3) := dk_182 0 204 (dk_at dksJ7_append_0 5 rfl rfl)
theorem dJ7_append_8 : decode cJ7_append 8 = .ok (.areturn, 1) := dk_176 (dk_at dksJ7_append_0 8 rfl rfl)
theorem dJ7_append_9 : decode cJ7_append 9 = .ok (.aload_n 1, 1) := dk_43 (dk_at dksJ7_append_0 9 rfl rfl)
theorem dJ7_append_10 : decode cJ7_append 10 = .ok (.invokevirtual 32, 3) := dk_182 0 32 (dk_at dksJ7_append_0 10 rfl rfl)
theorem dJ7_append_13 : decode cJ7_append 13 = .ok (.istore_n 2, 1) := dk_61 (dk_at dksJ7_append_0 13 rfl rfl)
theorem dJ7_append_14 : decode cJ7_append 14 = .ok (.aload_n 0, 1) := dk_42 (dk_at dksJ7_append_0 14 rfl rfl)
theorem dJ7_append_15 : decode cJ7_append 15 = .ok (.aload_n 0, 1) := dk_42 (dk_at dksJ7_append_0 15 rfl rfl)
theorem dJ7_append_16 : decode cJ7_append 16 = .ok (.getfield 79, 3) := dk_180 0 79 (dk_at dksJ7_append_0 16 rfl rfl)
theorem dJ7_append_19 : decode cJ7_append 19 = .ok (.iload_n 2, 1) := dk_28 (dk_at dksJ7_append_0 19 rfl rfl)
theorem dJ7_append_20 : decode cJ7_append 20 = .ok (.iadd, 1) := dk_96 (dk_at dksJ7_append_0 20 rfl rfl)
theorem dJ7_append_21 : decode cJ7_append 21 = .ok (.invokevirtual 100, 3) := dk_182 0 100 (dk_at dksJ7_append_0 21 rfl rfl)
theorem dJ7_append_24 : decode cJ7_append 24 = .ok (.aload_n 0, 1) := dk_42 (dk_at dksJ7_append_1 0 rfl rfl)
theorem dJ7_append_25 : decode cJ7_append 25 = .ok (.aload_n 0, 1) := dk_42 (dk_at dksJ7_append_1 1 rfl rfl)
theorem dJ7_append_26 : decode cJ7_append 26 = .ok (.getfield 79, 3) := dk_180 0 79 (dk_at dksJ7_append_1 2 rfl rfl)
theorem dJ7_append_29 : decode cJ7_append 29 = .ok (.aload_n 1, 1) := dk_43 (dk_at dksJ7_append_1 5 rfl rfl)
theorem dJ7_append_30 : decode cJ7_append 30 = .ok (.invokevirtual 208, 3) := dk_182 0 208 (dk_at dksJ7_append_1 6 rfl rfl)
theorem dJ7_append_33 : decode cJ7_append 33 = .ok (.aload_n 0, 1) := dk_42 (dk_at dksJ7_append_1 9 rfl rfl)
theorem dJ7_append_34 : decode cJ7_append 34 = .ok (.dup, 1) := dk_89 (dk_at dksJ7_append_1 10 rfl rfl)
theorem dJ7_append_35 : decode cJ7_append 35 = .ok (.getfield 79, 3) := dk_180 0 79 (dk_at dksJ7_append_1 11 rfl rfl)
theorem dJ7_append_38 : decode cJ7_append 38 = .ok (.iload_n 2, 1) := dk_28 (dk_at dksJ7_append_1 14 rfl rfl)
theorem dJ7_append_39 : decode cJ7_append 39 = .ok (.iadd, 1) := dk_96 (dk_at dksJ7_append_1 15 rfl rfl)
theorem dJ7_append_40 : decode cJ7_append 40 = .ok (.putfield 79, 3) := dk_181 0 79 (dk_at dksJ7_append_1 16 rfl rfl)
theorem dJ7_append_43 : decode cJ7_append 43 = .ok (.aload_n 0, 1) := dk_42 (dk_at dksJ7_append_1 19 rfl rfl)
theorem dJ7_append_44 : decode cJ7_append 44 = .ok (.areturn, 1) := dk_176 (dk_at dksJ7_append_1 20 rfl rfl)
abbrev cJ7_appendNull : ByteArray := prog_11_method_26_code
def yJ7_appendNull : MethodName := ⟨RJ7, "appendNull", "()Ljava/lang/AbstractStringBuilder;"⟩
def dkwJ7_appendNull_3 : List UInt8 := [184, 0, 226, 60, 42, 27, 181, 0, 79, 42, 176]
abbrev dktJ7_appendNull_3 : List UInt8 := dkwJ7_appendNull_3 ++ []
def dkwJ7_appendNull_2 : List UInt8 := [16, 108, 84, 44, 27, 132, 1, 1, 16, 108, 84, 167, 0, 17, 44, 27, 16, 110, 16, 117, 16, 108, 16, 108]
abbrev dktJ7_appendNull_2 : List UInt8 := dkwJ7_appendNull_2 ++ dktJ7_appendNull_3
def dkwJ7_appendNull_1 : List UInt8 := [153, 0, 38, 44, 27, 132, 1, 1, 16, 110, 84, 44, 27, 132, 1, 1, 16, 117, 84, 44, 27, 132, 1, 1]
abbrev dktJ7_appendNull_1 : List UInt8 := dkwJ7_appendNull_1 ++ dktJ7_appendNull_2
def dkwJ7_appendNull_0 : List UInt8 := [42, 42, 180, 0, 79, 7, 96, 182, 0, 100, 42, 180, 0, 79, 60, 42, 180, 0, 15, 77, 42, 182, 0, 83]
abbrev dktJ7_appendNull_0 : List UInt8 := dkwJ7_appendNull_0 ++ dktJ7_appendNull_1
theorem dksJ7_appendNull_0 : cJ7_appendNull.data.toList.drop 0 = dktJ7_appendNull_0 := by decide +kernel
theorem dksJ7_appendNull_1 : cJ7_appendNull.data.toList.drop 24 = dktJ7_appendNull_1 := dk_seg dksJ7_appendNull_0 24 rfl rfl
theorem dksJ7_appendNull_2 : cJ7_appendNull.data.toList.drop 48 = dktJ7_appendNull_2 := dk_seg dksJ7_appendNull_1 24 rfl rfl
theorem dksJ7_appendNull_3 : cJ7_appendNull.data.toList.drop 72 = dktJ7_appendNull_3 := dk_seg dksJ7_appendNull_2 24 rfl rfl
theorem dJ7_appendNull_0 : decode cJ7_appendNull 0 = .ok (.aload_n 0, 1) := dk_42 (dk_at dksJ7_appendNull_0 0 rfl rfl)
theorem dJ7_appendNull_1 : decode cJ7_appendNull 1 = .ok (.aload_n 0, 1) := dk_42 (dk_at dksJ7_appendNull_0 1 rfl rfl)
theorem dJ7_appendNull_2 : decode cJ7_appendNull 2 = .ok (.getfield 79, 3) := dk_180 0 79 (dk_at dksJ7_appendNull_0 2 rfl rfl)
theorem dJ7_appendNull_5 : decode cJ7_appendNull 5 = .ok (.iconst 4, 1) := dk_7 (dk_at dksJ7_appendNull_0 5 rfl rfl)
theorem dJ7_appendNull_6 : decode cJ7_appendNull 6 = .ok (.iadd, 1) := dk_96 (dk_at dksJ7_appendNull_0 6 rfl rfl)
theorem dJ7_appendNull_7 : decode cJ7_appendNull 7 = .ok (.invokevirtual 100, 3) := dk_182 0 100 (dk_at dksJ7_appendNull_0 7 rfl rfl)
theorem dJ7_appendNull_10 : decode cJ7_appendNull 10 = .ok (.aload_n 0, 1) := dk_42 (dk_at dksJ7_appendNull_0 10 rfl rfl)
theorem dJ7_appendNull_11 : decode cJ7_appendNull 11 = .ok (.getfield 79, 3) := dk_180 0 79 (dk_at dksJ7_appendNull_0 11 rfl rfl)
theorem dJ7_appendNull_14 : decode cJ7_appendNull 14 = .ok (.istore_n 1, 1) := dk_60 (dk_at dksJ7_appendNull_0 14 rfl rfl)
theorem dJ7_appendNull_15 : decode cJ7_appendNull 15 = .ok (.aload_n 0, 1) := dk_42 (dk_at dksJ7_appendNull_0 15 rfl rfl)
theorem dJ7_appendNull_16 : decode cJ7_appendNull 16 = .ok (.getfield 15, 3) := dk_180 0 15 (dk_at dksJ7_appendNull_0 16 rfl rfl)
theorem dJ7_appendNull_19 : decode cJ7_appendNull 19 = .ok (.astore_n 2, 1) := dk_77 (dk_at dksJ7_appendNull_0 19 rfl rfl)
theorem dJ7_appendNull_20 : decode cJ7_appendNull 20 = .ok (.aload_n 0, 1) := dk_42 (dk_at dksJ7_appendNull_0 20 rfl rfl)
theorem dJ7_appendNull_21 : decode cJ7_appendNull 21 = .ok (.invokevirtual 83, 3) := dk_182 0 83 (dk_at dksJ7_appendNull_0 21 rfl rfl)
theorem dJ7_appendNull_24 : decode cJ7_appendNull 24 = .ok (.ifCond .eq 38, 3) := dk_153 0 38 (dk_at dksJ7_appendNull_1 0 rfl rfl)
theorem dJ7_appendNull_27 : decode cJ7_appendNull 27 = .ok (.aload_n 2, 1) := dk_44 (dk_at dksJ7_appendNull_1 3 rfl rfl)
theorem dJ7_appendNull_28 : decode cJ7_appendNull 28 = .ok (.iload_n 1, 1) := dk_27 (dk_at dksJ7_appendNull_1 4 rfl rfl)
theorem dJ7_appendNull_29 : decode cJ7_appendNull 29 = .ok (.iinc 1 1, 3) := dk_132 1 1 (dk_at dksJ7_appendNull_1 5 rfl rfl)
theorem dJ7_appendNull_32 : decode cJ7_appendNull 32 = .ok (.bipush 110, 2) := dk_16 110 (dk_at dksJ7_appendNull_1 8 rfl rfl)
theorem dJ7_appendNull_34 : decode cJ7_appendNull 34 = .ok (.bastore, 1) := dk_84 (dk_at dksJ7_appendNull_1 10 rfl rfl)
theorem dJ7_appendNull_35 : decode cJ7_appendNull 35 = .ok (.aload_n 2, 1) := dk_44 (dk_at dksJ7_appendNull_1 11 rfl rfl)
theorem dJ7_appendNull_36 : decode cJ7_appendNull 36 = .ok (.iload_n 1, 1) := dk_27 (dk_at dksJ7_appendNull_1 12 rfl rfl)
theorem dJ7_appendNull_37 : decode cJ7_appendNull 37 = .ok (.iinc 1 1, 3) := dk_132 1 1 (dk_at dksJ7_appendNull_1 13 rfl rfl)
theorem dJ7_appendNull_40 : decode cJ7_appendNull 40 = .ok (.bipush 117, 2) := dk_16 117 (dk_at dksJ7_appendNull_1 16 rfl rfl)
theorem dJ7_appendNull_42 : decode cJ7_appendNull 42 = .ok (.bastore, 1) := dk_84 (dk_at dksJ7_appendNull_1 18 rfl rfl)
theorem dJ7_appendNull_43 : decode cJ7_appendNull 43 = .ok (.aload_n 2, 1) := dk_44 (dk_at dksJ7_appendNull_1 19 rfl rfl)
theorem dJ7_appendNull_44 : decode cJ7_appendNull 44 = .ok (.iload_n 1, 1) := dk_27 (dk_at dksJ7_appendNull_1 20 rfl rfl)
theorem dJ7_appendNull_45 : decode cJ7_appendNull 45 = .ok (.iinc 1 1, 3) := dk_132 1 1 (dk_at dksJ7_appendNull_1 21 rfl rfl)
theorem dJ7_appendNull_48 : decode cJ7_appendNull 48 = .ok (.bipush 108, 2) := dk_16 108 (dk_at dksJ7_appendNull_2 0 rfl rfl)
theorem dJ7_appendNull_50 : decode cJ7_appendNull 50 = .ok (.bastore, 1) := dk_84 (dk_at dksJ7_appendNull_2 2 rfl rfl)
theorem dJ7_appendNull_51 : decode cJ7_appendNull 51 = .ok (.aload_n 2, 1) := dk_44 (dk_at dksJ7_appendNull_2 3 rfl rfl)
theorem dJ7_appendNull_52 : decode cJ7_appendNull 52 = .ok (.iload_n 1, 1) := dk_27 (dk_at dksJ7_appendNull_2 4 rfl rfl)
theorem dJ7_appendNull_53 : decode cJ7_appendNull 53 = .ok (.iinc 1 1, 3) := dk_132 1 1 (dk_at dksJ7_appendNull_2 5 rfl rfl)
theorem dJ7_appendNull_56 : decode cJ7_appendNull 56 = .ok (.bipush 108, 2) := dk_16 108 (dk_at dksJ7_appendNull_2 8 rfl rfl)
theorem dJ7_appendNull_58 : decode cJ7_appendNull 58 = .ok (.bastore, 1) := dk_84 (dk_at dksJ7_appendNull_2 10 rfl rfl)
theorem dJ7_appendNull_59 : decode cJ7_appendNull 59 = .ok (.goto 17, 3) := dk_167 0 17 (dk_at dksJ7_appendNull_2 11 rfl rfl)
theorem dJ7_appendNull_62 : decode cJ7_appendNull 62 = .ok (.aload_n 2, 1) := dk_44 (dk_at dksJ7_appendNull_2 14 rfl rfl)
theorem dJ7_appendNull_63 : decode cJ7_appendNull 63 = .ok (.iload_n 1, 1) := dk_27 (dk_at dksJ7_appendNull_2 15 rfl rfl)
theorem dJ7_appendNull_64 : decode cJ7_appendNull 64 = .ok (.bipush 110, 2) := dk_16 110 (dk_at dksJ7_appendNull_2 16 rfl rfl)
theorem dJ7_appendNull_66 : decode cJ7_appendNull 66 = .ok (.bipush 117, 2) := dk_16 117 (dk_at dksJ7_appendNull_2 18 rfl rfl)
theorem dJ7_appendNull_68 : decode cJ7_appendNull 68 = .ok (.bipush 108, 2) := dk_16 108 (dk_at dksJ7_appendNull_2 20 rfl rfl)
theorem dJ7_appendNull_70 : decode cJ7_appendNull 70 = .ok (.bipush 108, 2) := dk_16 108 (dk_at dksJ7_appendNull_2 22 rfl rfl)
theorem dJ7_appendNull_72 : decode cJ7_appendNull 72 = .ok (.invokestatic 226, 3) := dk_184 0 226 (dk_at dksJ7_appendNull_3 0 rfl rfl)
theorem dJ7_appendNull_75 : decode cJ7_appendNull 75 = .ok (.istore_n 1, 1) := dk_60 (dk_at dksJ7_appendNull_3 3 rfl rfl)
theorem dJ7_appendNull_76 : decode cJ7_appendNull 76 = .ok (.aload_n 0, 1) := dk_42 (dk_at dksJ7_appendNull_3 4 rfl rfl)
theorem dJ7_appendNull_77 : decode cJ7_appendNull 77 = .ok (.iload_n 1, 1) := dk_27 (dk_at dksJ7_appendNull_3 5 rfl rfl)
theorem dJ7_appendNull_78 : decode cJ7_appendNull 78 = .ok (.putfield 79, 3) := dk_181 0 79 (dk_at dksJ7_appendNull_3 6 rfl rfl)
theorem dJ7_appendNull_81 : decode cJ7_appendNull 81 = .ok (.aload_n 0, 1) := dk_42 (dk_at dksJ7_appendNull_3 9 rfl rfl)
theorem dJ7_appendNull_82 : decode cJ7_appendNull 82 = .ok (.areturn, 1) := dk_176 (dk_at dksJ7_appendNull_3 10 rfl rfl)
abbrev cJ7_ensureCapacityInternal : ByteArray := prog_11_method_9_code
def yJ7_ensureCapacityInternal : MethodName := ⟨RJ7, "ensureCapacityInternal", "(I)V"⟩
def dkwJ7_ensureCapacityInternal_1 : List UInt8 := [182, 0, 104, 42, 180, 0, 22, 120, 184, 0, 108, 181, 0, 15, 177]
abbrev dktJ7_ensureCapacityInternal_1 : List UInt8 := dkwJ7_ensureCapacityInternal_1 ++ []
def dkwJ7_ensureCapacityInternal_0 : List UInt8 := [42, 180, 0, 15, 190, 42, 180, 0, 22, 122, 61, 27, 28, 100, 158, 0, 24, 42, 42, 180, 0, 15, 42, 27]
abbrev dktJ7_ensureCapacityInternal_0 : List UInt8 := dkwJ7_ensureCapacityInternal_0 ++ dktJ7_ensureCapacityInternal_1
theorem dksJ7_ensureCapacityInternal_0 : cJ7_ensureCapacityInternal.data.toList.drop 0 = dktJ7_ensureCapacityInternal_0 := by decide +kernel
theorem dksJ7_ensureCapacityInternal_1 : cJ7_ensureCapacityInternal.data.toList.drop 24 = dktJ7_ensureCapacityInternal_1 := dk_seg dksJ7_ensureCapacityInternal_0 24 rfl rfl
theorem dJ7_ensureCapacityInternal_0 : decode cJ7_ensureCapacityInternal 0 = .ok (.aload_n 0, 1) := dk_42 (dk_at dksJ7_ensureCapacityInternal_0 0 rfl rfl)
theorem dJ7_ensureCapacityInternal_1 : decode cJ7_ensureCapacityInternal 1 = .ok (.getfield 15, 3) := dk_180 0 15 (dk_at dksJ7_ensureCapacityInternal_0 1 rfl rfl)
theorem dJ7_ensureCapacityInternal_4 : decode cJ7_ensureCapacityInternal 4 = .ok (.arraylength, 1) := dk_190 (dk_at dksJ7_ensureCapacityInternal_0 4 rfl rfl)
theorem dJ7_ensureCapacityInternal_5 : decode cJ7_ensureCapacityInternal 5 = .ok (.aload_n 0, 1) := dk_42 (dk_at dksJ7_ensureCapacityInternal_0 5 rfl rfl)
theorem dJ7_ensureCapacityInternal_6 : decode cJ7_ensureCapacityInternal 6 = .ok (.getfield 22, 3) := dk_180 0 22 (dk_at dksJ7_ensureCapacityInternal_0 6 rfl rfl)
theorem dJ7_ensureCapacityInternal_9 : decode cJ7_ensureCapacityInternal 9 = .ok (.ishr, 1) := dk_122 (dk_at dksJ7_ensureCapacityInternal_0 9 rfl rfl)
theorem dJ7_ensureCapacityInternal_10 : decode cJ7_ensureCapacityInternal 10 = .ok (.istore_n 2, 1) := dk_61 (dk_at dksJ7_ensureCapacityInternal_0 10 rfl rfl)
theorem dJ7_ensureCapacityInternal_11 : decode cJ7_ensureCapacityInternal 11 = .ok (.iload_n 1, 1) := dk_27 (dk_at dksJ7_ensureCapacityInternal_0 11 rfl rfl)
theorem dJ7_ensureCapacityInternal_12 : decode cJ7_ensureCapacityInternal 12 = .ok (.iload_n 2, 1) := dk_28 (dk_at dksJ7_ensureCapacityInternal_0 12 rfl rfl)
theorem dJ7_ensureCapacityInternal_13 : decode cJ7_ensureCapacityInternal 13 = .ok (.isub, 1) := dk_100 (dk_at dksJ7_ensureCapacityInternal_0 13 rfl rfl)
theorem dJ7_ensureCapacityInternal_14 : decode cJ7_ensureCapacityInternal 14 = .ok (.ifCond .le 24, 3) := dk_158 0 24 (dk_at dksJ7_ensureCapacityInternal_0 14 rfl rfl)
theorem dJ7_ensureCapacityInternal_17 : decode cJ7_ensureCapacityInternal 17 = .ok (.aload_n 0, 1) := dk_42 (dk_at dksJ7_ensureCapacityInternal_0 17 rfl rfl)
theorem dJ7_ensureCapacityInternal_18 : decode cJ7_ensureCapacityInternal 18 = .ok (.aload_n 0, 1) := dk_42 (dk_at dksJ7_ensureCapacityInternal_0 18 rfl rfl)
theorem dJ7_ensureCapacityInternal_19 : decode cJ7_ensureCapacityInternal 19 = .ok (.getfield 15, 3) := dk_180 0 15 (dk_at dksJ7_ensureCapacityInternal_0 19 rfl rfl)
theorem dJ7_ensureCapacityInternal_22 : decode cJ7_ensureCapacityInternal 22 = .ok (.aload_n 0, 1) := dk_42 (dk_at dksJ7_ensureCapacityInternal_0 22 rfl rfl)
theorem dJ7_ensureCapacityInternal_23 : decode cJ7_ensureCapacityInternal 23 = .ok (.iload_n 1, 1) := dk_27 (dk_at dksJ7_ensureCapacityInternal_0 23 rfl rfl)
theorem dJ7_ensureCapacityInternal_24 : decode cJ7_ensureCapacityInternal 24 = .ok (.invokevirtual 104, 3) := dk_182 0 104 (dk_at dksJ7_ensureCapacityInternal_1 0 rfl rfl)
theorem dJ7_ensureCapacityInternal_27 : decode cJ7_ensureCapacityInternal 27 = .ok (.aload_n 0, 1) := dk_42 (dk_at dksJ7_ensureCapacityInternal_1 3 rfl rfl)
theorem dJ7_ensureCapacityInternal_28 : decode cJ7_ensureCapacityInternal 28 = .ok (.getfield 22, 3) := dk_180 0 22 (dk_at dksJ7_ensureCapacityInternal_1 4 rfl rfl)
theorem dJ7_ensureCapacityInternal_31 : decode cJ7_ensureCapacityInternal 31 = .ok (.ishl, 1) := dk_120 (dk_at dksJ7_ensureCapacityInternal_1 7 rfl rfl)
theorem dJ7_ensureCapacityInternal_32 : decode cJ7_ensureCapacityInternal 32 = .ok (.invokestatic 108, 3) := dk_184 0 108 (dk_at dksJ7_ensureCapacityInternal_1 8 rfl rfl)
theorem dJ7_ensureCapacityInternal_35 : decode cJ7_ensureCapacityInternal 35 = .ok (.putfield 15, 3) := dk_181 0 15 (dk_at dksJ7_ensureCapacityInternal_1 11 rfl rfl)
theorem dJ7_ensureCapacityInternal_38 : decode cJ7_ensureCapacityInternal 38 = .ok (.return_, 1) := dk_177 (dk_at dksJ7_ensureCapacityInternal_1 14 rfl rfl)
abbrev cJ7_newCapacity : ByteArray := prog_11_method_10_code
def yJ7_newCapacity : MethodName := ⟨RJ7, "newCapacity", "(I)I"⟩
def dkwJ7_newCapacity_2 : List UInt8 := [183, 0, 124, 191, 21, 5, 42, 180, 0, 22, 122, 172]
abbrev dktJ7_newCapacity_2 : List UInt8 := dkwJ7_newCapacity_2 ++ []
def dkwJ7_newCapacity_1 : List UInt8 := [180, 0, 22, 120, 96, 184, 0, 114, 54, 5, 21, 5, 18, 39, 160, 0, 13, 187, 0, 120, 89, 18, 122]
abbrev dktJ7_newCapacity_1 : List UInt8 := dkwJ7_newCapacity_1 ++ dktJ7_newCapacity_2
def dkwJ7_newCapacity_0 : List UInt8 := [42, 180, 0, 15, 190, 61, 27, 42, 180, 0, 22, 120, 62, 29, 28, 100, 54, 4, 28, 21, 4, 28, 5, 42]
abbrev dktJ7_newCapacity_0 : List UInt8 := dkwJ7_newCapacity_0 ++ dktJ7_newCapacity_1
theorem dksJ7_newCapacity_0 : cJ7_newCapacity.data.toList.drop 0 = dktJ7_newCapacity_0 := by decide +kernel
theorem dksJ7_newCapacity_1 : cJ7_newCapacity.data.toList.drop 24 = dktJ7_newCapacity_1 := dk_seg dksJ7_newCapacity_0 24 rfl rfl
theorem dksJ7_newCapacity_2 : cJ7_newCapacity.data.toList.drop 47 = dktJ7_newCapacity_2 := dk_seg dksJ7_newCapacity_1 23 rfl rfl
theorem dJ7_newCapacity_0 : decode cJ7_newCapacity 0 = .ok (.aload_n 0, 1) := dk_42 (dk_at dksJ7_newCapacity_0 0 rfl rfl)
theorem dJ7_newCapacity_1 : decode cJ7_newCapacity 1 = .ok (.getfield 15, 3) := dk_180 0 15 (dk_at dksJ7_newCapacity_0 1 rfl rfl)
theorem dJ7_newCapacity_4 : decode cJ7_newCapacity 4 = .ok (.arraylength, 1) := dk_190 (dk_at dksJ7_newCapacity_0 4 rfl rfl)
theorem dJ7_newCapacity_5 : decode cJ7_newCapacity 5 = .ok (.istore_n 2, 1) := dk_61 (dk_at dksJ7_newCapacity_0 5 rfl rfl)
theorem dJ7_newCapacity_6 : decode cJ7_newCapacity 6 = .ok (.iload_n 1, 1) := dk_27 (dk_at dksJ7_newCapacity_0 6 rfl rfl)
theorem dJ7_newCapacity_7 : decode cJ7_newCapacity 7 = .ok (.aload_n 0, 1) := dk_42 (dk_at dksJ7_newCapacity_0 7 rfl rfl)
theorem dJ7_newCapacity_8 : decode cJ7_newCapacity 8 = .ok (.getfield 22, 3) := dk_180 0 22 (dk_at dksJ7_newCapacity_0 8 rfl rfl)
theorem dJ7_newCapacity_11 : decode cJ7_newCapacity 11 = .ok (.ishl, 1) := dk_120 (dk_at dksJ7_newCapacity_0 11 rfl rfl)
theorem dJ7_newCapacity_12 : decode cJ7_newCapacity 12 = .ok (.istore_n 3, 1) := dk_62 (dk_at dksJ7_newCapacity_0 12 rfl rfl)
theorem dJ7_newCapacity_13 : decode cJ7_newCapacity 13 = .ok (.iload_n 3, 1) := dk_29 (dk_at dksJ7_newCapacity_0 13 rfl rfl)
theorem dJ7_newCapacity_14 : decode cJ7_newCapacity 14 = .ok (.iload_n 2, 1) := dk_28 (dk_at dksJ7_newCapacity_0 14 rfl rfl)
theorem dJ7_newCapacity_15 : decode cJ7_newCapacity 15 = .ok (.isub, 1) := dk_100 (dk_at dksJ7_newCapacity_0 15 rfl rfl)
theorem dJ7_newCapacity_16 : decode cJ7_newCapacity 16 = .ok (.istore 4, 2) := dk_54 4 (dk_at dksJ7_newCapacity_0 16 rfl rfl)
theorem dJ7_newCapacity_18 : decode cJ7_newCapacity 18 = .ok (.iload_n 2, 1) := dk_28 (dk_at dksJ7_newCapacity_0 18 rfl rfl)
theorem dJ7_newCapacity_19 : decode cJ7_newCapacity 19 = .ok (.iload 4, 2) := dk_21 4 (dk_at dksJ7_newCapacity_0 19 rfl rfl)
theorem dJ7_newCapacity_21 : decode cJ7_newCapacity 21 = .ok (.iload_n 2, 1) := dk_28 (dk_at dksJ7_newCapacity_0 21 rfl rfl)
theorem dJ7_newCapacity_22 : decode cJ7_newCapacity 22 = .ok (.iconst 2, 1) := dk_5 (dk_at dksJ7_newCapacity_0 22 rfl rfl)
theorem dJ7_newCapacity_23 : decode cJ7_newCapacity 23 = .ok (.aload_n 0, 1) := dk_42 (dk_at dksJ7_newCapacity_0 23 rfl rfl)
theorem dJ7_newCapacity_24 : decode cJ7_newCapacity 24 = .ok (.getfield 22, 3) := dk_180 0 22 (dk_at dksJ7_newCapacity_1 0 rfl rfl)
theorem dJ7_newCapacity_27 : decode cJ7_newCapacity 27 = .ok (.ishl, 1) := dk_120 (dk_at dksJ7_newCapacity_1 3 rfl rfl)
theorem dJ7_newCapacity_28 : decode cJ7_newCapacity 28 = .ok (.iadd, 1) := dk_96 (dk_at dksJ7_newCapacity_1 4 rfl rfl)
theorem dJ7_newCapacity_29 : decode cJ7_newCapacity 29 = .ok (.invokestatic 114, 3) := dk_184 0 114 (dk_at dksJ7_newCapacity_1 5 rfl rfl)
theorem dJ7_newCapacity_32 : decode cJ7_newCapacity 32 = .ok (.istore 5, 2) := dk_54 5 (dk_at dksJ7_newCapacity_1 8 rfl rfl)
theorem dJ7_newCapacity_34 : decode cJ7_newCapacity 34 = .ok (.iload 5, 2) := dk_21 5 (dk_at dksJ7_newCapacity_1 10 rfl rfl)
theorem dJ7_newCapacity_36 : decode cJ7_newCapacity 36 = .ok (.ldc 39, 2) := dk_18 39 (dk_at dksJ7_newCapacity_1 12 rfl rfl)
theorem dJ7_newCapacity_38 : decode cJ7_newCapacity 38 = .ok (.if_icmp .ne 13, 3) := dk_160 0 13 (dk_at dksJ7_newCapacity_1 14 rfl rfl)
theorem dJ7_newCapacity_41 : decode cJ7_newCapacity 41 = .ok (.new 120, 3) := dk_187 0 120 (dk_at dksJ7_newCapacity_1 17 rfl rfl)
theorem dJ7_newCapacity_44 : decode cJ7_newCapacity 44 = .ok (.dup, 1) := dk_89 (dk_at dksJ7_newCapacity_1 20 rfl rfl)
theorem dJ7_newCapacity_45 : decode cJ7_newCapacity 45 = .ok (.ldc 122, 2) := dk_18 122 (dk_at dksJ7_newCapacity_1 21 rfl rfl)
theorem dJ7_newCapacity_47 : decode cJ7_newCapacity 47 = .ok (.invokespecial 124, 3) := dk_183 0 124 (dk_at dksJ7_newCapacity_2 0 rfl rfl)
theorem dJ7_newCapacity_50 : decode cJ7_newCapacity 50 = .ok (.athrow, 1) := dk_191 (dk_at dksJ7_newCapacity_2 3 rfl rfl)
theorem dJ7_newCapacity_51 : decode cJ7_newCapacity 51 = .ok (.iload 5, 2) := dk_21 5 (dk_at dksJ7_newCapacity_2 4 rfl rfl)
theorem dJ7_newCapacity_53 : decode cJ7_newCapacity 53 = .ok (.aload_n 0, 1) := dk_42 (dk_at dksJ7_newCapacity_2 6 rfl rfl)
theorem dJ7_newCapacity_54 : decode cJ7_newCapacity 54 = .ok (.getfield 22, 3) := dk_180 0 22 (dk_at dksJ7_newCapacity_2 7 rfl rfl)
theorem dJ7_newCapacity_57 : decode cJ7_newCapacity 57 = .ok (.ishr, 1) := dk_122 (dk_at dksJ7_newCapacity_2 10 rfl rfl)
theorem dJ7_newCapacity_58 : decode cJ7_newCapacity 58 = .ok (.ireturn, 1) := dk_172 (dk_at dksJ7_newCapacity_2 11 rfl rfl)
abbrev cJ7_isLatin1 : ByteArray := prog_11_method_68_code
def yJ7_isLatin1 : MethodName := ⟨RJ7, "isLatin1", "()Z"⟩
def dkwJ7_isLatin1_0 : List UInt8 := [178, 0, 18, 153, 0, 14, 42, 180, 0, 22, 154, 0, 7, 4, 167, 0, 4, 3, 172]
abbrev dktJ7_isLatin1_0 : List UInt8 := dkwJ7_isLatin1_0 ++ []
theorem dksJ7_isLatin1_0 : cJ7_isLatin1.data.toList.drop 0 = dktJ7_isLatin1_0 := by decide +kernel
theorem dJ7_isLatin1_0 : decode cJ7_isLatin1 0 = .ok (.getstatic 18, 3) := dk_178 0 18 (dk_at dksJ7_isLatin1_0 0 rfl rfl)
theorem dJ7_isLatin1_3 : decode cJ7_isLatin1 3 = .ok (.ifCond .eq 14, 3) := dk_153 0 14 (dk_at dksJ7_isLatin1_0 3 rfl rfl)
theorem dJ7_isLatin1_6 : decode cJ7_isLatin1 6 = .ok (.aload_n 0, 1) := dk_42 (dk_at dksJ7_isLatin1_0 6 rfl rfl)
theorem dJ7_isLatin1_7 : decode cJ7_isLatin1 7 = .ok (.getfield 22, 3) := dk_180 0 22 (dk_at dksJ7_isLatin1_0 7 rfl rfl)
theorem dJ7_isLatin1_10 : decode cJ7_isLatin1 10 = .ok (.ifCond .ne 7, 3) := dk_154 0 7 (dk_at dksJ7_isLatin1_0 10 rfl rfl)
theorem dJ7_isLatin1_13 : decode cJ7_isLatin1 13 = .ok (.iconst 1, 1) := dk_4 (dk_at dksJ7_isLatin1_0 13 rfl rfl)
theorem dJ7_isLatin1_14 : decode cJ7_isLatin1 14 = .ok (.goto 4, 3) := dk_167 0 4 (dk_at dksJ7_isLatin1_0 14 rfl rfl)
theorem dJ7_isLatin1_17 : decode cJ7_isLatin1 17 = .ok (.iconst 0, 1) := dk_3 (dk_at dksJ7_isLatin1_0 17 rfl rfl)
theorem dJ7_isLatin1_18 : decode cJ7_isLatin1 18 = .ok (.ireturn, 1) := dk_172 (dk_at dksJ7_isLatin1_0 18 rfl rfl)
abbrev cJ7_putStringAt : ByteArray := prog_11_method_73_code
def yJ7_putStringAt : MethodName := ⟨RJ7, "putStringAt", "(ILjava/lang/String;)V"⟩
def dkwJ7_putStringAt_0 : List UInt8 := [42, 44, 182, 1, 141, 44, 42, 180, 0, 15, 27, 42, 180, 0, 22, 182, 1, 143, 177]
abbrev dktJ7_putStringAt_0 : List UInt8 := dkwJ7_putStringAt_0 ++ []
theorem dksJ7_putStringAt_0 : cJ7_putStringAt.data.toList.drop 0 = dktJ7_putStringAt_0 := by decide +kernel
theorem dJ7_putStringAt_0 : decode cJ7_putStringAt 0 = .ok (.aload_n 0, 1) := dk_42 (dk_at dksJ7_putStringAt_0 0 rfl rfl)
theorem dJ7_putStringAt_1 : decode cJ7_putStringAt 1 = .ok (.aload_n 2, 1) := dk_44 (dk_at dksJ7_putStringAt_0 1 rfl rfl)
theorem dJ7_putStringAt_2 : decode cJ7_putStringAt 2 = .ok (.invokevirtual 397, 3) := dk_182 1 141 (dk_at dksJ7_putStringAt_0 2 rfl rfl)
theorem dJ7_putStringAt_5 : decode cJ7_putStringAt 5 = .ok (.aload_n 2, 1) := dk_44 (dk_at dksJ7_putStringAt_0 5 rfl rfl)
theorem dJ7_putStringAt_6 : decode cJ7_putStringAt 6 = .ok (.aload_n 0, 1) := dk_42 (dk_at dksJ7_putStringAt_0 6 rfl rfl)
theorem dJ7_putStringAt_7 : decode cJ7_putStringAt 7 = .ok (.getfield 15, 3) := dk_180 0 15 (dk_at dksJ7_putStringAt_0 7 rfl rfl)
theorem dJ7_putStringAt_10 : decode cJ7_putStringAt 10 = .ok (.iload_n 1, 1) := dk_27 (dk_at dksJ7_putStringAt_0 10 rfl rfl)
theorem dJ7_putStringAt_11 : decode cJ7_putStringAt 11 = .ok (.aload_n 0, 1) := dk_42 (dk_at dksJ7_putStringAt_0 11 rfl rfl)
theorem dJ7_putStringAt_12 : decode cJ7_putStringAt 12 = .ok (.getfield 22, 3) := dk_180 0 22 (dk_at dksJ7_putStringAt_0 12 rfl rfl)
theorem dJ7_putStringAt_15 : decode cJ7_putStringAt 15 = .ok (.invokevirtual 399, 3) := dk_182 1 143 (dk_at dksJ7_putStringAt_0 15 rfl rfl)
theorem dJ7_putStringAt_18 : decode cJ7_putStringAt 18 = .ok (.return_, 1) := dk_177 (dk_at dksJ7_putStringAt_0 18 rfl rfl)
abbrev cJ7_inflateIfNeededFor : ByteArray := prog_11_method_71_code
def yJ7_inflateIfNeededFor : MethodName := ⟨RJ7, "inflateIfNeededFor", "(Ljava/lang/String;)V"⟩
def dkwJ7_inflateIfNeededFor_0 : List UInt8 := [178, 0, 18, 153, 0, 18, 42, 180, 0, 22, 43, 182, 0, 40, 159, 0, 7, 42, 182, 0, 195, 177]
abbrev dktJ7_inflateIfNeededFor_0 : List UInt8 := dkwJ7_inflateIfNeededFor_0 ++ []
theorem dksJ7_inflateIfNeededFor_0 : cJ7_inflateIfNeededFor.data.toList.drop 0 = dktJ7_inflateIfNeededFor_0 := by decide +kernel
theorem dJ7_inflateIfNeededFor_0 : decode cJ7_inflateIfNeededFor 0 = .ok (.getstatic 18, 3) := dk_178 0 18 (dk_at dksJ7_inflateIfNeededFor_0 0 rfl rfl)
theorem dJ7_inflateIfNeededFor_3 : decode cJ7_inflateIfNeededFor 3 = .ok (.ifCond .eq 18, 3) := dk_153 0 18 (dk_at dksJ7_inflateIfNeededFor_0 3 rfl rfl)
theorem dJ7_inflateIfNeededFor_6 : decode cJ7_inflateIfNeededFor 6 = .ok (.aload_n 0, 1) := dk_42 (dk_at dksJ7_inflateIfNeededFor_0 6 rfl rfl)
theorem dJ7_inflateIfNeededFor_7 : decode cJ7_inflateIfNeededFor 7 = .ok (.getfield 22, 3) := dk_180 0 22 (dk_at dksJ7_inflateIfNeededFor_0 7 rfl rfl)
theorem dJ7_inflateIfNeededFor_10 : decode cJ7_inflateIfNeededFor 10 = .ok (.aload_n 1, 1) := dk_43 (dk_at dksJ7_inflateIfNeededFor_0 10 rfl rfl)
theorem dJ7_inflateIfNeededFor_11 : decode cJ7_inflateIfNeededFor 11 = .ok (.invokevirtual 40, 3) := dk_182 0 40 (dk_at dksJ7_inflateIfNeededFor_0 11 rfl rfl)
theorem dJ7_inflateIfNeededFor_14 : decode cJ7_inflateIfNeededFor 14 = .ok (.if_icmp .eq 7, 3) := dk_159 0 7 (dk_at dksJ7_inflateIfNeededFor_0 14 rfl rfl)
theorem dJ7_inflateIfNeededFor_17 : decode cJ7_inflateIfNeededFor 17 = .ok (.aload_n 0, 1) := dk_42 (dk_at dksJ7_inflateIfNeededFor_0 17 rfl rfl)
theorem dJ7_inflateIfNeededFor_18 : decode cJ7_inflateIfNeededFor 18 = .ok (.invokevirtual 195, 3) := dk_182 0 195 (dk_at dksJ7_inflateIfNeededFor_0 18 rfl rfl)
theorem dJ7_inflateIfNeededFor_21 : decode cJ7_inflateIfNeededFor 21 = .ok (.return_, 1) := dk_177 (dk_at dksJ7_inflateIfNeededFor_0 21 rfl rfl)
abbrev cJ7_inflate : ByteArray := prog_11_method_11_code
def yJ7_inflate : MethodName := ⟨RJ7, "inflate", "()V"⟩
def dkwJ7_inflate_1 : List UInt8 := [42, 180, 0, 79, 184, 0, 125, 42, 43, 181, 0, 15, 42, 4, 181, 0, 22, 177]
abbrev dktJ7_inflate_1 : List UInt8 := dkwJ7_inflate_1 ++ []
def dkwJ7_inflate_0 : List UInt8 := [42, 182, 0, 83, 154, 0, 4, 177, 42, 180, 0, 15, 190, 184, 0, 26, 76, 42, 180, 0, 15, 3, 43, 3]
abbrev dktJ7_inflate_0 : List UInt8 := dkwJ7_inflate_0 ++ dktJ7_inflate_1
theorem dksJ7_inflate_0 : cJ7_inflate.data.toList.drop 0 = dktJ7_inflate_0 := by decide +kernel
theorem dksJ7_inflate_1 : cJ7_inflate.data.toList.drop 24 = dktJ7_inflate_1 := dk_seg dksJ7_inflate_0 24 rfl rfl
theorem dJ7_inflate_0 : decode cJ7_inflate 0 = .ok (.aload_n 0, 1) := dk_42 (dk_at dksJ7_inflate_0 0 rfl rfl)
theorem dJ7_inflate_1 : decode cJ7_inflate 1 = .ok (.invokevirtual 83, 3) := dk_182 0 83 (dk_at dksJ7_inflate_0 1 rfl rfl)
theorem dJ7_inflate_4 : decode cJ7_inflate 4 = .ok (.ifCond .ne 4, 3) := dk_154 0 4 (dk_at dksJ7_inflate_0 4 rfl rfl)
theorem dJ7_inflate_7 : decode cJ7_inflate 7 = .ok (.return_, 1) := dk_177 (dk_at dksJ7_inflate_0 7 rfl rfl)
theorem dJ7_inflate_8 : decode cJ7_inflate 8 = .ok (.aload_n 0, 1) := dk_42 (dk_at dksJ7_inflate_0 8 rfl rfl)
theorem dJ7_inflate_9 : decode cJ7_inflate 9 = .ok (.getfield 15, 3) := dk_180 0 15 (dk_at dksJ7_inflate_0 9 rfl rfl)
theorem dJ7_inflate_12 : decode cJ7_inflate 12 = .ok (.arraylength, 1) := dk_190 (dk_at dksJ7_inflate_0 12 rfl rfl)
theorem dJ7_inflate_13 : decode cJ7_inflate 13 = .ok (.invokestatic 26, 3) := dk_184 0 26 (dk_at dksJ7_inflate_0 13 rfl rfl)
theorem dJ7_inflate_16 : decode cJ7_inflate 16 = .ok (.astore_n 1, 1) := dk_76 (dk_at dksJ7_inflate_0 16 rfl rfl)
theorem dJ7_inflate_17 : decode cJ7_inflate 17 = .ok (.aload_n 0, 1) := dk_42 (dk_at dksJ7_inflate_0 17 rfl rfl)
theorem dJ7_inflate_18 : decode cJ7_inflate 18 = .ok (.getfield 15, 3) := dk_180 0 15 (dk_at dksJ7_inflate_0 18 rfl rfl)
theorem dJ7_inflate_21 : decode cJ7_inflate 21 = .ok (.iconst 0, 1) := dk_3 (dk_at dksJ7_inflate_0 21 rfl rfl)
theorem dJ7_inflate_22 : decode cJ7_inflate 22 = .ok (.aload_n 1, 1) := dk_43 (dk_at dksJ7_inflate_0 22 rfl rfl)
theorem dJ7_inflate_23 : decode cJ7_inflate 23 = .ok (.iconst 0, 1) := dk_3 (dk_at dksJ7_inflate_0 23 rfl rfl)
theorem dJ7_inflate_24 : decode cJ7_inflate 24 = .ok (.aload_n 0, 1) := dk_42 (dk_at dksJ7_inflate_1 0 rfl rfl)
theorem dJ7_inflate_25 : decode cJ7_inflate 25 = .ok (.getfield 79, 3) := dk_180 0 79 (dk_at dksJ7_inflate_1 1 rfl rfl)
theorem dJ7_inflate_28 : decode cJ7_inflate 28 = .ok (.invokestatic 125, 3) := dk_184 0 125 (dk_at dksJ7_inflate_1 4 rfl rfl)
theorem dJ7_inflate_31 : decode cJ7_inflate 31 = .ok (.aload_n 0, 1) := dk_42 (dk_at dksJ7_inflate_1 7 rfl rfl)
theorem dJ7_inflate_32 : decode cJ7_inflate 32 = .ok (.aload_n 1, 1) := dk_43 (dk_at dksJ7_inflate_1 8 rfl rfl)
theorem dJ7_inflate_33 : decode cJ7_inflate 33 = .ok (.putfield 15, 3) := dk_181 0 15 (dk_at dksJ7_inflate_1 9 rfl rfl)
theorem dJ7_inflate_36 : decode cJ7_inflate 36 = .ok (.aload_n 0, 1) := dk_42 (dk_at dksJ7_inflate_1 12 rfl rfl)
theorem dJ7_inflate_37 : decode cJ7_inflate 37 = .ok (.iconst 1, 1) := dk_4 (dk_at dksJ7_inflate_1 13 rfl rfl)
theorem dJ7_inflate_38 : decode cJ7_inflate 38 = .ok (.putfield 22, 3) := dk_181 0 22 (dk_at dksJ7_inflate_1 14 rfl rfl)
theorem dJ7_inflate_41 : decode cJ7_inflate 41 = .ok (.return_, 1) := dk_177 (dk_at dksJ7_inflate_1 17 rfl rfl)
abbrev cJ7_append_2 : ByteArray := prog_11_method_32_code
def yJ7_append_2 : MethodName := ⟨RJ7, "append", "(I)Ljava/lang/AbstractStringBuilder;"⟩
def dkwJ7_append_2_2 : List UInt8 := [42, 29, 181, 0, 79, 42, 176]
abbrev dktJ7_append_2_2 : List UInt8 := dkwJ7_append_2_2 ++ []
def dkwJ7_append_2_1 : List UInt8 := [27, 29, 42, 180, 0, 15, 184, 0, 248, 87, 167, 0, 14, 27, 28, 29, 42, 180, 0, 15, 184, 0, 251, 87]
abbrev dktJ7_append_2_1 : List UInt8 := dkwJ7_append_2_1 ++ dktJ7_append_2_2
def dkwJ7_append_2_0 : List UInt8 := [42, 180, 0, 79, 61, 28, 27, 184, 0, 245, 96, 62, 42, 29, 182, 0, 100, 42, 182, 0, 83, 153, 0, 16]
abbrev dktJ7_append_2_0 : List UInt8 := dkwJ7_append_2_0 ++ dktJ7_append_2_1
theorem dksJ7_append_2_0 : cJ7_append_2.data.toList.drop 0 = dktJ7_append_2_0 := by decide +kernel
theorem dksJ7_append_2_1 : cJ7_append_2.data.toList.drop 24 = dktJ7_append_2_1 := dk_seg dksJ7_append_2_0 24 rfl rfl
theorem dksJ7_append_2_2 : cJ7_append_2.data.toList.drop 48 = dktJ7_append_2_2 := dk_seg dksJ7_append_2_1 24 rfl rfl
theorem dJ7_append_2_0 : decode cJ7_append_2 0 = .ok (.aload_n 0, 1) := dk_42 (dk_at dksJ7_append_2_0 0 rfl rfl)
theorem dJ7_append_2_1 : decode cJ7_append_2 1 = .ok (.getfield 79, 3) := dk_180 0 79 (dk_at dksJ7_append_2_0 1 rfl rfl)
theorem dJ7_append_2_4 : decode cJ7_append_2 4 = .ok (.istore_n 2, 1) := dk_61 (dk_at dksJ7_append_2_0 4 rfl rfl)
theorem dJ7_append_2_5 : decode cJ7_append_2 5 = .ok (.iload_n 2, 1) := dk_28 (dk_at dksJ7_append_2_0 5 rfl rfl)
theorem dJ7_append_2_6 : decode cJ7_append_2 6 = .ok (.iload_n 1, 1) := dk_27 (dk_at dksJ7_append_2_0 6 rfl rfl)
theorem dJ7_append_2_7 : decode cJ7_append_2 7 = .ok (.invokestatic 245, 3) := dk_184 0 245 (dk_at dksJ7_append_2_0 7 rfl rfl)
theorem dJ7_append_2_10 : decode cJ7_append_2 10 = .ok (.iadd, 1) := dk_96 (dk_at dksJ7_append_2_0 10 rfl rfl)
theorem dJ7_append_2_11 : decode cJ7_append_2 11 = .ok (.istore_n 3, 1) := dk_62 (dk_at dksJ7_append_2_0 11 rfl rfl)
theorem dJ7_append_2_12 : decode cJ7_append_2 12 = .ok (.aload_n 0, 1) := dk_42 (dk_at dksJ7_append_2_0 12 rfl rfl)
theorem dJ7_append_2_13 : decode cJ7_append_2 13 = .ok (.iload_n 3, 1) := dk_29 (dk_at dksJ7_append_2_0 13 rfl rfl)
theorem dJ7_append_2_14 : decode cJ7_append_2 14 = .ok (.invokevirtual 100, 3) := dk_182 0 100 (dk_at dksJ7_append_2_0 14 rfl rfl)
theorem dJ7_append_2_17 : decode cJ7_append_2 17 = .ok (.aload_n 0, 1) := dk_42 (dk_at dksJ7_append_2_0 17 rfl rfl)
theorem dJ7_append_2_18 : decode cJ7_append_2 18 = .ok (.invokevirtual 83, 3) := dk_182 0 83 (dk_at dksJ7_append_2_0 18 rfl rfl)
theorem dJ7_append_2_21 : decode cJ7_append_2 21 = .ok (.ifCond .eq 16, 3) := dk_153 0 16 (dk_at dksJ7_append_2_0 21 rfl rfl)
theorem dJ7_append_2_24 : decode cJ7_append_2 24 = .ok (.iload_n 1, 1) := dk_27 (dk_at dksJ7_append_2_1 0 rfl rfl)
theorem dJ7_append_2_25 : decode cJ7_append_2 25 = .ok (.iload_n 3, 1) := dk_29 (dk_at dksJ7_append_2_1 1 rfl rfl)
theorem dJ7_append_2_26 : decode cJ7_append_2 26 = .ok (.aload_n 0, 1) := dk_42 (dk_at dksJ7_append_2_1 2 rfl rfl)
theorem dJ7_append_2_27 : decode cJ7_append_2 27 = .ok (.getfield 15, 3) := dk_180 0 15 (dk_at dksJ7_append_2_1 3 rfl rfl)
theorem dJ7_append_2_30 : decode cJ7_append_2 30 = .ok (.invokestatic 248, 3) := dk_184 0 248 (dk_at dksJ7_append_2_1 6 rfl rfl)
theorem dJ7_append_2_33 : decode cJ7_append_2 33 = .ok (.pop, 1) := dk_87 (dk_at dksJ7_append_2_1 9 rfl rfl)
theorem dJ7_append_2_34 : decode cJ7_append_2 34 = .ok (.goto 14, 3) := dk_167 0 14 (dk_at dksJ7_append_2_1 10 rfl rfl)
theorem dJ7_append_2_37 : decode cJ7_append_2 37 = .ok (.iload_n 1, 1) := dk_27 (dk_at dksJ7_append_2_1 13 rfl rfl)
theorem dJ7_append_2_38 : decode cJ7_append_2 38 = .ok (.iload_n 2, 1) := dk_28 (dk_at dksJ7_append_2_1 14 rfl rfl)
theorem dJ7_append_2_39 : decode cJ7_append_2 39 = .ok (.iload_n 3, 1) := dk_29 (dk_at dksJ7_append_2_1 15 rfl rfl)
theorem dJ7_append_2_40 : decode cJ7_append_2 40 = .ok (.aload_n 0, 1) := dk_42 (dk_at dksJ7_append_2_1 16 rfl rfl)
theorem dJ7_append_2_41 : decode cJ7_append_2 41 = .ok (.getfield 15, 3) := dk_180 0 15 (dk_at dksJ7_append_2_1 17 rfl rfl)
theorem dJ7_append_2_44 : decode cJ7_append_2 44 = .ok (.invokestatic 251, 3) := dk_184 0 251 (dk_at dksJ7_append_2_1 20 rfl rfl)
theorem dJ7_append_2_47 : decode cJ7_append_2 47 = .ok (.pop, 1) := dk_87 (dk_at dksJ7_append_2_1 23 rfl rfl)
theorem dJ7_append_2_48 : decode cJ7_append_2 48 = .ok (.aload_n 0, 1) := dk_42 (dk_at dksJ7_append_2_2 0 rfl rfl)
theorem dJ7_append_2_49 : decode cJ7_append_2 49 = .ok (.iload_n 3, 1) := dk_29 (dk_at dksJ7_append_2_2 1 rfl rfl)
theorem dJ7_append_2_50 : decode cJ7_append_2 50 = .ok (.putfield 79, 3) := dk_181 0 79 (dk_at dksJ7_append_2_2 2 rfl rfl)
theorem dJ7_append_2_53 : decode cJ7_append_2 53 = .ok (.aload_n 0, 1) := dk_42 (dk_at dksJ7_append_2_2 5 rfl rfl)
theorem dJ7_append_2_54 : decode cJ7_append_2 54 = .ok (.areturn, 1) := dk_176 (dk_at dksJ7_append_2_2 6 rfl rfl)
abbrev cJ7_getValue : ByteArray := prog_11_method_64_code
def yJ7_getValue : MethodName := ⟨RJ7, "getValue", "()[B"⟩
theorem dJ7_getValue_0 : decode cJ7_getValue 0 = .ok (.aload_n 0, 1) := by decide +kernel
theorem dJ7_getValue_1 : decode cJ7_getValue 1 = .ok (.getfield 15, 3) := by decide +kernel
theorem dJ7_getValue_4 : decode cJ7_getValue 4 = .ok (.areturn, 1) := by decide +kernel
abbrev cJ7_length : ByteArray := prog_11_method_6_code
def yJ7_length : MethodName := ⟨RJ7, "length", "()I"⟩
theorem dJ7_length_0 : decode cJ7_length 0 = .ok (.aload_n 0, 1) := by decide +kernel
theorem dJ7_length_1 : decode cJ7_length 1 = .ok (.getfield 79, 3) := by decide +kernel
theorem dJ7_length_4 : decode cJ7_length 4 = .ok (.ireturn, 1) := by decide +kernel
abbrev cJ7_setLength : ByteArray := prog_11_method_13_code
def yJ7_setLength : MethodName := ⟨RJ7, "setLength", "(I)V"⟩
def dkwJ7_setLength_3 : List UInt8 := [164, 0, 8, 42, 4, 181, 0, 73, 42, 27, 181, 0, 79, 177]
abbrev dktJ7_setLength_3 : List UInt8 := dkwJ7_setLength_3 ++ []
def dkwJ7_setLength_2 : List UInt8 := [167, 0, 31, 42, 180, 0, 15, 42, 180, 0, 79, 27, 184, 0, 137, 167, 0, 16, 42, 180, 0, 79, 27]
abbrev dktJ7_setLength_2 : List UInt8 := dkwJ7_setLength_2 ++ dktJ7_setLength_3
def dkwJ7_setLength_1 : List UInt8 := [162, 0, 40, 42, 182, 0, 83, 153, 0, 18, 42, 180, 0, 15, 42, 180, 0, 79, 27, 184, 0, 133]
abbrev dktJ7_setLength_1 : List UInt8 := dkwJ7_setLength_1 ++ dktJ7_setLength_2
def dkwJ7_setLength_0 : List UInt8 := [27, 156, 0, 12, 187, 0, 129, 89, 27, 183, 0, 131, 191, 42, 27, 182, 0, 100, 42, 180, 0, 79, 27]
abbrev dktJ7_setLength_0 : List UInt8 := dkwJ7_setLength_0 ++ dktJ7_setLength_1
theorem dksJ7_setLength_0 : cJ7_setLength.data.toList.drop 0 = dktJ7_setLength_0 := by decide +kernel
theorem dksJ7_setLength_1 : cJ7_setLength.data.toList.drop 23 = dktJ7_setLength_1 := dk_seg dksJ7_setLength_0 23 rfl rfl
theorem dksJ7_setLength_2 : cJ7_setLength.data.toList.drop 45 = dktJ7_setLength_2 := dk_seg dksJ7_setLength_1 22 rfl rfl
theorem dksJ7_setLength_3 : cJ7_setLength.data.toList.drop 68 = dktJ7_setLength_3 := dk_seg dksJ7_setLength_2 23 rfl rfl
theorem dJ7_setLength_0 : decode cJ7_setLength 0 = .ok (.iload_n 1, 1) := dk_27 (dk_at dksJ7_setLength_0 0 rfl rfl)
theorem dJ7_setLength_1 : decode cJ7_setLength 1 = .ok (.ifCond .ge 12, 3) := dk_156 0 12 (dk_at dksJ7_setLength_0 1 rfl rfl)
theorem dJ7_setLength_4 : decode cJ7_setLength 4 = .ok (.new 129, 3) := dk_187 0 129 (dk_at dksJ7_setLength_0 4 rfl rfl)
theorem dJ7_setLength_7 : decode cJ7_setLength 7 = .ok (.dup, 1) := dk_89 (dk_at dksJ7_setLength_0 7 rfl rfl)
theorem dJ7_setLength_8 : decode cJ7_setLength 8 = .ok (.iload_n 1, 1) := dk_27 (dk_at dksJ7_setLength_0 8 rfl rfl)
theorem dJ7_setLength_9 : decode cJ7_setLength 9 = .ok (.invokespecial 131, 3) := dk_183 0 131 (dk_at dksJ7_setLength_0 9 rfl rfl)
theorem dJ7_setLength_12 : decode cJ7_setLength 12 = .ok (.athrow, 1) := dk_191 (dk_at dksJ7_setLength_0 12 rfl rfl)
theorem dJ7_setLength_13 : decode cJ7_setLength 13 = .ok (.aload_n 0, 1) := dk_42 (dk_at dksJ7_setLength_0 13 rfl rfl)
theorem dJ7_setLength_14 : decode cJ7_setLength 14 = .ok (.iload_n 1, 1) := dk_27 (dk_at dksJ7_setLength_0 14 rfl rfl)
theorem dJ7_setLength_15 : decode cJ7_setLength 15 = .ok (.invokevirtual 100, 3) := dk_182 0 100 (dk_at dksJ7_setLength_0 15 rfl rfl)
theorem dJ7_setLength_18 : decode cJ7_setLength 18 = .ok (.aload_n 0, 1) := dk_42 (dk_at dksJ7_setLength_0 18 rfl rfl)
theorem dJ7_setLength_19 : decode cJ7_setLength 19 = .ok (.getfield 79, 3) := dk_180 0 79 (dk_at dksJ7_setLength_0 19 rfl rfl)
theorem dJ7_setLength_22 : decode cJ7_setLength 22 = .ok (.iload_n 1, 1) := dk_27 (dk_at dksJ7_setLength_0 22 rfl rfl)
theorem dJ7_setLength_23 : decode cJ7_setLength 23 = .ok (.if_icmp .ge 40, 3) := dk_162 0 40 (dk_at dksJ7_setLength_1 0 rfl rfl)
theorem dJ7_setLength_26 : decode cJ7_setLength 26 = .ok (.aload_n 0, 1) := dk_42 (dk_at dksJ7_setLength_1 3 rfl rfl)
theorem dJ7_setLength_27 : decode cJ7_setLength 27 = .ok (.invokevirtual 83, 3) := dk_182 0 83 (dk_at dksJ7_setLength_1 4 rfl rfl)
theorem dJ7_setLength_30 : decode cJ7_setLength 30 = .ok (.ifCond .eq 18, 3) := dk_153 0 18 (dk_at dksJ7_setLength_1 7 rfl rfl)
theorem dJ7_setLength_33 : decode cJ7_setLength 33 = .ok (.aload_n 0, 1) := dk_42 (dk_at dksJ7_setLength_1 10 rfl rfl)
theorem dJ7_setLength_34 : decode cJ7_setLength 34 = .ok (.getfield 15, 3) := dk_180 0 15 (dk_at dksJ7_setLength_1 11 rfl rfl)
theorem dJ7_setLength_37 : decode cJ7_setLength 37 = .ok (.aload_n 0, 1) := dk_42 (dk_at dksJ7_setLength_1 14 rfl rfl)
theorem dJ7_setLength_38 : decode cJ7_setLength 38 = .ok (.getfield 79, 3) := dk_180 0 79 (dk_at dksJ7_setLength_1 15 rfl rfl)
theorem dJ7_setLength_41 : decode cJ7_setLength 41 = .ok (.iload_n 1, 1) := dk_27 (dk_at dksJ7_setLength_1 18 rfl rfl)
theorem dJ7_setLength_42 : decode cJ7_setLength 42 = .ok (.invokestatic 133, 3) := dk_184 0 133 (dk_at dksJ7_setLength_1 19 rfl rfl)
theorem dJ7_setLength_45 : decode cJ7_setLength 45 = .ok (.goto 31, 3) := dk_167 0 31 (dk_at dksJ7_setLength_2 0 rfl rfl)
theorem dJ7_setLength_48 : decode cJ7_setLength 48 = .ok (.aload_n 0, 1) := dk_42 (dk_at dksJ7_setLength_2 3 rfl rfl)
theorem dJ7_setLength_49 : decode cJ7_setLength 49 = .ok (.getfield 15, 3) := dk_180 0 15 (dk_at dksJ7_setLength_2 4 rfl rfl)
theorem dJ7_setLength_52 : decode cJ7_setLength 52 = .ok (.aload_n 0, 1) := dk_42 (dk_at dksJ7_setLength_2 7 rfl rfl)
theorem dJ7_setLength_53 : decode cJ7_setLength 53 = .ok (.getfield 79, 3) := dk_180 0 79 (dk_at dksJ7_setLength_2 8 rfl rfl)
theorem dJ7_setLength_56 : decode cJ7_setLength 56 = .ok (.iload_n 1, 1) := dk_27 (dk_at dksJ7_setLength_2 11 rfl rfl)
theorem dJ7_setLength_57 : decode cJ7_setLength 57 = .ok (.invokestatic 137, 3) := dk_184 0 137 (dk_at dksJ7_setLength_2 12 rfl rfl)
theorem dJ7_setLength_60 : decode cJ7_setLength 60 = .ok (.goto 16, 3) := dk_167 0 16 (dk_at dksJ7_setLength_2 15 rfl rfl)
theorem dJ7_setLength_63 : decode cJ7_setLength 63 = .ok (.aload_n 0, 1) := dk_42 (dk_at dksJ7_setLength_2 18 rfl rfl)
theorem dJ7_setLength_64 : decode cJ7_setLength 64 = .ok (.getfield 79, 3) := dk_180 0 79 (dk_at dksJ7_setLength_2 19 rfl rfl)
theorem dJ7_setLength_67 : decode cJ7_setLength 67 = .ok (.iload_n 1, 1) := dk_27 (dk_at dksJ7_setLength_2 22 rfl rfl)
theorem dJ7_setLength_68 : decode cJ7_setLength 68 = .ok (.if_icmp .le 8, 3) := dk_164 0 8 (dk_at dksJ7_setLength_3 0 rfl rfl)
theorem dJ7_setLength_71 : decode cJ7_setLength 71 = .ok (.aload_n 0, 1) := dk_42 (dk_at dksJ7_setLength_3 3 rfl rfl)
theorem dJ7_setLength_72 : decode cJ7_setLength 72 = .ok (.iconst 1, 1) := dk_4 (dk_at dksJ7_setLength_3 4 rfl rfl)
theorem dJ7_setLength_73 : decode cJ7_setLength 73 = .ok (.putfield 73, 3) := dk_181 0 73 (dk_at dksJ7_setLength_3 5 rfl rfl)
theorem dJ7_setLength_76 : decode cJ7_setLength 76 = .ok (.aload_n 0, 1) := dk_42 (dk_at dksJ7_setLength_3 8 rfl rfl)
theorem dJ7_setLength_77 : decode cJ7_setLength 77 = .ok (.iload_n 1, 1) := dk_27 (dk_at dksJ7_setLength_3 9 rfl rfl)
theorem dJ7_setLength_78 : decode cJ7_setLength 78 = .ok (.putfield 79, 3) := dk_181 0 79 (dk_at dksJ7_setLength_3 10 rfl rfl)
theorem dJ7_setLength_81 : decode cJ7_setLength 81 = .ok (.return_, 1) := dk_177 (dk_at dksJ7_setLength_3 13 rfl rfl)
abbrev cJ7_append_3 : ByteArray := prog_11_method_31_code
def yJ7_append_3 : MethodName := ⟨RJ7, "append", "(C)Ljava/lang/AbstractStringBuilder;"⟩
def dkwJ7_append_3_3 : List UInt8 := [181, 0, 79, 27, 184, 0, 197, 42, 176]
abbrev dktJ7_append_3_3 : List UInt8 := dkwJ7_append_3_3 ++ []
def dkwJ7_append_3_2 : List UInt8 := [182, 0, 83, 153, 0, 7, 42, 182, 0, 195, 42, 180, 0, 15, 42, 89, 180, 0, 79, 90, 4, 96]
abbrev dktJ7_append_3_2 : List UInt8 := dkwJ7_append_3_2 ++ dktJ7_append_3_3
def dkwJ7_append_3_1 : List UInt8 := [42, 180, 0, 15, 42, 89, 180, 0, 79, 90, 4, 96, 181, 0, 79, 27, 145, 84, 167, 0, 33, 42]
abbrev dktJ7_append_3_1 : List UInt8 := dkwJ7_append_3_1 ++ dktJ7_append_3_2
def dkwJ7_append_3_0 : List UInt8 := [42, 42, 180, 0, 79, 4, 96, 182, 0, 100, 42, 182, 0, 83, 153, 0, 31, 27, 184, 0, 191, 153, 0, 24]
abbrev dktJ7_append_3_0 : List UInt8 := dkwJ7_append_3_0 ++ dktJ7_append_3_1
theorem dksJ7_append_3_0 : cJ7_append_3.data.toList.drop 0 = dktJ7_append_3_0 := by decide +kernel
theorem dksJ7_append_3_1 : cJ7_append_3.data.toList.drop 24 = dktJ7_append_3_1 := dk_seg dksJ7_append_3_0 24 rfl rfl
theorem dksJ7_append_3_2 : cJ7_append_3.data.toList.drop 46 = dktJ7_append_3_2 := dk_seg dksJ7_append_3_1 22 rfl rfl
theorem dksJ7_append_3_3 : cJ7_append_3.data.toList.drop 68 = dktJ7_append_3_3 := dk_seg dksJ7_append_3_2 22 rfl rfl
theorem dJ7_append_3_0 : decode cJ7_append_3 0 = .ok (.aload_n 0, 1) := dk_42 (dk_at dksJ7_append_3_0 0 rfl rfl)
theorem dJ7_append_3_1 : decode cJ7_append_3 1 = .ok (.aload_n 0, 1) := dk_42 (dk_at dksJ7_append_3_0 1 rfl rfl)
theorem dJ7_append_3_2 : decode cJ7_append_3 2 = .ok (.getfield 79, 3) := dk_180 0 79 (dk_at dksJ7_append_3_0 2 rfl rfl)
theorem dJ7_append_3_5 : decode cJ7_append_3 5 = .ok (.iconst 1, 1) := dk_4 (dk_at dksJ7_append_3_0 5 rfl rfl)
theorem dJ7_append_3_6 : decode cJ7_append_3 6 = .ok (.iadd, 1) := dk_96 (dk_at dksJ7_append_3_0 6 rfl rfl)
theorem dJ7_append_3_7 : decode cJ7_append_3 7 = .ok (.invokevirtual 100, 3) := dk_182 0 100 (dk_at dksJ7_append_3_0 7 rfl rfl)
theorem dJ7_append_3_10 : decode cJ7_append_3 10 = .ok (.aload_n 0, 1) := dk_42 (dk_at dksJ7_append_3_0 10 rfl rfl)
theorem dJ7_append_3_11 : decode cJ7_append_3 11 = .ok (.invokevirtual 83, 3) := dk_182 0 83 (dk_at dksJ7_append_3_0 11 rfl rfl)
theorem dJ7_append_3_14 : decode cJ7_append_3 14 = .ok (.ifCond .eq 31, 3) := dk_153 0 31 (dk_at dksJ7_append_3_0 14 rfl rfl)
theorem dJ7_append_3_17 : decode cJ7_append_3 17 = .ok (.iload_n 1, 1) := dk_27 (dk_at dksJ7_append_3_0 17 rfl rfl)
theorem dJ7_append_3_18 : decode cJ7_append_3 18 = .ok (.invokestatic 191, 3) := dk_184 0 191 (dk_at dksJ7_append_3_0 18 rfl rfl)
theorem dJ7_append_3_21 : decode cJ7_append_3 21 = .ok (.ifCond .eq 24, 3) := dk_153 0 24 (dk_at dksJ7_append_3_0 21 rfl rfl)
theorem dJ7_append_3_24 : decode cJ7_append_3 24 = .ok (.aload_n 0, 1) := dk_42 (dk_at dksJ7_append_3_1 0 rfl rfl)
theorem dJ7_append_3_25 : decode cJ7_append_3 25 = .ok (.getfield 15, 3) := dk_180 0 15 (dk_at dksJ7_append_3_1 1 rfl rfl)
theorem dJ7_append_3_28 : decode cJ7_append_3 28 = .ok (.aload_n 0, 1) := dk_42 (dk_at dksJ7_append_3_1 4 rfl rfl)
theorem dJ7_append_3_29 : decode cJ7_append_3 29 = .ok (.dup, 1) := dk_89 (dk_at dksJ7_append_3_1 5 rfl rfl)
theorem dJ7_append_3_30 : decode cJ7_append_3 30 = .ok (.getfield 79, 3) := dk_180 0 79 (dk_at dksJ7_append_3_1 6 rfl rfl)
theorem dJ7_append_3_33 : decode cJ7_append_3 33 = .ok (.dup_x1, 1) := dk_90 (dk_at dksJ7_append_3_1 9 rfl rfl)
theorem dJ7_append_3_34 : decode cJ7_append_3 34 = .ok (.iconst 1, 1) := dk_4 (dk_at dksJ7_append_3_1 10 rfl rfl)
theorem dJ7_append_3_35 : decode cJ7_append_3 35 = .ok (.iadd, 1) := dk_96 (dk_at dksJ7_append_3_1 11 rfl rfl)
theorem dJ7_append_3_36 : decode cJ7_append_3 36 = .ok (.putfield 79, 3) := dk_181 0 79 (dk_at dksJ7_append_3_1 12 rfl rfl)
theorem dJ7_append_3_39 : decode cJ7_append_3 39 = .ok (.iload_n 1, 1) := dk_27 (dk_at dksJ7_append_3_1 15 rfl rfl)
theorem dJ7_append_3_40 : decode cJ7_append_3 40 = .ok (.i2b, 1) := dk_145 (dk_at dksJ7_append_3_1 16 rfl rfl)
theorem dJ7_append_3_41 : decode cJ7_append_3 41 = .ok (.bastore, 1) := dk_84 (dk_at dksJ7_append_3_1 17 rfl rfl)
theorem dJ7_append_3_42 : decode cJ7_append_3 42 = .ok (.goto 33, 3) := dk_167 0 33 (dk_at dksJ7_append_3_1 18 rfl rfl)
theorem dJ7_append_3_45 : decode cJ7_append_3 45 = .ok (.aload_n 0, 1) := dk_42 (dk_at dksJ7_append_3_1 21 rfl rfl)
theorem dJ7_append_3_46 : decode cJ7_append_3 46 = .ok (.invokevirtual 83, 3) := dk_182 0 83 (dk_at dksJ7_append_3_2 0 rfl rfl)
theorem dJ7_append_3_49 : decode cJ7_append_3 49 = .ok (.ifCond .eq 7, 3) := dk_153 0 7 (dk_at dksJ7_append_3_2 3 rfl rfl)
theorem dJ7_append_3_52 : decode cJ7_append_3 52 = .ok (.aload_n 0, 1) := dk_42 (dk_at dksJ7_append_3_2 6 rfl rfl)
theorem dJ7_append_3_53 : decode cJ7_append_3 53 = .ok (.invokevirtual 195, 3) := dk_182 0 195 (dk_at dksJ7_append_3_2 7 rfl rfl)
theorem dJ7_append_3_56 : decode cJ7_append_3 56 = .ok (.aload_n 0, 1) := dk_42 (dk_at dksJ7_append_3_2 10 rfl rfl)
theorem dJ7_append_3_57 : decode cJ7_append_3 57 = .ok (.getfield 15, 3) := dk_180 0 15 (dk_at dksJ7_append_3_2 11 rfl rfl)
theorem dJ7_append_3_60 : decode cJ7_append_3 60 = .ok (.aload_n 0, 1) := dk_42 (dk_at dksJ7_append_3_2 14 rfl rfl)
theorem dJ7_append_3_61 : decode cJ7_append_3 61 = .ok (.dup, 1) := dk_89 (dk_at dksJ7_append_3_2 15 rfl rfl)
theorem dJ7_append_3_62 : decode cJ7_append_3 62 = .ok (.getfield 79, 3) := dk_180 0 79 (dk_at dksJ7_append_3_2 16 rfl rfl)
theorem dJ7_append_3_65 : decode cJ7_append_3 65 = .ok (.dup_x1, 1) := dk_90 (dk_at dksJ7_append_3_2 19 rfl rfl)
theorem dJ7_append_3_66 : decode cJ7_append_3 66 = .ok (.iconst 1, 1) := dk_4 (dk_at dksJ7_append_3_2 20 rfl rfl)
theorem dJ7_append_3_67 : decode cJ7_append_3 67 = .ok (.iadd, 1) := dk_96 (dk_at dksJ7_append_3_2 21 rfl rfl)
theorem dJ7_append_3_68 : decode cJ7_append_3 68 = .ok (.putfield 79, 3) := dk_181 0 79 (dk_at dksJ7_append_3_3 0 rfl rfl)
theorem dJ7_append_3_71 : decode cJ7_append_3 71 = .ok (.iload_n 1, 1) := dk_27 (dk_at dksJ7_append_3_3 3 rfl rfl)
theorem dJ7_append_3_72 : decode cJ7_append_3 72 = .ok (.invokestatic 197, 3) := dk_184 0 197 (dk_at dksJ7_append_3_3 4 rfl rfl)
theorem dJ7_append_3_75 : decode cJ7_append_3 75 = .ok (.aload_n 0, 1) := dk_42 (dk_at dksJ7_append_3_3 7 rfl rfl)
theorem dJ7_append_3_76 : decode cJ7_append_3 76 = .ok (.areturn, 1) := dk_176 (dk_at dksJ7_append_3_3 8 rfl rfl)
abbrev cJ7_charAt : ByteArray := prog_11_method_14_code
def yJ7_charAt : MethodName := ⟨RJ7, "charAt", "(I)C"⟩
def dkwJ7_charAt_1 : List UInt8 := [21, 4, 184, 0, 144, 28, 154, 0, 12, 45, 27, 51, 17, 0, 255, 126, 146, 172, 45, 27, 184, 0, 148, 172]
abbrev dktJ7_charAt_1 : List UInt8 := dkwJ7_charAt_1 ++ []
def dkwJ7_charAt_0 : List UInt8 := [42, 180, 0, 22, 61, 42, 180, 0, 15, 78, 42, 180, 0, 79, 45, 190, 28, 122, 184, 0, 138, 54, 4, 27]
abbrev dktJ7_charAt_0 : List UInt8 := dkwJ7_charAt_0 ++ dktJ7_charAt_1
theorem dksJ7_charAt_0 : cJ7_charAt.data.toList.drop 0 = dktJ7_charAt_0 := by decide +kernel
theorem dksJ7_charAt_1 : cJ7_charAt.data.toList.drop 24 = dktJ7_charAt_1 := dk_seg dksJ7_charAt_0 24 rfl rfl
theorem dJ7_charAt_0 : decode cJ7_charAt 0 = .ok (.aload_n 0, 1) := dk_42 (dk_at dksJ7_charAt_0 0 rfl rfl)
theorem dJ7_charAt_1 : decode cJ7_charAt 1 = .ok (.getfield 22, 3) := dk_180 0 22 (dk_at dksJ7_charAt_0 1 rfl rfl)
theorem dJ7_charAt_4 : decode cJ7_charAt 4 = .ok (.istore_n 2, 1) := dk_61 (dk_at dksJ7_charAt_0 4 rfl rfl)
theorem dJ7_charAt_5 : decode cJ7_charAt 5 = .ok (.aload_n 0, 1) := dk_42 (dk_at dksJ7_charAt_0 5 rfl rfl)
theorem dJ7_charAt_6 : decode cJ7_charAt 6 = .ok (.getfield 15, 3) := dk_180 0 15 (dk_at dksJ7_charAt_0 6 rfl rfl)
theorem dJ7_charAt_9 : decode cJ7_charAt 9 = .ok (.astore_n 3, 1) := dk_78 (dk_at dksJ7_charAt_0 9 rfl rfl)
theorem dJ7_charAt_10 : decode cJ7_charAt 10 = .ok (.aload_n 0, 1) := dk_42 (dk_at dksJ7_charAt_0 10 rfl rfl)
theorem dJ7_charAt_11 : decode cJ7_charAt 11 = .ok (.getfield 79, 3) := dk_180 0 79 (dk_at dksJ7_charAt_0 11 rfl rfl)
theorem dJ7_charAt_14 : decode cJ7_charAt 14 = .ok (.aload_n 3, 1) := dk_45 (dk_at dksJ7_charAt_0 14 rfl rfl)
theorem dJ7_charAt_15 : decode cJ7_charAt 15 = .ok (.arraylength, 1) := dk_190 (dk_at dksJ7_charAt_0 15 rfl rfl)
theorem dJ7_charAt_16 : decode cJ7_charAt 16 = .ok (.iload_n 2, 1) := dk_28 (dk_at dksJ7_charAt_0 16 rfl rfl)
theorem dJ7_charAt_17 : decode cJ7_charAt 17 = .ok (.ishr, 1) := dk_122 (dk_at dksJ7_charAt_0 17 rfl rfl)
theorem dJ7_charAt_18 : decode cJ7_charAt 18 = .ok (.invokestatic 138, 3) := dk_184 0 138 (dk_at dksJ7_charAt_0 18 rfl rfl)
theorem dJ7_charAt_21 : decode cJ7_charAt 21 = .ok (.istore 4, 2) := dk_54 4 (dk_at dksJ7_charAt_0 21 rfl rfl)
theorem dJ7_charAt_23 : decode cJ7_charAt 23 = .ok (.iload_n 1, 1) := dk_27 (dk_at dksJ7_charAt_0 23 rfl rfl)
theorem dJ7_charAt_24 : decode cJ7_charAt 24 = .ok (.iload 4, 2) := dk_21 4 (dk_at dksJ7_charAt_1 0 rfl rfl)
theorem dJ7_charAt_26 : decode cJ7_charAt 26 = .ok (.invokestatic 144, 3) := dk_184 0 144 (dk_at dksJ7_charAt_1 2 rfl rfl)
theorem dJ7_charAt_29 : decode cJ7_charAt 29 = .ok (.iload_n 2, 1) := dk_28 (dk_at dksJ7_charAt_1 5 rfl rfl)
theorem dJ7_charAt_30 : decode cJ7_charAt 30 = .ok (.ifCond .ne 12, 3) := dk_154 0 12 (dk_at dksJ7_charAt_1 6 rfl rfl)
theorem dJ7_charAt_33 : decode cJ7_charAt 33 = .ok (.aload_n 3, 1) := dk_45 (dk_at dksJ7_charAt_1 9 rfl rfl)
theorem dJ7_charAt_34 : decode cJ7_charAt 34 = .ok (.iload_n 1, 1) := dk_27 (dk_at dksJ7_charAt_1 10 rfl rfl)
theorem dJ7_charAt_35 : decode cJ7_charAt 35 = .ok (.baload, 1) := dk_51 (dk_at dksJ7_charAt_1 11 rfl rfl)
theorem dJ7_charAt_36 : decode cJ7_charAt 36 = .ok (.sipush 255, 3) := dk_17 0 255 (dk_at dksJ7_charAt_1 12 rfl rfl)
theorem dJ7_charAt_39 : decode cJ7_charAt 39 = .ok (.iand, 1) := dk_126 (dk_at dksJ7_charAt_1 15 rfl rfl)
theorem dJ7_charAt_40 : decode cJ7_charAt 40 = .ok (.i2c, 1) := dk_146 (dk_at dksJ7_charAt_1 16 rfl rfl)
theorem dJ7_charAt_41 : decode cJ7_charAt 41 = .ok (.ireturn, 1) := dk_172 (dk_at dksJ7_charAt_1 17 rfl rfl)
theorem dJ7_charAt_42 : decode cJ7_charAt 42 = .ok (.aload_n 3, 1) := dk_45 (dk_at dksJ7_charAt_1 18 rfl rfl)
theorem dJ7_charAt_43 : decode cJ7_charAt 43 = .ok (.iload_n 1, 1) := dk_27 (dk_at dksJ7_charAt_1 19 rfl rfl)
theorem dJ7_charAt_44 : decode cJ7_charAt 44 = .ok (.invokestatic 148, 3) := dk_184 0 148 (dk_at dksJ7_charAt_1 20 rfl rfl)
theorem dJ7_charAt_47 : decode cJ7_charAt 47 = .ok (.ireturn, 1) := dk_172 (dk_at dksJ7_charAt_1 23 rfl rfl)
abbrev cJ8_init : ByteArray := prog_32_method_1_code
def yJ8_init : MethodName := ⟨RJ8, "<init>", "()V"⟩
def dkwJ8_init_0 : List UInt8 := [42, 16, 16, 183, 0, 1, 177]
abbrev dktJ8_init_0 : List UInt8 := dkwJ8_init_0 ++ []
theorem dksJ8_init_0 : cJ8_init.data.toList.drop 0 = dktJ8_init_0 := by decide +kernel
theorem dJ8_init_0 : decode cJ8_init 0 = .ok (.aload_n 0, 1) := dk_42 (dk_at dksJ8_init_0 0 rfl rfl)
theorem dJ8_init_1 : decode cJ8_init 1 = .ok (.bipush 16, 2) := dk_16 16 (dk_at dksJ8_init_0 1 rfl rfl)
theorem dJ8_init_3 : decode cJ8_init 3 = .ok (.invokespecial 1, 3) := dk_183 0 1 (dk_at dksJ8_init_0 3 rfl rfl)
theorem dJ8_init_6 : decode cJ8_init 6 = .ok (.return_, 1) := dk_177 (dk_at dksJ8_init_0 6 rfl rfl)
abbrev cJ8_append : ByteArray := prog_32_method_7_code
def yJ8_append : MethodName := ⟨RJ8, "append", "(Ljava/lang/String;)Ljava/lang/StringBuilder;"⟩
def dkwJ8_append_0 : List UInt8 := [42, 43, 183, 0, 29, 87, 42, 176]
abbrev dktJ8_append_0 : List UInt8 := dkwJ8_append_0 ++ []
theorem dksJ8_append_0 : cJ8_append.data.toList.drop 0 = dktJ8_append_0 := by decide +kernel
theorem dJ8_append_0 : decode cJ8_append 0 = .ok (.aload_n 0, 1) := dk_42 (dk_at dksJ8_append_0 0 rfl rfl)
theorem dJ8_append_1 : decode cJ8_append 1 = .ok (.aload_n 1, 1) := dk_43 (dk_at dksJ8_append_0 1 rfl rfl)
theorem dJ8_append_2 : decode cJ8_append 2 = .ok (.invokespecial 29, 3) := dk_183 0 29 (dk_at dksJ8_append_0 2 rfl rfl)
theorem dJ8_append_5 : decode cJ8_append 5 = .ok (.pop, 1) := dk_87 (dk_at dksJ8_append_0 5 rfl rfl)
theorem dJ8_append_6 : decode cJ8_append 6 = .ok (.aload_n 0, 1) := dk_42 (dk_at dksJ8_append_0 6 rfl rfl)
theorem dJ8_append_7 : decode cJ8_append 7 = .ok (.areturn, 1) := dk_176 (dk_at dksJ8_append_0 7 rfl rfl)
abbrev cJ8_append_2 : ByteArray := prog_32_method_15_code
def yJ8_append_2 : MethodName := ⟨RJ8, "append", "(I)Ljava/lang/StringBuilder;"⟩
def dkwJ8_append_2_0 : List UInt8 := [42, 27, 183, 0, 53, 87, 42, 176]
abbrev dktJ8_append_2_0 : List UInt8 := dkwJ8_append_2_0 ++ []
theorem dksJ8_append_2_0 : cJ8_append_2.data.toList.drop 0 = dktJ8_append_2_0 := by decide +kernel
theorem dJ8_append_2_0 : decode cJ8_append_2 0 = .ok (.aload_n 0, 1) := dk_42 (dk_at dksJ8_append_2_0 0 rfl rfl)
theorem dJ8_append_2_1 : decode cJ8_append_2 1 = .ok (.iload_n 1, 1) := dk_27 (dk_at dksJ8_append_2_0 1 rfl rfl)
theorem dJ8_append_2_2 : decode cJ8_append_2 2 = .ok (.invokespecial 53, 3) := dk_183 0 53 (dk_at dksJ8_append_2_0 2 rfl rfl)
theorem dJ8_append_2_5 : decode cJ8_append_2 5 = .ok (.pop, 1) := dk_87 (dk_at dksJ8_append_2_0 5 rfl rfl)
theorem dJ8_append_2_6 : decode cJ8_append_2 6 = .ok (.aload_n 0, 1) := dk_42 (dk_at dksJ8_append_2_0 6 rfl rfl)
theorem dJ8_append_2_7 : decode cJ8_append_2 7 = .ok (.areturn, 1) := dk_176 (dk_at dksJ8_append_2_0 7 rfl rfl)
abbrev cJ8_toString : ByteArray := prog_32_method_42_code
def yJ8_toString : MethodName := ⟨RJ8, "toString", "()Ljava/lang/String;"⟩
def dkwJ8_toString_0 : List UInt8 := [187, 0, 18, 89, 42, 183, 0, 137, 176]
abbrev dktJ8_toString_0 : List UInt8 := dkwJ8_toString_0 ++ []
theorem dksJ8_toString_0 : cJ8_toString.data.toList.drop 0 = dktJ8_toString_0 := by decide +kernel
theorem dJ8_toString_0 : decode cJ8_toString 0 = .ok (.new 18, 3) := dk_187 0 18 (dk_at dksJ8_toString_0 0 rfl rfl)
theorem dJ8_toString_3 : decode cJ8_toString 3 = .ok (.dup, 1) := dk_89 (dk_at dksJ8_toString_0 3 rfl rfl)
theorem dJ8_toString_4 : decode cJ8_toString 4 = .ok (.aload_n 0, 1) := dk_42 (dk_at dksJ8_toString_0 4 rfl rfl)
theorem dJ8_toString_5 : decode cJ8_toString 5 = .ok (.invokespecial 137, 3) := dk_183 0 137 (dk_at dksJ8_toString_0 5 rfl rfl)
theorem dJ8_toString_8 : decode cJ8_toString 8 = .ok (.areturn, 1) := dk_176 (dk_at dksJ8_toString_0 8 rfl rfl)
abbrev cJ8_length : ByteArray := prog_32_method_93_code
def yJ8_length : MethodName := ⟨RJ8, "length", "()I"⟩
theorem dJ8_length_0 : decode cJ8_length 0 = .ok (.aload_n 0, 1) := by decide +kernel
theorem dJ8_length_1 : decode cJ8_length 1 = .ok (.invokespecial 343, 3) := by decide +kernel
theorem dJ8_length_4 : decode cJ8_length 4 = .ok (.ireturn, 1) := by decide +kernel
abbrev cJ8_setLength : ByteArray := prog_32_method_89_code
def yJ8_setLength : MethodName := ⟨RJ8, "setLength", "(I)V"⟩
def dkwJ8_setLength_0 : List UInt8 := [42, 27, 183, 1, 77, 177]
abbrev dktJ8_setLength_0 : List UInt8 := dkwJ8_setLength_0 ++ []
theorem dksJ8_setLength_0 : cJ8_setLength.data.toList.drop 0 = dktJ8_setLength_0 := by decide +kernel
theorem dJ8_setLength_0 : decode cJ8_setLength 0 = .ok (.aload_n 0, 1) := dk_42 (dk_at dksJ8_setLength_0 0 rfl rfl)
theorem dJ8_setLength_1 : decode cJ8_setLength 1 = .ok (.iload_n 1, 1) := dk_27 (dk_at dksJ8_setLength_0 1 rfl rfl)
theorem dJ8_setLength_2 : decode cJ8_setLength 2 = .ok (.invokespecial 333, 3) := dk_183 1 77 (dk_at dksJ8_setLength_0 2 rfl rfl)
theorem dJ8_setLength_5 : decode cJ8_setLength 5 = .ok (.return_, 1) := dk_177 (dk_at dksJ8_setLength_0 5 rfl rfl)
abbrev cJ8_append_3 : ByteArray := prog_32_method_6_code
def yJ8_append_3 : MethodName := ⟨RJ8, "append", "(Ljava/lang/Object;)Ljava/lang/StringBuilder;"⟩
def dkwJ8_append_3_0 : List UInt8 := [42, 43, 184, 0, 17, 182, 0, 23, 176]
abbrev dktJ8_append_3_0 : List UInt8 := dkwJ8_append_3_0 ++ []
theorem dksJ8_append_3_0 : cJ8_append_3.data.toList.drop 0 = dktJ8_append_3_0 := by decide +kernel
theorem dJ8_append_3_0 : decode cJ8_append_3 0 = .ok (.aload_n 0, 1) := dk_42 (dk_at dksJ8_append_3_0 0 rfl rfl)
theorem dJ8_append_3_1 : decode cJ8_append_3 1 = .ok (.aload_n 1, 1) := dk_43 (dk_at dksJ8_append_3_0 1 rfl rfl)
theorem dJ8_append_3_2 : decode cJ8_append_3 2 = .ok (.invokestatic 17, 3) := dk_184 0 17 (dk_at dksJ8_append_3_0 2 rfl rfl)
theorem dJ8_append_3_5 : decode cJ8_append_3 5 = .ok (.invokevirtual 23, 3) := dk_182 0 23 (dk_at dksJ8_append_3_0 5 rfl rfl)
theorem dJ8_append_3_8 : decode cJ8_append_3 8 = .ok (.areturn, 1) := dk_176 (dk_at dksJ8_append_3_0 8 rfl rfl)
abbrev cJ8_append_4 : ByteArray := prog_32_method_14_code
def yJ8_append_4 : MethodName := ⟨RJ8, "append", "(C)Ljava/lang/StringBuilder;"⟩
def dkwJ8_append_4_0 : List UInt8 := [42, 27, 183, 0, 50, 87, 42, 176]
abbrev dktJ8_append_4_0 : List UInt8 := dkwJ8_append_4_0 ++ []
theorem dksJ8_append_4_0 : cJ8_append_4.data.toList.drop 0 = dktJ8_append_4_0 := by decide +kernel
theorem dJ8_append_4_0 : decode cJ8_append_4 0 = .ok (.aload_n 0, 1) := dk_42 (dk_at dksJ8_append_4_0 0 rfl rfl)
theorem dJ8_append_4_1 : decode cJ8_append_4 1 = .ok (.iload_n 1, 1) := dk_27 (dk_at dksJ8_append_4_0 1 rfl rfl)
theorem dJ8_append_4_2 : decode cJ8_append_4 2 = .ok (.invokespecial 50, 3) := dk_183 0 50 (dk_at dksJ8_append_4_0 2 rfl rfl)
theorem dJ8_append_4_5 : decode cJ8_append_4 5 = .ok (.pop, 1) := dk_87 (dk_at dksJ8_append_4_0 5 rfl rfl)
theorem dJ8_append_4_6 : decode cJ8_append_4 6 = .ok (.aload_n 0, 1) := dk_42 (dk_at dksJ8_append_4_0 6 rfl rfl)
theorem dJ8_append_4_7 : decode cJ8_append_4 7 = .ok (.areturn, 1) := dk_176 (dk_at dksJ8_append_4_0 7 rfl rfl)
abbrev cJ8_charAt : ByteArray := prog_32_method_88_code
def yJ8_charAt : MethodName := ⟨RJ8, "charAt", "(I)C"⟩
def dkwJ8_charAt_0 : List UInt8 := [42, 27, 183, 1, 73, 172]
abbrev dktJ8_charAt_0 : List UInt8 := dkwJ8_charAt_0 ++ []
theorem dksJ8_charAt_0 : cJ8_charAt.data.toList.drop 0 = dktJ8_charAt_0 := by decide +kernel
theorem dJ8_charAt_0 : decode cJ8_charAt 0 = .ok (.aload_n 0, 1) := dk_42 (dk_at dksJ8_charAt_0 0 rfl rfl)
theorem dJ8_charAt_1 : decode cJ8_charAt 1 = .ok (.iload_n 1, 1) := dk_27 (dk_at dksJ8_charAt_0 1 rfl rfl)
theorem dJ8_charAt_2 : decode cJ8_charAt 2 = .ok (.invokespecial 329, 3) := dk_183 1 73 (dk_at dksJ8_charAt_0 2 rfl rfl)
theorem dJ8_charAt_5 : decode cJ8_charAt 5 = .ok (.ireturn, 1) := dk_172 (dk_at dksJ8_charAt_0 5 rfl rfl)
abbrev cJ9_checkBoundsBeginEnd : ByteArray := prog_31_method_158_code
def yJ9_checkBoundsBeginEnd : MethodName := ⟨RJ9, "checkBoundsBeginEnd", "(III)V"⟩
def dkwJ9_checkBoundsBeginEnd_0 : List UInt8 := [26, 27, 28, 178, 4, 29, 184, 4, 38, 87, 177]
abbrev dktJ9_checkBoundsBeginEnd_0 : List UInt8 := dkwJ9_checkBoundsBeginEnd_0 ++ []
theorem dksJ9_checkBoundsBeginEnd_0 : cJ9_checkBoundsBeginEnd.data.toList.drop 0 = dktJ9_checkBoundsBeginEnd_0 := by decide +kernel
theorem dJ9_checkBoundsBeginEnd_0 : decode cJ9_checkBoundsBeginEnd 0 = .ok (.iload_n 0, 1) := dk_26 (dk_at dksJ9_checkBoundsBeginEnd_0 0 rfl rfl)
theorem dJ9_checkBoundsBeginEnd_1 : decode cJ9_checkBoundsBeginEnd 1 = .ok (.iload_n 1, 1) := dk_27 (dk_at dksJ9_checkBoundsBeginEnd_0 1 rfl rfl)
theorem dJ9_checkBoundsBeginEnd_2 : decode cJ9_checkBoundsBeginEnd 2 = .ok (.iload_n 2, 1) := dk_28 (dk_at dksJ9_checkBoundsBeginEnd_0 2 rfl rfl)
theorem dJ9_checkBoundsBeginEnd_3 : decode cJ9_checkBoundsBeginEnd 3 = .ok (.getstatic 1053, 3) := dk_178 4 29 (dk_at dksJ9_checkBoundsBeginEnd_0 3 rfl rfl)
theorem dJ9_checkBoundsBeginEnd_6 : decode cJ9_checkBoundsBeginEnd 6 = .ok (.invokestatic 1062, 3) := dk_184 4 38 (dk_at dksJ9_checkBoundsBeginEnd_0 6 rfl rfl)
theorem dJ9_checkBoundsBeginEnd_9 : decode cJ9_checkBoundsBeginEnd 9 = .ok (.pop, 1) := dk_87 (dk_at dksJ9_checkBoundsBeginEnd_0 9 rfl rfl)
theorem dJ9_checkBoundsBeginEnd_10 : decode cJ9_checkBoundsBeginEnd 10 = .ok (.return_, 1) := dk_177 (dk_at dksJ9_checkBoundsBeginEnd_0 10 rfl rfl)
abbrev cJ9_length : ByteArray := prog_31_method_54_code
def yJ9_length : MethodName := ⟨RJ9, "length", "()I"⟩
def dkwJ9_length_0 : List UInt8 := [42, 180, 0, 9, 190, 42, 182, 1, 79, 122, 172]
abbrev dktJ9_length_0 : List UInt8 := dkwJ9_length_0 ++ []
theorem dksJ9_length_0 : cJ9_length.data.toList.drop 0 = dktJ9_length_0 := by decide +kernel
theorem dJ9_length_0 : decode cJ9_length 0 = .ok (.aload_n 0, 1) := dk_42 (dk_at dksJ9_length_0 0 rfl rfl)
theorem dJ9_length_1 : decode cJ9_length 1 = .ok (.getfield 9, 3) := dk_180 0 9 (dk_at dksJ9_length_0 1 rfl rfl)
theorem dJ9_length_4 : decode cJ9_length 4 = .ok (.arraylength, 1) := dk_190 (dk_at dksJ9_length_0 4 rfl rfl)
theorem dJ9_length_5 : decode cJ9_length 5 = .ok (.aload_n 0, 1) := dk_42 (dk_at dksJ9_length_0 5 rfl rfl)
theorem dJ9_length_6 : decode cJ9_length 6 = .ok (.invokevirtual 335, 3) := dk_182 1 79 (dk_at dksJ9_length_0 6 rfl rfl)
theorem dJ9_length_9 : decode cJ9_length 9 = .ok (.ishr, 1) := dk_122 (dk_at dksJ9_length_0 9 rfl rfl)
theorem dJ9_length_10 : decode cJ9_length 10 = .ok (.ireturn, 1) := dk_172 (dk_at dksJ9_length_0 10 rfl rfl)
abbrev cJ9_coder : ByteArray := prog_31_method_152_code
def yJ9_coder : MethodName := ⟨RJ9, "coder", "()B"⟩
def dkwJ9_coder_0 : List UInt8 := [178, 0, 38, 153, 0, 10, 42, 180, 0, 15, 167, 0, 4, 4, 172]
abbrev dktJ9_coder_0 : List UInt8 := dkwJ9_coder_0 ++ []
theorem dksJ9_coder_0 : cJ9_coder.data.toList.drop 0 = dktJ9_coder_0 := by decide +kernel
theorem dJ9_coder_0 : decode cJ9_coder 0 = .ok (.getstatic 38, 3) := dk_178 0 38 (dk_at dksJ9_coder_0 0 rfl rfl)
theorem dJ9_coder_3 : decode cJ9_coder 3 = .ok (.ifCond .eq 10, 3) := dk_153 0 10 (dk_at dksJ9_coder_0 3 rfl rfl)
theorem dJ9_coder_6 : decode cJ9_coder 6 = .ok (.aload_n 0, 1) := dk_42 (dk_at dksJ9_coder_0 6 rfl rfl)
theorem dJ9_coder_7 : decode cJ9_coder 7 = .ok (.getfield 15, 3) := dk_180 0 15 (dk_at dksJ9_coder_0 7 rfl rfl)
theorem dJ9_coder_10 : decode cJ9_coder 10 = .ok (.goto 4, 3) := dk_167 0 4 (dk_at dksJ9_coder_0 10 rfl rfl)
theorem dJ9_coder_13 : decode cJ9_coder 13 = .ok (.iconst 1, 1) := dk_4 (dk_at dksJ9_coder_0 13 rfl rfl)
theorem dJ9_coder_14 : decode cJ9_coder 14 = .ok (.ireturn, 1) := dk_172 (dk_at dksJ9_coder_0 14 rfl rfl)
abbrev cJ9_checkBoundsOffCount : ByteArray := prog_31_method_157_code
def yJ9_checkBoundsOffCount : MethodName := ⟨RJ9, "checkBoundsOffCount", "(III)I"⟩
def dkwJ9_checkBoundsOffCount_0 : List UInt8 := [26, 27, 28, 178, 4, 29, 184, 4, 41, 172]
abbrev dktJ9_checkBoundsOffCount_0 : List UInt8 := dkwJ9_checkBoundsOffCount_0 ++ []
theorem dksJ9_checkBoundsOffCount_0 : cJ9_checkBoundsOffCount.data.toList.drop 0 = dktJ9_checkBoundsOffCount_0 := by decide +kernel
theorem dJ9_checkBoundsOffCount_0 : decode cJ9_checkBoundsOffCount 0 = .ok (.iload_n 0, 1) := dk_26 (dk_at dksJ9_checkBoundsOffCount_0 0 rfl rfl)
theorem dJ9_checkBoundsOffCount_1 : decode cJ9_checkBoundsOffCount 1 = .ok (.iload_n 1, 1) := dk_27 (dk_at dksJ9_checkBoundsOffCount_0 1 rfl rfl)
theorem dJ9_checkBoundsOffCount_2 : decode cJ9_checkBoundsOffCount 2 = .ok (.iload_n 2, 1) := dk_28 (dk_at dksJ9_checkBoundsOffCount_0 2 rfl rfl)
theorem dJ9_checkBoundsOffCount_3 : decode cJ9_checkBoundsOffCount 3 = .ok (.getstatic 1053, 3) := dk_178 4 29 (dk_at dksJ9_checkBoundsOffCount_0 3 rfl rfl)
theorem dJ9_checkBoundsOffCount_6 : decode cJ9_checkBoundsOffCount 6 = .ok (.invokestatic 1065, 3) := dk_184 4 41 (dk_at dksJ9_checkBoundsOffCount_0 6 rfl rfl)
theorem dJ9_checkBoundsOffCount_9 : decode cJ9_checkBoundsOffCount 9 = .ok (.ireturn, 1) := dk_172 (dk_at dksJ9_checkBoundsOffCount_0 9 rfl rfl)
abbrev cJ9_getBytes : ByteArray := prog_31_method_147_code
def yJ9_getBytes : MethodName := ⟨RJ9, "getBytes", "([BIB)V"⟩
def dkwJ9_getBytes_1 : List UInt8 := [184, 0, 212, 167, 0, 18, 42, 180, 0, 9, 3, 43, 28, 42, 180, 0, 9, 190, 184, 0, 106, 177]
abbrev dktJ9_getBytes_1 : List UInt8 := dkwJ9_getBytes_1 ++ []
def dkwJ9_getBytes_0 : List UInt8 := [42, 182, 1, 79, 29, 160, 0, 23, 42, 180, 0, 9, 3, 43, 28, 29, 120, 42, 180, 0, 9, 190]
abbrev dktJ9_getBytes_0 : List UInt8 := dkwJ9_getBytes_0 ++ dktJ9_getBytes_1
theorem dksJ9_getBytes_0 : cJ9_getBytes.data.toList.drop 0 = dktJ9_getBytes_0 := by decide +kernel
theorem dksJ9_getBytes_1 : cJ9_getBytes.data.toList.drop 22 = dktJ9_getBytes_1 := dk_seg dksJ9_getBytes_0 22 rfl rfl
theorem dJ9_getBytes_0 : decode cJ9_getBytes 0 = .ok (.aload_n 0, 1) := dk_42 (dk_at dksJ9_getBytes_0 0 rfl rfl)
theorem dJ9_getBytes_1 : decode cJ9_getBytes 1 = .ok (.invokevirtual 335, 3) := dk_182 1 79 (dk_at dksJ9_getBytes_0 1 rfl rfl)
theorem dJ9_getBytes_4 : decode cJ9_getBytes 4 = .ok (.iload_n 3, 1) := dk_29 (dk_at dksJ9_getBytes_0 4 rfl rfl)
theorem dJ9_getBytes_5 : decode cJ9_getBytes 5 = .ok (.if_icmp .ne 23, 3) := dk_160 0 23 (dk_at dksJ9_getBytes_0 5 rfl rfl)
theorem dJ9_getBytes_8 : decode cJ9_getBytes 8 = .ok (.aload_n 0, 1) := dk_42 (dk_at dksJ9_getBytes_0 8 rfl rfl)
theorem dJ9_getBytes_9 : decode cJ9_getBytes 9 = .ok (.getfield 9, 3) := dk_180 0 9 (dk_at dksJ9_getBytes_0 9 rfl rfl)
theorem dJ9_getBytes_12 : decode cJ9_getBytes 12 = .ok (.iconst 0, 1) := dk_3 (dk_at dksJ9_getBytes_0 12 rfl rfl)
theorem dJ9_getBytes_13 : decode cJ9_getBytes 13 = .ok (.aload_n 1, 1) := dk_43 (dk_at dksJ9_getBytes_0 13 rfl rfl)
theorem dJ9_getBytes_14 : decode cJ9_getBytes 14 = .ok (.iload_n 2, 1) := dk_28 (dk_at dksJ9_getBytes_0 14 rfl rfl)
theorem dJ9_getBytes_15 : decode cJ9_getBytes 15 = .ok (.iload_n 3, 1) := dk_29 (dk_at dksJ9_getBytes_0 15 rfl rfl)
theorem dJ9_getBytes_16 : decode cJ9_getBytes 16 = .ok (.ishl, 1) := dk_120 (dk_at dksJ9_getBytes_0 16 rfl rfl)
theorem dJ9_getBytes_17 : decode cJ9_getBytes 17 = .ok (.aload_n 0, 1) := dk_42 (dk_at dksJ9_getBytes_0 17 rfl rfl)
theorem dJ9_getBytes_18 : decode cJ9_getBytes 18 = .ok (.getfield 9, 3) := dk_180 0 9 (dk_at dksJ9_getBytes_0 18 rfl rfl)
theorem dJ9_getBytes_21 : decode cJ9_getBytes 21 = .ok (.arraylength, 1) := dk_190 (dk_at dksJ9_getBytes_0 21 rfl rfl)
theorem dJ9_getBytes_22 : decode cJ9_getBytes 22 = .ok (.invokestatic 212, 3) := dk_184 0 212 (dk_at dksJ9_getBytes_1 0 rfl rfl)
theorem dJ9_getBytes_25 : decode cJ9_getBytes 25 = .ok (.goto 18, 3) := dk_167 0 18 (dk_at dksJ9_getBytes_1 3 rfl rfl)
theorem dJ9_getBytes_28 : decode cJ9_getBytes 28 = .ok (.aload_n 0, 1) := dk_42 (dk_at dksJ9_getBytes_1 6 rfl rfl)
theorem dJ9_getBytes_29 : decode cJ9_getBytes 29 = .ok (.getfield 9, 3) := dk_180 0 9 (dk_at dksJ9_getBytes_1 7 rfl rfl)
theorem dJ9_getBytes_32 : decode cJ9_getBytes 32 = .ok (.iconst 0, 1) := dk_3 (dk_at dksJ9_getBytes_1 10 rfl rfl)
theorem dJ9_getBytes_33 : decode cJ9_getBytes 33 = .ok (.aload_n 1, 1) := dk_43 (dk_at dksJ9_getBytes_1 11 rfl rfl)
theorem dJ9_getBytes_34 : decode cJ9_getBytes 34 = .ok (.iload_n 2, 1) := dk_28 (dk_at dksJ9_getBytes_1 12 rfl rfl)
theorem dJ9_getBytes_35 : decode cJ9_getBytes 35 = .ok (.aload_n 0, 1) := dk_42 (dk_at dksJ9_getBytes_1 13 rfl rfl)
theorem dJ9_getBytes_36 : decode cJ9_getBytes 36 = .ok (.getfield 9, 3) := dk_180 0 9 (dk_at dksJ9_getBytes_1 14 rfl rfl)
theorem dJ9_getBytes_39 : decode cJ9_getBytes 39 = .ok (.arraylength, 1) := dk_190 (dk_at dksJ9_getBytes_1 17 rfl rfl)
theorem dJ9_getBytes_40 : decode cJ9_getBytes 40 = .ok (.invokestatic 106, 3) := dk_184 0 106 (dk_at dksJ9_getBytes_1 18 rfl rfl)
theorem dJ9_getBytes_43 : decode cJ9_getBytes 43 = .ok (.return_, 1) := dk_177 (dk_at dksJ9_getBytes_1 21 rfl rfl)
abbrev cJ9_init : ByteArray := prog_31_method_53_code
def yJ9_init : MethodName := ⟨RJ9, "<init>", "(Ljava/lang/StringBuilder;)V"⟩
def dkwJ9_init_0 : List UInt8 := [42, 43, 1, 183, 1, 233, 177]
abbrev dktJ9_init_0 : List UInt8 := dkwJ9_init_0 ++ []
theorem dksJ9_init_0 : cJ9_init.data.toList.drop 0 = dktJ9_init_0 := by decide +kernel
theorem dJ9_init_0 : decode cJ9_init 0 = .ok (.aload_n 0, 1) := dk_42 (dk_at dksJ9_init_0 0 rfl rfl)
theorem dJ9_init_1 : decode cJ9_init 1 = .ok (.aload_n 1, 1) := dk_43 (dk_at dksJ9_init_0 1 rfl rfl)
theorem dJ9_init_2 : decode cJ9_init 2 = .ok (.aconst_null, 1) := dk_1 (dk_at dksJ9_init_0 2 rfl rfl)
theorem dJ9_init_3 : decode cJ9_init 3 = .ok (.invokespecial 489, 3) := dk_183 1 233 (dk_at dksJ9_init_0 3 rfl rfl)
theorem dJ9_init_6 : decode cJ9_init 6 = .ok (.return_, 1) := dk_177 (dk_at dksJ9_init_0 6 rfl rfl)
abbrev cJ9_init_2 : ByteArray := prog_31_method_150_code
def yJ9_init_2 : MethodName := ⟨RJ9, "<init>", "(Ljava/lang/AbstractStringBuilder;Ljava/lang/Void;)V"⟩
def dkwJ9_init_2_4 : List UInt8 := [181, 0, 9, 177]
abbrev dktJ9_init_2_4 : List UInt8 := dkwJ9_init_2_4 ++ []
def dkwJ9_init_2_3 : List UInt8 := [184, 0, 47, 181, 0, 15, 177, 42, 4, 181, 0, 15, 42, 45, 3, 21, 4, 4, 120, 184, 0, 54]
abbrev dktJ9_init_2_3 : List UInt8 := dkwJ9_init_2_3 ++ dktJ9_init_2_4
def dkwJ9_init_2_2 : List UInt8 := [180, 4, 24, 153, 0, 28, 42, 45, 3, 21, 4, 184, 4, 27, 181, 0, 9, 42, 42, 180, 0, 9, 21, 4]
abbrev dktJ9_init_2_2 : List UInt8 := dkwJ9_init_2_2 ++ dktJ9_init_2_3
def dkwJ9_init_2_1 : List UInt8 := [181, 0, 15, 42, 45, 3, 21, 4, 184, 0, 54, 181, 0, 9, 167, 0, 59, 178, 0, 38, 153, 0, 35, 43]
abbrev dktJ9_init_2_1 : List UInt8 := dkwJ9_init_2_1 ++ dktJ9_init_2_2
def dkwJ9_init_2_0 : List UInt8 := [42, 183, 0, 1, 43, 182, 2, 40, 78, 43, 182, 2, 37, 54, 4, 43, 182, 4, 23, 153, 0, 22, 42, 3]
abbrev dktJ9_init_2_0 : List UInt8 := dkwJ9_init_2_0 ++ dktJ9_init_2_1
theorem dksJ9_init_2_0 : cJ9_init_2.data.toList.drop 0 = dktJ9_init_2_0 := by decide +kernel
theorem dksJ9_init_2_1 : cJ9_init_2.data.toList.drop 24 = dktJ9_init_2_1 := dk_seg dksJ9_init_2_0 24 rfl rfl
theorem dksJ9_init_2_2 : cJ9_init_2.data.toList.drop 48 = dktJ9_init_2_2 := dk_seg dksJ9_init_2_1 24 rfl rfl
theorem dksJ9_init_2_3 : cJ9_init_2.data.toList.drop 72 = dktJ9_init_2_3 := dk_seg dksJ9_init_2_2 24 rfl rfl
theorem dksJ9_init_2_4 : cJ9_init_2.data.toList.drop 94 = dktJ9_init_2_4 := dk_seg dksJ9_init_2_3 22 rfl rfl
theorem dJ9_init_2_0 : decode cJ9_init_2 0 = .ok (.aload_n 0, 1) := dk_42 (dk_at dksJ9_init_2_0 0 rfl rfl)
theorem dJ9_init_2_1 : decode cJ9_init_2 1 = .ok (.invokespecial 1, 3) := dk_183 0 1 (dk_at dksJ9_init_2_0 1 rfl rfl)
theorem dJ9_init_2_4 : decode cJ9_init_2 4 = .ok (.aload_n 1, 1) := dk_43 (dk_at dksJ9_init_2_0 4 rfl rfl)
theorem dJ9_init_2_5 : decode cJ9_init_2 5 = .ok (.invokevirtual 552, 3) := dk_182 2 40 (dk_at dksJ9_init_2_0 5 rfl rfl)
theorem dJ9_init_2_8 : decode cJ9_init_2 8 = .ok (.astore_n 3, 1) := dk_78 (dk_at dksJ9_init_2_0 8 rfl rfl)
theorem dJ9_init_2_9 : decode cJ9_init_2 9 = .ok (.aload_n 1, 1) := dk_43 (dk_at dksJ9_init_2_0 9 rfl rfl)
theorem dJ9_init_2_10 : decode cJ9_init_2 10 = .ok (.invokevirtual 549, 3) := dk_182 2 37 (dk_at dksJ9_init_2_0 10 rfl rfl)
theorem dJ9_init_2_13 : decode cJ9_init_2 13 = .ok (.istore 4, 2) := dk_54 4 (dk_at dksJ9_init_2_0 13 rfl rfl)
theorem dJ9_init_2_15 : decode cJ9_init_2 15 = .ok (.aload_n 1, 1) := dk_43 (dk_at dksJ9_init_2_0 15 rfl rfl)
theorem dJ9_init_2_16 : decode cJ9_init_2 16 = .ok (.invokevirtual 1047, 3) := dk_182 4 23 (dk_at dksJ9_init_2_0 16 rfl rfl)
theorem dJ9_init_2_19 : decode cJ9_init_2 19 = .ok (.ifCond .eq 22, 3) := dk_153 0 22 (dk_at dksJ9_init_2_0 19 rfl rfl)
theorem dJ9_init_2_22 : decode cJ9_init_2 22 = .ok (.aload_n 0, 1) := dk_42 (dk_at dksJ9_init_2_0 22 rfl rfl)
theorem dJ9_init_2_23 : decode cJ9_init_2 23 = .ok (.iconst 0, 1) := dk_3 (dk_at dksJ9_init_2_0 23 rfl rfl)
theorem dJ9_init_2_24 : decode cJ9_init_2 24 = .ok (.putfield 15, 3) := dk_181 0 15 (dk_at dksJ9_init_2_1 0 rfl rfl)
theorem dJ9_init_2_27 : decode cJ9_init_2 27 = .ok (.aload_n 0, 1) := dk_42 (dk_at dksJ9_init_2_1 3 rfl rfl)
theorem dJ9_init_2_28 : decode cJ9_init_2 28 = .ok (.aload_n 3, 1) := dk_45 (dk_at dksJ9_init_2_1 4 rfl rfl)
theorem dJ9_init_2_29 : decode cJ9_init_2 29 = .ok (.iconst 0, 1) := dk_3 (dk_at dksJ9_init_2_1 5 rfl rfl)
theorem dJ9_init_2_30 : decode cJ9_init_2 30 = .ok (.iload 4, 2) := dk_21 4 (dk_at dksJ9_init_2_1 6 rfl rfl)
theorem dJ9_init_2_32 : decode cJ9_init_2 32 = .ok (.invokestatic 54, 3) := dk_184 0 54 (dk_at dksJ9_init_2_1 8 rfl rfl)
theorem dJ9_init_2_35 : decode cJ9_init_2 35 = .ok (.putfield 9, 3) := dk_181 0 9 (dk_at dksJ9_init_2_1 11 rfl rfl)
theorem dJ9_init_2_38 : decode cJ9_init_2 38 = .ok (.goto 59, 3) := dk_167 0 59 (dk_at dksJ9_init_2_1 14 rfl rfl)
theorem dJ9_init_2_41 : decode cJ9_init_2 41 = .ok (.getstatic 38, 3) := dk_178 0 38 (dk_at dksJ9_init_2_1 17 rfl rfl)
theorem dJ9_init_2_44 : decode cJ9_init_2 44 = .ok (.ifCond .eq 35, 3) := dk_153 0 35 (dk_at dksJ9_init_2_1 20 rfl rfl)
theorem dJ9_init_2_47 : decode cJ9_init_2 47 = .ok (.aload_n 1, 1) := dk_43 (dk_at dksJ9_init_2_1 23 rfl rfl)
theorem dJ9_init_2_48 : decode cJ9_init_2 48 = .ok (.getfield 1048, 3) := dk_180 4 24 (dk_at dksJ9_init_2_2 0 rfl rfl)
theorem dJ9_init_2_51 : decode cJ9_init_2 51 = .ok (.ifCond .eq 28, 3) := dk_153 0 28 (dk_at dksJ9_init_2_2 3 rfl rfl)
theorem dJ9_init_2_54 : decode cJ9_init_2 54 = .ok (.aload_n 0, 1) := dk_42 (dk_at dksJ9_init_2_2 6 rfl rfl)
theorem dJ9_init_2_55 : decode cJ9_init_2 55 = .ok (.aload_n 3, 1) := dk_45 (dk_at dksJ9_init_2_2 7 rfl rfl)
theorem dJ9_init_2_56 : decode cJ9_init_2 56 = .ok (.iconst 0, 1) := dk_3 (dk_at dksJ9_init_2_2 8 rfl rfl)
theorem dJ9_init_2_57 : decode cJ9_init_2 57 = .ok (.iload 4, 2) := dk_21 4 (dk_at dksJ9_init_2_2 9 rfl rfl)
theorem dJ9_init_2_59 : decode cJ9_init_2 59 = .ok (.invokestatic 1051, 3) := dk_184 4 27 (dk_at dksJ9_init_2_2 11 rfl rfl)
theorem dJ9_init_2_62 : decode cJ9_init_2 62 = .ok (.putfield 9, 3) := dk_181 0 9 (dk_at dksJ9_init_2_2 14 rfl rfl)
theorem dJ9_init_2_65 : decode cJ9_init_2 65 = .ok (.aload_n 0, 1) := dk_42 (dk_at dksJ9_init_2_2 17 rfl rfl)
theorem dJ9_init_2_66 : decode cJ9_init_2 66 = .ok (.aload_n 0, 1) := dk_42 (dk_at dksJ9_init_2_2 18 rfl rfl)
theorem dJ9_init_2_67 : decode cJ9_init_2 67 = .ok (.getfield 9, 3) := dk_180 0 9 (dk_at dksJ9_init_2_2 19 rfl rfl)
theorem dJ9_init_2_70 : decode cJ9_init_2 70 = .ok (.iload 4, 2) := dk_21 4 (dk_at dksJ9_init_2_2 22 rfl rfl)
theorem dJ9_init_2_72 : decode cJ9_init_2 72 = .ok (.invokestatic 47, 3) := dk_184 0 47 (dk_at dksJ9_init_2_3 0 rfl rfl)
theorem dJ9_init_2_75 : decode cJ9_init_2 75 = .ok (.putfield 15, 3) := dk_181 0 15 (dk_at dksJ9_init_2_3 3 rfl rfl)
theorem dJ9_init_2_78 : decode cJ9_init_2 78 = .ok (.return_, 1) := dk_177 (dk_at dksJ9_init_2_3 6 rfl rfl)
theorem dJ9_init_2_79 : decode cJ9_init_2 79 = .ok (.aload_n 0, 1) := dk_42 (dk_at dksJ9_init_2_3 7 rfl rfl)
theorem dJ9_init_2_80 : decode cJ9_init_2 80 = .ok (.iconst 1, 1) := dk_4 (dk_at dksJ9_init_2_3 8 rfl rfl)
theorem dJ9_init_2_81 : decode cJ9_init_2 81 = .ok (.putfield 15, 3) := dk_181 0 15 (dk_at dksJ9_init_2_3 9 rfl rfl)
theorem dJ9_init_2_84 : decode cJ9_init_2 84 = .ok (.aload_n 0, 1) := dk_42 (dk_at dksJ9_init_2_3 12 rfl rfl)
theorem dJ9_init_2_85 : decode cJ9_init_2 85 = .ok (.aload_n 3, 1) := dk_45 (dk_at dksJ9_init_2_3 13 rfl rfl)
theorem dJ9_init_2_86 : decode cJ9_init_2 86 = .ok (.iconst 0, 1) := dk_3 (dk_at dksJ9_init_2_3 14 rfl rfl)
theorem dJ9_init_2_87 : decode cJ9_init_2 87 = .ok (.iload 4, 2) := dk_21 4 (dk_at dksJ9_init_2_3 15 rfl rfl)
theorem dJ9_init_2_89 : decode cJ9_init_2 89 = .ok (.iconst 1, 1) := dk_4 (dk_at dksJ9_init_2_3 17 rfl rfl)
theorem dJ9_init_2_90 : decode cJ9_init_2 90 = .ok (.ishl, 1) := dk_120 (dk_at dksJ9_init_2_3 18 rfl rfl)
theorem dJ9_init_2_91 : decode cJ9_init_2 91 = .ok (.invokestatic 54, 3) := dk_184 0 54 (dk_at dksJ9_init_2_3 19 rfl rfl)
theorem dJ9_init_2_94 : decode cJ9_init_2 94 = .ok (.putfield 9, 3) := dk_181 0 9 (dk_at dksJ9_init_2_4 0 rfl rfl)
theorem dJ9_init_2_97 : decode cJ9_init_2 97 = .ok (.return_, 1) := dk_177 (dk_at dksJ9_init_2_4 3 rfl rfl)
abbrev cJ9_valueOf : ByteArray := prog_31_method_133_code
def yJ9_valueOf : MethodName := ⟨RJ9, "valueOf", "(Ljava/lang/Object;)Ljava/lang/String;"⟩
def dkwJ9_valueOf_0 : List UInt8 := [42, 199, 0, 9, 19, 3, 237, 167, 0, 7, 42, 182, 3, 239, 176]
abbrev dktJ9_valueOf_0 : List UInt8 := dkwJ9_valueOf_0 ++ []
theorem dksJ9_valueOf_0 : cJ9_valueOf.data.toList.drop 0 = dktJ9_valueOf_0 := by decide +kernel
theorem dJ9_valueOf_0 : decode cJ9_valueOf 0 = .ok (.aload_n 0, 1) := dk_42 (dk_at dksJ9_valueOf_0 0 rfl rfl)
theorem dJ9_valueOf_1 : decode cJ9_valueOf 1 = .ok (.ifnonnull 9, 3) := dk_199 0 9 (dk_at dksJ9_valueOf_0 1 rfl rfl)
theorem dJ9_valueOf_4 : decode cJ9_valueOf 4 = .ok (.ldc_w 1005, 3) := dk_19 3 237 (dk_at dksJ9_valueOf_0 4 rfl rfl)
theorem dJ9_valueOf_7 : decode cJ9_valueOf 7 = .ok (.goto 7, 3) := dk_167 0 7 (dk_at dksJ9_valueOf_0 7 rfl rfl)
theorem dJ9_valueOf_10 : decode cJ9_valueOf 10 = .ok (.aload_n 0, 1) := dk_42 (dk_at dksJ9_valueOf_0 10 rfl rfl)
theorem dJ9_valueOf_11 : decode cJ9_valueOf 11 = .ok (.invokevirtual 1007, 3) := dk_182 3 239 (dk_at dksJ9_valueOf_0 11 rfl rfl)
theorem dJ9_valueOf_14 : decode cJ9_valueOf 14 = .ok (.areturn, 1) := dk_176 (dk_at dksJ9_valueOf_0 14 rfl rfl)
abbrev cJ9_valueOf_2 : ByteArray := prog_31_method_139_code
def yJ9_valueOf_2 : MethodName := ⟨RJ9, "valueOf", "(C)Ljava/lang/String;"⟩
def dkwJ9_valueOf_2_1 : List UInt8 := [183, 0, 209, 176, 187, 0, 10, 89, 26, 184, 3, 253, 4, 183, 0, 209, 176]
abbrev dktJ9_valueOf_2_1 : List UInt8 := dkwJ9_valueOf_2_1 ++ []
def dkwJ9_valueOf_2_0 : List UInt8 := [178, 0, 38, 153, 0, 23, 26, 184, 3, 247, 153, 0, 16, 187, 0, 10, 89, 26, 184, 3, 250, 3]
abbrev dktJ9_valueOf_2_0 : List UInt8 := dkwJ9_valueOf_2_0 ++ dktJ9_valueOf_2_1
theorem dksJ9_valueOf_2_0 : cJ9_valueOf_2.data.toList.drop 0 = dktJ9_valueOf_2_0 := by decide +kernel
theorem dksJ9_valueOf_2_1 : cJ9_valueOf_2.data.toList.drop 22 = dktJ9_valueOf_2_1 := dk_seg dksJ9_valueOf_2_0 22 rfl rfl
theorem dJ9_valueOf_2_0 : decode cJ9_valueOf_2 0 = .ok (.getstatic 38, 3) := dk_178 0 38 (dk_at dksJ9_valueOf_2_0 0 rfl rfl)
theorem dJ9_valueOf_2_3 : decode cJ9_valueOf_2 3 = .ok (.ifCond .eq 23, 3) := dk_153 0 23 (dk_at dksJ9_valueOf_2_0 3 rfl rfl)
theorem dJ9_valueOf_2_6 : decode cJ9_valueOf_2 6 = .ok (.iload_n 0, 1) := dk_26 (dk_at dksJ9_valueOf_2_0 6 rfl rfl)
theorem dJ9_valueOf_2_7 : decode cJ9_valueOf_2 7 = .ok (.invokestatic 1015, 3) := dk_184 3 247 (dk_at dksJ9_valueOf_2_0 7 rfl rfl)
theorem dJ9_valueOf_2_10 : decode cJ9_valueOf_2 10 = .ok (.ifCond .eq 16, 3) := dk_153 0 16 (dk_at dksJ9_valueOf_2_0 10 rfl rfl)
theorem dJ9_valueOf_2_13 : decode cJ9_valueOf_2 13 = .ok (.new 10, 3) := dk_187 0 10 (dk_at dksJ9_valueOf_2_0 13 rfl rfl)
theorem dJ9_valueOf_2_16 : decode cJ9_valueOf_2 16 = .ok (.dup, 1) := dk_89 (dk_at dksJ9_valueOf_2_0 16 rfl rfl)
theorem dJ9_valueOf_2_17 : decode cJ9_valueOf_2 17 = .ok (.iload_n 0, 1) := dk_26 (dk_at dksJ9_valueOf_2_0 17 rfl rfl)
theorem dJ9_valueOf_2_18 : decode cJ9_valueOf_2 18 = .ok (.invokestatic 1018, 3) := dk_184 3 250 (dk_at dksJ9_valueOf_2_0 18 rfl rfl)
theorem dJ9_valueOf_2_21 : decode cJ9_valueOf_2 21 = .ok (.iconst 0, 1) := dk_3 (dk_at dksJ9_valueOf_2_0 21 rfl rfl)
theorem dJ9_valueOf_2_22 : decode cJ9_valueOf_2 22 = .ok (.invokespecial 209, 3) := dk_183 0 209 (dk_at dksJ9_valueOf_2_1 0 rfl rfl)
theorem dJ9_valueOf_2_25 : decode cJ9_valueOf_2 25 = .ok (.areturn, 1) := dk_176 (dk_at dksJ9_valueOf_2_1 3 rfl rfl)
theorem dJ9_valueOf_2_26 : decode cJ9_valueOf_2 26 = .ok (.new 10, 3) := dk_187 0 10 (dk_at dksJ9_valueOf_2_1 4 rfl rfl)
theorem dJ9_valueOf_2_29 : decode cJ9_valueOf_2 29 = .ok (.dup, 1) := dk_89 (dk_at dksJ9_valueOf_2_1 7 rfl rfl)
theorem dJ9_valueOf_2_30 : decode cJ9_valueOf_2 30 = .ok (.iload_n 0, 1) := dk_26 (dk_at dksJ9_valueOf_2_1 8 rfl rfl)
theorem dJ9_valueOf_2_31 : decode cJ9_valueOf_2 31 = .ok (.invokestatic 1021, 3) := dk_184 3 253 (dk_at dksJ9_valueOf_2_1 9 rfl rfl)
theorem dJ9_valueOf_2_34 : decode cJ9_valueOf_2 34 = .ok (.iconst 1, 1) := dk_4 (dk_at dksJ9_valueOf_2_1 12 rfl rfl)
theorem dJ9_valueOf_2_35 : decode cJ9_valueOf_2 35 = .ok (.invokespecial 209, 3) := dk_183 0 209 (dk_at dksJ9_valueOf_2_1 13 rfl rfl)
theorem dJ9_valueOf_2_38 : decode cJ9_valueOf_2 38 = .ok (.areturn, 1) := dk_176 (dk_at dksJ9_valueOf_2_1 16 rfl rfl)
abbrev cJ9_init_3 : ByteArray := prog_31_method_151_code
def yJ9_init_3 : MethodName := ⟨RJ9, "<init>", "([BB)V"⟩
def dkwJ9_init_3_0 : List UInt8 := [42, 183, 0, 1, 42, 43, 181, 0, 9, 42, 28, 181, 0, 15, 177]
abbrev dktJ9_init_3_0 : List UInt8 := dkwJ9_init_3_0 ++ []
theorem dksJ9_init_3_0 : cJ9_init_3.data.toList.drop 0 = dktJ9_init_3_0 := by decide +kernel
theorem dJ9_init_3_0 : decode cJ9_init_3 0 = .ok (.aload_n 0, 1) := dk_42 (dk_at dksJ9_init_3_0 0 rfl rfl)
theorem dJ9_init_3_1 : decode cJ9_init_3 1 = .ok (.invokespecial 1, 3) := dk_183 0 1 (dk_at dksJ9_init_3_0 1 rfl rfl)
theorem dJ9_init_3_4 : decode cJ9_init_3 4 = .ok (.aload_n 0, 1) := dk_42 (dk_at dksJ9_init_3_0 4 rfl rfl)
theorem dJ9_init_3_5 : decode cJ9_init_3 5 = .ok (.aload_n 1, 1) := dk_43 (dk_at dksJ9_init_3_0 5 rfl rfl)
theorem dJ9_init_3_6 : decode cJ9_init_3 6 = .ok (.putfield 9, 3) := dk_181 0 9 (dk_at dksJ9_init_3_0 6 rfl rfl)
theorem dJ9_init_3_9 : decode cJ9_init_3 9 = .ok (.aload_n 0, 1) := dk_42 (dk_at dksJ9_init_3_0 9 rfl rfl)
theorem dJ9_init_3_10 : decode cJ9_init_3 10 = .ok (.iload_n 2, 1) := dk_28 (dk_at dksJ9_init_3_0 10 rfl rfl)
theorem dJ9_init_3_11 : decode cJ9_init_3 11 = .ok (.putfield 15, 3) := dk_181 0 15 (dk_at dksJ9_init_3_0 11 rfl rfl)
theorem dJ9_init_3_14 : decode cJ9_init_3 14 = .ok (.return_, 1) := dk_177 (dk_at dksJ9_init_3_0 14 rfl rfl)
abbrev cJ9_toString : ByteArray := prog_31_method_126_code
def yJ9_toString : MethodName := ⟨RJ9, "toString", "()Ljava/lang/String;"⟩
theorem dJ9_toString_0 : decode cJ9_toString 0 = .ok (.aload_n 0, 1) := by decide +kernel
theorem dJ9_toString_1 : decode cJ9_toString 1 = .ok (.areturn, 1) := by decide +kernel
abbrev cJ9_checkIndex : ByteArray := prog_31_method_155_code
def yJ9_checkIndex : MethodName := ⟨RJ9, "checkIndex", "(II)V"⟩
def dkwJ9_checkIndex_0 : List UInt8 := [26, 27, 178, 4, 29, 184, 4, 35, 87, 177]
abbrev dktJ9_checkIndex_0 : List UInt8 := dkwJ9_checkIndex_0 ++ []
theorem dksJ9_checkIndex_0 : cJ9_checkIndex.data.toList.drop 0 = dktJ9_checkIndex_0 := by decide +kernel
theorem dJ9_checkIndex_0 : decode cJ9_checkIndex 0 = .ok (.iload_n 0, 1) := dk_26 (dk_at dksJ9_checkIndex_0 0 rfl rfl)
theorem dJ9_checkIndex_1 : decode cJ9_checkIndex 1 = .ok (.iload_n 1, 1) := dk_27 (dk_at dksJ9_checkIndex_0 1 rfl rfl)
theorem dJ9_checkIndex_2 : decode cJ9_checkIndex 2 = .ok (.getstatic 1053, 3) := dk_178 4 29 (dk_at dksJ9_checkIndex_0 2 rfl rfl)
theorem dJ9_checkIndex_5 : decode cJ9_checkIndex 5 = .ok (.invokestatic 1059, 3) := dk_184 4 35 (dk_at dksJ9_checkIndex_0 5 rfl rfl)
theorem dJ9_checkIndex_8 : decode cJ9_checkIndex 8 = .ok (.pop, 1) := dk_87 (dk_at dksJ9_checkIndex_0 8 rfl rfl)
theorem dJ9_checkIndex_9 : decode cJ9_checkIndex 9 = .ok (.return_, 1) := dk_177 (dk_at dksJ9_checkIndex_0 9 rfl rfl)
abbrev cJ9_charAt : ByteArray := prog_31_method_56_code
def yJ9_charAt : MethodName := ⟨RJ9, "charAt", "(I)C"⟩
def dkwJ9_charAt_1 : List UInt8 := [172]
abbrev dktJ9_charAt_1 : List UInt8 := dkwJ9_charAt_1 ++ []
def dkwJ9_charAt_0 : List UInt8 := [42, 182, 1, 236, 153, 0, 12, 42, 180, 0, 9, 27, 184, 1, 239, 172, 42, 180, 0, 9, 27, 184, 1, 242]
abbrev dktJ9_charAt_0 : List UInt8 := dkwJ9_charAt_0 ++ dktJ9_charAt_1
theorem dksJ9_charAt_0 : cJ9_charAt.data.toList.drop 0 = dktJ9_charAt_0 := by decide +kernel
theorem dksJ9_charAt_1 : cJ9_charAt.data.toList.drop 24 = dktJ9_charAt_1 := dk_seg dksJ9_charAt_0 24 rfl rfl
theorem dJ9_charAt_0 : decode cJ9_charAt 0 = .ok (.aload_n 0, 1) := dk_42 (dk_at dksJ9_charAt_0 0 rfl rfl)
theorem dJ9_charAt_1 : decode cJ9_charAt 1 = .ok (.invokevirtual 492, 3) := dk_182 1 236 (dk_at dksJ9_charAt_0 1 rfl rfl)
theorem dJ9_charAt_4 : decode cJ9_charAt 4 = .ok (.ifCond .eq 12, 3) := dk_153 0 12 (dk_at dksJ9_charAt_0 4 rfl rfl)
theorem dJ9_charAt_7 : decode cJ9_charAt 7 = .ok (.aload_n 0, 1) := dk_42 (dk_at dksJ9_charAt_0 7 rfl rfl)
theorem dJ9_charAt_8 : decode cJ9_charAt 8 = .ok (.getfield 9, 3) := dk_180 0 9 (dk_at dksJ9_charAt_0 8 rfl rfl)
theorem dJ9_charAt_11 : decode cJ9_charAt 11 = .ok (.iload_n 1, 1) := dk_27 (dk_at dksJ9_charAt_0 11 rfl rfl)
theorem dJ9_charAt_12 : decode cJ9_charAt 12 = .ok (.invokestatic 495, 3) := dk_184 1 239 (dk_at dksJ9_charAt_0 12 rfl rfl)
theorem dJ9_charAt_15 : decode cJ9_charAt 15 = .ok (.ireturn, 1) := dk_172 (dk_at dksJ9_charAt_0 15 rfl rfl)
theorem dJ9_charAt_16 : decode cJ9_charAt 16 = .ok (.aload_n 0, 1) := dk_42 (dk_at dksJ9_charAt_0 16 rfl rfl)
theorem dJ9_charAt_17 : decode cJ9_charAt 17 = .ok (.getfield 9, 3) := dk_180 0 9 (dk_at dksJ9_charAt_0 17 rfl rfl)
theorem dJ9_charAt_20 : decode cJ9_charAt 20 = .ok (.iload_n 1, 1) := dk_27 (dk_at dksJ9_charAt_0 20 rfl rfl)
theorem dJ9_charAt_21 : decode cJ9_charAt 21 = .ok (.invokestatic 498, 3) := dk_184 1 242 (dk_at dksJ9_charAt_0 21 rfl rfl)
theorem dJ9_charAt_24 : decode cJ9_charAt 24 = .ok (.ireturn, 1) := dk_172 (dk_at dksJ9_charAt_1 0 rfl rfl)
abbrev cJ9_isLatin1 : ByteArray := prog_31_method_154_code
def yJ9_isLatin1 : MethodName := ⟨RJ9, "isLatin1", "()Z"⟩
def dkwJ9_isLatin1_0 : List UInt8 := [178, 0, 38, 153, 0, 14, 42, 180, 0, 15, 154, 0, 7, 4, 167, 0, 4, 3, 172]
abbrev dktJ9_isLatin1_0 : List UInt8 := dkwJ9_isLatin1_0 ++ []
theorem dksJ9_isLatin1_0 : cJ9_isLatin1.data.toList.drop 0 = dktJ9_isLatin1_0 := by decide +kernel
theorem dJ9_isLatin1_0 : decode cJ9_isLatin1 0 = .ok (.getstatic 38, 3) := dk_178 0 38 (dk_at dksJ9_isLatin1_0 0 rfl rfl)
theorem dJ9_isLatin1_3 : decode cJ9_isLatin1 3 = .ok (.ifCond .eq 14, 3) := dk_153 0 14 (dk_at dksJ9_isLatin1_0 3 rfl rfl)
theorem dJ9_isLatin1_6 : decode cJ9_isLatin1 6 = .ok (.aload_n 0, 1) := dk_42 (dk_at dksJ9_isLatin1_0 6 rfl rfl)
theorem dJ9_isLatin1_7 : decode cJ9_isLatin1 7 = .ok (.getfield 15, 3) := dk_180 0 15 (dk_at dksJ9_isLatin1_0 7 rfl rfl)
theorem dJ9_isLatin1_10 : decode cJ9_isLatin1 10 = .ok (.ifCond .ne 7, 3) := dk_154 0 7 (dk_at dksJ9_isLatin1_0 10 rfl rfl)
theorem dJ9_isLatin1_13 : decode cJ9_isLatin1 13 = .ok (.iconst 1, 1) := dk_4 (dk_at dksJ9_isLatin1_0 13 rfl rfl)
theorem dJ9_isLatin1_14 : decode cJ9_isLatin1 14 = .ok (.goto 4, 3) := dk_167 0 4 (dk_at dksJ9_isLatin1_0 14 rfl rfl)
theorem dJ9_isLatin1_17 : decode cJ9_isLatin1 17 = .ok (.iconst 0, 1) := dk_3 (dk_at dksJ9_isLatin1_0 17 rfl rfl)
theorem dJ9_isLatin1_18 : decode cJ9_isLatin1 18 = .ok (.ireturn, 1) := dk_172 (dk_at dksJ9_isLatin1_0 18 rfl rfl)
abbrev cJ9_equals : ByteArray := prog_31_method_66_code
def yJ9_equals : MethodName := ⟨RJ9, "equals", "(Ljava/lang/Object;)Z"⟩
def dkwJ9_equals_2 : List UInt8 := [184, 2, 29, 153, 0, 7, 4, 167, 0, 4, 3, 172]
abbrev dktJ9_equals_2 : List UInt8 := dkwJ9_equals_2 ++ []
def dkwJ9_equals_1 : List UInt8 := [153, 0, 14, 42, 180, 0, 15, 44, 180, 0, 15, 160, 0, 21, 42, 180, 0, 9, 44, 180, 0, 9]
abbrev dktJ9_equals_1 : List UInt8 := dkwJ9_equals_1 ++ dktJ9_equals_2
def dkwJ9_equals_0 : List UInt8 := [42, 43, 166, 0, 5, 4, 172, 43, 193, 0, 10, 153, 0, 43, 43, 192, 0, 10, 77, 178, 0, 38]
abbrev dktJ9_equals_0 : List UInt8 := dkwJ9_equals_0 ++ dktJ9_equals_1
theorem dksJ9_equals_0 : cJ9_equals.data.toList.drop 0 = dktJ9_equals_0 := by decide +kernel
theorem dksJ9_equals_1 : cJ9_equals.data.toList.drop 22 = dktJ9_equals_1 := dk_seg dksJ9_equals_0 22 rfl rfl
theorem dksJ9_equals_2 : cJ9_equals.data.toList.drop 44 = dktJ9_equals_2 := dk_seg dksJ9_equals_1 22 rfl rfl
theorem dJ9_equals_0 : decode cJ9_equals 0 = .ok (.aload_n 0, 1) := dk_42 (dk_at dksJ9_equals_0 0 rfl rfl)
theorem dJ9_equals_1 : decode cJ9_equals 1 = .ok (.aload_n 1, 1) := dk_43 (dk_at dksJ9_equals_0 1 rfl rfl)
theorem dJ9_equals_2 : decode cJ9_equals 2 = .ok (.if_acmp .ne 5, 3) := dk_166 0 5 (dk_at dksJ9_equals_0 2 rfl rfl)
theorem dJ9_equals_5 : decode cJ9_equals 5 = .ok (.iconst 1, 1) := dk_4 (dk_at dksJ9_equals_0 5 rfl rfl)
theorem dJ9_equals_6 : decode cJ9_equals 6 = .ok (.ireturn, 1) := dk_172 (dk_at dksJ9_equals_0 6 rfl rfl)
theorem dJ9_equals_7 : decode cJ9_equals 7 = .ok (.aload_n 1, 1) := dk_43 (dk_at dksJ9_equals_0 7 rfl rfl)
theorem dJ9_equals_8 : decode cJ9_equals 8 = .ok (.instanceof 10, 3) := dk_193 0 10 (dk_at dksJ9_equals_0 8 rfl rfl)
theorem dJ9_equals_11 : decode cJ9_equals 11 = .ok (.ifCond .eq 43, 3) := dk_153 0 43 (dk_at dksJ9_equals_0 11 rfl rfl)
theorem dJ9_equals_14 : decode cJ9_equals 14 = .ok (.aload_n 1, 1) := dk_43 (dk_at dksJ9_equals_0 14 rfl rfl)
theorem dJ9_equals_15 : decode cJ9_equals 15 = .ok (.checkcast 10, 3) := dk_192 0 10 (dk_at dksJ9_equals_0 15 rfl rfl)
theorem dJ9_equals_18 : decode cJ9_equals 18 = .ok (.astore_n 2, 1) := dk_77 (dk_at dksJ9_equals_0 18 rfl rfl)
theorem dJ9_equals_19 : decode cJ9_equals 19 = .ok (.getstatic 38, 3) := dk_178 0 38 (dk_at dksJ9_equals_0 19 rfl rfl)
theorem dJ9_equals_22 : decode cJ9_equals 22 = .ok (.ifCond .eq 14, 3) := dk_153 0 14 (dk_at dksJ9_equals_1 0 rfl rfl)
theorem dJ9_equals_25 : decode cJ9_equals 25 = .ok (.aload_n 0, 1) := dk_42 (dk_at dksJ9_equals_1 3 rfl rfl)
theorem dJ9_equals_26 : decode cJ9_equals 26 = .ok (.getfield 15, 3) := dk_180 0 15 (dk_at dksJ9_equals_1 4 rfl rfl)
theorem dJ9_equals_29 : decode cJ9_equals 29 = .ok (.aload_n 2, 1) := dk_44 (dk_at dksJ9_equals_1 7 rfl rfl)
theorem dJ9_equals_30 : decode cJ9_equals 30 = .ok (.getfield 15, 3) := dk_180 0 15 (dk_at dksJ9_equals_1 8 rfl rfl)
theorem dJ9_equals_33 : decode cJ9_equals 33 = .ok (.if_icmp .ne 21, 3) := dk_160 0 21 (dk_at dksJ9_equals_1 11 rfl rfl)
theorem dJ9_equals_36 : decode cJ9_equals 36 = .ok (.aload_n 0, 1) := dk_42 (dk_at dksJ9_equals_1 14 rfl rfl)
theorem dJ9_equals_37 : decode cJ9_equals 37 = .ok (.getfield 9, 3) := dk_180 0 9 (dk_at dksJ9_equals_1 15 rfl rfl)
theorem dJ9_equals_40 : decode cJ9_equals 40 = .ok (.aload_n 2, 1) := dk_44 (dk_at dksJ9_equals_1 18 rfl rfl)
theorem dJ9_equals_41 : decode cJ9_equals 41 = .ok (.getfield 9, 3) := dk_180 0 9 (dk_at dksJ9_equals_1 19 rfl rfl)
theorem dJ9_equals_44 : decode cJ9_equals 44 = .ok (.invokestatic 541, 3) := dk_184 2 29 (dk_at dksJ9_equals_2 0 rfl rfl)
theorem dJ9_equals_47 : decode cJ9_equals 47 = .ok (.ifCond .eq 7, 3) := dk_153 0 7 (dk_at dksJ9_equals_2 3 rfl rfl)
theorem dJ9_equals_50 : decode cJ9_equals 50 = .ok (.iconst 1, 1) := dk_4 (dk_at dksJ9_equals_2 6 rfl rfl)
theorem dJ9_equals_51 : decode cJ9_equals 51 = .ok (.goto 4, 3) := dk_167 0 4 (dk_at dksJ9_equals_2 7 rfl rfl)
theorem dJ9_equals_54 : decode cJ9_equals 54 = .ok (.iconst 0, 1) := dk_3 (dk_at dksJ9_equals_2 10 rfl rfl)
theorem dJ9_equals_55 : decode cJ9_equals 55 = .ok (.ireturn, 1) := dk_172 (dk_at dksJ9_equals_2 11 rfl rfl)
abbrev cJ22_inflate : ByteArray := prog_34_method_50_code
def yJ22_inflate : MethodName := ⟨RJ22, "inflate", "([BI[BII)V"⟩
def dkwJ22_inflate_0 : List UInt8 := [42, 27, 44, 29, 21, 4, 184, 0, 240, 177]
abbrev dktJ22_inflate_0 : List UInt8 := dkwJ22_inflate_0 ++ []
theorem dksJ22_inflate_0 : cJ22_inflate.data.toList.drop 0 = dktJ22_inflate_0 := by decide +kernel
theorem dJ22_inflate_0 : decode cJ22_inflate 0 = .ok (.aload_n 0, 1) := dk_42 (dk_at dksJ22_inflate_0 0 rfl rfl)
theorem dJ22_inflate_1 : decode cJ22_inflate 1 = .ok (.iload_n 1, 1) := dk_27 (dk_at dksJ22_inflate_0 1 rfl rfl)
theorem dJ22_inflate_2 : decode cJ22_inflate 2 = .ok (.aload_n 2, 1) := dk_44 (dk_at dksJ22_inflate_0 2 rfl rfl)
theorem dJ22_inflate_3 : decode cJ22_inflate 3 = .ok (.iload_n 3, 1) := dk_29 (dk_at dksJ22_inflate_0 3 rfl rfl)
theorem dJ22_inflate_4 : decode cJ22_inflate 4 = .ok (.iload 4, 2) := dk_21 4 (dk_at dksJ22_inflate_0 4 rfl rfl)
theorem dJ22_inflate_6 : decode cJ22_inflate 6 = .ok (.invokestatic 240, 3) := dk_184 0 240 (dk_at dksJ22_inflate_0 6 rfl rfl)
theorem dJ22_inflate_9 : decode cJ22_inflate 9 = .ok (.return_, 1) := dk_177 (dk_at dksJ22_inflate_0 9 rfl rfl)
abbrev cJ22_fillNull : ByteArray := prog_34_method_48_code
def yJ22_fillNull : MethodName := ⟨RJ22, "fillNull", "([BII)V"⟩
def dkwJ22_fillNull_0 : List UInt8 := [42, 27, 28, 3, 184, 0, 236, 177]
abbrev dktJ22_fillNull_0 : List UInt8 := dkwJ22_fillNull_0 ++ []
theorem dksJ22_fillNull_0 : cJ22_fillNull.data.toList.drop 0 = dktJ22_fillNull_0 := by decide +kernel
theorem dJ22_fillNull_0 : decode cJ22_fillNull 0 = .ok (.aload_n 0, 1) := dk_42 (dk_at dksJ22_fillNull_0 0 rfl rfl)
theorem dJ22_fillNull_1 : decode cJ22_fillNull 1 = .ok (.iload_n 1, 1) := dk_27 (dk_at dksJ22_fillNull_0 1 rfl rfl)
theorem dJ22_fillNull_2 : decode cJ22_fillNull 2 = .ok (.iload_n 2, 1) := dk_28 (dk_at dksJ22_fillNull_0 2 rfl rfl)
theorem dJ22_fillNull_3 : decode cJ22_fillNull 3 = .ok (.iconst 0, 1) := dk_3 (dk_at dksJ22_fillNull_0 3 rfl rfl)
theorem dJ22_fillNull_4 : decode cJ22_fillNull 4 = .ok (.invokestatic 236, 3) := dk_184 0 236 (dk_at dksJ22_fillNull_0 4 rfl rfl)
theorem dJ22_fillNull_7 : decode cJ22_fillNull 7 = .ok (.return_, 1) := dk_177 (dk_at dksJ22_fillNull_0 7 rfl rfl)
abbrev cJ22_canEncode : ByteArray := prog_34_method_3_code
def yJ22_canEncode : MethodName := ⟨RJ22, "canEncode", "(C)Z"⟩
def dkwJ22_canEncode_0 : List UInt8 := [26, 17, 0, 255, 163, 0, 7, 4, 167, 0, 4, 3, 172]
abbrev dktJ22_canEncode_0 : List UInt8 := dkwJ22_canEncode_0 ++ []
theorem dksJ22_canEncode_0 : cJ22_canEncode.data.toList.drop 0 = dktJ22_canEncode_0 := by decide +kernel
theorem dJ22_canEncode_0 : decode cJ22_canEncode 0 = .ok (.iload_n 0, 1) := dk_26 (dk_at dksJ22_canEncode_0 0 rfl rfl)
theorem dJ22_canEncode_1 : decode cJ22_canEncode 1 = .ok (.sipush 255, 3) := dk_17 0 255 (dk_at dksJ22_canEncode_0 1 rfl rfl)
theorem dJ22_canEncode_4 : decode cJ22_canEncode 4 = .ok (.if_icmp .gt 7, 3) := dk_163 0 7 (dk_at dksJ22_canEncode_0 4 rfl rfl)
theorem dJ22_canEncode_7 : decode cJ22_canEncode 7 = .ok (.iconst 1, 1) := dk_4 (dk_at dksJ22_canEncode_0 7 rfl rfl)
theorem dJ22_canEncode_8 : decode cJ22_canEncode 8 = .ok (.goto 4, 3) := dk_167 0 4 (dk_at dksJ22_canEncode_0 8 rfl rfl)
theorem dJ22_canEncode_11 : decode cJ22_canEncode 11 = .ok (.iconst 0, 1) := dk_3 (dk_at dksJ22_canEncode_0 11 rfl rfl)
theorem dJ22_canEncode_12 : decode cJ22_canEncode 12 = .ok (.ireturn, 1) := dk_172 (dk_at dksJ22_canEncode_0 12 rfl rfl)
abbrev cJ22_toBytes : ByteArray := prog_34_method_46_code
def yJ22_toBytes : MethodName := ⟨RJ22, "toBytes", "(C)[B"⟩
def dkwJ22_toBytes_0 : List UInt8 := [4, 188, 8, 89, 3, 26, 145, 84, 176]
abbrev dktJ22_toBytes_0 : List UInt8 := dkwJ22_toBytes_0 ++ []
theorem dksJ22_toBytes_0 : cJ22_toBytes.data.toList.drop 0 = dktJ22_toBytes_0 := by decide +kernel
theorem dJ22_toBytes_0 : decode cJ22_toBytes 0 = .ok (.iconst 1, 1) := dk_4 (dk_at dksJ22_toBytes_0 0 rfl rfl)
theorem dJ22_toBytes_1 : decode cJ22_toBytes 1 = .ok (.newarray .byte, 2) := dk_188_8 (dk_at dksJ22_toBytes_0 1 rfl rfl)
theorem dJ22_toBytes_3 : decode cJ22_toBytes 3 = .ok (.dup, 1) := dk_89 (dk_at dksJ22_toBytes_0 3 rfl rfl)
theorem dJ22_toBytes_4 : decode cJ22_toBytes 4 = .ok (.iconst 0, 1) := dk_3 (dk_at dksJ22_toBytes_0 4 rfl rfl)
theorem dJ22_toBytes_5 : decode cJ22_toBytes 5 = .ok (.iload_n 0, 1) := dk_26 (dk_at dksJ22_toBytes_0 5 rfl rfl)
theorem dJ22_toBytes_6 : decode cJ22_toBytes 6 = .ok (.i2b, 1) := dk_145 (dk_at dksJ22_toBytes_0 6 rfl rfl)
theorem dJ22_toBytes_7 : decode cJ22_toBytes 7 = .ok (.bastore, 1) := dk_84 (dk_at dksJ22_toBytes_0 7 rfl rfl)
theorem dJ22_toBytes_8 : decode cJ22_toBytes 8 = .ok (.areturn, 1) := dk_176 (dk_at dksJ22_toBytes_0 8 rfl rfl)
abbrev cJ22_charAt : ByteArray := prog_34_method_2_code
def yJ22_charAt : MethodName := ⟨RJ22, "charAt", "([BI)C"⟩
def dkwJ22_charAt_0 : List UInt8 := [27, 42, 190, 184, 0, 9, 42, 27, 51, 17, 0, 255, 126, 146, 172]
abbrev dktJ22_charAt_0 : List UInt8 := dkwJ22_charAt_0 ++ []
theorem dksJ22_charAt_0 : cJ22_charAt.data.toList.drop 0 = dktJ22_charAt_0 := by decide +kernel
theorem dJ22_charAt_0 : decode cJ22_charAt 0 = .ok (.iload_n 1, 1) := dk_27 (dk_at dksJ22_charAt_0 0 rfl rfl)
theorem dJ22_charAt_1 : decode cJ22_charAt 1 = .ok (.aload_n 0, 1) := dk_42 (dk_at dksJ22_charAt_0 1 rfl rfl)
theorem dJ22_charAt_2 : decode cJ22_charAt 2 = .ok (.arraylength, 1) := dk_190 (dk_at dksJ22_charAt_0 2 rfl rfl)
theorem dJ22_charAt_3 : decode cJ22_charAt 3 = .ok (.invokestatic 9, 3) := dk_184 0 9 (dk_at dksJ22_charAt_0 3 rfl rfl)
theorem dJ22_charAt_6 : decode cJ22_charAt 6 = .ok (.aload_n 0, 1) := dk_42 (dk_at dksJ22_charAt_0 6 rfl rfl)
theorem dJ22_charAt_7 : decode cJ22_charAt 7 = .ok (.iload_n 1, 1) := dk_27 (dk_at dksJ22_charAt_0 7 rfl rfl)
theorem dJ22_charAt_8 : decode cJ22_charAt 8 = .ok (.baload, 1) := dk_51 (dk_at dksJ22_charAt_0 8 rfl rfl)
theorem dJ22_charAt_9 : decode cJ22_charAt 9 = .ok (.sipush 255, 3) := dk_17 0 255 (dk_at dksJ22_charAt_0 9 rfl rfl)
theorem dJ22_charAt_12 : decode cJ22_charAt 12 = .ok (.iand, 1) := dk_126 (dk_at dksJ22_charAt_0 12 rfl rfl)
theorem dJ22_charAt_13 : decode cJ22_charAt 13 = .ok (.i2c, 1) := dk_146 (dk_at dksJ22_charAt_0 13 rfl rfl)
theorem dJ22_charAt_14 : decode cJ22_charAt 14 = .ok (.ireturn, 1) := dk_172 (dk_at dksJ22_charAt_0 14 rfl rfl)
abbrev cJ22_equals : ByteArray := prog_34_method_13_code
def yJ22_equals : MethodName := ⟨RJ22, "equals", "([B[B)Z"⟩
def dkwJ22_equals_1 : List UInt8 := [3, 172, 132, 2, 1, 167, 255, 236, 4, 172, 3, 172]
abbrev dktJ22_equals_1 : List UInt8 := dkwJ22_equals_1 ++ []
def dkwJ22_equals_0 : List UInt8 := [42, 190, 43, 190, 160, 0, 30, 3, 61, 28, 42, 190, 162, 0, 20, 42, 28, 51, 43, 28, 51, 159, 0, 5]
abbrev dktJ22_equals_0 : List UInt8 := dkwJ22_equals_0 ++ dktJ22_equals_1
theorem dksJ22_equals_0 : cJ22_equals.data.toList.drop 0 = dktJ22_equals_0 := by decide +kernel
theorem dksJ22_equals_1 : cJ22_equals.data.toList.drop 24 = dktJ22_equals_1 := dk_seg dksJ22_equals_0 24 rfl rfl
theorem dJ22_equals_0 : decode cJ22_equals 0 = .ok (.aload_n 0, 1) := dk_42 (dk_at dksJ22_equals_0 0 rfl rfl)
theorem dJ22_equals_1 : decode cJ22_equals 1 = .ok (.arraylength, 1) := dk_190 (dk_at dksJ22_equals_0 1 rfl rfl)
theorem dJ22_equals_2 : decode cJ22_equals 2 = .ok (.aload_n 1, 1) := dk_43 (dk_at dksJ22_equals_0 2 rfl rfl)
theorem dJ22_equals_3 : decode cJ22_equals 3 = .ok (.arraylength, 1) := dk_190 (dk_at dksJ22_equals_0 3 rfl rfl)
theorem dJ22_equals_4 : decode cJ22_equals 4 = .ok (.if_icmp .ne 30, 3) := dk_160 0 30 (dk_at dksJ22_equals_0 4 rfl rfl)
theorem dJ22_equals_7 : decode cJ22_equals 7 = .ok (.iconst 0, 1) := dk_3 (dk_at dksJ22_equals_0 7 rfl rfl)
theorem dJ22_equals_8 : decode cJ22_equals 8 = .ok (.istore_n 2, 1) := dk_61 (dk_at dksJ22_equals_0 8 rfl rfl)
theorem dJ22_equals_9 : decode cJ22_equals 9 = .ok (.iload_n 2, 1) := dk_28 (dk_at dksJ22_equals_0 9 rfl rfl)
theorem dJ22_equals_10 : decode cJ22_equals 10 = .ok (.aload_n 0, 1) := dk_42 (dk_at dksJ22_equals_0 10 rfl rfl)
theorem dJ22_equals_11 : decode cJ22_equals 11 = .ok (.arraylength, 1) := dk_190 (dk_at dksJ22_equals_0 11 rfl rfl)
theorem dJ22_equals_12 : decode cJ22_equals 12 = .ok (.if_icmp .ge 20, 3) := dk_162 0 20 (dk_at dksJ22_equals_0 12 rfl rfl)
theorem dJ22_equals_15 : decode cJ22_equals 15 = .ok (.aload_n 0, 1) := dk_42 (dk_at dksJ22_equals_0 15 rfl rfl)
theorem dJ22_equals_16 : decode cJ22_equals 16 = .ok (.iload_n 2, 1) := dk_28 (dk_at dksJ22_equals_0 16 rfl rfl)
theorem dJ22_equals_17 : decode cJ22_equals 17 = .ok (.baload, 1) := dk_51 (dk_at dksJ22_equals_0 17 rfl rfl)
theorem dJ22_equals_18 : decode cJ22_equals 18 = .ok (.aload_n 1, 1) := dk_43 (dk_at dksJ22_equals_0 18 rfl rfl)
theorem dJ22_equals_19 : decode cJ22_equals 19 = .ok (.iload_n 2, 1) := dk_28 (dk_at dksJ22_equals_0 19 rfl rfl)
theorem dJ22_equals_20 : decode cJ22_equals 20 = .ok (.baload, 1) := dk_51 (dk_at dksJ22_equals_0 20 rfl rfl)
theorem dJ22_equals_21 : decode cJ22_equals 21 = .ok (.if_icmp .eq 5, 3) := dk_159 0 5 (dk_at dksJ22_equals_0 21 rfl rfl)
theorem dJ22_equals_24 : decode cJ22_equals 24 = .ok (.iconst 0, 1) := dk_3 (dk_at dksJ22_equals_1 0 rfl rfl)
theorem dJ22_equals_25 : decode cJ22_equals 25 = .ok (.ireturn, 1) := dk_172 (dk_at dksJ22_equals_1 1 rfl rfl)
theorem dJ22_equals_26 : decode cJ22_equals 26 = .ok (.iinc 2 1, 3) := dk_132 2 1 (dk_at dksJ22_equals_1 2 rfl rfl)
theorem dJ22_equals_29 : decode cJ22_equals 29 = .ok (.goto (-20), 3) := dk_167 255 236 (dk_at dksJ22_equals_1 5 rfl rfl)
theorem dJ22_equals_32 : decode cJ22_equals 32 = .ok (.iconst 1, 1) := dk_4 (dk_at dksJ22_equals_1 8 rfl rfl)
theorem dJ22_equals_33 : decode cJ22_equals 33 = .ok (.ireturn, 1) := dk_172 (dk_at dksJ22_equals_1 9 rfl rfl)
theorem dJ22_equals_34 : decode cJ22_equals 34 = .ok (.iconst 0, 1) := dk_3 (dk_at dksJ22_equals_1 10 rfl rfl)
theorem dJ22_equals_35 : decode cJ22_equals 35 = .ok (.ireturn, 1) := dk_172 (dk_at dksJ22_equals_1 11 rfl rfl)
abbrev cJ23_init : ByteArray := prog_29_method_1_code
def yJ23_init : MethodName := ⟨RJ23, "<init>", "()V"⟩
theorem dJ23_init_0 : decode cJ23_init 0 = .ok (.aload_n 0, 1) := by decide +kernel
theorem dJ23_init_1 : decode cJ23_init 1 = .ok (.invokespecial 1, 3) := by decide +kernel
theorem dJ23_init_4 : decode cJ23_init 4 = .ok (.return_, 1) := by decide +kernel
abbrev cJ24_stringSize : ByteArray := prog_24_method_13_code
def yJ24_stringSize : MethodName := ⟨RJ24, "stringSize", "(I)I"⟩
def dkwJ24_stringSize_1 : List UInt8 := [164, 0, 7, 29, 27, 96, 172, 16, 10, 28, 104, 61, 132, 3, 1, 167, 255, 233, 16, 10, 27, 96, 172]
abbrev dktJ24_stringSize_1 : List UInt8 := dkwJ24_stringSize_1 ++ []
def dkwJ24_stringSize_0 : List UInt8 := [4, 60, 26, 155, 0, 8, 3, 60, 26, 116, 59, 16, 246, 61, 4, 62, 29, 16, 10, 162, 0, 23, 26, 28]
abbrev dktJ24_stringSize_0 : List UInt8 := dkwJ24_stringSize_0 ++ dktJ24_stringSize_1
theorem dksJ24_stringSize_0 : cJ24_stringSize.data.toList.drop 0 = dktJ24_stringSize_0 := by decide +kernel
theorem dksJ24_stringSize_1 : cJ24_stringSize.data.toList.drop 24 = dktJ24_stringSize_1 := dk_seg dksJ24_stringSize_0 24 rfl rfl
theorem dJ24_stringSize_0 : decode cJ24_stringSize 0 = .ok (.iconst 1, 1) := dk_4 (dk_at dksJ24_stringSize_0 0 rfl rfl)
theorem dJ24_stringSize_1 : decode cJ24_stringSize 1 = .ok (.istore_n 1, 1) := dk_60 (dk_at dksJ24_stringSize_0 1 rfl rfl)
theorem dJ24_stringSize_2 : decode cJ24_stringSize 2 = .ok (.iload_n 0, 1) := dk_26 (dk_at dksJ24_stringSize_0 2 rfl rfl)
theorem dJ24_stringSize_3 : decode cJ24_stringSize 3 = .ok (.ifCond .lt 8, 3) := dk_155 0 8 (dk_at dksJ24_stringSize_0 3 rfl rfl)
theorem dJ24_stringSize_6 : decode cJ24_stringSize 6 = .ok (.iconst 0, 1) := dk_3 (dk_at dksJ24_stringSize_0 6 rfl rfl)
theorem dJ24_stringSize_7 : decode cJ24_stringSize 7 = .ok (.istore_n 1, 1) := dk_60 (dk_at dksJ24_stringSize_0 7 rfl rfl)
theorem dJ24_stringSize_8 : decode cJ24_stringSize 8 = .ok (.iload_n 0, 1) := dk_26 (dk_at dksJ24_stringSize_0 8 rfl rfl)
theorem dJ24_stringSize_9 : decode cJ24_stringSize 9 = .ok (.ineg, 1) := dk_116 (dk_at dksJ24_stringSize_0 9 rfl rfl)
theorem dJ24_stringSize_10 : decode cJ24_stringSize 10 = .ok (.istore_n 0, 1) := dk_59 (dk_at dksJ24_stringSize_0 10 rfl rfl)
theorem dJ24_stringSize_11 : decode cJ24_stringSize 11 = .ok (.bipush (-10), 2) := dk_16 246 (dk_at dksJ24_stringSize_0 11 rfl rfl)
theorem dJ24_stringSize_13 : decode cJ24_stringSize 13 = .ok (.istore_n 2, 1) := dk_61 (dk_at dksJ24_stringSize_0 13 rfl rfl)
theorem dJ24_stringSize_14 : decode cJ24_stringSize 14 = .ok (.iconst 1, 1) := dk_4 (dk_at dksJ24_stringSize_0 14 rfl rfl)
theorem dJ24_stringSize_15 : decode cJ24_stringSize 15 = .ok (.istore_n 3, 1) := dk_62 (dk_at dksJ24_stringSize_0 15 rfl rfl)
theorem dJ24_stringSize_16 : decode cJ24_stringSize 16 = .ok (.iload_n 3, 1) := dk_29 (dk_at dksJ24_stringSize_0 16 rfl rfl)
theorem dJ24_stringSize_17 : decode cJ24_stringSize 17 = .ok (.bipush 10, 2) := dk_16 10 (dk_at dksJ24_stringSize_0 17 rfl rfl)
theorem dJ24_stringSize_19 : decode cJ24_stringSize 19 = .ok (.if_icmp .ge 23, 3) := dk_162 0 23 (dk_at dksJ24_stringSize_0 19 rfl rfl)
theorem dJ24_stringSize_22 : decode cJ24_stringSize 22 = .ok (.iload_n 0, 1) := dk_26 (dk_at dksJ24_stringSize_0 22 rfl rfl)
theorem dJ24_stringSize_23 : decode cJ24_stringSize 23 = .ok (.iload_n 2, 1) := dk_28 (dk_at dksJ24_stringSize_0 23 rfl rfl)
theorem dJ24_stringSize_24 : decode cJ24_stringSize 24 = .ok (.if_icmp .le 7, 3) := dk_164 0 7 (dk_at dksJ24_stringSize_1 0 rfl rfl)
theorem dJ24_stringSize_27 : decode cJ24_stringSize 27 = .ok (.iload_n 3, 1) := dk_29 (dk_at dksJ24_stringSize_1 3 rfl rfl)
theorem dJ24_stringSize_28 : decode cJ24_stringSize 28 = .ok (.iload_n 1, 1) := dk_27 (dk_at dksJ24_stringSize_1 4 rfl rfl)
theorem dJ24_stringSize_29 : decode cJ24_stringSize 29 = .ok (.iadd, 1) := dk_96 (dk_at dksJ24_stringSize_1 5 rfl rfl)
theorem dJ24_stringSize_30 : decode cJ24_stringSize 30 = .ok (.ireturn, 1) := dk_172 (dk_at dksJ24_stringSize_1 6 rfl rfl)
theorem dJ24_stringSize_31 : decode cJ24_stringSize 31 = .ok (.bipush 10, 2) := dk_16 10 (dk_at dksJ24_stringSize_1 7 rfl rfl)
theorem dJ24_stringSize_33 : decode cJ24_stringSize 33 = .ok (.iload_n 2, 1) := dk_28 (dk_at dksJ24_stringSize_1 9 rfl rfl)
theorem dJ24_stringSize_34 : decode cJ24_stringSize 34 = .ok (.imul, 1) := dk_104 (dk_at dksJ24_stringSize_1 10 rfl rfl)
theorem dJ24_stringSize_35 : decode cJ24_stringSize 35 = .ok (.istore_n 2, 1) := dk_61 (dk_at dksJ24_stringSize_1 11 rfl rfl)
theorem dJ24_stringSize_36 : decode cJ24_stringSize 36 = .ok (.iinc 3 1, 3) := dk_132 3 1 (dk_at dksJ24_stringSize_1 12 rfl rfl)
theorem dJ24_stringSize_39 : decode cJ24_stringSize 39 = .ok (.goto (-23), 3) := dk_167 255 233 (dk_at dksJ24_stringSize_1 15 rfl rfl)
theorem dJ24_stringSize_42 : decode cJ24_stringSize 42 = .ok (.bipush 10, 2) := dk_16 10 (dk_at dksJ24_stringSize_1 18 rfl rfl)
theorem dJ24_stringSize_44 : decode cJ24_stringSize 44 = .ok (.iload_n 1, 1) := dk_27 (dk_at dksJ24_stringSize_1 20 rfl rfl)
theorem dJ24_stringSize_45 : decode cJ24_stringSize 45 = .ok (.iadd, 1) := dk_96 (dk_at dksJ24_stringSize_1 21 rfl rfl)
theorem dJ24_stringSize_46 : decode cJ24_stringSize 46 = .ok (.ireturn, 1) := dk_172 (dk_at dksJ24_stringSize_1 22 rfl rfl)
abbrev cJ24_getChars : ByteArray := prog_24_method_12_code
def yJ24_getChars : MethodName := ⟨RJ24, "getChars", "(II[B)I"⟩
def dkwJ24_getChars_5 : List UInt8 := [16, 45, 84, 21, 5, 172]
abbrev dktJ24_getChars_5 : List UInt8 := dkwJ24_getChars_5 ++ []
def dkwJ24_getChars_4 : List UInt8 := [132, 5, 255, 21, 5, 178, 0, 87, 26, 116, 51, 84, 21, 6, 153, 0, 12, 44, 132, 5, 255, 21, 5]
abbrev dktJ24_getChars_4 : List UInt8 := dkwJ24_getChars_4 ++ dktJ24_getChars_5
def dkwJ24_getChars_3 : List UInt8 := [167, 255, 209, 44, 132, 5, 255, 21, 5, 178, 0, 83, 26, 116, 51, 84, 26, 16, 247, 162, 0, 16, 44]
abbrev dktJ24_getChars_3 : List UInt8 := dkwJ24_getChars_3 ++ dktJ24_getChars_4
def dkwJ24_getChars_2 : List UInt8 := [21, 5, 178, 0, 83, 21, 4, 51, 84, 44, 132, 5, 255, 21, 5, 178, 0, 87, 21, 4, 51, 84]
abbrev dktJ24_getChars_2 : List UInt8 := dkwJ24_getChars_2 ++ dktJ24_getChars_3
def dkwJ24_getChars_1 : List UInt8 := [16, 156, 163, 0, 47, 26, 16, 100, 108, 62, 29, 16, 100, 104, 26, 100, 54, 4, 29, 59, 44, 132, 5, 255]
abbrev dktJ24_getChars_1 : List UInt8 := dkwJ24_getChars_1 ++ dktJ24_getChars_2
def dkwJ24_getChars_0 : List UInt8 := [27, 54, 5, 26, 156, 0, 7, 4, 167, 0, 4, 3, 54, 6, 21, 6, 154, 0, 6, 26, 116, 59, 26]
abbrev dktJ24_getChars_0 : List UInt8 := dkwJ24_getChars_0 ++ dktJ24_getChars_1
theorem dksJ24_getChars_0 : cJ24_getChars.data.toList.drop 0 = dktJ24_getChars_0 := by decide +kernel
theorem dksJ24_getChars_1 : cJ24_getChars.data.toList.drop 23 = dktJ24_getChars_1 := dk_seg dksJ24_getChars_0 23 rfl rfl
theorem dksJ24_getChars_2 : cJ24_getChars.data.toList.drop 47 = dktJ24_getChars_2 := dk_seg dksJ24_getChars_1 24 rfl rfl
theorem dksJ24_getChars_3 : cJ24_getChars.data.toList.drop 69 = dktJ24_getChars_3 := dk_seg dksJ24_getChars_2 22 rfl rfl
theorem dksJ24_getChars_4 : cJ24_getChars.data.toList.drop 92 = dktJ24_getChars_4 := dk_seg dksJ24_getChars_3 23 rfl rfl
theorem dksJ24_getChars_5 : cJ24_getChars.data.toList.drop 115 = dktJ24_getChars_5 := dk_seg dksJ24_getChars_4 23 rfl rfl
theorem dJ24_getChars_0 : decode cJ24_getChars 0 = .ok (.iload_n 1, 1) := dk_27 (dk_at dksJ24_getChars_0 0 rfl rfl)
theorem dJ24_getChars_1 : decode cJ24_getChars 1 = .ok (.istore 5, 2) := dk_54 5 (dk_at dksJ24_getChars_0 1 rfl rfl)
theorem dJ24_getChars_3 : decode cJ24_getChars 3 = .ok (.iload_n 0, 1) := dk_26 (dk_at dksJ24_getChars_0 3 rfl rfl)
theorem dJ24_getChars_4 : decode cJ24_getChars 4 = .ok (.ifCond .ge 7, 3) := dk_156 0 7 (dk_at dksJ24_getChars_0 4 rfl rfl)
theorem dJ24_getChars_7 : decode cJ24_getChars 7 = .ok (.iconst 1, 1) := dk_4 (dk_at dksJ24_getChars_0 7 rfl rfl)
theorem dJ24_getChars_8 : decode cJ24_getChars 8 = .ok (.goto 4, 3) := dk_167 0 4 (dk_at dksJ24_getChars_0 8 rfl rfl)
theorem dJ24_getChars_11 : decode cJ24_getChars 11 = .ok (.iconst 0, 1) := dk_3 (dk_at dksJ24_getChars_0 11 rfl rfl)
theorem dJ24_getChars_12 : decode cJ24_getChars 12 = .ok (.istore 6, 2) := dk_54 6 (dk_at dksJ24_getChars_0 12 rfl rfl)
theorem dJ24_getChars_14 : decode cJ24_getChars 14 = .ok (.iload 6, 2) := dk_21 6 (dk_at dksJ24_getChars_0 14 rfl rfl)
theorem dJ24_getChars_16 : decode cJ24_getChars 16 = .ok (.ifCond .ne 6, 3) := dk_154 0 6 (dk_at dksJ24_getChars_0 16 rfl rfl)
theorem dJ24_getChars_19 : decode cJ24_getChars 19 = .ok (.iload_n 0, 1) := dk_26 (dk_at dksJ24_getChars_0 19 rfl rfl)
theorem dJ24_getChars_20 : decode cJ24_getChars 20 = .ok (.ineg, 1) := dk_116 (dk_at dksJ24_getChars_0 20 rfl rfl)
theorem dJ24_getChars_21 : decode cJ24_getChars 21 = .ok (.istore_n 0, 1) := dk_59 (dk_at dksJ24_getChars_0 21 rfl rfl)
theorem dJ24_getChars_22 : decode cJ24_getChars 22 = .ok (.iload_n 0, 1) := dk_26 (dk_at dksJ24_getChars_0 22 rfl rfl)
theorem dJ24_getChars_23 : decode cJ24_getChars 23 = .ok (.bipush (-100), 2) := dk_16 156 (dk_at dksJ24_getChars_1 0 rfl rfl)
theorem dJ24_getChars_25 : decode cJ24_getChars 25 = .ok (.if_icmp .gt 47, 3) := dk_163 0 47 (dk_at dksJ24_getChars_1 2 rfl rfl)
theorem dJ24_getChars_28 : decode cJ24_getChars 28 = .ok (.iload_n 0, 1) := dk_26 (dk_at dksJ24_getChars_1 5 rfl rfl)
theorem dJ24_getChars_29 : decode cJ24_getChars 29 = .ok (.bipush 100, 2) := dk_16 100 (dk_at dksJ24_getChars_1 6 rfl rfl)
theorem dJ24_getChars_31 : decode cJ24_getChars 31 = .ok (.idiv, 1) := dk_108 (dk_at dksJ24_getChars_1 8 rfl rfl)
theorem dJ24_getChars_32 : decode cJ24_getChars 32 = .ok (.istore_n 3, 1) := dk_62 (dk_at dksJ24_getChars_1 9 rfl rfl)
theorem dJ24_getChars_33 : decode cJ24_getChars 33 = .ok (.iload_n 3, 1) := dk_29 (dk_at dksJ24_getChars_1 10 rfl rfl)
theorem dJ24_getChars_34 : decode cJ24_getChars 34 = .ok (.bipush 100, 2) := dk_16 100 (dk_at dksJ24_getChars_1 11 rfl rfl)
theorem dJ24_getChars_36 : decode cJ24_getChars 36 = .ok (.imul, 1) := dk_104 (dk_at dksJ24_getChars_1 13 rfl rfl)
theorem dJ24_getChars_37 : decode cJ24_getChars 37 = .ok (.iload_n 0, 1) := dk_26 (dk_at dksJ24_getChars_1 14 rfl rfl)
theorem dJ24_getChars_38 : decode cJ24_getChars 38 = .ok (.isub, 1) := dk_100 (dk_at dksJ24_getChars_1 15 rfl rfl)
theorem dJ24_getChars_39 : decode cJ24_getChars 39 = .ok (.istore 4, 2) := dk_54 4 (dk_at dksJ24_getChars_1 16 rfl rfl)
theorem dJ24_getChars_41 : decode cJ24_getChars 41 = .ok (.iload_n 3, 1) := dk_29 (dk_at dksJ24_getChars_1 18 rfl rfl)
theorem dJ24_getChars_42 : decode cJ24_getChars 42 = .ok (.istore_n 0, 1) := dk_59 (dk_at dksJ24_getChars_1 19 rfl rfl)
theorem dJ24_getChars_43 : decode cJ24_getChars 43 = .ok (.aload_n 2, 1) := dk_44 (dk_at dksJ24_getChars_1 20 rfl rfl)
theorem dJ24_getChars_44 : decode cJ24_getChars 44 = .ok (.iinc 5 (-1), 3) := dk_132 5 255 (dk_at dksJ24_getChars_1 21 rfl rfl)
theorem dJ24_getChars_47 : decode cJ24_getChars 47 = .ok (.iload 5, 2) := dk_21 5 (dk_at dksJ24_getChars_2 0 rfl rfl)
theorem dJ24_getChars_49 : decode cJ24_getChars 49 = .ok (.getstatic 83, 3) := dk_178 0 83 (dk_at dksJ24_getChars_2 2 rfl rfl)
theorem dJ24_getChars_52 : decode cJ24_getChars 52 = .ok (.iload 4, 2) := dk_21 4 (dk_at dksJ24_getChars_2 5 rfl rfl)
theorem dJ24_getChars_54 : decode cJ24_getChars 54 = .ok (.baload, 1) := dk_51 (dk_at dksJ24_getChars_2 7 rfl rfl)
theorem dJ24_getChars_55 : decode cJ24_getChars 55 = .ok (.bastore, 1) := dk_84 (dk_at dksJ24_getChars_2 8 rfl rfl)
theorem dJ24_getChars_56 : decode cJ24_getChars 56 = .ok (.aload_n 2, 1) := dk_44 (dk_at dksJ24_getChars_2 9 rfl rfl)
theorem dJ24_getChars_57 : decode cJ24_getChars 57 = .ok (.iinc 5 (-1), 3) := dk_132 5 255 (dk_at dksJ24_getChars_2 10 rfl rfl)
theorem dJ24_getChars_60 : decode cJ24_getChars 60 = .ok (.iload 5, 2) := dk_21 5 (dk_at dksJ24_getChars_2 13 rfl rfl)
theorem dJ24_getChars_62 : decode cJ24_getChars 62 = .ok (.getstatic 87, 3) := dk_178 0 87 (dk_at dksJ24_getChars_2 15 rfl rfl)
theorem dJ24_getChars_65 : decode cJ24_getChars 65 = .ok (.iload 4, 2) := dk_21 4 (dk_at dksJ24_getChars_2 18 rfl rfl)
theorem dJ24_getChars_67 : decode cJ24_getChars 67 = .ok (.baload, 1) := dk_51 (dk_at dksJ24_getChars_2 20 rfl rfl)
theorem dJ24_getChars_68 : decode cJ24_getChars 68 = .ok (.bastore, 1) := dk_84 (dk_at dksJ24_getChars_2 21 rfl rfl)
theorem dJ24_getChars_69 : decode cJ24_getChars 69 = .ok (.goto (-47), 3) := dk_167 255 209 (dk_at dksJ24_getChars_3 0 rfl rfl)
theorem dJ24_getChars_72 : decode cJ24_getChars 72 = .ok (.aload_n 2, 1) := dk_44 (dk_at dksJ24_getChars_3 3 rfl rfl)
theorem dJ24_getChars_73 : decode cJ24_getChars 73 = .ok (.iinc 5 (-1), 3) := dk_132 5 255 (dk_at dksJ24_getChars_3 4 rfl rfl)
theorem dJ24_getChars_76 : decode cJ24_getChars 76 = .ok (.iload 5, 2) := dk_21 5 (dk_at dksJ24_getChars_3 7 rfl rfl)
theorem dJ24_getChars_78 : decode cJ24_getChars 78 = .ok (.getstatic 83, 3) := dk_178 0 83 (dk_at dksJ24_getChars_3 9 rfl rfl)
theorem dJ24_getChars_81 : decode cJ24_getChars 81 = .ok (.iload_n 0, 1) := dk_26 (dk_at dksJ24_getChars_3 12 rfl rfl)
theorem dJ24_getChars_82 : decode cJ24_getChars 82 = .ok (.ineg, 1) := dk_116 (dk_at dksJ24_getChars_3 13 rfl rfl)
theorem dJ24_getChars_83 : decode cJ24_getChars 83 = .ok (.baload, 1) := dk_51 (dk_at dksJ24_getChars_3 14 rfl rfl)
theorem dJ24_getChars_84 : decode cJ24_getChars 84 = .ok (.bastore, 1) := dk_84 (dk_at dksJ24_getChars_3 15 rfl rfl)
theorem dJ24_getChars_85 : decode cJ24_getChars 85 = .ok (.iload_n 0, 1) := dk_26 (dk_at dksJ24_getChars_3 16 rfl rfl)
theorem dJ24_getChars_86 : decode cJ24_getChars 86 = .ok (.bipush (-9), 2) := dk_16 247 (dk_at dksJ24_getChars_3 17 rfl rfl)
theorem dJ24_getChars_88 : decode cJ24_getChars 88 = .ok (.if_icmp .ge 16, 3) := dk_162 0 16 (dk_at dksJ24_getChars_3 19 rfl rfl)
theorem dJ24_getChars_91 : decode cJ24_getChars 91 = .ok (.aload_n 2, 1) := dk_44 (dk_at dksJ24_getChars_3 22 rfl rfl)
theorem dJ24_getChars_92 : decode cJ24_getChars 92 = .ok (.iinc 5 (-1), 3) := dk_132 5 255 (dk_at dksJ24_getChars_4 0 rfl rfl)
theorem dJ24_getChars_95 : decode cJ24_getChars 95 = .ok (.iload 5, 2) := dk_21 5 (dk_at dksJ24_getChars_4 3 rfl rfl)
theorem dJ24_getChars_97 : decode cJ24_getChars 97 = .ok (.getstatic 87, 3) := dk_178 0 87 (dk_at dksJ24_getChars_4 5 rfl rfl)
theorem dJ24_getChars_100 : decode cJ24_getChars 100 = .ok (.iload_n 0, 1) := dk_26 (dk_at dksJ24_getChars_4 8 rfl rfl)
theorem dJ24_getChars_101 : decode cJ24_getChars 101 = .ok (.ineg, 1) := dk_116 (dk_at dksJ24_getChars_4 9 rfl rfl)
theorem dJ24_getChars_102 : decode cJ24_getChars 102 = .ok (.baload, 1) := dk_51 (dk_at dksJ24_getChars_4 10 rfl rfl)
theorem dJ24_getChars_103 : decode cJ24_getChars 103 = .ok (.bastore, 1) := dk_84 (dk_at dksJ24_getChars_4 11 rfl rfl)
theorem dJ24_getChars_104 : decode cJ24_getChars 104 = .ok (.iload 6, 2) := dk_21 6 (dk_at dksJ24_getChars_4 12 rfl rfl)
theorem dJ24_getChars_106 : decode cJ24_getChars 106 = .ok (.ifCond .eq 12, 3) := dk_153 0 12 (dk_at dksJ24_getChars_4 14 rfl rfl)
theorem dJ24_getChars_109 : decode cJ24_getChars 109 = .ok (.aload_n 2, 1) := dk_44 (dk_at dksJ24_getChars_4 17 rfl rfl)
theorem dJ24_getChars_110 : decode cJ24_getChars 110 = .ok (.iinc 5 (-1), 3) := dk_132 5 255 (dk_at dksJ24_getChars_4 18 rfl rfl)
theorem dJ24_getChars_113 : decode cJ24_getChars 113 = .ok (.iload 5, 2) := dk_21 5 (dk_at dksJ24_getChars_4 21 rfl rfl)
theorem dJ24_getChars_115 : decode cJ24_getChars 115 = .ok (.bipush 45, 2) := dk_16 45 (dk_at dksJ24_getChars_5 0 rfl rfl)
theorem dJ24_getChars_117 : decode cJ24_getChars 117 = .ok (.bastore, 1) := dk_84 (dk_at dksJ24_getChars_5 2 rfl rfl)
theorem dJ24_getChars_118 : decode cJ24_getChars 118 = .ok (.iload 5, 2) := dk_21 5 (dk_at dksJ24_getChars_5 3 rfl rfl)
theorem dJ24_getChars_120 : decode cJ24_getChars 120 = .ok (.ireturn, 1) := dk_172 (dk_at dksJ24_getChars_5 5 rfl rfl)
abbrev cJ24_numberOfTrailingZeros : ByteArray := prog_24_method_48_code
def yJ24_numberOfTrailingZeros : MethodName := ⟨RJ24, "numberOfTrailingZeros", "(I)I"⟩
def dkwJ24_numberOfTrailingZeros_3 : List UInt8 := [5, 124, 59, 27, 26, 4, 124, 96, 172]
abbrev dktJ24_numberOfTrailingZeros_3 : List UInt8 := dkwJ24_numberOfTrailingZeros_3 ++ []
def dkwJ24_numberOfTrailingZeros_2 : List UInt8 := [124, 59, 26, 16, 16, 164, 0, 10, 132, 1, 4, 26, 7, 124, 59, 26, 7, 164, 0, 10, 132, 1, 2, 26]
abbrev dktJ24_numberOfTrailingZeros_2 : List UInt8 := dkwJ24_numberOfTrailingZeros_2 ++ dktJ24_numberOfTrailingZeros_3
def dkwJ24_numberOfTrailingZeros_1 : List UInt8 := [164, 0, 11, 132, 1, 16, 26, 16, 16, 124, 59, 26, 17, 1, 0, 164, 0, 11, 132, 1, 8, 26, 16, 8]
abbrev dktJ24_numberOfTrailingZeros_1 : List UInt8 := dkwJ24_numberOfTrailingZeros_1 ++ dktJ24_numberOfTrailingZeros_2
def dkwJ24_numberOfTrailingZeros_0 : List UInt8 := [26, 2, 130, 26, 4, 100, 126, 59, 26, 157, 0, 8, 26, 16, 32, 126, 172, 4, 60, 26, 19, 1, 8]
abbrev dktJ24_numberOfTrailingZeros_0 : List UInt8 := dkwJ24_numberOfTrailingZeros_0 ++ dktJ24_numberOfTrailingZeros_1
theorem dksJ24_numberOfTrailingZeros_0 : cJ24_numberOfTrailingZeros.data.toList.drop 0 = dktJ24_numberOfTrailingZeros_0 := by decide +kernel
theorem dksJ24_numberOfTrailingZeros_1 : cJ24_numberOfTrailingZeros.data.toList.drop 23 = dktJ24_numberOfTrailingZeros_1 := dk_seg dksJ24_numberOfTrailingZeros_0 23 rfl rfl
theorem dksJ24_numberOfTrailingZeros_2 : cJ24_numberOfTrailingZeros.data.toList.drop 47 = dktJ24_numberOfTrailingZeros_2 := dk_seg dksJ24_numberOfTrailingZeros_1 24 rfl rfl
theorem dksJ24_numberOfTrailingZeros_3 : cJ24_numberOfTrailingZeros.data.toList.drop 71 = dktJ24_numberOfTrailingZeros_3 := dk_seg dksJ24_numberOfTrailingZeros_2 24 rfl rfl
theorem dJ24_numberOfTrailingZeros_0 : decode cJ24_numberOfTrailingZeros 0 = .ok (.iload_n 0, 1) := dk_26 (dk_at dksJ24_numberOfTrailingZeros_0 0 rfl rfl)
theorem dJ24_numberOfTrailingZeros_1 : decode cJ24_numberOfTrailingZeros 1 = .ok (.iconst (-1), 1) := dk_2 (dk_at dksJ24_numberOfTrailingZeros_0 1 rfl rfl)
theorem dJ24_numberOfTrailingZeros_2 : decode cJ24_numberOfTrailingZeros 2 = .ok (.ixor, 1) := dk_130 (dk_at dksJ24_numberOfTrailingZeros_0 2 rfl rfl)
theorem dJ24_numberOfTrailingZeros_3 : decode cJ24_numberOfTrailingZeros 3 = .ok (.iload_n 0, 1) := dk_26 (dk_at dksJ24_numberOfTrailingZeros_0 3 rfl rfl)
theorem dJ24_numberOfTrailingZeros_4 : decode cJ24_numberOfTrailingZeros 4 = .ok (.iconst 1, 1) := dk_4 (dk_at dksJ24_numberOfTrailingZeros_0 4 rfl rfl)
theorem dJ24_numberOfTrailingZeros_5 : decode cJ24_numberOfTrailingZeros 5 = .ok (.isub, 1) := dk_100 (dk_at dksJ24_numberOfTrailingZeros_0 5 rfl rfl)
theorem dJ24_numberOfTrailingZeros_6 : decode cJ24_numberOfTrailingZeros 6 = .ok (.iand, 1) := dk_126 (dk_at dksJ24_numberOfTrailingZeros_0 6 rfl rfl)
theorem dJ24_numberOfTrailingZeros_7 : decode cJ24_numberOfTrailingZeros 7 = .ok (.istore_n 0, 1) := dk_59 (dk_at dksJ24_numberOfTrailingZeros_0 7 rfl rfl)
theorem dJ24_numberOfTrailingZeros_8 : decode cJ24_numberOfTrailingZeros 8 = .ok (.iload_n 0, 1) := dk_26 (dk_at dksJ24_numberOfTrailingZeros_0 8 rfl rfl)
theorem dJ24_numberOfTrailingZeros_9 : decode cJ24_numberOfTrailingZeros 9 = .ok (.ifCond .gt 8, 3) := dk_157 0 8 (dk_at dksJ24_numberOfTrailingZeros_0 9 rfl rfl)
theorem dJ24_numberOfTrailingZeros_12 : decode cJ24_numberOfTrailingZeros 12 = .ok (.iload_n 0, 1) := dk_26 (dk_at dksJ24_numberOfTrailingZeros_0 12 rfl rfl)
theorem dJ24_numberOfTrailingZeros_13 : decode cJ24_numberOfTrailingZeros 13 = .ok (.bipush 32, 2) := dk_16 32 (dk_at dksJ24_numberOfTrailingZeros_0 13 rfl rfl)
theorem dJ24_numberOfTrailingZeros_15 : decode cJ24_numberOfTrailingZeros 15 = .ok (.iand, 1) := dk_126 (dk_at dksJ24_numberOfTrailingZeros_0 15 rfl rfl)
theorem dJ24_numberOfTrailingZeros_16 : decode cJ24_numberOfTrailingZeros 16 = .ok (.ireturn, 1) := dk_172 (dk_at dksJ24_numberOfTrailingZeros_0 16 rfl rfl)
theorem dJ24_numberOfTrailingZeros_17 : decode cJ24_numberOfTrailingZeros 17 = .ok (.iconst 1, 1) := dk_4 (dk_at dksJ24_numberOfTrailingZeros_0 17 rfl rfl)
theorem dJ24_numberOfTrailingZeros_18 : decode cJ24_numberOfTrailingZeros 18 = .ok (.istore_n 1, 1) := dk_60 (dk_at dksJ24_numberOfTrailingZeros_0 18 rfl rfl)
theorem dJ24_numberOfTrailingZeros_19 : decode cJ24_numberOfTrailingZeros 19 = .ok (.iload_n 0, 1) := dk_26 (dk_at dksJ24_numberOfTrailingZeros_0 19 rfl rfl)
theorem dJ24_numberOfTrailingZeros_20 : decode cJ24_numberOfTrailingZeros 20 = .ok (.ldc_w 264, 3) := dk_19 1 8 (dk_at dksJ24_numberOfTrailingZeros_0 20 rfl rfl)
theorem dJ24_numberOfTrailingZeros_23 : decode cJ24_numberOfTrailingZeros 23 = .ok (.if_icmp .le 11, 3) := dk_164 0 11 (dk_at dksJ24_numberOfTrailingZeros_1 0 rfl rfl)
theorem dJ24_numberOfTrailingZeros_26 : decode cJ24_numberOfTrailingZeros 26 = .ok (.iinc 1 16, 3) := dk_132 1 16 (dk_at dksJ24_numberOfTrailingZeros_1 3 rfl rfl)
theorem dJ24_numberOfTrailingZeros_29 : decode cJ24_numberOfTrailingZeros 29 = .ok (.iload_n 0, 1) := dk_26 (dk_at dksJ24_numberOfTrailingZeros_1 6 rfl rfl)
theorem dJ24_numberOfTrailingZeros_30 : decode cJ24_numberOfTrailingZeros 30 = .ok (.bipush 16, 2) := dk_16 16 (dk_at dksJ24_numberOfTrailingZeros_1 7 rfl rfl)
theorem dJ24_numberOfTrailingZeros_32 : decode cJ24_numberOfTrailingZeros 32 = .ok (.iushr, 1) := dk_124 (dk_at dksJ24_numberOfTrailingZeros_1 9 rfl rfl)
theorem dJ24_numberOfTrailingZeros_33 : decode cJ24_numberOfTrailingZeros 33 = .ok (.istore_n 0, 1) := dk_59 (dk_at dksJ24_numberOfTrailingZeros_1 10 rfl rfl)
theorem dJ24_numberOfTrailingZeros_34 : decode cJ24_numberOfTrailingZeros 34 = .ok (.iload_n 0, 1) := dk_26 (dk_at dksJ24_numberOfTrailingZeros_1 11 rfl rfl)
theorem dJ24_numberOfTrailingZeros_35 : decode cJ24_numberOfTrailingZeros 35 = .ok (.sipush 256, 3) := dk_17 1 0 (dk_at dksJ24_numberOfTrailingZeros_1 12 rfl rfl)
theorem dJ24_numberOfTrailingZeros_38 : decode cJ24_numberOfTrailingZeros 38 = .ok (.if_icmp .le 11, 3) := dk_164 0 11 (dk_at dksJ24_numberOfTrailingZeros_1 15 rfl rfl)
theorem dJ24_numberOfTrailingZeros_41 : decode cJ24_numberOfTrailingZeros 41 = .ok (.iinc 1 8, 3) := dk_132 1 8 (dk_at dksJ24_numberOfTrailingZeros_1 18 rfl rfl)
theorem dJ24_numberOfTrailingZeros_44 : decode cJ24_numberOfTrailingZeros 44 = .ok (.iload_n 0, 1) := dk_26 (dk_at dksJ24_numberOfTrailingZeros_1 21 rfl rfl)
theorem dJ24_numberOfTrailingZeros_45 : decode cJ24_numberOfTrailingZeros 45 = .ok (.bipush 8, 2) := dk_16 8 (dk_at dksJ24_numberOfTrailingZeros_1 22 rfl rfl)
theorem dJ24_numberOfTrailingZeros_47 : decode cJ24_numberOfTrailingZeros 47 = .ok (.iushr, 1) := dk_124 (dk_at dksJ24_numberOfTrailingZeros_2 0 rfl rfl)
theorem dJ24_numberOfTrailingZeros_48 : decode cJ24_numberOfTrailingZeros 48 = .ok (.istore_n 0, 1) := dk_59 (dk_at dksJ24_numberOfTrailingZeros_2 1 rfl rfl)
theorem dJ24_numberOfTrailingZeros_49 : decode cJ24_numberOfTrailingZeros 49 = .ok (.iload_n 0, 1) := dk_26 (dk_at dksJ24_numberOfTrailingZeros_2 2 rfl rfl)
theorem dJ24_numberOfTrailingZeros_50 : decode cJ24_numberOfTrailingZeros 50 = .ok (.bipush 16, 2) := dk_16 16 (dk_at dksJ24_numberOfTrailingZeros_2 3 rfl rfl)
theorem dJ24_numberOfTrailingZeros_52 : decode cJ24_numberOfTrailingZeros 52 = .ok (.if_icmp .le 10, 3) := dk_164 0 10 (dk_at dksJ24_numberOfTrailingZeros_2 5 rfl rfl)
theorem dJ24_numberOfTrailingZeros_55 : decode cJ24_numberOfTrailingZeros 55 = .ok (.iinc 1 4, 3) := dk_132 1 4 (dk_at dksJ24_numberOfTrailingZeros_2 8 rfl rfl)
theorem dJ24_numberOfTrailingZeros_58 : decode cJ24_numberOfTrailingZeros 58 = .ok (.iload_n 0, 1) := dk_26 (dk_at dksJ24_numberOfTrailingZeros_2 11 rfl rfl)
theorem dJ24_numberOfTrailingZeros_59 : decode cJ24_numberOfTrailingZeros 59 = .ok (.iconst 4, 1) := dk_7 (dk_at dksJ24_numberOfTrailingZeros_2 12 rfl rfl)
theorem dJ24_numberOfTrailingZeros_60 : decode cJ24_numberOfTrailingZeros 60 = .ok (.iushr, 1) := dk_124 (dk_at dksJ24_numberOfTrailingZeros_2 13 rfl rfl)
theorem dJ24_numberOfTrailingZeros_61 : decode cJ24_numberOfTrailingZeros 61 = .ok (.istore_n 0, 1) := dk_59 (dk_at dksJ24_numberOfTrailingZeros_2 14 rfl rfl)
theorem dJ24_numberOfTrailingZeros_62 : decode cJ24_numberOfTrailingZeros 62 = .ok (.iload_n 0, 1) := dk_26 (dk_at dksJ24_numberOfTrailingZeros_2 15 rfl rfl)
theorem dJ24_numberOfTrailingZeros_63 : decode cJ24_numberOfTrailingZeros 63 = .ok (.iconst 4, 1) := dk_7 (dk_at dksJ24_numberOfTrailingZeros_2 16 rfl rfl)
theorem dJ24_numberOfTrailingZeros_64 : decode cJ24_numberOfTrailingZeros 64 = .ok (.if_icmp .le 10, 3) := dk_164 0 10 (dk_at dksJ24_numberOfTrailingZeros_2 17 rfl rfl)
theorem dJ24_numberOfTrailingZeros_67 : decode cJ24_numberOfTrailingZeros 67 = .ok (.iinc 1 2, 3) := dk_132 1 2 (dk_at dksJ24_numberOfTrailingZeros_2 20 rfl rfl)
theorem dJ24_numberOfTrailingZeros_70 : decode cJ24_numberOfTrailingZeros 70 = .ok (.iload_n 0, 1) := dk_26 (dk_at dksJ24_numberOfTrailingZeros_2 23 rfl rfl)
theorem dJ24_numberOfTrailingZeros_71 : decode cJ24_numberOfTrailingZeros 71 = .ok (.iconst 2, 1) := dk_5 (dk_at dksJ24_numberOfTrailingZeros_3 0 rfl rfl)
theorem dJ24_numberOfTrailingZeros_72 : decode cJ24_numberOfTrailingZeros 72 = .ok (.iushr, 1) := dk_124 (dk_at dksJ24_numberOfTrailingZeros_3 1 rfl rfl)
theorem dJ24_numberOfTrailingZeros_73 : decode cJ24_numberOfTrailingZeros 73 = .ok (.istore_n 0, 1) := dk_59 (dk_at dksJ24_numberOfTrailingZeros_3 2 rfl rfl)
theorem dJ24_numberOfTrailingZeros_74 : decode cJ24_numberOfTrailingZeros 74 = .ok (.iload_n 1, 1) := dk_27 (dk_at dksJ24_numberOfTrailingZeros_3 3 rfl rfl)
theorem dJ24_numberOfTrailingZeros_75 : decode cJ24_numberOfTrailingZeros 75 = .ok (.iload_n 0, 1) := dk_26 (dk_at dksJ24_numberOfTrailingZeros_3 4 rfl rfl)
theorem dJ24_numberOfTrailingZeros_76 : decode cJ24_numberOfTrailingZeros 76 = .ok (.iconst 1, 1) := dk_4 (dk_at dksJ24_numberOfTrailingZeros_3 5 rfl rfl)
theorem dJ24_numberOfTrailingZeros_77 : decode cJ24_numberOfTrailingZeros 77 = .ok (.iushr, 1) := dk_124 (dk_at dksJ24_numberOfTrailingZeros_3 6 rfl rfl)
theorem dJ24_numberOfTrailingZeros_78 : decode cJ24_numberOfTrailingZeros 78 = .ok (.iadd, 1) := dk_96 (dk_at dksJ24_numberOfTrailingZeros_3 7 rfl rfl)
theorem dJ24_numberOfTrailingZeros_79 : decode cJ24_numberOfTrailingZeros 79 = .ok (.ireturn, 1) := dk_172 (dk_at dksJ24_numberOfTrailingZeros_3 8 rfl rfl)
abbrev cJ24_intValue : ByteArray := prog_24_method_27_code
def yJ24_intValue : MethodName := ⟨RJ24, "intValue", "()I"⟩
theorem dJ24_intValue_0 : decode cJ24_intValue 0 = .ok (.aload_n 0, 1) := by decide +kernel
theorem dJ24_intValue_1 : decode cJ24_intValue 1 = .ok (.getfield 205, 3) := by decide +kernel
theorem dJ24_intValue_4 : decode cJ24_intValue 4 = .ok (.ireturn, 1) := by decide +kernel
abbrev cJ24_toString : ByteArray := prog_24_method_31_code
def yJ24_toString : MethodName := ⟨RJ24, "toString", "()Ljava/lang/String;"⟩
def dkwJ24_toString_0 : List UInt8 := [42, 180, 0, 205, 184, 0, 9, 176]
abbrev dktJ24_toString_0 : List UInt8 := dkwJ24_toString_0 ++ []
theorem dksJ24_toString_0 : cJ24_toString.data.toList.drop 0 = dktJ24_toString_0 := by decide +kernel
theorem dJ24_toString_0 : decode cJ24_toString 0 = .ok (.aload_n 0, 1) := dk_42 (dk_at dksJ24_toString_0 0 rfl rfl)
theorem dJ24_toString_1 : decode cJ24_toString 1 = .ok (.getfield 205, 3) := dk_180 0 205 (dk_at dksJ24_toString_0 1 rfl rfl)
theorem dJ24_toString_4 : decode cJ24_toString 4 = .ok (.invokestatic 9, 3) := dk_184 0 9 (dk_at dksJ24_toString_0 4 rfl rfl)
theorem dJ24_toString_7 : decode cJ24_toString 7 = .ok (.areturn, 1) := dk_176 (dk_at dksJ24_toString_0 7 rfl rfl)
abbrev cJ24_toString_2 : ByteArray := prog_24_method_10_code
def yJ24_toString_2 : MethodName := ⟨RJ24, "toString", "(I)Ljava/lang/String;"⟩
def dkwJ24_toString_2_2 : List UInt8 := [187, 0, 5, 89, 44, 4, 183, 0, 65, 176]
abbrev dktJ24_toString_2_2 : List UInt8 := dkwJ24_toString_2_2 ++ []
def dkwJ24_toString_2_1 : List UInt8 := [187, 0, 5, 89, 44, 3, 183, 0, 65, 176, 27, 5, 104, 188, 8, 77, 26, 27, 44, 184, 0, 79, 87]
abbrev dktJ24_toString_2_1 : List UInt8 := dkwJ24_toString_2_1 ++ dktJ24_toString_2_2
def dkwJ24_toString_2_0 : List UInt8 := [26, 184, 0, 72, 60, 178, 0, 13, 153, 0, 24, 27, 188, 8, 77, 26, 27, 44, 184, 0, 75, 87]
abbrev dktJ24_toString_2_0 : List UInt8 := dkwJ24_toString_2_0 ++ dktJ24_toString_2_1
theorem dksJ24_toString_2_0 : cJ24_toString_2.data.toList.drop 0 = dktJ24_toString_2_0 := by decide +kernel
theorem dksJ24_toString_2_1 : cJ24_toString_2.data.toList.drop 22 = dktJ24_toString_2_1 := dk_seg dksJ24_toString_2_0 22 rfl rfl
theorem dksJ24_toString_2_2 : cJ24_toString_2.data.toList.drop 45 = dktJ24_toString_2_2 := dk_seg dksJ24_toString_2_1 23 rfl rfl
theorem dJ24_toString_2_0 : decode cJ24_toString_2 0 = .ok (.iload_n 0, 1) := dk_26 (dk_at dksJ24_toString_2_0 0 rfl rfl)
theorem dJ24_toString_2_1 : decode cJ24_toString_2 1 = .ok (.invokestatic 72, 3) := dk_184 0 72 (dk_at dksJ24_toString_2_0 1 rfl rfl)
theorem dJ24_toString_2_4 : decode cJ24_toString_2 4 = .ok (.istore_n 1, 1) := dk_60 (dk_at dksJ24_toString_2_0 4 rfl rfl)
theorem dJ24_toString_2_5 : decode cJ24_toString_2 5 = .ok (.getstatic 13, 3) := dk_178 0 13 (dk_at dksJ24_toString_2_0 5 rfl rfl)
theorem dJ24_toString_2_8 : decode cJ24_toString_2 8 = .ok (.ifCond .eq 24, 3) := dk_153 0 24 (dk_at dksJ24_toString_2_0 8 rfl rfl)
theorem dJ24_toString_2_11 : decode cJ24_toString_2 11 = .ok (.iload_n 1, 1) := dk_27 (dk_at dksJ24_toString_2_0 11 rfl rfl)
theorem dJ24_toString_2_12 : decode cJ24_toString_2 12 = .ok (.newarray .byte, 2) := dk_188_8 (dk_at dksJ24_toString_2_0 12 rfl rfl)
theorem dJ24_toString_2_14 : decode cJ24_toString_2 14 = .ok (.astore_n 2, 1) := dk_77 (dk_at dksJ24_toString_2_0 14 rfl rfl)
theorem dJ24_toString_2_15 : decode cJ24_toString_2 15 = .ok (.iload_n 0, 1) := dk_26 (dk_at dksJ24_toString_2_0 15 rfl rfl)
theorem dJ24_toString_2_16 : decode cJ24_toString_2 16 = .ok (.iload_n 1, 1) := dk_27 (dk_at dksJ24_toString_2_0 16 rfl rfl)
theorem dJ24_toString_2_17 : decode cJ24_toString_2 17 = .ok (.aload_n 2, 1) := dk_44 (dk_at dksJ24_toString_2_0 17 rfl rfl)
theorem dJ24_toString_2_18 : decode cJ24_toString_2 18 = .ok (.invokestatic 75, 3) := dk_184 0 75 (dk_at dksJ24_toString_2_0 18 rfl rfl)
theorem dJ24_toString_2_21 : decode cJ24_toString_2 21 = .ok (.pop, 1) := dk_87 (dk_at dksJ24_toString_2_0 21 rfl rfl)
theorem dJ24_toString_2_22 : decode cJ24_toString_2 22 = .ok (.new 5, 3) := dk_187 0 5 (dk_at dksJ24_toString_2_1 0 rfl rfl)
theorem dJ24_toString_2_25 : decode cJ24_toString_2 25 = .ok (.dup, 1) := dk_89 (dk_at dksJ24_toString_2_1 3 rfl rfl)
theorem dJ24_toString_2_26 : decode cJ24_toString_2 26 = .ok (.aload_n 2, 1) := dk_44 (dk_at dksJ24_toString_2_1 4 rfl rfl)
theorem dJ24_toString_2_27 : decode cJ24_toString_2 27 = .ok (.iconst 0, 1) := dk_3 (dk_at dksJ24_toString_2_1 5 rfl rfl)
theorem dJ24_toString_2_28 : decode cJ24_toString_2 28 = .ok (.invokespecial 65, 3) := dk_183 0 65 (dk_at dksJ24_toString_2_1 6 rfl rfl)
theorem dJ24_toString_2_31 : decode cJ24_toString_2 31 = .ok (.areturn, 1) := dk_176 (dk_at dksJ24_toString_2_1 9 rfl rfl)
theorem dJ24_toString_2_32 : decode cJ24_toString_2 32 = .ok (.iload_n 1, 1) := dk_27 (dk_at dksJ24_toString_2_1 10 rfl rfl)
theorem dJ24_toString_2_33 : decode cJ24_toString_2 33 = .ok (.iconst 2, 1) := dk_5 (dk_at dksJ24_toString_2_1 11 rfl rfl)
theorem dJ24_toString_2_34 : decode cJ24_toString_2 34 = .ok (.imul, 1) := dk_104 (dk_at dksJ24_toString_2_1 12 rfl rfl)
theorem dJ24_toString_2_35 : decode cJ24_toString_2 35 = .ok (.newarray .byte, 2) := dk_188_8 (dk_at dksJ24_toString_2_1 13 rfl rfl)
theorem dJ24_toString_2_37 : decode cJ24_toString_2 37 = .ok (.astore_n 2, 1) := dk_77 (dk_at dksJ24_toString_2_1 15 rfl rfl)
theorem dJ24_toString_2_38 : decode cJ24_toString_2 38 = .ok (.iload_n 0, 1) := dk_26 (dk_at dksJ24_toString_2_1 16 rfl rfl)
theorem dJ24_toString_2_39 : decode cJ24_toString_2 39 = .ok (.iload_n 1, 1) := dk_27 (dk_at dksJ24_toString_2_1 17 rfl rfl)
theorem dJ24_toString_2_40 : decode cJ24_toString_2 40 = .ok (.aload_n 2, 1) := dk_44 (dk_at dksJ24_toString_2_1 18 rfl rfl)
theorem dJ24_toString_2_41 : decode cJ24_toString_2 41 = .ok (.invokestatic 79, 3) := dk_184 0 79 (dk_at dksJ24_toString_2_1 19 rfl rfl)
theorem dJ24_toString_2_44 : decode cJ24_toString_2 44 = .ok (.pop, 1) := dk_87 (dk_at dksJ24_toString_2_1 22 rfl rfl)
theorem dJ24_toString_2_45 : decode cJ24_toString_2 45 = .ok (.new 5, 3) := dk_187 0 5 (dk_at dksJ24_toString_2_2 0 rfl rfl)
theorem dJ24_toString_2_48 : decode cJ24_toString_2 48 = .ok (.dup, 1) := dk_89 (dk_at dksJ24_toString_2_2 3 rfl rfl)
theorem dJ24_toString_2_49 : decode cJ24_toString_2 49 = .ok (.aload_n 2, 1) := dk_44 (dk_at dksJ24_toString_2_2 4 rfl rfl)
theorem dJ24_toString_2_50 : decode cJ24_toString_2 50 = .ok (.iconst 1, 1) := dk_4 (dk_at dksJ24_toString_2_2 5 rfl rfl)
theorem dJ24_toString_2_51 : decode cJ24_toString_2 51 = .ok (.invokespecial 65, 3) := dk_183 0 65 (dk_at dksJ24_toString_2_2 6 rfl rfl)
theorem dJ24_toString_2_54 : decode cJ24_toString_2 54 = .ok (.areturn, 1) := dk_176 (dk_at dksJ24_toString_2_2 9 rfl rfl)
abbrev cJ24_valueOf : ByteArray := prog_24_method_22_code
def yJ24_valueOf : MethodName := ⟨RJ24, "valueOf", "(I)Ljava/lang/Integer;"⟩
def dkwJ24_valueOf_1 : List UInt8 := [187, 0, 1, 89, 26, 183, 0, 199, 176]
abbrev dktJ24_valueOf_1 : List UInt8 := dkwJ24_valueOf_1 ++ []
def dkwJ24_valueOf_0 : List UInt8 := [26, 16, 128, 161, 0, 20, 26, 178, 0, 191, 163, 0, 13, 178, 0, 195, 26, 17, 0, 128, 96, 50, 176]
abbrev dktJ24_valueOf_0 : List UInt8 := dkwJ24_valueOf_0 ++ dktJ24_valueOf_1
theorem dksJ24_valueOf_0 : cJ24_valueOf.data.toList.drop 0 = dktJ24_valueOf_0 := by decide +kernel
theorem dksJ24_valueOf_1 : cJ24_valueOf.data.toList.drop 23 = dktJ24_valueOf_1 := dk_seg dksJ24_valueOf_0 23 rfl rfl
theorem dJ24_valueOf_0 : decode cJ24_valueOf 0 = .ok (.iload_n 0, 1) := dk_26 (dk_at dksJ24_valueOf_0 0 rfl rfl)
theorem dJ24_valueOf_1 : decode cJ24_valueOf 1 = .ok (.bipush (-128), 2) := dk_16 128 (dk_at dksJ24_valueOf_0 1 rfl rfl)
theorem dJ24_valueOf_3 : decode cJ24_valueOf 3 = .ok (.if_icmp .lt 20, 3) := dk_161 0 20 (dk_at dksJ24_valueOf_0 3 rfl rfl)
theorem dJ24_valueOf_6 : decode cJ24_valueOf 6 = .ok (.iload_n 0, 1) := dk_26 (dk_at dksJ24_valueOf_0 6 rfl rfl)
theorem dJ24_valueOf_7 : decode cJ24_valueOf 7 = .ok (.getstatic 191, 3) := dk_178 0 191 (dk_at dksJ24_valueOf_0 7 rfl rfl)
theorem dJ24_valueOf_10 : decode cJ24_valueOf 10 = .ok (.if_icmp .gt 13, 3) := dk_163 0 13 (dk_at dksJ24_valueOf_0 10 rfl rfl)
theorem dJ24_valueOf_13 : decode cJ24_valueOf 13 = .ok (.getstatic 195, 3) := dk_178 0 195 (dk_at dksJ24_valueOf_0 13 rfl rfl)
theorem dJ24_valueOf_16 : decode cJ24_valueOf 16 = .ok (.iload_n 0, 1) := dk_26 (dk_at dksJ24_valueOf_0 16 rfl rfl)
theorem dJ24_valueOf_17 : decode cJ24_valueOf 17 = .ok (.sipush 128, 3) := dk_17 0 128 (dk_at dksJ24_valueOf_0 17 rfl rfl)
theorem dJ24_valueOf_20 : decode cJ24_valueOf 20 = .ok (.iadd, 1) := dk_96 (dk_at dksJ24_valueOf_0 20 rfl rfl)
theorem dJ24_valueOf_21 : decode cJ24_valueOf 21 = .ok (.aaload, 1) := dk_50 (dk_at dksJ24_valueOf_0 21 rfl rfl)
theorem dJ24_valueOf_22 : decode cJ24_valueOf 22 = .ok (.areturn, 1) := dk_176 (dk_at dksJ24_valueOf_0 22 rfl rfl)
theorem dJ24_valueOf_23 : decode cJ24_valueOf 23 = .ok (.new 1, 3) := dk_187 0 1 (dk_at dksJ24_valueOf_1 0 rfl rfl)
theorem dJ24_valueOf_26 : decode cJ24_valueOf 26 = .ok (.dup, 1) := dk_89 (dk_at dksJ24_valueOf_1 3 rfl rfl)
theorem dJ24_valueOf_27 : decode cJ24_valueOf 27 = .ok (.iload_n 0, 1) := dk_26 (dk_at dksJ24_valueOf_1 4 rfl rfl)
theorem dJ24_valueOf_28 : decode cJ24_valueOf 28 = .ok (.invokespecial 199, 3) := dk_183 0 199 (dk_at dksJ24_valueOf_1 5 rfl rfl)
theorem dJ24_valueOf_31 : decode cJ24_valueOf 31 = .ok (.areturn, 1) := dk_176 (dk_at dksJ24_valueOf_1 8 rfl rfl)
abbrev cJ24_init : ByteArray := prog_24_method_23_code
def yJ24_init : MethodName := ⟨RJ24, "<init>", "(I)V"⟩
def dkwJ24_init_0 : List UInt8 := [42, 183, 0, 202, 42, 27, 181, 0, 205, 177]
abbrev dktJ24_init_0 : List UInt8 := dkwJ24_init_0 ++ []
theorem dksJ24_init_0 : cJ24_init.data.toList.drop 0 = dktJ24_init_0 := by decide +kernel
theorem dJ24_init_0 : decode cJ24_init 0 = .ok (.aload_n 0, 1) := dk_42 (dk_at dksJ24_init_0 0 rfl rfl)
theorem dJ24_init_1 : decode cJ24_init 1 = .ok (.invokespecial 202, 3) := dk_183 0 202 (dk_at dksJ24_init_0 1 rfl rfl)
theorem dJ24_init_4 : decode cJ24_init 4 = .ok (.aload_n 0, 1) := dk_42 (dk_at dksJ24_init_0 4 rfl rfl)
theorem dJ24_init_5 : decode cJ24_init 5 = .ok (.iload_n 1, 1) := dk_27 (dk_at dksJ24_init_0 5 rfl rfl)
theorem dJ24_init_6 : decode cJ24_init 6 = .ok (.putfield 205, 3) := dk_181 0 205 (dk_at dksJ24_init_0 6 rfl rfl)
theorem dJ24_init_9 : decode cJ24_init 9 = .ok (.return_, 1) := dk_177 (dk_at dksJ24_init_0 9 rfl rfl)
abbrev cJ24_equals : ByteArray := prog_24_method_34_code
def yJ24_equals : MethodName := ⟨RJ24, "equals", "(Ljava/lang/Object;)Z"⟩
def dkwJ24_equals_1 : List UInt8 := [167, 0, 4, 3, 172, 3, 172]
abbrev dktJ24_equals_1 : List UInt8 := dkwJ24_equals_1 ++ []
def dkwJ24_equals_0 : List UInt8 := [43, 193, 0, 1, 153, 0, 23, 42, 180, 0, 205, 43, 192, 0, 1, 182, 0, 211, 160, 0, 7, 4]
abbrev dktJ24_equals_0 : List UInt8 := dkwJ24_equals_0 ++ dktJ24_equals_1
theorem dksJ24_equals_0 : cJ24_equals.data.toList.drop 0 = dktJ24_equals_0 := by decide +kernel
theorem dksJ24_equals_1 : cJ24_equals.data.toList.drop 22 = dktJ24_equals_1 := dk_seg dksJ24_equals_0 22 rfl rfl
theorem dJ24_equals_0 : decode cJ24_equals 0 = .ok (.aload_n 1, 1) := dk_43 (dk_at dksJ24_equals_0 0 rfl rfl)
theorem dJ24_equals_1 : decode cJ24_equals 1 = .ok (.instanceof 1, 3) := dk_193 0 1 (dk_at dksJ24_equals_0 1 rfl rfl)
theorem dJ24_equals_4 : decode cJ24_equals 4 = .ok (.ifCond .eq 23, 3) := dk_153 0 23 (dk_at dksJ24_equals_0 4 rfl rfl)
theorem dJ24_equals_7 : decode cJ24_equals 7 = .ok (.aload_n 0, 1) := dk_42 (dk_at dksJ24_equals_0 7 rfl rfl)
theorem dJ24_equals_8 : decode cJ24_equals 8 = .ok (.getfield 205, 3) := dk_180 0 205 (dk_at dksJ24_equals_0 8 rfl rfl)
theorem dJ24_equals_11 : decode cJ24_equals 11 = .ok (.aload_n 1, 1) := dk_43 (dk_at dksJ24_equals_0 11 rfl rfl)
theorem dJ24_equals_12 : decode cJ24_equals 12 = .ok (.checkcast 1, 3) := dk_192 0 1 (dk_at dksJ24_equals_0 12 rfl rfl)
theorem dJ24_equals_15 : decode cJ24_equals 15 = .ok (.invokevirtual 211, 3) := dk_182 0 211 (dk_at dksJ24_equals_0 15 rfl rfl)
theorem dJ24_equals_18 : decode cJ24_equals 18 = .ok (.if_icmp .ne 7, 3) := dk_160 0 7 (dk_at dksJ24_equals_0 18 rfl rfl)
theorem dJ24_equals_21 : decode cJ24_equals 21 = .ok (.iconst 1, 1) := dk_4 (dk_at dksJ24_equals_0 21 rfl rfl)
theorem dJ24_equals_22 : decode cJ24_equals 22 = .ok (.goto 4, 3) := dk_167 0 4 (dk_at dksJ24_equals_1 0 rfl rfl)
theorem dJ24_equals_25 : decode cJ24_equals 25 = .ok (.iconst 0, 1) := dk_3 (dk_at dksJ24_equals_1 3 rfl rfl)
theorem dJ24_equals_26 : decode cJ24_equals 26 = .ok (.ireturn, 1) := dk_172 (dk_at dksJ24_equals_1 4 rfl rfl)
theorem dJ24_equals_27 : decode cJ24_equals 27 = .ok (.iconst 0, 1) := dk_3 (dk_at dksJ24_equals_1 5 rfl rfl)
theorem dJ24_equals_28 : decode cJ24_equals 28 = .ok (.ireturn, 1) := dk_172 (dk_at dksJ24_equals_1 6 rfl rfl)
abbrev cJ37_toString : ByteArray := prog_16_method_8_code
def yJ37_toString : MethodName := ⟨RJ37, "toString", "()Ljava/lang/String;"⟩
def dkwJ37_toString_0 : List UInt8 := [42, 180, 0, 19, 184, 0, 64, 176]
abbrev dktJ37_toString_0 : List UInt8 := dkwJ37_toString_0 ++ []
theorem dksJ37_toString_0 : cJ37_toString.data.toList.drop 0 = dktJ37_toString_0 := by decide +kernel
theorem dJ37_toString_0 : decode cJ37_toString 0 = .ok (.aload_n 0, 1) := dk_42 (dk_at dksJ37_toString_0 0 rfl rfl)
theorem dJ37_toString_1 : decode cJ37_toString 1 = .ok (.getfield 19, 3) := dk_180 0 19 (dk_at dksJ37_toString_0 1 rfl rfl)
theorem dJ37_toString_4 : decode cJ37_toString 4 = .ok (.invokestatic 64, 3) := dk_184 0 64 (dk_at dksJ37_toString_0 4 rfl rfl)
theorem dJ37_toString_7 : decode cJ37_toString 7 = .ok (.areturn, 1) := dk_176 (dk_at dksJ37_toString_0 7 rfl rfl)
abbrev cJ37_valueOf : ByteArray := prog_16_method_3_code
def yJ37_valueOf : MethodName := ⟨RJ37, "valueOf", "(C)Ljava/lang/Character;"⟩
def dkwJ37_valueOf_0 : List UInt8 := [26, 16, 127, 163, 0, 9, 178, 0, 47, 26, 50, 176, 187, 0, 1, 89, 26, 183, 0, 53, 176]
abbrev dktJ37_valueOf_0 : List UInt8 := dkwJ37_valueOf_0 ++ []
theorem dksJ37_valueOf_0 : cJ37_valueOf.data.toList.drop 0 = dktJ37_valueOf_0 := by decide +kernel
theorem dJ37_valueOf_0 : decode cJ37_valueOf 0 = .ok (.iload_n 0, 1) := dk_26 (dk_at dksJ37_valueOf_0 0 rfl rfl)
theorem dJ37_valueOf_1 : decode cJ37_valueOf 1 = .ok (.bipush 127, 2) := dk_16 127 (dk_at dksJ37_valueOf_0 1 rfl rfl)
theorem dJ37_valueOf_3 : decode cJ37_valueOf 3 = .ok (.if_icmp .gt 9, 3) := dk_163 0 9 (dk_at dksJ37_valueOf_0 3 rfl rfl)
theorem dJ37_valueOf_6 : decode cJ37_valueOf 6 = .ok (.getstatic 47, 3) := dk_178 0 47 (dk_at dksJ37_valueOf_0 6 rfl rfl)
theorem dJ37_valueOf_9 : decode cJ37_valueOf 9 = .ok (.iload_n 0, 1) := dk_26 (dk_at dksJ37_valueOf_0 9 rfl rfl)
theorem dJ37_valueOf_10 : decode cJ37_valueOf 10 = .ok (.aaload, 1) := dk_50 (dk_at dksJ37_valueOf_0 10 rfl rfl)
theorem dJ37_valueOf_11 : decode cJ37_valueOf 11 = .ok (.areturn, 1) := dk_176 (dk_at dksJ37_valueOf_0 11 rfl rfl)
theorem dJ37_valueOf_12 : decode cJ37_valueOf 12 = .ok (.new 1, 3) := dk_187 0 1 (dk_at dksJ37_valueOf_0 12 rfl rfl)
theorem dJ37_valueOf_15 : decode cJ37_valueOf 15 = .ok (.dup, 1) := dk_89 (dk_at dksJ37_valueOf_0 15 rfl rfl)
theorem dJ37_valueOf_16 : decode cJ37_valueOf 16 = .ok (.iload_n 0, 1) := dk_26 (dk_at dksJ37_valueOf_0 16 rfl rfl)
theorem dJ37_valueOf_17 : decode cJ37_valueOf 17 = .ok (.invokespecial 53, 3) := dk_183 0 53 (dk_at dksJ37_valueOf_0 17 rfl rfl)
theorem dJ37_valueOf_20 : decode cJ37_valueOf 20 = .ok (.areturn, 1) := dk_176 (dk_at dksJ37_valueOf_0 20 rfl rfl)
abbrev cJ37_init : ByteArray := prog_16_method_2_code
def yJ37_init : MethodName := ⟨RJ37, "<init>", "(C)V"⟩
def dkwJ37_init_0 : List UInt8 := [42, 183, 0, 41, 42, 27, 181, 0, 19, 177]
abbrev dktJ37_init_0 : List UInt8 := dkwJ37_init_0 ++ []
theorem dksJ37_init_0 : cJ37_init.data.toList.drop 0 = dktJ37_init_0 := by decide +kernel
theorem dJ37_init_0 : decode cJ37_init 0 = .ok (.aload_n 0, 1) := dk_42 (dk_at dksJ37_init_0 0 rfl rfl)
theorem dJ37_init_1 : decode cJ37_init 1 = .ok (.invokespecial 41, 3) := dk_183 0 41 (dk_at dksJ37_init_0 1 rfl rfl)
theorem dJ37_init_4 : decode cJ37_init 4 = .ok (.aload_n 0, 1) := dk_42 (dk_at dksJ37_init_0 4 rfl rfl)
theorem dJ37_init_5 : decode cJ37_init 5 = .ok (.iload_n 1, 1) := dk_27 (dk_at dksJ37_init_0 5 rfl rfl)
theorem dJ37_init_6 : decode cJ37_init 6 = .ok (.putfield 19, 3) := dk_181 0 19 (dk_at dksJ37_init_0 6 rfl rfl)
theorem dJ37_init_9 : decode cJ37_init 9 = .ok (.return_, 1) := dk_177 (dk_at dksJ37_init_0 9 rfl rfl)
abbrev cJ37_equals : ByteArray := prog_16_method_7_code
def yJ37_equals : MethodName := ⟨RJ37, "equals", "(Ljava/lang/Object;)Z"⟩
def dkwJ37_equals_1 : List UInt8 := [167, 0, 4, 3, 172, 3, 172]
abbrev dktJ37_equals_1 : List UInt8 := dkwJ37_equals_1 ++ []
def dkwJ37_equals_0 : List UInt8 := [43, 193, 0, 1, 153, 0, 23, 42, 180, 0, 19, 43, 192, 0, 1, 182, 0, 60, 160, 0, 7, 4]
abbrev dktJ37_equals_0 : List UInt8 := dkwJ37_equals_0 ++ dktJ37_equals_1
theorem dksJ37_equals_0 : cJ37_equals.data.toList.drop 0 = dktJ37_equals_0 := by decide +kernel
theorem dksJ37_equals_1 : cJ37_equals.data.toList.drop 22 = dktJ37_equals_1 := dk_seg dksJ37_equals_0 22 rfl rfl
theorem dJ37_equals_0 : decode cJ37_equals 0 = .ok (.aload_n 1, 1) := dk_43 (dk_at dksJ37_equals_0 0 rfl rfl)
theorem dJ37_equals_1 : decode cJ37_equals 1 = .ok (.instanceof 1, 3) := dk_193 0 1 (dk_at dksJ37_equals_0 1 rfl rfl)
theorem dJ37_equals_4 : decode cJ37_equals 4 = .ok (.ifCond .eq 23, 3) := dk_153 0 23 (dk_at dksJ37_equals_0 4 rfl rfl)
theorem dJ37_equals_7 : decode cJ37_equals 7 = .ok (.aload_n 0, 1) := dk_42 (dk_at dksJ37_equals_0 7 rfl rfl)
theorem dJ37_equals_8 : decode cJ37_equals 8 = .ok (.getfield 19, 3) := dk_180 0 19 (dk_at dksJ37_equals_0 8 rfl rfl)
theorem dJ37_equals_11 : decode cJ37_equals 11 = .ok (.aload_n 1, 1) := dk_43 (dk_at dksJ37_equals_0 11 rfl rfl)
theorem dJ37_equals_12 : decode cJ37_equals 12 = .ok (.checkcast 1, 3) := dk_192 0 1 (dk_at dksJ37_equals_0 12 rfl rfl)
theorem dJ37_equals_15 : decode cJ37_equals 15 = .ok (.invokevirtual 60, 3) := dk_182 0 60 (dk_at dksJ37_equals_0 15 rfl rfl)
theorem dJ37_equals_18 : decode cJ37_equals 18 = .ok (.if_icmp .ne 7, 3) := dk_160 0 7 (dk_at dksJ37_equals_0 18 rfl rfl)
theorem dJ37_equals_21 : decode cJ37_equals 21 = .ok (.iconst 1, 1) := dk_4 (dk_at dksJ37_equals_0 21 rfl rfl)
theorem dJ37_equals_22 : decode cJ37_equals 22 = .ok (.goto 4, 3) := dk_167 0 4 (dk_at dksJ37_equals_1 0 rfl rfl)
theorem dJ37_equals_25 : decode cJ37_equals 25 = .ok (.iconst 0, 1) := dk_3 (dk_at dksJ37_equals_1 3 rfl rfl)
theorem dJ37_equals_26 : decode cJ37_equals 26 = .ok (.ireturn, 1) := dk_172 (dk_at dksJ37_equals_1 4 rfl rfl)
theorem dJ37_equals_27 : decode cJ37_equals 27 = .ok (.iconst 0, 1) := dk_3 (dk_at dksJ37_equals_1 5 rfl rfl)
theorem dJ37_equals_28 : decode cJ37_equals 28 = .ok (.ireturn, 1) := dk_172 (dk_at dksJ37_equals_1 6 rfl rfl)
abbrev cJ37_charValue : ByteArray := prog_16_method_4_code
def yJ37_charValue : MethodName := ⟨RJ37, "charValue", "()C"⟩
theorem dJ37_charValue_0 : decode cJ37_charValue 0 = .ok (.aload_n 0, 1) := by decide +kernel
theorem dJ37_charValue_1 : decode cJ37_charValue 1 = .ok (.getfield 19, 3) := by decide +kernel
theorem dJ37_charValue_4 : decode cJ37_charValue 4 = .ok (.ireturn, 1) := by decide +kernel
abbrev cJ16_checkIndex : ByteArray := prog_68_method_17_code
def yJ16_checkIndex : MethodName := ⟨RJ16, "checkIndex", "(II)I"⟩
def dkwJ16_checkIndex_0 : List UInt8 := [26, 27, 1, 184, 0, 105, 172]
abbrev dktJ16_checkIndex_0 : List UInt8 := dkwJ16_checkIndex_0 ++ []
theorem dksJ16_checkIndex_0 : cJ16_checkIndex.data.toList.drop 0 = dktJ16_checkIndex_0 := by decide +kernel
theorem dJ16_checkIndex_0 : decode cJ16_checkIndex 0 = .ok (.iload_n 0, 1) := dk_26 (dk_at dksJ16_checkIndex_0 0 rfl rfl)
theorem dJ16_checkIndex_1 : decode cJ16_checkIndex 1 = .ok (.iload_n 1, 1) := dk_27 (dk_at dksJ16_checkIndex_0 1 rfl rfl)
theorem dJ16_checkIndex_2 : decode cJ16_checkIndex 2 = .ok (.aconst_null, 1) := dk_1 (dk_at dksJ16_checkIndex_0 2 rfl rfl)
theorem dJ16_checkIndex_3 : decode cJ16_checkIndex 3 = .ok (.invokestatic 105, 3) := dk_184 0 105 (dk_at dksJ16_checkIndex_0 3 rfl rfl)
theorem dJ16_checkIndex_6 : decode cJ16_checkIndex 6 = .ok (.ireturn, 1) := dk_172 (dk_at dksJ16_checkIndex_0 6 rfl rfl)
abbrev cJ16_requireNonNull : ByteArray := prog_68_method_10_code
def yJ16_requireNonNull : MethodName := ⟨RJ16, "requireNonNull", "(Ljava/lang/Object;)Ljava/lang/Object;"⟩
def dkwJ16_requireNonNull_0 : List UInt8 := [42, 199, 0, 11, 187, 0, 84, 89, 183, 0, 86, 191, 42, 176]
abbrev dktJ16_requireNonNull_0 : List UInt8 := dkwJ16_requireNonNull_0 ++ []
theorem dksJ16_requireNonNull_0 : cJ16_requireNonNull.data.toList.drop 0 = dktJ16_requireNonNull_0 := by decide +kernel
theorem dJ16_requireNonNull_0 : decode cJ16_requireNonNull 0 = .ok (.aload_n 0, 1) := dk_42 (dk_at dksJ16_requireNonNull_0 0 rfl rfl)
theorem dJ16_requireNonNull_1 : decode cJ16_requireNonNull 1 = .ok (.ifnonnull 11, 3) := dk_199 0 11 (dk_at dksJ16_requireNonNull_0 1 rfl rfl)
theorem dJ16_requireNonNull_4 : decode cJ16_requireNonNull 4 = .ok (.new 84, 3) := dk_187 0 84 (dk_at dksJ16_requireNonNull_0 4 rfl rfl)
theorem dJ16_requireNonNull_7 : decode cJ16_requireNonNull 7 = .ok (.dup, 1) := dk_89 (dk_at dksJ16_requireNonNull_0 7 rfl rfl)
theorem dJ16_requireNonNull_8 : decode cJ16_requireNonNull 8 = .ok (.invokespecial 86, 3) := dk_183 0 86 (dk_at dksJ16_requireNonNull_0 8 rfl rfl)
theorem dJ16_requireNonNull_11 : decode cJ16_requireNonNull 11 = .ok (.athrow, 1) := dk_191 (dk_at dksJ16_requireNonNull_0 11 rfl rfl)
theorem dJ16_requireNonNull_12 : decode cJ16_requireNonNull 12 = .ok (.aload_n 0, 1) := dk_42 (dk_at dksJ16_requireNonNull_0 12 rfl rfl)
theorem dJ16_requireNonNull_13 : decode cJ16_requireNonNull 13 = .ok (.areturn, 1) := dk_176 (dk_at dksJ16_requireNonNull_0 13 rfl rfl)
abbrev cJ16_equals : ByteArray := prog_68_method_2_code
def yJ16_equals : MethodName := ⟨RJ16, "equals", "(Ljava/lang/Object;Ljava/lang/Object;)Z"⟩
def dkwJ16_equals_0 : List UInt8 := [42, 43, 165, 0, 15, 42, 198, 0, 15, 42, 43, 182, 0, 14, 153, 0, 7, 4, 167, 0, 4, 3, 172]
abbrev dktJ16_equals_0 : List UInt8 := dkwJ16_equals_0 ++ []
theorem dksJ16_equals_0 : cJ16_equals.data.toList.drop 0 = dktJ16_equals_0 := by decide +kernel
theorem dJ16_equals_0 : decode cJ16_equals 0 = .ok (.aload_n 0, 1) := dk_42 (dk_at dksJ16_equals_0 0 rfl rfl)
theorem dJ16_equals_1 : decode cJ16_equals 1 = .ok (.aload_n 1, 1) := dk_43 (dk_at dksJ16_equals_0 1 rfl rfl)
theorem dJ16_equals_2 : decode cJ16_equals 2 = .ok (.if_acmp .eq 15, 3) := dk_165 0 15 (dk_at dksJ16_equals_0 2 rfl rfl)
theorem dJ16_equals_5 : decode cJ16_equals 5 = .ok (.aload_n 0, 1) := dk_42 (dk_at dksJ16_equals_0 5 rfl rfl)
theorem dJ16_equals_6 : decode cJ16_equals 6 = .ok (.ifnull 15, 3) := dk_198 0 15 (dk_at dksJ16_equals_0 6 rfl rfl)
theorem dJ16_equals_9 : decode cJ16_equals 9 = .ok (.aload_n 0, 1) := dk_42 (dk_at dksJ16_equals_0 9 rfl rfl)
theorem dJ16_equals_10 : decode cJ16_equals 10 = .ok (.aload_n 1, 1) := dk_43 (dk_at dksJ16_equals_0 10 rfl rfl)
theorem dJ16_equals_11 : decode cJ16_equals 11 = .ok (.invokevirtual 14, 3) := dk_182 0 14 (dk_at dksJ16_equals_0 11 rfl rfl)
theorem dJ16_equals_14 : decode cJ16_equals 14 = .ok (.ifCond .eq 7, 3) := dk_153 0 7 (dk_at dksJ16_equals_0 14 rfl rfl)
theorem dJ16_equals_17 : decode cJ16_equals 17 = .ok (.iconst 1, 1) := dk_4 (dk_at dksJ16_equals_0 17 rfl rfl)
theorem dJ16_equals_18 : decode cJ16_equals 18 = .ok (.goto 4, 3) := dk_167 0 4 (dk_at dksJ16_equals_0 18 rfl rfl)
theorem dJ16_equals_21 : decode cJ16_equals 21 = .ok (.iconst 0, 1) := dk_3 (dk_at dksJ16_equals_0 21 rfl rfl)
theorem dJ16_equals_22 : decode cJ16_equals 22 = .ok (.ireturn, 1) := dk_172 (dk_at dksJ16_equals_0 22 rfl rfl)
abbrev cJ17_checkFromToIndex : ByteArray := prog_73_method_12_code
def yJ17_checkFromToIndex : MethodName := ⟨RJ17, "checkFromToIndex", "(IIILjava/util/function/BiFunction;)I"⟩
def dkwJ17_checkFromToIndex_0 : List UInt8 := [26, 155, 0, 13, 26, 27, 163, 0, 8, 27, 28, 164, 0, 11, 45, 26, 27, 28, 184, 0, 99, 191, 26, 172]
abbrev dktJ17_checkFromToIndex_0 : List UInt8 := dkwJ17_checkFromToIndex_0 ++ []
theorem dksJ17_checkFromToIndex_0 : cJ17_checkFromToIndex.data.toList.drop 0 = dktJ17_checkFromToIndex_0 := by decide +kernel
theorem dJ17_checkFromToIndex_0 : decode cJ17_checkFromToIndex 0 = .ok (.iload_n 0, 1) := dk_26 (dk_at dksJ17_checkFromToIndex_0 0 rfl rfl)
theorem dJ17_checkFromToIndex_1 : decode cJ17_checkFromToIndex 1 = .ok (.ifCond .lt 13, 3) := dk_155 0 13 (dk_at dksJ17_checkFromToIndex_0 1 rfl rfl)
theorem dJ17_checkFromToIndex_4 : decode cJ17_checkFromToIndex 4 = .ok (.iload_n 0, 1) := dk_26 (dk_at dksJ17_checkFromToIndex_0 4 rfl rfl)
theorem dJ17_checkFromToIndex_5 : decode cJ17_checkFromToIndex 5 = .ok (.iload_n 1, 1) := dk_27 (dk_at dksJ17_checkFromToIndex_0 5 rfl rfl)
theorem dJ17_checkFromToIndex_6 : decode cJ17_checkFromToIndex 6 = .ok (.if_icmp .gt 8, 3) := dk_163 0 8 (dk_at dksJ17_checkFromToIndex_0 6 rfl rfl)
theorem dJ17_checkFromToIndex_9 : decode cJ17_checkFromToIndex 9 = .ok (.iload_n 1, 1) := dk_27 (dk_at dksJ17_checkFromToIndex_0 9 rfl rfl)
theorem dJ17_checkFromToIndex_10 : decode cJ17_checkFromToIndex 10 = .ok (.iload_n 2, 1) := dk_28 (dk_at dksJ17_checkFromToIndex_0 10 rfl rfl)
theorem dJ17_checkFromToIndex_11 : decode cJ17_checkFromToIndex 11 = .ok (.if_icmp .le 11, 3) := dk_164 0 11 (dk_at dksJ17_checkFromToIndex_0 11 rfl rfl)
theorem dJ17_checkFromToIndex_14 : decode cJ17_checkFromToIndex 14 = .ok (.aload_n 3, 1) := dk_45 (dk_at dksJ17_checkFromToIndex_0 14 rfl rfl)
theorem dJ17_checkFromToIndex_15 : decode cJ17_checkFromToIndex 15 = .ok (.iload_n 0, 1) := dk_26 (dk_at dksJ17_checkFromToIndex_0 15 rfl rfl)
theorem dJ17_checkFromToIndex_16 : decode cJ17_checkFromToIndex 16 = .ok (.iload_n 1, 1) := dk_27 (dk_at dksJ17_checkFromToIndex_0 16 rfl rfl)
theorem dJ17_checkFromToIndex_17 : decode cJ17_checkFromToIndex 17 = .ok (.iload_n 2, 1) := dk_28 (dk_at dksJ17_checkFromToIndex_0 17 rfl rfl)
theorem dJ17_checkFromToIndex_18 : decode cJ17_checkFromToIndex 18 = .ok (.invokestatic 99, 3) := dk_184 0 99 (dk_at dksJ17_checkFromToIndex_0 18 rfl rfl)
theorem dJ17_checkFromToIndex_21 : decode cJ17_checkFromToIndex 21 = .ok (.athrow, 1) := dk_191 (dk_at dksJ17_checkFromToIndex_0 21 rfl rfl)
theorem dJ17_checkFromToIndex_22 : decode cJ17_checkFromToIndex 22 = .ok (.iload_n 0, 1) := dk_26 (dk_at dksJ17_checkFromToIndex_0 22 rfl rfl)
theorem dJ17_checkFromToIndex_23 : decode cJ17_checkFromToIndex 23 = .ok (.ireturn, 1) := dk_172 (dk_at dksJ17_checkFromToIndex_0 23 rfl rfl)
abbrev cJ17_checkFromIndexSize : ByteArray := prog_73_method_13_code
def yJ17_checkFromIndexSize : MethodName := ⟨RJ17, "checkFromIndexSize", "(IIILjava/util/function/BiFunction;)I"⟩
def dkwJ17_checkFromIndexSize_1 : List UInt8 := [172]
abbrev dktJ17_checkFromIndexSize_1 : List UInt8 := dkwJ17_checkFromIndexSize_1 ++ []
def dkwJ17_checkFromIndexSize_0 : List UInt8 := [28, 26, 128, 27, 128, 155, 0, 10, 27, 28, 26, 100, 164, 0, 11, 45, 26, 27, 28, 184, 0, 103, 191, 26]
abbrev dktJ17_checkFromIndexSize_0 : List UInt8 := dkwJ17_checkFromIndexSize_0 ++ dktJ17_checkFromIndexSize_1
theorem dksJ17_checkFromIndexSize_0 : cJ17_checkFromIndexSize.data.toList.drop 0 = dktJ17_checkFromIndexSize_0 := by decide +kernel
theorem dksJ17_checkFromIndexSize_1 : cJ17_checkFromIndexSize.data.toList.drop 24 = dktJ17_checkFromIndexSize_1 := dk_seg dksJ17_checkFromIndexSize_0 24 rfl rfl
theorem dJ17_checkFromIndexSize_0 : decode cJ17_checkFromIndexSize 0 = .ok (.iload_n 2, 1) := dk_28 (dk_at dksJ17_checkFromIndexSize_0 0 rfl rfl)
theorem dJ17_checkFromIndexSize_1 : decode cJ17_checkFromIndexSize 1 = .ok (.iload_n 0, 1) := dk_26 (dk_at dksJ17_checkFromIndexSize_0 1 rfl rfl)
theorem dJ17_checkFromIndexSize_2 : decode cJ17_checkFromIndexSize 2 = .ok (.ior, 1) := dk_128 (dk_at dksJ17_checkFromIndexSize_0 2 rfl rfl)
theorem dJ17_checkFromIndexSize_3 : decode cJ17_checkFromIndexSize 3 = .ok (.iload_n 1, 1) := dk_27 (dk_at dksJ17_checkFromIndexSize_0 3 rfl rfl)
theorem dJ17_checkFromIndexSize_4 : decode cJ17_checkFromIndexSize 4 = .ok (.ior, 1) := dk_128 (dk_at dksJ17_checkFromIndexSize_0 4 rfl rfl)
theorem dJ17_checkFromIndexSize_5 : decode cJ17_checkFromIndexSize 5 = .ok (.ifCond .lt 10, 3) := dk_155 0 10 (dk_at dksJ17_checkFromIndexSize_0 5 rfl rfl)
theorem dJ17_checkFromIndexSize_8 : decode cJ17_checkFromIndexSize 8 = .ok (.iload_n 1, 1) := dk_27 (dk_at dksJ17_checkFromIndexSize_0 8 rfl rfl)
theorem dJ17_checkFromIndexSize_9 : decode cJ17_checkFromIndexSize 9 = .ok (.iload_n 2, 1) := dk_28 (dk_at dksJ17_checkFromIndexSize_0 9 rfl rfl)
theorem dJ17_checkFromIndexSize_10 : decode cJ17_checkFromIndexSize 10 = .ok (.iload_n 0, 1) := dk_26 (dk_at dksJ17_checkFromIndexSize_0 10 rfl rfl)
theorem dJ17_checkFromIndexSize_11 : decode cJ17_checkFromIndexSize 11 = .ok (.isub, 1) := dk_100 (dk_at dksJ17_checkFromIndexSize_0 11 rfl rfl)
theorem dJ17_checkFromIndexSize_12 : decode cJ17_checkFromIndexSize 12 = .ok (.if_icmp .le 11, 3) := dk_164 0 11 (dk_at dksJ17_checkFromIndexSize_0 12 rfl rfl)
theorem dJ17_checkFromIndexSize_15 : decode cJ17_checkFromIndexSize 15 = .ok (.aload_n 3, 1) := dk_45 (dk_at dksJ17_checkFromIndexSize_0 15 rfl rfl)
theorem dJ17_checkFromIndexSize_16 : decode cJ17_checkFromIndexSize 16 = .ok (.iload_n 0, 1) := dk_26 (dk_at dksJ17_checkFromIndexSize_0 16 rfl rfl)
theorem dJ17_checkFromIndexSize_17 : decode cJ17_checkFromIndexSize 17 = .ok (.iload_n 1, 1) := dk_27 (dk_at dksJ17_checkFromIndexSize_0 17 rfl rfl)
theorem dJ17_checkFromIndexSize_18 : decode cJ17_checkFromIndexSize 18 = .ok (.iload_n 2, 1) := dk_28 (dk_at dksJ17_checkFromIndexSize_0 18 rfl rfl)
theorem dJ17_checkFromIndexSize_19 : decode cJ17_checkFromIndexSize 19 = .ok (.invokestatic 103, 3) := dk_184 0 103 (dk_at dksJ17_checkFromIndexSize_0 19 rfl rfl)
theorem dJ17_checkFromIndexSize_22 : decode cJ17_checkFromIndexSize 22 = .ok (.athrow, 1) := dk_191 (dk_at dksJ17_checkFromIndexSize_0 22 rfl rfl)
theorem dJ17_checkFromIndexSize_23 : decode cJ17_checkFromIndexSize 23 = .ok (.iload_n 0, 1) := dk_26 (dk_at dksJ17_checkFromIndexSize_0 23 rfl rfl)
theorem dJ17_checkFromIndexSize_24 : decode cJ17_checkFromIndexSize 24 = .ok (.ireturn, 1) := dk_172 (dk_at dksJ17_checkFromIndexSize_1 0 rfl rfl)
abbrev cJ17_checkIndex : ByteArray := prog_73_method_11_code
def yJ17_checkIndex : MethodName := ⟨RJ17, "checkIndex", "(IILjava/util/function/BiFunction;)I"⟩
def dkwJ17_checkIndex_0 : List UInt8 := [26, 155, 0, 8, 26, 27, 161, 0, 10, 44, 26, 27, 184, 0, 95, 191, 26, 172]
abbrev dktJ17_checkIndex_0 : List UInt8 := dkwJ17_checkIndex_0 ++ []
theorem dksJ17_checkIndex_0 : cJ17_checkIndex.data.toList.drop 0 = dktJ17_checkIndex_0 := by decide +kernel
theorem dJ17_checkIndex_0 : decode cJ17_checkIndex 0 = .ok (.iload_n 0, 1) := dk_26 (dk_at dksJ17_checkIndex_0 0 rfl rfl)
theorem dJ17_checkIndex_1 : decode cJ17_checkIndex 1 = .ok (.ifCond .lt 8, 3) := dk_155 0 8 (dk_at dksJ17_checkIndex_0 1 rfl rfl)
theorem dJ17_checkIndex_4 : decode cJ17_checkIndex 4 = .ok (.iload_n 0, 1) := dk_26 (dk_at dksJ17_checkIndex_0 4 rfl rfl)
theorem dJ17_checkIndex_5 : decode cJ17_checkIndex 5 = .ok (.iload_n 1, 1) := dk_27 (dk_at dksJ17_checkIndex_0 5 rfl rfl)
theorem dJ17_checkIndex_6 : decode cJ17_checkIndex 6 = .ok (.if_icmp .lt 10, 3) := dk_161 0 10 (dk_at dksJ17_checkIndex_0 6 rfl rfl)
theorem dJ17_checkIndex_9 : decode cJ17_checkIndex 9 = .ok (.aload_n 2, 1) := dk_44 (dk_at dksJ17_checkIndex_0 9 rfl rfl)
theorem dJ17_checkIndex_10 : decode cJ17_checkIndex 10 = .ok (.iload_n 0, 1) := dk_26 (dk_at dksJ17_checkIndex_0 10 rfl rfl)
theorem dJ17_checkIndex_11 : decode cJ17_checkIndex 11 = .ok (.iload_n 1, 1) := dk_27 (dk_at dksJ17_checkIndex_0 11 rfl rfl)
theorem dJ17_checkIndex_12 : decode cJ17_checkIndex 12 = .ok (.invokestatic 95, 3) := dk_184 0 95 (dk_at dksJ17_checkIndex_0 12 rfl rfl)
theorem dJ17_checkIndex_15 : decode cJ17_checkIndex 15 = .ok (.athrow, 1) := dk_191 (dk_at dksJ17_checkIndex_0 15 rfl rfl)
theorem dJ17_checkIndex_16 : decode cJ17_checkIndex 16 = .ok (.iload_n 0, 1) := dk_26 (dk_at dksJ17_checkIndex_0 16 rfl rfl)
theorem dJ17_checkIndex_17 : decode cJ17_checkIndex 17 = .ok (.ireturn, 1) := dk_172 (dk_at dksJ17_checkIndex_0 17 rfl rfl)
abbrev cJ19_newLength : ByteArray := prog_72_method_27_code
def yJ19_newLength : MethodName := ⟨RJ19, "newLength", "(III)I"⟩
def dkwJ19_newLength_1 : List UInt8 := [184, 0, 201, 172]
abbrev dktJ19_newLength_1 : List UInt8 := dkwJ19_newLength_1 ++ []
def dkwJ19_newLength_0 : List UInt8 := [26, 27, 28, 184, 0, 194, 96, 62, 3, 29, 162, 0, 11, 29, 18, 200, 163, 0, 5, 29, 172, 26, 27]
abbrev dktJ19_newLength_0 : List UInt8 := dkwJ19_newLength_0 ++ dktJ19_newLength_1
theorem dksJ19_newLength_0 : cJ19_newLength.data.toList.drop 0 = dktJ19_newLength_0 := by decide +kernel
theorem dksJ19_newLength_1 : cJ19_newLength.data.toList.drop 23 = dktJ19_newLength_1 := dk_seg dksJ19_newLength_0 23 rfl rfl
theorem dJ19_newLength_0 : decode cJ19_newLength 0 = .ok (.iload_n 0, 1) := dk_26 (dk_at dksJ19_newLength_0 0 rfl rfl)
theorem dJ19_newLength_1 : decode cJ19_newLength 1 = .ok (.iload_n 1, 1) := dk_27 (dk_at dksJ19_newLength_0 1 rfl rfl)
theorem dJ19_newLength_2 : decode cJ19_newLength 2 = .ok (.iload_n 2, 1) := dk_28 (dk_at dksJ19_newLength_0 2 rfl rfl)
theorem dJ19_newLength_3 : decode cJ19_newLength 3 = .ok (.invokestatic 194, 3) := dk_184 0 194 (dk_at dksJ19_newLength_0 3 rfl rfl)
theorem dJ19_newLength_6 : decode cJ19_newLength 6 = .ok (.iadd, 1) := dk_96 (dk_at dksJ19_newLength_0 6 rfl rfl)
theorem dJ19_newLength_7 : decode cJ19_newLength 7 = .ok (.istore_n 3, 1) := dk_62 (dk_at dksJ19_newLength_0 7 rfl rfl)
theorem dJ19_newLength_8 : decode cJ19_newLength 8 = .ok (.iconst 0, 1) := dk_3 (dk_at dksJ19_newLength_0 8 rfl rfl)
theorem dJ19_newLength_9 : decode cJ19_newLength 9 = .ok (.iload_n 3, 1) := dk_29 (dk_at dksJ19_newLength_0 9 rfl rfl)
theorem dJ19_newLength_10 : decode cJ19_newLength 10 = .ok (.if_icmp .ge 11, 3) := dk_162 0 11 (dk_at dksJ19_newLength_0 10 rfl rfl)
theorem dJ19_newLength_13 : decode cJ19_newLength 13 = .ok (.iload_n 3, 1) := dk_29 (dk_at dksJ19_newLength_0 13 rfl rfl)
theorem dJ19_newLength_14 : decode cJ19_newLength 14 = .ok (.ldc 200, 2) := dk_18 200 (dk_at dksJ19_newLength_0 14 rfl rfl)
theorem dJ19_newLength_16 : decode cJ19_newLength 16 = .ok (.if_icmp .gt 5, 3) := dk_163 0 5 (dk_at dksJ19_newLength_0 16 rfl rfl)
theorem dJ19_newLength_19 : decode cJ19_newLength 19 = .ok (.iload_n 3, 1) := dk_29 (dk_at dksJ19_newLength_0 19 rfl rfl)
theorem dJ19_newLength_20 : decode cJ19_newLength 20 = .ok (.ireturn, 1) := dk_172 (dk_at dksJ19_newLength_0 20 rfl rfl)
theorem dJ19_newLength_21 : decode cJ19_newLength 21 = .ok (.iload_n 0, 1) := dk_26 (dk_at dksJ19_newLength_0 21 rfl rfl)
theorem dJ19_newLength_22 : decode cJ19_newLength 22 = .ok (.iload_n 1, 1) := dk_27 (dk_at dksJ19_newLength_0 22 rfl rfl)
theorem dJ19_newLength_23 : decode cJ19_newLength 23 = .ok (.invokestatic 201, 3) := dk_184 0 201 (dk_at dksJ19_newLength_1 0 rfl rfl)
theorem dJ19_newLength_26 : decode cJ19_newLength 26 = .ok (.ireturn, 1) := dk_172 (dk_at dksJ19_newLength_1 3 rfl rfl)
abbrev cJ19_hugeLength : ByteArray := prog_72_method_28_code
def yJ19_hugeLength : MethodName := ⟨RJ19, "hugeLength", "(II)I"⟩
def dkwJ19_hugeLength_2 : List UInt8 := [191, 28, 18, 200, 163, 0, 6, 18, 200, 172, 28, 172]
abbrev dktJ19_hugeLength_2 : List UInt8 := dkwJ19_hugeLength_2 ++ []
def dkwJ19_hugeLength_1 : List UInt8 := [26, 182, 0, 98, 18, 208, 182, 0, 94, 27, 182, 0, 98, 18, 210, 182, 0, 94, 182, 0, 101, 183, 0, 212]
abbrev dktJ19_hugeLength_1 : List UInt8 := dkwJ19_hugeLength_1 ++ dktJ19_hugeLength_2
def dkwJ19_hugeLength_0 : List UInt8 := [26, 27, 96, 61, 28, 156, 0, 44, 187, 0, 204, 89, 187, 0, 89, 89, 183, 0, 91, 18, 206, 182, 0, 94]
abbrev dktJ19_hugeLength_0 : List UInt8 := dkwJ19_hugeLength_0 ++ dktJ19_hugeLength_1
theorem dksJ19_hugeLength_0 : cJ19_hugeLength.data.toList.drop 0 = dktJ19_hugeLength_0 := by decide +kernel
theorem dksJ19_hugeLength_1 : cJ19_hugeLength.data.toList.drop 24 = dktJ19_hugeLength_1 := dk_seg dksJ19_hugeLength_0 24 rfl rfl
theorem dksJ19_hugeLength_2 : cJ19_hugeLength.data.toList.drop 48 = dktJ19_hugeLength_2 := dk_seg dksJ19_hugeLength_1 24 rfl rfl
theorem dJ19_hugeLength_0 : decode cJ19_hugeLength 0 = .ok (.iload_n 0, 1) := dk_26 (dk_at dksJ19_hugeLength_0 0 rfl rfl)
theorem dJ19_hugeLength_1 : decode cJ19_hugeLength 1 = .ok (.iload_n 1, 1) := dk_27 (dk_at dksJ19_hugeLength_0 1 rfl rfl)
theorem dJ19_hugeLength_2 : decode cJ19_hugeLength 2 = .ok (.iadd, 1) := dk_96 (dk_at dksJ19_hugeLength_0 2 rfl rfl)
theorem dJ19_hugeLength_3 : decode cJ19_hugeLength 3 = .ok (.istore_n 2, 1) := dk_61 (dk_at dksJ19_hugeLength_0 3 rfl rfl)
theorem dJ19_hugeLength_4 : decode cJ19_hugeLength 4 = .ok (.iload_n 2, 1) := dk_28 (dk_at dksJ19_hugeLength_0 4 rfl rfl)
theorem dJ19_hugeLength_5 : decode cJ19_hugeLength 5 = .ok (.ifCond .ge 44, 3) := dk_156 0 44 (dk_at dksJ19_hugeLength_0 5 rfl rfl)
theorem dJ19_hugeLength_8 : decode cJ19_hugeLength 8 = .ok (.new 204, 3) := dk_187 0 204 (dk_at dksJ19_hugeLength_0 8 rfl rfl)
theorem dJ19_hugeLength_11 : decode cJ19_hugeLength 11 = .ok (.dup, 1) := dk_89 (dk_at dksJ19_hugeLength_0 11 rfl rfl)
theorem dJ19_hugeLength_12 : decode cJ19_hugeLength 12 = .ok (.new 89, 3) := dk_187 0 89 (dk_at dksJ19_hugeLength_0 12 rfl rfl)
theorem dJ19_hugeLength_15 : decode cJ19_hugeLength 15 = .ok (.dup, 1) := dk_89 (dk_at dksJ19_hugeLength_0 15 rfl rfl)
theorem dJ19_hugeLength_16 : decode cJ19_hugeLength 16 = .ok (.invokespecial 91, 3) := dk_183 0 91 (dk_at dksJ19_hugeLength_0 16 rfl rfl)
theorem dJ19_hugeLength_19 : decode cJ19_hugeLength 19 = .ok (.ldc 206, 2) := dk_18 206 (dk_at dksJ19_hugeLength_0 19 rfl rfl)
theorem dJ19_hugeLength_21 : decode cJ19_hugeLength 21 = .ok (.invokevirtual 94, 3) := dk_182 0 94 (dk_at dksJ19_hugeLength_0 21 rfl rfl)
theorem dJ19_hugeLength_24 : decode cJ19_hugeLength 24 = .ok (.iload_n 0, 1) := dk_26 (dk_at dksJ19_hugeLength_1 0 rfl rfl)
theorem dJ19_hugeLength_25 : decode cJ19_hugeLength 25 = .ok (.invokevirtual 98, 3) := dk_182 0 98 (dk_at dksJ19_hugeLength_1 1 rfl rfl)
theorem dJ19_hugeLength_28 : decode cJ19_hugeLength 28 = .ok (.ldc 208, 2) := dk_18 208 (dk_at dksJ19_hugeLength_1 4 rfl rfl)
theorem dJ19_hugeLength_30 : decode cJ19_hugeLength 30 = .ok (.invokevirtual 94, 3) := dk_182 0 94 (dk_at dksJ19_hugeLength_1 6 rfl rfl)
theorem dJ19_hugeLength_33 : decode cJ19_hugeLength 33 = .ok (.iload_n 1, 1) := dk_27 (dk_at dksJ19_hugeLength_1 9 rfl rfl)
theorem dJ19_hugeLength_34 : decode cJ19_hugeLength 34 = .ok (.invokevirtual 98, 3) := dk_182 0 98 (dk_at dksJ19_hugeLength_1 10 rfl rfl)
theorem dJ19_hugeLength_37 : decode cJ19_hugeLength 37 = .ok (.ldc 210, 2) := dk_18 210 (dk_at dksJ19_hugeLength_1 13 rfl rfl)
theorem dJ19_hugeLength_39 : decode cJ19_hugeLength 39 = .ok (.invokevirtual 94, 3) := dk_182 0 94 (dk_at dksJ19_hugeLength_1 15 rfl rfl)
theorem dJ19_hugeLength_42 : decode cJ19_hugeLength 42 = .ok (.invokevirtual 101, 3) := dk_182 0 101 (dk_at dksJ19_hugeLength_1 18 rfl rfl)
theorem dJ19_hugeLength_45 : decode cJ19_hugeLength 45 = .ok (.invokespecial 212, 3) := dk_183 0 212 (dk_at dksJ19_hugeLength_1 21 rfl rfl)
theorem dJ19_hugeLength_48 : decode cJ19_hugeLength 48 = .ok (.athrow, 1) := dk_191 (dk_at dksJ19_hugeLength_2 0 rfl rfl)
theorem dJ19_hugeLength_49 : decode cJ19_hugeLength 49 = .ok (.iload_n 2, 1) := dk_28 (dk_at dksJ19_hugeLength_2 1 rfl rfl)
theorem dJ19_hugeLength_50 : decode cJ19_hugeLength 50 = .ok (.ldc 200, 2) := dk_18 200 (dk_at dksJ19_hugeLength_2 2 rfl rfl)
theorem dJ19_hugeLength_52 : decode cJ19_hugeLength 52 = .ok (.if_icmp .gt 6, 3) := dk_163 0 6 (dk_at dksJ19_hugeLength_2 4 rfl rfl)
theorem dJ19_hugeLength_55 : decode cJ19_hugeLength 55 = .ok (.ldc 200, 2) := dk_18 200 (dk_at dksJ19_hugeLength_2 7 rfl rfl)
theorem dJ19_hugeLength_57 : decode cJ19_hugeLength 57 = .ok (.ireturn, 1) := dk_172 (dk_at dksJ19_hugeLength_2 9 rfl rfl)
theorem dJ19_hugeLength_58 : decode cJ19_hugeLength 58 = .ok (.iload_n 2, 1) := dk_28 (dk_at dksJ19_hugeLength_2 10 rfl rfl)
theorem dJ19_hugeLength_59 : decode cJ19_hugeLength 59 = .ok (.ireturn, 1) := dk_172 (dk_at dksJ19_hugeLength_2 11 rfl rfl)
abbrev cJ20_max : ByteArray := prog_28_method_65_code
def yJ20_max : MethodName := ⟨RJ20, "max", "(II)I"⟩
def dkwJ20_max_0 : List UInt8 := [26, 27, 161, 0, 7, 26, 167, 0, 4, 27, 172]
abbrev dktJ20_max_0 : List UInt8 := dkwJ20_max_0 ++ []
theorem dksJ20_max_0 : cJ20_max.data.toList.drop 0 = dktJ20_max_0 := by decide +kernel
theorem dJ20_max_0 : decode cJ20_max 0 = .ok (.iload_n 0, 1) := dk_26 (dk_at dksJ20_max_0 0 rfl rfl)
theorem dJ20_max_1 : decode cJ20_max 1 = .ok (.iload_n 1, 1) := dk_27 (dk_at dksJ20_max_0 1 rfl rfl)
theorem dJ20_max_2 : decode cJ20_max 2 = .ok (.if_icmp .lt 7, 3) := dk_161 0 7 (dk_at dksJ20_max_0 2 rfl rfl)
theorem dJ20_max_5 : decode cJ20_max 5 = .ok (.iload_n 0, 1) := dk_26 (dk_at dksJ20_max_0 5 rfl rfl)
theorem dJ20_max_6 : decode cJ20_max 6 = .ok (.goto 4, 3) := dk_167 0 4 (dk_at dksJ20_max_0 6 rfl rfl)
theorem dJ20_max_9 : decode cJ20_max 9 = .ok (.iload_n 1, 1) := dk_27 (dk_at dksJ20_max_0 9 rfl rfl)
theorem dJ20_max_10 : decode cJ20_max 10 = .ok (.ireturn, 1) := dk_172 (dk_at dksJ20_max_0 10 rfl rfl)
abbrev cJ20_min : ByteArray := prog_28_method_69_code
def yJ20_min : MethodName := ⟨RJ20, "min", "(II)I"⟩
def dkwJ20_min_0 : List UInt8 := [26, 27, 163, 0, 7, 26, 167, 0, 4, 27, 172]
abbrev dktJ20_min_0 : List UInt8 := dkwJ20_min_0 ++ []
theorem dksJ20_min_0 : cJ20_min.data.toList.drop 0 = dktJ20_min_0 := by decide +kernel
theorem dJ20_min_0 : decode cJ20_min 0 = .ok (.iload_n 0, 1) := dk_26 (dk_at dksJ20_min_0 0 rfl rfl)
theorem dJ20_min_1 : decode cJ20_min 1 = .ok (.iload_n 1, 1) := dk_27 (dk_at dksJ20_min_0 1 rfl rfl)
theorem dJ20_min_2 : decode cJ20_min 2 = .ok (.if_icmp .gt 7, 3) := dk_163 0 7 (dk_at dksJ20_min_0 2 rfl rfl)
theorem dJ20_min_5 : decode cJ20_min 5 = .ok (.iload_n 0, 1) := dk_26 (dk_at dksJ20_min_0 5 rfl rfl)
theorem dJ20_min_6 : decode cJ20_min 6 = .ok (.goto 4, 3) := dk_167 0 4 (dk_at dksJ20_min_0 6 rfl rfl)
theorem dJ20_min_9 : decode cJ20_min 9 = .ok (.iload_n 1, 1) := dk_27 (dk_at dksJ20_min_0 9 rfl rfl)
theorem dJ20_min_10 : decode cJ20_min 10 = .ok (.ireturn, 1) := dk_172 (dk_at dksJ20_min_0 10 rfl rfl)
abbrev cJ21_copyOf : ByteArray := prog_51_method_121_code
def yJ21_copyOf : MethodName := ⟨RJ21, "copyOf", "([BI)[B"⟩
def dkwJ21_copyOf_1 : List UInt8 := [27, 184, 1, 48, 184, 0, 150, 44, 176]
abbrev dktJ21_copyOf_1 : List UInt8 := dkwJ21_copyOf_1 ++ []
def dkwJ21_copyOf_0 : List UInt8 := [27, 42, 190, 160, 0, 11, 42, 182, 1, 54, 192, 1, 55, 176, 27, 188, 8, 77, 42, 3, 44, 3, 42, 190]
abbrev dktJ21_copyOf_0 : List UInt8 := dkwJ21_copyOf_0 ++ dktJ21_copyOf_1
theorem dksJ21_copyOf_0 : cJ21_copyOf.data.toList.drop 0 = dktJ21_copyOf_0 := by decide +kernel
theorem dksJ21_copyOf_1 : cJ21_copyOf.data.toList.drop 24 = dktJ21_copyOf_1 := dk_seg dksJ21_copyOf_0 24 rfl rfl
theorem dJ21_copyOf_0 : decode cJ21_copyOf 0 = .ok (.iload_n 1, 1) := dk_27 (dk_at dksJ21_copyOf_0 0 rfl rfl)
theorem dJ21_copyOf_1 : decode cJ21_copyOf 1 = .ok (.aload_n 0, 1) := dk_42 (dk_at dksJ21_copyOf_0 1 rfl rfl)
theorem dJ21_copyOf_2 : decode cJ21_copyOf 2 = .ok (.arraylength, 1) := dk_190 (dk_at dksJ21_copyOf_0 2 rfl rfl)
theorem dJ21_copyOf_3 : decode cJ21_copyOf 3 = .ok (.if_icmp .ne 11, 3) := dk_160 0 11 (dk_at dksJ21_copyOf_0 3 rfl rfl)
theorem dJ21_copyOf_6 : decode cJ21_copyOf 6 = .ok (.aload_n 0, 1) := dk_42 (dk_at dksJ21_copyOf_0 6 rfl rfl)
theorem dJ21_copyOf_7 : decode cJ21_copyOf 7 = .ok (.invokevirtual 310, 3) := dk_182 1 54 (dk_at dksJ21_copyOf_0 7 rfl rfl)
theorem dJ21_copyOf_10 : decode cJ21_copyOf 10 = .ok (.checkcast 311, 3) := dk_192 1 55 (dk_at dksJ21_copyOf_0 10 rfl rfl)
theorem dJ21_copyOf_13 : decode cJ21_copyOf 13 = .ok (.areturn, 1) := dk_176 (dk_at dksJ21_copyOf_0 13 rfl rfl)
theorem dJ21_copyOf_14 : decode cJ21_copyOf 14 = .ok (.iload_n 1, 1) := dk_27 (dk_at dksJ21_copyOf_0 14 rfl rfl)
theorem dJ21_copyOf_15 : decode cJ21_copyOf 15 = .ok (.newarray .byte, 2) := dk_188_8 (dk_at dksJ21_copyOf_0 15 rfl rfl)
theorem dJ21_copyOf_17 : decode cJ21_copyOf 17 = .ok (.astore_n 2, 1) := dk_77 (dk_at dksJ21_copyOf_0 17 rfl rfl)
theorem dJ21_copyOf_18 : decode cJ21_copyOf 18 = .ok (.aload_n 0, 1) := dk_42 (dk_at dksJ21_copyOf_0 18 rfl rfl)
theorem dJ21_copyOf_19 : decode cJ21_copyOf 19 = .ok (.iconst 0, 1) := dk_3 (dk_at dksJ21_copyOf_0 19 rfl rfl)
theorem dJ21_copyOf_20 : decode cJ21_copyOf 20 = .ok (.aload_n 2, 1) := dk_44 (dk_at dksJ21_copyOf_0 20 rfl rfl)
theorem dJ21_copyOf_21 : decode cJ21_copyOf 21 = .ok (.iconst 0, 1) := dk_3 (dk_at dksJ21_copyOf_0 21 rfl rfl)
theorem dJ21_copyOf_22 : decode cJ21_copyOf 22 = .ok (.aload_n 0, 1) := dk_42 (dk_at dksJ21_copyOf_0 22 rfl rfl)
theorem dJ21_copyOf_23 : decode cJ21_copyOf 23 = .ok (.arraylength, 1) := dk_190 (dk_at dksJ21_copyOf_0 23 rfl rfl)
theorem dJ21_copyOf_24 : decode cJ21_copyOf 24 = .ok (.iload_n 1, 1) := dk_27 (dk_at dksJ21_copyOf_1 0 rfl rfl)
theorem dJ21_copyOf_25 : decode cJ21_copyOf 25 = .ok (.invokestatic 304, 3) := dk_184 1 48 (dk_at dksJ21_copyOf_1 1 rfl rfl)
theorem dJ21_copyOf_28 : decode cJ21_copyOf 28 = .ok (.invokestatic 150, 3) := dk_184 0 150 (dk_at dksJ21_copyOf_1 4 rfl rfl)
theorem dJ21_copyOf_31 : decode cJ21_copyOf 31 = .ok (.aload_n 2, 1) := dk_44 (dk_at dksJ21_copyOf_1 7 rfl rfl)
theorem dJ21_copyOf_32 : decode cJ21_copyOf 32 = .ok (.areturn, 1) := dk_176 (dk_at dksJ21_copyOf_1 8 rfl rfl)
abbrev cJ21_copyOfRange : ByteArray := prog_51_method_132_code
def yJ21_copyOfRange : MethodName := ⟨RJ21, "copyOfRange", "([BII)[B"⟩
def dkwJ21_copyOfRange_1 : List UInt8 := [176]
abbrev dktJ21_copyOfRange_1 : List UInt8 := dkwJ21_copyOfRange_1 ++ []
def dkwJ21_copyOfRange_0 : List UInt8 := [27, 154, 0, 9, 28, 42, 190, 159, 0, 10, 42, 27, 28, 184, 1, 83, 176, 42, 182, 1, 54, 192, 1, 55]
abbrev dktJ21_copyOfRange_0 : List UInt8 := dkwJ21_copyOfRange_0 ++ dktJ21_copyOfRange_1
theorem dksJ21_copyOfRange_0 : cJ21_copyOfRange.data.toList.drop 0 = dktJ21_copyOfRange_0 := by decide +kernel
theorem dksJ21_copyOfRange_1 : cJ21_copyOfRange.data.toList.drop 24 = dktJ21_copyOfRange_1 := dk_seg dksJ21_copyOfRange_0 24 rfl rfl
theorem dJ21_copyOfRange_0 : decode cJ21_copyOfRange 0 = .ok (.iload_n 1, 1) := dk_27 (dk_at dksJ21_copyOfRange_0 0 rfl rfl)
theorem dJ21_copyOfRange_1 : decode cJ21_copyOfRange 1 = .ok (.ifCond .ne 9, 3) := dk_154 0 9 (dk_at dksJ21_copyOfRange_0 1 rfl rfl)
theorem dJ21_copyOfRange_4 : decode cJ21_copyOfRange 4 = .ok (.iload_n 2, 1) := dk_28 (dk_at dksJ21_copyOfRange_0 4 rfl rfl)
theorem dJ21_copyOfRange_5 : decode cJ21_copyOfRange 5 = .ok (.aload_n 0, 1) := dk_42 (dk_at dksJ21_copyOfRange_0 5 rfl rfl)
theorem dJ21_copyOfRange_6 : decode cJ21_copyOfRange 6 = .ok (.arraylength, 1) := dk_190 (dk_at dksJ21_copyOfRange_0 6 rfl rfl)
theorem dJ21_copyOfRange_7 : decode cJ21_copyOfRange 7 = .ok (.if_icmp .eq 10, 3) := dk_159 0 10 (dk_at dksJ21_copyOfRange_0 7 rfl rfl)
theorem dJ21_copyOfRange_10 : decode cJ21_copyOfRange 10 = .ok (.aload_n 0, 1) := dk_42 (dk_at dksJ21_copyOfRange_0 10 rfl rfl)
theorem dJ21_copyOfRange_11 : decode cJ21_copyOfRange 11 = .ok (.iload_n 1, 1) := dk_27 (dk_at dksJ21_copyOfRange_0 11 rfl rfl)
theorem dJ21_copyOfRange_12 : decode cJ21_copyOfRange 12 = .ok (.iload_n 2, 1) := dk_28 (dk_at dksJ21_copyOfRange_0 12 rfl rfl)
theorem dJ21_copyOfRange_13 : decode cJ21_copyOfRange 13 = .ok (.invokestatic 339, 3) := dk_184 1 83 (dk_at dksJ21_copyOfRange_0 13 rfl rfl)
theorem dJ21_copyOfRange_16 : decode cJ21_copyOfRange 16 = .ok (.areturn, 1) := dk_176 (dk_at dksJ21_copyOfRange_0 16 rfl rfl)
theorem dJ21_copyOfRange_17 : decode cJ21_copyOfRange 17 = .ok (.aload_n 0, 1) := dk_42 (dk_at dksJ21_copyOfRange_0 17 rfl rfl)
theorem dJ21_copyOfRange_18 : decode cJ21_copyOfRange 18 = .ok (.invokevirtual 310, 3) := dk_182 1 54 (dk_at dksJ21_copyOfRange_0 18 rfl rfl)
theorem dJ21_copyOfRange_21 : decode cJ21_copyOfRange 21 = .ok (.checkcast 311, 3) := dk_192 1 55 (dk_at dksJ21_copyOfRange_0 21 rfl rfl)
theorem dJ21_copyOfRange_24 : decode cJ21_copyOfRange 24 = .ok (.areturn, 1) := dk_176 (dk_at dksJ21_copyOfRange_1 0 rfl rfl)
abbrev cJ21_copyOfRangeByte : ByteArray := prog_51_method_133_code
def yJ21_copyOfRangeByte : MethodName := ⟨RJ21, "copyOfRangeByte", "([BII)[B"⟩
def dkwJ21_copyOfRangeByte_1 : List UInt8 := [184, 1, 48, 184, 0, 150, 25, 4, 176]
abbrev dktJ21_copyOfRangeByte_1 : List UInt8 := dkwJ21_copyOfRangeByte_1 ++ []
def dkwJ21_copyOfRangeByte_0 : List UInt8 := [27, 28, 184, 1, 87, 28, 27, 100, 62, 29, 188, 8, 58, 4, 42, 27, 25, 4, 3, 42, 190, 27, 100, 29]
abbrev dktJ21_copyOfRangeByte_0 : List UInt8 := dkwJ21_copyOfRangeByte_0 ++ dktJ21_copyOfRangeByte_1
theorem dksJ21_copyOfRangeByte_0 : cJ21_copyOfRangeByte.data.toList.drop 0 = dktJ21_copyOfRangeByte_0 := by decide +kernel
theorem dksJ21_copyOfRangeByte_1 : cJ21_copyOfRangeByte.data.toList.drop 24 = dktJ21_copyOfRangeByte_1 := dk_seg dksJ21_copyOfRangeByte_0 24 rfl rfl
theorem dJ21_copyOfRangeByte_0 : decode cJ21_copyOfRangeByte 0 = .ok (.iload_n 1, 1) := dk_27 (dk_at dksJ21_copyOfRangeByte_0 0 rfl rfl)
theorem dJ21_copyOfRangeByte_1 : decode cJ21_copyOfRangeByte 1 = .ok (.iload_n 2, 1) := dk_28 (dk_at dksJ21_copyOfRangeByte_0 1 rfl rfl)
theorem dJ21_copyOfRangeByte_2 : decode cJ21_copyOfRangeByte 2 = .ok (.invokestatic 343, 3) := dk_184 1 87 (dk_at dksJ21_copyOfRangeByte_0 2 rfl rfl)
theorem dJ21_copyOfRangeByte_5 : decode cJ21_copyOfRangeByte 5 = .ok (.iload_n 2, 1) := dk_28 (dk_at dksJ21_copyOfRangeByte_0 5 rfl rfl)
theorem dJ21_copyOfRangeByte_6 : decode cJ21_copyOfRangeByte 6 = .ok (.iload_n 1, 1) := dk_27 (dk_at dksJ21_copyOfRangeByte_0 6 rfl rfl)
theorem dJ21_copyOfRangeByte_7 : decode cJ21_copyOfRangeByte 7 = .ok (.isub, 1) := dk_100 (dk_at dksJ21_copyOfRangeByte_0 7 rfl rfl)
theorem dJ21_copyOfRangeByte_8 : decode cJ21_copyOfRangeByte 8 = .ok (.istore_n 3, 1) := dk_62 (dk_at dksJ21_copyOfRangeByte_0 8 rfl rfl)
theorem dJ21_copyOfRangeByte_9 : decode cJ21_copyOfRangeByte 9 = .ok (.iload_n 3, 1) := dk_29 (dk_at dksJ21_copyOfRangeByte_0 9 rfl rfl)
theorem dJ21_copyOfRangeByte_10 : decode cJ21_copyOfRangeByte 10 = .ok (.newarray .byte, 2) := dk_188_8 (dk_at dksJ21_copyOfRangeByte_0 10 rfl rfl)
theorem dJ21_copyOfRangeByte_12 : decode cJ21_copyOfRangeByte 12 = .ok (.astore 4, 2) := dk_58 4 (dk_at dksJ21_copyOfRangeByte_0 12 rfl rfl)
theorem dJ21_copyOfRangeByte_14 : decode cJ21_copyOfRangeByte 14 = .ok (.aload_n 0, 1) := dk_42 (dk_at dksJ21_copyOfRangeByte_0 14 rfl rfl)
theorem dJ21_copyOfRangeByte_15 : decode cJ21_copyOfRangeByte 15 = .ok (.iload_n 1, 1) := dk_27 (dk_at dksJ21_copyOfRangeByte_0 15 rfl rfl)
theorem dJ21_copyOfRangeByte_16 : decode cJ21_copyOfRangeByte 16 = .ok (.aload 4, 2) := dk_25 4 (dk_at dksJ21_copyOfRangeByte_0 16 rfl rfl)
theorem dJ21_copyOfRangeByte_18 : decode cJ21_copyOfRangeByte 18 = .ok (.iconst 0, 1) := dk_3 (dk_at dksJ21_copyOfRangeByte_0 18 rfl rfl)
theorem dJ21_copyOfRangeByte_19 : decode cJ21_copyOfRangeByte 19 = .ok (.aload_n 0, 1) := dk_42 (dk_at dksJ21_copyOfRangeByte_0 19 rfl rfl)
theorem dJ21_copyOfRangeByte_20 : decode cJ21_copyOfRangeByte 20 = .ok (.arraylength, 1) := dk_190 (dk_at dksJ21_copyOfRangeByte_0 20 rfl rfl)
theorem dJ21_copyOfRangeByte_21 : decode cJ21_copyOfRangeByte 21 = .ok (.iload_n 1, 1) := dk_27 (dk_at dksJ21_copyOfRangeByte_0 21 rfl rfl)
theorem dJ21_copyOfRangeByte_22 : decode cJ21_copyOfRangeByte 22 = .ok (.isub, 1) := dk_100 (dk_at dksJ21_copyOfRangeByte_0 22 rfl rfl)
theorem dJ21_copyOfRangeByte_23 : decode cJ21_copyOfRangeByte 23 = .ok (.iload_n 3, 1) := dk_29 (dk_at dksJ21_copyOfRangeByte_0 23 rfl rfl)
theorem dJ21_copyOfRangeByte_24 : decode cJ21_copyOfRangeByte 24 = .ok (.invokestatic 304, 3) := dk_184 1 48 (dk_at dksJ21_copyOfRangeByte_1 0 rfl rfl)
theorem dJ21_copyOfRangeByte_27 : decode cJ21_copyOfRangeByte 27 = .ok (.invokestatic 150, 3) := dk_184 0 150 (dk_at dksJ21_copyOfRangeByte_1 3 rfl rfl)
theorem dJ21_copyOfRangeByte_30 : decode cJ21_copyOfRangeByte 30 = .ok (.aload 4, 2) := dk_25 4 (dk_at dksJ21_copyOfRangeByte_1 6 rfl rfl)
theorem dJ21_copyOfRangeByte_32 : decode cJ21_copyOfRangeByte 32 = .ok (.areturn, 1) := dk_176 (dk_at dksJ21_copyOfRangeByte_1 8 rfl rfl)
abbrev cJ21_checkLength : ByteArray := prog_51_method_131_code
def yJ21_checkLength : MethodName := ⟨RJ21, "checkLength", "(II)V"⟩
def dkwJ21_checkLength_1 : List UInt8 := [182, 0, 50, 27, 182, 0, 54, 182, 0, 61, 183, 0, 65, 191, 177]
abbrev dktJ21_checkLength_1 : List UInt8 := dkwJ21_checkLength_1 ++ []
def dkwJ21_checkLength_0 : List UInt8 := [27, 26, 162, 0, 35, 187, 0, 43, 89, 187, 0, 45, 89, 183, 0, 47, 26, 182, 0, 54, 19, 1, 81]
abbrev dktJ21_checkLength_0 : List UInt8 := dkwJ21_checkLength_0 ++ dktJ21_checkLength_1
theorem dksJ21_checkLength_0 : cJ21_checkLength.data.toList.drop 0 = dktJ21_checkLength_0 := by decide +kernel
theorem dksJ21_checkLength_1 : cJ21_checkLength.data.toList.drop 23 = dktJ21_checkLength_1 := dk_seg dksJ21_checkLength_0 23 rfl rfl
theorem dJ21_checkLength_0 : decode cJ21_checkLength 0 = .ok (.iload_n 1, 1) := dk_27 (dk_at dksJ21_checkLength_0 0 rfl rfl)
theorem dJ21_checkLength_1 : decode cJ21_checkLength 1 = .ok (.iload_n 0, 1) := dk_26 (dk_at dksJ21_checkLength_0 1 rfl rfl)
theorem dJ21_checkLength_2 : decode cJ21_checkLength 2 = .ok (.if_icmp .ge 35, 3) := dk_162 0 35 (dk_at dksJ21_checkLength_0 2 rfl rfl)
theorem dJ21_checkLength_5 : decode cJ21_checkLength 5 = .ok (.new 43, 3) := dk_187 0 43 (dk_at dksJ21_checkLength_0 5 rfl rfl)
theorem dJ21_checkLength_8 : decode cJ21_checkLength 8 = .ok (.dup, 1) := dk_89 (dk_at dksJ21_checkLength_0 8 rfl rfl)
theorem dJ21_checkLength_9 : decode cJ21_checkLength 9 = .ok (.new 45, 3) := dk_187 0 45 (dk_at dksJ21_checkLength_0 9 rfl rfl)
theorem dJ21_checkLength_12 : decode cJ21_checkLength 12 = .ok (.dup, 1) := dk_89 (dk_at dksJ21_checkLength_0 12 rfl rfl)
theorem dJ21_checkLength_13 : decode cJ21_checkLength 13 = .ok (.invokespecial 47, 3) := dk_183 0 47 (dk_at dksJ21_checkLength_0 13 rfl rfl)
theorem dJ21_checkLength_16 : decode cJ21_checkLength 16 = .ok (.iload_n 0, 1) := dk_26 (dk_at dksJ21_checkLength_0 16 rfl rfl)
theorem dJ21_checkLength_17 : decode cJ21_checkLength 17 = .ok (.invokevirtual 54, 3) := dk_182 0 54 (dk_at dksJ21_checkLength_0 17 rfl rfl)
theorem dJ21_checkLength_20 : decode cJ21_checkLength 20 = .ok (.ldc_w 337, 3) := dk_19 1 81 (dk_at dksJ21_checkLength_0 20 rfl rfl)
theorem dJ21_checkLength_23 : decode cJ21_checkLength 23 = .ok (.invokevirtual 50, 3) := dk_182 0 50 (dk_at dksJ21_checkLength_1 0 rfl rfl)
theorem dJ21_checkLength_26 : decode cJ21_checkLength 26 = .ok (.iload_n 1, 1) := dk_27 (dk_at dksJ21_checkLength_1 3 rfl rfl)
theorem dJ21_checkLength_27 : decode cJ21_checkLength 27 = .ok (.invokevirtual 54, 3) := dk_182 0 54 (dk_at dksJ21_checkLength_1 4 rfl rfl)
theorem dJ21_checkLength_30 : decode cJ21_checkLength 30 = .ok (.invokevirtual 61, 3) := dk_182 0 61 (dk_at dksJ21_checkLength_1 7 rfl rfl)
theorem dJ21_checkLength_33 : decode cJ21_checkLength 33 = .ok (.invokespecial 65, 3) := dk_183 0 65 (dk_at dksJ21_checkLength_1 10 rfl rfl)
theorem dJ21_checkLength_36 : decode cJ21_checkLength 36 = .ok (.athrow, 1) := dk_191 (dk_at dksJ21_checkLength_1 13 rfl rfl)
theorem dJ21_checkLength_37 : decode cJ21_checkLength 37 = .ok (.return_, 1) := dk_177 (dk_at dksJ21_checkLength_1 14 rfl rfl)
abbrev cJ21_copyOf_2 : ByteArray := prog_51_method_119_code
def yJ21_copyOf_2 : MethodName := ⟨RJ21, "copyOf", "([Ljava/lang/Object;I)[Ljava/lang/Object;"⟩
def dkwJ21_copyOf_2_0 : List UInt8 := [42, 27, 42, 182, 0, 86, 184, 1, 44, 176]
abbrev dktJ21_copyOf_2_0 : List UInt8 := dkwJ21_copyOf_2_0 ++ []
theorem dksJ21_copyOf_2_0 : cJ21_copyOf_2.data.toList.drop 0 = dktJ21_copyOf_2_0 := by decide +kernel
theorem dJ21_copyOf_2_0 : decode cJ21_copyOf_2 0 = .ok (.aload_n 0, 1) := dk_42 (dk_at dksJ21_copyOf_2_0 0 rfl rfl)
theorem dJ21_copyOf_2_1 : decode cJ21_copyOf_2 1 = .ok (.iload_n 1, 1) := dk_27 (dk_at dksJ21_copyOf_2_0 1 rfl rfl)
theorem dJ21_copyOf_2_2 : decode cJ21_copyOf_2 2 = .ok (.aload_n 0, 1) := dk_42 (dk_at dksJ21_copyOf_2_0 2 rfl rfl)
theorem dJ21_copyOf_2_3 : decode cJ21_copyOf_2 3 = .ok (.invokevirtual 86, 3) := dk_182 0 86 (dk_at dksJ21_copyOf_2_0 3 rfl rfl)
theorem dJ21_copyOf_2_6 : decode cJ21_copyOf_2 6 = .ok (.invokestatic 300, 3) := dk_184 1 44 (dk_at dksJ21_copyOf_2_0 6 rfl rfl)
theorem dJ21_copyOf_2_9 : decode cJ21_copyOf_2 9 = .ok (.areturn, 1) := dk_176 (dk_at dksJ21_copyOf_2_0 9 rfl rfl)
abbrev cJ21_copyOf_3 : ByteArray := prog_51_method_120_code
def yJ21_copyOf_3 : MethodName := ⟨RJ21, "copyOf", "([Ljava/lang/Object;ILjava/lang/Class;)[Ljava/lang/Object;"⟩
def dkwJ21_copyOf_3_1 : List UInt8 := [78, 42, 3, 45, 3, 42, 190, 27, 184, 1, 48, 184, 0, 150, 45, 176]
abbrev dktJ21_copyOf_3_1 : List UInt8 := dkwJ21_copyOf_3_1 ++ []
def dkwJ21_copyOf_3_0 : List UInt8 := [44, 18, 110, 166, 0, 10, 27, 189, 0, 2, 167, 0, 14, 44, 182, 0, 90, 27, 184, 0, 95, 192, 0, 110]
abbrev dktJ21_copyOf_3_0 : List UInt8 := dkwJ21_copyOf_3_0 ++ dktJ21_copyOf_3_1
theorem dksJ21_copyOf_3_0 : cJ21_copyOf_3.data.toList.drop 0 = dktJ21_copyOf_3_0 := by decide +kernel
theorem dksJ21_copyOf_3_1 : cJ21_copyOf_3.data.toList.drop 24 = dktJ21_copyOf_3_1 := dk_seg dksJ21_copyOf_3_0 24 rfl rfl
theorem dJ21_copyOf_3_0 : decode cJ21_copyOf_3 0 = .ok (.aload_n 2, 1) := dk_44 (dk_at dksJ21_copyOf_3_0 0 rfl rfl)
theorem dJ21_copyOf_3_1 : decode cJ21_copyOf_3 1 = .ok (.ldc 110, 2) := dk_18 110 (dk_at dksJ21_copyOf_3_0 1 rfl rfl)
theorem dJ21_copyOf_3_3 : decode cJ21_copyOf_3 3 = .ok (.if_acmp .ne 10, 3) := dk_166 0 10 (dk_at dksJ21_copyOf_3_0 3 rfl rfl)
theorem dJ21_copyOf_3_6 : decode cJ21_copyOf_3 6 = .ok (.iload_n 1, 1) := dk_27 (dk_at dksJ21_copyOf_3_0 6 rfl rfl)
theorem dJ21_copyOf_3_7 : decode cJ21_copyOf_3 7 = .ok (.anewarray 2, 3) := dk_189 0 2 (dk_at dksJ21_copyOf_3_0 7 rfl rfl)
theorem dJ21_copyOf_3_10 : decode cJ21_copyOf_3 10 = .ok (.goto 14, 3) := dk_167 0 14 (dk_at dksJ21_copyOf_3_0 10 rfl rfl)
theorem dJ21_copyOf_3_13 : decode cJ21_copyOf_3 13 = .ok (.aload_n 2, 1) := dk_44 (dk_at dksJ21_copyOf_3_0 13 rfl rfl)
theorem dJ21_copyOf_3_14 : decode cJ21_copyOf_3 14 = .ok (.invokevirtual 90, 3) := dk_182 0 90 (dk_at dksJ21_copyOf_3_0 14 rfl rfl)
theorem dJ21_copyOf_3_17 : decode cJ21_copyOf_3 17 = .ok (.iload_n 1, 1) := dk_27 (dk_at dksJ21_copyOf_3_0 17 rfl rfl)
theorem dJ21_copyOf_3_18 : decode cJ21_copyOf_3 18 = .ok (.invokestatic 95, 3) := dk_184 0 95 (dk_at dksJ21_copyOf_3_0 18 rfl rfl)
theorem dJ21_copyOf_3_21 : decode cJ21_copyOf_3 21 = .ok (.checkcast 110, 3) := dk_192 0 110 (dk_at dksJ21_copyOf_3_0 21 rfl rfl)
theorem dJ21_copyOf_3_24 : decode cJ21_copyOf_3 24 = .ok (.astore_n 3, 1) := dk_78 (dk_at dksJ21_copyOf_3_1 0 rfl rfl)
theorem dJ21_copyOf_3_25 : decode cJ21_copyOf_3 25 = .ok (.aload_n 0, 1) := dk_42 (dk_at dksJ21_copyOf_3_1 1 rfl rfl)
theorem dJ21_copyOf_3_26 : decode cJ21_copyOf_3 26 = .ok (.iconst 0, 1) := dk_3 (dk_at dksJ21_copyOf_3_1 2 rfl rfl)
theorem dJ21_copyOf_3_27 : decode cJ21_copyOf_3 27 = .ok (.aload_n 3, 1) := dk_45 (dk_at dksJ21_copyOf_3_1 3 rfl rfl)
theorem dJ21_copyOf_3_28 : decode cJ21_copyOf_3 28 = .ok (.iconst 0, 1) := dk_3 (dk_at dksJ21_copyOf_3_1 4 rfl rfl)
theorem dJ21_copyOf_3_29 : decode cJ21_copyOf_3 29 = .ok (.aload_n 0, 1) := dk_42 (dk_at dksJ21_copyOf_3_1 5 rfl rfl)
theorem dJ21_copyOf_3_30 : decode cJ21_copyOf_3 30 = .ok (.arraylength, 1) := dk_190 (dk_at dksJ21_copyOf_3_1 6 rfl rfl)
theorem dJ21_copyOf_3_31 : decode cJ21_copyOf_3 31 = .ok (.iload_n 1, 1) := dk_27 (dk_at dksJ21_copyOf_3_1 7 rfl rfl)
theorem dJ21_copyOf_3_32 : decode cJ21_copyOf_3 32 = .ok (.invokestatic 304, 3) := dk_184 1 48 (dk_at dksJ21_copyOf_3_1 8 rfl rfl)
theorem dJ21_copyOf_3_35 : decode cJ21_copyOf_3 35 = .ok (.invokestatic 150, 3) := dk_184 0 150 (dk_at dksJ21_copyOf_3_1 11 rfl rfl)
theorem dJ21_copyOf_3_38 : decode cJ21_copyOf_3 38 = .ok (.aload_n 3, 1) := dk_45 (dk_at dksJ21_copyOf_3_1 14 rfl rfl)
theorem dJ21_copyOf_3_39 : decode cJ21_copyOf_3 39 = .ok (.areturn, 1) := dk_176 (dk_at dksJ21_copyOf_3_1 15 rfl rfl)
abbrev cJ21_copyOf_4 : ByteArray := prog_51_method_124_code
def yJ21_copyOf_4 : MethodName := ⟨RJ21, "copyOf", "([JI)[J"⟩
def dkwJ21_copyOf_4_1 : List UInt8 := [27, 184, 1, 48, 184, 0, 150, 44, 176]
abbrev dktJ21_copyOf_4_1 : List UInt8 := dkwJ21_copyOf_4_1 ++ []
def dkwJ21_copyOf_4_0 : List UInt8 := [27, 42, 190, 160, 0, 11, 42, 182, 1, 63, 192, 1, 64, 176, 27, 188, 11, 77, 42, 3, 44, 3, 42, 190]
abbrev dktJ21_copyOf_4_0 : List UInt8 := dkwJ21_copyOf_4_0 ++ dktJ21_copyOf_4_1
theorem dksJ21_copyOf_4_0 : cJ21_copyOf_4.data.toList.drop 0 = dktJ21_copyOf_4_0 := by decide +kernel
theorem dksJ21_copyOf_4_1 : cJ21_copyOf_4.data.toList.drop 24 = dktJ21_copyOf_4_1 := dk_seg dksJ21_copyOf_4_0 24 rfl rfl
theorem dJ21_copyOf_4_0 : decode cJ21_copyOf_4 0 = .ok (.iload_n 1, 1) := dk_27 (dk_at dksJ21_copyOf_4_0 0 rfl rfl)
theorem dJ21_copyOf_4_1 : decode cJ21_copyOf_4 1 = .ok (.aload_n 0, 1) := dk_42 (dk_at dksJ21_copyOf_4_0 1 rfl rfl)
theorem dJ21_copyOf_4_2 : decode cJ21_copyOf_4 2 = .ok (.arraylength, 1) := dk_190 (dk_at dksJ21_copyOf_4_0 2 rfl rfl)
theorem dJ21_copyOf_4_3 : decode cJ21_copyOf_4 3 = .ok (.if_icmp .ne 11, 3) := dk_160 0 11 (dk_at dksJ21_copyOf_4_0 3 rfl rfl)
theorem dJ21_copyOf_4_6 : decode cJ21_copyOf_4 6 = .ok (.aload_n 0, 1) := dk_42 (dk_at dksJ21_copyOf_4_0 6 rfl rfl)
theorem dJ21_copyOf_4_7 : decode cJ21_copyOf_4 7 = .ok (.invokevirtual 319, 3) := dk_182 1 63 (dk_at dksJ21_copyOf_4_0 7 rfl rfl)
theorem dJ21_copyOf_4_10 : decode cJ21_copyOf_4 10 = .ok (.checkcast 320, 3) := dk_192 1 64 (dk_at dksJ21_copyOf_4_0 10 rfl rfl)
theorem dJ21_copyOf_4_13 : decode cJ21_copyOf_4 13 = .ok (.areturn, 1) := dk_176 (dk_at dksJ21_copyOf_4_0 13 rfl rfl)
theorem dJ21_copyOf_4_14 : decode cJ21_copyOf_4 14 = .ok (.iload_n 1, 1) := dk_27 (dk_at dksJ21_copyOf_4_0 14 rfl rfl)
theorem dJ21_copyOf_4_15 : decode cJ21_copyOf_4 15 = .ok (.newarray .long, 2) := dk_188_11 (dk_at dksJ21_copyOf_4_0 15 rfl rfl)
theorem dJ21_copyOf_4_17 : decode cJ21_copyOf_4 17 = .ok (.astore_n 2, 1) := dk_77 (dk_at dksJ21_copyOf_4_0 17 rfl rfl)
theorem dJ21_copyOf_4_18 : decode cJ21_copyOf_4 18 = .ok (.aload_n 0, 1) := dk_42 (dk_at dksJ21_copyOf_4_0 18 rfl rfl)
theorem dJ21_copyOf_4_19 : decode cJ21_copyOf_4 19 = .ok (.iconst 0, 1) := dk_3 (dk_at dksJ21_copyOf_4_0 19 rfl rfl)
theorem dJ21_copyOf_4_20 : decode cJ21_copyOf_4 20 = .ok (.aload_n 2, 1) := dk_44 (dk_at dksJ21_copyOf_4_0 20 rfl rfl)
theorem dJ21_copyOf_4_21 : decode cJ21_copyOf_4 21 = .ok (.iconst 0, 1) := dk_3 (dk_at dksJ21_copyOf_4_0 21 rfl rfl)
theorem dJ21_copyOf_4_22 : decode cJ21_copyOf_4 22 = .ok (.aload_n 0, 1) := dk_42 (dk_at dksJ21_copyOf_4_0 22 rfl rfl)
theorem dJ21_copyOf_4_23 : decode cJ21_copyOf_4 23 = .ok (.arraylength, 1) := dk_190 (dk_at dksJ21_copyOf_4_0 23 rfl rfl)
theorem dJ21_copyOf_4_24 : decode cJ21_copyOf_4 24 = .ok (.iload_n 1, 1) := dk_27 (dk_at dksJ21_copyOf_4_1 0 rfl rfl)
theorem dJ21_copyOf_4_25 : decode cJ21_copyOf_4 25 = .ok (.invokestatic 304, 3) := dk_184 1 48 (dk_at dksJ21_copyOf_4_1 1 rfl rfl)
theorem dJ21_copyOf_4_28 : decode cJ21_copyOf_4 28 = .ok (.invokestatic 150, 3) := dk_184 0 150 (dk_at dksJ21_copyOf_4_1 4 rfl rfl)
theorem dJ21_copyOf_4_31 : decode cJ21_copyOf_4 31 = .ok (.aload_n 2, 1) := dk_44 (dk_at dksJ21_copyOf_4_1 7 rfl rfl)
theorem dJ21_copyOf_4_32 : decode cJ21_copyOf_4 32 = .ok (.areturn, 1) := dk_176 (dk_at dksJ21_copyOf_4_1 8 rfl rfl)
abbrev cJ21_fill : ByteArray := prog_51_method_110_code
def yJ21_fill : MethodName := ⟨RJ21, "fill", "([BIIB)V"⟩
def dkwJ21_fill_1 : List UInt8 := [167, 255, 242, 177]
abbrev dktJ21_fill_1 : List UInt8 := dkwJ21_fill_1 ++ []
def dkwJ21_fill_0 : List UInt8 := [42, 190, 27, 28, 184, 0, 13, 27, 54, 4, 21, 4, 28, 162, 0, 14, 42, 21, 4, 29, 84, 132, 4, 1]
abbrev dktJ21_fill_0 : List UInt8 := dkwJ21_fill_0 ++ dktJ21_fill_1
theorem dksJ21_fill_0 : cJ21_fill.data.toList.drop 0 = dktJ21_fill_0 := by decide +kernel
theorem dksJ21_fill_1 : cJ21_fill.data.toList.drop 24 = dktJ21_fill_1 := dk_seg dksJ21_fill_0 24 rfl rfl
theorem dJ21_fill_0 : decode cJ21_fill 0 = .ok (.aload_n 0, 1) := dk_42 (dk_at dksJ21_fill_0 0 rfl rfl)
theorem dJ21_fill_1 : decode cJ21_fill 1 = .ok (.arraylength, 1) := dk_190 (dk_at dksJ21_fill_0 1 rfl rfl)
theorem dJ21_fill_2 : decode cJ21_fill 2 = .ok (.iload_n 1, 1) := dk_27 (dk_at dksJ21_fill_0 2 rfl rfl)
theorem dJ21_fill_3 : decode cJ21_fill 3 = .ok (.iload_n 2, 1) := dk_28 (dk_at dksJ21_fill_0 3 rfl rfl)
theorem dJ21_fill_4 : decode cJ21_fill 4 = .ok (.invokestatic 13, 3) := dk_184 0 13 (dk_at dksJ21_fill_0 4 rfl rfl)
theorem dJ21_fill_7 : decode cJ21_fill 7 = .ok (.iload_n 1, 1) := dk_27 (dk_at dksJ21_fill_0 7 rfl rfl)
theorem dJ21_fill_8 : decode cJ21_fill 8 = .ok (.istore 4, 2) := dk_54 4 (dk_at dksJ21_fill_0 8 rfl rfl)
theorem dJ21_fill_10 : decode cJ21_fill 10 = .ok (.iload 4, 2) := dk_21 4 (dk_at dksJ21_fill_0 10 rfl rfl)
theorem dJ21_fill_12 : decode cJ21_fill 12 = .ok (.iload_n 2, 1) := dk_28 (dk_at dksJ21_fill_0 12 rfl rfl)
theorem dJ21_fill_13 : decode cJ21_fill 13 = .ok (.if_icmp .ge 14, 3) := dk_162 0 14 (dk_at dksJ21_fill_0 13 rfl rfl)
theorem dJ21_fill_16 : decode cJ21_fill 16 = .ok (.aload_n 0, 1) := dk_42 (dk_at dksJ21_fill_0 16 rfl rfl)
theorem dJ21_fill_17 : decode cJ21_fill 17 = .ok (.iload 4, 2) := dk_21 4 (dk_at dksJ21_fill_0 17 rfl rfl)
theorem dJ21_fill_19 : decode cJ21_fill 19 = .ok (.iload_n 3, 1) := dk_29 (dk_at dksJ21_fill_0 19 rfl rfl)
theorem dJ21_fill_20 : decode cJ21_fill 20 = .ok (.bastore, 1) := dk_84 (dk_at dksJ21_fill_0 20 rfl rfl)
theorem dJ21_fill_21 : decode cJ21_fill 21 = .ok (.iinc 4 1, 3) := dk_132 4 1 (dk_at dksJ21_fill_0 21 rfl rfl)
theorem dJ21_fill_24 : decode cJ21_fill 24 = .ok (.goto (-14), 3) := dk_167 255 242 (dk_at dksJ21_fill_1 0 rfl rfl)
theorem dJ21_fill_27 : decode cJ21_fill 27 = .ok (.return_, 1) := dk_177 (dk_at dksJ21_fill_1 3 rfl rfl)
abbrev cJ21_rangeCheck : ByteArray := prog_51_method_30_code
def yJ21_rangeCheck : MethodName := ⟨RJ21, "rangeCheck", "(III)V"⟩
def dkwJ21_rangeCheck_3 : List UInt8 := [183, 0, 70, 191, 177]
abbrev dktJ21_rangeCheck_3 : List UInt8 := dkwJ21_rangeCheck_3 ++ []
def dkwJ21_rangeCheck_2 : List UInt8 := [27, 156, 0, 12, 187, 0, 68, 89, 27, 183, 0, 70, 191, 28, 26, 164, 0, 12, 187, 0, 68, 89, 28]
abbrev dktJ21_rangeCheck_2 : List UInt8 := dkwJ21_rangeCheck_2 ++ dktJ21_rangeCheck_3
def dkwJ21_rangeCheck_1 : List UInt8 := [182, 0, 54, 18, 57, 182, 0, 50, 28, 182, 0, 54, 18, 59, 182, 0, 50, 182, 0, 61, 183, 0, 65, 191]
abbrev dktJ21_rangeCheck_1 : List UInt8 := dkwJ21_rangeCheck_1 ++ dktJ21_rangeCheck_2
def dkwJ21_rangeCheck_0 : List UInt8 := [27, 28, 164, 0, 44, 187, 0, 43, 89, 187, 0, 45, 89, 183, 0, 47, 18, 48, 182, 0, 50, 27]
abbrev dktJ21_rangeCheck_0 : List UInt8 := dkwJ21_rangeCheck_0 ++ dktJ21_rangeCheck_1
theorem dksJ21_rangeCheck_0 : cJ21_rangeCheck.data.toList.drop 0 = dktJ21_rangeCheck_0 := by decide +kernel
theorem dksJ21_rangeCheck_1 : cJ21_rangeCheck.data.toList.drop 22 = dktJ21_rangeCheck_1 := dk_seg dksJ21_rangeCheck_0 22 rfl rfl
theorem dksJ21_rangeCheck_2 : cJ21_rangeCheck.data.toList.drop 46 = dktJ21_rangeCheck_2 := dk_seg dksJ21_rangeCheck_1 24 rfl rfl
theorem dksJ21_rangeCheck_3 : cJ21_rangeCheck.data.toList.drop 69 = dktJ21_rangeCheck_3 := dk_seg dksJ21_rangeCheck_2 23 rfl rfl
theorem dJ21_rangeCheck_0 : decode cJ21_rangeCheck 0 = .ok (.iload_n 1, 1) := dk_27 (dk_at dksJ21_rangeCheck_0 0 rfl rfl)
theorem dJ21_rangeCheck_1 : decode cJ21_rangeCheck 1 = .ok (.iload_n 2, 1) := dk_28 (dk_at dksJ21_rangeCheck_0 1 rfl rfl)
theorem dJ21_rangeCheck_2 : decode cJ21_rangeCheck 2 = .ok (.if_icmp .le 44, 3) := dk_164 0 44 (dk_at dksJ21_rangeCheck_0 2 rfl rfl)
theorem dJ21_rangeCheck_5 : decode cJ21_rangeCheck 5 = .ok (.new 43, 3) := dk_187 0 43 (dk_at dksJ21_rangeCheck_0 5 rfl rfl)
theorem dJ21_rangeCheck_8 : decode cJ21_rangeCheck 8 = .ok (.dup, 1) := dk_89 (dk_at dksJ21_rangeCheck_0 8 rfl rfl)
theorem dJ21_rangeCheck_9 : decode cJ21_rangeCheck 9 = .ok (.new 45, 3) := dk_187 0 45 (dk_at dksJ21_rangeCheck_0 9 rfl rfl)
theorem dJ21_rangeCheck_12 : decode cJ21_rangeCheck 12 = .ok (.dup, 1) := dk_89 (dk_at dksJ21_rangeCheck_0 12 rfl rfl)
theorem dJ21_rangeCheck_13 : decode cJ21_rangeCheck 13 = .ok (.invokespecial 47, 3) := dk_183 0 47 (dk_at dksJ21_rangeCheck_0 13 rfl rfl)
theorem dJ21_rangeCheck_16 : decode cJ21_rangeCheck 16 = .ok (.ldc 48, 2) := dk_18 48 (dk_at dksJ21_rangeCheck_0 16 rfl rfl)
theorem dJ21_rangeCheck_18 : decode cJ21_rangeCheck 18 = .ok (.invokevirtual 50, 3) := dk_182 0 50 (dk_at dksJ21_rangeCheck_0 18 rfl rfl)
theorem dJ21_rangeCheck_21 : decode cJ21_rangeCheck 21 = .ok (.iload_n 1, 1) := dk_27 (dk_at dksJ21_rangeCheck_0 21 rfl rfl)
theorem dJ21_rangeCheck_22 : decode cJ21_rangeCheck 22 = .ok (.invokevirtual 54, 3) := dk_182 0 54 (dk_at dksJ21_rangeCheck_1 0 rfl rfl)
theorem dJ21_rangeCheck_25 : decode cJ21_rangeCheck 25 = .ok (.ldc 57, 2) := dk_18 57 (dk_at dksJ21_rangeCheck_1 3 rfl rfl)
theorem dJ21_rangeCheck_27 : decode cJ21_rangeCheck 27 = .ok (.invokevirtual 50, 3) := dk_182 0 50 (dk_at dksJ21_rangeCheck_1 5 rfl rfl)
theorem dJ21_rangeCheck_30 : decode cJ21_rangeCheck 30 = .ok (.iload_n 2, 1) := dk_28 (dk_at dksJ21_rangeCheck_1 8 rfl rfl)
theorem dJ21_rangeCheck_31 : decode cJ21_rangeCheck 31 = .ok (.invokevirtual 54, 3) := dk_182 0 54 (dk_at dksJ21_rangeCheck_1 9 rfl rfl)
theorem dJ21_rangeCheck_34 : decode cJ21_rangeCheck 34 = .ok (.ldc 59, 2) := dk_18 59 (dk_at dksJ21_rangeCheck_1 12 rfl rfl)
theorem dJ21_rangeCheck_36 : decode cJ21_rangeCheck 36 = .ok (.invokevirtual 50, 3) := dk_182 0 50 (dk_at dksJ21_rangeCheck_1 14 rfl rfl)
theorem dJ21_rangeCheck_39 : decode cJ21_rangeCheck 39 = .ok (.invokevirtual 61, 3) := dk_182 0 61 (dk_at dksJ21_rangeCheck_1 17 rfl rfl)
theorem dJ21_rangeCheck_42 : decode cJ21_rangeCheck 42 = .ok (.invokespecial 65, 3) := dk_183 0 65 (dk_at dksJ21_rangeCheck_1 20 rfl rfl)
theorem dJ21_rangeCheck_45 : decode cJ21_rangeCheck 45 = .ok (.athrow, 1) := dk_191 (dk_at dksJ21_rangeCheck_1 23 rfl rfl)
theorem dJ21_rangeCheck_46 : decode cJ21_rangeCheck 46 = .ok (.iload_n 1, 1) := dk_27 (dk_at dksJ21_rangeCheck_2 0 rfl rfl)
theorem dJ21_rangeCheck_47 : decode cJ21_rangeCheck 47 = .ok (.ifCond .ge 12, 3) := dk_156 0 12 (dk_at dksJ21_rangeCheck_2 1 rfl rfl)
theorem dJ21_rangeCheck_50 : decode cJ21_rangeCheck 50 = .ok (.new 68, 3) := dk_187 0 68 (dk_at dksJ21_rangeCheck_2 4 rfl rfl)
theorem dJ21_rangeCheck_53 : decode cJ21_rangeCheck 53 = .ok (.dup, 1) := dk_89 (dk_at dksJ21_rangeCheck_2 7 rfl rfl)
theorem dJ21_rangeCheck_54 : decode cJ21_rangeCheck 54 = .ok (.iload_n 1, 1) := dk_27 (dk_at dksJ21_rangeCheck_2 8 rfl rfl)
theorem dJ21_rangeCheck_55 : decode cJ21_rangeCheck 55 = .ok (.invokespecial 70, 3) := dk_183 0 70 (dk_at dksJ21_rangeCheck_2 9 rfl rfl)
theorem dJ21_rangeCheck_58 : decode cJ21_rangeCheck 58 = .ok (.athrow, 1) := dk_191 (dk_at dksJ21_rangeCheck_2 12 rfl rfl)
theorem dJ21_rangeCheck_59 : decode cJ21_rangeCheck 59 = .ok (.iload_n 2, 1) := dk_28 (dk_at dksJ21_rangeCheck_2 13 rfl rfl)
theorem dJ21_rangeCheck_60 : decode cJ21_rangeCheck 60 = .ok (.iload_n 0, 1) := dk_26 (dk_at dksJ21_rangeCheck_2 14 rfl rfl)
theorem dJ21_rangeCheck_61 : decode cJ21_rangeCheck 61 = .ok (.if_icmp .le 12, 3) := dk_164 0 12 (dk_at dksJ21_rangeCheck_2 15 rfl rfl)
theorem dJ21_rangeCheck_64 : decode cJ21_rangeCheck 64 = .ok (.new 68, 3) := dk_187 0 68 (dk_at dksJ21_rangeCheck_2 18 rfl rfl)
theorem dJ21_rangeCheck_67 : decode cJ21_rangeCheck 67 = .ok (.dup, 1) := dk_89 (dk_at dksJ21_rangeCheck_2 21 rfl rfl)
theorem dJ21_rangeCheck_68 : decode cJ21_rangeCheck 68 = .ok (.iload_n 2, 1) := dk_28 (dk_at dksJ21_rangeCheck_2 22 rfl rfl)
theorem dJ21_rangeCheck_69 : decode cJ21_rangeCheck 69 = .ok (.invokespecial 70, 3) := dk_183 0 70 (dk_at dksJ21_rangeCheck_3 0 rfl rfl)
theorem dJ21_rangeCheck_72 : decode cJ21_rangeCheck 72 = .ok (.athrow, 1) := dk_191 (dk_at dksJ21_rangeCheck_3 3 rfl rfl)
theorem dJ21_rangeCheck_73 : decode cJ21_rangeCheck 73 = .ok (.return_, 1) := dk_177 (dk_at dksJ21_rangeCheck_3 4 rfl rfl)
abbrev cJ34_listFromTrustedArray : ByteArray := prog_56_method_5_code
def yJ34_listFromTrustedArray : MethodName := ⟨RJ34, "listFromTrustedArray", "([Ljava/lang/Object;)Ljava/util/List;"⟩
def dkwJ34_listFromTrustedArray_5 : List UInt8 := [3, 50, 42, 4, 50, 183, 0, 67, 167, 0, 12, 187, 0, 12, 89, 42, 3, 183, 0, 43, 176]
abbrev dktJ34_listFromTrustedArray_5 : List UInt8 := dkwJ34_listFromTrustedArray_5 ++ []
def dkwJ34_listFromTrustedArray_4 : List UInt8 := [178, 0, 60, 167, 0, 41, 187, 0, 10, 89, 42, 3, 50, 183, 0, 64, 167, 0, 28, 187, 0, 10, 89, 42]
abbrev dktJ34_listFromTrustedArray_4 : List UInt8 := dkwJ34_listFromTrustedArray_4 ++ dktJ34_listFromTrustedArray_5
def dkwJ34_listFromTrustedArray_3 : List UInt8 := [170, 0, 0, 0, 0, 61, 0, 0, 0, 0, 0, 0, 0, 2, 0, 0, 0, 26, 0, 0, 0, 32, 0, 0, 0, 45]
abbrev dktJ34_listFromTrustedArray_3 : List UInt8 := dkwJ34_listFromTrustedArray_3 ++ dktJ34_listFromTrustedArray_4
def dkwJ34_listFromTrustedArray_2 : List UInt8 := [132, 3, 1, 167, 255, 237, 42, 190]
abbrev dktJ34_listFromTrustedArray_2 : List UInt8 := dkwJ34_listFromTrustedArray_2 ++ dktJ34_listFromTrustedArray_3
def dkwJ34_listFromTrustedArray_1 : List UInt8 := [76, 43, 190, 61, 3, 62, 29, 28, 162, 0, 20, 43, 29, 50, 58, 4, 25, 4, 184, 0, 37, 87]
abbrev dktJ34_listFromTrustedArray_1 : List UInt8 := dkwJ34_listFromTrustedArray_1 ++ dktJ34_listFromTrustedArray_2
def dkwJ34_listFromTrustedArray_0 : List UInt8 := [178, 0, 46, 154, 0, 20, 42, 182, 0, 51, 18, 55, 165, 0, 11, 187, 0, 57, 89, 183, 0, 59, 191, 42]
abbrev dktJ34_listFromTrustedArray_0 : List UInt8 := dkwJ34_listFromTrustedArray_0 ++ dktJ34_listFromTrustedArray_1
theorem dksJ34_listFromTrustedArray_0 : cJ34_listFromTrustedArray.data.toList.drop 0 = dktJ34_listFromTrustedArray_0 := by decide +kernel
theorem dksJ34_listFromTrustedArray_1 : cJ34_listFromTrustedArray.data.toList.drop 24 = dktJ34_listFromTrustedArray_1 := dk_seg dksJ34_listFromTrustedArray_0 24 rfl rfl
theorem dksJ34_listFromTrustedArray_2 : cJ34_listFromTrustedArray.data.toList.drop 46 = dktJ34_listFromTrustedArray_2 := dk_seg dksJ34_listFromTrustedArray_1 22 rfl rfl
theorem dksJ34_listFromTrustedArray_3 : cJ34_listFromTrustedArray.data.toList.drop 54 = dktJ34_listFromTrustedArray_3 := dk_seg dksJ34_listFromTrustedArray_2 8 rfl rfl
theorem dksJ34_listFromTrustedArray_4 : cJ34_listFromTrustedArray.data.toList.drop 80 = dktJ34_listFromTrustedArray_4 := dk_seg dksJ34_listFromTrustedArray_3 26 rfl rfl
theorem dksJ34_listFromTrustedArray_5 : cJ34_listFromTrustedArray.data.toList.drop 104 = dktJ34_listFromTrustedArray_5 := dk_seg dksJ34_listFromTrustedArray_4 24 rfl rfl
theorem dJ34_listFromTrustedArray_0 : decode cJ34_listFromTrustedArray 0 = .ok (.getstatic 46, 3) := dk_178 0 46 (dk_at dksJ34_listFromTrustedArray_0 0 rfl rfl)
theorem dJ34_listFromTrustedArray_3 : decode cJ34_listFromTrustedArray 3 = .ok (.ifCond .ne 20, 3) := dk_154 0 20 (dk_at dksJ34_listFromTrustedArray_0 3 rfl rfl)
theorem dJ34_listFromTrustedArray_6 : decode cJ34_listFromTrustedArray 6 = .ok (.aload_n 0, 1) := dk_42 (dk_at dksJ34_listFromTrustedArray_0 6 rfl rfl)
theorem dJ34_listFromTrustedArray_7 : decode cJ34_listFromTrustedArray 7 = .ok (.invokevirtual 51, 3) := dk_182 0 51 (dk_at dksJ34_listFromTrustedArray_0 7 rfl rfl)
theorem dJ34_listFromTrustedArray_10 : decode cJ34_listFromTrustedArray 10 = .ok (.ldc 55, 2) := dk_18 55 (dk_at dksJ34_listFromTrustedArray_0 10 rfl rfl)
theorem dJ34_listFromTrustedArray_12 : decode cJ34_listFromTrustedArray 12 = .ok (.if_acmp .eq 11, 3) := dk_165 0 11 (dk_at dksJ34_listFromTrustedArray_0 12 rfl rfl)
theorem dJ34_listFromTrustedArray_15 : decode cJ34_listFromTrustedArray 15 = .ok (.new 57, 3) := dk_187 0 57 (dk_at dksJ34_listFromTrustedArray_0 15 rfl rfl)
theorem dJ34_listFromTrustedArray_18 : decode cJ34_listFromTrustedArray 18 = .ok (.dup, 1) := dk_89 (dk_at dksJ34_listFromTrustedArray_0 18 rfl rfl)
theorem dJ34_listFromTrustedArray_19 : decode cJ34_listFromTrustedArray 19 = .ok (.invokespecial 59, 3) := dk_183 0 59 (dk_at dksJ34_listFromTrustedArray_0 19 rfl rfl)
theorem dJ34_listFromTrustedArray_22 : decode cJ34_listFromTrustedArray 22 = .ok (.athrow, 1) := dk_191 (dk_at dksJ34_listFromTrustedArray_0 22 rfl rfl)
theorem dJ34_listFromTrustedArray_23 : decode cJ34_listFromTrustedArray 23 = .ok (.aload_n 0, 1) := dk_42 (dk_at dksJ34_listFromTrustedArray_0 23 rfl rfl)
theorem dJ34_listFromTrustedArray_24 : decode cJ34_listFromTrustedArray 24 = .ok (.astore_n 1, 1) := dk_76 (dk_at dksJ34_listFromTrustedArray_1 0 rfl rfl)
theorem dJ34_listFromTrustedArray_25 : decode cJ34_listFromTrustedArray 25 = .ok (.aload_n 1, 1) := dk_43 (dk_at dksJ34_listFromTrustedArray_1 1 rfl rfl)
theorem dJ34_listFromTrustedArray_26 : decode cJ34_listFromTrustedArray 26 = .ok (.arraylength, 1) := dk_190 (dk_at dksJ34_listFromTrustedArray_1 2 rfl rfl)
theorem dJ34_listFromTrustedArray_27 : decode cJ34_listFromTrustedArray 27 = .ok (.istore_n 2, 1) := dk_61 (dk_at dksJ34_listFromTrustedArray_1 3 rfl rfl)
theorem dJ34_listFromTrustedArray_28 : decode cJ34_listFromTrustedArray 28 = .ok (.iconst 0, 1) := dk_3 (dk_at dksJ34_listFromTrustedArray_1 4 rfl rfl)
theorem dJ34_listFromTrustedArray_29 : decode cJ34_listFromTrustedArray 29 = .ok (.istore_n 3, 1) := dk_62 (dk_at dksJ34_listFromTrustedArray_1 5 rfl rfl)
theorem dJ34_listFromTrustedArray_30 : decode cJ34_listFromTrustedArray 30 = .ok (.iload_n 3, 1) := dk_29 (dk_at dksJ34_listFromTrustedArray_1 6 rfl rfl)
theorem dJ34_listFromTrustedArray_31 : decode cJ34_listFromTrustedArray 31 = .ok (.iload_n 2, 1) := dk_28 (dk_at dksJ34_listFromTrustedArray_1 7 rfl rfl)
theorem dJ34_listFromTrustedArray_32 : decode cJ34_listFromTrustedArray 32 = .ok (.if_icmp .ge 20, 3) := dk_162 0 20 (dk_at dksJ34_listFromTrustedArray_1 8 rfl rfl)
theorem dJ34_listFromTrustedArray_35 : decode cJ34_listFromTrustedArray 35 = .ok (.aload_n 1, 1) := dk_43 (dk_at dksJ34_listFromTrustedArray_1 11 rfl rfl)
theorem dJ34_listFromTrustedArray_36 : decode cJ34_listFromTrustedArray 36 = .ok (.iload_n 3, 1) := dk_29 (dk_at dksJ34_listFromTrustedArray_1 12 rfl rfl)
theorem dJ34_listFromTrustedArray_37 : decode cJ34_listFromTrustedArray 37 = .ok (.aaload, 1) := dk_50 (dk_at dksJ34_listFromTrustedArray_1 13 rfl rfl)
theorem dJ34_listFromTrustedArray_38 : decode cJ34_listFromTrustedArray 38 = .ok (.astore 4, 2) := dk_58 4 (dk_at dksJ34_listFromTrustedArray_1 14 rfl rfl)
theorem dJ34_listFromTrustedArray_40 : decode cJ34_listFromTrustedArray 40 = .ok (.aload 4, 2) := dk_25 4 (dk_at dksJ34_listFromTrustedArray_1 16 rfl rfl)
theorem dJ34_listFromTrustedArray_42 : decode cJ34_listFromTrustedArray 42 = .ok (.invokestatic 37, 3) := dk_184 0 37 (dk_at dksJ34_listFromTrustedArray_1 18 rfl rfl)
theorem dJ34_listFromTrustedArray_45 : decode cJ34_listFromTrustedArray 45 = .ok (.pop, 1) := dk_87 (dk_at dksJ34_listFromTrustedArray_1 21 rfl rfl)
theorem dJ34_listFromTrustedArray_46 : decode cJ34_listFromTrustedArray 46 = .ok (.iinc 3 1, 3) := dk_132 3 1 (dk_at dksJ34_listFromTrustedArray_2 0 rfl rfl)
theorem dJ34_listFromTrustedArray_49 : decode cJ34_listFromTrustedArray 49 = .ok (.goto (-19), 3) := dk_167 255 237 (dk_at dksJ34_listFromTrustedArray_2 3 rfl rfl)
theorem dJ34_listFromTrustedArray_52 : decode cJ34_listFromTrustedArray 52 = .ok (.aload_n 0, 1) := dk_42 (dk_at dksJ34_listFromTrustedArray_2 6 rfl rfl)
theorem dJ34_listFromTrustedArray_53 : decode cJ34_listFromTrustedArray 53 = .ok (.arraylength, 1) := dk_190 (dk_at dksJ34_listFromTrustedArray_2 7 rfl rfl)
theorem dJ34_listFromTrustedArray_54 : decode cJ34_listFromTrustedArray 54 = .ok (.tableswitch 61 0 2 #[26, 32, 45], 26) := by decide +kernel
theorem dJ34_listFromTrustedArray_80 : decode cJ34_listFromTrustedArray 80 = .ok (.getstatic 60, 3) := dk_178 0 60 (dk_at dksJ34_listFromTrustedArray_4 0 rfl rfl)
theorem dJ34_listFromTrustedArray_83 : decode cJ34_listFromTrustedArray 83 = .ok (.goto 41, 3) := dk_167 0 41 (dk_at dksJ34_listFromTrustedArray_4 3 rfl rfl)
theorem dJ34_listFromTrustedArray_86 : decode cJ34_listFromTrustedArray 86 = .ok (.new 10, 3) := dk_187 0 10 (dk_at dksJ34_listFromTrustedArray_4 6 rfl rfl)
theorem dJ34_listFromTrustedArray_89 : decode cJ34_listFromTrustedArray 89 = .ok (.dup, 1) := dk_89 (dk_at dksJ34_listFromTrustedArray_4 9 rfl rfl)
theorem dJ34_listFromTrustedArray_90 : decode cJ34_listFromTrustedArray 90 = .ok (.aload_n 0, 1) := dk_42 (dk_at dksJ34_listFromTrustedArray_4 10 rfl rfl)
theorem dJ34_listFromTrustedArray_91 : decode cJ34_listFromTrustedArray 91 = .ok (.iconst 0, 1) := dk_3 (dk_at dksJ34_listFromTrustedArray_4 11 rfl rfl)
theorem dJ34_listFromTrustedArray_92 : decode cJ34_listFromTrustedArray 92 = .ok (.aaload, 1) := dk_50 (dk_at dksJ34_listFromTrustedArray_4 12 rfl rfl)
theorem dJ34_listFromTrustedArray_93 : decode cJ34_listFromTrustedArray 93 = .ok (.invokespecial 64, 3) := dk_183 0 64 (dk_at dksJ34_listFromTrustedArray_4 13 rfl rfl)
theorem dJ34_listFromTrustedArray_96 : decode cJ34_listFromTrustedArray 96 = .ok (.goto 28, 3) := dk_167 0 28 (dk_at dksJ34_listFromTrustedArray_4 16 rfl rfl)
theorem dJ34_listFromTrustedArray_99 : decode cJ34_listFromTrustedArray 99 = .ok (.new 10, 3) := dk_187 0 10 (dk_at dksJ34_listFromTrustedArray_4 19 rfl rfl)
theorem dJ34_listFromTrustedArray_102 : decode cJ34_listFromTrustedArray 102 = .ok (.dup, 1) := dk_89 (dk_at dksJ34_listFromTrustedArray_4 22 rfl rfl)
theorem dJ34_listFromTrustedArray_103 : decode cJ34_listFromTrustedArray 103 = .ok (.aload_n 0, 1) := dk_42 (dk_at dksJ34_listFromTrustedArray_4 23 rfl rfl)
theorem dJ34_listFromTrustedArray_104 : decode cJ34_listFromTrustedArray 104 = .ok (.iconst 0, 1) := dk_3 (dk_at dksJ34_listFromTrustedArray_5 0 rfl rfl)
theorem dJ34_listFromTrustedArray_105 : decode cJ34_listFromTrustedArray 105 = .ok (.aaload, 1) := dk_50 (dk_at dksJ34_listFromTrustedArray_5 1 rfl rfl)
theorem dJ34_listFromTrustedArray_106 : decode cJ34_listFromTrustedArray 106 = .ok (.aload_n 0, 1) := dk_42 (dk_at dksJ34_listFromTrustedArray_5 2 rfl rfl)
theorem dJ34_listFromTrustedArray_107 : decode cJ34_listFromTrustedArray 107 = .ok (.iconst 1, 1) := dk_4 (dk_at dksJ34_listFromTrustedArray_5 3 rfl rfl)
theorem dJ34_listFromTrustedArray_108 : decode cJ34_listFromTrustedArray 108 = .ok (.aaload, 1) := dk_50 (dk_at dksJ34_listFromTrustedArray_5 4 rfl rfl)
theorem dJ34_listFromTrustedArray_109 : decode cJ34_listFromTrustedArray 109 = .ok (.invokespecial 67, 3) := dk_183 0 67 (dk_at dksJ34_listFromTrustedArray_5 5 rfl rfl)
theorem dJ34_listFromTrustedArray_112 : decode cJ34_listFromTrustedArray 112 = .ok (.goto 12, 3) := dk_167 0 12 (dk_at dksJ34_listFromTrustedArray_5 8 rfl rfl)
theorem dJ34_listFromTrustedArray_115 : decode cJ34_listFromTrustedArray 115 = .ok (.new 12, 3) := dk_187 0 12 (dk_at dksJ34_listFromTrustedArray_5 11 rfl rfl)
theorem dJ34_listFromTrustedArray_118 : decode cJ34_listFromTrustedArray 118 = .ok (.dup, 1) := dk_89 (dk_at dksJ34_listFromTrustedArray_5 14 rfl rfl)
theorem dJ34_listFromTrustedArray_119 : decode cJ34_listFromTrustedArray 119 = .ok (.aload_n 0, 1) := dk_42 (dk_at dksJ34_listFromTrustedArray_5 15 rfl rfl)
theorem dJ34_listFromTrustedArray_120 : decode cJ34_listFromTrustedArray 120 = .ok (.iconst 0, 1) := dk_3 (dk_at dksJ34_listFromTrustedArray_5 16 rfl rfl)
theorem dJ34_listFromTrustedArray_121 : decode cJ34_listFromTrustedArray 121 = .ok (.invokespecial 43, 3) := dk_183 0 43 (dk_at dksJ34_listFromTrustedArray_5 17 rfl rfl)
theorem dJ34_listFromTrustedArray_124 : decode cJ34_listFromTrustedArray 124 = .ok (.areturn, 1) := dk_176 (dk_at dksJ34_listFromTrustedArray_5 20 rfl rfl)
abbrev cJ35_numberOfTrailingZeros : ByteArray := prog_27_method_49_code
def yJ35_numberOfTrailingZeros : MethodName := ⟨RJ35, "numberOfTrailingZeros", "(J)I"⟩
def dkwJ35_numberOfTrailingZeros_1 : List UInt8 := [184, 1, 55, 172]
abbrev dktJ35_numberOfTrailingZeros_1 : List UInt8 := dkwJ35_numberOfTrailingZeros_1 ++ []
def dkwJ35_numberOfTrailingZeros_0 : List UInt8 := [30, 136, 61, 28, 154, 0, 17, 16, 32, 30, 16, 32, 125, 136, 184, 1, 55, 96, 167, 0, 7, 28]
abbrev dktJ35_numberOfTrailingZeros_0 : List UInt8 := dkwJ35_numberOfTrailingZeros_0 ++ dktJ35_numberOfTrailingZeros_1
theorem dksJ35_numberOfTrailingZeros_0 : cJ35_numberOfTrailingZeros.data.toList.drop 0 = dktJ35_numberOfTrailingZeros_0 := by decide +kernel
theorem dksJ35_numberOfTrailingZeros_1 : cJ35_numberOfTrailingZeros.data.toList.drop 22 = dktJ35_numberOfTrailingZeros_1 := dk_seg dksJ35_numberOfTrailingZeros_0 22 rfl rfl
theorem dJ35_numberOfTrailingZeros_0 : decode cJ35_numberOfTrailingZeros 0 = .ok (.lload_n 0, 1) := dk_30 (dk_at dksJ35_numberOfTrailingZeros_0 0 rfl rfl)
theorem dJ35_numberOfTrailingZeros_1 : decode cJ35_numberOfTrailingZeros 1 = .ok (.l2i, 1) := dk_136 (dk_at dksJ35_numberOfTrailingZeros_0 1 rfl rfl)
theorem dJ35_numberOfTrailingZeros_2 : decode cJ35_numberOfTrailingZeros 2 = .ok (.istore_n 2, 1) := dk_61 (dk_at dksJ35_numberOfTrailingZeros_0 2 rfl rfl)
theorem dJ35_numberOfTrailingZeros_3 : decode cJ35_numberOfTrailingZeros 3 = .ok (.iload_n 2, 1) := dk_28 (dk_at dksJ35_numberOfTrailingZeros_0 3 rfl rfl)
theorem dJ35_numberOfTrailingZeros_4 : decode cJ35_numberOfTrailingZeros 4 = .ok (.ifCond .ne 17, 3) := dk_154 0 17 (dk_at dksJ35_numberOfTrailingZeros_0 4 rfl rfl)
theorem dJ35_numberOfTrailingZeros_7 : decode cJ35_numberOfTrailingZeros 7 = .ok (.bipush 32, 2) := dk_16 32 (dk_at dksJ35_numberOfTrailingZeros_0 7 rfl rfl)
theorem dJ35_numberOfTrailingZeros_9 : decode cJ35_numberOfTrailingZeros 9 = .ok (.lload_n 0, 1) := dk_30 (dk_at dksJ35_numberOfTrailingZeros_0 9 rfl rfl)
theorem dJ35_numberOfTrailingZeros_10 : decode cJ35_numberOfTrailingZeros 10 = .ok (.bipush 32, 2) := dk_16 32 (dk_at dksJ35_numberOfTrailingZeros_0 10 rfl rfl)
theorem dJ35_numberOfTrailingZeros_12 : decode cJ35_numberOfTrailingZeros 12 = .ok (.lushr, 1) := dk_125 (dk_at dksJ35_numberOfTrailingZeros_0 12 rfl rfl)
theorem dJ35_numberOfTrailingZeros_13 : decode cJ35_numberOfTrailingZeros 13 = .ok (.l2i, 1) := dk_136 (dk_at dksJ35_numberOfTrailingZeros_0 13 rfl rfl)
theorem dJ35_numberOfTrailingZeros_14 : decode cJ35_numberOfTrailingZeros 14 = .ok (.invokestatic 311, 3) := dk_184 1 55 (dk_at dksJ35_numberOfTrailingZeros_0 14 rfl rfl)
theorem dJ35_numberOfTrailingZeros_17 : decode cJ35_numberOfTrailingZeros 17 = .ok (.iadd, 1) := dk_96 (dk_at dksJ35_numberOfTrailingZeros_0 17 rfl rfl)
theorem dJ35_numberOfTrailingZeros_18 : decode cJ35_numberOfTrailingZeros 18 = .ok (.goto 7, 3) := dk_167 0 7 (dk_at dksJ35_numberOfTrailingZeros_0 18 rfl rfl)
theorem dJ35_numberOfTrailingZeros_21 : decode cJ35_numberOfTrailingZeros 21 = .ok (.iload_n 2, 1) := dk_28 (dk_at dksJ35_numberOfTrailingZeros_0 21 rfl rfl)
theorem dJ35_numberOfTrailingZeros_22 : decode cJ35_numberOfTrailingZeros 22 = .ok (.invokestatic 311, 3) := dk_184 1 55 (dk_at dksJ35_numberOfTrailingZeros_1 0 rfl rfl)
theorem dJ35_numberOfTrailingZeros_25 : decode cJ35_numberOfTrailingZeros 25 = .ok (.ireturn, 1) := dk_172 (dk_at dksJ35_numberOfTrailingZeros_1 3 rfl rfl)
abbrev cJ35_bitCount : ByteArray := prog_27_method_50_code
def yJ35_bitCount : MethodName := ⟨RJ35, "bitCount", "(J)I"⟩
def dkwJ35_bitCount_2 : List UInt8 := [30, 30, 16, 32, 125, 97, 63, 30, 136, 16, 127, 126, 172]
abbrev dktJ35_bitCount_2 : List UInt8 := dkwJ35_bitCount_2 ++ []
def dkwJ35_bitCount_1 : List UInt8 := [30, 30, 7, 125, 97, 20, 1, 62, 127, 63, 30, 30, 16, 8, 125, 97, 63, 30, 30, 16, 16, 125, 97, 63]
abbrev dktJ35_bitCount_1 : List UInt8 := dkwJ35_bitCount_1 ++ dktJ35_bitCount_2
def dkwJ35_bitCount_0 : List UInt8 := [30, 30, 4, 125, 20, 1, 58, 127, 101, 63, 30, 20, 1, 60, 127, 30, 5, 125, 20, 1, 60, 127, 97, 63]
abbrev dktJ35_bitCount_0 : List UInt8 := dkwJ35_bitCount_0 ++ dktJ35_bitCount_1
theorem dksJ35_bitCount_0 : cJ35_bitCount.data.toList.drop 0 = dktJ35_bitCount_0 := by decide +kernel
theorem dksJ35_bitCount_1 : cJ35_bitCount.data.toList.drop 24 = dktJ35_bitCount_1 := dk_seg dksJ35_bitCount_0 24 rfl rfl
theorem dksJ35_bitCount_2 : cJ35_bitCount.data.toList.drop 48 = dktJ35_bitCount_2 := dk_seg dksJ35_bitCount_1 24 rfl rfl
theorem dJ35_bitCount_0 : decode cJ35_bitCount 0 = .ok (.lload_n 0, 1) := dk_30 (dk_at dksJ35_bitCount_0 0 rfl rfl)
theorem dJ35_bitCount_1 : decode cJ35_bitCount 1 = .ok (.lload_n 0, 1) := dk_30 (dk_at dksJ35_bitCount_0 1 rfl rfl)
theorem dJ35_bitCount_2 : decode cJ35_bitCount 2 = .ok (.iconst 1, 1) := dk_4 (dk_at dksJ35_bitCount_0 2 rfl rfl)
theorem dJ35_bitCount_3 : decode cJ35_bitCount 3 = .ok (.lushr, 1) := dk_125 (dk_at dksJ35_bitCount_0 3 rfl rfl)
theorem dJ35_bitCount_4 : decode cJ35_bitCount 4 = .ok (.ldc2_w 314, 3) := dk_20 1 58 (dk_at dksJ35_bitCount_0 4 rfl rfl)
theorem dJ35_bitCount_7 : decode cJ35_bitCount 7 = .ok (.land, 1) := dk_127 (dk_at dksJ35_bitCount_0 7 rfl rfl)
theorem dJ35_bitCount_8 : decode cJ35_bitCount 8 = .ok (.lsub, 1) := dk_101 (dk_at dksJ35_bitCount_0 8 rfl rfl)
theorem dJ35_bitCount_9 : decode cJ35_bitCount 9 = .ok (.lstore_n 0, 1) := dk_63 (dk_at dksJ35_bitCount_0 9 rfl rfl)
theorem dJ35_bitCount_10 : decode cJ35_bitCount 10 = .ok (.lload_n 0, 1) := dk_30 (dk_at dksJ35_bitCount_0 10 rfl rfl)
theorem dJ35_bitCount_11 : decode cJ35_bitCount 11 = .ok (.ldc2_w 316, 3) := dk_20 1 60 (dk_at dksJ35_bitCount_0 11 rfl rfl)
theorem dJ35_bitCount_14 : decode cJ35_bitCount 14 = .ok (.land, 1) := dk_127 (dk_at dksJ35_bitCount_0 14 rfl rfl)
theorem dJ35_bitCount_15 : decode cJ35_bitCount 15 = .ok (.lload_n 0, 1) := dk_30 (dk_at dksJ35_bitCount_0 15 rfl rfl)
theorem dJ35_bitCount_16 : decode cJ35_bitCount 16 = .ok (.iconst 2, 1) := dk_5 (dk_at dksJ35_bitCount_0 16 rfl rfl)
theorem dJ35_bitCount_17 : decode cJ35_bitCount 17 = .ok (.lushr, 1) := dk_125 (dk_at dksJ35_bitCount_0 17 rfl rfl)
theorem dJ35_bitCount_18 : decode cJ35_bitCount 18 = .ok (.ldc2_w 316, 3) := dk_20 1 60 (dk_at dksJ35_bitCount_0 18 rfl rfl)
theorem dJ35_bitCount_21 : decode cJ35_bitCount 21 = .ok (.land, 1) := dk_127 (dk_at dksJ35_bitCount_0 21 rfl rfl)
theorem dJ35_bitCount_22 : decode cJ35_bitCount 22 = .ok (.ladd, 1) := dk_97 (dk_at dksJ35_bitCount_0 22 rfl rfl)
theorem dJ35_bitCount_23 : decode cJ35_bitCount 23 = .ok (.lstore_n 0, 1) := dk_63 (dk_at dksJ35_bitCount_0 23 rfl rfl)
theorem dJ35_bitCount_24 : decode cJ35_bitCount 24 = .ok (.lload_n 0, 1) := dk_30 (dk_at dksJ35_bitCount_1 0 rfl rfl)
theorem dJ35_bitCount_25 : decode cJ35_bitCount 25 = .ok (.lload_n 0, 1) := dk_30 (dk_at dksJ35_bitCount_1 1 rfl rfl)
theorem dJ35_bitCount_26 : decode cJ35_bitCount 26 = .ok (.iconst 4, 1) := dk_7 (dk_at dksJ35_bitCount_1 2 rfl rfl)
theorem dJ35_bitCount_27 : decode cJ35_bitCount 27 = .ok (.lushr, 1) := dk_125 (dk_at dksJ35_bitCount_1 3 rfl rfl)
theorem dJ35_bitCount_28 : decode cJ35_bitCount 28 = .ok (.ladd, 1) := dk_97 (dk_at dksJ35_bitCount_1 4 rfl rfl)
theorem dJ35_bitCount_29 : decode cJ35_bitCount 29 = .ok (.ldc2_w 318, 3) := dk_20 1 62 (dk_at dksJ35_bitCount_1 5 rfl rfl)
theorem dJ35_bitCount_32 : decode cJ35_bitCount 32 = .ok (.land, 1) := dk_127 (dk_at dksJ35_bitCount_1 8 rfl rfl)
theorem dJ35_bitCount_33 : decode cJ35_bitCount 33 = .ok (.lstore_n 0, 1) := dk_63 (dk_at dksJ35_bitCount_1 9 rfl rfl)
theorem dJ35_bitCount_34 : decode cJ35_bitCount 34 = .ok (.lload_n 0, 1) := dk_30 (dk_at dksJ35_bitCount_1 10 rfl rfl)
theorem dJ35_bitCount_35 : decode cJ35_bitCount 35 = .ok (.lload_n 0, 1) := dk_30 (dk_at dksJ35_bitCount_1 11 rfl rfl)
theorem dJ35_bitCount_36 : decode cJ35_bitCount 36 = .ok (.bipush 8, 2) := dk_16 8 (dk_at dksJ35_bitCount_1 12 rfl rfl)
theorem dJ35_bitCount_38 : decode cJ35_bitCount 38 = .ok (.lushr, 1) := dk_125 (dk_at dksJ35_bitCount_1 14 rfl rfl)
theorem dJ35_bitCount_39 : decode cJ35_bitCount 39 = .ok (.ladd, 1) := dk_97 (dk_at dksJ35_bitCount_1 15 rfl rfl)
theorem dJ35_bitCount_40 : decode cJ35_bitCount 40 = .ok (.lstore_n 0, 1) := dk_63 (dk_at dksJ35_bitCount_1 16 rfl rfl)
theorem dJ35_bitCount_41 : decode cJ35_bitCount 41 = .ok (.lload_n 0, 1) := dk_30 (dk_at dksJ35_bitCount_1 17 rfl rfl)
theorem dJ35_bitCount_42 : decode cJ35_bitCount 42 = .ok (.lload_n 0, 1) := dk_30 (dk_at dksJ35_bitCount_1 18 rfl rfl)
theorem dJ35_bitCount_43 : decode cJ35_bitCount 43 = .ok (.bipush 16, 2) := dk_16 16 (dk_at dksJ35_bitCount_1 19 rfl rfl)
theorem dJ35_bitCount_45 : decode cJ35_bitCount 45 = .ok (.lushr, 1) := dk_125 (dk_at dksJ35_bitCount_1 21 rfl rfl)
theorem dJ35_bitCount_46 : decode cJ35_bitCount 46 = .ok (.ladd, 1) := dk_97 (dk_at dksJ35_bitCount_1 22 rfl rfl)
theorem dJ35_bitCount_47 : decode cJ35_bitCount 47 = .ok (.lstore_n 0, 1) := dk_63 (dk_at dksJ35_bitCount_1 23 rfl rfl)
theorem dJ35_bitCount_48 : decode cJ35_bitCount 48 = .ok (.lload_n 0, 1) := dk_30 (dk_at dksJ35_bitCount_2 0 rfl rfl)
theorem dJ35_bitCount_49 : decode cJ35_bitCount 49 = .ok (.lload_n 0, 1) := dk_30 (dk_at dksJ35_bitCount_2 1 rfl rfl)
theorem dJ35_bitCount_50 : decode cJ35_bitCount 50 = .ok (.bipush 32, 2) := dk_16 32 (dk_at dksJ35_bitCount_2 2 rfl rfl)
theorem dJ35_bitCount_52 : decode cJ35_bitCount 52 = .ok (.lushr, 1) := dk_125 (dk_at dksJ35_bitCount_2 4 rfl rfl)
theorem dJ35_bitCount_53 : decode cJ35_bitCount 53 = .ok (.ladd, 1) := dk_97 (dk_at dksJ35_bitCount_2 5 rfl rfl)
theorem dJ35_bitCount_54 : decode cJ35_bitCount 54 = .ok (.lstore_n 0, 1) := dk_63 (dk_at dksJ35_bitCount_2 6 rfl rfl)
theorem dJ35_bitCount_55 : decode cJ35_bitCount 55 = .ok (.lload_n 0, 1) := dk_30 (dk_at dksJ35_bitCount_2 7 rfl rfl)
theorem dJ35_bitCount_56 : decode cJ35_bitCount 56 = .ok (.l2i, 1) := dk_136 (dk_at dksJ35_bitCount_2 8 rfl rfl)
theorem dJ35_bitCount_57 : decode cJ35_bitCount 57 = .ok (.bipush 127, 2) := dk_16 127 (dk_at dksJ35_bitCount_2 9 rfl rfl)
theorem dJ35_bitCount_59 : decode cJ35_bitCount 59 = .ok (.iand, 1) := dk_126 (dk_at dksJ35_bitCount_2 11 rfl rfl)
theorem dJ35_bitCount_60 : decode cJ35_bitCount 60 = .ok (.ireturn, 1) := dk_172 (dk_at dksJ35_bitCount_2 12 rfl rfl)
abbrev cJ38_of : ByteArray := prog_65_method_44_code
def yJ38_of : MethodName := ⟨RJ38, "of", "(Ljava/lang/Object;Ljava/lang/Object;Ljava/lang/Object;Ljava/lang/Object;Ljava/lang/Object;Ljava/lang/Object;Ljava/lang/Object;Ljava/lang/Object;)Ljava/util/List;"⟩
def dkwJ38_of_1 : List UInt8 := [25, 4, 83, 89, 8, 25, 5, 83, 89, 16, 6, 25, 6, 83, 89, 16, 7, 25, 7, 83, 184, 0, 105, 176]
abbrev dktJ38_of_1 : List UInt8 := dkwJ38_of_1 ++ []
def dkwJ38_of_0 : List UInt8 := [16, 8, 189, 0, 103, 89, 3, 42, 83, 89, 4, 43, 83, 89, 5, 44, 83, 89, 6, 45, 83, 89, 7]
abbrev dktJ38_of_0 : List UInt8 := dkwJ38_of_0 ++ dktJ38_of_1
theorem dksJ38_of_0 : cJ38_of.data.toList.drop 0 = dktJ38_of_0 := by decide +kernel
theorem dksJ38_of_1 : cJ38_of.data.toList.drop 23 = dktJ38_of_1 := dk_seg dksJ38_of_0 23 rfl rfl
theorem dJ38_of_0 : decode cJ38_of 0 = .ok (.bipush 8, 2) := dk_16 8 (dk_at dksJ38_of_0 0 rfl rfl)
theorem dJ38_of_2 : decode cJ38_of 2 = .ok (.anewarray 103, 3) := dk_189 0 103 (dk_at dksJ38_of_0 2 rfl rfl)
theorem dJ38_of_5 : decode cJ38_of 5 = .ok (.dup, 1) := dk_89 (dk_at dksJ38_of_0 5 rfl rfl)
theorem dJ38_of_6 : decode cJ38_of 6 = .ok (.iconst 0, 1) := dk_3 (dk_at dksJ38_of_0 6 rfl rfl)
theorem dJ38_of_7 : decode cJ38_of 7 = .ok (.aload_n 0, 1) := dk_42 (dk_at dksJ38_of_0 7 rfl rfl)
theorem dJ38_of_8 : decode cJ38_of 8 = .ok (.aastore, 1) := dk_83 (dk_at dksJ38_of_0 8 rfl rfl)
theorem dJ38_of_9 : decode cJ38_of 9 = .ok (.dup, 1) := dk_89 (dk_at dksJ38_of_0 9 rfl rfl)
theorem dJ38_of_10 : decode cJ38_of 10 = .ok (.iconst 1, 1) := dk_4 (dk_at dksJ38_of_0 10 rfl rfl)
theorem dJ38_of_11 : decode cJ38_of 11 = .ok (.aload_n 1, 1) := dk_43 (dk_at dksJ38_of_0 11 rfl rfl)
theorem dJ38_of_12 : decode cJ38_of 12 = .ok (.aastore, 1) := dk_83 (dk_at dksJ38_of_0 12 rfl rfl)
theorem dJ38_of_13 : decode cJ38_of 13 = .ok (.dup, 1) := dk_89 (dk_at dksJ38_of_0 13 rfl rfl)
theorem dJ38_of_14 : decode cJ38_of 14 = .ok (.iconst 2, 1) := dk_5 (dk_at dksJ38_of_0 14 rfl rfl)
theorem dJ38_of_15 : decode cJ38_of 15 = .ok (.aload_n 2, 1) := dk_44 (dk_at dksJ38_of_0 15 rfl rfl)
theorem dJ38_of_16 : decode cJ38_of 16 = .ok (.aastore, 1) := dk_83 (dk_at dksJ38_of_0 16 rfl rfl)
theorem dJ38_of_17 : decode cJ38_of 17 = .ok (.dup, 1) := dk_89 (dk_at dksJ38_of_0 17 rfl rfl)
theorem dJ38_of_18 : decode cJ38_of 18 = .ok (.iconst 3, 1) := dk_6 (dk_at dksJ38_of_0 18 rfl rfl)
theorem dJ38_of_19 : decode cJ38_of 19 = .ok (.aload_n 3, 1) := dk_45 (dk_at dksJ38_of_0 19 rfl rfl)
theorem dJ38_of_20 : decode cJ38_of 20 = .ok (.aastore, 1) := dk_83 (dk_at dksJ38_of_0 20 rfl rfl)
theorem dJ38_of_21 : decode cJ38_of 21 = .ok (.dup, 1) := dk_89 (dk_at dksJ38_of_0 21 rfl rfl)
theorem dJ38_of_22 : decode cJ38_of 22 = .ok (.iconst 4, 1) := dk_7 (dk_at dksJ38_of_0 22 rfl rfl)
theorem dJ38_of_23 : decode cJ38_of 23 = .ok (.aload 4, 2) := dk_25 4 (dk_at dksJ38_of_1 0 rfl rfl)
theorem dJ38_of_25 : decode cJ38_of 25 = .ok (.aastore, 1) := dk_83 (dk_at dksJ38_of_1 2 rfl rfl)
theorem dJ38_of_26 : decode cJ38_of 26 = .ok (.dup, 1) := dk_89 (dk_at dksJ38_of_1 3 rfl rfl)
theorem dJ38_of_27 : decode cJ38_of 27 = .ok (.iconst 5, 1) := dk_8 (dk_at dksJ38_of_1 4 rfl rfl)
theorem dJ38_of_28 : decode cJ38_of 28 = .ok (.aload 5, 2) := dk_25 5 (dk_at dksJ38_of_1 5 rfl rfl)
theorem dJ38_of_30 : decode cJ38_of 30 = .ok (.aastore, 1) := dk_83 (dk_at dksJ38_of_1 7 rfl rfl)
theorem dJ38_of_31 : decode cJ38_of 31 = .ok (.dup, 1) := dk_89 (dk_at dksJ38_of_1 8 rfl rfl)
theorem dJ38_of_32 : decode cJ38_of 32 = .ok (.bipush 6, 2) := dk_16 6 (dk_at dksJ38_of_1 9 rfl rfl)
theorem dJ38_of_34 : decode cJ38_of 34 = .ok (.aload 6, 2) := dk_25 6 (dk_at dksJ38_of_1 11 rfl rfl)
theorem dJ38_of_36 : decode cJ38_of 36 = .ok (.aastore, 1) := dk_83 (dk_at dksJ38_of_1 13 rfl rfl)
theorem dJ38_of_37 : decode cJ38_of 37 = .ok (.dup, 1) := dk_89 (dk_at dksJ38_of_1 14 rfl rfl)
theorem dJ38_of_38 : decode cJ38_of 38 = .ok (.bipush 7, 2) := dk_16 7 (dk_at dksJ38_of_1 15 rfl rfl)
theorem dJ38_of_40 : decode cJ38_of 40 = .ok (.aload 7, 2) := dk_25 7 (dk_at dksJ38_of_1 17 rfl rfl)
theorem dJ38_of_42 : decode cJ38_of 42 = .ok (.aastore, 1) := dk_83 (dk_at dksJ38_of_1 19 rfl rfl)
theorem dJ38_of_43 : decode cJ38_of 43 = .ok (.invokestatic 105, 3) := dk_184 0 105 (dk_at dksJ38_of_1 20 rfl rfl)
theorem dJ38_of_46 : decode cJ38_of 46 = .ok (.areturn, 1) := dk_176 (dk_at dksJ38_of_1 23 rfl rfl)
abbrev cJ39_init : ByteArray := prog_57_method_1_code
def yJ39_init : MethodName := ⟨RJ39, "<init>", "()V"⟩
theorem dJ39_init_0 : decode cJ39_init 0 = .ok (.aload_n 0, 1) := by decide +kernel
theorem dJ39_init_1 : decode cJ39_init 1 = .ok (.invokespecial 1, 3) := by decide +kernel
theorem dJ39_init_4 : decode cJ39_init 4 = .ok (.return_, 1) := by decide +kernel
abbrev cJ40_init : ByteArray := prog_58_method_1_code
def yJ40_init : MethodName := ⟨RJ40, "<init>", "()V"⟩
theorem dJ40_init_0 : decode cJ40_init 0 = .ok (.aload_n 0, 1) := by decide +kernel
theorem dJ40_init_1 : decode cJ40_init 1 = .ok (.invokespecial 1, 3) := by decide +kernel
theorem dJ40_init_4 : decode cJ40_init 4 = .ok (.return_, 1) := by decide +kernel
abbrev cJ40_contains : ByteArray := prog_58_method_15_code
def yJ40_contains : MethodName := ⟨RJ40, "contains", "(Ljava/lang/Object;)Z"⟩
def dkwJ40_contains_0 : List UInt8 := [42, 43, 182, 0, 107, 155, 0, 7, 4, 167, 0, 4, 3, 172]
abbrev dktJ40_contains_0 : List UInt8 := dkwJ40_contains_0 ++ []
theorem dksJ40_contains_0 : cJ40_contains.data.toList.drop 0 = dktJ40_contains_0 := by decide +kernel
theorem dJ40_contains_0 : decode cJ40_contains 0 = .ok (.aload_n 0, 1) := dk_42 (dk_at dksJ40_contains_0 0 rfl rfl)
theorem dJ40_contains_1 : decode cJ40_contains 1 = .ok (.aload_n 1, 1) := dk_43 (dk_at dksJ40_contains_0 1 rfl rfl)
theorem dJ40_contains_2 : decode cJ40_contains 2 = .ok (.invokevirtual 107, 3) := dk_182 0 107 (dk_at dksJ40_contains_0 2 rfl rfl)
theorem dJ40_contains_5 : decode cJ40_contains 5 = .ok (.ifCond .lt 7, 3) := dk_155 0 7 (dk_at dksJ40_contains_0 5 rfl rfl)
theorem dJ40_contains_8 : decode cJ40_contains 8 = .ok (.iconst 1, 1) := dk_4 (dk_at dksJ40_contains_0 8 rfl rfl)
theorem dJ40_contains_9 : decode cJ40_contains 9 = .ok (.goto 4, 3) := dk_167 0 4 (dk_at dksJ40_contains_0 9 rfl rfl)
theorem dJ40_contains_12 : decode cJ40_contains 12 = .ok (.iconst 0, 1) := dk_3 (dk_at dksJ40_contains_0 12 rfl rfl)
theorem dJ40_contains_13 : decode cJ40_contains 13 = .ok (.ireturn, 1) := dk_172 (dk_at dksJ40_contains_0 13 rfl rfl)
abbrev cJ42_size : ByteArray := prog_60_method_3_code
def yJ42_size : MethodName := ⟨RJ42, "size", "()I"⟩
def dkwJ42_size_0 : List UInt8 := [42, 180, 0, 7, 190, 172]
abbrev dktJ42_size_0 : List UInt8 := dkwJ42_size_0 ++ []
theorem dksJ42_size_0 : cJ42_size.data.toList.drop 0 = dktJ42_size_0 := by decide +kernel
theorem dJ42_size_0 : decode cJ42_size 0 = .ok (.aload_n 0, 1) := dk_42 (dk_at dksJ42_size_0 0 rfl rfl)
theorem dJ42_size_1 : decode cJ42_size 1 = .ok (.getfield 7, 3) := dk_180 0 7 (dk_at dksJ42_size_0 1 rfl rfl)
theorem dJ42_size_4 : decode cJ42_size 4 = .ok (.arraylength, 1) := dk_190 (dk_at dksJ42_size_0 4 rfl rfl)
theorem dJ42_size_5 : decode cJ42_size 5 = .ok (.ireturn, 1) := dk_172 (dk_at dksJ42_size_0 5 rfl rfl)
abbrev cJ42_init : ByteArray := prog_60_method_1_code
def yJ42_init : MethodName := ⟨RJ42, "<init>", "([Ljava/lang/Object;Z)V"⟩
def dkwJ42_init_0 : List UInt8 := [42, 183, 0, 1, 42, 43, 181, 0, 7, 42, 28, 181, 0, 13, 177]
abbrev dktJ42_init_0 : List UInt8 := dkwJ42_init_0 ++ []
theorem dksJ42_init_0 : cJ42_init.data.toList.drop 0 = dktJ42_init_0 := by decide +kernel
theorem dJ42_init_0 : decode cJ42_init 0 = .ok (.aload_n 0, 1) := dk_42 (dk_at dksJ42_init_0 0 rfl rfl)
theorem dJ42_init_1 : decode cJ42_init 1 = .ok (.invokespecial 1, 3) := dk_183 0 1 (dk_at dksJ42_init_0 1 rfl rfl)
theorem dJ42_init_4 : decode cJ42_init 4 = .ok (.aload_n 0, 1) := dk_42 (dk_at dksJ42_init_0 4 rfl rfl)
theorem dJ42_init_5 : decode cJ42_init 5 = .ok (.aload_n 1, 1) := dk_43 (dk_at dksJ42_init_0 5 rfl rfl)
theorem dJ42_init_6 : decode cJ42_init 6 = .ok (.putfield 7, 3) := dk_181 0 7 (dk_at dksJ42_init_0 6 rfl rfl)
theorem dJ42_init_9 : decode cJ42_init 9 = .ok (.aload_n 0, 1) := dk_42 (dk_at dksJ42_init_0 9 rfl rfl)
theorem dJ42_init_10 : decode cJ42_init 10 = .ok (.iload_n 2, 1) := dk_28 (dk_at dksJ42_init_0 10 rfl rfl)
theorem dJ42_init_11 : decode cJ42_init 11 = .ok (.putfield 13, 3) := dk_181 0 13 (dk_at dksJ42_init_0 11 rfl rfl)
theorem dJ42_init_14 : decode cJ42_init 14 = .ok (.return_, 1) := dk_177 (dk_at dksJ42_init_0 14 rfl rfl)
abbrev cJ42_indexOf : ByteArray := prog_60_method_9_code
def yJ42_indexOf : MethodName := ⟨RJ42, "indexOf", "(Ljava/lang/Object;)I"⟩
def dkwJ42_indexOf_2 : List UInt8 := [167, 255, 235, 2, 172]
abbrev dktJ42_indexOf_2 : List UInt8 := dkwJ42_indexOf_2 ++ []
def dkwJ42_indexOf_1 : List UInt8 := [3, 62, 29, 44, 190, 162, 0, 21, 43, 44, 29, 50, 184, 0, 53, 153, 0, 5, 29, 172, 132, 3, 1]
abbrev dktJ42_indexOf_1 : List UInt8 := dkwJ42_indexOf_1 ++ dktJ42_indexOf_2
def dkwJ42_indexOf_0 : List UInt8 := [42, 180, 0, 13, 154, 0, 15, 43, 199, 0, 11, 187, 0, 50, 89, 183, 0, 52, 191, 42, 180, 0, 7, 77]
abbrev dktJ42_indexOf_0 : List UInt8 := dkwJ42_indexOf_0 ++ dktJ42_indexOf_1
theorem dksJ42_indexOf_0 : cJ42_indexOf.data.toList.drop 0 = dktJ42_indexOf_0 := by decide +kernel
theorem dksJ42_indexOf_1 : cJ42_indexOf.data.toList.drop 24 = dktJ42_indexOf_1 := dk_seg dksJ42_indexOf_0 24 rfl rfl
theorem dksJ42_indexOf_2 : cJ42_indexOf.data.toList.drop 47 = dktJ42_indexOf_2 := dk_seg dksJ42_indexOf_1 23 rfl rfl
theorem dJ42_indexOf_0 : decode cJ42_indexOf 0 = .ok (.aload_n 0, 1) := dk_42 (dk_at dksJ42_indexOf_0 0 rfl rfl)
theorem dJ42_indexOf_1 : decode cJ42_indexOf 1 = .ok (.getfield 13, 3) := dk_180 0 13 (dk_at dksJ42_indexOf_0 1 rfl rfl)
theorem dJ42_indexOf_4 : decode cJ42_indexOf 4 = .ok (.ifCond .ne 15, 3) := dk_154 0 15 (dk_at dksJ42_indexOf_0 4 rfl rfl)
theorem dJ42_indexOf_7 : decode cJ42_indexOf 7 = .ok (.aload_n 1, 1) := dk_43 (dk_at dksJ42_indexOf_0 7 rfl rfl)
theorem dJ42_indexOf_8 : decode cJ42_indexOf 8 = .ok (.ifnonnull 11, 3) := dk_199 0 11 (dk_at dksJ42_indexOf_0 8 rfl rfl)
theorem dJ42_indexOf_11 : decode cJ42_indexOf 11 = .ok (.new 50, 3) := dk_187 0 50 (dk_at dksJ42_indexOf_0 11 rfl rfl)
theorem dJ42_indexOf_14 : decode cJ42_indexOf 14 = .ok (.dup, 1) := dk_89 (dk_at dksJ42_indexOf_0 14 rfl rfl)
theorem dJ42_indexOf_15 : decode cJ42_indexOf 15 = .ok (.invokespecial 52, 3) := dk_183 0 52 (dk_at dksJ42_indexOf_0 15 rfl rfl)
theorem dJ42_indexOf_18 : decode cJ42_indexOf 18 = .ok (.athrow, 1) := dk_191 (dk_at dksJ42_indexOf_0 18 rfl rfl)
theorem dJ42_indexOf_19 : decode cJ42_indexOf 19 = .ok (.aload_n 0, 1) := dk_42 (dk_at dksJ42_indexOf_0 19 rfl rfl)
theorem dJ42_indexOf_20 : decode cJ42_indexOf 20 = .ok (.getfield 7, 3) := dk_180 0 7 (dk_at dksJ42_indexOf_0 20 rfl rfl)
theorem dJ42_indexOf_23 : decode cJ42_indexOf 23 = .ok (.astore_n 2, 1) := dk_77 (dk_at dksJ42_indexOf_0 23 rfl rfl)
theorem dJ42_indexOf_24 : decode cJ42_indexOf 24 = .ok (.iconst 0, 1) := dk_3 (dk_at dksJ42_indexOf_1 0 rfl rfl)
theorem dJ42_indexOf_25 : decode cJ42_indexOf 25 = .ok (.istore_n 3, 1) := dk_62 (dk_at dksJ42_indexOf_1 1 rfl rfl)
theorem dJ42_indexOf_26 : decode cJ42_indexOf 26 = .ok (.iload_n 3, 1) := dk_29 (dk_at dksJ42_indexOf_1 2 rfl rfl)
theorem dJ42_indexOf_27 : decode cJ42_indexOf 27 = .ok (.aload_n 2, 1) := dk_44 (dk_at dksJ42_indexOf_1 3 rfl rfl)
theorem dJ42_indexOf_28 : decode cJ42_indexOf 28 = .ok (.arraylength, 1) := dk_190 (dk_at dksJ42_indexOf_1 4 rfl rfl)
theorem dJ42_indexOf_29 : decode cJ42_indexOf 29 = .ok (.if_icmp .ge 21, 3) := dk_162 0 21 (dk_at dksJ42_indexOf_1 5 rfl rfl)
theorem dJ42_indexOf_32 : decode cJ42_indexOf 32 = .ok (.aload_n 1, 1) := dk_43 (dk_at dksJ42_indexOf_1 8 rfl rfl)
theorem dJ42_indexOf_33 : decode cJ42_indexOf 33 = .ok (.aload_n 2, 1) := dk_44 (dk_at dksJ42_indexOf_1 9 rfl rfl)
theorem dJ42_indexOf_34 : decode cJ42_indexOf 34 = .ok (.iload_n 3, 1) := dk_29 (dk_at dksJ42_indexOf_1 10 rfl rfl)
theorem dJ42_indexOf_35 : decode cJ42_indexOf 35 = .ok (.aaload, 1) := dk_50 (dk_at dksJ42_indexOf_1 11 rfl rfl)
theorem dJ42_indexOf_36 : decode cJ42_indexOf 36 = .ok (.invokestatic 53, 3) := dk_184 0 53 (dk_at dksJ42_indexOf_1 12 rfl rfl)
theorem dJ42_indexOf_39 : decode cJ42_indexOf 39 = .ok (.ifCond .eq 5, 3) := dk_153 0 5 (dk_at dksJ42_indexOf_1 15 rfl rfl)
theorem dJ42_indexOf_42 : decode cJ42_indexOf 42 = .ok (.iload_n 3, 1) := dk_29 (dk_at dksJ42_indexOf_1 18 rfl rfl)
theorem dJ42_indexOf_43 : decode cJ42_indexOf 43 = .ok (.ireturn, 1) := dk_172 (dk_at dksJ42_indexOf_1 19 rfl rfl)
theorem dJ42_indexOf_44 : decode cJ42_indexOf 44 = .ok (.iinc 3 1, 3) := dk_132 3 1 (dk_at dksJ42_indexOf_1 20 rfl rfl)
theorem dJ42_indexOf_47 : decode cJ42_indexOf 47 = .ok (.goto (-21), 3) := dk_167 255 235 (dk_at dksJ42_indexOf_2 0 rfl rfl)
theorem dJ42_indexOf_50 : decode cJ42_indexOf 50 = .ok (.iconst (-1), 1) := dk_2 (dk_at dksJ42_indexOf_2 3 rfl rfl)
theorem dJ42_indexOf_51 : decode cJ42_indexOf 51 = .ok (.ireturn, 1) := dk_172 (dk_at dksJ42_indexOf_2 4 rfl rfl)
abbrev cJ45_init : ByteArray := object_method_1_code
def yJ45_init : MethodName := ⟨RJ45, "<init>", "()V"⟩
theorem dJ45_init_0 : decode cJ45_init 0 = .ok (.return_, 1) := by decide +kernel
abbrev cJ45_equals : ByteArray := object_method_4_code
def yJ45_equals : MethodName := ⟨RJ45, "equals", "(Ljava/lang/Object;)Z"⟩
def dkwJ45_equals_0 : List UInt8 := [42, 43, 166, 0, 7, 4, 167, 0, 4, 3, 172]
abbrev dktJ45_equals_0 : List UInt8 := dkwJ45_equals_0 ++ []
theorem dksJ45_equals_0 : cJ45_equals.data.toList.drop 0 = dktJ45_equals_0 := by decide +kernel
theorem dJ45_equals_0 : decode cJ45_equals 0 = .ok (.aload_n 0, 1) := dk_42 (dk_at dksJ45_equals_0 0 rfl rfl)
theorem dJ45_equals_1 : decode cJ45_equals 1 = .ok (.aload_n 1, 1) := dk_43 (dk_at dksJ45_equals_0 1 rfl rfl)
theorem dJ45_equals_2 : decode cJ45_equals 2 = .ok (.if_acmp .ne 7, 3) := dk_166 0 7 (dk_at dksJ45_equals_0 2 rfl rfl)
theorem dJ45_equals_5 : decode cJ45_equals 5 = .ok (.iconst 1, 1) := dk_4 (dk_at dksJ45_equals_0 5 rfl rfl)
theorem dJ45_equals_6 : decode cJ45_equals 6 = .ok (.goto 4, 3) := dk_167 0 4 (dk_at dksJ45_equals_0 6 rfl rfl)
theorem dJ45_equals_9 : decode cJ45_equals 9 = .ok (.iconst 0, 1) := dk_3 (dk_at dksJ45_equals_0 9 rfl rfl)
theorem dJ45_equals_10 : decode cJ45_equals 10 = .ok (.ireturn, 1) := dk_172 (dk_at dksJ45_equals_0 10 rfl rfl)
