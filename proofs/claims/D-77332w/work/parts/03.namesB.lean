/-! IslandHeap -/
set_option maxRecDepth 100000
def RX0 : String := "IslandHeap"
def TX0 : u_T := fun k => match k with
  | 0 => ("IslandHeap", "heap", "LIslandHeap$Heap;", false)
  | 1 => ("IslandHeap", "stack", "[LIslandHeap$Thing;", true)
  | 2 => ("IslandHeap", "text", "[B", true)
  | 3 => ("IslandHeap", "length", "I", false)
  | 4 => ("IslandHeap", "refusal", "I", false)
  | 5 => ("IslandHeap", "slots", "[LIslandHeap$Heap;", true)
  | _ => ("IslandHeap", "hash", "J", false)
def tyX0 : Nat → FieldType := fun k => match k with
  | 0 => .object "IslandHeap$Heap"
  | 1 => .array (.object "IslandHeap$Thing")
  | 2 => .array .byte
  | 3 => .int
  | 4 => .int
  | 5 => .array (.object "IslandHeap$Heap")
  | _ => .long
abbrev wsX00 : List Cond := u_ws RX0 TX0 7
theorem nmX0 : ∀ a, a < 7 → ∀ b, b < 7 → a ≠ b → (TX0 a).2.1 ≠ (TX0 b).2.1 := by decide +kernel
theorem tyX0_ok : ∀ k, k < 7 → parseFieldDescriptor (TX0 k).2.2.1 = some (tyX0 k) := by decide +kernel
abbrev cX0_init : ByteArray := prog_1_method_2_code
def yX0_init : MethodName := ⟨RX0, "<init>", "()V"⟩
def dkwX0_init_2 : List UInt8 := [181, 0, 32, 177]
abbrev dktX0_init_2 : List UInt8 := dkwX0_init_2 ++ []
def dkwX0_init_1 : List UInt8 := [189, 0, 18, 181, 0, 20, 42, 16, 80, 188, 8, 181, 0, 24, 42, 2, 181, 0, 28, 42, 5, 189, 0, 7]
abbrev dktX0_init_1 : List UInt8 := dkwX0_init_1 ++ dktX0_init_2
def dkwX0_init_0 : List UInt8 := [42, 183, 0, 1, 42, 187, 0, 7, 89, 16, 100, 16, 8, 183, 0, 9, 181, 0, 12, 42, 17, 0, 200]
abbrev dktX0_init_0 : List UInt8 := dkwX0_init_0 ++ dktX0_init_1
theorem dksX0_init_0 : cX0_init.data.toList.drop 0 = dktX0_init_0 := by decide +kernel
theorem dksX0_init_1 : cX0_init.data.toList.drop 23 = dktX0_init_1 := dk_seg dksX0_init_0 23 rfl rfl
theorem dksX0_init_2 : cX0_init.data.toList.drop 47 = dktX0_init_2 := dk_seg dksX0_init_1 24 rfl rfl
theorem dX0_init_0 : decode cX0_init 0 = .ok (.aload_n 0, 1) := dk_42 (dk_at dksX0_init_0 0 rfl rfl)
theorem dX0_init_1 : decode cX0_init 1 = .ok (.invokespecial 1, 3) := dk_183 0 1 (dk_at dksX0_init_0 1 rfl rfl)
theorem dX0_init_4 : decode cX0_init 4 = .ok (.aload_n 0, 1) := dk_42 (dk_at dksX0_init_0 4 rfl rfl)
theorem dX0_init_5 : decode cX0_init 5 = .ok (.new 7, 3) := dk_187 0 7 (dk_at dksX0_init_0 5 rfl rfl)
theorem dX0_init_8 : decode cX0_init 8 = .ok (.dup, 1) := dk_89 (dk_at dksX0_init_0 8 rfl rfl)
theorem dX0_init_9 : decode cX0_init 9 = .ok (.bipush 100, 2) := dk_16 100 (dk_at dksX0_init_0 9 rfl rfl)
theorem dX0_init_11 : decode cX0_init 11 = .ok (.bipush 8, 2) := dk_16 8 (dk_at dksX0_init_0 11 rfl rfl)
theorem dX0_init_13 : decode cX0_init 13 = .ok (.invokespecial 9, 3) := dk_183 0 9 (dk_at dksX0_init_0 13 rfl rfl)
theorem dX0_init_16 : decode cX0_init 16 = .ok (.putfield 12, 3) := dk_181 0 12 (dk_at dksX0_init_0 16 rfl rfl)
theorem dX0_init_19 : decode cX0_init 19 = .ok (.aload_n 0, 1) := dk_42 (dk_at dksX0_init_0 19 rfl rfl)
theorem dX0_init_20 : decode cX0_init 20 = .ok (.sipush 200, 3) := dk_17 0 200 (dk_at dksX0_init_0 20 rfl rfl)
theorem dX0_init_23 : decode cX0_init 23 = .ok (.anewarray 18, 3) := dk_189 0 18 (dk_at dksX0_init_1 0 rfl rfl)
theorem dX0_init_26 : decode cX0_init 26 = .ok (.putfield 20, 3) := dk_181 0 20 (dk_at dksX0_init_1 3 rfl rfl)
theorem dX0_init_29 : decode cX0_init 29 = .ok (.aload_n 0, 1) := dk_42 (dk_at dksX0_init_1 6 rfl rfl)
theorem dX0_init_30 : decode cX0_init 30 = .ok (.bipush 80, 2) := dk_16 80 (dk_at dksX0_init_1 7 rfl rfl)
theorem dX0_init_32 : decode cX0_init 32 = .ok (.newarray .byte, 2) := dk_188_8 (dk_at dksX0_init_1 9 rfl rfl)
theorem dX0_init_34 : decode cX0_init 34 = .ok (.putfield 24, 3) := dk_181 0 24 (dk_at dksX0_init_1 11 rfl rfl)
theorem dX0_init_37 : decode cX0_init 37 = .ok (.aload_n 0, 1) := dk_42 (dk_at dksX0_init_1 14 rfl rfl)
theorem dX0_init_38 : decode cX0_init 38 = .ok (.iconst (-1), 1) := dk_2 (dk_at dksX0_init_1 15 rfl rfl)
theorem dX0_init_39 : decode cX0_init 39 = .ok (.putfield 28, 3) := dk_181 0 28 (dk_at dksX0_init_1 16 rfl rfl)
theorem dX0_init_42 : decode cX0_init 42 = .ok (.aload_n 0, 1) := dk_42 (dk_at dksX0_init_1 19 rfl rfl)
theorem dX0_init_43 : decode cX0_init 43 = .ok (.iconst 2, 1) := dk_5 (dk_at dksX0_init_1 20 rfl rfl)
theorem dX0_init_44 : decode cX0_init 44 = .ok (.anewarray 7, 3) := dk_189 0 7 (dk_at dksX0_init_1 21 rfl rfl)
theorem dX0_init_47 : decode cX0_init 47 = .ok (.putfield 32, 3) := dk_181 0 32 (dk_at dksX0_init_2 0 rfl rfl)
theorem dX0_init_50 : decode cX0_init 50 = .ok (.return_, 1) := dk_177 (dk_at dksX0_init_2 3 rfl rfl)
abbrev cX0_reset : ByteArray := prog_1_method_4_code
def yX0_reset : MethodName := ⟨RX0, "reset", "(II)I"⟩
def dkwX0_reset_1 : List UInt8 := [172, 42, 187, 0, 7, 89, 27, 28, 183, 0, 9, 181, 0, 12, 27, 172]
abbrev dktX0_reset_1 : List UInt8 := dkwX0_reset_1 ++ []
def dkwX0_reset_0 : List UInt8 := [27, 16, 8, 17, 0, 200, 184, 0, 45, 153, 0, 13, 28, 4, 16, 20, 184, 0, 45, 154, 0, 6, 18, 49]
abbrev dktX0_reset_0 : List UInt8 := dkwX0_reset_0 ++ dktX0_reset_1
theorem dksX0_reset_0 : cX0_reset.data.toList.drop 0 = dktX0_reset_0 := by decide +kernel
theorem dksX0_reset_1 : cX0_reset.data.toList.drop 24 = dktX0_reset_1 := dk_seg dksX0_reset_0 24 rfl rfl
theorem dX0_reset_0 : decode cX0_reset 0 = .ok (.iload_n 1, 1) := dk_27 (dk_at dksX0_reset_0 0 rfl rfl)
theorem dX0_reset_1 : decode cX0_reset 1 = .ok (.bipush 8, 2) := dk_16 8 (dk_at dksX0_reset_0 1 rfl rfl)
theorem dX0_reset_3 : decode cX0_reset 3 = .ok (.sipush 200, 3) := dk_17 0 200 (dk_at dksX0_reset_0 3 rfl rfl)
theorem dX0_reset_6 : decode cX0_reset 6 = .ok (.invokestatic 45, 3) := dk_184 0 45 (dk_at dksX0_reset_0 6 rfl rfl)
theorem dX0_reset_9 : decode cX0_reset 9 = .ok (.ifCond .eq 13, 3) := dk_153 0 13 (dk_at dksX0_reset_0 9 rfl rfl)
theorem dX0_reset_12 : decode cX0_reset 12 = .ok (.iload_n 2, 1) := dk_28 (dk_at dksX0_reset_0 12 rfl rfl)
theorem dX0_reset_13 : decode cX0_reset 13 = .ok (.iconst 1, 1) := dk_4 (dk_at dksX0_reset_0 13 rfl rfl)
theorem dX0_reset_14 : decode cX0_reset 14 = .ok (.bipush 20, 2) := dk_16 20 (dk_at dksX0_reset_0 14 rfl rfl)
theorem dX0_reset_16 : decode cX0_reset 16 = .ok (.invokestatic 45, 3) := dk_184 0 45 (dk_at dksX0_reset_0 16 rfl rfl)
theorem dX0_reset_19 : decode cX0_reset 19 = .ok (.ifCond .ne 6, 3) := dk_154 0 6 (dk_at dksX0_reset_0 19 rfl rfl)
theorem dX0_reset_22 : decode cX0_reset 22 = .ok (.ldc 49, 2) := dk_18 49 (dk_at dksX0_reset_0 22 rfl rfl)
theorem dX0_reset_24 : decode cX0_reset 24 = .ok (.ireturn, 1) := dk_172 (dk_at dksX0_reset_1 0 rfl rfl)
theorem dX0_reset_25 : decode cX0_reset 25 = .ok (.aload_n 0, 1) := dk_42 (dk_at dksX0_reset_1 1 rfl rfl)
theorem dX0_reset_26 : decode cX0_reset 26 = .ok (.new 7, 3) := dk_187 0 7 (dk_at dksX0_reset_1 2 rfl rfl)
theorem dX0_reset_29 : decode cX0_reset 29 = .ok (.dup, 1) := dk_89 (dk_at dksX0_reset_1 5 rfl rfl)
theorem dX0_reset_30 : decode cX0_reset 30 = .ok (.iload_n 1, 1) := dk_27 (dk_at dksX0_reset_1 6 rfl rfl)
theorem dX0_reset_31 : decode cX0_reset 31 = .ok (.iload_n 2, 1) := dk_28 (dk_at dksX0_reset_1 7 rfl rfl)
theorem dX0_reset_32 : decode cX0_reset 32 = .ok (.invokespecial 9, 3) := dk_183 0 9 (dk_at dksX0_reset_1 8 rfl rfl)
theorem dX0_reset_35 : decode cX0_reset 35 = .ok (.putfield 12, 3) := dk_181 0 12 (dk_at dksX0_reset_1 11 rfl rfl)
theorem dX0_reset_38 : decode cX0_reset 38 = .ok (.iload_n 1, 1) := dk_27 (dk_at dksX0_reset_1 14 rfl rfl)
theorem dX0_reset_39 : decode cX0_reset 39 = .ok (.ireturn, 1) := dk_172 (dk_at dksX0_reset_1 15 rfl rfl)
abbrev cX0_isIn : ByteArray := prog_1_method_1_code
def yX0_isIn : MethodName := ⟨RX0, "isIn", "(III)Z"⟩
def dkwX0_isIn_0 : List UInt8 := [26, 27, 161, 0, 12, 26, 28, 163, 0, 7, 4, 167, 0, 4, 3, 172]
abbrev dktX0_isIn_0 : List UInt8 := dkwX0_isIn_0 ++ []
theorem dksX0_isIn_0 : cX0_isIn.data.toList.drop 0 = dktX0_isIn_0 := by decide +kernel
theorem dX0_isIn_0 : decode cX0_isIn 0 = .ok (.iload_n 0, 1) := dk_26 (dk_at dksX0_isIn_0 0 rfl rfl)
theorem dX0_isIn_1 : decode cX0_isIn 1 = .ok (.iload_n 1, 1) := dk_27 (dk_at dksX0_isIn_0 1 rfl rfl)
theorem dX0_isIn_2 : decode cX0_isIn 2 = .ok (.if_icmp .lt 12, 3) := dk_161 0 12 (dk_at dksX0_isIn_0 2 rfl rfl)
theorem dX0_isIn_5 : decode cX0_isIn 5 = .ok (.iload_n 0, 1) := dk_26 (dk_at dksX0_isIn_0 5 rfl rfl)
theorem dX0_isIn_6 : decode cX0_isIn 6 = .ok (.iload_n 2, 1) := dk_28 (dk_at dksX0_isIn_0 6 rfl rfl)
theorem dX0_isIn_7 : decode cX0_isIn 7 = .ok (.if_icmp .gt 7, 3) := dk_163 0 7 (dk_at dksX0_isIn_0 7 rfl rfl)
theorem dX0_isIn_10 : decode cX0_isIn 10 = .ok (.iconst 1, 1) := dk_4 (dk_at dksX0_isIn_0 10 rfl rfl)
theorem dX0_isIn_11 : decode cX0_isIn 11 = .ok (.goto 4, 3) := dk_167 0 4 (dk_at dksX0_isIn_0 11 rfl rfl)
theorem dX0_isIn_14 : decode cX0_isIn 14 = .ok (.iconst 0, 1) := dk_3 (dk_at dksX0_isIn_0 14 rfl rfl)
theorem dX0_isIn_15 : decode cX0_isIn 15 = .ok (.ireturn, 1) := dk_172 (dk_at dksX0_isIn_0 15 rfl rfl)
abbrev cX0_alloc : ByteArray := prog_1_method_5_code
def yX0_alloc : MethodName := ⟨RX0, "alloc", "(II)I"⟩
def dkwX0_alloc_1 : List UInt8 := [27, 28, 182, 0, 50, 167, 0, 5, 18, 49, 172]
abbrev dktX0_alloc_1 : List UInt8 := dkwX0_alloc_1 ++ []
def dkwX0_alloc_0 : List UInt8 := [27, 3, 16, 6, 184, 0, 45, 153, 0, 25, 28, 3, 16, 6, 184, 0, 45, 153, 0, 15, 42, 180, 0, 12]
abbrev dktX0_alloc_0 : List UInt8 := dkwX0_alloc_0 ++ dktX0_alloc_1
theorem dksX0_alloc_0 : cX0_alloc.data.toList.drop 0 = dktX0_alloc_0 := by decide +kernel
theorem dksX0_alloc_1 : cX0_alloc.data.toList.drop 24 = dktX0_alloc_1 := dk_seg dksX0_alloc_0 24 rfl rfl
theorem dX0_alloc_0 : decode cX0_alloc 0 = .ok (.iload_n 1, 1) := dk_27 (dk_at dksX0_alloc_0 0 rfl rfl)
theorem dX0_alloc_1 : decode cX0_alloc 1 = .ok (.iconst 0, 1) := dk_3 (dk_at dksX0_alloc_0 1 rfl rfl)
theorem dX0_alloc_2 : decode cX0_alloc 2 = .ok (.bipush 6, 2) := dk_16 6 (dk_at dksX0_alloc_0 2 rfl rfl)
theorem dX0_alloc_4 : decode cX0_alloc 4 = .ok (.invokestatic 45, 3) := dk_184 0 45 (dk_at dksX0_alloc_0 4 rfl rfl)
theorem dX0_alloc_7 : decode cX0_alloc 7 = .ok (.ifCond .eq 25, 3) := dk_153 0 25 (dk_at dksX0_alloc_0 7 rfl rfl)
theorem dX0_alloc_10 : decode cX0_alloc 10 = .ok (.iload_n 2, 1) := dk_28 (dk_at dksX0_alloc_0 10 rfl rfl)
theorem dX0_alloc_11 : decode cX0_alloc 11 = .ok (.iconst 0, 1) := dk_3 (dk_at dksX0_alloc_0 11 rfl rfl)
theorem dX0_alloc_12 : decode cX0_alloc 12 = .ok (.bipush 6, 2) := dk_16 6 (dk_at dksX0_alloc_0 12 rfl rfl)
theorem dX0_alloc_14 : decode cX0_alloc 14 = .ok (.invokestatic 45, 3) := dk_184 0 45 (dk_at dksX0_alloc_0 14 rfl rfl)
theorem dX0_alloc_17 : decode cX0_alloc 17 = .ok (.ifCond .eq 15, 3) := dk_153 0 15 (dk_at dksX0_alloc_0 17 rfl rfl)
theorem dX0_alloc_20 : decode cX0_alloc 20 = .ok (.aload_n 0, 1) := dk_42 (dk_at dksX0_alloc_0 20 rfl rfl)
theorem dX0_alloc_21 : decode cX0_alloc 21 = .ok (.getfield 12, 3) := dk_180 0 12 (dk_at dksX0_alloc_0 21 rfl rfl)
theorem dX0_alloc_24 : decode cX0_alloc 24 = .ok (.iload_n 1, 1) := dk_27 (dk_at dksX0_alloc_1 0 rfl rfl)
theorem dX0_alloc_25 : decode cX0_alloc 25 = .ok (.iload_n 2, 1) := dk_28 (dk_at dksX0_alloc_1 1 rfl rfl)
theorem dX0_alloc_26 : decode cX0_alloc 26 = .ok (.invokevirtual 50, 3) := dk_182 0 50 (dk_at dksX0_alloc_1 2 rfl rfl)
theorem dX0_alloc_29 : decode cX0_alloc 29 = .ok (.goto 5, 3) := dk_167 0 5 (dk_at dksX0_alloc_1 5 rfl rfl)
theorem dX0_alloc_32 : decode cX0_alloc 32 = .ok (.ldc 49, 2) := dk_18 49 (dk_at dksX0_alloc_1 8 rfl rfl)
theorem dX0_alloc_34 : decode cX0_alloc 34 = .ok (.ireturn, 1) := dk_172 (dk_at dksX0_alloc_1 10 rfl rfl)
abbrev cX0_object : ByteArray := prog_1_method_7_code
def yX0_object : MethodName := ⟨RX0, "object", "(II)I"⟩
def dkwX0_object_1 : List UInt8 := [18, 49, 167, 0, 12, 28, 184, 0, 85, 42, 45, 182, 0, 89, 172]
abbrev dktX0_object_1 : List UInt8 := dkwX0_object_1 ++ []
def dkwX0_object_0 : List UInt8 := [42, 180, 0, 12, 27, 182, 0, 81, 78, 45, 198, 0, 13, 28, 3, 16, 7, 184, 0, 45, 154, 0, 8]
abbrev dktX0_object_0 : List UInt8 := dkwX0_object_0 ++ dktX0_object_1
theorem dksX0_object_0 : cX0_object.data.toList.drop 0 = dktX0_object_0 := by decide +kernel
theorem dksX0_object_1 : cX0_object.data.toList.drop 23 = dktX0_object_1 := dk_seg dksX0_object_0 23 rfl rfl
theorem dX0_object_0 : decode cX0_object 0 = .ok (.aload_n 0, 1) := dk_42 (dk_at dksX0_object_0 0 rfl rfl)
theorem dX0_object_1 : decode cX0_object 1 = .ok (.getfield 12, 3) := dk_180 0 12 (dk_at dksX0_object_0 1 rfl rfl)
theorem dX0_object_4 : decode cX0_object 4 = .ok (.iload_n 1, 1) := dk_27 (dk_at dksX0_object_0 4 rfl rfl)
theorem dX0_object_5 : decode cX0_object 5 = .ok (.invokevirtual 81, 3) := dk_182 0 81 (dk_at dksX0_object_0 5 rfl rfl)
theorem dX0_object_8 : decode cX0_object 8 = .ok (.astore_n 3, 1) := dk_78 (dk_at dksX0_object_0 8 rfl rfl)
theorem dX0_object_9 : decode cX0_object 9 = .ok (.aload_n 3, 1) := dk_45 (dk_at dksX0_object_0 9 rfl rfl)
theorem dX0_object_10 : decode cX0_object 10 = .ok (.ifnull 13, 3) := dk_198 0 13 (dk_at dksX0_object_0 10 rfl rfl)
theorem dX0_object_13 : decode cX0_object 13 = .ok (.iload_n 2, 1) := dk_28 (dk_at dksX0_object_0 13 rfl rfl)
theorem dX0_object_14 : decode cX0_object 14 = .ok (.iconst 0, 1) := dk_3 (dk_at dksX0_object_0 14 rfl rfl)
theorem dX0_object_15 : decode cX0_object 15 = .ok (.bipush 7, 2) := dk_16 7 (dk_at dksX0_object_0 15 rfl rfl)
theorem dX0_object_17 : decode cX0_object 17 = .ok (.invokestatic 45, 3) := dk_184 0 45 (dk_at dksX0_object_0 17 rfl rfl)
theorem dX0_object_20 : decode cX0_object 20 = .ok (.ifCond .ne 8, 3) := dk_154 0 8 (dk_at dksX0_object_0 20 rfl rfl)
theorem dX0_object_23 : decode cX0_object 23 = .ok (.ldc 49, 2) := dk_18 49 (dk_at dksX0_object_1 0 rfl rfl)
theorem dX0_object_25 : decode cX0_object 25 = .ok (.goto 12, 3) := dk_167 0 12 (dk_at dksX0_object_1 2 rfl rfl)
theorem dX0_object_28 : decode cX0_object 28 = .ok (.iload_n 2, 1) := dk_28 (dk_at dksX0_object_1 5 rfl rfl)
theorem dX0_object_29 : decode cX0_object 29 = .ok (.invokestatic 85, 3) := dk_184 0 85 (dk_at dksX0_object_1 6 rfl rfl)
theorem dX0_object_32 : decode cX0_object 32 = .ok (.aload_n 0, 1) := dk_42 (dk_at dksX0_object_1 9 rfl rfl)
theorem dX0_object_33 : decode cX0_object 33 = .ok (.aload_n 3, 1) := dk_45 (dk_at dksX0_object_1 10 rfl rfl)
theorem dX0_object_34 : decode cX0_object 34 = .ok (.invokevirtual 89, 3) := dk_182 0 89 (dk_at dksX0_object_1 11 rfl rfl)
theorem dX0_object_37 : decode cX0_object 37 = .ok (.ireturn, 1) := dk_172 (dk_at dksX0_object_1 14 rfl rfl)
abbrev cX0_part : ByteArray := prog_1_method_6_code
def yX0_part : MethodName := ⟨RX0, "part", "(I)LIslandHeap$Part;"⟩
def dkwX0_part_3 : List UInt8 := [178, 0, 75, 176, 178, 0, 78, 176]
abbrev dktX0_part_3 : List UInt8 := dkwX0_part_3 ++ []
def dkwX0_part_2 : List UInt8 := [178, 0, 54, 176, 178, 0, 60, 176, 178, 0, 63, 176, 178, 0, 66, 176, 178, 0, 69, 176, 178, 0, 72, 176]
abbrev dktX0_part_2 : List UInt8 := dkwX0_part_2 ++ dktX0_part_3
def dkwX0_part_1 : List UInt8 := [170, 0, 0, 0, 0, 0, 71, 0, 0, 0, 0, 0, 0, 0, 6, 0, 0, 0, 43, 0, 0, 0, 47, 0, 0, 0, 51, 0, 0, 0, 55, 0, 0, 0, 59, 0, 0, 0, 63, 0, 0, 0, 67]
abbrev dktX0_part_1 : List UInt8 := dkwX0_part_1 ++ dktX0_part_2
def dkwX0_part_0 : List UInt8 := [26]
abbrev dktX0_part_0 : List UInt8 := dkwX0_part_0 ++ dktX0_part_1
theorem dksX0_part_0 : cX0_part.data.toList.drop 0 = dktX0_part_0 := by decide +kernel
theorem dksX0_part_1 : cX0_part.data.toList.drop 1 = dktX0_part_1 := dk_seg dksX0_part_0 1 rfl rfl
theorem dksX0_part_2 : cX0_part.data.toList.drop 44 = dktX0_part_2 := dk_seg dksX0_part_1 43 rfl rfl
theorem dksX0_part_3 : cX0_part.data.toList.drop 68 = dktX0_part_3 := dk_seg dksX0_part_2 24 rfl rfl
theorem dX0_part_0 : decode cX0_part 0 = .ok (.iload_n 0, 1) := dk_26 (dk_at dksX0_part_0 0 rfl rfl)
theorem dX0_part_1 : decode cX0_part 1 = .ok (.tableswitch 71 0 6 #[43, 47, 51, 55, 59, 63, 67], 43) := by decide +kernel
theorem dX0_part_44 : decode cX0_part 44 = .ok (.getstatic 54, 3) := dk_178 0 54 (dk_at dksX0_part_2 0 rfl rfl)
theorem dX0_part_47 : decode cX0_part 47 = .ok (.areturn, 1) := dk_176 (dk_at dksX0_part_2 3 rfl rfl)
theorem dX0_part_48 : decode cX0_part 48 = .ok (.getstatic 60, 3) := dk_178 0 60 (dk_at dksX0_part_2 4 rfl rfl)
theorem dX0_part_51 : decode cX0_part 51 = .ok (.areturn, 1) := dk_176 (dk_at dksX0_part_2 7 rfl rfl)
theorem dX0_part_52 : decode cX0_part 52 = .ok (.getstatic 63, 3) := dk_178 0 63 (dk_at dksX0_part_2 8 rfl rfl)
theorem dX0_part_55 : decode cX0_part 55 = .ok (.areturn, 1) := dk_176 (dk_at dksX0_part_2 11 rfl rfl)
theorem dX0_part_56 : decode cX0_part 56 = .ok (.getstatic 66, 3) := dk_178 0 66 (dk_at dksX0_part_2 12 rfl rfl)
theorem dX0_part_59 : decode cX0_part 59 = .ok (.areturn, 1) := dk_176 (dk_at dksX0_part_2 15 rfl rfl)
theorem dX0_part_60 : decode cX0_part 60 = .ok (.getstatic 69, 3) := dk_178 0 69 (dk_at dksX0_part_2 16 rfl rfl)
theorem dX0_part_63 : decode cX0_part 63 = .ok (.areturn, 1) := dk_176 (dk_at dksX0_part_2 19 rfl rfl)
theorem dX0_part_64 : decode cX0_part 64 = .ok (.getstatic 72, 3) := dk_178 0 72 (dk_at dksX0_part_2 20 rfl rfl)
theorem dX0_part_67 : decode cX0_part 67 = .ok (.areturn, 1) := dk_176 (dk_at dksX0_part_2 23 rfl rfl)
theorem dX0_part_68 : decode cX0_part 68 = .ok (.getstatic 75, 3) := dk_178 0 75 (dk_at dksX0_part_3 0 rfl rfl)
theorem dX0_part_71 : decode cX0_part 71 = .ok (.areturn, 1) := dk_176 (dk_at dksX0_part_3 3 rfl rfl)
theorem dX0_part_72 : decode cX0_part 72 = .ok (.getstatic 78, 3) := dk_178 0 78 (dk_at dksX0_part_3 4 rfl rfl)
theorem dX0_part_75 : decode cX0_part 75 = .ok (.areturn, 1) := dk_176 (dk_at dksX0_part_3 7 rfl rfl)
abbrev cX0_live : ByteArray := prog_1_method_3_code
def yX0_live : MethodName := ⟨RX0, "live", "(LIslandHeap$Thing;)LIslandHeap$Marking;"⟩
def dkwX0_live_0 : List UInt8 := [187, 0, 36, 89, 42, 180, 0, 12, 42, 180, 0, 20, 17, 0, 200, 43, 183, 0, 38, 182, 0, 41, 176]
abbrev dktX0_live_0 : List UInt8 := dkwX0_live_0 ++ []
theorem dksX0_live_0 : cX0_live.data.toList.drop 0 = dktX0_live_0 := by decide +kernel
theorem dX0_live_0 : decode cX0_live 0 = .ok (.new 36, 3) := dk_187 0 36 (dk_at dksX0_live_0 0 rfl rfl)
theorem dX0_live_3 : decode cX0_live 3 = .ok (.dup, 1) := dk_89 (dk_at dksX0_live_0 3 rfl rfl)
theorem dX0_live_4 : decode cX0_live 4 = .ok (.aload_n 0, 1) := dk_42 (dk_at dksX0_live_0 4 rfl rfl)
theorem dX0_live_5 : decode cX0_live 5 = .ok (.getfield 12, 3) := dk_180 0 12 (dk_at dksX0_live_0 5 rfl rfl)
theorem dX0_live_8 : decode cX0_live 8 = .ok (.aload_n 0, 1) := dk_42 (dk_at dksX0_live_0 8 rfl rfl)
theorem dX0_live_9 : decode cX0_live 9 = .ok (.getfield 20, 3) := dk_180 0 20 (dk_at dksX0_live_0 9 rfl rfl)
theorem dX0_live_12 : decode cX0_live 12 = .ok (.sipush 200, 3) := dk_17 0 200 (dk_at dksX0_live_0 12 rfl rfl)
theorem dX0_live_15 : decode cX0_live 15 = .ok (.aload_n 1, 1) := dk_43 (dk_at dksX0_live_0 15 rfl rfl)
theorem dX0_live_16 : decode cX0_live 16 = .ok (.invokespecial 38, 3) := dk_183 0 38 (dk_at dksX0_live_0 16 rfl rfl)
theorem dX0_live_19 : decode cX0_live 19 = .ok (.invokevirtual 41, 3) := dk_182 0 41 (dk_at dksX0_live_0 19 rfl rfl)
theorem dX0_live_22 : decode cX0_live 22 = .ok (.areturn, 1) := dk_176 (dk_at dksX0_live_0 22 rfl rfl)
abbrev cX0_next : ByteArray := prog_1_method_8_code
def yX0_next : MethodName := ⟨RX0, "next", "(I)I"⟩
def dkwX0_next_3 : List UInt8 := [167, 255, 229, 2, 172]
abbrev dktX0_next_3 : List UInt8 := dkwX0_next_3 ++ []
def dkwX0_next_2 : List UInt8 := [180, 0, 97, 162, 0, 22, 42, 180, 0, 12, 29, 182, 0, 81, 198, 0, 5, 29, 172, 132, 3, 1]
abbrev dktX0_next_2 : List UInt8 := dkwX0_next_2 ++ dktX0_next_3
def dkwX0_next_1 : List UInt8 := [3, 167, 0, 14, 42, 180, 0, 12, 27, 182, 0, 81, 182, 0, 93, 61, 28, 62, 29, 42, 180, 0, 12]
abbrev dktX0_next_1 : List UInt8 := dkwX0_next_1 ++ dktX0_next_2
def dkwX0_next_0 : List UInt8 := [27, 2, 159, 0, 17, 42, 180, 0, 12, 27, 182, 0, 81, 199, 0, 6, 18, 49, 172, 27, 2, 160, 0, 7]
abbrev dktX0_next_0 : List UInt8 := dkwX0_next_0 ++ dktX0_next_1
theorem dksX0_next_0 : cX0_next.data.toList.drop 0 = dktX0_next_0 := by decide +kernel
theorem dksX0_next_1 : cX0_next.data.toList.drop 24 = dktX0_next_1 := dk_seg dksX0_next_0 24 rfl rfl
theorem dksX0_next_2 : cX0_next.data.toList.drop 47 = dktX0_next_2 := dk_seg dksX0_next_1 23 rfl rfl
theorem dksX0_next_3 : cX0_next.data.toList.drop 69 = dktX0_next_3 := dk_seg dksX0_next_2 22 rfl rfl
theorem dX0_next_0 : decode cX0_next 0 = .ok (.iload_n 1, 1) := dk_27 (dk_at dksX0_next_0 0 rfl rfl)
theorem dX0_next_1 : decode cX0_next 1 = .ok (.iconst (-1), 1) := dk_2 (dk_at dksX0_next_0 1 rfl rfl)
theorem dX0_next_2 : decode cX0_next 2 = .ok (.if_icmp .eq 17, 3) := dk_159 0 17 (dk_at dksX0_next_0 2 rfl rfl)
theorem dX0_next_5 : decode cX0_next 5 = .ok (.aload_n 0, 1) := dk_42 (dk_at dksX0_next_0 5 rfl rfl)
theorem dX0_next_6 : decode cX0_next 6 = .ok (.getfield 12, 3) := dk_180 0 12 (dk_at dksX0_next_0 6 rfl rfl)
theorem dX0_next_9 : decode cX0_next 9 = .ok (.iload_n 1, 1) := dk_27 (dk_at dksX0_next_0 9 rfl rfl)
theorem dX0_next_10 : decode cX0_next 10 = .ok (.invokevirtual 81, 3) := dk_182 0 81 (dk_at dksX0_next_0 10 rfl rfl)
theorem dX0_next_13 : decode cX0_next 13 = .ok (.ifnonnull 6, 3) := dk_199 0 6 (dk_at dksX0_next_0 13 rfl rfl)
theorem dX0_next_16 : decode cX0_next 16 = .ok (.ldc 49, 2) := dk_18 49 (dk_at dksX0_next_0 16 rfl rfl)
theorem dX0_next_18 : decode cX0_next 18 = .ok (.ireturn, 1) := dk_172 (dk_at dksX0_next_0 18 rfl rfl)
theorem dX0_next_19 : decode cX0_next 19 = .ok (.iload_n 1, 1) := dk_27 (dk_at dksX0_next_0 19 rfl rfl)
theorem dX0_next_20 : decode cX0_next 20 = .ok (.iconst (-1), 1) := dk_2 (dk_at dksX0_next_0 20 rfl rfl)
theorem dX0_next_21 : decode cX0_next 21 = .ok (.if_icmp .ne 7, 3) := dk_160 0 7 (dk_at dksX0_next_0 21 rfl rfl)
theorem dX0_next_24 : decode cX0_next 24 = .ok (.iconst 0, 1) := dk_3 (dk_at dksX0_next_1 0 rfl rfl)
theorem dX0_next_25 : decode cX0_next 25 = .ok (.goto 14, 3) := dk_167 0 14 (dk_at dksX0_next_1 1 rfl rfl)
theorem dX0_next_28 : decode cX0_next 28 = .ok (.aload_n 0, 1) := dk_42 (dk_at dksX0_next_1 4 rfl rfl)
theorem dX0_next_29 : decode cX0_next 29 = .ok (.getfield 12, 3) := dk_180 0 12 (dk_at dksX0_next_1 5 rfl rfl)
theorem dX0_next_32 : decode cX0_next 32 = .ok (.iload_n 1, 1) := dk_27 (dk_at dksX0_next_1 8 rfl rfl)
theorem dX0_next_33 : decode cX0_next 33 = .ok (.invokevirtual 81, 3) := dk_182 0 81 (dk_at dksX0_next_1 9 rfl rfl)
theorem dX0_next_36 : decode cX0_next 36 = .ok (.invokevirtual 93, 3) := dk_182 0 93 (dk_at dksX0_next_1 12 rfl rfl)
theorem dX0_next_39 : decode cX0_next 39 = .ok (.istore_n 2, 1) := dk_61 (dk_at dksX0_next_1 15 rfl rfl)
theorem dX0_next_40 : decode cX0_next 40 = .ok (.iload_n 2, 1) := dk_28 (dk_at dksX0_next_1 16 rfl rfl)
theorem dX0_next_41 : decode cX0_next 41 = .ok (.istore_n 3, 1) := dk_62 (dk_at dksX0_next_1 17 rfl rfl)
theorem dX0_next_42 : decode cX0_next 42 = .ok (.iload_n 3, 1) := dk_29 (dk_at dksX0_next_1 18 rfl rfl)
theorem dX0_next_43 : decode cX0_next 43 = .ok (.aload_n 0, 1) := dk_42 (dk_at dksX0_next_1 19 rfl rfl)
theorem dX0_next_44 : decode cX0_next 44 = .ok (.getfield 12, 3) := dk_180 0 12 (dk_at dksX0_next_1 20 rfl rfl)
theorem dX0_next_47 : decode cX0_next 47 = .ok (.getfield 97, 3) := dk_180 0 97 (dk_at dksX0_next_2 0 rfl rfl)
theorem dX0_next_50 : decode cX0_next 50 = .ok (.if_icmp .ge 22, 3) := dk_162 0 22 (dk_at dksX0_next_2 3 rfl rfl)
theorem dX0_next_53 : decode cX0_next 53 = .ok (.aload_n 0, 1) := dk_42 (dk_at dksX0_next_2 6 rfl rfl)
theorem dX0_next_54 : decode cX0_next 54 = .ok (.getfield 12, 3) := dk_180 0 12 (dk_at dksX0_next_2 7 rfl rfl)
theorem dX0_next_57 : decode cX0_next 57 = .ok (.iload_n 3, 1) := dk_29 (dk_at dksX0_next_2 10 rfl rfl)
theorem dX0_next_58 : decode cX0_next 58 = .ok (.invokevirtual 81, 3) := dk_182 0 81 (dk_at dksX0_next_2 11 rfl rfl)
theorem dX0_next_61 : decode cX0_next 61 = .ok (.ifnull 5, 3) := dk_198 0 5 (dk_at dksX0_next_2 14 rfl rfl)
theorem dX0_next_64 : decode cX0_next 64 = .ok (.iload_n 3, 1) := dk_29 (dk_at dksX0_next_2 17 rfl rfl)
theorem dX0_next_65 : decode cX0_next 65 = .ok (.ireturn, 1) := dk_172 (dk_at dksX0_next_2 18 rfl rfl)
theorem dX0_next_66 : decode cX0_next 66 = .ok (.iinc 3 1, 3) := dk_132 3 1 (dk_at dksX0_next_2 19 rfl rfl)
theorem dX0_next_69 : decode cX0_next 69 = .ok (.goto (-27), 3) := dk_167 255 229 (dk_at dksX0_next_3 0 rfl rfl)
theorem dX0_next_72 : decode cX0_next 72 = .ok (.iconst (-1), 1) := dk_2 (dk_at dksX0_next_3 3 rfl rfl)
theorem dX0_next_73 : decode cX0_next 73 = .ok (.ireturn, 1) := dk_172 (dk_at dksX0_next_3 4 rfl rfl)
abbrev cX0_setField : ByteArray := prog_1_method_10_code
def yX0_setField : MethodName := ⟨RX0, "setField", "(III)I"⟩
def dkwX0_setField_1 : List UInt8 := [29, 182, 0, 108, 153, 0, 16, 25, 4, 180, 0, 100, 28, 29, 184, 0, 112, 167, 0, 5, 18, 49, 172]
abbrev dktX0_setField_1 : List UInt8 := dkwX0_setField_1 ++ []
def dkwX0_setField_0 : List UInt8 := [42, 180, 0, 12, 27, 182, 0, 81, 58, 4, 42, 25, 4, 28, 182, 0, 104, 153, 0, 27, 42, 180, 0, 12]
abbrev dktX0_setField_0 : List UInt8 := dkwX0_setField_0 ++ dktX0_setField_1
theorem dksX0_setField_0 : cX0_setField.data.toList.drop 0 = dktX0_setField_0 := by decide +kernel
theorem dksX0_setField_1 : cX0_setField.data.toList.drop 24 = dktX0_setField_1 := dk_seg dksX0_setField_0 24 rfl rfl
theorem dX0_setField_0 : decode cX0_setField 0 = .ok (.aload_n 0, 1) := dk_42 (dk_at dksX0_setField_0 0 rfl rfl)
theorem dX0_setField_1 : decode cX0_setField 1 = .ok (.getfield 12, 3) := dk_180 0 12 (dk_at dksX0_setField_0 1 rfl rfl)
theorem dX0_setField_4 : decode cX0_setField 4 = .ok (.iload_n 1, 1) := dk_27 (dk_at dksX0_setField_0 4 rfl rfl)
theorem dX0_setField_5 : decode cX0_setField 5 = .ok (.invokevirtual 81, 3) := dk_182 0 81 (dk_at dksX0_setField_0 5 rfl rfl)
theorem dX0_setField_8 : decode cX0_setField 8 = .ok (.astore 4, 2) := dk_58 4 (dk_at dksX0_setField_0 8 rfl rfl)
theorem dX0_setField_10 : decode cX0_setField 10 = .ok (.aload_n 0, 1) := dk_42 (dk_at dksX0_setField_0 10 rfl rfl)
theorem dX0_setField_11 : decode cX0_setField 11 = .ok (.aload 4, 2) := dk_25 4 (dk_at dksX0_setField_0 11 rfl rfl)
theorem dX0_setField_13 : decode cX0_setField 13 = .ok (.iload_n 2, 1) := dk_28 (dk_at dksX0_setField_0 13 rfl rfl)
theorem dX0_setField_14 : decode cX0_setField 14 = .ok (.invokevirtual 104, 3) := dk_182 0 104 (dk_at dksX0_setField_0 14 rfl rfl)
theorem dX0_setField_17 : decode cX0_setField 17 = .ok (.ifCond .eq 27, 3) := dk_153 0 27 (dk_at dksX0_setField_0 17 rfl rfl)
theorem dX0_setField_20 : decode cX0_setField 20 = .ok (.aload_n 0, 1) := dk_42 (dk_at dksX0_setField_0 20 rfl rfl)
theorem dX0_setField_21 : decode cX0_setField 21 = .ok (.getfield 12, 3) := dk_180 0 12 (dk_at dksX0_setField_0 21 rfl rfl)
theorem dX0_setField_24 : decode cX0_setField 24 = .ok (.iload_n 3, 1) := dk_29 (dk_at dksX0_setField_1 0 rfl rfl)
theorem dX0_setField_25 : decode cX0_setField 25 = .ok (.invokevirtual 108, 3) := dk_182 0 108 (dk_at dksX0_setField_1 1 rfl rfl)
theorem dX0_setField_28 : decode cX0_setField 28 = .ok (.ifCond .eq 16, 3) := dk_153 0 16 (dk_at dksX0_setField_1 4 rfl rfl)
theorem dX0_setField_31 : decode cX0_setField 31 = .ok (.aload 4, 2) := dk_25 4 (dk_at dksX0_setField_1 7 rfl rfl)
theorem dX0_setField_33 : decode cX0_setField 33 = .ok (.getfield 100, 3) := dk_180 0 100 (dk_at dksX0_setField_1 9 rfl rfl)
theorem dX0_setField_36 : decode cX0_setField 36 = .ok (.iload_n 2, 1) := dk_28 (dk_at dksX0_setField_1 12 rfl rfl)
theorem dX0_setField_37 : decode cX0_setField 37 = .ok (.iload_n 3, 1) := dk_29 (dk_at dksX0_setField_1 13 rfl rfl)
theorem dX0_setField_38 : decode cX0_setField 38 = .ok (.invokestatic 112, 3) := dk_184 0 112 (dk_at dksX0_setField_1 14 rfl rfl)
theorem dX0_setField_41 : decode cX0_setField 41 = .ok (.goto 5, 3) := dk_167 0 5 (dk_at dksX0_setField_1 17 rfl rfl)
theorem dX0_setField_44 : decode cX0_setField 44 = .ok (.ldc 49, 2) := dk_18 49 (dk_at dksX0_setField_1 20 rfl rfl)
theorem dX0_setField_46 : decode cX0_setField 46 = .ok (.ireturn, 1) := dk_172 (dk_at dksX0_setField_1 22 rfl rfl)
abbrev cX0_hasField : ByteArray := prog_1_method_9_code
def yX0_hasField : MethodName := ⟨RX0, "hasField", "(LIslandHeap$Thing;I)Z"⟩
def dkwX0_hasField_1 : List UInt8 := [172]
abbrev dktX0_hasField_1 : List UInt8 := dkwX0_hasField_1 ++ []
def dkwX0_hasField_0 : List UInt8 := [43, 198, 0, 22, 28, 3, 43, 180, 0, 100, 190, 4, 100, 184, 0, 45, 153, 0, 7, 4, 167, 0, 4, 3]
abbrev dktX0_hasField_0 : List UInt8 := dkwX0_hasField_0 ++ dktX0_hasField_1
theorem dksX0_hasField_0 : cX0_hasField.data.toList.drop 0 = dktX0_hasField_0 := by decide +kernel
theorem dksX0_hasField_1 : cX0_hasField.data.toList.drop 24 = dktX0_hasField_1 := dk_seg dksX0_hasField_0 24 rfl rfl
theorem dX0_hasField_0 : decode cX0_hasField 0 = .ok (.aload_n 1, 1) := dk_43 (dk_at dksX0_hasField_0 0 rfl rfl)
theorem dX0_hasField_1 : decode cX0_hasField 1 = .ok (.ifnull 22, 3) := dk_198 0 22 (dk_at dksX0_hasField_0 1 rfl rfl)
theorem dX0_hasField_4 : decode cX0_hasField 4 = .ok (.iload_n 2, 1) := dk_28 (dk_at dksX0_hasField_0 4 rfl rfl)
theorem dX0_hasField_5 : decode cX0_hasField 5 = .ok (.iconst 0, 1) := dk_3 (dk_at dksX0_hasField_0 5 rfl rfl)
theorem dX0_hasField_6 : decode cX0_hasField 6 = .ok (.aload_n 1, 1) := dk_43 (dk_at dksX0_hasField_0 6 rfl rfl)
theorem dX0_hasField_7 : decode cX0_hasField 7 = .ok (.getfield 100, 3) := dk_180 0 100 (dk_at dksX0_hasField_0 7 rfl rfl)
theorem dX0_hasField_10 : decode cX0_hasField 10 = .ok (.arraylength, 1) := dk_190 (dk_at dksX0_hasField_0 10 rfl rfl)
theorem dX0_hasField_11 : decode cX0_hasField 11 = .ok (.iconst 1, 1) := dk_4 (dk_at dksX0_hasField_0 11 rfl rfl)
theorem dX0_hasField_12 : decode cX0_hasField 12 = .ok (.isub, 1) := dk_100 (dk_at dksX0_hasField_0 12 rfl rfl)
theorem dX0_hasField_13 : decode cX0_hasField 13 = .ok (.invokestatic 45, 3) := dk_184 0 45 (dk_at dksX0_hasField_0 13 rfl rfl)
theorem dX0_hasField_16 : decode cX0_hasField 16 = .ok (.ifCond .eq 7, 3) := dk_153 0 7 (dk_at dksX0_hasField_0 16 rfl rfl)
theorem dX0_hasField_19 : decode cX0_hasField 19 = .ok (.iconst 1, 1) := dk_4 (dk_at dksX0_hasField_0 19 rfl rfl)
theorem dX0_hasField_20 : decode cX0_hasField 20 = .ok (.goto 4, 3) := dk_167 0 4 (dk_at dksX0_hasField_0 20 rfl rfl)
theorem dX0_hasField_23 : decode cX0_hasField 23 = .ok (.iconst 0, 1) := dk_3 (dk_at dksX0_hasField_0 23 rfl rfl)
theorem dX0_hasField_24 : decode cX0_hasField 24 = .ok (.ireturn, 1) := dk_172 (dk_at dksX0_hasField_1 0 rfl rfl)
abbrev cX0_exchange : ByteArray := prog_1_method_11_code
def yX0_exchange : MethodName := ⟨RX0, "exchange", "([III)I"⟩
def dkwX0_exchange_0 : List UInt8 := [42, 27, 46, 62, 42, 27, 28, 79, 29, 172]
abbrev dktX0_exchange_0 : List UInt8 := dkwX0_exchange_0 ++ []
theorem dksX0_exchange_0 : cX0_exchange.data.toList.drop 0 = dktX0_exchange_0 := by decide +kernel
theorem dX0_exchange_0 : decode cX0_exchange 0 = .ok (.aload_n 0, 1) := dk_42 (dk_at dksX0_exchange_0 0 rfl rfl)
theorem dX0_exchange_1 : decode cX0_exchange 1 = .ok (.iload_n 1, 1) := dk_27 (dk_at dksX0_exchange_0 1 rfl rfl)
theorem dX0_exchange_2 : decode cX0_exchange 2 = .ok (.iaload, 1) := dk_46 (dk_at dksX0_exchange_0 2 rfl rfl)
theorem dX0_exchange_3 : decode cX0_exchange 3 = .ok (.istore_n 3, 1) := dk_62 (dk_at dksX0_exchange_0 3 rfl rfl)
theorem dX0_exchange_4 : decode cX0_exchange 4 = .ok (.aload_n 0, 1) := dk_42 (dk_at dksX0_exchange_0 4 rfl rfl)
theorem dX0_exchange_5 : decode cX0_exchange 5 = .ok (.iload_n 1, 1) := dk_27 (dk_at dksX0_exchange_0 5 rfl rfl)
theorem dX0_exchange_6 : decode cX0_exchange 6 = .ok (.iload_n 2, 1) := dk_28 (dk_at dksX0_exchange_0 6 rfl rfl)
theorem dX0_exchange_7 : decode cX0_exchange 7 = .ok (.iastore, 1) := dk_79 (dk_at dksX0_exchange_0 7 rfl rfl)
theorem dX0_exchange_8 : decode cX0_exchange 8 = .ok (.iload_n 3, 1) := dk_29 (dk_at dksX0_exchange_0 8 rfl rfl)
theorem dX0_exchange_9 : decode cX0_exchange 9 = .ok (.ireturn, 1) := dk_172 (dk_at dksX0_exchange_0 9 rfl rfl)
abbrev cX0_field : ByteArray := prog_1_method_12_code
def yX0_field : MethodName := ⟨RX0, "field", "(II)I"⟩
def dkwX0_field_1 : List UInt8 := [167, 0, 5, 18, 49, 172]
abbrev dktX0_field_1 : List UInt8 := dkwX0_field_1 ++ []
def dkwX0_field_0 : List UInt8 := [42, 180, 0, 12, 27, 182, 0, 81, 78, 42, 45, 28, 182, 0, 104, 153, 0, 12, 45, 180, 0, 100, 28, 46]
abbrev dktX0_field_0 : List UInt8 := dkwX0_field_0 ++ dktX0_field_1
theorem dksX0_field_0 : cX0_field.data.toList.drop 0 = dktX0_field_0 := by decide +kernel
theorem dksX0_field_1 : cX0_field.data.toList.drop 24 = dktX0_field_1 := dk_seg dksX0_field_0 24 rfl rfl
theorem dX0_field_0 : decode cX0_field 0 = .ok (.aload_n 0, 1) := dk_42 (dk_at dksX0_field_0 0 rfl rfl)
theorem dX0_field_1 : decode cX0_field 1 = .ok (.getfield 12, 3) := dk_180 0 12 (dk_at dksX0_field_0 1 rfl rfl)
theorem dX0_field_4 : decode cX0_field 4 = .ok (.iload_n 1, 1) := dk_27 (dk_at dksX0_field_0 4 rfl rfl)
theorem dX0_field_5 : decode cX0_field 5 = .ok (.invokevirtual 81, 3) := dk_182 0 81 (dk_at dksX0_field_0 5 rfl rfl)
theorem dX0_field_8 : decode cX0_field 8 = .ok (.astore_n 3, 1) := dk_78 (dk_at dksX0_field_0 8 rfl rfl)
theorem dX0_field_9 : decode cX0_field 9 = .ok (.aload_n 0, 1) := dk_42 (dk_at dksX0_field_0 9 rfl rfl)
theorem dX0_field_10 : decode cX0_field 10 = .ok (.aload_n 3, 1) := dk_45 (dk_at dksX0_field_0 10 rfl rfl)
theorem dX0_field_11 : decode cX0_field 11 = .ok (.iload_n 2, 1) := dk_28 (dk_at dksX0_field_0 11 rfl rfl)
theorem dX0_field_12 : decode cX0_field 12 = .ok (.invokevirtual 104, 3) := dk_182 0 104 (dk_at dksX0_field_0 12 rfl rfl)
theorem dX0_field_15 : decode cX0_field 15 = .ok (.ifCond .eq 12, 3) := dk_153 0 12 (dk_at dksX0_field_0 15 rfl rfl)
theorem dX0_field_18 : decode cX0_field 18 = .ok (.aload_n 3, 1) := dk_45 (dk_at dksX0_field_0 18 rfl rfl)
theorem dX0_field_19 : decode cX0_field 19 = .ok (.getfield 100, 3) := dk_180 0 100 (dk_at dksX0_field_0 19 rfl rfl)
theorem dX0_field_22 : decode cX0_field 22 = .ok (.iload_n 2, 1) := dk_28 (dk_at dksX0_field_0 22 rfl rfl)
theorem dX0_field_23 : decode cX0_field 23 = .ok (.iaload, 1) := dk_46 (dk_at dksX0_field_0 23 rfl rfl)
theorem dX0_field_24 : decode cX0_field 24 = .ok (.goto 5, 3) := dk_167 0 5 (dk_at dksX0_field_1 0 rfl rfl)
theorem dX0_field_27 : decode cX0_field 27 = .ok (.ldc 49, 2) := dk_18 49 (dk_at dksX0_field_1 3 rfl rfl)
theorem dX0_field_29 : decode cX0_field 29 = .ok (.ireturn, 1) := dk_172 (dk_at dksX0_field_1 5 rfl rfl)
abbrev cX0_setData : ByteArray := prog_1_method_14_code
def yX0_setData : MethodName := ⟨RX0, "setData", "(III)I"⟩
def dkwX0_setData_1 : List UInt8 := [18, 123, 184, 0, 45, 153, 0, 16, 25, 4, 180, 0, 116, 28, 29, 184, 0, 112, 167, 0, 5, 18, 49, 172]
abbrev dktX0_setData_1 : List UInt8 := dkwX0_setData_1 ++ []
def dkwX0_setData_0 : List UInt8 := [42, 180, 0, 12, 27, 182, 0, 81, 58, 4, 42, 25, 4, 28, 182, 0, 119, 153, 0, 27, 29, 18, 122]
abbrev dktX0_setData_0 : List UInt8 := dkwX0_setData_0 ++ dktX0_setData_1
theorem dksX0_setData_0 : cX0_setData.data.toList.drop 0 = dktX0_setData_0 := by decide +kernel
theorem dksX0_setData_1 : cX0_setData.data.toList.drop 23 = dktX0_setData_1 := dk_seg dksX0_setData_0 23 rfl rfl
theorem dX0_setData_0 : decode cX0_setData 0 = .ok (.aload_n 0, 1) := dk_42 (dk_at dksX0_setData_0 0 rfl rfl)
theorem dX0_setData_1 : decode cX0_setData 1 = .ok (.getfield 12, 3) := dk_180 0 12 (dk_at dksX0_setData_0 1 rfl rfl)
theorem dX0_setData_4 : decode cX0_setData 4 = .ok (.iload_n 1, 1) := dk_27 (dk_at dksX0_setData_0 4 rfl rfl)
theorem dX0_setData_5 : decode cX0_setData 5 = .ok (.invokevirtual 81, 3) := dk_182 0 81 (dk_at dksX0_setData_0 5 rfl rfl)
theorem dX0_setData_8 : decode cX0_setData 8 = .ok (.astore 4, 2) := dk_58 4 (dk_at dksX0_setData_0 8 rfl rfl)
theorem dX0_setData_10 : decode cX0_setData 10 = .ok (.aload_n 0, 1) := dk_42 (dk_at dksX0_setData_0 10 rfl rfl)
theorem dX0_setData_11 : decode cX0_setData 11 = .ok (.aload 4, 2) := dk_25 4 (dk_at dksX0_setData_0 11 rfl rfl)
theorem dX0_setData_13 : decode cX0_setData 13 = .ok (.iload_n 2, 1) := dk_28 (dk_at dksX0_setData_0 13 rfl rfl)
theorem dX0_setData_14 : decode cX0_setData 14 = .ok (.invokevirtual 119, 3) := dk_182 0 119 (dk_at dksX0_setData_0 14 rfl rfl)
theorem dX0_setData_17 : decode cX0_setData 17 = .ok (.ifCond .eq 27, 3) := dk_153 0 27 (dk_at dksX0_setData_0 17 rfl rfl)
theorem dX0_setData_20 : decode cX0_setData 20 = .ok (.iload_n 3, 1) := dk_29 (dk_at dksX0_setData_0 20 rfl rfl)
theorem dX0_setData_21 : decode cX0_setData 21 = .ok (.ldc 122, 2) := dk_18 122 (dk_at dksX0_setData_0 21 rfl rfl)
theorem dX0_setData_23 : decode cX0_setData 23 = .ok (.ldc 123, 2) := dk_18 123 (dk_at dksX0_setData_1 0 rfl rfl)
theorem dX0_setData_25 : decode cX0_setData 25 = .ok (.invokestatic 45, 3) := dk_184 0 45 (dk_at dksX0_setData_1 2 rfl rfl)
theorem dX0_setData_28 : decode cX0_setData 28 = .ok (.ifCond .eq 16, 3) := dk_153 0 16 (dk_at dksX0_setData_1 5 rfl rfl)
theorem dX0_setData_31 : decode cX0_setData 31 = .ok (.aload 4, 2) := dk_25 4 (dk_at dksX0_setData_1 8 rfl rfl)
theorem dX0_setData_33 : decode cX0_setData 33 = .ok (.getfield 116, 3) := dk_180 0 116 (dk_at dksX0_setData_1 10 rfl rfl)
theorem dX0_setData_36 : decode cX0_setData 36 = .ok (.iload_n 2, 1) := dk_28 (dk_at dksX0_setData_1 13 rfl rfl)
theorem dX0_setData_37 : decode cX0_setData 37 = .ok (.iload_n 3, 1) := dk_29 (dk_at dksX0_setData_1 14 rfl rfl)
theorem dX0_setData_38 : decode cX0_setData 38 = .ok (.invokestatic 112, 3) := dk_184 0 112 (dk_at dksX0_setData_1 15 rfl rfl)
theorem dX0_setData_41 : decode cX0_setData 41 = .ok (.goto 5, 3) := dk_167 0 5 (dk_at dksX0_setData_1 18 rfl rfl)
theorem dX0_setData_44 : decode cX0_setData 44 = .ok (.ldc 49, 2) := dk_18 49 (dk_at dksX0_setData_1 21 rfl rfl)
theorem dX0_setData_46 : decode cX0_setData 46 = .ok (.ireturn, 1) := dk_172 (dk_at dksX0_setData_1 23 rfl rfl)
abbrev cX0_hasData : ByteArray := prog_1_method_13_code
def yX0_hasData : MethodName := ⟨RX0, "hasData", "(LIslandHeap$Thing;I)Z"⟩
def dkwX0_hasData_1 : List UInt8 := [172]
abbrev dktX0_hasData_1 : List UInt8 := dkwX0_hasData_1 ++ []
def dkwX0_hasData_0 : List UInt8 := [43, 198, 0, 22, 28, 3, 43, 180, 0, 116, 190, 4, 100, 184, 0, 45, 153, 0, 7, 4, 167, 0, 4, 3]
abbrev dktX0_hasData_0 : List UInt8 := dkwX0_hasData_0 ++ dktX0_hasData_1
theorem dksX0_hasData_0 : cX0_hasData.data.toList.drop 0 = dktX0_hasData_0 := by decide +kernel
theorem dksX0_hasData_1 : cX0_hasData.data.toList.drop 24 = dktX0_hasData_1 := dk_seg dksX0_hasData_0 24 rfl rfl
theorem dX0_hasData_0 : decode cX0_hasData 0 = .ok (.aload_n 1, 1) := dk_43 (dk_at dksX0_hasData_0 0 rfl rfl)
theorem dX0_hasData_1 : decode cX0_hasData 1 = .ok (.ifnull 22, 3) := dk_198 0 22 (dk_at dksX0_hasData_0 1 rfl rfl)
theorem dX0_hasData_4 : decode cX0_hasData 4 = .ok (.iload_n 2, 1) := dk_28 (dk_at dksX0_hasData_0 4 rfl rfl)
theorem dX0_hasData_5 : decode cX0_hasData 5 = .ok (.iconst 0, 1) := dk_3 (dk_at dksX0_hasData_0 5 rfl rfl)
theorem dX0_hasData_6 : decode cX0_hasData 6 = .ok (.aload_n 1, 1) := dk_43 (dk_at dksX0_hasData_0 6 rfl rfl)
theorem dX0_hasData_7 : decode cX0_hasData 7 = .ok (.getfield 116, 3) := dk_180 0 116 (dk_at dksX0_hasData_0 7 rfl rfl)
theorem dX0_hasData_10 : decode cX0_hasData 10 = .ok (.arraylength, 1) := dk_190 (dk_at dksX0_hasData_0 10 rfl rfl)
theorem dX0_hasData_11 : decode cX0_hasData 11 = .ok (.iconst 1, 1) := dk_4 (dk_at dksX0_hasData_0 11 rfl rfl)
theorem dX0_hasData_12 : decode cX0_hasData 12 = .ok (.isub, 1) := dk_100 (dk_at dksX0_hasData_0 12 rfl rfl)
theorem dX0_hasData_13 : decode cX0_hasData 13 = .ok (.invokestatic 45, 3) := dk_184 0 45 (dk_at dksX0_hasData_0 13 rfl rfl)
theorem dX0_hasData_16 : decode cX0_hasData 16 = .ok (.ifCond .eq 7, 3) := dk_153 0 7 (dk_at dksX0_hasData_0 16 rfl rfl)
theorem dX0_hasData_19 : decode cX0_hasData 19 = .ok (.iconst 1, 1) := dk_4 (dk_at dksX0_hasData_0 19 rfl rfl)
theorem dX0_hasData_20 : decode cX0_hasData 20 = .ok (.goto 4, 3) := dk_167 0 4 (dk_at dksX0_hasData_0 20 rfl rfl)
theorem dX0_hasData_23 : decode cX0_hasData 23 = .ok (.iconst 0, 1) := dk_3 (dk_at dksX0_hasData_0 23 rfl rfl)
theorem dX0_hasData_24 : decode cX0_hasData 24 = .ok (.ireturn, 1) := dk_172 (dk_at dksX0_hasData_1 0 rfl rfl)
abbrev cX0_data : ByteArray := prog_1_method_15_code
def yX0_data : MethodName := ⟨RX0, "data", "(II)I"⟩
def dkwX0_data_1 : List UInt8 := [167, 0, 5, 18, 49, 172]
abbrev dktX0_data_1 : List UInt8 := dkwX0_data_1 ++ []
def dkwX0_data_0 : List UInt8 := [42, 180, 0, 12, 27, 182, 0, 81, 78, 42, 45, 28, 182, 0, 119, 153, 0, 12, 45, 180, 0, 116, 28, 46]
abbrev dktX0_data_0 : List UInt8 := dkwX0_data_0 ++ dktX0_data_1
theorem dksX0_data_0 : cX0_data.data.toList.drop 0 = dktX0_data_0 := by decide +kernel
theorem dksX0_data_1 : cX0_data.data.toList.drop 24 = dktX0_data_1 := dk_seg dksX0_data_0 24 rfl rfl
theorem dX0_data_0 : decode cX0_data 0 = .ok (.aload_n 0, 1) := dk_42 (dk_at dksX0_data_0 0 rfl rfl)
theorem dX0_data_1 : decode cX0_data 1 = .ok (.getfield 12, 3) := dk_180 0 12 (dk_at dksX0_data_0 1 rfl rfl)
theorem dX0_data_4 : decode cX0_data 4 = .ok (.iload_n 1, 1) := dk_27 (dk_at dksX0_data_0 4 rfl rfl)
theorem dX0_data_5 : decode cX0_data 5 = .ok (.invokevirtual 81, 3) := dk_182 0 81 (dk_at dksX0_data_0 5 rfl rfl)
theorem dX0_data_8 : decode cX0_data 8 = .ok (.astore_n 3, 1) := dk_78 (dk_at dksX0_data_0 8 rfl rfl)
theorem dX0_data_9 : decode cX0_data 9 = .ok (.aload_n 0, 1) := dk_42 (dk_at dksX0_data_0 9 rfl rfl)
theorem dX0_data_10 : decode cX0_data 10 = .ok (.aload_n 3, 1) := dk_45 (dk_at dksX0_data_0 10 rfl rfl)
theorem dX0_data_11 : decode cX0_data 11 = .ok (.iload_n 2, 1) := dk_28 (dk_at dksX0_data_0 11 rfl rfl)
theorem dX0_data_12 : decode cX0_data 12 = .ok (.invokevirtual 119, 3) := dk_182 0 119 (dk_at dksX0_data_0 12 rfl rfl)
theorem dX0_data_15 : decode cX0_data 15 = .ok (.ifCond .eq 12, 3) := dk_153 0 12 (dk_at dksX0_data_0 15 rfl rfl)
theorem dX0_data_18 : decode cX0_data 18 = .ok (.aload_n 3, 1) := dk_45 (dk_at dksX0_data_0 18 rfl rfl)
theorem dX0_data_19 : decode cX0_data 19 = .ok (.getfield 116, 3) := dk_180 0 116 (dk_at dksX0_data_0 19 rfl rfl)
theorem dX0_data_22 : decode cX0_data 22 = .ok (.iload_n 2, 1) := dk_28 (dk_at dksX0_data_0 22 rfl rfl)
theorem dX0_data_23 : decode cX0_data 23 = .ok (.iaload, 1) := dk_46 (dk_at dksX0_data_0 23 rfl rfl)
theorem dX0_data_24 : decode cX0_data 24 = .ok (.goto 5, 3) := dk_167 0 5 (dk_at dksX0_data_1 0 rfl rfl)
theorem dX0_data_27 : decode cX0_data 27 = .ok (.ldc 49, 2) := dk_18 49 (dk_at dksX0_data_1 3 rfl rfl)
theorem dX0_data_29 : decode cX0_data 29 = .ok (.ireturn, 1) := dk_172 (dk_at dksX0_data_1 5 rfl rfl)
abbrev cX0_pin : ByteArray := prog_1_method_16_code
def yX0_pin : MethodName := ⟨RX0, "pin", "(IZ)I"⟩
def dkwX0_pin_1 : List UInt8 := [18, 128, 172, 45, 28, 181, 0, 124, 42, 180, 0, 12, 182, 0, 129, 172]
abbrev dktX0_pin_1 : List UInt8 := dkwX0_pin_1 ++ []
def dkwX0_pin_0 : List UInt8 := [42, 180, 0, 12, 27, 182, 0, 81, 78, 45, 199, 0, 6, 18, 49, 172, 45, 180, 0, 124, 28, 160, 0, 6]
abbrev dktX0_pin_0 : List UInt8 := dkwX0_pin_0 ++ dktX0_pin_1
theorem dksX0_pin_0 : cX0_pin.data.toList.drop 0 = dktX0_pin_0 := by decide +kernel
theorem dksX0_pin_1 : cX0_pin.data.toList.drop 24 = dktX0_pin_1 := dk_seg dksX0_pin_0 24 rfl rfl
theorem dX0_pin_0 : decode cX0_pin 0 = .ok (.aload_n 0, 1) := dk_42 (dk_at dksX0_pin_0 0 rfl rfl)
theorem dX0_pin_1 : decode cX0_pin 1 = .ok (.getfield 12, 3) := dk_180 0 12 (dk_at dksX0_pin_0 1 rfl rfl)
theorem dX0_pin_4 : decode cX0_pin 4 = .ok (.iload_n 1, 1) := dk_27 (dk_at dksX0_pin_0 4 rfl rfl)
theorem dX0_pin_5 : decode cX0_pin 5 = .ok (.invokevirtual 81, 3) := dk_182 0 81 (dk_at dksX0_pin_0 5 rfl rfl)
theorem dX0_pin_8 : decode cX0_pin 8 = .ok (.astore_n 3, 1) := dk_78 (dk_at dksX0_pin_0 8 rfl rfl)
theorem dX0_pin_9 : decode cX0_pin 9 = .ok (.aload_n 3, 1) := dk_45 (dk_at dksX0_pin_0 9 rfl rfl)
theorem dX0_pin_10 : decode cX0_pin 10 = .ok (.ifnonnull 6, 3) := dk_199 0 6 (dk_at dksX0_pin_0 10 rfl rfl)
theorem dX0_pin_13 : decode cX0_pin 13 = .ok (.ldc 49, 2) := dk_18 49 (dk_at dksX0_pin_0 13 rfl rfl)
theorem dX0_pin_15 : decode cX0_pin 15 = .ok (.ireturn, 1) := dk_172 (dk_at dksX0_pin_0 15 rfl rfl)
theorem dX0_pin_16 : decode cX0_pin 16 = .ok (.aload_n 3, 1) := dk_45 (dk_at dksX0_pin_0 16 rfl rfl)
theorem dX0_pin_17 : decode cX0_pin 17 = .ok (.getfield 124, 3) := dk_180 0 124 (dk_at dksX0_pin_0 17 rfl rfl)
theorem dX0_pin_20 : decode cX0_pin 20 = .ok (.iload_n 2, 1) := dk_28 (dk_at dksX0_pin_0 20 rfl rfl)
theorem dX0_pin_21 : decode cX0_pin 21 = .ok (.if_icmp .ne 6, 3) := dk_160 0 6 (dk_at dksX0_pin_0 21 rfl rfl)
theorem dX0_pin_24 : decode cX0_pin 24 = .ok (.ldc 128, 2) := dk_18 128 (dk_at dksX0_pin_1 0 rfl rfl)
theorem dX0_pin_26 : decode cX0_pin 26 = .ok (.ireturn, 1) := dk_172 (dk_at dksX0_pin_1 2 rfl rfl)
theorem dX0_pin_27 : decode cX0_pin 27 = .ok (.aload_n 3, 1) := dk_45 (dk_at dksX0_pin_1 3 rfl rfl)
theorem dX0_pin_28 : decode cX0_pin 28 = .ok (.iload_n 2, 1) := dk_28 (dk_at dksX0_pin_1 4 rfl rfl)
theorem dX0_pin_29 : decode cX0_pin 29 = .ok (.putfield 124, 3) := dk_181 0 124 (dk_at dksX0_pin_1 5 rfl rfl)
theorem dX0_pin_32 : decode cX0_pin 32 = .ok (.aload_n 0, 1) := dk_42 (dk_at dksX0_pin_1 8 rfl rfl)
theorem dX0_pin_33 : decode cX0_pin 33 = .ok (.getfield 12, 3) := dk_180 0 12 (dk_at dksX0_pin_1 9 rfl rfl)
theorem dX0_pin_36 : decode cX0_pin 36 = .ok (.invokevirtual 129, 3) := dk_182 0 129 (dk_at dksX0_pin_1 12 rfl rfl)
theorem dX0_pin_39 : decode cX0_pin 39 = .ok (.ireturn, 1) := dk_172 (dk_at dksX0_pin_1 15 rfl rfl)
abbrev cX0_setRoot : ByteArray := prog_1_method_17_code
def yX0_setRoot : MethodName := ⟨RX0, "setRoot", "(II)I"⟩
def dkwX0_setRoot_1 : List UInt8 := [180, 0, 132, 27, 28, 184, 0, 112, 167, 0, 5, 18, 49, 172]
abbrev dktX0_setRoot_1 : List UInt8 := dkwX0_setRoot_1 ++ []
def dkwX0_setRoot_0 : List UInt8 := [27, 3, 8, 184, 0, 45, 153, 0, 29, 42, 180, 0, 12, 28, 182, 0, 108, 153, 0, 18, 42, 180, 0, 12]
abbrev dktX0_setRoot_0 : List UInt8 := dkwX0_setRoot_0 ++ dktX0_setRoot_1
theorem dksX0_setRoot_0 : cX0_setRoot.data.toList.drop 0 = dktX0_setRoot_0 := by decide +kernel
theorem dksX0_setRoot_1 : cX0_setRoot.data.toList.drop 24 = dktX0_setRoot_1 := dk_seg dksX0_setRoot_0 24 rfl rfl
theorem dX0_setRoot_0 : decode cX0_setRoot 0 = .ok (.iload_n 1, 1) := dk_27 (dk_at dksX0_setRoot_0 0 rfl rfl)
theorem dX0_setRoot_1 : decode cX0_setRoot 1 = .ok (.iconst 0, 1) := dk_3 (dk_at dksX0_setRoot_0 1 rfl rfl)
theorem dX0_setRoot_2 : decode cX0_setRoot 2 = .ok (.iconst 5, 1) := dk_8 (dk_at dksX0_setRoot_0 2 rfl rfl)
theorem dX0_setRoot_3 : decode cX0_setRoot 3 = .ok (.invokestatic 45, 3) := dk_184 0 45 (dk_at dksX0_setRoot_0 3 rfl rfl)
theorem dX0_setRoot_6 : decode cX0_setRoot 6 = .ok (.ifCond .eq 29, 3) := dk_153 0 29 (dk_at dksX0_setRoot_0 6 rfl rfl)
theorem dX0_setRoot_9 : decode cX0_setRoot 9 = .ok (.aload_n 0, 1) := dk_42 (dk_at dksX0_setRoot_0 9 rfl rfl)
theorem dX0_setRoot_10 : decode cX0_setRoot 10 = .ok (.getfield 12, 3) := dk_180 0 12 (dk_at dksX0_setRoot_0 10 rfl rfl)
theorem dX0_setRoot_13 : decode cX0_setRoot 13 = .ok (.iload_n 2, 1) := dk_28 (dk_at dksX0_setRoot_0 13 rfl rfl)
theorem dX0_setRoot_14 : decode cX0_setRoot 14 = .ok (.invokevirtual 108, 3) := dk_182 0 108 (dk_at dksX0_setRoot_0 14 rfl rfl)
theorem dX0_setRoot_17 : decode cX0_setRoot 17 = .ok (.ifCond .eq 18, 3) := dk_153 0 18 (dk_at dksX0_setRoot_0 17 rfl rfl)
theorem dX0_setRoot_20 : decode cX0_setRoot 20 = .ok (.aload_n 0, 1) := dk_42 (dk_at dksX0_setRoot_0 20 rfl rfl)
theorem dX0_setRoot_21 : decode cX0_setRoot 21 = .ok (.getfield 12, 3) := dk_180 0 12 (dk_at dksX0_setRoot_0 21 rfl rfl)
theorem dX0_setRoot_24 : decode cX0_setRoot 24 = .ok (.getfield 132, 3) := dk_180 0 132 (dk_at dksX0_setRoot_1 0 rfl rfl)
theorem dX0_setRoot_27 : decode cX0_setRoot 27 = .ok (.iload_n 1, 1) := dk_27 (dk_at dksX0_setRoot_1 3 rfl rfl)
theorem dX0_setRoot_28 : decode cX0_setRoot 28 = .ok (.iload_n 2, 1) := dk_28 (dk_at dksX0_setRoot_1 4 rfl rfl)
theorem dX0_setRoot_29 : decode cX0_setRoot 29 = .ok (.invokestatic 112, 3) := dk_184 0 112 (dk_at dksX0_setRoot_1 5 rfl rfl)
theorem dX0_setRoot_32 : decode cX0_setRoot 32 = .ok (.goto 5, 3) := dk_167 0 5 (dk_at dksX0_setRoot_1 8 rfl rfl)
theorem dX0_setRoot_35 : decode cX0_setRoot 35 = .ok (.ldc 49, 2) := dk_18 49 (dk_at dksX0_setRoot_1 11 rfl rfl)
theorem dX0_setRoot_37 : decode cX0_setRoot 37 = .ok (.ireturn, 1) := dk_172 (dk_at dksX0_setRoot_1 13 rfl rfl)
abbrev cX0_root : ByteArray := prog_1_method_18_code
def yX0_root : MethodName := ⟨RX0, "root", "(I)I"⟩
def dkwX0_root_0 : List UInt8 := [27, 3, 8, 184, 0, 45, 153, 0, 15, 42, 180, 0, 12, 180, 0, 132, 27, 46, 167, 0, 5, 18, 49, 172]
abbrev dktX0_root_0 : List UInt8 := dkwX0_root_0 ++ []
theorem dksX0_root_0 : cX0_root.data.toList.drop 0 = dktX0_root_0 := by decide +kernel
theorem dX0_root_0 : decode cX0_root 0 = .ok (.iload_n 1, 1) := dk_27 (dk_at dksX0_root_0 0 rfl rfl)
theorem dX0_root_1 : decode cX0_root 1 = .ok (.iconst 0, 1) := dk_3 (dk_at dksX0_root_0 1 rfl rfl)
theorem dX0_root_2 : decode cX0_root 2 = .ok (.iconst 5, 1) := dk_8 (dk_at dksX0_root_0 2 rfl rfl)
theorem dX0_root_3 : decode cX0_root 3 = .ok (.invokestatic 45, 3) := dk_184 0 45 (dk_at dksX0_root_0 3 rfl rfl)
theorem dX0_root_6 : decode cX0_root 6 = .ok (.ifCond .eq 15, 3) := dk_153 0 15 (dk_at dksX0_root_0 6 rfl rfl)
theorem dX0_root_9 : decode cX0_root 9 = .ok (.aload_n 0, 1) := dk_42 (dk_at dksX0_root_0 9 rfl rfl)
theorem dX0_root_10 : decode cX0_root 10 = .ok (.getfield 12, 3) := dk_180 0 12 (dk_at dksX0_root_0 10 rfl rfl)
theorem dX0_root_13 : decode cX0_root 13 = .ok (.getfield 132, 3) := dk_180 0 132 (dk_at dksX0_root_0 13 rfl rfl)
theorem dX0_root_16 : decode cX0_root 16 = .ok (.iload_n 1, 1) := dk_27 (dk_at dksX0_root_0 16 rfl rfl)
theorem dX0_root_17 : decode cX0_root 17 = .ok (.iaload, 1) := dk_46 (dk_at dksX0_root_0 17 rfl rfl)
theorem dX0_root_18 : decode cX0_root 18 = .ok (.goto 5, 3) := dk_167 0 5 (dk_at dksX0_root_0 18 rfl rfl)
theorem dX0_root_21 : decode cX0_root 21 = .ok (.ldc 49, 2) := dk_18 49 (dk_at dksX0_root_0 21 rfl rfl)
theorem dX0_root_23 : decode cX0_root 23 = .ok (.ireturn, 1) := dk_172 (dk_at dksX0_root_0 23 rfl rfl)
abbrev cX0_setWeak : ByteArray := prog_1_method_19_code
def yX0_setWeak : MethodName := ⟨RX0, "setWeak", "(II)I"⟩
def dkwX0_setWeak_1 : List UInt8 := [180, 0, 135, 27, 28, 184, 0, 112, 167, 0, 5, 18, 49, 172]
abbrev dktX0_setWeak_1 : List UInt8 := dkwX0_setWeak_1 ++ []
def dkwX0_setWeak_0 : List UInt8 := [27, 3, 6, 184, 0, 45, 153, 0, 29, 42, 180, 0, 12, 28, 182, 0, 108, 153, 0, 18, 42, 180, 0, 12]
abbrev dktX0_setWeak_0 : List UInt8 := dkwX0_setWeak_0 ++ dktX0_setWeak_1
theorem dksX0_setWeak_0 : cX0_setWeak.data.toList.drop 0 = dktX0_setWeak_0 := by decide +kernel
theorem dksX0_setWeak_1 : cX0_setWeak.data.toList.drop 24 = dktX0_setWeak_1 := dk_seg dksX0_setWeak_0 24 rfl rfl
theorem dX0_setWeak_0 : decode cX0_setWeak 0 = .ok (.iload_n 1, 1) := dk_27 (dk_at dksX0_setWeak_0 0 rfl rfl)
theorem dX0_setWeak_1 : decode cX0_setWeak 1 = .ok (.iconst 0, 1) := dk_3 (dk_at dksX0_setWeak_0 1 rfl rfl)
theorem dX0_setWeak_2 : decode cX0_setWeak 2 = .ok (.iconst 3, 1) := dk_6 (dk_at dksX0_setWeak_0 2 rfl rfl)
theorem dX0_setWeak_3 : decode cX0_setWeak 3 = .ok (.invokestatic 45, 3) := dk_184 0 45 (dk_at dksX0_setWeak_0 3 rfl rfl)
theorem dX0_setWeak_6 : decode cX0_setWeak 6 = .ok (.ifCond .eq 29, 3) := dk_153 0 29 (dk_at dksX0_setWeak_0 6 rfl rfl)
theorem dX0_setWeak_9 : decode cX0_setWeak 9 = .ok (.aload_n 0, 1) := dk_42 (dk_at dksX0_setWeak_0 9 rfl rfl)
theorem dX0_setWeak_10 : decode cX0_setWeak 10 = .ok (.getfield 12, 3) := dk_180 0 12 (dk_at dksX0_setWeak_0 10 rfl rfl)
theorem dX0_setWeak_13 : decode cX0_setWeak 13 = .ok (.iload_n 2, 1) := dk_28 (dk_at dksX0_setWeak_0 13 rfl rfl)
theorem dX0_setWeak_14 : decode cX0_setWeak 14 = .ok (.invokevirtual 108, 3) := dk_182 0 108 (dk_at dksX0_setWeak_0 14 rfl rfl)
theorem dX0_setWeak_17 : decode cX0_setWeak 17 = .ok (.ifCond .eq 18, 3) := dk_153 0 18 (dk_at dksX0_setWeak_0 17 rfl rfl)
theorem dX0_setWeak_20 : decode cX0_setWeak 20 = .ok (.aload_n 0, 1) := dk_42 (dk_at dksX0_setWeak_0 20 rfl rfl)
theorem dX0_setWeak_21 : decode cX0_setWeak 21 = .ok (.getfield 12, 3) := dk_180 0 12 (dk_at dksX0_setWeak_0 21 rfl rfl)
theorem dX0_setWeak_24 : decode cX0_setWeak 24 = .ok (.getfield 135, 3) := dk_180 0 135 (dk_at dksX0_setWeak_1 0 rfl rfl)
theorem dX0_setWeak_27 : decode cX0_setWeak 27 = .ok (.iload_n 1, 1) := dk_27 (dk_at dksX0_setWeak_1 3 rfl rfl)
theorem dX0_setWeak_28 : decode cX0_setWeak 28 = .ok (.iload_n 2, 1) := dk_28 (dk_at dksX0_setWeak_1 4 rfl rfl)
theorem dX0_setWeak_29 : decode cX0_setWeak 29 = .ok (.invokestatic 112, 3) := dk_184 0 112 (dk_at dksX0_setWeak_1 5 rfl rfl)
theorem dX0_setWeak_32 : decode cX0_setWeak 32 = .ok (.goto 5, 3) := dk_167 0 5 (dk_at dksX0_setWeak_1 8 rfl rfl)
theorem dX0_setWeak_35 : decode cX0_setWeak 35 = .ok (.ldc 49, 2) := dk_18 49 (dk_at dksX0_setWeak_1 11 rfl rfl)
theorem dX0_setWeak_37 : decode cX0_setWeak 37 = .ok (.ireturn, 1) := dk_172 (dk_at dksX0_setWeak_1 13 rfl rfl)
abbrev cX0_weak : ByteArray := prog_1_method_20_code
def yX0_weak : MethodName := ⟨RX0, "weak", "(I)I"⟩
def dkwX0_weak_0 : List UInt8 := [27, 3, 6, 184, 0, 45, 153, 0, 15, 42, 180, 0, 12, 180, 0, 135, 27, 46, 167, 0, 5, 18, 49, 172]
abbrev dktX0_weak_0 : List UInt8 := dkwX0_weak_0 ++ []
theorem dksX0_weak_0 : cX0_weak.data.toList.drop 0 = dktX0_weak_0 := by decide +kernel
theorem dX0_weak_0 : decode cX0_weak 0 = .ok (.iload_n 1, 1) := dk_27 (dk_at dksX0_weak_0 0 rfl rfl)
theorem dX0_weak_1 : decode cX0_weak 1 = .ok (.iconst 0, 1) := dk_3 (dk_at dksX0_weak_0 1 rfl rfl)
theorem dX0_weak_2 : decode cX0_weak 2 = .ok (.iconst 3, 1) := dk_6 (dk_at dksX0_weak_0 2 rfl rfl)
theorem dX0_weak_3 : decode cX0_weak 3 = .ok (.invokestatic 45, 3) := dk_184 0 45 (dk_at dksX0_weak_0 3 rfl rfl)
theorem dX0_weak_6 : decode cX0_weak 6 = .ok (.ifCond .eq 15, 3) := dk_153 0 15 (dk_at dksX0_weak_0 6 rfl rfl)
theorem dX0_weak_9 : decode cX0_weak 9 = .ok (.aload_n 0, 1) := dk_42 (dk_at dksX0_weak_0 9 rfl rfl)
theorem dX0_weak_10 : decode cX0_weak 10 = .ok (.getfield 12, 3) := dk_180 0 12 (dk_at dksX0_weak_0 10 rfl rfl)
theorem dX0_weak_13 : decode cX0_weak 13 = .ok (.getfield 135, 3) := dk_180 0 135 (dk_at dksX0_weak_0 13 rfl rfl)
theorem dX0_weak_16 : decode cX0_weak 16 = .ok (.iload_n 1, 1) := dk_27 (dk_at dksX0_weak_0 16 rfl rfl)
theorem dX0_weak_17 : decode cX0_weak 17 = .ok (.iaload, 1) := dk_46 (dk_at dksX0_weak_0 17 rfl rfl)
theorem dX0_weak_18 : decode cX0_weak 18 = .ok (.goto 5, 3) := dk_167 0 5 (dk_at dksX0_weak_0 18 rfl rfl)
theorem dX0_weak_21 : decode cX0_weak 21 = .ok (.ldc 49, 2) := dk_18 49 (dk_at dksX0_weak_0 21 rfl rfl)
theorem dX0_weak_23 : decode cX0_weak 23 = .ok (.ireturn, 1) := dk_172 (dk_at dksX0_weak_0 23 rfl rfl)
abbrev cX0_collect : ByteArray := prog_1_method_21_code
def yX0_collect : MethodName := ⟨RX0, "collect", "()I"⟩
def dkwX0_collect_4 : List UInt8 := [181, 0, 163, 29, 172]
abbrev dktX0_collect_4 : List UInt8 := dkwX0_collect_4 ++ []
def dkwX0_collect_3 : List UInt8 := [180, 0, 12, 89, 180, 0, 160, 4, 96, 181, 0, 160, 42, 180, 0, 12, 89, 180, 0, 163, 29, 96]
abbrev dktX0_collect_3 : List UInt8 := dkwX0_collect_3 ++ dktX0_collect_4
def dkwX0_collect_2 : List UInt8 := [180, 0, 148, 181, 0, 151, 42, 180, 0, 12, 44, 182, 0, 152, 62, 42, 180, 0, 12, 44, 181, 0, 156, 42]
abbrev dktX0_collect_2 : List UInt8 := dkwX0_collect_2 ++ dktX0_collect_3
def dkwX0_collect_1 : List UInt8 := [182, 0, 41, 76, 187, 0, 141, 89, 183, 0, 143, 77, 44, 43, 180, 0, 144, 181, 0, 147, 44, 43]
abbrev dktX0_collect_1 : List UInt8 := dkwX0_collect_1 ++ dktX0_collect_2
def dkwX0_collect_0 : List UInt8 := [187, 0, 36, 89, 42, 180, 0, 12, 42, 180, 0, 20, 42, 180, 0, 12, 180, 0, 138, 1, 183, 0, 38]
abbrev dktX0_collect_0 : List UInt8 := dkwX0_collect_0 ++ dktX0_collect_1
theorem dksX0_collect_0 : cX0_collect.data.toList.drop 0 = dktX0_collect_0 := by decide +kernel
theorem dksX0_collect_1 : cX0_collect.data.toList.drop 23 = dktX0_collect_1 := dk_seg dksX0_collect_0 23 rfl rfl
theorem dksX0_collect_2 : cX0_collect.data.toList.drop 45 = dktX0_collect_2 := dk_seg dksX0_collect_1 22 rfl rfl
theorem dksX0_collect_3 : cX0_collect.data.toList.drop 69 = dktX0_collect_3 := dk_seg dksX0_collect_2 24 rfl rfl
theorem dksX0_collect_4 : cX0_collect.data.toList.drop 91 = dktX0_collect_4 := dk_seg dksX0_collect_3 22 rfl rfl
theorem dX0_collect_0 : decode cX0_collect 0 = .ok (.new 36, 3) := dk_187 0 36 (dk_at dksX0_collect_0 0 rfl rfl)
theorem dX0_collect_3 : decode cX0_collect 3 = .ok (.dup, 1) := dk_89 (dk_at dksX0_collect_0 3 rfl rfl)
theorem dX0_collect_4 : decode cX0_collect 4 = .ok (.aload_n 0, 1) := dk_42 (dk_at dksX0_collect_0 4 rfl rfl)
theorem dX0_collect_5 : decode cX0_collect 5 = .ok (.getfield 12, 3) := dk_180 0 12 (dk_at dksX0_collect_0 5 rfl rfl)
theorem dX0_collect_8 : decode cX0_collect 8 = .ok (.aload_n 0, 1) := dk_42 (dk_at dksX0_collect_0 8 rfl rfl)
theorem dX0_collect_9 : decode cX0_collect 9 = .ok (.getfield 20, 3) := dk_180 0 20 (dk_at dksX0_collect_0 9 rfl rfl)
theorem dX0_collect_12 : decode cX0_collect 12 = .ok (.aload_n 0, 1) := dk_42 (dk_at dksX0_collect_0 12 rfl rfl)
theorem dX0_collect_13 : decode cX0_collect 13 = .ok (.getfield 12, 3) := dk_180 0 12 (dk_at dksX0_collect_0 13 rfl rfl)
theorem dX0_collect_16 : decode cX0_collect 16 = .ok (.getfield 138, 3) := dk_180 0 138 (dk_at dksX0_collect_0 16 rfl rfl)
theorem dX0_collect_19 : decode cX0_collect 19 = .ok (.aconst_null, 1) := dk_1 (dk_at dksX0_collect_0 19 rfl rfl)
theorem dX0_collect_20 : decode cX0_collect 20 = .ok (.invokespecial 38, 3) := dk_183 0 38 (dk_at dksX0_collect_0 20 rfl rfl)
theorem dX0_collect_23 : decode cX0_collect 23 = .ok (.invokevirtual 41, 3) := dk_182 0 41 (dk_at dksX0_collect_1 0 rfl rfl)
theorem dX0_collect_26 : decode cX0_collect 26 = .ok (.astore_n 1, 1) := dk_76 (dk_at dksX0_collect_1 3 rfl rfl)
theorem dX0_collect_27 : decode cX0_collect 27 = .ok (.new 141, 3) := dk_187 0 141 (dk_at dksX0_collect_1 4 rfl rfl)
theorem dX0_collect_30 : decode cX0_collect 30 = .ok (.dup, 1) := dk_89 (dk_at dksX0_collect_1 7 rfl rfl)
theorem dX0_collect_31 : decode cX0_collect 31 = .ok (.invokespecial 143, 3) := dk_183 0 143 (dk_at dksX0_collect_1 8 rfl rfl)
theorem dX0_collect_34 : decode cX0_collect 34 = .ok (.astore_n 2, 1) := dk_77 (dk_at dksX0_collect_1 11 rfl rfl)
theorem dX0_collect_35 : decode cX0_collect 35 = .ok (.aload_n 2, 1) := dk_44 (dk_at dksX0_collect_1 12 rfl rfl)
theorem dX0_collect_36 : decode cX0_collect 36 = .ok (.aload_n 1, 1) := dk_43 (dk_at dksX0_collect_1 13 rfl rfl)
theorem dX0_collect_37 : decode cX0_collect 37 = .ok (.getfield 144, 3) := dk_180 0 144 (dk_at dksX0_collect_1 14 rfl rfl)
theorem dX0_collect_40 : decode cX0_collect 40 = .ok (.putfield 147, 3) := dk_181 0 147 (dk_at dksX0_collect_1 17 rfl rfl)
theorem dX0_collect_43 : decode cX0_collect 43 = .ok (.aload_n 2, 1) := dk_44 (dk_at dksX0_collect_1 20 rfl rfl)
theorem dX0_collect_44 : decode cX0_collect 44 = .ok (.aload_n 1, 1) := dk_43 (dk_at dksX0_collect_1 21 rfl rfl)
theorem dX0_collect_45 : decode cX0_collect 45 = .ok (.getfield 148, 3) := dk_180 0 148 (dk_at dksX0_collect_2 0 rfl rfl)
theorem dX0_collect_48 : decode cX0_collect 48 = .ok (.putfield 151, 3) := dk_181 0 151 (dk_at dksX0_collect_2 3 rfl rfl)
theorem dX0_collect_51 : decode cX0_collect 51 = .ok (.aload_n 0, 1) := dk_42 (dk_at dksX0_collect_2 6 rfl rfl)
theorem dX0_collect_52 : decode cX0_collect 52 = .ok (.getfield 12, 3) := dk_180 0 12 (dk_at dksX0_collect_2 7 rfl rfl)
theorem dX0_collect_55 : decode cX0_collect 55 = .ok (.aload_n 2, 1) := dk_44 (dk_at dksX0_collect_2 10 rfl rfl)
theorem dX0_collect_56 : decode cX0_collect 56 = .ok (.invokevirtual 152, 3) := dk_182 0 152 (dk_at dksX0_collect_2 11 rfl rfl)
theorem dX0_collect_59 : decode cX0_collect 59 = .ok (.istore_n 3, 1) := dk_62 (dk_at dksX0_collect_2 14 rfl rfl)
theorem dX0_collect_60 : decode cX0_collect 60 = .ok (.aload_n 0, 1) := dk_42 (dk_at dksX0_collect_2 15 rfl rfl)
theorem dX0_collect_61 : decode cX0_collect 61 = .ok (.getfield 12, 3) := dk_180 0 12 (dk_at dksX0_collect_2 16 rfl rfl)
theorem dX0_collect_64 : decode cX0_collect 64 = .ok (.aload_n 2, 1) := dk_44 (dk_at dksX0_collect_2 19 rfl rfl)
theorem dX0_collect_65 : decode cX0_collect 65 = .ok (.putfield 156, 3) := dk_181 0 156 (dk_at dksX0_collect_2 20 rfl rfl)
theorem dX0_collect_68 : decode cX0_collect 68 = .ok (.aload_n 0, 1) := dk_42 (dk_at dksX0_collect_2 23 rfl rfl)
theorem dX0_collect_69 : decode cX0_collect 69 = .ok (.getfield 12, 3) := dk_180 0 12 (dk_at dksX0_collect_3 0 rfl rfl)
theorem dX0_collect_72 : decode cX0_collect 72 = .ok (.dup, 1) := dk_89 (dk_at dksX0_collect_3 3 rfl rfl)
theorem dX0_collect_73 : decode cX0_collect 73 = .ok (.getfield 160, 3) := dk_180 0 160 (dk_at dksX0_collect_3 4 rfl rfl)
theorem dX0_collect_76 : decode cX0_collect 76 = .ok (.iconst 1, 1) := dk_4 (dk_at dksX0_collect_3 7 rfl rfl)
theorem dX0_collect_77 : decode cX0_collect 77 = .ok (.iadd, 1) := dk_96 (dk_at dksX0_collect_3 8 rfl rfl)
theorem dX0_collect_78 : decode cX0_collect 78 = .ok (.putfield 160, 3) := dk_181 0 160 (dk_at dksX0_collect_3 9 rfl rfl)
theorem dX0_collect_81 : decode cX0_collect 81 = .ok (.aload_n 0, 1) := dk_42 (dk_at dksX0_collect_3 12 rfl rfl)
theorem dX0_collect_82 : decode cX0_collect 82 = .ok (.getfield 12, 3) := dk_180 0 12 (dk_at dksX0_collect_3 13 rfl rfl)
theorem dX0_collect_85 : decode cX0_collect 85 = .ok (.dup, 1) := dk_89 (dk_at dksX0_collect_3 16 rfl rfl)
theorem dX0_collect_86 : decode cX0_collect 86 = .ok (.getfield 163, 3) := dk_180 0 163 (dk_at dksX0_collect_3 17 rfl rfl)
theorem dX0_collect_89 : decode cX0_collect 89 = .ok (.iload_n 3, 1) := dk_29 (dk_at dksX0_collect_3 20 rfl rfl)
theorem dX0_collect_90 : decode cX0_collect 90 = .ok (.iadd, 1) := dk_96 (dk_at dksX0_collect_3 21 rfl rfl)
theorem dX0_collect_91 : decode cX0_collect 91 = .ok (.putfield 163, 3) := dk_181 0 163 (dk_at dksX0_collect_4 0 rfl rfl)
theorem dX0_collect_94 : decode cX0_collect 94 = .ok (.iload_n 3, 1) := dk_29 (dk_at dksX0_collect_4 3 rfl rfl)
theorem dX0_collect_95 : decode cX0_collect 95 = .ok (.ireturn, 1) := dk_172 (dk_at dksX0_collect_4 4 rfl rfl)
abbrev cX0_moved : ByteArray := prog_1_method_22_code
def yX0_moved : MethodName := ⟨RX0, "moved", "(I)I"⟩
def dkwX0_moved_1 : List UInt8 := [18, 128, 167, 0, 12, 42, 180, 0, 12, 180, 0, 169, 27, 46, 172]
abbrev dktX0_moved_1 : List UInt8 := dkwX0_moved_1 ++ []
def dkwX0_moved_0 : List UInt8 := [42, 180, 0, 12, 27, 182, 0, 166, 154, 0, 6, 18, 49, 172, 42, 180, 0, 12, 180, 0, 156, 199, 0, 8]
abbrev dktX0_moved_0 : List UInt8 := dkwX0_moved_0 ++ dktX0_moved_1
theorem dksX0_moved_0 : cX0_moved.data.toList.drop 0 = dktX0_moved_0 := by decide +kernel
theorem dksX0_moved_1 : cX0_moved.data.toList.drop 24 = dktX0_moved_1 := dk_seg dksX0_moved_0 24 rfl rfl
theorem dX0_moved_0 : decode cX0_moved 0 = .ok (.aload_n 0, 1) := dk_42 (dk_at dksX0_moved_0 0 rfl rfl)
theorem dX0_moved_1 : decode cX0_moved 1 = .ok (.getfield 12, 3) := dk_180 0 12 (dk_at dksX0_moved_0 1 rfl rfl)
theorem dX0_moved_4 : decode cX0_moved 4 = .ok (.iload_n 1, 1) := dk_27 (dk_at dksX0_moved_0 4 rfl rfl)
theorem dX0_moved_5 : decode cX0_moved 5 = .ok (.invokevirtual 166, 3) := dk_182 0 166 (dk_at dksX0_moved_0 5 rfl rfl)
theorem dX0_moved_8 : decode cX0_moved 8 = .ok (.ifCond .ne 6, 3) := dk_154 0 6 (dk_at dksX0_moved_0 8 rfl rfl)
theorem dX0_moved_11 : decode cX0_moved 11 = .ok (.ldc 49, 2) := dk_18 49 (dk_at dksX0_moved_0 11 rfl rfl)
theorem dX0_moved_13 : decode cX0_moved 13 = .ok (.ireturn, 1) := dk_172 (dk_at dksX0_moved_0 13 rfl rfl)
theorem dX0_moved_14 : decode cX0_moved 14 = .ok (.aload_n 0, 1) := dk_42 (dk_at dksX0_moved_0 14 rfl rfl)
theorem dX0_moved_15 : decode cX0_moved 15 = .ok (.getfield 12, 3) := dk_180 0 12 (dk_at dksX0_moved_0 15 rfl rfl)
theorem dX0_moved_18 : decode cX0_moved 18 = .ok (.getfield 156, 3) := dk_180 0 156 (dk_at dksX0_moved_0 18 rfl rfl)
theorem dX0_moved_21 : decode cX0_moved 21 = .ok (.ifnonnull 8, 3) := dk_199 0 8 (dk_at dksX0_moved_0 21 rfl rfl)
theorem dX0_moved_24 : decode cX0_moved 24 = .ok (.ldc 128, 2) := dk_18 128 (dk_at dksX0_moved_1 0 rfl rfl)
theorem dX0_moved_26 : decode cX0_moved 26 = .ok (.goto 12, 3) := dk_167 0 12 (dk_at dksX0_moved_1 2 rfl rfl)
theorem dX0_moved_29 : decode cX0_moved 29 = .ok (.aload_n 0, 1) := dk_42 (dk_at dksX0_moved_1 5 rfl rfl)
theorem dX0_moved_30 : decode cX0_moved 30 = .ok (.getfield 12, 3) := dk_180 0 12 (dk_at dksX0_moved_1 6 rfl rfl)
theorem dX0_moved_33 : decode cX0_moved 33 = .ok (.getfield 169, 3) := dk_180 0 169 (dk_at dksX0_moved_1 9 rfl rfl)
theorem dX0_moved_36 : decode cX0_moved 36 = .ok (.iload_n 1, 1) := dk_27 (dk_at dksX0_moved_1 12 rfl rfl)
theorem dX0_moved_37 : decode cX0_moved 37 = .ok (.iaload, 1) := dk_46 (dk_at dksX0_moved_1 13 rfl rfl)
theorem dX0_moved_38 : decode cX0_moved 38 = .ok (.ireturn, 1) := dk_172 (dk_at dksX0_moved_1 14 rfl rfl)
abbrev cX0_report : ByteArray := prog_1_method_23_code
def yX0_report : MethodName := ⟨RX0, "report", "(I)I"⟩
def dkwX0_report_1 : List UInt8 := [167, 0, 14, 42, 180, 0, 12, 180, 0, 156, 27, 182, 0, 172, 172]
abbrev dktX0_report_1 : List UInt8 := dkwX0_report_1 ++ []
def dkwX0_report_0 : List UInt8 := [27, 3, 8, 184, 0, 45, 154, 0, 6, 18, 49, 172, 42, 180, 0, 12, 180, 0, 156, 199, 0, 8, 18, 128]
abbrev dktX0_report_0 : List UInt8 := dkwX0_report_0 ++ dktX0_report_1
theorem dksX0_report_0 : cX0_report.data.toList.drop 0 = dktX0_report_0 := by decide +kernel
theorem dksX0_report_1 : cX0_report.data.toList.drop 24 = dktX0_report_1 := dk_seg dksX0_report_0 24 rfl rfl
theorem dX0_report_0 : decode cX0_report 0 = .ok (.iload_n 1, 1) := dk_27 (dk_at dksX0_report_0 0 rfl rfl)
theorem dX0_report_1 : decode cX0_report 1 = .ok (.iconst 0, 1) := dk_3 (dk_at dksX0_report_0 1 rfl rfl)
theorem dX0_report_2 : decode cX0_report 2 = .ok (.iconst 5, 1) := dk_8 (dk_at dksX0_report_0 2 rfl rfl)
theorem dX0_report_3 : decode cX0_report 3 = .ok (.invokestatic 45, 3) := dk_184 0 45 (dk_at dksX0_report_0 3 rfl rfl)
theorem dX0_report_6 : decode cX0_report 6 = .ok (.ifCond .ne 6, 3) := dk_154 0 6 (dk_at dksX0_report_0 6 rfl rfl)
theorem dX0_report_9 : decode cX0_report 9 = .ok (.ldc 49, 2) := dk_18 49 (dk_at dksX0_report_0 9 rfl rfl)
theorem dX0_report_11 : decode cX0_report 11 = .ok (.ireturn, 1) := dk_172 (dk_at dksX0_report_0 11 rfl rfl)
theorem dX0_report_12 : decode cX0_report 12 = .ok (.aload_n 0, 1) := dk_42 (dk_at dksX0_report_0 12 rfl rfl)
theorem dX0_report_13 : decode cX0_report 13 = .ok (.getfield 12, 3) := dk_180 0 12 (dk_at dksX0_report_0 13 rfl rfl)
theorem dX0_report_16 : decode cX0_report 16 = .ok (.getfield 156, 3) := dk_180 0 156 (dk_at dksX0_report_0 16 rfl rfl)
theorem dX0_report_19 : decode cX0_report 19 = .ok (.ifnonnull 8, 3) := dk_199 0 8 (dk_at dksX0_report_0 19 rfl rfl)
theorem dX0_report_22 : decode cX0_report 22 = .ok (.ldc 128, 2) := dk_18 128 (dk_at dksX0_report_0 22 rfl rfl)
theorem dX0_report_24 : decode cX0_report 24 = .ok (.goto 14, 3) := dk_167 0 14 (dk_at dksX0_report_1 0 rfl rfl)
theorem dX0_report_27 : decode cX0_report 27 = .ok (.aload_n 0, 1) := dk_42 (dk_at dksX0_report_1 3 rfl rfl)
theorem dX0_report_28 : decode cX0_report 28 = .ok (.getfield 12, 3) := dk_180 0 12 (dk_at dksX0_report_1 4 rfl rfl)
theorem dX0_report_31 : decode cX0_report 31 = .ok (.getfield 156, 3) := dk_180 0 156 (dk_at dksX0_report_1 7 rfl rfl)
theorem dX0_report_34 : decode cX0_report 34 = .ok (.iload_n 1, 1) := dk_27 (dk_at dksX0_report_1 10 rfl rfl)
theorem dX0_report_35 : decode cX0_report 35 = .ok (.invokevirtual 172, 3) := dk_182 0 172 (dk_at dksX0_report_1 11 rfl rfl)
theorem dX0_report_38 : decode cX0_report 38 = .ok (.ireturn, 1) := dk_172 (dk_at dksX0_report_1 14 rfl rfl)
abbrev cX0_garbage : ByteArray := prog_1_method_25_code
def yX0_garbage : MethodName := ⟨RX0, "garbage", "()I"⟩
def dkwX0_garbage_0 : List UInt8 := [42, 182, 0, 189, 42, 1, 182, 0, 192, 182, 0, 196, 100, 172]
abbrev dktX0_garbage_0 : List UInt8 := dkwX0_garbage_0 ++ []
theorem dksX0_garbage_0 : cX0_garbage.data.toList.drop 0 = dktX0_garbage_0 := by decide +kernel
theorem dX0_garbage_0 : decode cX0_garbage 0 = .ok (.aload_n 0, 1) := dk_42 (dk_at dksX0_garbage_0 0 rfl rfl)
theorem dX0_garbage_1 : decode cX0_garbage 1 = .ok (.invokevirtual 189, 3) := dk_182 0 189 (dk_at dksX0_garbage_0 1 rfl rfl)
theorem dX0_garbage_4 : decode cX0_garbage 4 = .ok (.aload_n 0, 1) := dk_42 (dk_at dksX0_garbage_0 4 rfl rfl)
theorem dX0_garbage_5 : decode cX0_garbage 5 = .ok (.aconst_null, 1) := dk_1 (dk_at dksX0_garbage_0 5 rfl rfl)
theorem dX0_garbage_6 : decode cX0_garbage 6 = .ok (.invokevirtual 192, 3) := dk_182 0 192 (dk_at dksX0_garbage_0 6 rfl rfl)
theorem dX0_garbage_9 : decode cX0_garbage 9 = .ok (.invokevirtual 196, 3) := dk_182 0 196 (dk_at dksX0_garbage_0 9 rfl rfl)
theorem dX0_garbage_12 : decode cX0_garbage 12 = .ok (.isub, 1) := dk_100 (dk_at dksX0_garbage_0 12 rfl rfl)
theorem dX0_garbage_13 : decode cX0_garbage 13 = .ok (.ireturn, 1) := dk_172 (dk_at dksX0_garbage_0 13 rfl rfl)
abbrev cX0_occupied : ByteArray := prog_1_method_24_code
def yX0_occupied : MethodName := ⟨RX0, "occupied", "()I"⟩
def dkwX0_occupied_1 : List UInt8 := [180, 0, 175, 28, 182, 0, 184, 192, 0, 18, 182, 0, 188, 96, 60, 132, 2, 1, 167, 255, 219, 27, 172]
abbrev dktX0_occupied_1 : List UInt8 := dkwX0_occupied_1 ++ []
def dkwX0_occupied_0 : List UInt8 := [3, 60, 3, 61, 28, 42, 180, 0, 12, 180, 0, 175, 182, 0, 179, 162, 0, 29, 27, 42, 180, 0, 12]
abbrev dktX0_occupied_0 : List UInt8 := dkwX0_occupied_0 ++ dktX0_occupied_1
theorem dksX0_occupied_0 : cX0_occupied.data.toList.drop 0 = dktX0_occupied_0 := by decide +kernel
theorem dksX0_occupied_1 : cX0_occupied.data.toList.drop 23 = dktX0_occupied_1 := dk_seg dksX0_occupied_0 23 rfl rfl
theorem dX0_occupied_0 : decode cX0_occupied 0 = .ok (.iconst 0, 1) := dk_3 (dk_at dksX0_occupied_0 0 rfl rfl)
theorem dX0_occupied_1 : decode cX0_occupied 1 = .ok (.istore_n 1, 1) := dk_60 (dk_at dksX0_occupied_0 1 rfl rfl)
theorem dX0_occupied_2 : decode cX0_occupied 2 = .ok (.iconst 0, 1) := dk_3 (dk_at dksX0_occupied_0 2 rfl rfl)
theorem dX0_occupied_3 : decode cX0_occupied 3 = .ok (.istore_n 2, 1) := dk_61 (dk_at dksX0_occupied_0 3 rfl rfl)
theorem dX0_occupied_4 : decode cX0_occupied 4 = .ok (.iload_n 2, 1) := dk_28 (dk_at dksX0_occupied_0 4 rfl rfl)
theorem dX0_occupied_5 : decode cX0_occupied 5 = .ok (.aload_n 0, 1) := dk_42 (dk_at dksX0_occupied_0 5 rfl rfl)
theorem dX0_occupied_6 : decode cX0_occupied 6 = .ok (.getfield 12, 3) := dk_180 0 12 (dk_at dksX0_occupied_0 6 rfl rfl)
theorem dX0_occupied_9 : decode cX0_occupied 9 = .ok (.getfield 175, 3) := dk_180 0 175 (dk_at dksX0_occupied_0 9 rfl rfl)
theorem dX0_occupied_12 : decode cX0_occupied 12 = .ok (.invokevirtual 179, 3) := dk_182 0 179 (dk_at dksX0_occupied_0 12 rfl rfl)
theorem dX0_occupied_15 : decode cX0_occupied 15 = .ok (.if_icmp .ge 29, 3) := dk_162 0 29 (dk_at dksX0_occupied_0 15 rfl rfl)
theorem dX0_occupied_18 : decode cX0_occupied 18 = .ok (.iload_n 1, 1) := dk_27 (dk_at dksX0_occupied_0 18 rfl rfl)
theorem dX0_occupied_19 : decode cX0_occupied 19 = .ok (.aload_n 0, 1) := dk_42 (dk_at dksX0_occupied_0 19 rfl rfl)
theorem dX0_occupied_20 : decode cX0_occupied 20 = .ok (.getfield 12, 3) := dk_180 0 12 (dk_at dksX0_occupied_0 20 rfl rfl)
theorem dX0_occupied_23 : decode cX0_occupied 23 = .ok (.getfield 175, 3) := dk_180 0 175 (dk_at dksX0_occupied_1 0 rfl rfl)
theorem dX0_occupied_26 : decode cX0_occupied 26 = .ok (.iload_n 2, 1) := dk_28 (dk_at dksX0_occupied_1 3 rfl rfl)
theorem dX0_occupied_27 : decode cX0_occupied 27 = .ok (.invokevirtual 184, 3) := dk_182 0 184 (dk_at dksX0_occupied_1 4 rfl rfl)
theorem dX0_occupied_30 : decode cX0_occupied 30 = .ok (.checkcast 18, 3) := dk_192 0 18 (dk_at dksX0_occupied_1 7 rfl rfl)
theorem dX0_occupied_33 : decode cX0_occupied 33 = .ok (.invokevirtual 188, 3) := dk_182 0 188 (dk_at dksX0_occupied_1 10 rfl rfl)
theorem dX0_occupied_36 : decode cX0_occupied 36 = .ok (.iadd, 1) := dk_96 (dk_at dksX0_occupied_1 13 rfl rfl)
theorem dX0_occupied_37 : decode cX0_occupied 37 = .ok (.istore_n 1, 1) := dk_60 (dk_at dksX0_occupied_1 14 rfl rfl)
theorem dX0_occupied_38 : decode cX0_occupied 38 = .ok (.iinc 2 1, 3) := dk_132 2 1 (dk_at dksX0_occupied_1 15 rfl rfl)
theorem dX0_occupied_41 : decode cX0_occupied 41 = .ok (.goto (-37), 3) := dk_167 255 219 (dk_at dksX0_occupied_1 18 rfl rfl)
theorem dX0_occupied_44 : decode cX0_occupied 44 = .ok (.iload_n 1, 1) := dk_27 (dk_at dksX0_occupied_1 21 rfl rfl)
theorem dX0_occupied_45 : decode cX0_occupied 45 = .ok (.ireturn, 1) := dk_172 (dk_at dksX0_occupied_1 22 rfl rfl)
abbrev cX0_distance : ByteArray := prog_1_method_26_code
def yX0_distance : MethodName := ⟨RX0, "distance", "(I)I"⟩
def dkwX0_distance_1 : List UInt8 := [183, 0, 200, 44, 182, 0, 203, 172]
abbrev dktX0_distance_1 : List UInt8 := dkwX0_distance_1 ++ []
def dkwX0_distance_0 : List UInt8 := [42, 180, 0, 12, 27, 182, 0, 81, 77, 44, 199, 0, 8, 18, 49, 167, 0, 15, 187, 0, 198, 89, 42]
abbrev dktX0_distance_0 : List UInt8 := dkwX0_distance_0 ++ dktX0_distance_1
theorem dksX0_distance_0 : cX0_distance.data.toList.drop 0 = dktX0_distance_0 := by decide +kernel
theorem dksX0_distance_1 : cX0_distance.data.toList.drop 23 = dktX0_distance_1 := dk_seg dksX0_distance_0 23 rfl rfl
theorem dX0_distance_0 : decode cX0_distance 0 = .ok (.aload_n 0, 1) := dk_42 (dk_at dksX0_distance_0 0 rfl rfl)
theorem dX0_distance_1 : decode cX0_distance 1 = .ok (.getfield 12, 3) := dk_180 0 12 (dk_at dksX0_distance_0 1 rfl rfl)
theorem dX0_distance_4 : decode cX0_distance 4 = .ok (.iload_n 1, 1) := dk_27 (dk_at dksX0_distance_0 4 rfl rfl)
theorem dX0_distance_5 : decode cX0_distance 5 = .ok (.invokevirtual 81, 3) := dk_182 0 81 (dk_at dksX0_distance_0 5 rfl rfl)
theorem dX0_distance_8 : decode cX0_distance 8 = .ok (.astore_n 2, 1) := dk_77 (dk_at dksX0_distance_0 8 rfl rfl)
theorem dX0_distance_9 : decode cX0_distance 9 = .ok (.aload_n 2, 1) := dk_44 (dk_at dksX0_distance_0 9 rfl rfl)
theorem dX0_distance_10 : decode cX0_distance 10 = .ok (.ifnonnull 8, 3) := dk_199 0 8 (dk_at dksX0_distance_0 10 rfl rfl)
theorem dX0_distance_13 : decode cX0_distance 13 = .ok (.ldc 49, 2) := dk_18 49 (dk_at dksX0_distance_0 13 rfl rfl)
theorem dX0_distance_15 : decode cX0_distance 15 = .ok (.goto 15, 3) := dk_167 0 15 (dk_at dksX0_distance_0 15 rfl rfl)
theorem dX0_distance_18 : decode cX0_distance 18 = .ok (.new 198, 3) := dk_187 0 198 (dk_at dksX0_distance_0 18 rfl rfl)
theorem dX0_distance_21 : decode cX0_distance 21 = .ok (.dup, 1) := dk_89 (dk_at dksX0_distance_0 21 rfl rfl)
theorem dX0_distance_22 : decode cX0_distance 22 = .ok (.aload_n 0, 1) := dk_42 (dk_at dksX0_distance_0 22 rfl rfl)
theorem dX0_distance_23 : decode cX0_distance 23 = .ok (.invokespecial 200, 3) := dk_183 0 200 (dk_at dksX0_distance_1 0 rfl rfl)
theorem dX0_distance_26 : decode cX0_distance 26 = .ok (.aload_n 2, 1) := dk_44 (dk_at dksX0_distance_1 3 rfl rfl)
theorem dX0_distance_27 : decode cX0_distance 27 = .ok (.invokevirtual 203, 3) := dk_182 0 203 (dk_at dksX0_distance_1 4 rfl rfl)
theorem dX0_distance_30 : decode cX0_distance 30 = .ok (.ireturn, 1) := dk_172 (dk_at dksX0_distance_1 7 rfl rfl)
abbrev cX0_retained : ByteArray := prog_1_method_27_code
def yX0_retained : MethodName := ⟨RX0, "retained", "(I)I"⟩
def dkwX0_retained_1 : List UInt8 := [62, 44, 180, 0, 207, 153, 0, 16, 29, 42, 44, 182, 0, 192, 182, 0, 196, 100, 167, 0, 4, 3, 172]
abbrev dktX0_retained_1 : List UInt8 := dkwX0_retained_1 ++ []
def dkwX0_retained_0 : List UInt8 := [42, 180, 0, 12, 27, 182, 0, 81, 77, 44, 199, 0, 6, 18, 49, 172, 42, 1, 182, 0, 192, 182, 0, 196]
abbrev dktX0_retained_0 : List UInt8 := dkwX0_retained_0 ++ dktX0_retained_1
theorem dksX0_retained_0 : cX0_retained.data.toList.drop 0 = dktX0_retained_0 := by decide +kernel
theorem dksX0_retained_1 : cX0_retained.data.toList.drop 24 = dktX0_retained_1 := dk_seg dksX0_retained_0 24 rfl rfl
theorem dX0_retained_0 : decode cX0_retained 0 = .ok (.aload_n 0, 1) := dk_42 (dk_at dksX0_retained_0 0 rfl rfl)
theorem dX0_retained_1 : decode cX0_retained 1 = .ok (.getfield 12, 3) := dk_180 0 12 (dk_at dksX0_retained_0 1 rfl rfl)
theorem dX0_retained_4 : decode cX0_retained 4 = .ok (.iload_n 1, 1) := dk_27 (dk_at dksX0_retained_0 4 rfl rfl)
theorem dX0_retained_5 : decode cX0_retained 5 = .ok (.invokevirtual 81, 3) := dk_182 0 81 (dk_at dksX0_retained_0 5 rfl rfl)
theorem dX0_retained_8 : decode cX0_retained 8 = .ok (.astore_n 2, 1) := dk_77 (dk_at dksX0_retained_0 8 rfl rfl)
theorem dX0_retained_9 : decode cX0_retained 9 = .ok (.aload_n 2, 1) := dk_44 (dk_at dksX0_retained_0 9 rfl rfl)
theorem dX0_retained_10 : decode cX0_retained 10 = .ok (.ifnonnull 6, 3) := dk_199 0 6 (dk_at dksX0_retained_0 10 rfl rfl)
theorem dX0_retained_13 : decode cX0_retained 13 = .ok (.ldc 49, 2) := dk_18 49 (dk_at dksX0_retained_0 13 rfl rfl)
theorem dX0_retained_15 : decode cX0_retained 15 = .ok (.ireturn, 1) := dk_172 (dk_at dksX0_retained_0 15 rfl rfl)
theorem dX0_retained_16 : decode cX0_retained 16 = .ok (.aload_n 0, 1) := dk_42 (dk_at dksX0_retained_0 16 rfl rfl)
theorem dX0_retained_17 : decode cX0_retained 17 = .ok (.aconst_null, 1) := dk_1 (dk_at dksX0_retained_0 17 rfl rfl)
theorem dX0_retained_18 : decode cX0_retained 18 = .ok (.invokevirtual 192, 3) := dk_182 0 192 (dk_at dksX0_retained_0 18 rfl rfl)
theorem dX0_retained_21 : decode cX0_retained 21 = .ok (.invokevirtual 196, 3) := dk_182 0 196 (dk_at dksX0_retained_0 21 rfl rfl)
theorem dX0_retained_24 : decode cX0_retained 24 = .ok (.istore_n 3, 1) := dk_62 (dk_at dksX0_retained_1 0 rfl rfl)
theorem dX0_retained_25 : decode cX0_retained 25 = .ok (.aload_n 2, 1) := dk_44 (dk_at dksX0_retained_1 1 rfl rfl)
theorem dX0_retained_26 : decode cX0_retained 26 = .ok (.getfield 207, 3) := dk_180 0 207 (dk_at dksX0_retained_1 2 rfl rfl)
theorem dX0_retained_29 : decode cX0_retained 29 = .ok (.ifCond .eq 16, 3) := dk_153 0 16 (dk_at dksX0_retained_1 5 rfl rfl)
theorem dX0_retained_32 : decode cX0_retained 32 = .ok (.iload_n 3, 1) := dk_29 (dk_at dksX0_retained_1 8 rfl rfl)
theorem dX0_retained_33 : decode cX0_retained 33 = .ok (.aload_n 0, 1) := dk_42 (dk_at dksX0_retained_1 9 rfl rfl)
theorem dX0_retained_34 : decode cX0_retained 34 = .ok (.aload_n 2, 1) := dk_44 (dk_at dksX0_retained_1 10 rfl rfl)
theorem dX0_retained_35 : decode cX0_retained 35 = .ok (.invokevirtual 192, 3) := dk_182 0 192 (dk_at dksX0_retained_1 11 rfl rfl)
theorem dX0_retained_38 : decode cX0_retained 38 = .ok (.invokevirtual 196, 3) := dk_182 0 196 (dk_at dksX0_retained_1 14 rfl rfl)
theorem dX0_retained_41 : decode cX0_retained 41 = .ok (.isub, 1) := dk_100 (dk_at dksX0_retained_1 17 rfl rfl)
theorem dX0_retained_42 : decode cX0_retained 42 = .ok (.goto 4, 3) := dk_167 0 4 (dk_at dksX0_retained_1 18 rfl rfl)
theorem dX0_retained_45 : decode cX0_retained 45 = .ok (.iconst 0, 1) := dk_3 (dk_at dksX0_retained_1 21 rfl rfl)
theorem dX0_retained_46 : decode cX0_retained 46 = .ok (.ireturn, 1) := dk_172 (dk_at dksX0_retained_1 22 rfl rfl)
abbrev cX0_free : ByteArray := prog_1_method_28_code
def yX0_free : MethodName := ⟨RX0, "free", "(I)I"⟩
def dkwX0_free_7 : List UInt8 := [28, 172, 29, 172, 21, 4, 172, 21, 7, 172, 21, 5, 172, 18, 49, 172]
abbrev dktX0_free_7 : List UInt8 := dkwX0_free_7 ++ []
def dkwX0_free_6 : List UInt8 := [170, 0, 0, 0, 0, 0, 0, 49, 0, 0, 0, 0, 0, 0, 0, 4, 0, 0, 0, 36, 0, 0, 0, 38, 0, 0, 0, 40, 0, 0, 0, 43, 0, 0, 0, 46]
abbrev dktX0_free_6 : List UInt8 := dkwX0_free_6 ++ dktX0_free_7
def dkwX0_free_5 : List UInt8 := [54, 6, 167, 255, 160, 27]
abbrev dktX0_free_5 : List UInt8 := dkwX0_free_5 ++ dktX0_free_6
def dkwX0_free_4 : List UInt8 := [158, 0, 11, 21, 6, 21, 8, 96, 167, 0, 16, 42, 180, 0, 12, 180, 0, 221, 21, 6, 50, 182, 0, 93]
abbrev dktX0_free_4 : List UInt8 := dkwX0_free_4 ++ dktX0_free_5
def dkwX0_free_3 : List UInt8 := [96, 62, 21, 4, 21, 8, 184, 0, 216, 54, 4, 21, 5, 21, 8, 7, 108, 96, 54, 5, 21, 8]
abbrev dktX0_free_3 : List UInt8 := dkwX0_free_3 ++ dktX0_free_4
def dkwX0_free_2 : List UInt8 := [182, 0, 213, 21, 6, 100, 54, 8, 28, 21, 8, 96, 61, 29, 21, 8, 158, 0, 7, 4, 167, 0, 4, 3]
abbrev dktX0_free_2 : List UInt8 := dkwX0_free_2 ++ dktX0_free_3
def dkwX0_free_1 : List UInt8 := [21, 6, 2, 159, 0, 96, 21, 6, 42, 180, 0, 12, 180, 0, 97, 162, 0, 84, 42, 180, 0, 12, 21, 6]
abbrev dktX0_free_1 : List UInt8 := dkwX0_free_1 ++ dktX0_free_2
def dkwX0_free_0 : List UInt8 := [3, 61, 3, 62, 3, 54, 4, 3, 54, 5, 42, 180, 0, 12, 4, 182, 0, 210, 54, 6, 21, 6, 54, 7]
abbrev dktX0_free_0 : List UInt8 := dkwX0_free_0 ++ dktX0_free_1
theorem dksX0_free_0 : cX0_free.data.toList.drop 0 = dktX0_free_0 := by decide +kernel
theorem dksX0_free_1 : cX0_free.data.toList.drop 24 = dktX0_free_1 := dk_seg dksX0_free_0 24 rfl rfl
theorem dksX0_free_2 : cX0_free.data.toList.drop 48 = dktX0_free_2 := dk_seg dksX0_free_1 24 rfl rfl
theorem dksX0_free_3 : cX0_free.data.toList.drop 72 = dktX0_free_3 := dk_seg dksX0_free_2 24 rfl rfl
theorem dksX0_free_4 : cX0_free.data.toList.drop 94 = dktX0_free_4 := dk_seg dksX0_free_3 22 rfl rfl
theorem dksX0_free_5 : cX0_free.data.toList.drop 118 = dktX0_free_5 := dk_seg dksX0_free_4 24 rfl rfl
theorem dksX0_free_6 : cX0_free.data.toList.drop 124 = dktX0_free_6 := dk_seg dksX0_free_5 6 rfl rfl
theorem dksX0_free_7 : cX0_free.data.toList.drop 160 = dktX0_free_7 := dk_seg dksX0_free_6 36 rfl rfl
theorem dX0_free_0 : decode cX0_free 0 = .ok (.iconst 0, 1) := dk_3 (dk_at dksX0_free_0 0 rfl rfl)
theorem dX0_free_1 : decode cX0_free 1 = .ok (.istore_n 2, 1) := dk_61 (dk_at dksX0_free_0 1 rfl rfl)
theorem dX0_free_2 : decode cX0_free 2 = .ok (.iconst 0, 1) := dk_3 (dk_at dksX0_free_0 2 rfl rfl)
theorem dX0_free_3 : decode cX0_free 3 = .ok (.istore_n 3, 1) := dk_62 (dk_at dksX0_free_0 3 rfl rfl)
theorem dX0_free_4 : decode cX0_free 4 = .ok (.iconst 0, 1) := dk_3 (dk_at dksX0_free_0 4 rfl rfl)
theorem dX0_free_5 : decode cX0_free 5 = .ok (.istore 4, 2) := dk_54 4 (dk_at dksX0_free_0 5 rfl rfl)
theorem dX0_free_7 : decode cX0_free 7 = .ok (.iconst 0, 1) := dk_3 (dk_at dksX0_free_0 7 rfl rfl)
theorem dX0_free_8 : decode cX0_free 8 = .ok (.istore 5, 2) := dk_54 5 (dk_at dksX0_free_0 8 rfl rfl)
theorem dX0_free_10 : decode cX0_free 10 = .ok (.aload_n 0, 1) := dk_42 (dk_at dksX0_free_0 10 rfl rfl)
theorem dX0_free_11 : decode cX0_free 11 = .ok (.getfield 12, 3) := dk_180 0 12 (dk_at dksX0_free_0 11 rfl rfl)
theorem dX0_free_14 : decode cX0_free 14 = .ok (.iconst 1, 1) := dk_4 (dk_at dksX0_free_0 14 rfl rfl)
theorem dX0_free_15 : decode cX0_free 15 = .ok (.invokevirtual 210, 3) := dk_182 0 210 (dk_at dksX0_free_0 15 rfl rfl)
theorem dX0_free_18 : decode cX0_free 18 = .ok (.istore 6, 2) := dk_54 6 (dk_at dksX0_free_0 18 rfl rfl)
theorem dX0_free_20 : decode cX0_free 20 = .ok (.iload 6, 2) := dk_21 6 (dk_at dksX0_free_0 20 rfl rfl)
theorem dX0_free_22 : decode cX0_free 22 = .ok (.istore 7, 2) := dk_54 7 (dk_at dksX0_free_0 22 rfl rfl)
theorem dX0_free_24 : decode cX0_free 24 = .ok (.iload 6, 2) := dk_21 6 (dk_at dksX0_free_1 0 rfl rfl)
theorem dX0_free_26 : decode cX0_free 26 = .ok (.iconst (-1), 1) := dk_2 (dk_at dksX0_free_1 2 rfl rfl)
theorem dX0_free_27 : decode cX0_free 27 = .ok (.if_icmp .eq 96, 3) := dk_159 0 96 (dk_at dksX0_free_1 3 rfl rfl)
theorem dX0_free_30 : decode cX0_free 30 = .ok (.iload 6, 2) := dk_21 6 (dk_at dksX0_free_1 6 rfl rfl)
theorem dX0_free_32 : decode cX0_free 32 = .ok (.aload_n 0, 1) := dk_42 (dk_at dksX0_free_1 8 rfl rfl)
theorem dX0_free_33 : decode cX0_free 33 = .ok (.getfield 12, 3) := dk_180 0 12 (dk_at dksX0_free_1 9 rfl rfl)
theorem dX0_free_36 : decode cX0_free 36 = .ok (.getfield 97, 3) := dk_180 0 97 (dk_at dksX0_free_1 12 rfl rfl)
theorem dX0_free_39 : decode cX0_free 39 = .ok (.if_icmp .ge 84, 3) := dk_162 0 84 (dk_at dksX0_free_1 15 rfl rfl)
theorem dX0_free_42 : decode cX0_free 42 = .ok (.aload_n 0, 1) := dk_42 (dk_at dksX0_free_1 18 rfl rfl)
theorem dX0_free_43 : decode cX0_free 43 = .ok (.getfield 12, 3) := dk_180 0 12 (dk_at dksX0_free_1 19 rfl rfl)
theorem dX0_free_46 : decode cX0_free 46 = .ok (.iload 6, 2) := dk_21 6 (dk_at dksX0_free_1 22 rfl rfl)
theorem dX0_free_48 : decode cX0_free 48 = .ok (.invokevirtual 213, 3) := dk_182 0 213 (dk_at dksX0_free_2 0 rfl rfl)
theorem dX0_free_51 : decode cX0_free 51 = .ok (.iload 6, 2) := dk_21 6 (dk_at dksX0_free_2 3 rfl rfl)
theorem dX0_free_53 : decode cX0_free 53 = .ok (.isub, 1) := dk_100 (dk_at dksX0_free_2 5 rfl rfl)
theorem dX0_free_54 : decode cX0_free 54 = .ok (.istore 8, 2) := dk_54 8 (dk_at dksX0_free_2 6 rfl rfl)
theorem dX0_free_56 : decode cX0_free 56 = .ok (.iload_n 2, 1) := dk_28 (dk_at dksX0_free_2 8 rfl rfl)
theorem dX0_free_57 : decode cX0_free 57 = .ok (.iload 8, 2) := dk_21 8 (dk_at dksX0_free_2 9 rfl rfl)
theorem dX0_free_59 : decode cX0_free 59 = .ok (.iadd, 1) := dk_96 (dk_at dksX0_free_2 11 rfl rfl)
theorem dX0_free_60 : decode cX0_free 60 = .ok (.istore_n 2, 1) := dk_61 (dk_at dksX0_free_2 12 rfl rfl)
theorem dX0_free_61 : decode cX0_free 61 = .ok (.iload_n 3, 1) := dk_29 (dk_at dksX0_free_2 13 rfl rfl)
theorem dX0_free_62 : decode cX0_free 62 = .ok (.iload 8, 2) := dk_21 8 (dk_at dksX0_free_2 14 rfl rfl)
theorem dX0_free_64 : decode cX0_free 64 = .ok (.ifCond .le 7, 3) := dk_158 0 7 (dk_at dksX0_free_2 16 rfl rfl)
theorem dX0_free_67 : decode cX0_free 67 = .ok (.iconst 1, 1) := dk_4 (dk_at dksX0_free_2 19 rfl rfl)
theorem dX0_free_68 : decode cX0_free 68 = .ok (.goto 4, 3) := dk_167 0 4 (dk_at dksX0_free_2 20 rfl rfl)
theorem dX0_free_71 : decode cX0_free 71 = .ok (.iconst 0, 1) := dk_3 (dk_at dksX0_free_2 23 rfl rfl)
theorem dX0_free_72 : decode cX0_free 72 = .ok (.iadd, 1) := dk_96 (dk_at dksX0_free_3 0 rfl rfl)
theorem dX0_free_73 : decode cX0_free 73 = .ok (.istore_n 3, 1) := dk_62 (dk_at dksX0_free_3 1 rfl rfl)
theorem dX0_free_74 : decode cX0_free 74 = .ok (.iload 4, 2) := dk_21 4 (dk_at dksX0_free_3 2 rfl rfl)
theorem dX0_free_76 : decode cX0_free 76 = .ok (.iload 8, 2) := dk_21 8 (dk_at dksX0_free_3 4 rfl rfl)
theorem dX0_free_78 : decode cX0_free 78 = .ok (.invokestatic 216, 3) := dk_184 0 216 (dk_at dksX0_free_3 6 rfl rfl)
theorem dX0_free_81 : decode cX0_free 81 = .ok (.istore 4, 2) := dk_54 4 (dk_at dksX0_free_3 9 rfl rfl)
theorem dX0_free_83 : decode cX0_free 83 = .ok (.iload 5, 2) := dk_21 5 (dk_at dksX0_free_3 11 rfl rfl)
theorem dX0_free_85 : decode cX0_free 85 = .ok (.iload 8, 2) := dk_21 8 (dk_at dksX0_free_3 13 rfl rfl)
theorem dX0_free_87 : decode cX0_free 87 = .ok (.iconst 4, 1) := dk_7 (dk_at dksX0_free_3 15 rfl rfl)
theorem dX0_free_88 : decode cX0_free 88 = .ok (.idiv, 1) := dk_108 (dk_at dksX0_free_3 16 rfl rfl)
theorem dX0_free_89 : decode cX0_free 89 = .ok (.iadd, 1) := dk_96 (dk_at dksX0_free_3 17 rfl rfl)
theorem dX0_free_90 : decode cX0_free 90 = .ok (.istore 5, 2) := dk_54 5 (dk_at dksX0_free_3 18 rfl rfl)
theorem dX0_free_92 : decode cX0_free 92 = .ok (.iload 8, 2) := dk_21 8 (dk_at dksX0_free_3 20 rfl rfl)
theorem dX0_free_94 : decode cX0_free 94 = .ok (.ifCond .le 11, 3) := dk_158 0 11 (dk_at dksX0_free_4 0 rfl rfl)
theorem dX0_free_97 : decode cX0_free 97 = .ok (.iload 6, 2) := dk_21 6 (dk_at dksX0_free_4 3 rfl rfl)
theorem dX0_free_99 : decode cX0_free 99 = .ok (.iload 8, 2) := dk_21 8 (dk_at dksX0_free_4 5 rfl rfl)
theorem dX0_free_101 : decode cX0_free 101 = .ok (.iadd, 1) := dk_96 (dk_at dksX0_free_4 7 rfl rfl)
theorem dX0_free_102 : decode cX0_free 102 = .ok (.goto 16, 3) := dk_167 0 16 (dk_at dksX0_free_4 8 rfl rfl)
theorem dX0_free_105 : decode cX0_free 105 = .ok (.aload_n 0, 1) := dk_42 (dk_at dksX0_free_4 11 rfl rfl)
theorem dX0_free_106 : decode cX0_free 106 = .ok (.getfield 12, 3) := dk_180 0 12 (dk_at dksX0_free_4 12 rfl rfl)
theorem dX0_free_109 : decode cX0_free 109 = .ok (.getfield 221, 3) := dk_180 0 221 (dk_at dksX0_free_4 15 rfl rfl)
theorem dX0_free_112 : decode cX0_free 112 = .ok (.iload 6, 2) := dk_21 6 (dk_at dksX0_free_4 18 rfl rfl)
theorem dX0_free_114 : decode cX0_free 114 = .ok (.aaload, 1) := dk_50 (dk_at dksX0_free_4 20 rfl rfl)
theorem dX0_free_115 : decode cX0_free 115 = .ok (.invokevirtual 93, 3) := dk_182 0 93 (dk_at dksX0_free_4 21 rfl rfl)
theorem dX0_free_118 : decode cX0_free 118 = .ok (.istore 6, 2) := dk_54 6 (dk_at dksX0_free_5 0 rfl rfl)
theorem dX0_free_120 : decode cX0_free 120 = .ok (.goto (-96), 3) := dk_167 255 160 (dk_at dksX0_free_5 2 rfl rfl)
theorem dX0_free_123 : decode cX0_free 123 = .ok (.iload_n 1, 1) := dk_27 (dk_at dksX0_free_5 5 rfl rfl)
theorem dX0_free_124 : decode cX0_free 124 = .ok (.tableswitch 49 0 4 #[36, 38, 40, 43, 46], 36) := by decide +kernel
theorem dX0_free_160 : decode cX0_free 160 = .ok (.iload_n 2, 1) := dk_28 (dk_at dksX0_free_7 0 rfl rfl)
theorem dX0_free_161 : decode cX0_free 161 = .ok (.ireturn, 1) := dk_172 (dk_at dksX0_free_7 1 rfl rfl)
theorem dX0_free_162 : decode cX0_free 162 = .ok (.iload_n 3, 1) := dk_29 (dk_at dksX0_free_7 2 rfl rfl)
theorem dX0_free_163 : decode cX0_free 163 = .ok (.ireturn, 1) := dk_172 (dk_at dksX0_free_7 3 rfl rfl)
theorem dX0_free_164 : decode cX0_free 164 = .ok (.iload 4, 2) := dk_21 4 (dk_at dksX0_free_7 4 rfl rfl)
theorem dX0_free_166 : decode cX0_free 166 = .ok (.ireturn, 1) := dk_172 (dk_at dksX0_free_7 6 rfl rfl)
theorem dX0_free_167 : decode cX0_free 167 = .ok (.iload 7, 2) := dk_21 7 (dk_at dksX0_free_7 7 rfl rfl)
theorem dX0_free_169 : decode cX0_free 169 = .ok (.ireturn, 1) := dk_172 (dk_at dksX0_free_7 9 rfl rfl)
theorem dX0_free_170 : decode cX0_free 170 = .ok (.iload 5, 2) := dk_21 5 (dk_at dksX0_free_7 10 rfl rfl)
theorem dX0_free_172 : decode cX0_free 172 = .ok (.ireturn, 1) := dk_172 (dk_at dksX0_free_7 12 rfl rfl)
theorem dX0_free_173 : decode cX0_free 173 = .ok (.ldc 49, 2) := dk_18 49 (dk_at dksX0_free_7 13 rfl rfl)
theorem dX0_free_175 : decode cX0_free 175 = .ok (.ireturn, 1) := dk_172 (dk_at dksX0_free_7 15 rfl rfl)
abbrev cX0_type : ByteArray := prog_1_method_29_code
def yX0_type : MethodName := ⟨RX0, "type", "(I)I"⟩
def dkwX0_type_2 : List UInt8 := [180, 0, 224, 172]
abbrev dktX0_type_2 : List UInt8 := dkwX0_type_2 ++ []
def dkwX0_type_1 : List UInt8 := [172, 42, 180, 0, 24, 42, 180, 0, 224, 27, 145, 84, 42, 89, 180, 0, 224, 4, 96, 181, 0, 224, 42]
abbrev dktX0_type_1 : List UInt8 := dkwX0_type_1 ++ dktX0_type_2
def dkwX0_type_0 : List UInt8 := [27, 3, 16, 127, 184, 0, 45, 154, 0, 6, 18, 49, 172, 42, 180, 0, 224, 16, 80, 160, 0, 6, 18, 227]
abbrev dktX0_type_0 : List UInt8 := dkwX0_type_0 ++ dktX0_type_1
theorem dksX0_type_0 : cX0_type.data.toList.drop 0 = dktX0_type_0 := by decide +kernel
theorem dksX0_type_1 : cX0_type.data.toList.drop 24 = dktX0_type_1 := dk_seg dksX0_type_0 24 rfl rfl
theorem dksX0_type_2 : cX0_type.data.toList.drop 47 = dktX0_type_2 := dk_seg dksX0_type_1 23 rfl rfl
theorem dX0_type_0 : decode cX0_type 0 = .ok (.iload_n 1, 1) := dk_27 (dk_at dksX0_type_0 0 rfl rfl)
theorem dX0_type_1 : decode cX0_type 1 = .ok (.iconst 0, 1) := dk_3 (dk_at dksX0_type_0 1 rfl rfl)
theorem dX0_type_2 : decode cX0_type 2 = .ok (.bipush 127, 2) := dk_16 127 (dk_at dksX0_type_0 2 rfl rfl)
theorem dX0_type_4 : decode cX0_type 4 = .ok (.invokestatic 45, 3) := dk_184 0 45 (dk_at dksX0_type_0 4 rfl rfl)
theorem dX0_type_7 : decode cX0_type 7 = .ok (.ifCond .ne 6, 3) := dk_154 0 6 (dk_at dksX0_type_0 7 rfl rfl)
theorem dX0_type_10 : decode cX0_type 10 = .ok (.ldc 49, 2) := dk_18 49 (dk_at dksX0_type_0 10 rfl rfl)
theorem dX0_type_12 : decode cX0_type 12 = .ok (.ireturn, 1) := dk_172 (dk_at dksX0_type_0 12 rfl rfl)
theorem dX0_type_13 : decode cX0_type 13 = .ok (.aload_n 0, 1) := dk_42 (dk_at dksX0_type_0 13 rfl rfl)
theorem dX0_type_14 : decode cX0_type 14 = .ok (.getfield 224, 3) := dk_180 0 224 (dk_at dksX0_type_0 14 rfl rfl)
theorem dX0_type_17 : decode cX0_type 17 = .ok (.bipush 80, 2) := dk_16 80 (dk_at dksX0_type_0 17 rfl rfl)
theorem dX0_type_19 : decode cX0_type 19 = .ok (.if_icmp .ne 6, 3) := dk_160 0 6 (dk_at dksX0_type_0 19 rfl rfl)
theorem dX0_type_22 : decode cX0_type 22 = .ok (.ldc 227, 2) := dk_18 227 (dk_at dksX0_type_0 22 rfl rfl)
theorem dX0_type_24 : decode cX0_type 24 = .ok (.ireturn, 1) := dk_172 (dk_at dksX0_type_1 0 rfl rfl)
theorem dX0_type_25 : decode cX0_type 25 = .ok (.aload_n 0, 1) := dk_42 (dk_at dksX0_type_1 1 rfl rfl)
theorem dX0_type_26 : decode cX0_type 26 = .ok (.getfield 24, 3) := dk_180 0 24 (dk_at dksX0_type_1 2 rfl rfl)
theorem dX0_type_29 : decode cX0_type 29 = .ok (.aload_n 0, 1) := dk_42 (dk_at dksX0_type_1 5 rfl rfl)
theorem dX0_type_30 : decode cX0_type 30 = .ok (.getfield 224, 3) := dk_180 0 224 (dk_at dksX0_type_1 6 rfl rfl)
theorem dX0_type_33 : decode cX0_type 33 = .ok (.iload_n 1, 1) := dk_27 (dk_at dksX0_type_1 9 rfl rfl)
theorem dX0_type_34 : decode cX0_type 34 = .ok (.i2b, 1) := dk_145 (dk_at dksX0_type_1 10 rfl rfl)
theorem dX0_type_35 : decode cX0_type 35 = .ok (.bastore, 1) := dk_84 (dk_at dksX0_type_1 11 rfl rfl)
theorem dX0_type_36 : decode cX0_type 36 = .ok (.aload_n 0, 1) := dk_42 (dk_at dksX0_type_1 12 rfl rfl)
theorem dX0_type_37 : decode cX0_type 37 = .ok (.dup, 1) := dk_89 (dk_at dksX0_type_1 13 rfl rfl)
theorem dX0_type_38 : decode cX0_type 38 = .ok (.getfield 224, 3) := dk_180 0 224 (dk_at dksX0_type_1 14 rfl rfl)
theorem dX0_type_41 : decode cX0_type 41 = .ok (.iconst 1, 1) := dk_4 (dk_at dksX0_type_1 17 rfl rfl)
theorem dX0_type_42 : decode cX0_type 42 = .ok (.iadd, 1) := dk_96 (dk_at dksX0_type_1 18 rfl rfl)
theorem dX0_type_43 : decode cX0_type 43 = .ok (.putfield 224, 3) := dk_181 0 224 (dk_at dksX0_type_1 19 rfl rfl)
theorem dX0_type_46 : decode cX0_type 46 = .ok (.aload_n 0, 1) := dk_42 (dk_at dksX0_type_1 22 rfl rfl)
theorem dX0_type_47 : decode cX0_type 47 = .ok (.getfield 224, 3) := dk_180 0 224 (dk_at dksX0_type_2 0 rfl rfl)
theorem dX0_type_50 : decode cX0_type 50 = .ok (.ireturn, 1) := dk_172 (dk_at dksX0_type_2 3 rfl rfl)
abbrev cX0_clearText : ByteArray := prog_1_method_30_code
def yX0_clearText : MethodName := ⟨RX0, "clearText", "()I"⟩
def dkwX0_clearText_0 : List UInt8 := [42, 180, 0, 224, 60, 42, 3, 181, 0, 224, 27, 172]
abbrev dktX0_clearText_0 : List UInt8 := dkwX0_clearText_0 ++ []
theorem dksX0_clearText_0 : cX0_clearText.data.toList.drop 0 = dktX0_clearText_0 := by decide +kernel
theorem dX0_clearText_0 : decode cX0_clearText 0 = .ok (.aload_n 0, 1) := dk_42 (dk_at dksX0_clearText_0 0 rfl rfl)
theorem dX0_clearText_1 : decode cX0_clearText 1 = .ok (.getfield 224, 3) := dk_180 0 224 (dk_at dksX0_clearText_0 1 rfl rfl)
theorem dX0_clearText_4 : decode cX0_clearText 4 = .ok (.istore_n 1, 1) := dk_60 (dk_at dksX0_clearText_0 4 rfl rfl)
theorem dX0_clearText_5 : decode cX0_clearText 5 = .ok (.aload_n 0, 1) := dk_42 (dk_at dksX0_clearText_0 5 rfl rfl)
theorem dX0_clearText_6 : decode cX0_clearText 6 = .ok (.iconst 0, 1) := dk_3 (dk_at dksX0_clearText_0 6 rfl rfl)
theorem dX0_clearText_7 : decode cX0_clearText 7 = .ok (.putfield 224, 3) := dk_181 0 224 (dk_at dksX0_clearText_0 7 rfl rfl)
theorem dX0_clearText_10 : decode cX0_clearText 10 = .ok (.iload_n 1, 1) := dk_27 (dk_at dksX0_clearText_0 10 rfl rfl)
theorem dX0_clearText_11 : decode cX0_clearText 11 = .ok (.ireturn, 1) := dk_172 (dk_at dksX0_clearText_0 11 rfl rfl)
abbrev cX0_fault : ByteArray := prog_1_method_31_code
def yX0_fault : MethodName := ⟨RX0, "fault", "()I"⟩
def dkwX0_fault_0 : List UInt8 := [187, 0, 228, 89, 42, 183, 0, 230, 182, 0, 231, 87, 2, 172, 76, 43, 180, 0, 237, 172]
abbrev dktX0_fault_0 : List UInt8 := dkwX0_fault_0 ++ []
theorem dksX0_fault_0 : cX0_fault.data.toList.drop 0 = dktX0_fault_0 := by decide +kernel
theorem dX0_fault_0 : decode cX0_fault 0 = .ok (.new 228, 3) := dk_187 0 228 (dk_at dksX0_fault_0 0 rfl rfl)
theorem dX0_fault_3 : decode cX0_fault 3 = .ok (.dup, 1) := dk_89 (dk_at dksX0_fault_0 3 rfl rfl)
theorem dX0_fault_4 : decode cX0_fault 4 = .ok (.aload_n 0, 1) := dk_42 (dk_at dksX0_fault_0 4 rfl rfl)
theorem dX0_fault_5 : decode cX0_fault 5 = .ok (.invokespecial 230, 3) := dk_183 0 230 (dk_at dksX0_fault_0 5 rfl rfl)
theorem dX0_fault_8 : decode cX0_fault 8 = .ok (.invokevirtual 231, 3) := dk_182 0 231 (dk_at dksX0_fault_0 8 rfl rfl)
theorem dX0_fault_11 : decode cX0_fault 11 = .ok (.pop, 1) := dk_87 (dk_at dksX0_fault_0 11 rfl rfl)
theorem dX0_fault_12 : decode cX0_fault 12 = .ok (.iconst (-1), 1) := dk_2 (dk_at dksX0_fault_0 12 rfl rfl)
theorem dX0_fault_13 : decode cX0_fault 13 = .ok (.ireturn, 1) := dk_172 (dk_at dksX0_fault_0 13 rfl rfl)
theorem dX0_fault_14 : decode cX0_fault 14 = .ok (.astore_n 1, 1) := dk_76 (dk_at dksX0_fault_0 14 rfl rfl)
theorem dX0_fault_15 : decode cX0_fault 15 = .ok (.aload_n 1, 1) := dk_43 (dk_at dksX0_fault_0 15 rfl rfl)
theorem dX0_fault_16 : decode cX0_fault 16 = .ok (.getfield 237, 3) := dk_180 0 237 (dk_at dksX0_fault_0 16 rfl rfl)
theorem dX0_fault_19 : decode cX0_fault 19 = .ok (.ireturn, 1) := dk_172 (dk_at dksX0_fault_0 19 rfl rfl)
abbrev cX0_run : ByteArray := prog_1_method_33_code
def yX0_run : MethodName := ⟨RX0, "run", "()I"⟩
def dkwX0_run_3 : List UInt8 := [181, 0, 28, 28, 29, 184, 0, 246, 153, 0, 7, 3, 167, 0, 4, 4, 96, 61, 167, 255, 195, 28, 172]
abbrev dktX0_run_3 : List UInt8 := dkwX0_run_3 ++ []
def dkwX0_run_2 : List UInt8 := [192, 0, 240, 42, 185, 0, 242, 2, 0, 62, 42, 29, 184, 0, 246, 153, 0, 7, 29, 167, 0, 4, 3]
abbrev dktX0_run_2 : List UInt8 := dkwX0_run_2 ++ dktX0_run_3
def dkwX0_run_1 : List UInt8 := [3, 61, 28, 43, 182, 0, 179, 162, 0, 59, 42, 180, 0, 28, 154, 0, 52, 43, 28, 182, 0, 184]
abbrev dktX0_run_1 : List UInt8 := dkwX0_run_1 ++ dktX0_run_2
def dkwX0_run_0 : List UInt8 := [187, 0, 228, 89, 42, 183, 0, 230, 182, 0, 231, 76, 167, 0, 7, 77, 18, 128, 172, 42, 3, 181, 0, 28]
abbrev dktX0_run_0 : List UInt8 := dkwX0_run_0 ++ dktX0_run_1
theorem dksX0_run_0 : cX0_run.data.toList.drop 0 = dktX0_run_0 := by decide +kernel
theorem dksX0_run_1 : cX0_run.data.toList.drop 24 = dktX0_run_1 := dk_seg dksX0_run_0 24 rfl rfl
theorem dksX0_run_2 : cX0_run.data.toList.drop 46 = dktX0_run_2 := dk_seg dksX0_run_1 22 rfl rfl
theorem dksX0_run_3 : cX0_run.data.toList.drop 69 = dktX0_run_3 := dk_seg dksX0_run_2 23 rfl rfl
theorem dX0_run_0 : decode cX0_run 0 = .ok (.new 228, 3) := dk_187 0 228 (dk_at dksX0_run_0 0 rfl rfl)
theorem dX0_run_3 : decode cX0_run 3 = .ok (.dup, 1) := dk_89 (dk_at dksX0_run_0 3 rfl rfl)
theorem dX0_run_4 : decode cX0_run 4 = .ok (.aload_n 0, 1) := dk_42 (dk_at dksX0_run_0 4 rfl rfl)
theorem dX0_run_5 : decode cX0_run 5 = .ok (.invokespecial 230, 3) := dk_183 0 230 (dk_at dksX0_run_0 5 rfl rfl)
theorem dX0_run_8 : decode cX0_run 8 = .ok (.invokevirtual 231, 3) := dk_182 0 231 (dk_at dksX0_run_0 8 rfl rfl)
theorem dX0_run_11 : decode cX0_run 11 = .ok (.astore_n 1, 1) := dk_76 (dk_at dksX0_run_0 11 rfl rfl)
theorem dX0_run_12 : decode cX0_run 12 = .ok (.goto 7, 3) := dk_167 0 7 (dk_at dksX0_run_0 12 rfl rfl)
theorem dX0_run_15 : decode cX0_run 15 = .ok (.astore_n 2, 1) := dk_77 (dk_at dksX0_run_0 15 rfl rfl)
theorem dX0_run_16 : decode cX0_run 16 = .ok (.ldc 128, 2) := dk_18 128 (dk_at dksX0_run_0 16 rfl rfl)
theorem dX0_run_18 : decode cX0_run 18 = .ok (.ireturn, 1) := dk_172 (dk_at dksX0_run_0 18 rfl rfl)
theorem dX0_run_19 : decode cX0_run 19 = .ok (.aload_n 0, 1) := dk_42 (dk_at dksX0_run_0 19 rfl rfl)
theorem dX0_run_20 : decode cX0_run 20 = .ok (.iconst 0, 1) := dk_3 (dk_at dksX0_run_0 20 rfl rfl)
theorem dX0_run_21 : decode cX0_run 21 = .ok (.putfield 28, 3) := dk_181 0 28 (dk_at dksX0_run_0 21 rfl rfl)
theorem dX0_run_24 : decode cX0_run 24 = .ok (.iconst 0, 1) := dk_3 (dk_at dksX0_run_1 0 rfl rfl)
theorem dX0_run_25 : decode cX0_run 25 = .ok (.istore_n 2, 1) := dk_61 (dk_at dksX0_run_1 1 rfl rfl)
theorem dX0_run_26 : decode cX0_run 26 = .ok (.iload_n 2, 1) := dk_28 (dk_at dksX0_run_1 2 rfl rfl)
theorem dX0_run_27 : decode cX0_run 27 = .ok (.aload_n 1, 1) := dk_43 (dk_at dksX0_run_1 3 rfl rfl)
theorem dX0_run_28 : decode cX0_run 28 = .ok (.invokevirtual 179, 3) := dk_182 0 179 (dk_at dksX0_run_1 4 rfl rfl)
theorem dX0_run_31 : decode cX0_run 31 = .ok (.if_icmp .ge 59, 3) := dk_162 0 59 (dk_at dksX0_run_1 7 rfl rfl)
theorem dX0_run_34 : decode cX0_run 34 = .ok (.aload_n 0, 1) := dk_42 (dk_at dksX0_run_1 10 rfl rfl)
theorem dX0_run_35 : decode cX0_run 35 = .ok (.getfield 28, 3) := dk_180 0 28 (dk_at dksX0_run_1 11 rfl rfl)
theorem dX0_run_38 : decode cX0_run 38 = .ok (.ifCond .ne 52, 3) := dk_154 0 52 (dk_at dksX0_run_1 14 rfl rfl)
theorem dX0_run_41 : decode cX0_run 41 = .ok (.aload_n 1, 1) := dk_43 (dk_at dksX0_run_1 17 rfl rfl)
theorem dX0_run_42 : decode cX0_run 42 = .ok (.iload_n 2, 1) := dk_28 (dk_at dksX0_run_1 18 rfl rfl)
theorem dX0_run_43 : decode cX0_run 43 = .ok (.invokevirtual 184, 3) := dk_182 0 184 (dk_at dksX0_run_1 19 rfl rfl)
theorem dX0_run_46 : decode cX0_run 46 = .ok (.checkcast 240, 3) := dk_192 0 240 (dk_at dksX0_run_2 0 rfl rfl)
theorem dX0_run_49 : decode cX0_run 49 = .ok (.aload_n 0, 1) := dk_42 (dk_at dksX0_run_2 3 rfl rfl)
theorem dX0_run_50 : decode cX0_run 50 = .ok (.invokeinterface 242 2, 5) := by decide +kernel
theorem dX0_run_55 : decode cX0_run 55 = .ok (.istore_n 3, 1) := dk_62 (dk_at dksX0_run_2 9 rfl rfl)
theorem dX0_run_56 : decode cX0_run 56 = .ok (.aload_n 0, 1) := dk_42 (dk_at dksX0_run_2 10 rfl rfl)
theorem dX0_run_57 : decode cX0_run 57 = .ok (.iload_n 3, 1) := dk_29 (dk_at dksX0_run_2 11 rfl rfl)
theorem dX0_run_58 : decode cX0_run 58 = .ok (.invokestatic 246, 3) := dk_184 0 246 (dk_at dksX0_run_2 12 rfl rfl)
theorem dX0_run_61 : decode cX0_run 61 = .ok (.ifCond .eq 7, 3) := dk_153 0 7 (dk_at dksX0_run_2 15 rfl rfl)
theorem dX0_run_64 : decode cX0_run 64 = .ok (.iload_n 3, 1) := dk_29 (dk_at dksX0_run_2 18 rfl rfl)
theorem dX0_run_65 : decode cX0_run 65 = .ok (.goto 4, 3) := dk_167 0 4 (dk_at dksX0_run_2 19 rfl rfl)
theorem dX0_run_68 : decode cX0_run 68 = .ok (.iconst 0, 1) := dk_3 (dk_at dksX0_run_2 22 rfl rfl)
theorem dX0_run_69 : decode cX0_run 69 = .ok (.putfield 28, 3) := dk_181 0 28 (dk_at dksX0_run_3 0 rfl rfl)
theorem dX0_run_72 : decode cX0_run 72 = .ok (.iload_n 2, 1) := dk_28 (dk_at dksX0_run_3 3 rfl rfl)
theorem dX0_run_73 : decode cX0_run 73 = .ok (.iload_n 3, 1) := dk_29 (dk_at dksX0_run_3 4 rfl rfl)
theorem dX0_run_74 : decode cX0_run 74 = .ok (.invokestatic 246, 3) := dk_184 0 246 (dk_at dksX0_run_3 5 rfl rfl)
theorem dX0_run_77 : decode cX0_run 77 = .ok (.ifCond .eq 7, 3) := dk_153 0 7 (dk_at dksX0_run_3 8 rfl rfl)
theorem dX0_run_80 : decode cX0_run 80 = .ok (.iconst 0, 1) := dk_3 (dk_at dksX0_run_3 11 rfl rfl)
theorem dX0_run_81 : decode cX0_run 81 = .ok (.goto 4, 3) := dk_167 0 4 (dk_at dksX0_run_3 12 rfl rfl)
theorem dX0_run_84 : decode cX0_run 84 = .ok (.iconst 1, 1) := dk_4 (dk_at dksX0_run_3 15 rfl rfl)
theorem dX0_run_85 : decode cX0_run 85 = .ok (.iadd, 1) := dk_96 (dk_at dksX0_run_3 16 rfl rfl)
theorem dX0_run_86 : decode cX0_run 86 = .ok (.istore_n 2, 1) := dk_61 (dk_at dksX0_run_3 17 rfl rfl)
theorem dX0_run_87 : decode cX0_run 87 = .ok (.goto (-61), 3) := dk_167 255 195 (dk_at dksX0_run_3 18 rfl rfl)
theorem dX0_run_90 : decode cX0_run 90 = .ok (.iload_n 2, 1) := dk_28 (dk_at dksX0_run_3 21 rfl rfl)
theorem dX0_run_91 : decode cX0_run 91 = .ok (.ireturn, 1) := dk_172 (dk_at dksX0_run_3 22 rfl rfl)
abbrev cX0_isError : ByteArray := prog_1_method_32_code
def yX0_isError : MethodName := ⟨RX0, "isError", "(I)Z"⟩
def dkwX0_isError_0 : List UInt8 := [26, 18, 49, 159, 0, 15, 26, 18, 128, 159, 0, 9, 26, 18, 227, 160, 0, 7, 4, 167, 0, 4, 3, 172]
abbrev dktX0_isError_0 : List UInt8 := dkwX0_isError_0 ++ []
theorem dksX0_isError_0 : cX0_isError.data.toList.drop 0 = dktX0_isError_0 := by decide +kernel
theorem dX0_isError_0 : decode cX0_isError 0 = .ok (.iload_n 0, 1) := dk_26 (dk_at dksX0_isError_0 0 rfl rfl)
theorem dX0_isError_1 : decode cX0_isError 1 = .ok (.ldc 49, 2) := dk_18 49 (dk_at dksX0_isError_0 1 rfl rfl)
theorem dX0_isError_3 : decode cX0_isError 3 = .ok (.if_icmp .eq 15, 3) := dk_159 0 15 (dk_at dksX0_isError_0 3 rfl rfl)
theorem dX0_isError_6 : decode cX0_isError 6 = .ok (.iload_n 0, 1) := dk_26 (dk_at dksX0_isError_0 6 rfl rfl)
theorem dX0_isError_7 : decode cX0_isError 7 = .ok (.ldc 128, 2) := dk_18 128 (dk_at dksX0_isError_0 7 rfl rfl)
theorem dX0_isError_9 : decode cX0_isError 9 = .ok (.if_icmp .eq 9, 3) := dk_159 0 9 (dk_at dksX0_isError_0 9 rfl rfl)
theorem dX0_isError_12 : decode cX0_isError 12 = .ok (.iload_n 0, 1) := dk_26 (dk_at dksX0_isError_0 12 rfl rfl)
theorem dX0_isError_13 : decode cX0_isError 13 = .ok (.ldc 227, 2) := dk_18 227 (dk_at dksX0_isError_0 13 rfl rfl)
theorem dX0_isError_15 : decode cX0_isError 15 = .ok (.if_icmp .ne 7, 3) := dk_160 0 7 (dk_at dksX0_isError_0 15 rfl rfl)
theorem dX0_isError_18 : decode cX0_isError 18 = .ok (.iconst 1, 1) := dk_4 (dk_at dksX0_isError_0 18 rfl rfl)
theorem dX0_isError_19 : decode cX0_isError 19 = .ok (.goto 4, 3) := dk_167 0 4 (dk_at dksX0_isError_0 19 rfl rfl)
theorem dX0_isError_22 : decode cX0_isError 22 = .ok (.iconst 0, 1) := dk_3 (dk_at dksX0_isError_0 22 rfl rfl)
theorem dX0_isError_23 : decode cX0_isError 23 = .ok (.ireturn, 1) := dk_172 (dk_at dksX0_isError_0 23 rfl rfl)
abbrev cX0_refusal : ByteArray := prog_1_method_34_code
def yX0_refusal : MethodName := ⟨RX0, "refusal", "()I"⟩
theorem dX0_refusal_0 : decode cX0_refusal 0 = .ok (.aload_n 0, 1) := by decide +kernel
theorem dX0_refusal_1 : decode cX0_refusal 1 = .ok (.getfield 28, 3) := by decide +kernel
theorem dX0_refusal_4 : decode cX0_refusal 4 = .ok (.ireturn, 1) := by decide +kernel
abbrev cX0_save : ByteArray := prog_1_method_35_code
def yX0_save : MethodName := ⟨RX0, "save", "(I)I"⟩
def dkwX0_save_1 : List UInt8 := [180, 0, 12, 183, 0, 249, 83, 42, 180, 0, 12, 180, 0, 175, 182, 0, 179, 172]
abbrev dktX0_save_1 : List UInt8 := dkwX0_save_1 ++ []
def dkwX0_save_0 : List UInt8 := [27, 3, 4, 184, 0, 45, 154, 0, 6, 18, 49, 172, 42, 180, 0, 32, 27, 187, 0, 7, 89, 42]
abbrev dktX0_save_0 : List UInt8 := dkwX0_save_0 ++ dktX0_save_1
theorem dksX0_save_0 : cX0_save.data.toList.drop 0 = dktX0_save_0 := by decide +kernel
theorem dksX0_save_1 : cX0_save.data.toList.drop 22 = dktX0_save_1 := dk_seg dksX0_save_0 22 rfl rfl
theorem dX0_save_0 : decode cX0_save 0 = .ok (.iload_n 1, 1) := dk_27 (dk_at dksX0_save_0 0 rfl rfl)
theorem dX0_save_1 : decode cX0_save 1 = .ok (.iconst 0, 1) := dk_3 (dk_at dksX0_save_0 1 rfl rfl)
theorem dX0_save_2 : decode cX0_save 2 = .ok (.iconst 1, 1) := dk_4 (dk_at dksX0_save_0 2 rfl rfl)
theorem dX0_save_3 : decode cX0_save 3 = .ok (.invokestatic 45, 3) := dk_184 0 45 (dk_at dksX0_save_0 3 rfl rfl)
theorem dX0_save_6 : decode cX0_save 6 = .ok (.ifCond .ne 6, 3) := dk_154 0 6 (dk_at dksX0_save_0 6 rfl rfl)
theorem dX0_save_9 : decode cX0_save 9 = .ok (.ldc 49, 2) := dk_18 49 (dk_at dksX0_save_0 9 rfl rfl)
theorem dX0_save_11 : decode cX0_save 11 = .ok (.ireturn, 1) := dk_172 (dk_at dksX0_save_0 11 rfl rfl)
theorem dX0_save_12 : decode cX0_save 12 = .ok (.aload_n 0, 1) := dk_42 (dk_at dksX0_save_0 12 rfl rfl)
theorem dX0_save_13 : decode cX0_save 13 = .ok (.getfield 32, 3) := dk_180 0 32 (dk_at dksX0_save_0 13 rfl rfl)
theorem dX0_save_16 : decode cX0_save 16 = .ok (.iload_n 1, 1) := dk_27 (dk_at dksX0_save_0 16 rfl rfl)
theorem dX0_save_17 : decode cX0_save 17 = .ok (.new 7, 3) := dk_187 0 7 (dk_at dksX0_save_0 17 rfl rfl)
theorem dX0_save_20 : decode cX0_save 20 = .ok (.dup, 1) := dk_89 (dk_at dksX0_save_0 20 rfl rfl)
theorem dX0_save_21 : decode cX0_save 21 = .ok (.aload_n 0, 1) := dk_42 (dk_at dksX0_save_0 21 rfl rfl)
theorem dX0_save_22 : decode cX0_save 22 = .ok (.getfield 12, 3) := dk_180 0 12 (dk_at dksX0_save_1 0 rfl rfl)
theorem dX0_save_25 : decode cX0_save 25 = .ok (.invokespecial 249, 3) := dk_183 0 249 (dk_at dksX0_save_1 3 rfl rfl)
theorem dX0_save_28 : decode cX0_save 28 = .ok (.aastore, 1) := dk_83 (dk_at dksX0_save_1 6 rfl rfl)
theorem dX0_save_29 : decode cX0_save 29 = .ok (.aload_n 0, 1) := dk_42 (dk_at dksX0_save_1 7 rfl rfl)
theorem dX0_save_30 : decode cX0_save 30 = .ok (.getfield 12, 3) := dk_180 0 12 (dk_at dksX0_save_1 8 rfl rfl)
theorem dX0_save_33 : decode cX0_save 33 = .ok (.getfield 175, 3) := dk_180 0 175 (dk_at dksX0_save_1 11 rfl rfl)
theorem dX0_save_36 : decode cX0_save 36 = .ok (.invokevirtual 179, 3) := dk_182 0 179 (dk_at dksX0_save_1 14 rfl rfl)
theorem dX0_save_39 : decode cX0_save 39 = .ok (.ireturn, 1) := dk_172 (dk_at dksX0_save_1 17 rfl rfl)
abbrev cX0_restore : ByteArray := prog_1_method_36_code
def yX0_restore : MethodName := ⟨RX0, "restore", "(I)I"⟩
def dkwX0_restore_2 : List UInt8 := [182, 0, 179, 172]
abbrev dktX0_restore_2 : List UInt8 := dkwX0_restore_2 ++ []
def dkwX0_restore_1 : List UInt8 := [42, 187, 0, 7, 89, 42, 180, 0, 32, 27, 50, 183, 0, 249, 181, 0, 12, 42, 180, 0, 12, 180, 0, 175]
abbrev dktX0_restore_1 : List UInt8 := dkwX0_restore_1 ++ dktX0_restore_2
def dkwX0_restore_0 : List UInt8 := [27, 3, 4, 184, 0, 45, 154, 0, 6, 18, 49, 172, 42, 180, 0, 32, 27, 50, 199, 0, 6, 18, 128, 172]
abbrev dktX0_restore_0 : List UInt8 := dkwX0_restore_0 ++ dktX0_restore_1
theorem dksX0_restore_0 : cX0_restore.data.toList.drop 0 = dktX0_restore_0 := by decide +kernel
theorem dksX0_restore_1 : cX0_restore.data.toList.drop 24 = dktX0_restore_1 := dk_seg dksX0_restore_0 24 rfl rfl
theorem dksX0_restore_2 : cX0_restore.data.toList.drop 48 = dktX0_restore_2 := dk_seg dksX0_restore_1 24 rfl rfl
theorem dX0_restore_0 : decode cX0_restore 0 = .ok (.iload_n 1, 1) := dk_27 (dk_at dksX0_restore_0 0 rfl rfl)
theorem dX0_restore_1 : decode cX0_restore 1 = .ok (.iconst 0, 1) := dk_3 (dk_at dksX0_restore_0 1 rfl rfl)
theorem dX0_restore_2 : decode cX0_restore 2 = .ok (.iconst 1, 1) := dk_4 (dk_at dksX0_restore_0 2 rfl rfl)
theorem dX0_restore_3 : decode cX0_restore 3 = .ok (.invokestatic 45, 3) := dk_184 0 45 (dk_at dksX0_restore_0 3 rfl rfl)
theorem dX0_restore_6 : decode cX0_restore 6 = .ok (.ifCond .ne 6, 3) := dk_154 0 6 (dk_at dksX0_restore_0 6 rfl rfl)
theorem dX0_restore_9 : decode cX0_restore 9 = .ok (.ldc 49, 2) := dk_18 49 (dk_at dksX0_restore_0 9 rfl rfl)
theorem dX0_restore_11 : decode cX0_restore 11 = .ok (.ireturn, 1) := dk_172 (dk_at dksX0_restore_0 11 rfl rfl)
theorem dX0_restore_12 : decode cX0_restore 12 = .ok (.aload_n 0, 1) := dk_42 (dk_at dksX0_restore_0 12 rfl rfl)
theorem dX0_restore_13 : decode cX0_restore 13 = .ok (.getfield 32, 3) := dk_180 0 32 (dk_at dksX0_restore_0 13 rfl rfl)
theorem dX0_restore_16 : decode cX0_restore 16 = .ok (.iload_n 1, 1) := dk_27 (dk_at dksX0_restore_0 16 rfl rfl)
theorem dX0_restore_17 : decode cX0_restore 17 = .ok (.aaload, 1) := dk_50 (dk_at dksX0_restore_0 17 rfl rfl)
theorem dX0_restore_18 : decode cX0_restore 18 = .ok (.ifnonnull 6, 3) := dk_199 0 6 (dk_at dksX0_restore_0 18 rfl rfl)
theorem dX0_restore_21 : decode cX0_restore 21 = .ok (.ldc 128, 2) := dk_18 128 (dk_at dksX0_restore_0 21 rfl rfl)
theorem dX0_restore_23 : decode cX0_restore 23 = .ok (.ireturn, 1) := dk_172 (dk_at dksX0_restore_0 23 rfl rfl)
theorem dX0_restore_24 : decode cX0_restore 24 = .ok (.aload_n 0, 1) := dk_42 (dk_at dksX0_restore_1 0 rfl rfl)
theorem dX0_restore_25 : decode cX0_restore 25 = .ok (.new 7, 3) := dk_187 0 7 (dk_at dksX0_restore_1 1 rfl rfl)
theorem dX0_restore_28 : decode cX0_restore 28 = .ok (.dup, 1) := dk_89 (dk_at dksX0_restore_1 4 rfl rfl)
theorem dX0_restore_29 : decode cX0_restore 29 = .ok (.aload_n 0, 1) := dk_42 (dk_at dksX0_restore_1 5 rfl rfl)
theorem dX0_restore_30 : decode cX0_restore 30 = .ok (.getfield 32, 3) := dk_180 0 32 (dk_at dksX0_restore_1 6 rfl rfl)
theorem dX0_restore_33 : decode cX0_restore 33 = .ok (.iload_n 1, 1) := dk_27 (dk_at dksX0_restore_1 9 rfl rfl)
theorem dX0_restore_34 : decode cX0_restore 34 = .ok (.aaload, 1) := dk_50 (dk_at dksX0_restore_1 10 rfl rfl)
theorem dX0_restore_35 : decode cX0_restore 35 = .ok (.invokespecial 249, 3) := dk_183 0 249 (dk_at dksX0_restore_1 11 rfl rfl)
theorem dX0_restore_38 : decode cX0_restore 38 = .ok (.putfield 12, 3) := dk_181 0 12 (dk_at dksX0_restore_1 14 rfl rfl)
theorem dX0_restore_41 : decode cX0_restore 41 = .ok (.aload_n 0, 1) := dk_42 (dk_at dksX0_restore_1 17 rfl rfl)
theorem dX0_restore_42 : decode cX0_restore 42 = .ok (.getfield 12, 3) := dk_180 0 12 (dk_at dksX0_restore_1 18 rfl rfl)
theorem dX0_restore_45 : decode cX0_restore 45 = .ok (.getfield 175, 3) := dk_180 0 175 (dk_at dksX0_restore_1 21 rfl rfl)
theorem dX0_restore_48 : decode cX0_restore 48 = .ok (.invokevirtual 179, 3) := dk_182 0 179 (dk_at dksX0_restore_2 0 rfl rfl)
theorem dX0_restore_51 : decode cX0_restore 51 = .ok (.ireturn, 1) := dk_172 (dk_at dksX0_restore_2 3 rfl rfl)
abbrev cX0_count : ByteArray := prog_1_method_37_code
def yX0_count : MethodName := ⟨RX0, "count", "(I)I"⟩
def dkwX0_count_4 : List UInt8 := [180, 0, 160, 172, 42, 180, 0, 12, 180, 0, 163, 172, 42, 180, 0, 224, 172, 18, 49, 172]
abbrev dktX0_count_4 : List UInt8 := dkwX0_count_4 ++ []
def dkwX0_count_3 : List UInt8 := [182, 0, 179, 172, 42, 180, 0, 12, 182, 0, 129, 172, 42, 180, 0, 12, 180, 0, 252, 172, 42, 180, 0, 12]
abbrev dktX0_count_3 : List UInt8 := dkwX0_count_3 ++ dktX0_count_4
def dkwX0_count_2 : List UInt8 := [42, 180, 0, 12, 180, 0, 97, 172, 42, 180, 0, 12, 180, 0, 138, 172, 42, 180, 0, 12, 180, 0, 175]
abbrev dktX0_count_2 : List UInt8 := dkwX0_count_2 ++ dktX0_count_3
def dkwX0_count_1 : List UInt8 := [170, 0, 0, 0, 0, 0, 111, 0, 0, 0, 0, 0, 0, 0, 7, 0, 0, 0, 47, 0, 0, 0, 55, 0, 0, 0, 63, 0, 0, 0, 74, 0, 0, 0, 82, 0, 0, 0, 90, 0, 0, 0, 98, 0, 0, 0, 106]
abbrev dktX0_count_1 : List UInt8 := dkwX0_count_1 ++ dktX0_count_2
def dkwX0_count_0 : List UInt8 := [27]
abbrev dktX0_count_0 : List UInt8 := dkwX0_count_0 ++ dktX0_count_1
theorem dksX0_count_0 : cX0_count.data.toList.drop 0 = dktX0_count_0 := by decide +kernel
theorem dksX0_count_1 : cX0_count.data.toList.drop 1 = dktX0_count_1 := dk_seg dksX0_count_0 1 rfl rfl
theorem dksX0_count_2 : cX0_count.data.toList.drop 48 = dktX0_count_2 := dk_seg dksX0_count_1 47 rfl rfl
theorem dksX0_count_3 : cX0_count.data.toList.drop 71 = dktX0_count_3 := dk_seg dksX0_count_2 23 rfl rfl
theorem dksX0_count_4 : cX0_count.data.toList.drop 95 = dktX0_count_4 := dk_seg dksX0_count_3 24 rfl rfl
theorem dX0_count_0 : decode cX0_count 0 = .ok (.iload_n 1, 1) := dk_27 (dk_at dksX0_count_0 0 rfl rfl)
theorem dX0_count_1 : decode cX0_count 1 = .ok (.tableswitch 111 0 7 #[47, 55, 63, 74, 82, 90, 98, 106], 47) := by decide +kernel
theorem dX0_count_48 : decode cX0_count 48 = .ok (.aload_n 0, 1) := dk_42 (dk_at dksX0_count_2 0 rfl rfl)
theorem dX0_count_49 : decode cX0_count 49 = .ok (.getfield 12, 3) := dk_180 0 12 (dk_at dksX0_count_2 1 rfl rfl)
theorem dX0_count_52 : decode cX0_count 52 = .ok (.getfield 97, 3) := dk_180 0 97 (dk_at dksX0_count_2 4 rfl rfl)
theorem dX0_count_55 : decode cX0_count 55 = .ok (.ireturn, 1) := dk_172 (dk_at dksX0_count_2 7 rfl rfl)
theorem dX0_count_56 : decode cX0_count 56 = .ok (.aload_n 0, 1) := dk_42 (dk_at dksX0_count_2 8 rfl rfl)
theorem dX0_count_57 : decode cX0_count 57 = .ok (.getfield 12, 3) := dk_180 0 12 (dk_at dksX0_count_2 9 rfl rfl)
theorem dX0_count_60 : decode cX0_count 60 = .ok (.getfield 138, 3) := dk_180 0 138 (dk_at dksX0_count_2 12 rfl rfl)
theorem dX0_count_63 : decode cX0_count 63 = .ok (.ireturn, 1) := dk_172 (dk_at dksX0_count_2 15 rfl rfl)
theorem dX0_count_64 : decode cX0_count 64 = .ok (.aload_n 0, 1) := dk_42 (dk_at dksX0_count_2 16 rfl rfl)
theorem dX0_count_65 : decode cX0_count 65 = .ok (.getfield 12, 3) := dk_180 0 12 (dk_at dksX0_count_2 17 rfl rfl)
theorem dX0_count_68 : decode cX0_count 68 = .ok (.getfield 175, 3) := dk_180 0 175 (dk_at dksX0_count_2 20 rfl rfl)
theorem dX0_count_71 : decode cX0_count 71 = .ok (.invokevirtual 179, 3) := dk_182 0 179 (dk_at dksX0_count_3 0 rfl rfl)
theorem dX0_count_74 : decode cX0_count 74 = .ok (.ireturn, 1) := dk_172 (dk_at dksX0_count_3 3 rfl rfl)
theorem dX0_count_75 : decode cX0_count 75 = .ok (.aload_n 0, 1) := dk_42 (dk_at dksX0_count_3 4 rfl rfl)
theorem dX0_count_76 : decode cX0_count 76 = .ok (.getfield 12, 3) := dk_180 0 12 (dk_at dksX0_count_3 5 rfl rfl)
theorem dX0_count_79 : decode cX0_count 79 = .ok (.invokevirtual 129, 3) := dk_182 0 129 (dk_at dksX0_count_3 8 rfl rfl)
theorem dX0_count_82 : decode cX0_count 82 = .ok (.ireturn, 1) := dk_172 (dk_at dksX0_count_3 11 rfl rfl)
theorem dX0_count_83 : decode cX0_count 83 = .ok (.aload_n 0, 1) := dk_42 (dk_at dksX0_count_3 12 rfl rfl)
theorem dX0_count_84 : decode cX0_count 84 = .ok (.getfield 12, 3) := dk_180 0 12 (dk_at dksX0_count_3 13 rfl rfl)
theorem dX0_count_87 : decode cX0_count 87 = .ok (.getfield 252, 3) := dk_180 0 252 (dk_at dksX0_count_3 16 rfl rfl)
theorem dX0_count_90 : decode cX0_count 90 = .ok (.ireturn, 1) := dk_172 (dk_at dksX0_count_3 19 rfl rfl)
theorem dX0_count_91 : decode cX0_count 91 = .ok (.aload_n 0, 1) := dk_42 (dk_at dksX0_count_3 20 rfl rfl)
theorem dX0_count_92 : decode cX0_count 92 = .ok (.getfield 12, 3) := dk_180 0 12 (dk_at dksX0_count_3 21 rfl rfl)
theorem dX0_count_95 : decode cX0_count 95 = .ok (.getfield 160, 3) := dk_180 0 160 (dk_at dksX0_count_4 0 rfl rfl)
theorem dX0_count_98 : decode cX0_count 98 = .ok (.ireturn, 1) := dk_172 (dk_at dksX0_count_4 3 rfl rfl)
theorem dX0_count_99 : decode cX0_count 99 = .ok (.aload_n 0, 1) := dk_42 (dk_at dksX0_count_4 4 rfl rfl)
theorem dX0_count_100 : decode cX0_count 100 = .ok (.getfield 12, 3) := dk_180 0 12 (dk_at dksX0_count_4 5 rfl rfl)
theorem dX0_count_103 : decode cX0_count 103 = .ok (.getfield 163, 3) := dk_180 0 163 (dk_at dksX0_count_4 8 rfl rfl)
theorem dX0_count_106 : decode cX0_count 106 = .ok (.ireturn, 1) := dk_172 (dk_at dksX0_count_4 11 rfl rfl)
theorem dX0_count_107 : decode cX0_count 107 = .ok (.aload_n 0, 1) := dk_42 (dk_at dksX0_count_4 12 rfl rfl)
theorem dX0_count_108 : decode cX0_count 108 = .ok (.getfield 224, 3) := dk_180 0 224 (dk_at dksX0_count_4 13 rfl rfl)
theorem dX0_count_111 : decode cX0_count 111 = .ok (.ireturn, 1) := dk_172 (dk_at dksX0_count_4 16 rfl rfl)
theorem dX0_count_112 : decode cX0_count 112 = .ok (.ldc 49, 2) := dk_18 49 (dk_at dksX0_count_4 17 rfl rfl)
theorem dX0_count_114 : decode cX0_count 114 = .ok (.ireturn, 1) := dk_172 (dk_at dksX0_count_4 19 rfl rfl)
abbrev cX0_digest : ByteArray := prog_1_method_41_code
def yX0_digest : MethodName := ⟨RX0, "digest", "()J"⟩
def dkwX0_digest_7 : List UInt8 := [42, 180, 0, 24, 27, 51, 133, 182, 1, 5, 132, 1, 1, 167, 255, 234, 42, 180, 1, 1, 173]
abbrev dktX0_digest_7 : List UInt8 := dkwX0_digest_7 ++ []
def dkwX0_digest_6 : List UInt8 := [182, 1, 31, 133, 182, 1, 5, 132, 1, 1, 167, 255, 228, 3, 60, 27, 42, 180, 0, 224, 162, 0, 20, 42]
abbrev dktX0_digest_6 : List UInt8 := dkwX0_digest_6 ++ dktX0_digest_7
def dkwX0_digest_5 : List UInt8 := [167, 255, 238, 3, 60, 27, 8, 163, 0, 29, 42, 180, 0, 12, 180, 0, 156, 198, 0, 19, 42, 42, 27]
abbrev dktX0_digest_5 : List UInt8 := dkwX0_digest_5 ++ dktX0_digest_6
def dkwX0_digest_4 : List UInt8 := [167, 255, 221, 3, 60, 27, 7, 163, 0, 19, 42, 42, 27, 182, 1, 28, 133, 182, 1, 5, 132, 1, 1]
abbrev dktX0_digest_4 : List UInt8 := dkwX0_digest_4 ++ dktX0_digest_5
def dkwX0_digest_3 : List UInt8 := [162, 0, 27, 42, 42, 180, 0, 12, 180, 0, 175, 27, 182, 0, 184, 192, 0, 18, 182, 1, 24, 132, 1, 1]
abbrev dktX0_digest_3 : List UInt8 := dkwX0_digest_3 ++ dktX0_digest_4
def dkwX0_digest_2 : List UInt8 := [180, 0, 12, 180, 0, 135, 182, 1, 15, 3, 60, 27, 42, 180, 0, 12, 180, 0, 175, 182, 0, 179]
abbrev dktX0_digest_2 : List UInt8 := dkwX0_digest_2 ++ dktX0_digest_3
def dkwX0_digest_1 : List UInt8 := [182, 1, 5, 132, 1, 1, 167, 255, 237, 42, 42, 180, 0, 12, 180, 0, 132, 182, 1, 15, 42, 42]
abbrev dktX0_digest_1 : List UInt8 := dkwX0_digest_1 ++ dktX0_digest_2
def dkwX0_digest_0 : List UInt8 := [42, 20, 1, 19, 181, 1, 1, 3, 60, 27, 16, 7, 163, 0, 19, 42, 42, 27, 182, 1, 21, 133]
abbrev dktX0_digest_0 : List UInt8 := dkwX0_digest_0 ++ dktX0_digest_1
theorem dksX0_digest_0 : cX0_digest.data.toList.drop 0 = dktX0_digest_0 := by decide +kernel
theorem dksX0_digest_1 : cX0_digest.data.toList.drop 22 = dktX0_digest_1 := dk_seg dksX0_digest_0 22 rfl rfl
theorem dksX0_digest_2 : cX0_digest.data.toList.drop 44 = dktX0_digest_2 := dk_seg dksX0_digest_1 22 rfl rfl
theorem dksX0_digest_3 : cX0_digest.data.toList.drop 66 = dktX0_digest_3 := dk_seg dksX0_digest_2 22 rfl rfl
theorem dksX0_digest_4 : cX0_digest.data.toList.drop 90 = dktX0_digest_4 := dk_seg dksX0_digest_3 24 rfl rfl
theorem dksX0_digest_5 : cX0_digest.data.toList.drop 113 = dktX0_digest_5 := dk_seg dksX0_digest_4 23 rfl rfl
theorem dksX0_digest_6 : cX0_digest.data.toList.drop 136 = dktX0_digest_6 := dk_seg dksX0_digest_5 23 rfl rfl
theorem dksX0_digest_7 : cX0_digest.data.toList.drop 160 = dktX0_digest_7 := dk_seg dksX0_digest_6 24 rfl rfl
theorem dX0_digest_0 : decode cX0_digest 0 = .ok (.aload_n 0, 1) := dk_42 (dk_at dksX0_digest_0 0 rfl rfl)
theorem dX0_digest_1 : decode cX0_digest 1 = .ok (.ldc2_w 275, 3) := dk_20 1 19 (dk_at dksX0_digest_0 1 rfl rfl)
theorem dX0_digest_4 : decode cX0_digest 4 = .ok (.putfield 257, 3) := dk_181 1 1 (dk_at dksX0_digest_0 4 rfl rfl)
theorem dX0_digest_7 : decode cX0_digest 7 = .ok (.iconst 0, 1) := dk_3 (dk_at dksX0_digest_0 7 rfl rfl)
theorem dX0_digest_8 : decode cX0_digest 8 = .ok (.istore_n 1, 1) := dk_60 (dk_at dksX0_digest_0 8 rfl rfl)
theorem dX0_digest_9 : decode cX0_digest 9 = .ok (.iload_n 1, 1) := dk_27 (dk_at dksX0_digest_0 9 rfl rfl)
theorem dX0_digest_10 : decode cX0_digest 10 = .ok (.bipush 7, 2) := dk_16 7 (dk_at dksX0_digest_0 10 rfl rfl)
theorem dX0_digest_12 : decode cX0_digest 12 = .ok (.if_icmp .gt 19, 3) := dk_163 0 19 (dk_at dksX0_digest_0 12 rfl rfl)
theorem dX0_digest_15 : decode cX0_digest 15 = .ok (.aload_n 0, 1) := dk_42 (dk_at dksX0_digest_0 15 rfl rfl)
theorem dX0_digest_16 : decode cX0_digest 16 = .ok (.aload_n 0, 1) := dk_42 (dk_at dksX0_digest_0 16 rfl rfl)
theorem dX0_digest_17 : decode cX0_digest 17 = .ok (.iload_n 1, 1) := dk_27 (dk_at dksX0_digest_0 17 rfl rfl)
theorem dX0_digest_18 : decode cX0_digest 18 = .ok (.invokevirtual 277, 3) := dk_182 1 21 (dk_at dksX0_digest_0 18 rfl rfl)
theorem dX0_digest_21 : decode cX0_digest 21 = .ok (.i2l, 1) := dk_133 (dk_at dksX0_digest_0 21 rfl rfl)
theorem dX0_digest_22 : decode cX0_digest 22 = .ok (.invokevirtual 261, 3) := dk_182 1 5 (dk_at dksX0_digest_1 0 rfl rfl)
theorem dX0_digest_25 : decode cX0_digest 25 = .ok (.iinc 1 1, 3) := dk_132 1 1 (dk_at dksX0_digest_1 3 rfl rfl)
theorem dX0_digest_28 : decode cX0_digest 28 = .ok (.goto (-19), 3) := dk_167 255 237 (dk_at dksX0_digest_1 6 rfl rfl)
theorem dX0_digest_31 : decode cX0_digest 31 = .ok (.aload_n 0, 1) := dk_42 (dk_at dksX0_digest_1 9 rfl rfl)
theorem dX0_digest_32 : decode cX0_digest 32 = .ok (.aload_n 0, 1) := dk_42 (dk_at dksX0_digest_1 10 rfl rfl)
theorem dX0_digest_33 : decode cX0_digest 33 = .ok (.getfield 12, 3) := dk_180 0 12 (dk_at dksX0_digest_1 11 rfl rfl)
theorem dX0_digest_36 : decode cX0_digest 36 = .ok (.getfield 132, 3) := dk_180 0 132 (dk_at dksX0_digest_1 14 rfl rfl)
theorem dX0_digest_39 : decode cX0_digest 39 = .ok (.invokevirtual 271, 3) := dk_182 1 15 (dk_at dksX0_digest_1 17 rfl rfl)
theorem dX0_digest_42 : decode cX0_digest 42 = .ok (.aload_n 0, 1) := dk_42 (dk_at dksX0_digest_1 20 rfl rfl)
theorem dX0_digest_43 : decode cX0_digest 43 = .ok (.aload_n 0, 1) := dk_42 (dk_at dksX0_digest_1 21 rfl rfl)
theorem dX0_digest_44 : decode cX0_digest 44 = .ok (.getfield 12, 3) := dk_180 0 12 (dk_at dksX0_digest_2 0 rfl rfl)
theorem dX0_digest_47 : decode cX0_digest 47 = .ok (.getfield 135, 3) := dk_180 0 135 (dk_at dksX0_digest_2 3 rfl rfl)
theorem dX0_digest_50 : decode cX0_digest 50 = .ok (.invokevirtual 271, 3) := dk_182 1 15 (dk_at dksX0_digest_2 6 rfl rfl)
theorem dX0_digest_53 : decode cX0_digest 53 = .ok (.iconst 0, 1) := dk_3 (dk_at dksX0_digest_2 9 rfl rfl)
theorem dX0_digest_54 : decode cX0_digest 54 = .ok (.istore_n 1, 1) := dk_60 (dk_at dksX0_digest_2 10 rfl rfl)
theorem dX0_digest_55 : decode cX0_digest 55 = .ok (.iload_n 1, 1) := dk_27 (dk_at dksX0_digest_2 11 rfl rfl)
theorem dX0_digest_56 : decode cX0_digest 56 = .ok (.aload_n 0, 1) := dk_42 (dk_at dksX0_digest_2 12 rfl rfl)
theorem dX0_digest_57 : decode cX0_digest 57 = .ok (.getfield 12, 3) := dk_180 0 12 (dk_at dksX0_digest_2 13 rfl rfl)
theorem dX0_digest_60 : decode cX0_digest 60 = .ok (.getfield 175, 3) := dk_180 0 175 (dk_at dksX0_digest_2 16 rfl rfl)
theorem dX0_digest_63 : decode cX0_digest 63 = .ok (.invokevirtual 179, 3) := dk_182 0 179 (dk_at dksX0_digest_2 19 rfl rfl)
theorem dX0_digest_66 : decode cX0_digest 66 = .ok (.if_icmp .ge 27, 3) := dk_162 0 27 (dk_at dksX0_digest_3 0 rfl rfl)
theorem dX0_digest_69 : decode cX0_digest 69 = .ok (.aload_n 0, 1) := dk_42 (dk_at dksX0_digest_3 3 rfl rfl)
theorem dX0_digest_70 : decode cX0_digest 70 = .ok (.aload_n 0, 1) := dk_42 (dk_at dksX0_digest_3 4 rfl rfl)
theorem dX0_digest_71 : decode cX0_digest 71 = .ok (.getfield 12, 3) := dk_180 0 12 (dk_at dksX0_digest_3 5 rfl rfl)
theorem dX0_digest_74 : decode cX0_digest 74 = .ok (.getfield 175, 3) := dk_180 0 175 (dk_at dksX0_digest_3 8 rfl rfl)
theorem dX0_digest_77 : decode cX0_digest 77 = .ok (.iload_n 1, 1) := dk_27 (dk_at dksX0_digest_3 11 rfl rfl)
theorem dX0_digest_78 : decode cX0_digest 78 = .ok (.invokevirtual 184, 3) := dk_182 0 184 (dk_at dksX0_digest_3 12 rfl rfl)
theorem dX0_digest_81 : decode cX0_digest 81 = .ok (.checkcast 18, 3) := dk_192 0 18 (dk_at dksX0_digest_3 15 rfl rfl)
theorem dX0_digest_84 : decode cX0_digest 84 = .ok (.invokevirtual 280, 3) := dk_182 1 24 (dk_at dksX0_digest_3 18 rfl rfl)
theorem dX0_digest_87 : decode cX0_digest 87 = .ok (.iinc 1 1, 3) := dk_132 1 1 (dk_at dksX0_digest_3 21 rfl rfl)
theorem dX0_digest_90 : decode cX0_digest 90 = .ok (.goto (-35), 3) := dk_167 255 221 (dk_at dksX0_digest_4 0 rfl rfl)
theorem dX0_digest_93 : decode cX0_digest 93 = .ok (.iconst 0, 1) := dk_3 (dk_at dksX0_digest_4 3 rfl rfl)
theorem dX0_digest_94 : decode cX0_digest 94 = .ok (.istore_n 1, 1) := dk_60 (dk_at dksX0_digest_4 4 rfl rfl)
theorem dX0_digest_95 : decode cX0_digest 95 = .ok (.iload_n 1, 1) := dk_27 (dk_at dksX0_digest_4 5 rfl rfl)
theorem dX0_digest_96 : decode cX0_digest 96 = .ok (.iconst 4, 1) := dk_7 (dk_at dksX0_digest_4 6 rfl rfl)
theorem dX0_digest_97 : decode cX0_digest 97 = .ok (.if_icmp .gt 19, 3) := dk_163 0 19 (dk_at dksX0_digest_4 7 rfl rfl)
theorem dX0_digest_100 : decode cX0_digest 100 = .ok (.aload_n 0, 1) := dk_42 (dk_at dksX0_digest_4 10 rfl rfl)
theorem dX0_digest_101 : decode cX0_digest 101 = .ok (.aload_n 0, 1) := dk_42 (dk_at dksX0_digest_4 11 rfl rfl)
theorem dX0_digest_102 : decode cX0_digest 102 = .ok (.iload_n 1, 1) := dk_27 (dk_at dksX0_digest_4 12 rfl rfl)
theorem dX0_digest_103 : decode cX0_digest 103 = .ok (.invokevirtual 284, 3) := dk_182 1 28 (dk_at dksX0_digest_4 13 rfl rfl)
theorem dX0_digest_106 : decode cX0_digest 106 = .ok (.i2l, 1) := dk_133 (dk_at dksX0_digest_4 16 rfl rfl)
theorem dX0_digest_107 : decode cX0_digest 107 = .ok (.invokevirtual 261, 3) := dk_182 1 5 (dk_at dksX0_digest_4 17 rfl rfl)
theorem dX0_digest_110 : decode cX0_digest 110 = .ok (.iinc 1 1, 3) := dk_132 1 1 (dk_at dksX0_digest_4 20 rfl rfl)
theorem dX0_digest_113 : decode cX0_digest 113 = .ok (.goto (-18), 3) := dk_167 255 238 (dk_at dksX0_digest_5 0 rfl rfl)
theorem dX0_digest_116 : decode cX0_digest 116 = .ok (.iconst 0, 1) := dk_3 (dk_at dksX0_digest_5 3 rfl rfl)
theorem dX0_digest_117 : decode cX0_digest 117 = .ok (.istore_n 1, 1) := dk_60 (dk_at dksX0_digest_5 4 rfl rfl)
theorem dX0_digest_118 : decode cX0_digest 118 = .ok (.iload_n 1, 1) := dk_27 (dk_at dksX0_digest_5 5 rfl rfl)
theorem dX0_digest_119 : decode cX0_digest 119 = .ok (.iconst 5, 1) := dk_8 (dk_at dksX0_digest_5 6 rfl rfl)
theorem dX0_digest_120 : decode cX0_digest 120 = .ok (.if_icmp .gt 29, 3) := dk_163 0 29 (dk_at dksX0_digest_5 7 rfl rfl)
theorem dX0_digest_123 : decode cX0_digest 123 = .ok (.aload_n 0, 1) := dk_42 (dk_at dksX0_digest_5 10 rfl rfl)
theorem dX0_digest_124 : decode cX0_digest 124 = .ok (.getfield 12, 3) := dk_180 0 12 (dk_at dksX0_digest_5 11 rfl rfl)
theorem dX0_digest_127 : decode cX0_digest 127 = .ok (.getfield 156, 3) := dk_180 0 156 (dk_at dksX0_digest_5 14 rfl rfl)
theorem dX0_digest_130 : decode cX0_digest 130 = .ok (.ifnull 19, 3) := dk_198 0 19 (dk_at dksX0_digest_5 17 rfl rfl)
theorem dX0_digest_133 : decode cX0_digest 133 = .ok (.aload_n 0, 1) := dk_42 (dk_at dksX0_digest_5 20 rfl rfl)
theorem dX0_digest_134 : decode cX0_digest 134 = .ok (.aload_n 0, 1) := dk_42 (dk_at dksX0_digest_5 21 rfl rfl)
theorem dX0_digest_135 : decode cX0_digest 135 = .ok (.iload_n 1, 1) := dk_27 (dk_at dksX0_digest_5 22 rfl rfl)
theorem dX0_digest_136 : decode cX0_digest 136 = .ok (.invokevirtual 287, 3) := dk_182 1 31 (dk_at dksX0_digest_6 0 rfl rfl)
theorem dX0_digest_139 : decode cX0_digest 139 = .ok (.i2l, 1) := dk_133 (dk_at dksX0_digest_6 3 rfl rfl)
theorem dX0_digest_140 : decode cX0_digest 140 = .ok (.invokevirtual 261, 3) := dk_182 1 5 (dk_at dksX0_digest_6 4 rfl rfl)
theorem dX0_digest_143 : decode cX0_digest 143 = .ok (.iinc 1 1, 3) := dk_132 1 1 (dk_at dksX0_digest_6 7 rfl rfl)
theorem dX0_digest_146 : decode cX0_digest 146 = .ok (.goto (-28), 3) := dk_167 255 228 (dk_at dksX0_digest_6 10 rfl rfl)
theorem dX0_digest_149 : decode cX0_digest 149 = .ok (.iconst 0, 1) := dk_3 (dk_at dksX0_digest_6 13 rfl rfl)
theorem dX0_digest_150 : decode cX0_digest 150 = .ok (.istore_n 1, 1) := dk_60 (dk_at dksX0_digest_6 14 rfl rfl)
theorem dX0_digest_151 : decode cX0_digest 151 = .ok (.iload_n 1, 1) := dk_27 (dk_at dksX0_digest_6 15 rfl rfl)
theorem dX0_digest_152 : decode cX0_digest 152 = .ok (.aload_n 0, 1) := dk_42 (dk_at dksX0_digest_6 16 rfl rfl)
theorem dX0_digest_153 : decode cX0_digest 153 = .ok (.getfield 224, 3) := dk_180 0 224 (dk_at dksX0_digest_6 17 rfl rfl)
theorem dX0_digest_156 : decode cX0_digest 156 = .ok (.if_icmp .ge 20, 3) := dk_162 0 20 (dk_at dksX0_digest_6 20 rfl rfl)
theorem dX0_digest_159 : decode cX0_digest 159 = .ok (.aload_n 0, 1) := dk_42 (dk_at dksX0_digest_6 23 rfl rfl)
theorem dX0_digest_160 : decode cX0_digest 160 = .ok (.aload_n 0, 1) := dk_42 (dk_at dksX0_digest_7 0 rfl rfl)
theorem dX0_digest_161 : decode cX0_digest 161 = .ok (.getfield 24, 3) := dk_180 0 24 (dk_at dksX0_digest_7 1 rfl rfl)
theorem dX0_digest_164 : decode cX0_digest 164 = .ok (.iload_n 1, 1) := dk_27 (dk_at dksX0_digest_7 4 rfl rfl)
theorem dX0_digest_165 : decode cX0_digest 165 = .ok (.baload, 1) := dk_51 (dk_at dksX0_digest_7 5 rfl rfl)
theorem dX0_digest_166 : decode cX0_digest 166 = .ok (.i2l, 1) := dk_133 (dk_at dksX0_digest_7 6 rfl rfl)
theorem dX0_digest_167 : decode cX0_digest 167 = .ok (.invokevirtual 261, 3) := dk_182 1 5 (dk_at dksX0_digest_7 7 rfl rfl)
theorem dX0_digest_170 : decode cX0_digest 170 = .ok (.iinc 1 1, 3) := dk_132 1 1 (dk_at dksX0_digest_7 10 rfl rfl)
theorem dX0_digest_173 : decode cX0_digest 173 = .ok (.goto (-22), 3) := dk_167 255 234 (dk_at dksX0_digest_7 13 rfl rfl)
theorem dX0_digest_176 : decode cX0_digest 176 = .ok (.aload_n 0, 1) := dk_42 (dk_at dksX0_digest_7 16 rfl rfl)
theorem dX0_digest_177 : decode cX0_digest 177 = .ok (.getfield 257, 3) := dk_180 1 1 (dk_at dksX0_digest_7 17 rfl rfl)
theorem dX0_digest_180 : decode cX0_digest 180 = .ok (.lreturn, 1) := dk_173 (dk_at dksX0_digest_7 20 rfl rfl)
abbrev cX0_mix : ByteArray := prog_1_method_38_code
def yX0_mix : MethodName := ⟨RX0, "mix", "(J)V"⟩
def dkwX0_mix_0 : List UInt8 := [42, 20, 0, 255, 42, 180, 1, 1, 105, 31, 97, 181, 1, 1, 177]
abbrev dktX0_mix_0 : List UInt8 := dkwX0_mix_0 ++ []
theorem dksX0_mix_0 : cX0_mix.data.toList.drop 0 = dktX0_mix_0 := by decide +kernel
theorem dX0_mix_0 : decode cX0_mix 0 = .ok (.aload_n 0, 1) := dk_42 (dk_at dksX0_mix_0 0 rfl rfl)
theorem dX0_mix_1 : decode cX0_mix 1 = .ok (.ldc2_w 255, 3) := dk_20 0 255 (dk_at dksX0_mix_0 1 rfl rfl)
theorem dX0_mix_4 : decode cX0_mix 4 = .ok (.aload_n 0, 1) := dk_42 (dk_at dksX0_mix_0 4 rfl rfl)
theorem dX0_mix_5 : decode cX0_mix 5 = .ok (.getfield 257, 3) := dk_180 1 1 (dk_at dksX0_mix_0 5 rfl rfl)
theorem dX0_mix_8 : decode cX0_mix 8 = .ok (.lmul, 1) := dk_105 (dk_at dksX0_mix_0 8 rfl rfl)
theorem dX0_mix_9 : decode cX0_mix 9 = .ok (.lload_n 1, 1) := dk_31 (dk_at dksX0_mix_0 9 rfl rfl)
theorem dX0_mix_10 : decode cX0_mix 10 = .ok (.ladd, 1) := dk_97 (dk_at dksX0_mix_0 10 rfl rfl)
theorem dX0_mix_11 : decode cX0_mix 11 = .ok (.putfield 257, 3) := dk_181 1 1 (dk_at dksX0_mix_0 11 rfl rfl)
theorem dX0_mix_14 : decode cX0_mix 14 = .ok (.return_, 1) := dk_177 (dk_at dksX0_mix_0 14 rfl rfl)
abbrev cX0_mixRow : ByteArray := prog_1_method_39_code
def yX0_mixRow : MethodName := ⟨RX0, "mixRow", "([I)V"⟩
def dkwX0_mixRow_1 : List UInt8 := [182, 1, 5, 132, 4, 1, 167, 255, 234, 177]
abbrev dktX0_mixRow_1 : List UInt8 := dkwX0_mixRow_1 ++ []
def dkwX0_mixRow_0 : List UInt8 := [43, 77, 44, 190, 62, 3, 54, 4, 21, 4, 29, 162, 0, 22, 44, 21, 4, 46, 54, 5, 42, 21, 5, 133]
abbrev dktX0_mixRow_0 : List UInt8 := dkwX0_mixRow_0 ++ dktX0_mixRow_1
theorem dksX0_mixRow_0 : cX0_mixRow.data.toList.drop 0 = dktX0_mixRow_0 := by decide +kernel
theorem dksX0_mixRow_1 : cX0_mixRow.data.toList.drop 24 = dktX0_mixRow_1 := dk_seg dksX0_mixRow_0 24 rfl rfl
theorem dX0_mixRow_0 : decode cX0_mixRow 0 = .ok (.aload_n 1, 1) := dk_43 (dk_at dksX0_mixRow_0 0 rfl rfl)
theorem dX0_mixRow_1 : decode cX0_mixRow 1 = .ok (.astore_n 2, 1) := dk_77 (dk_at dksX0_mixRow_0 1 rfl rfl)
theorem dX0_mixRow_2 : decode cX0_mixRow 2 = .ok (.aload_n 2, 1) := dk_44 (dk_at dksX0_mixRow_0 2 rfl rfl)
theorem dX0_mixRow_3 : decode cX0_mixRow 3 = .ok (.arraylength, 1) := dk_190 (dk_at dksX0_mixRow_0 3 rfl rfl)
theorem dX0_mixRow_4 : decode cX0_mixRow 4 = .ok (.istore_n 3, 1) := dk_62 (dk_at dksX0_mixRow_0 4 rfl rfl)
theorem dX0_mixRow_5 : decode cX0_mixRow 5 = .ok (.iconst 0, 1) := dk_3 (dk_at dksX0_mixRow_0 5 rfl rfl)
theorem dX0_mixRow_6 : decode cX0_mixRow 6 = .ok (.istore 4, 2) := dk_54 4 (dk_at dksX0_mixRow_0 6 rfl rfl)
theorem dX0_mixRow_8 : decode cX0_mixRow 8 = .ok (.iload 4, 2) := dk_21 4 (dk_at dksX0_mixRow_0 8 rfl rfl)
theorem dX0_mixRow_10 : decode cX0_mixRow 10 = .ok (.iload_n 3, 1) := dk_29 (dk_at dksX0_mixRow_0 10 rfl rfl)
theorem dX0_mixRow_11 : decode cX0_mixRow 11 = .ok (.if_icmp .ge 22, 3) := dk_162 0 22 (dk_at dksX0_mixRow_0 11 rfl rfl)
theorem dX0_mixRow_14 : decode cX0_mixRow 14 = .ok (.aload_n 2, 1) := dk_44 (dk_at dksX0_mixRow_0 14 rfl rfl)
theorem dX0_mixRow_15 : decode cX0_mixRow 15 = .ok (.iload 4, 2) := dk_21 4 (dk_at dksX0_mixRow_0 15 rfl rfl)
theorem dX0_mixRow_17 : decode cX0_mixRow 17 = .ok (.iaload, 1) := dk_46 (dk_at dksX0_mixRow_0 17 rfl rfl)
theorem dX0_mixRow_18 : decode cX0_mixRow 18 = .ok (.istore 5, 2) := dk_54 5 (dk_at dksX0_mixRow_0 18 rfl rfl)
theorem dX0_mixRow_20 : decode cX0_mixRow 20 = .ok (.aload_n 0, 1) := dk_42 (dk_at dksX0_mixRow_0 20 rfl rfl)
theorem dX0_mixRow_21 : decode cX0_mixRow 21 = .ok (.iload 5, 2) := dk_21 5 (dk_at dksX0_mixRow_0 21 rfl rfl)
theorem dX0_mixRow_23 : decode cX0_mixRow 23 = .ok (.i2l, 1) := dk_133 (dk_at dksX0_mixRow_0 23 rfl rfl)
theorem dX0_mixRow_24 : decode cX0_mixRow 24 = .ok (.invokevirtual 261, 3) := dk_182 1 5 (dk_at dksX0_mixRow_1 0 rfl rfl)
theorem dX0_mixRow_27 : decode cX0_mixRow 27 = .ok (.iinc 4 1, 3) := dk_132 4 1 (dk_at dksX0_mixRow_1 3 rfl rfl)
theorem dX0_mixRow_30 : decode cX0_mixRow 30 = .ok (.goto (-22), 3) := dk_167 255 234 (dk_at dksX0_mixRow_1 6 rfl rfl)
theorem dX0_mixRow_33 : decode cX0_mixRow 33 = .ok (.return_, 1) := dk_177 (dk_at dksX0_mixRow_1 9 rfl rfl)
abbrev cX0_mixThing : ByteArray := prog_1_method_40_code
def yX0_mixThing : MethodName := ⟨RX0, "mixThing", "(LIslandHeap$Thing;)V"⟩
def dkwX0_mixThing_1 : List UInt8 := [132, 2, 1, 167, 255, 233, 42, 43, 180, 0, 100, 182, 1, 15, 42, 43, 180, 0, 116, 182, 1, 15, 177]
abbrev dktX0_mixThing_1 : List UInt8 := dkwX0_mixThing_1 ++ []
def dkwX0_mixThing_0 : List UInt8 := [3, 61, 28, 16, 8, 162, 0, 23, 42, 42, 43, 180, 1, 9, 28, 182, 1, 12, 133, 182, 1, 5]
abbrev dktX0_mixThing_0 : List UInt8 := dkwX0_mixThing_0 ++ dktX0_mixThing_1
theorem dksX0_mixThing_0 : cX0_mixThing.data.toList.drop 0 = dktX0_mixThing_0 := by decide +kernel
theorem dksX0_mixThing_1 : cX0_mixThing.data.toList.drop 22 = dktX0_mixThing_1 := dk_seg dksX0_mixThing_0 22 rfl rfl
theorem dX0_mixThing_0 : decode cX0_mixThing 0 = .ok (.iconst 0, 1) := dk_3 (dk_at dksX0_mixThing_0 0 rfl rfl)
theorem dX0_mixThing_1 : decode cX0_mixThing 1 = .ok (.istore_n 2, 1) := dk_61 (dk_at dksX0_mixThing_0 1 rfl rfl)
theorem dX0_mixThing_2 : decode cX0_mixThing 2 = .ok (.iload_n 2, 1) := dk_28 (dk_at dksX0_mixThing_0 2 rfl rfl)
theorem dX0_mixThing_3 : decode cX0_mixThing 3 = .ok (.bipush 8, 2) := dk_16 8 (dk_at dksX0_mixThing_0 3 rfl rfl)
theorem dX0_mixThing_5 : decode cX0_mixThing 5 = .ok (.if_icmp .ge 23, 3) := dk_162 0 23 (dk_at dksX0_mixThing_0 5 rfl rfl)
theorem dX0_mixThing_8 : decode cX0_mixThing 8 = .ok (.aload_n 0, 1) := dk_42 (dk_at dksX0_mixThing_0 8 rfl rfl)
theorem dX0_mixThing_9 : decode cX0_mixThing 9 = .ok (.aload_n 0, 1) := dk_42 (dk_at dksX0_mixThing_0 9 rfl rfl)
theorem dX0_mixThing_10 : decode cX0_mixThing 10 = .ok (.aload_n 1, 1) := dk_43 (dk_at dksX0_mixThing_0 10 rfl rfl)
theorem dX0_mixThing_11 : decode cX0_mixThing 11 = .ok (.getfield 265, 3) := dk_180 1 9 (dk_at dksX0_mixThing_0 11 rfl rfl)
theorem dX0_mixThing_14 : decode cX0_mixThing 14 = .ok (.iload_n 2, 1) := dk_28 (dk_at dksX0_mixThing_0 14 rfl rfl)
theorem dX0_mixThing_15 : decode cX0_mixThing 15 = .ok (.invokevirtual 268, 3) := dk_182 1 12 (dk_at dksX0_mixThing_0 15 rfl rfl)
theorem dX0_mixThing_18 : decode cX0_mixThing 18 = .ok (.i2l, 1) := dk_133 (dk_at dksX0_mixThing_0 18 rfl rfl)
theorem dX0_mixThing_19 : decode cX0_mixThing 19 = .ok (.invokevirtual 261, 3) := dk_182 1 5 (dk_at dksX0_mixThing_0 19 rfl rfl)
theorem dX0_mixThing_22 : decode cX0_mixThing 22 = .ok (.iinc 2 1, 3) := dk_132 2 1 (dk_at dksX0_mixThing_1 0 rfl rfl)
theorem dX0_mixThing_25 : decode cX0_mixThing 25 = .ok (.goto (-23), 3) := dk_167 255 233 (dk_at dksX0_mixThing_1 3 rfl rfl)
theorem dX0_mixThing_28 : decode cX0_mixThing 28 = .ok (.aload_n 0, 1) := dk_42 (dk_at dksX0_mixThing_1 6 rfl rfl)
theorem dX0_mixThing_29 : decode cX0_mixThing 29 = .ok (.aload_n 1, 1) := dk_43 (dk_at dksX0_mixThing_1 7 rfl rfl)
theorem dX0_mixThing_30 : decode cX0_mixThing 30 = .ok (.getfield 100, 3) := dk_180 0 100 (dk_at dksX0_mixThing_1 8 rfl rfl)
theorem dX0_mixThing_33 : decode cX0_mixThing 33 = .ok (.invokevirtual 271, 3) := dk_182 1 15 (dk_at dksX0_mixThing_1 11 rfl rfl)
theorem dX0_mixThing_36 : decode cX0_mixThing 36 = .ok (.aload_n 0, 1) := dk_42 (dk_at dksX0_mixThing_1 14 rfl rfl)
theorem dX0_mixThing_37 : decode cX0_mixThing 37 = .ok (.aload_n 1, 1) := dk_43 (dk_at dksX0_mixThing_1 15 rfl rfl)
theorem dX0_mixThing_38 : decode cX0_mixThing 38 = .ok (.getfield 116, 3) := dk_180 0 116 (dk_at dksX0_mixThing_1 16 rfl rfl)
theorem dX0_mixThing_41 : decode cX0_mixThing 41 = .ok (.invokevirtual 271, 3) := dk_182 1 15 (dk_at dksX0_mixThing_1 19 rfl rfl)
theorem dX0_mixThing_44 : decode cX0_mixThing 44 = .ok (.return_, 1) := dk_177 (dk_at dksX0_mixThing_1 22 rfl rfl)
theorem q62 : (Jvm.Cond.initialized "IslandHeap") ∈ lw_all := lw_g (lw_at lw_m1 1 rfl) rfl
theorem q91 : (Jvm.Cond.instantiable "IslandHeap" (7 : Nat)) ∈ lw_all := lw_g (lw_at lw_m1 30 rfl) rfl
theorem q93 : (Jvm.Cond.instanceMethod ({ cls := "IslandHeap", name := "<init>", desc := "()V" } : Jvm.MethodName)) ∈ lw_all := lw_g (lw_at lw_m1 32 rfl) rfl
theorem q94 : (Jvm.Cond.code ({ cls := "IslandHeap", name := "<init>", desc := "()V" } : Jvm.MethodName) prog_1_method_2_code (1 : Nat) (Option.none : Option Jvm.ClassFile.FieldType)) ∈ lw_all := lw_g (lw_at lw_m1 33 rfl) rfl
theorem q95 : (Jvm.Cond.methodLink "IslandHeap" (1 : Nat) ({ cls := "java/lang/Object", name := "<init>", desc := "()V" } : Jvm.MethodName)) ∈ lw_all := lw_g (lw_at lw_m1 34 rfl) rfl
theorem q98 : (Jvm.Cond.classLink "IslandHeap" (7 : Nat) "IslandHeap$Heap") ∈ lw_all := lw_g (lw_at lw_m1 37 rfl) rfl
theorem q100 : (Jvm.Cond.methodLink "IslandHeap" (9 : Nat) ({ cls := "IslandHeap$Heap", name := "<init>", desc := "(II)V" } : Jvm.MethodName)) ∈ lw_all := lw_g (lw_at lw_m1 39 rfl) rfl
theorem q133 : (Jvm.Cond.fieldLinkNest "IslandHeap" (97 : Nat) "IslandHeap$Heap" "words" "I" "IslandHeap") ∈ lw_tbl := lw_at lw_m1 72 rfl
theorem q135 : (Jvm.Cond.fieldLinkNest "IslandHeap" (138 : Nat) "IslandHeap$Heap" "depth" "I" "IslandHeap") ∈ lw_tbl := lw_at lw_m1 74 rfl
theorem q139 : (Jvm.Cond.fieldLinkNest "IslandHeap" (175 : Nat) "IslandHeap$Heap" "things" "Ljava/util/ArrayList;" "IslandHeap") ∈ lw_tbl := lw_at lw_m1 78 rfl
theorem q141 : (Jvm.Cond.fieldLinkNest "IslandHeap" (221 : Nat) "IslandHeap$Heap" "owners" "[LIslandHeap$Thing;" "IslandHeap") ∈ lw_tbl := lw_at lw_m1 80 rfl
theorem q145 : (Jvm.Cond.fieldLinkNest "IslandHeap" (132 : Nat) "IslandHeap$Heap" "roots" "[I" "IslandHeap") ∈ lw_tbl := lw_at lw_m1 84 rfl
theorem q147 : (Jvm.Cond.fieldLinkNest "IslandHeap" (135 : Nat) "IslandHeap$Heap" "weak" "[I" "IslandHeap") ∈ lw_tbl := lw_at lw_m1 86 rfl
theorem q149 : (Jvm.Cond.fieldLinkNest "IslandHeap" (252 : Nat) "IslandHeap$Heap" "allocated" "I" "IslandHeap") ∈ lw_tbl := lw_at lw_m1 88 rfl
theorem q151 : (Jvm.Cond.fieldLinkNest "IslandHeap" (160 : Nat) "IslandHeap$Heap" "collections" "I" "IslandHeap") ∈ lw_tbl := lw_at lw_m1 90 rfl
theorem q153 : (Jvm.Cond.fieldLinkNest "IslandHeap" (163 : Nat) "IslandHeap$Heap" "freed" "I" "IslandHeap") ∈ lw_tbl := lw_at lw_m1 92 rfl
theorem q155 : (Jvm.Cond.fieldLinkNest "IslandHeap" (156 : Nat) "IslandHeap$Heap" "report" "LIslandHeap$Report;" "IslandHeap") ∈ lw_tbl := lw_at lw_m1 94 rfl
theorem q157 : (Jvm.Cond.fieldLinkNest "IslandHeap" (169 : Nat) "IslandHeap$Heap" "places" "[I" "IslandHeap") ∈ lw_tbl := lw_at lw_m1 96 rfl
theorem q182 : (Jvm.Cond.classLink "IslandHeap" (18 : Nat) "IslandHeap$Thing") ∈ lw_all := lw_g (lw_at lw_m1 121 rfl) rfl
theorem q185 : (Jvm.Cond.fieldLink "IslandHeap" (12 : Nat) "IslandHeap" "heap" "LIslandHeap$Heap;") ∈ lw_all := lw_g (lw_at lw_m1 124 rfl) rfl
theorem q188 : (Jvm.Cond.fieldLink "IslandHeap" (20 : Nat) "IslandHeap" "stack" "[LIslandHeap$Thing;") ∈ lw_all := lw_g (lw_at lw_m1 127 rfl) rfl
theorem q190 : (Jvm.Cond.fieldLink "IslandHeap" (24 : Nat) "IslandHeap" "text" "[B") ∈ lw_all := lw_g (lw_at lw_m1 129 rfl) rfl
theorem q192 : (Jvm.Cond.fieldLink "IslandHeap" (224 : Nat) "IslandHeap" "length" "I") ∈ lw_all := lw_g (lw_at lw_m1 131 rfl) rfl
theorem q193 : (Jvm.Cond.fieldLink "IslandHeap" (28 : Nat) "IslandHeap" "refusal" "I") ∈ lw_all := lw_g (lw_at lw_m1 132 rfl) rfl
theorem q194 : (Jvm.Cond.fieldLink "IslandHeap" (32 : Nat) "IslandHeap" "slots" "[LIslandHeap$Heap;") ∈ lw_all := lw_g (lw_at lw_m1 133 rfl) rfl
theorem q195 : (Jvm.Cond.fieldLink "IslandHeap" (257 : Nat) "IslandHeap" "hash" "J") ∈ lw_all := lw_g (lw_at lw_m1 134 rfl) rfl
theorem q196 : (Jvm.Cond.lays "IslandHeap" "IslandHeap" "heap" "LIslandHeap$Heap;") ∈ lw_all := lw_g (lw_at lw_m1 135 rfl) rfl
theorem q197 : (Jvm.Cond.soleField "IslandHeap" "heap") ∈ lw_all := lw_g (lw_at lw_m1 136 rfl) rfl
theorem q198 : (Jvm.Cond.laysFinal "IslandHeap" "IslandHeap" "stack" "[LIslandHeap$Thing;") ∈ lw_all := lw_g (lw_at lw_m1 137 rfl) rfl
theorem q199 : (Jvm.Cond.soleField "IslandHeap" "stack") ∈ lw_all := lw_g (lw_at lw_m1 138 rfl) rfl
theorem q200 : (Jvm.Cond.laysFinal "IslandHeap" "IslandHeap" "text" "[B") ∈ lw_all := lw_g (lw_at lw_m1 139 rfl) rfl
theorem q201 : (Jvm.Cond.soleField "IslandHeap" "text") ∈ lw_all := lw_g (lw_at lw_m1 140 rfl) rfl
theorem q202 : (Jvm.Cond.lays "IslandHeap" "IslandHeap" "length" "I") ∈ lw_all := lw_g (lw_at lw_m1 141 rfl) rfl
theorem q203 : (Jvm.Cond.soleField "IslandHeap" "length") ∈ lw_all := lw_g (lw_at lw_m1 142 rfl) rfl
theorem q204 : (Jvm.Cond.lays "IslandHeap" "IslandHeap" "refusal" "I") ∈ lw_all := lw_g (lw_at lw_m1 143 rfl) rfl
theorem q205 : (Jvm.Cond.soleField "IslandHeap" "refusal") ∈ lw_all := lw_g (lw_at lw_m1 144 rfl) rfl
theorem q206 : (Jvm.Cond.laysFinal "IslandHeap" "IslandHeap" "slots" "[LIslandHeap$Heap;") ∈ lw_all := lw_g (lw_at lw_m1 145 rfl) rfl
theorem q207 : (Jvm.Cond.soleField "IslandHeap" "slots") ∈ lw_all := lw_g (lw_at lw_m1 146 rfl) rfl
theorem q208 : (Jvm.Cond.lays "IslandHeap" "IslandHeap" "hash" "J") ∈ lw_all := lw_g (lw_at lw_m1 147 rfl) rfl
theorem q209 : (Jvm.Cond.soleField "IslandHeap" "hash") ∈ lw_all := lw_g (lw_at lw_m1 148 rfl) rfl
theorem q210 : (Jvm.Cond.superclass "IslandHeap" "java/lang/Object") ∈ lw_all := lw_g (lw_at lw_m1 149 rfl) rfl
theorem q213 : (Jvm.Cond.instanceMethod ({ cls := "IslandHeap", name := "reset", desc := "(II)I" } : Jvm.MethodName)) ∈ lw_all := lw_g (lw_at lw_m1 152 rfl) rfl
theorem q214 : (Jvm.Cond.selects "IslandHeap" ({ cls := "IslandHeap", name := "reset", desc := "(II)I" } : Jvm.MethodName) ({ cls := "IslandHeap", name := "reset", desc := "(II)I" } : Jvm.MethodName)) ∈ lw_all := lw_g (lw_at lw_m1 153 rfl) rfl
theorem q215 : (Jvm.Cond.code ({ cls := "IslandHeap", name := "reset", desc := "(II)I" } : Jvm.MethodName) prog_1_method_4_code (3 : Nat) (Option.some Jvm.ClassFile.FieldType.int)) ∈ lw_all := lw_g (lw_at lw_m1 154 rfl) rfl
theorem q216 : (Jvm.Cond.methodLink "IslandHeap" (45 : Nat) ({ cls := "IslandHeap", name := "isIn", desc := "(III)Z" } : Jvm.MethodName)) ∈ lw_all := lw_g (lw_at lw_m1 155 rfl) rfl
theorem q217 : (Jvm.Cond.static ({ cls := "IslandHeap", name := "isIn", desc := "(III)Z" } : Jvm.MethodName)) ∈ lw_all := lw_g (lw_at lw_m1 156 rfl) rfl
theorem q218 : (Jvm.Cond.code ({ cls := "IslandHeap", name := "isIn", desc := "(III)Z" } : Jvm.MethodName) prog_1_method_1_code (3 : Nat) (Option.some Jvm.ClassFile.FieldType.boolean)) ∈ lw_all := lw_g (lw_at lw_m1 157 rfl) rfl
theorem q219 : (Jvm.Cond.constant "IslandHeap" (49 : Nat) (-1000002 : Int32)) ∈ lw_all := lw_g (lw_at lw_m1 158 rfl) rfl
theorem q221 : (Jvm.Cond.instanceMethod ({ cls := "IslandHeap", name := "alloc", desc := "(II)I" } : Jvm.MethodName)) ∈ lw_all := lw_g (lw_at lw_m1 160 rfl) rfl
theorem q222 : (Jvm.Cond.selects "IslandHeap" ({ cls := "IslandHeap", name := "alloc", desc := "(II)I" } : Jvm.MethodName) ({ cls := "IslandHeap", name := "alloc", desc := "(II)I" } : Jvm.MethodName)) ∈ lw_all := lw_g (lw_at lw_m1 161 rfl) rfl
theorem q223 : (Jvm.Cond.code ({ cls := "IslandHeap", name := "alloc", desc := "(II)I" } : Jvm.MethodName) prog_1_method_5_code (3 : Nat) (Option.some Jvm.ClassFile.FieldType.int)) ∈ lw_all := lw_g (lw_at lw_m1 162 rfl) rfl
theorem q224 : (Jvm.Cond.methodLink "IslandHeap" (50 : Nat) ({ cls := "IslandHeap$Heap", name := "alloc", desc := "(II)I" } : Jvm.MethodName)) ∈ lw_all := lw_g (lw_at lw_m1 163 rfl) rfl
theorem q253 : (Jvm.Cond.fieldLinkNest "IslandHeap" (265 : Nat) "IslandHeap$Thing" "address" "I" "IslandHeap") ∈ lw_tbl := lw_at lw_m1 192 rfl
theorem q258 : (Jvm.Cond.fieldLinkNest "IslandHeap" (100 : Nat) "IslandHeap$Thing" "fields" "[I" "IslandHeap") ∈ lw_tbl := lw_at lw_m1 197 rfl
theorem q262 : (Jvm.Cond.fieldLinkNest "IslandHeap" (116 : Nat) "IslandHeap$Thing" "data" "[I" "IslandHeap") ∈ lw_tbl := lw_at lw_m1 201 rfl
theorem q268 : (Jvm.Cond.fieldLinkNest "IslandHeap" (124 : Nat) "IslandHeap$Thing" "isPinned" "Z" "IslandHeap") ∈ lw_tbl := lw_at lw_m1 207 rfl
theorem q276 : (Jvm.Cond.fieldLinkNest "IslandHeap" (207 : Nat) "IslandHeap$Thing" "isMarked" "Z" "IslandHeap") ∈ lw_tbl := lw_at lw_m1 215 rfl
theorem q340 : (Jvm.Cond.selects "IslandHeap" ({ cls := "java/lang/Object", name := "getClass", desc := "()Ljava/lang/Class;" } : Jvm.MethodName) ({ cls := "java/lang/Object", name := "getClass", desc := "()Ljava/lang/Class;" } : Jvm.MethodName)) ∈ lw_all := lw_g (lw_at lw_m2 39 rfl) rfl
theorem q381 : (Jvm.Cond.instanceMethod ({ cls := "IslandHeap", name := "object", desc := "(II)I" } : Jvm.MethodName)) ∈ lw_all := lw_g (lw_at lw_m2 80 rfl) rfl
theorem q382 : (Jvm.Cond.selects "IslandHeap" ({ cls := "IslandHeap", name := "object", desc := "(II)I" } : Jvm.MethodName) ({ cls := "IslandHeap", name := "object", desc := "(II)I" } : Jvm.MethodName)) ∈ lw_all := lw_g (lw_at lw_m2 81 rfl) rfl
theorem q383 : (Jvm.Cond.code ({ cls := "IslandHeap", name := "object", desc := "(II)I" } : Jvm.MethodName) prog_1_method_7_code (4 : Nat) (Option.some Jvm.ClassFile.FieldType.int)) ∈ lw_all := lw_g (lw_at lw_m2 82 rfl) rfl
theorem q384 : (Jvm.Cond.methodLink "IslandHeap" (81 : Nat) ({ cls := "IslandHeap$Heap", name := "at", desc := "(I)LIslandHeap$Thing;" } : Jvm.MethodName)) ∈ lw_all := lw_g (lw_at lw_m2 83 rfl) rfl
theorem q393 : (Jvm.Cond.methodLink "IslandHeap" (85 : Nat) ({ cls := "IslandHeap", name := "part", desc := "(I)LIslandHeap$Part;" } : Jvm.MethodName)) ∈ lw_all := lw_g (lw_at lw_m2 92 rfl) rfl
theorem q394 : (Jvm.Cond.static ({ cls := "IslandHeap", name := "part", desc := "(I)LIslandHeap$Part;" } : Jvm.MethodName)) ∈ lw_all := lw_g (lw_at lw_m2 93 rfl) rfl
theorem q395 : (Jvm.Cond.code ({ cls := "IslandHeap", name := "part", desc := "(I)LIslandHeap$Part;" } : Jvm.MethodName) prog_1_method_6_code (1 : Nat) (Option.some (Jvm.ClassFile.FieldType.object "IslandHeap$Part"))) ∈ lw_all := lw_g (lw_at lw_m2 94 rfl) rfl
theorem q396 : (Jvm.Cond.fieldLink "IslandHeap" (54 : Nat) "IslandHeap$Part" "ADDRESS" "LIslandHeap$Part;") ∈ lw_all := lw_g (lw_at lw_m2 95 rfl) rfl
theorem q398 : (Jvm.Cond.fieldLink "IslandHeap" (60 : Nat) "IslandHeap$Part" "SIZE" "LIslandHeap$Part;") ∈ lw_all := lw_g (lw_at lw_m2 97 rfl) rfl
theorem q400 : (Jvm.Cond.fieldLink "IslandHeap" (63 : Nat) "IslandHeap$Part" "FIELDS" "LIslandHeap$Part;") ∈ lw_all := lw_g (lw_at lw_m2 99 rfl) rfl
theorem q402 : (Jvm.Cond.fieldLink "IslandHeap" (66 : Nat) "IslandHeap$Part" "WORDS_OF_DATA" "LIslandHeap$Part;") ∈ lw_all := lw_g (lw_at lw_m2 101 rfl) rfl
theorem q404 : (Jvm.Cond.fieldLink "IslandHeap" (69 : Nat) "IslandHeap$Part" "PINNED" "LIslandHeap$Part;") ∈ lw_all := lw_g (lw_at lw_m2 103 rfl) rfl
theorem q406 : (Jvm.Cond.fieldLink "IslandHeap" (72 : Nat) "IslandHeap$Part" "AGE" "LIslandHeap$Part;") ∈ lw_all := lw_g (lw_at lw_m2 105 rfl) rfl
theorem q408 : (Jvm.Cond.fieldLink "IslandHeap" (75 : Nat) "IslandHeap$Part" "REFERENCES" "LIslandHeap$Part;") ∈ lw_all := lw_g (lw_at lw_m2 107 rfl) rfl
theorem q410 : (Jvm.Cond.fieldLink "IslandHeap" (78 : Nat) "IslandHeap$Part" "LIVE" "LIslandHeap$Part;") ∈ lw_all := lw_g (lw_at lw_m2 109 rfl) rfl
theorem q412 : (Jvm.Cond.methodLink "IslandHeap" (89 : Nat) ({ cls := "IslandHeap$Part", name := "of", desc := "(LIslandHeap;LIslandHeap$Thing;)I" } : Jvm.MethodName)) ∈ lw_all := lw_g (lw_at lw_m2 111 rfl) rfl
theorem q448 : (Jvm.Cond.privateMethod ({ cls := "IslandHeap", name := "live", desc := "(LIslandHeap$Thing;)LIslandHeap$Marking;" } : Jvm.MethodName)) ∈ lw_tbl := lw_at lw_m2 147 rfl
theorem q449 : (Jvm.Cond.instanceMethod ({ cls := "IslandHeap", name := "live", desc := "(LIslandHeap$Thing;)LIslandHeap$Marking;" } : Jvm.MethodName)) ∈ lw_all := lw_g (lw_at lw_m2 148 rfl) rfl
theorem q450 : (Jvm.Cond.code ({ cls := "IslandHeap", name := "live", desc := "(LIslandHeap$Thing;)LIslandHeap$Marking;" } : Jvm.MethodName) prog_1_method_3_code (2 : Nat) (Option.some (Jvm.ClassFile.FieldType.object "IslandHeap$Marking"))) ∈ lw_all := lw_g (lw_at lw_m2 149 rfl) rfl
theorem q451 : (Jvm.Cond.classLink "IslandHeap" (36 : Nat) "IslandHeap$Marking") ∈ lw_all := lw_g (lw_at lw_m2 150 rfl) rfl
theorem q453 : (Jvm.Cond.methodLink "IslandHeap" (38 : Nat) ({ cls := "IslandHeap$Marking", name := "<init>", desc := "(LIslandHeap$Heap;[LIslandHeap$Thing;ILIslandHeap$Thing;)V" } : Jvm.MethodName)) ∈ lw_all := lw_g (lw_at lw_m2 152 rfl) rfl
theorem q463 : (Jvm.Cond.fieldLinkNest "IslandHeap" (148 : Nat) "IslandHeap$Marking" "top" "I" "IslandHeap") ∈ lw_tbl := lw_at lw_m2 162 rfl
theorem q465 : (Jvm.Cond.fieldLinkNest "IslandHeap" (144 : Nat) "IslandHeap$Marking" "scans" "I" "IslandHeap") ∈ lw_tbl := lw_at lw_m2 164 rfl
theorem q484 : (Jvm.Cond.methodLink "IslandHeap" (41 : Nat) ({ cls := "IslandHeap$Marking", name := "mark", desc := "()LIslandHeap$Marking;" } : Jvm.MethodName)) ∈ lw_all := lw_g (lw_at lw_m2 183 rfl) rfl
theorem q513 : (Jvm.Cond.instanceMethod ({ cls := "IslandHeap", name := "next", desc := "(I)I" } : Jvm.MethodName)) ∈ lw_all := lw_g (lw_at lw_m2 212 rfl) rfl
theorem q514 : (Jvm.Cond.selects "IslandHeap" ({ cls := "IslandHeap", name := "next", desc := "(I)I" } : Jvm.MethodName) ({ cls := "IslandHeap", name := "next", desc := "(I)I" } : Jvm.MethodName)) ∈ lw_all := lw_g (lw_at lw_m2 213 rfl) rfl
theorem q515 : (Jvm.Cond.code ({ cls := "IslandHeap", name := "next", desc := "(I)I" } : Jvm.MethodName) prog_1_method_8_code (4 : Nat) (Option.some Jvm.ClassFile.FieldType.int)) ∈ lw_all := lw_g (lw_at lw_m2 214 rfl) rfl
theorem q516 : (Jvm.Cond.methodLink "IslandHeap" (93 : Nat) ({ cls := "IslandHeap$Thing", name := "end", desc := "()I" } : Jvm.MethodName)) ∈ lw_all := lw_g (lw_at lw_m2 215 rfl) rfl
theorem q518 : (Jvm.Cond.instanceMethod ({ cls := "IslandHeap", name := "setField", desc := "(III)I" } : Jvm.MethodName)) ∈ lw_all := lw_g (lw_at lw_m2 217 rfl) rfl
theorem q519 : (Jvm.Cond.selects "IslandHeap" ({ cls := "IslandHeap", name := "setField", desc := "(III)I" } : Jvm.MethodName) ({ cls := "IslandHeap", name := "setField", desc := "(III)I" } : Jvm.MethodName)) ∈ lw_all := lw_g (lw_at lw_m2 218 rfl) rfl
theorem q520 : (Jvm.Cond.code ({ cls := "IslandHeap", name := "setField", desc := "(III)I" } : Jvm.MethodName) prog_1_method_10_code (5 : Nat) (Option.some Jvm.ClassFile.FieldType.int)) ∈ lw_all := lw_g (lw_at lw_m2 219 rfl) rfl
theorem q521 : (Jvm.Cond.methodLink "IslandHeap" (104 : Nat) ({ cls := "IslandHeap", name := "hasField", desc := "(LIslandHeap$Thing;I)Z" } : Jvm.MethodName)) ∈ lw_all := lw_g (lw_at lw_m2 220 rfl) rfl
theorem q522 : (Jvm.Cond.privateMethod ({ cls := "IslandHeap", name := "hasField", desc := "(LIslandHeap$Thing;I)Z" } : Jvm.MethodName)) ∈ lw_tbl := lw_at lw_m2 221 rfl
theorem q523 : (Jvm.Cond.instanceMethod ({ cls := "IslandHeap", name := "hasField", desc := "(LIslandHeap$Thing;I)Z" } : Jvm.MethodName)) ∈ lw_all := lw_g (lw_at lw_m2 222 rfl) rfl
theorem q524 : (Jvm.Cond.code ({ cls := "IslandHeap", name := "hasField", desc := "(LIslandHeap$Thing;I)Z" } : Jvm.MethodName) prog_1_method_9_code (3 : Nat) (Option.some Jvm.ClassFile.FieldType.boolean)) ∈ lw_all := lw_g (lw_at lw_m2 223 rfl) rfl
theorem q525 : (Jvm.Cond.methodLink "IslandHeap" (108 : Nat) ({ cls := "IslandHeap$Heap", name := "isReference", desc := "(I)Z" } : Jvm.MethodName)) ∈ lw_all := lw_g (lw_at lw_m2 224 rfl) rfl
theorem q530 : (Jvm.Cond.methodLink "IslandHeap" (112 : Nat) ({ cls := "IslandHeap", name := "exchange", desc := "([III)I" } : Jvm.MethodName)) ∈ lw_all := lw_g (lw_at lw_m2 229 rfl) rfl
theorem q531 : (Jvm.Cond.static ({ cls := "IslandHeap", name := "exchange", desc := "([III)I" } : Jvm.MethodName)) ∈ lw_all := lw_g (lw_at lw_m2 230 rfl) rfl
theorem q532 : (Jvm.Cond.code ({ cls := "IslandHeap", name := "exchange", desc := "([III)I" } : Jvm.MethodName) prog_1_method_11_code (4 : Nat) (Option.some Jvm.ClassFile.FieldType.int)) ∈ lw_all := lw_g (lw_at lw_m2 231 rfl) rfl
theorem q534 : (Jvm.Cond.instanceMethod ({ cls := "IslandHeap", name := "field", desc := "(II)I" } : Jvm.MethodName)) ∈ lw_all := lw_g (lw_at lw_m2 233 rfl) rfl
theorem q535 : (Jvm.Cond.selects "IslandHeap" ({ cls := "IslandHeap", name := "field", desc := "(II)I" } : Jvm.MethodName) ({ cls := "IslandHeap", name := "field", desc := "(II)I" } : Jvm.MethodName)) ∈ lw_all := lw_g (lw_at lw_m2 234 rfl) rfl
theorem q536 : (Jvm.Cond.code ({ cls := "IslandHeap", name := "field", desc := "(II)I" } : Jvm.MethodName) prog_1_method_12_code (4 : Nat) (Option.some Jvm.ClassFile.FieldType.int)) ∈ lw_all := lw_g (lw_at lw_m2 235 rfl) rfl
theorem q538 : (Jvm.Cond.instanceMethod ({ cls := "IslandHeap", name := "setData", desc := "(III)I" } : Jvm.MethodName)) ∈ lw_all := lw_g (lw_at lw_m2 237 rfl) rfl
theorem q539 : (Jvm.Cond.selects "IslandHeap" ({ cls := "IslandHeap", name := "setData", desc := "(III)I" } : Jvm.MethodName) ({ cls := "IslandHeap", name := "setData", desc := "(III)I" } : Jvm.MethodName)) ∈ lw_all := lw_g (lw_at lw_m2 238 rfl) rfl
theorem q540 : (Jvm.Cond.code ({ cls := "IslandHeap", name := "setData", desc := "(III)I" } : Jvm.MethodName) prog_1_method_14_code (5 : Nat) (Option.some Jvm.ClassFile.FieldType.int)) ∈ lw_all := lw_g (lw_at lw_m2 239 rfl) rfl
theorem q541 : (Jvm.Cond.methodLink "IslandHeap" (119 : Nat) ({ cls := "IslandHeap", name := "hasData", desc := "(LIslandHeap$Thing;I)Z" } : Jvm.MethodName)) ∈ lw_all := lw_g (lw_at lw_m3 0 rfl) rfl
theorem q542 : (Jvm.Cond.privateMethod ({ cls := "IslandHeap", name := "hasData", desc := "(LIslandHeap$Thing;I)Z" } : Jvm.MethodName)) ∈ lw_tbl := lw_at lw_m3 1 rfl
theorem q543 : (Jvm.Cond.instanceMethod ({ cls := "IslandHeap", name := "hasData", desc := "(LIslandHeap$Thing;I)Z" } : Jvm.MethodName)) ∈ lw_all := lw_g (lw_at lw_m3 2 rfl) rfl
theorem q544 : (Jvm.Cond.code ({ cls := "IslandHeap", name := "hasData", desc := "(LIslandHeap$Thing;I)Z" } : Jvm.MethodName) prog_1_method_13_code (3 : Nat) (Option.some Jvm.ClassFile.FieldType.boolean)) ∈ lw_all := lw_g (lw_at lw_m3 3 rfl) rfl
theorem q545 : (Jvm.Cond.constant "IslandHeap" (122 : Nat) (-1000000 : Int32)) ∈ lw_all := lw_g (lw_at lw_m3 4 rfl) rfl
theorem q546 : (Jvm.Cond.constant "IslandHeap" (123 : Nat) (1000000 : Int32)) ∈ lw_all := lw_g (lw_at lw_m3 5 rfl) rfl
theorem q548 : (Jvm.Cond.instanceMethod ({ cls := "IslandHeap", name := "data", desc := "(II)I" } : Jvm.MethodName)) ∈ lw_all := lw_g (lw_at lw_m3 7 rfl) rfl
theorem q549 : (Jvm.Cond.selects "IslandHeap" ({ cls := "IslandHeap", name := "data", desc := "(II)I" } : Jvm.MethodName) ({ cls := "IslandHeap", name := "data", desc := "(II)I" } : Jvm.MethodName)) ∈ lw_all := lw_g (lw_at lw_m3 8 rfl) rfl
theorem q550 : (Jvm.Cond.code ({ cls := "IslandHeap", name := "data", desc := "(II)I" } : Jvm.MethodName) prog_1_method_15_code (4 : Nat) (Option.some Jvm.ClassFile.FieldType.int)) ∈ lw_all := lw_g (lw_at lw_m3 9 rfl) rfl
theorem q552 : (Jvm.Cond.instanceMethod ({ cls := "IslandHeap", name := "pin", desc := "(IZ)I" } : Jvm.MethodName)) ∈ lw_all := lw_g (lw_at lw_m3 11 rfl) rfl
theorem q553 : (Jvm.Cond.selects "IslandHeap" ({ cls := "IslandHeap", name := "pin", desc := "(IZ)I" } : Jvm.MethodName) ({ cls := "IslandHeap", name := "pin", desc := "(IZ)I" } : Jvm.MethodName)) ∈ lw_all := lw_g (lw_at lw_m3 12 rfl) rfl
theorem q554 : (Jvm.Cond.code ({ cls := "IslandHeap", name := "pin", desc := "(IZ)I" } : Jvm.MethodName) prog_1_method_16_code (4 : Nat) (Option.some Jvm.ClassFile.FieldType.int)) ∈ lw_all := lw_g (lw_at lw_m3 13 rfl) rfl
theorem q555 : (Jvm.Cond.constant "IslandHeap" (128 : Nat) (-1000003 : Int32)) ∈ lw_all := lw_g (lw_at lw_m3 14 rfl) rfl
theorem q556 : (Jvm.Cond.methodLink "IslandHeap" (129 : Nat) ({ cls := "IslandHeap$Heap", name := "pinned", desc := "()I" } : Jvm.MethodName)) ∈ lw_all := lw_g (lw_at lw_m3 15 rfl) rfl
theorem q561 : (Jvm.Cond.instanceMethod ({ cls := "IslandHeap", name := "setRoot", desc := "(II)I" } : Jvm.MethodName)) ∈ lw_all := lw_g (lw_at lw_m3 20 rfl) rfl
theorem q562 : (Jvm.Cond.selects "IslandHeap" ({ cls := "IslandHeap", name := "setRoot", desc := "(II)I" } : Jvm.MethodName) ({ cls := "IslandHeap", name := "setRoot", desc := "(II)I" } : Jvm.MethodName)) ∈ lw_all := lw_g (lw_at lw_m3 21 rfl) rfl
theorem q563 : (Jvm.Cond.code ({ cls := "IslandHeap", name := "setRoot", desc := "(II)I" } : Jvm.MethodName) prog_1_method_17_code (3 : Nat) (Option.some Jvm.ClassFile.FieldType.int)) ∈ lw_all := lw_g (lw_at lw_m3 22 rfl) rfl
theorem q565 : (Jvm.Cond.instanceMethod ({ cls := "IslandHeap", name := "root", desc := "(I)I" } : Jvm.MethodName)) ∈ lw_all := lw_g (lw_at lw_m3 24 rfl) rfl
theorem q566 : (Jvm.Cond.selects "IslandHeap" ({ cls := "IslandHeap", name := "root", desc := "(I)I" } : Jvm.MethodName) ({ cls := "IslandHeap", name := "root", desc := "(I)I" } : Jvm.MethodName)) ∈ lw_all := lw_g (lw_at lw_m3 25 rfl) rfl
theorem q567 : (Jvm.Cond.code ({ cls := "IslandHeap", name := "root", desc := "(I)I" } : Jvm.MethodName) prog_1_method_18_code (2 : Nat) (Option.some Jvm.ClassFile.FieldType.int)) ∈ lw_all := lw_g (lw_at lw_m3 26 rfl) rfl
theorem q569 : (Jvm.Cond.instanceMethod ({ cls := "IslandHeap", name := "setWeak", desc := "(II)I" } : Jvm.MethodName)) ∈ lw_all := lw_g (lw_at lw_m3 28 rfl) rfl
theorem q570 : (Jvm.Cond.selects "IslandHeap" ({ cls := "IslandHeap", name := "setWeak", desc := "(II)I" } : Jvm.MethodName) ({ cls := "IslandHeap", name := "setWeak", desc := "(II)I" } : Jvm.MethodName)) ∈ lw_all := lw_g (lw_at lw_m3 29 rfl) rfl
theorem q571 : (Jvm.Cond.code ({ cls := "IslandHeap", name := "setWeak", desc := "(II)I" } : Jvm.MethodName) prog_1_method_19_code (3 : Nat) (Option.some Jvm.ClassFile.FieldType.int)) ∈ lw_all := lw_g (lw_at lw_m3 30 rfl) rfl
theorem q573 : (Jvm.Cond.instanceMethod ({ cls := "IslandHeap", name := "weak", desc := "(I)I" } : Jvm.MethodName)) ∈ lw_all := lw_g (lw_at lw_m3 32 rfl) rfl
theorem q574 : (Jvm.Cond.selects "IslandHeap" ({ cls := "IslandHeap", name := "weak", desc := "(I)I" } : Jvm.MethodName) ({ cls := "IslandHeap", name := "weak", desc := "(I)I" } : Jvm.MethodName)) ∈ lw_all := lw_g (lw_at lw_m3 33 rfl) rfl
theorem q575 : (Jvm.Cond.code ({ cls := "IslandHeap", name := "weak", desc := "(I)I" } : Jvm.MethodName) prog_1_method_20_code (2 : Nat) (Option.some Jvm.ClassFile.FieldType.int)) ∈ lw_all := lw_g (lw_at lw_m3 34 rfl) rfl
theorem q577 : (Jvm.Cond.instanceMethod ({ cls := "IslandHeap", name := "collect", desc := "()I" } : Jvm.MethodName)) ∈ lw_all := lw_g (lw_at lw_m3 36 rfl) rfl
theorem q578 : (Jvm.Cond.selects "IslandHeap" ({ cls := "IslandHeap", name := "collect", desc := "()I" } : Jvm.MethodName) ({ cls := "IslandHeap", name := "collect", desc := "()I" } : Jvm.MethodName)) ∈ lw_all := lw_g (lw_at lw_m3 37 rfl) rfl
theorem q579 : (Jvm.Cond.code ({ cls := "IslandHeap", name := "collect", desc := "()I" } : Jvm.MethodName) prog_1_method_21_code (4 : Nat) (Option.some Jvm.ClassFile.FieldType.int)) ∈ lw_all := lw_g (lw_at lw_m3 38 rfl) rfl
theorem q580 : (Jvm.Cond.classLink "IslandHeap" (141 : Nat) "IslandHeap$Report") ∈ lw_all := lw_g (lw_at lw_m3 39 rfl) rfl
theorem q582 : (Jvm.Cond.methodLinkNest "IslandHeap" (143 : Nat) ({ cls := "IslandHeap$Report", name := "<init>", desc := "()V" } : Jvm.MethodName) "IslandHeap") ∈ lw_tbl := lw_at lw_m3 41 rfl
theorem q591 : (Jvm.Cond.fieldLinkNest "IslandHeap" (147 : Nat) "IslandHeap$Report" "scans" "I" "IslandHeap") ∈ lw_tbl := lw_at lw_m3 50 rfl
theorem q593 : (Jvm.Cond.fieldLinkNest "IslandHeap" (151 : Nat) "IslandHeap$Report" "top" "I" "IslandHeap") ∈ lw_tbl := lw_at lw_m3 52 rfl
theorem q611 : (Jvm.Cond.methodLink "IslandHeap" (152 : Nat) ({ cls := "IslandHeap$Heap", name := "slide", desc := "(LIslandHeap$Report;)I" } : Jvm.MethodName)) ∈ lw_all := lw_g (lw_at lw_m3 70 rfl) rfl
theorem q641 : (Jvm.Cond.instanceMethod ({ cls := "IslandHeap", name := "moved", desc := "(I)I" } : Jvm.MethodName)) ∈ lw_all := lw_g (lw_at lw_m3 100 rfl) rfl
theorem q642 : (Jvm.Cond.selects "IslandHeap" ({ cls := "IslandHeap", name := "moved", desc := "(I)I" } : Jvm.MethodName) ({ cls := "IslandHeap", name := "moved", desc := "(I)I" } : Jvm.MethodName)) ∈ lw_all := lw_g (lw_at lw_m3 101 rfl) rfl
theorem q643 : (Jvm.Cond.code ({ cls := "IslandHeap", name := "moved", desc := "(I)I" } : Jvm.MethodName) prog_1_method_22_code (2 : Nat) (Option.some Jvm.ClassFile.FieldType.int)) ∈ lw_all := lw_g (lw_at lw_m3 102 rfl) rfl
theorem q644 : (Jvm.Cond.methodLink "IslandHeap" (166 : Nat) ({ cls := "IslandHeap$Heap", name := "isWord", desc := "(I)Z" } : Jvm.MethodName)) ∈ lw_all := lw_g (lw_at lw_m3 103 rfl) rfl
theorem q646 : (Jvm.Cond.instanceMethod ({ cls := "IslandHeap", name := "report", desc := "(I)I" } : Jvm.MethodName)) ∈ lw_all := lw_g (lw_at lw_m3 105 rfl) rfl
theorem q647 : (Jvm.Cond.selects "IslandHeap" ({ cls := "IslandHeap", name := "report", desc := "(I)I" } : Jvm.MethodName) ({ cls := "IslandHeap", name := "report", desc := "(I)I" } : Jvm.MethodName)) ∈ lw_all := lw_g (lw_at lw_m3 106 rfl) rfl
theorem q648 : (Jvm.Cond.code ({ cls := "IslandHeap", name := "report", desc := "(I)I" } : Jvm.MethodName) prog_1_method_23_code (2 : Nat) (Option.some Jvm.ClassFile.FieldType.int)) ∈ lw_all := lw_g (lw_at lw_m3 107 rfl) rfl
theorem q649 : (Jvm.Cond.methodLink "IslandHeap" (172 : Nat) ({ cls := "IslandHeap$Report", name := "part", desc := "(I)I" } : Jvm.MethodName)) ∈ lw_all := lw_g (lw_at lw_m3 108 rfl) rfl
theorem q654 : (Jvm.Cond.instanceMethod ({ cls := "IslandHeap", name := "garbage", desc := "()I" } : Jvm.MethodName)) ∈ lw_all := lw_g (lw_at lw_m3 113 rfl) rfl
theorem q655 : (Jvm.Cond.selects "IslandHeap" ({ cls := "IslandHeap", name := "garbage", desc := "()I" } : Jvm.MethodName) ({ cls := "IslandHeap", name := "garbage", desc := "()I" } : Jvm.MethodName)) ∈ lw_all := lw_g (lw_at lw_m3 114 rfl) rfl
theorem q656 : (Jvm.Cond.code ({ cls := "IslandHeap", name := "garbage", desc := "()I" } : Jvm.MethodName) prog_1_method_25_code (1 : Nat) (Option.some Jvm.ClassFile.FieldType.int)) ∈ lw_all := lw_g (lw_at lw_m3 115 rfl) rfl
theorem q657 : (Jvm.Cond.methodLink "IslandHeap" (189 : Nat) ({ cls := "IslandHeap", name := "occupied", desc := "()I" } : Jvm.MethodName)) ∈ lw_all := lw_g (lw_at lw_m3 116 rfl) rfl
theorem q658 : (Jvm.Cond.privateMethod ({ cls := "IslandHeap", name := "occupied", desc := "()I" } : Jvm.MethodName)) ∈ lw_tbl := lw_at lw_m3 117 rfl
theorem q659 : (Jvm.Cond.instanceMethod ({ cls := "IslandHeap", name := "occupied", desc := "()I" } : Jvm.MethodName)) ∈ lw_all := lw_g (lw_at lw_m3 118 rfl) rfl
theorem q660 : (Jvm.Cond.code ({ cls := "IslandHeap", name := "occupied", desc := "()I" } : Jvm.MethodName) prog_1_method_24_code (3 : Nat) (Option.some Jvm.ClassFile.FieldType.int)) ∈ lw_all := lw_g (lw_at lw_m3 119 rfl) rfl
theorem q661 : (Jvm.Cond.methodLink "IslandHeap" (179 : Nat) ({ cls := "java/util/ArrayList", name := "size", desc := "()I" } : Jvm.MethodName)) ∈ lw_all := lw_g (lw_at lw_m3 120 rfl) rfl
theorem q662 : (Jvm.Cond.methodLink "IslandHeap" (184 : Nat) ({ cls := "java/util/ArrayList", name := "get", desc := "(I)Ljava/lang/Object;" } : Jvm.MethodName)) ∈ lw_all := lw_g (lw_at lw_m3 121 rfl) rfl
theorem q663 : (Jvm.Cond.methodLink "IslandHeap" (188 : Nat) ({ cls := "IslandHeap$Thing", name := "size", desc := "()I" } : Jvm.MethodName)) ∈ lw_all := lw_g (lw_at lw_m3 122 rfl) rfl
theorem q664 : (Jvm.Cond.methodLink "IslandHeap" (192 : Nat) ({ cls := "IslandHeap", name := "live", desc := "(LIslandHeap$Thing;)LIslandHeap$Marking;" } : Jvm.MethodName)) ∈ lw_all := lw_g (lw_at lw_m3 123 rfl) rfl
theorem q665 : (Jvm.Cond.methodLink "IslandHeap" (196 : Nat) ({ cls := "IslandHeap$Marking", name := "words", desc := "()I" } : Jvm.MethodName)) ∈ lw_all := lw_g (lw_at lw_m3 124 rfl) rfl
theorem q671 : (Jvm.Cond.instanceMethod ({ cls := "IslandHeap", name := "distance", desc := "(I)I" } : Jvm.MethodName)) ∈ lw_all := lw_g (lw_at lw_m3 130 rfl) rfl
theorem q672 : (Jvm.Cond.selects "IslandHeap" ({ cls := "IslandHeap", name := "distance", desc := "(I)I" } : Jvm.MethodName) ({ cls := "IslandHeap", name := "distance", desc := "(I)I" } : Jvm.MethodName)) ∈ lw_all := lw_g (lw_at lw_m3 131 rfl) rfl
theorem q673 : (Jvm.Cond.code ({ cls := "IslandHeap", name := "distance", desc := "(I)I" } : Jvm.MethodName) prog_1_method_26_code (3 : Nat) (Option.some Jvm.ClassFile.FieldType.int)) ∈ lw_all := lw_g (lw_at lw_m3 132 rfl) rfl
theorem q674 : (Jvm.Cond.classLink "IslandHeap" (198 : Nat) "IslandHeap$Rings") ∈ lw_all := lw_g (lw_at lw_m3 133 rfl) rfl
theorem q676 : (Jvm.Cond.methodLinkNest "IslandHeap" (200 : Nat) ({ cls := "IslandHeap$Rings", name := "<init>", desc := "(LIslandHeap;)V" } : Jvm.MethodName) "IslandHeap") ∈ lw_tbl := lw_at lw_m3 135 rfl
theorem q690 : (Jvm.Cond.methodLink "IslandHeap" (203 : Nat) ({ cls := "IslandHeap$Rings", name := "distanceOf", desc := "(LIslandHeap$Thing;)I" } : Jvm.MethodName)) ∈ lw_all := lw_g (lw_at lw_m3 149 rfl) rfl
theorem q703 : (Jvm.Cond.instanceMethod ({ cls := "IslandHeap", name := "retained", desc := "(I)I" } : Jvm.MethodName)) ∈ lw_all := lw_g (lw_at lw_m3 162 rfl) rfl
theorem q704 : (Jvm.Cond.selects "IslandHeap" ({ cls := "IslandHeap", name := "retained", desc := "(I)I" } : Jvm.MethodName) ({ cls := "IslandHeap", name := "retained", desc := "(I)I" } : Jvm.MethodName)) ∈ lw_all := lw_g (lw_at lw_m3 163 rfl) rfl
theorem q705 : (Jvm.Cond.code ({ cls := "IslandHeap", name := "retained", desc := "(I)I" } : Jvm.MethodName) prog_1_method_27_code (4 : Nat) (Option.some Jvm.ClassFile.FieldType.int)) ∈ lw_all := lw_g (lw_at lw_m3 164 rfl) rfl
theorem q707 : (Jvm.Cond.instanceMethod ({ cls := "IslandHeap", name := "free", desc := "(I)I" } : Jvm.MethodName)) ∈ lw_all := lw_g (lw_at lw_m3 166 rfl) rfl
theorem q708 : (Jvm.Cond.selects "IslandHeap" ({ cls := "IslandHeap", name := "free", desc := "(I)I" } : Jvm.MethodName) ({ cls := "IslandHeap", name := "free", desc := "(I)I" } : Jvm.MethodName)) ∈ lw_all := lw_g (lw_at lw_m3 167 rfl) rfl
theorem q709 : (Jvm.Cond.code ({ cls := "IslandHeap", name := "free", desc := "(I)I" } : Jvm.MethodName) prog_1_method_28_code (9 : Nat) (Option.some Jvm.ClassFile.FieldType.int)) ∈ lw_all := lw_g (lw_at lw_m3 168 rfl) rfl
theorem q710 : (Jvm.Cond.methodLink "IslandHeap" (210 : Nat) ({ cls := "IslandHeap$Heap", name := "firstHole", desc := "(I)I" } : Jvm.MethodName)) ∈ lw_all := lw_g (lw_at lw_m3 169 rfl) rfl
theorem q711 : (Jvm.Cond.methodLinkNest "IslandHeap" (213 : Nat) ({ cls := "IslandHeap$Heap", name := "holeEnd", desc := "(I)I" } : Jvm.MethodName) "IslandHeap") ∈ lw_tbl := lw_at lw_m3 170 rfl
theorem q712 : (Jvm.Cond.methodLink "IslandHeap" (216 : Nat) ({ cls := "java/lang/Math", name := "max", desc := "(II)I" } : Jvm.MethodName)) ∈ lw_all := lw_g (lw_at lw_m3 171 rfl) rfl
theorem q714 : (Jvm.Cond.instanceMethod ({ cls := "IslandHeap", name := "type", desc := "(I)I" } : Jvm.MethodName)) ∈ lw_all := lw_g (lw_at lw_m3 173 rfl) rfl
theorem q715 : (Jvm.Cond.selects "IslandHeap" ({ cls := "IslandHeap", name := "type", desc := "(I)I" } : Jvm.MethodName) ({ cls := "IslandHeap", name := "type", desc := "(I)I" } : Jvm.MethodName)) ∈ lw_all := lw_g (lw_at lw_m3 174 rfl) rfl
theorem q716 : (Jvm.Cond.code ({ cls := "IslandHeap", name := "type", desc := "(I)I" } : Jvm.MethodName) prog_1_method_29_code (2 : Nat) (Option.some Jvm.ClassFile.FieldType.int)) ∈ lw_all := lw_g (lw_at lw_m3 175 rfl) rfl
theorem q717 : (Jvm.Cond.constant "IslandHeap" (227 : Nat) (-1000004 : Int32)) ∈ lw_all := lw_g (lw_at lw_m3 176 rfl) rfl
theorem q719 : (Jvm.Cond.instanceMethod ({ cls := "IslandHeap", name := "clearText", desc := "()I" } : Jvm.MethodName)) ∈ lw_all := lw_g (lw_at lw_m3 178 rfl) rfl
theorem q720 : (Jvm.Cond.selects "IslandHeap" ({ cls := "IslandHeap", name := "clearText", desc := "()I" } : Jvm.MethodName) ({ cls := "IslandHeap", name := "clearText", desc := "()I" } : Jvm.MethodName)) ∈ lw_all := lw_g (lw_at lw_m3 179 rfl) rfl
theorem q721 : (Jvm.Cond.code ({ cls := "IslandHeap", name := "clearText", desc := "()I" } : Jvm.MethodName) prog_1_method_30_code (2 : Nat) (Option.some Jvm.ClassFile.FieldType.int)) ∈ lw_all := lw_g (lw_at lw_m3 180 rfl) rfl
theorem q723 : (Jvm.Cond.instanceMethod ({ cls := "IslandHeap", name := "fault", desc := "()I" } : Jvm.MethodName)) ∈ lw_all := lw_g (lw_at lw_m3 182 rfl) rfl
theorem q724 : (Jvm.Cond.selects "IslandHeap" ({ cls := "IslandHeap", name := "fault", desc := "()I" } : Jvm.MethodName) ({ cls := "IslandHeap", name := "fault", desc := "()I" } : Jvm.MethodName)) ∈ lw_all := lw_g (lw_at lw_m3 183 rfl) rfl
theorem q725 : (Jvm.Cond.codeWith ({ cls := "IslandHeap", name := "fault", desc := "()I" } : Jvm.MethodName) prog_1_method_31_code (2 : Nat) (Option.some Jvm.ClassFile.FieldType.int) [((0 : Nat), (13 : Nat), (14 : Nat), (235 : Nat))]) ∈ lw_all := lw_g (lw_at lw_m3 184 rfl) rfl
theorem q726 : (Jvm.Cond.classLink "IslandHeap" (235 : Nat) "IslandHeap$TextFault") ∈ lw_all := lw_g (lw_at lw_m3 185 rfl) rfl
theorem q727 : (Jvm.Cond.classLink "IslandHeap" (228 : Nat) "IslandHeap$ScriptReader") ∈ lw_all := lw_g (lw_at lw_m3 186 rfl) rfl
theorem q729 : (Jvm.Cond.methodLinkNest "IslandHeap" (230 : Nat) ({ cls := "IslandHeap$ScriptReader", name := "<init>", desc := "(LIslandHeap;)V" } : Jvm.MethodName) "IslandHeap") ∈ lw_tbl := lw_at lw_m3 188 rfl
theorem q745 : (Jvm.Cond.methodLink "IslandHeap" (231 : Nat) ({ cls := "IslandHeap$ScriptReader", name := "read", desc := "()Ljava/util/ArrayList;" } : Jvm.MethodName)) ∈ lw_all := lw_g (lw_at lw_m3 204 rfl) rfl
theorem q825 : (Jvm.Cond.fieldLinkNest "IslandHeap" (237 : Nat) "IslandHeap$TextFault" "index" "I" "IslandHeap") ∈ lw_tbl := lw_at lw_m4 44 rfl
theorem q933 : (Jvm.Cond.instanceMethod ({ cls := "IslandHeap", name := "run", desc := "()I" } : Jvm.MethodName)) ∈ lw_all := lw_g (lw_at lw_m4 152 rfl) rfl
theorem q934 : (Jvm.Cond.selects "IslandHeap" ({ cls := "IslandHeap", name := "run", desc := "()I" } : Jvm.MethodName) ({ cls := "IslandHeap", name := "run", desc := "()I" } : Jvm.MethodName)) ∈ lw_all := lw_g (lw_at lw_m4 153 rfl) rfl
theorem q935 : (Jvm.Cond.codeWith ({ cls := "IslandHeap", name := "run", desc := "()I" } : Jvm.MethodName) prog_1_method_33_code (4 : Nat) (Option.some Jvm.ClassFile.FieldType.int) [((0 : Nat), (12 : Nat), (15 : Nat), (235 : Nat))]) ∈ lw_all := lw_g (lw_at lw_m4 154 rfl) rfl
theorem q936 : (Jvm.Cond.classLink "IslandHeap" (240 : Nat) "IslandHeap$Command") ∈ lw_all := lw_g (lw_at lw_m4 155 rfl) rfl
theorem q937 : (Jvm.Cond.interfaceEntry "IslandHeap" (242 : Nat)) ∈ lw_tbl := lw_at lw_m4 156 rfl
theorem q938 : (Jvm.Cond.methodLink "IslandHeap" (242 : Nat) ({ cls := "IslandHeap$Command", name := "runOn", desc := "(LIslandHeap;)I" } : Jvm.MethodName)) ∈ lw_all := lw_g (lw_at lw_m4 157 rfl) rfl
theorem q983 : (Jvm.Cond.methodLink "IslandHeap" (246 : Nat) ({ cls := "IslandHeap", name := "isError", desc := "(I)Z" } : Jvm.MethodName)) ∈ lw_all := lw_g (lw_at lw_m4 202 rfl) rfl
theorem q984 : (Jvm.Cond.static ({ cls := "IslandHeap", name := "isError", desc := "(I)Z" } : Jvm.MethodName)) ∈ lw_all := lw_g (lw_at lw_m4 203 rfl) rfl
theorem q985 : (Jvm.Cond.code ({ cls := "IslandHeap", name := "isError", desc := "(I)Z" } : Jvm.MethodName) prog_1_method_32_code (1 : Nat) (Option.some Jvm.ClassFile.FieldType.boolean)) ∈ lw_all := lw_g (lw_at lw_m4 204 rfl) rfl
theorem q987 : (Jvm.Cond.instanceMethod ({ cls := "IslandHeap", name := "refusal", desc := "()I" } : Jvm.MethodName)) ∈ lw_all := lw_g (lw_at lw_m4 206 rfl) rfl
theorem q988 : (Jvm.Cond.selects "IslandHeap" ({ cls := "IslandHeap", name := "refusal", desc := "()I" } : Jvm.MethodName) ({ cls := "IslandHeap", name := "refusal", desc := "()I" } : Jvm.MethodName)) ∈ lw_all := lw_g (lw_at lw_m4 207 rfl) rfl
theorem q989 : (Jvm.Cond.code ({ cls := "IslandHeap", name := "refusal", desc := "()I" } : Jvm.MethodName) prog_1_method_34_code (1 : Nat) (Option.some Jvm.ClassFile.FieldType.int)) ∈ lw_all := lw_g (lw_at lw_m4 208 rfl) rfl
theorem q991 : (Jvm.Cond.instanceMethod ({ cls := "IslandHeap", name := "save", desc := "(I)I" } : Jvm.MethodName)) ∈ lw_all := lw_g (lw_at lw_m4 210 rfl) rfl
theorem q992 : (Jvm.Cond.selects "IslandHeap" ({ cls := "IslandHeap", name := "save", desc := "(I)I" } : Jvm.MethodName) ({ cls := "IslandHeap", name := "save", desc := "(I)I" } : Jvm.MethodName)) ∈ lw_all := lw_g (lw_at lw_m4 211 rfl) rfl
theorem q993 : (Jvm.Cond.code ({ cls := "IslandHeap", name := "save", desc := "(I)I" } : Jvm.MethodName) prog_1_method_35_code (2 : Nat) (Option.some Jvm.ClassFile.FieldType.int)) ∈ lw_all := lw_g (lw_at lw_m4 212 rfl) rfl
theorem q994 : (Jvm.Cond.methodLink "IslandHeap" (249 : Nat) ({ cls := "IslandHeap$Heap", name := "<init>", desc := "(LIslandHeap$Heap;)V" } : Jvm.MethodName)) ∈ lw_all := lw_g (lw_at lw_m4 213 rfl) rfl
theorem q1008 : (Jvm.Cond.instanceMethod ({ cls := "IslandHeap", name := "restore", desc := "(I)I" } : Jvm.MethodName)) ∈ lw_all := lw_g (lw_at lw_m4 227 rfl) rfl
theorem q1009 : (Jvm.Cond.selects "IslandHeap" ({ cls := "IslandHeap", name := "restore", desc := "(I)I" } : Jvm.MethodName) ({ cls := "IslandHeap", name := "restore", desc := "(I)I" } : Jvm.MethodName)) ∈ lw_all := lw_g (lw_at lw_m4 228 rfl) rfl
theorem q1010 : (Jvm.Cond.code ({ cls := "IslandHeap", name := "restore", desc := "(I)I" } : Jvm.MethodName) prog_1_method_36_code (2 : Nat) (Option.some Jvm.ClassFile.FieldType.int)) ∈ lw_all := lw_g (lw_at lw_m4 229 rfl) rfl
theorem q1012 : (Jvm.Cond.instanceMethod ({ cls := "IslandHeap", name := "count", desc := "(I)I" } : Jvm.MethodName)) ∈ lw_all := lw_g (lw_at lw_m4 231 rfl) rfl
theorem q1013 : (Jvm.Cond.selects "IslandHeap" ({ cls := "IslandHeap", name := "count", desc := "(I)I" } : Jvm.MethodName) ({ cls := "IslandHeap", name := "count", desc := "(I)I" } : Jvm.MethodName)) ∈ lw_all := lw_g (lw_at lw_m4 232 rfl) rfl
theorem q1014 : (Jvm.Cond.code ({ cls := "IslandHeap", name := "count", desc := "(I)I" } : Jvm.MethodName) prog_1_method_37_code (2 : Nat) (Option.some Jvm.ClassFile.FieldType.int)) ∈ lw_all := lw_g (lw_at lw_m4 233 rfl) rfl
theorem q1016 : (Jvm.Cond.instanceMethod ({ cls := "IslandHeap", name := "digest", desc := "()J" } : Jvm.MethodName)) ∈ lw_all := lw_g (lw_at lw_m4 235 rfl) rfl
theorem q1017 : (Jvm.Cond.selects "IslandHeap" ({ cls := "IslandHeap", name := "digest", desc := "()J" } : Jvm.MethodName) ({ cls := "IslandHeap", name := "digest", desc := "()J" } : Jvm.MethodName)) ∈ lw_all := lw_g (lw_at lw_m4 236 rfl) rfl
theorem q1018 : (Jvm.Cond.code ({ cls := "IslandHeap", name := "digest", desc := "()J" } : Jvm.MethodName) prog_1_method_41_code (2 : Nat) (Option.some Jvm.ClassFile.FieldType.long)) ∈ lw_all := lw_g (lw_at lw_m4 237 rfl) rfl
theorem q1019 : (Jvm.Cond.constantLong "IslandHeap" (275 : Nat) (47 : Int64)) ∈ lw_all := lw_g (lw_at lw_m4 238 rfl) rfl
theorem q1020 : (Jvm.Cond.methodLink "IslandHeap" (277 : Nat) ({ cls := "IslandHeap", name := "count", desc := "(I)I" } : Jvm.MethodName)) ∈ lw_all := lw_g (lw_at lw_m4 239 rfl) rfl
theorem q1021 : (Jvm.Cond.methodLink "IslandHeap" (261 : Nat) ({ cls := "IslandHeap", name := "mix", desc := "(J)V" } : Jvm.MethodName)) ∈ lw_all := lw_g (lw_at lw_m5 0 rfl) rfl
theorem q1022 : (Jvm.Cond.privateMethod ({ cls := "IslandHeap", name := "mix", desc := "(J)V" } : Jvm.MethodName)) ∈ lw_tbl := lw_at lw_m5 1 rfl
theorem q1023 : (Jvm.Cond.instanceMethod ({ cls := "IslandHeap", name := "mix", desc := "(J)V" } : Jvm.MethodName)) ∈ lw_all := lw_g (lw_at lw_m5 2 rfl) rfl
theorem q1024 : (Jvm.Cond.code ({ cls := "IslandHeap", name := "mix", desc := "(J)V" } : Jvm.MethodName) prog_1_method_38_code (3 : Nat) (Option.none : Option Jvm.ClassFile.FieldType)) ∈ lw_all := lw_g (lw_at lw_m5 3 rfl) rfl
theorem q1025 : (Jvm.Cond.constantLong "IslandHeap" (255 : Nat) (31 : Int64)) ∈ lw_all := lw_g (lw_at lw_m5 4 rfl) rfl
theorem q1026 : (Jvm.Cond.methodLink "IslandHeap" (271 : Nat) ({ cls := "IslandHeap", name := "mixRow", desc := "([I)V" } : Jvm.MethodName)) ∈ lw_all := lw_g (lw_at lw_m5 5 rfl) rfl
theorem q1027 : (Jvm.Cond.privateMethod ({ cls := "IslandHeap", name := "mixRow", desc := "([I)V" } : Jvm.MethodName)) ∈ lw_tbl := lw_at lw_m5 6 rfl
theorem q1028 : (Jvm.Cond.instanceMethod ({ cls := "IslandHeap", name := "mixRow", desc := "([I)V" } : Jvm.MethodName)) ∈ lw_all := lw_g (lw_at lw_m5 7 rfl) rfl
theorem q1029 : (Jvm.Cond.code ({ cls := "IslandHeap", name := "mixRow", desc := "([I)V" } : Jvm.MethodName) prog_1_method_39_code (6 : Nat) (Option.none : Option Jvm.ClassFile.FieldType)) ∈ lw_all := lw_g (lw_at lw_m5 8 rfl) rfl
theorem q1030 : (Jvm.Cond.methodLink "IslandHeap" (280 : Nat) ({ cls := "IslandHeap", name := "mixThing", desc := "(LIslandHeap$Thing;)V" } : Jvm.MethodName)) ∈ lw_all := lw_g (lw_at lw_m5 9 rfl) rfl
theorem q1031 : (Jvm.Cond.privateMethod ({ cls := "IslandHeap", name := "mixThing", desc := "(LIslandHeap$Thing;)V" } : Jvm.MethodName)) ∈ lw_tbl := lw_at lw_m5 10 rfl
theorem q1032 : (Jvm.Cond.instanceMethod ({ cls := "IslandHeap", name := "mixThing", desc := "(LIslandHeap$Thing;)V" } : Jvm.MethodName)) ∈ lw_all := lw_g (lw_at lw_m5 11 rfl) rfl
theorem q1033 : (Jvm.Cond.code ({ cls := "IslandHeap", name := "mixThing", desc := "(LIslandHeap$Thing;)V" } : Jvm.MethodName) prog_1_method_40_code (3 : Nat) (Option.none : Option Jvm.ClassFile.FieldType)) ∈ lw_all := lw_g (lw_at lw_m5 12 rfl) rfl
theorem q1034 : (Jvm.Cond.methodLink "IslandHeap" (268 : Nat) ({ cls := "IslandHeap", name := "object", desc := "(II)I" } : Jvm.MethodName)) ∈ lw_all := lw_g (lw_at lw_m5 13 rfl) rfl
theorem q1035 : (Jvm.Cond.methodLink "IslandHeap" (284 : Nat) ({ cls := "IslandHeap", name := "free", desc := "(I)I" } : Jvm.MethodName)) ∈ lw_all := lw_g (lw_at lw_m5 14 rfl) rfl
theorem q1036 : (Jvm.Cond.methodLink "IslandHeap" (287 : Nat) ({ cls := "IslandHeap", name := "report", desc := "(I)I" } : Jvm.MethodName)) ∈ lw_all := lw_g (lw_at lw_m5 15 rfl) rfl
theorem q1355 : (Jvm.Cond.castable "IslandHeap" "java/lang/Object") ∈ lw_tbl := lw_at lw_m6 94 rfl
theorem in_X0 : ∀ w ∈ wsX00, w ∈ lw_all := lw_in wsX00 [196, 198, 200, 202, 204, 206, 208] (by decide +kernel) (by decide +kernel)
